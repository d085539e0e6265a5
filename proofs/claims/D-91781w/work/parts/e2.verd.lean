theorem chN_st0 {κ : Int → Int} {c x m : Int} (h : 1 ≤ κ (1732 + 2 * c) ∧ κ (1732 + 2 * c) < 2 ^ m.toNat) {t : Nat} (ht : m ≤ t) : ∀ q : Nat, chN κ c x (t + q) = chN κ c x t
  | 0 => rfl
  | q + 1 => by
    rw [show t + (q + 1) = t + q + 1 by omega, chN]
    by_cases z : κ (1732 + 2 * c) / 2 ^ (t + q) % 2 = 0
    · rw [if_pos z]
      exact chN_st0 h ht q
    · have := tlt (t := ((t + q : Nat) : Int)) h (by omega) z
      omega
theorem chN_st {κ : Int → Int} {c x m t : Int} (h : 1 ≤ κ (1732 + 2 * c) ∧ κ (1732 + 2 * c) < 2 ^ m.toNat) (ht : 0 ≤ t ∧ m ≤ t) (h12 : t ≤ 12) : chN κ c x 12 = chN κ c x t.toNat := by
  have e := chN_st0 (x := x) h (t := t.toNat) (by omega) (12 - t.toNat)
  rw [show t.toNat + (12 - t.toNat) = 12 by omega] at e
  exact e
theorem kd_X0_verdicts : yX0_verdicts.cls = RX0 ∧ yX0_verdicts.cls ≠ "java/lang/invoke/MethodHandle" ∧ yX0_verdicts.cls ≠ "java/lang/invoke/VarHandle" ∧ (parseMethodDescriptor yX0_verdicts.desc).map (fun d => d.parameters.length) = some 2 := by decide +kernel
set_option maxHeartbeats 4000000 in
theorem xm_X0_verdicts (l : Launch) (G : MG) (M : Hp) (σ : St) (x : XGh) (ω : XCt) (x_ : Int) (ar : Nat) (a : Nat) (c_ : Int) (y_ : Nat) (sz : Nat) (hR : RX G M a σ x ω) (hc0 : 0 ≤ c_ ∧ c_ < σ 2 1757) (hx0 : 0 ≤ x_ ∧ x_ < σ 2 1756) (tI : TextAt G 200 (gI x) y_ (tm (σ 2) x_)) (fa0 : gI x y_ = some (oB 19 [.ref ar])) (hI : KI (σ 2)) (hT : TT (σ 2)) : Met l yX0_verdicts (ws_ yX0_verdicts cX0_verdicts 8 (some .long)) (rmX 209 1 10) (xP G XN [.ref a, .int (iI c_), .ref y_] M sz) (xQl G (DA M sz) (fun z M' => z = tuT (σ 2) c_ x_ ∧ ∃ x' ω', RX G M' a σ x' ω' ∧ gl ω' = huT (σ 2) c_)) 1 10 (DA M sz) := by
  refine x_start (by decide) (Nat.le_of_ble_eq_true rfl) ?_
  intro p e s m below meth c ⟨S, hr, hlk, hH, hK, hXN, hsz, hnm⟩ ls hl
  subst hsz
  obtain ⟨hx, hb, hml, hown, hts⟩ := S
  have S : CallFix p m c _ _ s _ lw_all RX0 := ⟨hx, hb, hml, hown, hts⟩
  have hA : ∀ q, s.heap.size ≤ q → DA M s.heap.size q := fun q hq => Or.inr hq
  have hl : lv_has ls 8 [(0, .ref a), (1, .int (iI c_)), (2, .ref y_)] := hl
  have b0 := hI.c
  unfold kCnt at b0
  have hu := hI.u c_ hc0.1 hc0.2
  have hon := onesN_r (σ 2 (1732 + 2 * c_)) 12
  have hur : σ 2 (1732 + 2 * c_) < 4096 := by
    have := pow_r b0.2.2.2.2.2.1.1 b0.2.2.2.2.2.1.2
    omega
  refine n_bipush (z := 10) hx hb dX0_verdicts_0 (by decide) ?_
  refine x_newa (atype := .long) 3 (10, .inr (.inl (fun (j : Nat) => lI ((fun (_ : Int) => (0 : Int)) (j : Int))))) hx hb hts rfl q1407 hK hH hA rfl (fun _ => rfl) (by decide) (by decide) (by decide) (Nat.le_of_ble_eq_true rfl) (Nat.le_of_ble_eq_true rfl) dX0_verdicts_2 (fun q1 H hq1 hH => ?_)
  obtain ⟨M1, e_M1⟩ : ∃ M1, M1 = hs M q1 (aL (G.2.1 3) 10 (fun (_ : Int) => (0 : Int))) := ⟨_, rfl⟩
  have hH := XV_to hH e_M1.symm
  have f1 : M1 q1 = some (aL (G.2.1 3) 10 (fun (_ : Int) => (0 : Int))) := by rw [e_M1]; exact hs_s
  have hR2 : RX G M1 a σ (xw x q1 1) ω := by rw [e_M1]; exact hR.al hq1 1
  have hw2_q1 : gw (xw x q1 1) q1 = 1 := xw_s
  refine lv_astore_n hx hb dX0_verdicts_4 rfl hl (Nat.le_of_ble_eq_true rfl) (lv' := [(3, .ref q1), (0, .ref a), (1, .int (iI c_)), (2, .ref y_)]) rfl (fun ls hl => ?_)
  refine lv_aload_n hx hb dX0_verdicts_5 rfl (lv_at hl 0 rfl) ?_
  refine n_iconst hx hb dX0_verdicts_6 ?_
  refine n_lconst (z := 1) hx hb dX0_verdicts_7 (by decide) ?_
  refine x_last hx hb hK hH f1 (by omega) (by omega) (Nat.le_of_ble_eq_true rfl) dX0_verdicts_8 (fun H locs hH => ?_)
  obtain ⟨M3, e_M3⟩ : ∃ M3, M3 = hs M1 q1 (aL (G.2.1 3) 10 (up (fun (_ : Int) => (0 : Int)) 0 1)) := ⟨_, rfl⟩
  have hH := XV_to hH e_M3.symm
  have f3 : M3 q1 = some (aL (G.2.1 3) 10 (up (fun (_ : Int) => (0 : Int)) 0 1)) := by rw [e_M3]; exact hs_s
  have hR4 : RX G M3 a σ (xw x q1 1) ω := by rw [e_M3]; exact hR2.tmp hw2_q1
  refine lv_aload_n hx hb dX0_verdicts_9 rfl (lv_at hl 1 rfl) ?_
  refine n_lconst (z := 1) hx hb dX0_verdicts_10 (by decide) ?_
  refine x_put (ty := .long) hx hb hts in_X0 tyX0 tyX0_ok nmX0 hown hK hH hR4.o rfl 12 (by decide) q353 (fun _ h9 => h9) rfl (by decide +kernel) rfl rfl (Nat.le_of_ble_eq_true rfl) (by decide) dX0_verdicts_11 (fun H locs hH => ?_)
  obtain ⟨M5, e_M5⟩ : ∃ M5, M5 = hs M3 a (oB 1 [.ref (gb x 0 0), .ref (gp x 1), .ref (gp x 2), .int (iI (σ 0 0)), .ref (gp x 4), .ref (gp x 5), .int (iI (σ 9 0)), .ref (gp x 7), .int (iI (σ 10 0)), .ref (gp x 9), .ref (gp x 10), .ref (gp x 11), .long (lI 1)]) := ⟨_, rfl⟩
  have hH := XV_to hH e_M5.symm
  have f5 : M5 a = some (oB 1 [.ref (gb x 0 0), .ref (gp x 1), .ref (gp x 2), .int (iI (σ 0 0)), .ref (gp x 4), .ref (gp x 5), .int (iI (σ 9 0)), .ref (gp x 7), .int (iI (σ 10 0)), .ref (gp x 9), .ref (gp x 10), .ref (gp x 11), .long (lI 1)]) := by rw [e_M5]; exact hs_s
  obtain ⟨ω6, hR6, hL6⟩ : ∃ ω6, RX G M5 a σ (xw x q1 1) ω6 ∧ gl ω6 = 1 := ⟨_, by rw [e_M5]; exact hR4.low (v := 1), rfl⟩
  have f7 : M5 q1 = some (aL (G.2.1 3) 10 (up (fun (_ : Int) => (0 : Int)) 0 1)) := by rw [e_M5]; exact (hs_n (neW hw2_q1 (show gw (xw x q1 1) a = 100 + 0 by rw [hR4.1]; exact hR4.wp (by decide)) (by decide))).trans f3
  have L20 : ∀ (q : Nat) (N1 : Hp) (ωp : XCt) (A : Int → Int) (t : Int), (hRp : RX G N1 a σ (xw x q1 1) ωp) → (hQ : N1 q1 = some (aL (G.2.1 3) 10 A)) → (hAc : ∀ k, 0 ≤ k → k < 10 → A k = (chN (σ 2) c_ x_ t.toNat).2 k) → (hL : gl ωp = 100 ^ (chN (σ 2) c_ x_ t.toNat).1.toNat) → (t0 : 0 ≤ t) → (t1 : t ≤ σ 2 1755) → (hq : σ 2 1755 < (q : Int) + t) → ∀ (H : Heap) (locs : List Loc) (ls : Array Slot), XV G (DA M s.heap.size) N1 s.heap H locs → lv_has ls 8 [(0, .ref a), (1, .int (iI c_)), (2, .ref y_), (3, .ref q1), (4, .int (iI ((chN (σ 2) c_ x_ t.toNat).1))), (5, .int (iI t))] → W p l e (rmX 209 1 10) s m ([.ref a, .int (iI c_), .ref y_] : List Value).toArray below meth c H locs (1) (10) (MQ below (xQl G (DA M s.heap.size) (fun z M' => z = tuT (σ 2) c_ x_ ∧ ∃ x' ω', RX G M' a σ x' ω' ∧ gl ω' = huT (σ 2) c_)) ([.ref a, .int (iI c_), .ref y_] : List Value).toArray s 1 10 (DA M s.heap.size)) (F0 m 20 ls []) := by
    intro q
    induction q with
    | zero => intro N1 ωp A t hRp hQ hAc hL t0 t1 hq; exfalso; omega
    | succ q ih_20 =>
      intro N1 ωp A t hRp hQ hAc hL t0 t1 hq H locs ls hH hl
      have hcm := chN_m (κ := σ 2) (c := c_) (x := x_) t.toNat
      have hcr := chN_r (κ := σ 2) (c := c_) (x := x_) t.toNat
      have hce := chN_e (κ := σ 2) (c := c_) (x := x_) t0
      have hot := oT_r (σ 2) x_ t
      have hmo := onesN_m (σ 2 (1732 + 2 * c_)) (12 - t.toNat) t.toNat
      rw [show t.toNat + (12 - t.toNat) = 12 by omega] at hmo
      refine lv_iload hx hb dX0_verdicts_20 (lv_at hl 5 rfl) ?_
      refine lv_aload_n hx hb dX0_verdicts_22 rfl (lv_at hl 0 rfl) ?_
      refine x_get hx hb hts in_X0 hown hK hH hRp.o rfl 0 (by decide) q339 (fun _ h9 => h9) rfl (by decide) dX0_verdicts_23 ?_
      refine x_getN hx hb hts in_X1 hown hK hH hRp.b0 rfl 4 (by decide) hXN q170 (fun _ h9 => h9) rfl (by decide) dX0_verdicts_26 ?_
      refine n_icmp_ge (tgt := 139) hx hb (r32 (by omega)) (r32 (by omega)) dX0_verdicts_29 (by decide) (fun c_29 => ?_) (fun c_29 => ?_)
      · -- 29T
        have hD : (chN (σ 2) c_ x_ 12) = (chN (σ 2) c_ x_ t.toNat) := chN_st (m := σ 2 1755) hu.1 ⟨by omega, by omega⟩ (by omega)
        have hcd := chN_m (κ := σ 2) (c := c_) (x := x_) 12
        rw [hD] at hcd
        have L153 : ∀ (q3 : Nat) (j : Int), (j0 : σ 2 (1732 + 2 * c_ + 1) ≤ j) → (j1 : j ≤ (chN (σ 2) c_ x_ t.toNat).1 + 1) → (hq3 : (chN (σ 2) c_ x_ t.toNat).1 + 1 < (q3 : Int) + j) → ∀ (H : Heap) (locs : List Loc) (ls : Array Slot), XV G (DA M s.heap.size) N1 s.heap H locs → lv_has ls 8 [(0, .ref a), (1, .int (iI c_)), (2, .ref y_), (3, .ref q1), (4, .int (iI ((chN (σ 2) c_ x_ t.toNat).1))), (5, .long (lI (pfS (chN (σ 2) c_ x_ 12).2 j.toNat - pfS (chN (σ 2) c_ x_ 12).2 (σ 2 (1732 + 2 * c_ + 1)).toNat))), (7, .int (iI j))] → W p l e (rmX 209 1 10) s m ([.ref a, .int (iI c_), .ref y_] : List Value).toArray below meth c H locs (1) (10) (MQ below (xQl G (DA M s.heap.size) (fun z M' => z = tuT (σ 2) c_ x_ ∧ ∃ x' ω', RX G M' a σ x' ω' ∧ gl ω' = huT (σ 2) c_)) ([.ref a, .int (iI c_), .ref y_] : List Value).toArray s 1 10 (DA M s.heap.size)) (F0 m 153 ls []) := by
          intro q3
          induction q3 with
          | zero => intro j j0 j1 hq3; exfalso; omega
          | succ q3 ih_153 =>
            intro j j0 j1 hq3 H locs ls hH hl
            have hpe := pfS_e (A := (chN (σ 2) c_ x_ 12).2) (k := j) (by omega)
            refine lv_iload hx hb dX0_verdicts_153 (lv_at hl 6 rfl) ?_
            refine lv_iload hx hb dX0_verdicts_155 (lv_at hl 4 rfl) ?_
            refine n_icmp_gt (tgt := 175) hx hb (r32 (by omega)) (r32 (by omega)) dX0_verdicts_157 (by decide) (fun c_157 => ?_) (fun c_157 => ?_)
            · -- 157T
              refine lv_lload hx hb dX0_verdicts_175 (lv_at hl 5 rfl) ?_
              refine W.widen (k := 1) (n := 10) (by omega) (by omega) ?_
              refine x_lret hx hb hr hlk hH dX0_verdicts_177 ?_
              refine ⟨?_, _, _, hRp, ?_⟩
              · unfold tuT
                rw [show (onesN (σ 2 (1732 + 2 * c_)) 12 + 1).toNat = j.toNat by omega]
              · rw [hL]
                unfold huT
                rw [hcd]
            · -- 157F
              refine lv_lload hx hb dX0_verdicts_160 (lv_at hl 5 rfl) ?_
              refine lv_aload_n hx hb dX0_verdicts_162 rfl (lv_at hl 3 rfl) ?_
              refine lv_iload hx hb dX0_verdicts_163 (lv_at hl 6 rfl) ?_
              refine x_lald hx hb hK hH hQ (by omega) (by omega) (Nat.le_of_ble_eq_true rfl) dX0_verdicts_165 ?_
              refine W.eq (g2 := F0 m 166 ls (.long (lI ((chN (σ 2) c_ x_ 12).2 j)) :: .long (lI (pfS (chN (σ 2) c_ x_ 12).2 j.toNat - pfS (chN (σ 2) c_ x_ 12).2 (σ 2 (1732 + 2 * c_ + 1)).toNat)) :: [])) (by rw [hAc j (by omega) (by omega), hD]) ?_
              refine n_ladd hx hb dX0_verdicts_166 ?_
              refine lv_lstore hx hb dX0_verdicts_167 hl (Nat.le_of_ble_eq_true rfl) (lv' := [(5, .long (lI ((pfS (chN (σ 2) c_ x_ 12).2 j.toNat - pfS (chN (σ 2) c_ x_ 12).2 (σ 2 (1732 + 2 * c_ + 1)).toNat) + ((chN (σ 2) c_ x_ 12).2 j)))), (0, .ref a), (1, .int (iI c_)), (2, .ref y_), (3, .ref q1), (4, .int (iI ((chN (σ 2) c_ x_ t.toNat).1))), (7, .int (iI j))]) rfl (fun ls hl => ?_)
              refine n_iinc hx hb dX0_verdicts_169 hl (k := 6) rfl (Nat.le_of_ble_eq_true rfl) (lv' := [(7, .int (iI (j + 1))), (5, .long (lI ((pfS (chN (σ 2) c_ x_ 12).2 j.toNat - pfS (chN (σ 2) c_ x_ 12).2 (σ 2 (1732 + 2 * c_ + 1)).toNat) + ((chN (σ 2) c_ x_ 12).2 j)))), (0, .ref a), (1, .int (iI c_)), (2, .ref y_), (3, .ref q1), (4, .int (iI ((chN (σ 2) c_ x_ t.toNat).1)))]) rfl (fun ls hl => ?_)
              refine lv_goto (tgt := 153) hx hb dX0_verdicts_172 (by decide) ?_
              have hl : lv_has ls 8 [(0, .ref a), (1, .int (iI c_)), (2, .ref y_), (3, .ref q1), (4, .int (iI ((chN (σ 2) c_ x_ t.toNat).1))), (5, .long (lI ((pfS (chN (σ 2) c_ x_ 12).2 j.toNat - pfS (chN (σ 2) c_ x_ 12).2 (σ 2 (1732 + 2 * c_ + 1)).toNat) + ((chN (σ 2) c_ x_ 12).2 j)))), (7, .int (iI (j + 1)))] := lv_sub hl [2, 3, 4, 5, 6, 1, 0] rfl
              have hl : lv_has ls 8 [(0, .ref a), (1, .int (iI c_)), (2, .ref y_), (3, .ref q1), (4, .int (iI ((chN (σ 2) c_ x_ t.toNat).1))), (5, .long (lI (pfS (chN (σ 2) c_ x_ 12).2 (j + 1).toNat - pfS (chN (σ 2) c_ x_ 12).2 (σ 2 (1732 + 2 * c_ + 1)).toNat))), (7, .int (iI (j + 1)))] := by rw [hpe, show pfS (chN (σ 2) c_ x_ 12).2 j.toNat + (chN (σ 2) c_ x_ 12).2 j - pfS (chN (σ 2) c_ x_ 12).2 (σ 2 (1732 + 2 * c_ + 1)).toNat = pfS (chN (σ 2) c_ x_ 12).2 j.toNat - pfS (chN (σ 2) c_ x_ 12).2 (σ 2 (1732 + 2 * c_ + 1)).toNat + (chN (σ 2) c_ x_ 12).2 j by omega]; exact hl
              refine W.widen (k := 1) (n := 10) (by omega) (by omega) ?_
              refine ih_153 (j + 1) ?_ ?_ ?_ _ _ _ hH hl
              · omega
              · omega
              · omega
        refine n_lconst (z := 0) hx hb dX0_verdicts_139 (by decide) ?_
        refine lv_lstore hx hb dX0_verdicts_140 hl (Nat.le_of_ble_eq_true rfl) (lv' := [(5, .long (lI 0)), (0, .ref a), (1, .int (iI c_)), (2, .ref y_), (3, .ref q1), (4, .int (iI ((chN (σ 2) c_ x_ t.toNat).1)))]) rfl (fun ls hl => ?_)
        refine lv_aload_n hx hb dX0_verdicts_142 rfl (lv_at hl 1 rfl) ?_
        refine x_get hx hb hts in_X0 hown hK hH hRp.o rfl 0 (by decide) q339 (fun _ h9 => h9) rfl (by decide) dX0_verdicts_143 ?_
        refine x_getN hx hb hts in_X1 hown hK hH hRp.b0 rfl 14 (by decide) hXN q190 (fun _ h9 => h9) rfl (by decide) dX0_verdicts_146 ?_
        refine lv_iload_n hx hb dX0_verdicts_149 rfl (lv_at hl 2 rfl) ?_
        refine x_iald hx hb hK hH hRp.b14 (by omega) (by omega) (Nat.le_of_ble_eq_true rfl) dX0_verdicts_150 ?_
        refine W.eq (g2 := F0 m 151 ls (.int (iI (σ 2 (1732 + 2 * (c_) + 1))) :: [])) (by first | (rw [(hRp.z.1 _ (by omega) (by omega)).2]; done) | (rw [(hRp.z.1 _ (by omega) (by omega)).2]; rfl)) ?_
        refine lv_istore hx hb dX0_verdicts_151 hl (Nat.le_of_ble_eq_true rfl) (lv' := [(7, .int (iI (σ 2 (1732 + 2 * (c_) + 1)))), (5, .long (lI 0)), (0, .ref a), (1, .int (iI c_)), (2, .ref y_), (3, .ref q1), (4, .int (iI ((chN (σ 2) c_ x_ t.toNat).1)))]) rfl (fun ls hl => ?_)
        have hl : lv_has ls 8 [(0, .ref a), (1, .int (iI c_)), (2, .ref y_), (3, .ref q1), (4, .int (iI ((chN (σ 2) c_ x_ t.toNat).1))), (5, .long (lI 0)), (7, .int (iI (σ 2 (1732 + 2 * (c_) + 1))))] := lv_sub hl [2, 3, 4, 5, 6, 1, 0] rfl
        have hl : lv_has ls 8 [(0, .ref a), (1, .int (iI c_)), (2, .ref y_), (3, .ref q1), (4, .int (iI ((chN (σ 2) c_ x_ t.toNat).1))), (5, .long (lI (pfS (chN (σ 2) c_ x_ 12).2 (σ 2 (1732 + 2 * c_ + 1)).toNat - pfS (chN (σ 2) c_ x_ 12).2 (σ 2 (1732 + 2 * c_ + 1)).toNat))), (7, .int (iI (σ 2 (1732 + 2 * (c_) + 1))))] := by rw [Int.sub_self]; exact hl
        refine W.widen (k := 1) (n := 10) (by omega) (by omega) ?_
        refine L153 15 (σ 2 (1732 + 2 * (c_) + 1)) ?_ ?_ ?_ _ _ _ hH hl
        · omega
        · omega
        · omega
      · -- 29F
        refine lv_aload_n hx hb dX0_verdicts_32 rfl (lv_at hl 0 rfl) ?_
        refine x_get hx hb hts in_X0 hown hK hH hRp.o rfl 0 (by decide) q339 (fun _ h9 => h9) rfl (by decide) dX0_verdicts_33 ?_
        refine x_getN hx hb hts in_X1 hown hK hH hRp.b0 rfl 13 (by decide) hXN q188 (fun _ h9 => h9) rfl (by decide) dX0_verdicts_36 ?_
        refine lv_iload_n hx hb dX0_verdicts_39 rfl (lv_at hl 1 rfl) ?_
        refine x_iald hx hb hK hH hRp.b13 (by omega) (by omega) (Nat.le_of_ble_eq_true rfl) dX0_verdicts_40 ?_
        refine W.eq (g2 := F0 m 41 ls (.int (iI (σ 2 (1732 + 2 * (c_)))) :: [])) (by first | (rw [(hRp.z.1 _ (by omega) (by omega)).1]; done) | (rw [(hRp.z.1 _ (by omega) (by omega)).1]; rfl)) ?_
        refine lv_iload hx hb dX0_verdicts_41 (lv_at hl 5 rfl) ?_
        refine n_ishr hx hb (r32 (by omega)) (by omega) (by omega) dX0_verdicts_43 ?_
        refine n_iconst hx hb dX0_verdicts_44 ?_
        refine n_and1 hx hb dX0_verdicts_45 ?_
        refine n_if_ne (tgt := 52) hx hb (r32 (by omega)) dX0_verdicts_46 (by decide) (fun c_46 => ?_) (fun c_46 => ?_)
        · -- 46T
          have hm9 : (chN (σ 2) c_ x_ t.toNat).1 + 1 ≤ 9 := by
            have h1 := onesN_m (σ 2 (1732 + 2 * c_)) (12 - (t.toNat + 1)) (t.toNat + 1)
            rw [show t.toNat + 1 + (12 - (t.toNat + 1)) = 12 by omega, onesN] at h1
            omega
          refine lv_aload_n hx hb dX0_verdicts_52 rfl (lv_at hl 2 rfl) ?_
          refine lv_aload_n hx hb dX0_verdicts_53 rfl (lv_at hl 0 rfl) ?_
          refine x_get hx hb hts in_X0 hown hK hH hRp.o rfl 0 (by decide) q339 (fun _ h9 => h9) rfl (by decide) dX0_verdicts_54 ?_
          refine x_getN hx hb hts in_X1 hown hK hH hRp.b0 rfl 11 (by decide) hXN q184 (fun _ h9 => h9) rfl (by decide) dX0_verdicts_57 ?_
          refine lv_iload hx hb dX0_verdicts_60 (lv_at hl 5 rfl) ?_
          obtain ⟨y8, n8, w8, u8, g8, k8, e8⟩ := hRp.trial (i := t) (by omega) (by omega)
          refine x_aald hx hb hK hH 8 hRp.b11 rfl (by omega) (by omega) (Nat.le_of_ble_eq_true rfl) (v := some y8) u8 dX0_verdicts_62 ?_
          refine x_calliF (x_runV (As := [.ref y8]) (rest := []) S hH hK (fun _ _ hW => XN.warm hW hXN) XN_b hl.1 (hRp.sub _ _ fa0) rfl (r_odds (x := x_) (k := t) hI ⟨by omega, by omega⟩ g8 k8 e8 (TextAt_up hRp.sub tI)) (lw_V q1229 q1170 q1171 q135 q1172) kd_X22_odds rfl rfl dX0_verdicts_63 (hf := ⟨by dsimp only [rmX]; omega, by dsimp only [rmX]; omega⟩)) hH hA (fun H locs hH => ?_)
          refine lv_istore hx hb dX0_verdicts_66 hl (Nat.le_of_ble_eq_true rfl) (lv' := [(6, .int (iI (oT (σ 2) x_ t))), (0, .ref a), (1, .int (iI c_)), (2, .ref y_), (3, .ref q1), (4, .int (iI ((chN (σ 2) c_ x_ t.toNat).1))), (5, .int (iI t))]) rfl (fun ls hl => ?_)
          refine n_iinc hx hb dX0_verdicts_68 hl (k := 5) rfl (Nat.le_of_ble_eq_true rfl) (lv' := [(4, .int (iI (((chN (σ 2) c_ x_ t.toNat).1) + 1))), (6, .int (iI (oT (σ 2) x_ t))), (0, .ref a), (1, .int (iI c_)), (2, .ref y_), (3, .ref q1), (5, .int (iI t))]) rfl (fun ls hl => ?_)
          refine lv_aload_n hx hb dX0_verdicts_71 rfl (lv_at hl 2 rfl) ?_
          refine lv_dup hx hb dX0_verdicts_72 rfl ?_
          refine x_get hx hb hts in_X0 hown hK hH hRp.o rfl 12 (by decide) q353 (fun _ h9 => h9) rfl (by decide) dX0_verdicts_73 ?_
          refine lv_ldc2 (v := lI 100) hx hb hown (hts _ q391) dX0_verdicts_76 ?_
          refine n_lmul hx hb dX0_verdicts_79 ?_
          refine W.eq (g2 := F0 m 80 ls (.long (lI (100 ^ ((chN (σ 2) c_ x_ t.toNat).1 + 1).toNat)) :: .ref a :: [])) (by rw [hL, p100_e hcr.1]) ?_
          refine x_put (ty := .long) hx hb hts in_X0 tyX0 tyX0_ok nmX0 hown hK hH hRp.o rfl 12 (by decide) q353 (fun _ h9 => h9) rfl (by decide +kernel) rfl rfl (Nat.le_of_ble_eq_true rfl) (by decide) dX0_verdicts_80 (fun H locs hH => ?_)
          obtain ⟨M9, e_M9⟩ : ∃ M9, M9 = hs N1 a (oB 1 [.ref (gb x 0 0), .ref (gp x 1), .ref (gp x 2), .int (iI (σ 0 0)), .ref (gp x 4), .ref (gp x 5), .int (iI (σ 9 0)), .ref (gp x 7), .int (iI (σ 10 0)), .ref (gp x 9), .ref (gp x 10), .ref (gp x 11), .long (lI (100 ^ ((chN (σ 2) c_ x_ t.toNat).1 + 1).toNat))]) := ⟨_, rfl⟩
          have hH := XV_to hH e_M9.symm
          have f9 : M9 a = some (oB 1 [.ref (gb x 0 0), .ref (gp x 1), .ref (gp x 2), .int (iI (σ 0 0)), .ref (gp x 4), .ref (gp x 5), .int (iI (σ 9 0)), .ref (gp x 7), .int (iI (σ 10 0)), .ref (gp x 9), .ref (gp x 10), .ref (gp x 11), .long (lI (100 ^ ((chN (σ 2) c_ x_ t.toNat).1 + 1).toNat))]) := by rw [e_M9]; exact hs_s
          obtain ⟨ω10, hR10, hL10⟩ : ∃ ω10, RX G M9 a σ (xw x q1 1) ω10 ∧ gl ω10 = (100 ^ ((chN (σ 2) c_ x_ t.toNat).1 + 1).toNat) := ⟨_, by rw [e_M9]; exact hRp.low (v := (100 ^ ((chN (σ 2) c_ x_ t.toNat).1 + 1).toNat)), rfl⟩
          have f11 : M9 q1 = some (aL (G.2.1 3) 10 A) := by rw [e_M9]; exact (hs_n (neW hw2_q1 (show gw (xw x q1 1) a = 100 + 0 by rw [hRp.1]; exact hRp.wp (by decide)) (by decide))).trans hQ
          obtain ⟨ωr, hωr⟩ : ∃ ωr, ωr = ω10 := ⟨_, rfl⟩
          have hL2 : gl ωr = 100 ^ ((chN (σ 2) c_ x_ t.toNat).1 + 1).toNat := by rw [hωr]; exact hL10
          have L87 : ∀ (q2 : Nat) (N2 : Hp) (B : Int → Int) (j : Int), (hRr : RX G N2 a σ (xw x q1 1) ωr) → (hQ2 : N2 q1 = some (aL (G.2.1 3) 10 B)) → (hB2 : ∀ k, 0 ≤ k → k < 10 → B k = if j < k ∧ k ≤ (chN (σ 2) c_ x_ t.toNat).1 + 1 then (A k * (100 - oT (σ 2) x_ t) + (if 0 < k then A (k - 1) * oT (σ 2) x_ t else 0)) else A k) → (j0 : -1 ≤ j) → (j1 : j ≤ (chN (σ 2) c_ x_ t.toNat).1 + 1) → (hq2 : j + 1 < (q2 : Int)) → ∀ (H : Heap) (locs : List Loc) (ls : Array Slot), XV G (DA M s.heap.size) N2 s.heap H locs → lv_has ls 8 [(0, .ref a), (1, .int (iI c_)), (2, .ref y_), (3, .ref q1), (4, .int (iI ((chN (σ 2) c_ x_ t.toNat).1 + 1))), (5, .int (iI t)), (6, .int (iI (oT (σ 2) x_ t))), (7, .int (iI j))] → W p l e (rmX 209 1 10) s m ([.ref a, .int (iI c_), .ref y_] : List Value).toArray below meth c H locs (1) (10) (MQ below (xQl G (DA M s.heap.size) (fun z M' => z = tuT (σ 2) c_ x_ ∧ ∃ x' ω', RX G M' a σ x' ω' ∧ gl ω' = huT (σ 2) c_)) ([.ref a, .int (iI c_), .ref y_] : List Value).toArray s 1 10 (DA M s.heap.size)) (F0 m 87 ls []) := by
            intro q2
            induction q2 with
            | zero => intro N2 B j hRr hQ2 hB2 j0 j1 hq2; exfalso; omega
            | succ q2 ih_87 =>
              intro N2 B j hRr hQ2 hB2 j0 j1 hq2 H locs ls hH hl
              refine lv_iload hx hb dX0_verdicts_87 (lv_at hl 7 rfl) ?_
              refine n_if_lt (tgt := 133) hx hb (r32 (by omega)) dX0_verdicts_89 (by decide) (fun c_89 => ?_) (fun c_89 => ?_)
              · -- 89T
                refine n_iinc hx hb dX0_verdicts_133 hl (k := 5) rfl (Nat.le_of_ble_eq_true rfl) (lv' := [(5, .int (iI (t + 1))), (0, .ref a), (1, .int (iI c_)), (2, .ref y_), (3, .ref q1), (4, .int (iI ((chN (σ 2) c_ x_ t.toNat).1 + 1))), (6, .int (iI (oT (σ 2) x_ t))), (7, .int (iI j))]) rfl (fun ls hl => ?_)
                refine lv_goto (tgt := 20) hx hb dX0_verdicts_136 (by decide) ?_
                have hl : lv_has ls 8 [(0, .ref a), (1, .int (iI c_)), (2, .ref y_), (3, .ref q1), (4, .int (iI ((chN (σ 2) c_ x_ t.toNat).1 + 1))), (5, .int (iI (t + 1)))] := lv_sub hl [1, 2, 3, 4, 5, 0] rfl
                have hl : lv_has ls 8 [(0, .ref a), (1, .int (iI c_)), (2, .ref y_), (3, .ref q1), (4, .int (iI ((chN (σ 2) c_ x_ (t + 1).toNat).1))), (5, .int (iI (t + 1)))] := by rw [hce, if_neg c_46]; exact hl
                refine W.widen (k := 1) (n := 10) (by omega) (by omega) ?_
                refine ih_20 N2 ωr B (t + 1) ?_ ?_ ?_ ?_ ?_ ?_ ?_ _ _ _ hH hl
                · exact hRr
                · exact hQ2
                · rw [hce, if_neg c_46]
                  intro k k0 k1
                  rw [hB2 k k0 k1]
                  by_cases z : j < k ∧ k ≤ (chN (σ 2) c_ x_ t.toNat).1 + 1
                  · rw [if_pos z, hAc k k0 k1]
                    show _ = (chN (σ 2) c_ x_ t.toNat).2 k * (100 - oT (σ 2) x_ t) + (if 0 < k then (chN (σ 2) c_ x_ t.toNat).2 (k - 1) * oT (σ 2) x_ t else 0)
                    by_cases y : 0 < k
                    · rw [if_pos y, if_pos y, hAc (k - 1) (by omega) (by omega)]
                    · rw [if_neg y, if_neg y]
                  · rw [if_neg z, hAc k k0 k1]
                    show _ = (chN (σ 2) c_ x_ t.toNat).2 k * (100 - oT (σ 2) x_ t) + (if 0 < k then (chN (σ 2) c_ x_ t.toNat).2 (k - 1) * oT (σ 2) x_ t else 0)
                    rw [if_pos (by omega), hcr.2.2.1 k (by omega), hcr.2.2.1 (k - 1) (by omega), Int.zero_mul, Int.zero_mul]
                    rfl
                · rw [hce, if_neg c_46]; exact hL2
                · omega
                · omega
                · omega
              · -- 89F
                refine lv_aload_n hx hb dX0_verdicts_92 rfl (lv_at hl 3 rfl) ?_
                refine lv_iload hx hb dX0_verdicts_93 (lv_at hl 7 rfl) ?_
                refine lv_aload_n hx hb dX0_verdicts_95 rfl (lv_at hl 3 rfl) ?_
                refine lv_iload hx hb dX0_verdicts_96 (lv_at hl 7 rfl) ?_
                refine x_lald hx hb hK hH hQ2 (by omega) (by omega) (Nat.le_of_ble_eq_true rfl) dX0_verdicts_98 ?_
                refine n_bipush (z := 100) hx hb dX0_verdicts_99 (by decide) ?_
                refine lv_iload hx hb dX0_verdicts_101 (lv_at hl 6 rfl) ?_
                refine n_isub hx hb dX0_verdicts_103 ?_
                refine n_i2l hx hb (r32 (by omega)) dX0_verdicts_104 ?_
                refine n_lmul hx hb dX0_verdicts_105 ?_
                refine lv_iload hx hb dX0_verdicts_106 (lv_at hl 7 rfl) ?_
                refine n_if_le (tgt := 124) hx hb (r32 (by omega)) dX0_verdicts_108 (by decide) (fun c_108 => ?_) (fun c_108 => ?_)
                · -- 108T
                  refine n_lconst (z := 0) hx hb dX0_verdicts_124 (by decide) ?_
                  refine n_ladd hx hb dX0_verdicts_125 ?_
                  refine x_last hx hb hK hH hQ2 (by omega) (by omega) (Nat.le_of_ble_eq_true rfl) dX0_verdicts_126 (fun H locs hH => ?_)
                  obtain ⟨M12, e_M12⟩ : ∃ M12, M12 = hs N2 q1 (aL (G.2.1 3) 10 (up B j (((B j) * (100 - (oT (σ 2) x_ t))) + 0))) := ⟨_, rfl⟩
                  have hH := XV_to hH e_M12.symm
                  have f12 : M12 q1 = some (aL (G.2.1 3) 10 (up B j (((B j) * (100 - (oT (σ 2) x_ t))) + 0))) := by rw [e_M12]; exact hs_s
                  have hR13 : RX G M12 a σ (xw x q1 1) ωr := by rw [e_M12]; exact hRr.tmp hw2_q1
                  refine n_iinc hx hb dX0_verdicts_127 hl (k := 7) rfl (Nat.le_of_ble_eq_true rfl) (lv' := [(7, .int (iI (j + (-1)))), (0, .ref a), (1, .int (iI c_)), (2, .ref y_), (3, .ref q1), (4, .int (iI ((chN (σ 2) c_ x_ t.toNat).1 + 1))), (5, .int (iI t)), (6, .int (iI (oT (σ 2) x_ t)))]) rfl (fun ls hl => ?_)
                  refine lv_goto (tgt := 87) hx hb dX0_verdicts_130 (by decide) ?_
                  have hl : lv_has ls 8 [(0, .ref a), (1, .int (iI c_)), (2, .ref y_), (3, .ref q1), (4, .int (iI ((chN (σ 2) c_ x_ t.toNat).1 + 1))), (5, .int (iI t)), (6, .int (iI (oT (σ 2) x_ t))), (7, .int (iI (j + (-1))))] := lv_sub hl [1, 2, 3, 4, 5, 6, 7, 0] rfl
                  refine W.widen (k := 1) (n := 10) (by omega) (by omega) ?_
                  refine ih_87 M12 (up B j (((B j) * (100 - (oT (σ 2) x_ t))) + 0)) (j + (-1)) ?_ ?_ ?_ ?_ ?_ ?_ _ _ _ hH hl
                  · exact hR13
                  · assumption
                  · intro k k0 k1
                    by_cases z : k = j
                    · subst z
                      have e1 : B k = A k := by rw [hB2 k k0 k1, if_neg (by omega)]
                      have e2 : 0 < k → B (k - 1) = A (k - 1) := fun y => by rw [hB2 (k - 1) (by omega) (by omega), if_neg (by omega)]
                      rw [up_s, if_pos (And.intro (by omega) (by omega)), e1]
                      first
                      | (rw [if_pos (by omega), e2 (by omega)]; done)
                      | (rw [if_neg (by omega)]; done)
                    · rw [up_n z, hB2 k k0 k1]
                      by_cases y : j < k ∧ k ≤ (chN (σ 2) c_ x_ t.toNat).1 + 1
                      · rw [if_pos y, if_pos (And.intro (by omega) y.2)]
                      · rw [if_neg y, if_neg (by omega)]
                  · omega
                  · omega
                  · omega
                · -- 108F
                  refine lv_aload_n hx hb dX0_verdicts_111 rfl (lv_at hl 3 rfl) ?_
                  refine lv_iload hx hb dX0_verdicts_112 (lv_at hl 7 rfl) ?_
                  refine n_iconst hx hb dX0_verdicts_114 ?_
                  refine n_isub hx hb dX0_verdicts_115 ?_
                  refine x_lald hx hb hK hH hQ2 (by omega) (by omega) (Nat.le_of_ble_eq_true rfl) dX0_verdicts_116 ?_
                  refine lv_iload hx hb dX0_verdicts_117 (lv_at hl 6 rfl) ?_
                  refine n_i2l hx hb (r32 (by omega)) dX0_verdicts_119 ?_
                  refine n_lmul hx hb dX0_verdicts_120 ?_
                  refine lv_goto (tgt := 125) hx hb dX0_verdicts_121 (by decide) ?_
                  refine n_ladd hx hb dX0_verdicts_125 ?_
                  refine x_last hx hb hK hH hQ2 (by omega) (by omega) (Nat.le_of_ble_eq_true rfl) dX0_verdicts_126 (fun H locs hH => ?_)
                  obtain ⟨M14, e_M14⟩ : ∃ M14, M14 = hs N2 q1 (aL (G.2.1 3) 10 (up B j (((B j) * (100 - (oT (σ 2) x_ t))) + ((B (j - 1)) * (oT (σ 2) x_ t))))) := ⟨_, rfl⟩
                  have hH := XV_to hH e_M14.symm
                  have f14 : M14 q1 = some (aL (G.2.1 3) 10 (up B j (((B j) * (100 - (oT (σ 2) x_ t))) + ((B (j - 1)) * (oT (σ 2) x_ t))))) := by rw [e_M14]; exact hs_s
                  have hR15 : RX G M14 a σ (xw x q1 1) ωr := by rw [e_M14]; exact hRr.tmp hw2_q1
                  refine n_iinc hx hb dX0_verdicts_127 hl (k := 7) rfl (Nat.le_of_ble_eq_true rfl) (lv' := [(7, .int (iI (j + (-1)))), (0, .ref a), (1, .int (iI c_)), (2, .ref y_), (3, .ref q1), (4, .int (iI ((chN (σ 2) c_ x_ t.toNat).1 + 1))), (5, .int (iI t)), (6, .int (iI (oT (σ 2) x_ t)))]) rfl (fun ls hl => ?_)
                  refine lv_goto (tgt := 87) hx hb dX0_verdicts_130 (by decide) ?_
                  have hl : lv_has ls 8 [(0, .ref a), (1, .int (iI c_)), (2, .ref y_), (3, .ref q1), (4, .int (iI ((chN (σ 2) c_ x_ t.toNat).1 + 1))), (5, .int (iI t)), (6, .int (iI (oT (σ 2) x_ t))), (7, .int (iI (j + (-1))))] := lv_sub hl [1, 2, 3, 4, 5, 6, 7, 0] rfl
                  refine W.widen (k := 1) (n := 10) (by omega) (by omega) ?_
                  refine ih_87 M14 (up B j (((B j) * (100 - (oT (σ 2) x_ t))) + ((B (j - 1)) * (oT (σ 2) x_ t)))) (j + (-1)) ?_ ?_ ?_ ?_ ?_ ?_ _ _ _ hH hl
                  · exact hR15
                  · assumption
                  · intro k k0 k1
                    by_cases z : k = j
                    · subst z
                      have e1 : B k = A k := by rw [hB2 k k0 k1, if_neg (by omega)]
                      have e2 : 0 < k → B (k - 1) = A (k - 1) := fun y => by rw [hB2 (k - 1) (by omega) (by omega), if_neg (by omega)]
                      rw [up_s, if_pos (And.intro (by omega) (by omega)), e1]
                      first
                      | (rw [if_pos (by omega), e2 (by omega)]; done)
                      | (rw [if_neg (by omega)]; done)
                    · rw [up_n z, hB2 k k0 k1]
                      by_cases y : j < k ∧ k ≤ (chN (σ 2) c_ x_ t.toNat).1 + 1
                      · rw [if_pos y, if_pos (And.intro (by omega) y.2)]
                      · rw [if_neg y, if_neg (by omega)]
                  · omega
                  · omega
                  · omega
          refine lv_iload hx hb dX0_verdicts_83 (lv_at hl 0 rfl) ?_
          refine lv_istore hx hb dX0_verdicts_85 hl (Nat.le_of_ble_eq_true rfl) (lv' := [(7, .int (iI (((chN (σ 2) c_ x_ t.toNat).1) + 1))), (4, .int (iI (((chN (σ 2) c_ x_ t.toNat).1) + 1))), (6, .int (iI (oT (σ 2) x_ t))), (0, .ref a), (1, .int (iI c_)), (2, .ref y_), (3, .ref q1), (5, .int (iI t))]) rfl (fun ls hl => ?_)
          have hl : lv_has ls 8 [(0, .ref a), (1, .int (iI c_)), (2, .ref y_), (3, .ref q1), (4, .int (iI (((chN (σ 2) c_ x_ t.toNat).1) + 1))), (5, .int (iI t)), (6, .int (iI (oT (σ 2) x_ t))), (7, .int (iI (((chN (σ 2) c_ x_ t.toNat).1) + 1)))] := lv_sub hl [3, 4, 5, 6, 1, 7, 2, 0] rfl
          refine W.widen (k := 1) (n := 10) (by omega) (by omega) ?_
          refine L87 12 M9 A (((chN (σ 2) c_ x_ t.toNat).1) + 1) ?_ ?_ ?_ ?_ ?_ ?_ _ _ _ hH hl
          · rw [hωr]; exact hR10
          · assumption
          · intro k k0 k1
            rw [if_neg (by omega)]
          · omega
          · omega
          · omega
        · -- 46F
          refine lv_goto (tgt := 133) hx hb dX0_verdicts_49 (by decide) ?_
          refine n_iinc hx hb dX0_verdicts_133 hl (k := 5) rfl (Nat.le_of_ble_eq_true rfl) (lv' := [(5, .int (iI (t + 1))), (0, .ref a), (1, .int (iI c_)), (2, .ref y_), (3, .ref q1), (4, .int (iI ((chN (σ 2) c_ x_ t.toNat).1)))]) rfl (fun ls hl => ?_)
          refine lv_goto (tgt := 20) hx hb dX0_verdicts_136 (by decide) ?_
          have hl : lv_has ls 8 [(0, .ref a), (1, .int (iI c_)), (2, .ref y_), (3, .ref q1), (4, .int (iI ((chN (σ 2) c_ x_ t.toNat).1))), (5, .int (iI (t + 1)))] := lv_sub hl [1, 2, 3, 4, 5, 0] rfl
          have hl : lv_has ls 8 [(0, .ref a), (1, .int (iI c_)), (2, .ref y_), (3, .ref q1), (4, .int (iI ((chN (σ 2) c_ x_ (t + 1).toNat).1))), (5, .int (iI (t + 1)))] := by rw [hce, if_pos c_46]; exact hl
          refine W.widen (k := 1) (n := 10) (by omega) (by omega) ?_
          refine ih_20 N1 ωp A (t + 1) ?_ ?_ ?_ ?_ ?_ ?_ ?_ _ _ _ hH hl
          · exact hRp
          · exact hQ
          · rw [hce, if_pos c_46]; exact hAc
          · rw [hce, if_pos c_46]; exact hL
          · omega
          · omega
          · omega
  refine n_iconst hx hb dX0_verdicts_14 ?_
  refine lv_istore hx hb dX0_verdicts_15 hl (Nat.le_of_ble_eq_true rfl) (lv' := [(4, .int (iI 0)), (3, .ref q1), (0, .ref a), (1, .int (iI c_)), (2, .ref y_)]) rfl (fun ls hl => ?_)
  refine n_iconst hx hb dX0_verdicts_17 ?_
  refine lv_istore hx hb dX0_verdicts_18 hl (Nat.le_of_ble_eq_true rfl) (lv' := [(5, .int (iI 0)), (4, .int (iI 0)), (3, .ref q1), (0, .ref a), (1, .int (iI c_)), (2, .ref y_)]) rfl (fun ls hl => ?_)
  have hl : lv_has ls 8 [(0, .ref a), (1, .int (iI c_)), (2, .ref y_), (3, .ref q1), (4, .int (iI 0)), (5, .int (iI 0))] := lv_sub hl [3, 4, 5, 2, 1, 0] rfl
  have hl : lv_has ls 8 [(0, .ref a), (1, .int (iI c_)), (2, .ref y_), (3, .ref q1), (4, .int (iI ((chN (σ 2) c_ x_ (0 : Int).toNat).1))), (5, .int (iI 0))] := by exact hl
  refine W.widen (k := 1) (n := 10) (by omega) (by omega) ?_
  refine L20 20 M5 ω6 (up (fun (_ : Int) => (0 : Int)) 0 1) 0 ?_ ?_ ?_ ?_ ?_ ?_ ?_ _ _ _ hH hl
  · exact hR6
  · assumption
  · intro k k0 k1
    rfl
  · exact hL6
  · omega
  · omega
  · omega
