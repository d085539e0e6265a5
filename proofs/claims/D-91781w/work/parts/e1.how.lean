theorem how_odds {l : Launch} {G : MG} {M : Hp} {κ : Int → Int} {x a b k : Int} {y p n sz : Nat} {f : Int → Int} (hI : KI κ) (ha : 0 ≤ a ∧ a < κ 1754) (hb : 0 ≤ b ∧ b < κ 1754) (hT : TextAt G 200 M y (tm κ x)) (h1 : M p = some (oB 3 [.ref n, .int (iI 0)])) (h2 : M n = some (aI (G.2.1 0) 9 f)) (h3 : ∀ j, 0 ≤ j → j < 9 → f j = up (loA κ a) k (loA κ b k) j) : Met l yX22_odds (ws_ yX22_odds cX22_odds 8 (some .int)) (rmD 206) (xP G XN [.ref y, .ref p] M sz) (xQi G (DA M sz) (fun z M' => z = odd (tm κ x) (up (loA κ a) k (loA κ b k)) ∧ M' = M)) 0 0 (DA M sz) := by
  rw [← odd_loc (tm_loc κ x) h3]
  exact t_odds l G M 200 _ 3 n 0 f y p sz hT ⟨h1, Or.inl rfl, h2, caseOK_cf (caseL_k hI ha hb) h3⟩
theorem kd_X0_how : yX0_how.cls = RX0 ∧ yX0_how.cls ≠ "java/lang/invoke/MethodHandle" ∧ yX0_how.cls ≠ "java/lang/invoke/VarHandle" ∧ (parseMethodDescriptor yX0_how.desc).map (fun d => d.parameters.length) = some 3 := by decide +kernel
theorem xm_X0_how (l : Launch) (G : MG) (M : Hp) (σ : St) (x : XGh) (ω : XCt) (a : Nat) (x_ : Int) (a_ : Int) (b_ : Int) (sz : Nat) (hR : RX G M a σ x ω) (h_x_ : R32 x_) (h_a_ : R32 a_) (h_b_ : R32 b_) (hI : KI (σ 2)) (hT : TT (σ 2)) : Met l yX0_how (ws_ yX0_how cX0_how 7 (some .int)) (rmD 210) (xP G XN [.ref a, .int (iI x_), .int (iI a_), .int (iI b_)] M sz) (xQi G (DA M sz) (fun z M' => z = howF (σ 2) x_ a_ b_ ∧ ∃ ω', RX G M' a σ x ω')) 0 0 (DA M sz) := by
  refine x_start (by decide) (Nat.le_of_ble_eq_true rfl) ?_
  intro p e s m below meth c ⟨S, hr, hlk, hH, hK, hXN, hsz, hnm⟩ ls hl
  subst hsz
  obtain ⟨hx, hb, hml, hown, hts⟩ := S
  have S : CallFix p m c _ _ s _ lw_all RX0 := ⟨hx, hb, hml, hown, hts⟩
  have hA : ∀ q, s.heap.size ≤ q → DA M s.heap.size q := fun q hq => Or.inr hq
  have hl : lv_has ls 7 [(0, .ref a), (1, .int (iI x_)), (2, .int (iI a_)), (3, .int (iI b_))] := hl
  have b0 := hI.c
  unfold kCnt at b0
  have h_x_ := R32.n h_x_
  have h_a_ := R32.n h_a_
  have h_b_ := R32.n h_b_
  refine lv_aload_n hx hb dX0_how_0 rfl (lv_at hl 0 rfl) ?_
  refine lv_iload_n hx hb dX0_how_1 rfl (lv_at hl 1 rfl) ?_
  refine x_calliF (x_runV (As := [.int (iI x_)]) (rest := []) S hH hK (fun _ _ hW => XN.warm hW hXN) XN_b hl.1 hR.o rfl (xm_X0_isText l G M σ x ω a x_ _ hR (r32 (by omega)) (by omega) (by omega)) (lw_V q1161 q1163 qs32 q105 q1164) kd_X0_isText rfl rfl dX0_how_2) hH hA (fun H locs hH => ?_)
  refine z_if_eq (tgt := 24) hx hb dX0_how_5 (by decide) (fun c_5 => ?_) (fun c_5 => ?_)
  · -- 5T
    refine n_iconst hx hb dX0_how_24 ?_
    refine x_iret hx hb hr hlk hH dX0_how_25 ?_
    refine ⟨?_, _, hR⟩
    unfold howF isX isK
    rw [if_neg (by omega)]
  · -- 5F
    refine lv_aload_n hx hb dX0_how_8 rfl (lv_at hl 0 rfl) ?_
    refine lv_iload_n hx hb dX0_how_9 rfl (lv_at hl 2 rfl) ?_
    refine x_calliF (x_runV (As := [.int (iI a_)]) (rest := []) S hH hK (fun _ _ hW => XN.warm hW hXN) XN_b hl.1 hR.o rfl (xm_X0_isLook l G M σ x ω a a_ _ hR (r32 (by omega)) (by omega) (by omega)) (lw_V q790 q792 qs10 q105 q793) kd_X0_isLook rfl rfl dX0_how_10) hH hA (fun H locs hH => ?_)
    refine z_if_eq (tgt := 24) hx hb dX0_how_13 (by decide) (fun c_13 => ?_) (fun c_13 => ?_)
    · -- 13T
      refine n_iconst hx hb dX0_how_24 ?_
      refine x_iret hx hb hr hlk hH dX0_how_25 ?_
      refine ⟨?_, _, hR⟩
      unfold howF isX isK
      rw [if_neg (by omega)]
    · -- 13F
      refine lv_aload_n hx hb dX0_how_16 rfl (lv_at hl 0 rfl) ?_
      refine lv_iload_n hx hb dX0_how_17 rfl (lv_at hl 3 rfl) ?_
      refine x_calliF (x_runV (As := [.int (iI b_)]) (rest := []) S hH hK (fun _ _ hW => XN.warm hW hXN) XN_b hl.1 hR.o rfl (xm_X0_isLook l G M σ x ω a b_ _ hR (r32 (by omega)) (by omega) (by omega)) (lw_V q790 q792 qs10 q105 q793) kd_X0_isLook rfl rfl dX0_how_18) hH hA (fun H locs hH => ?_)
      refine z_if_ne (tgt := 26) hx hb dX0_how_21 (by decide) (fun c_21 => ?_) (fun c_21 => ?_)
      · -- 21T
        refine lv_aload_n hx hb dX0_how_26 rfl (lv_at hl 0 rfl) ?_
        refine x_get hx hb hts in_X0 hown hK hH hR.o rfl 0 (by decide) q339 (fun _ h9 => h9) rfl (by decide) dX0_how_27 ?_
        refine x_getN hx hb hts in_X1 hown hK hH hR.b0 rfl 12 (by decide) hXN q186 (fun _ h9 => h9) rfl (by decide) dX0_how_30 ?_
        refine lv_iload_n hx hb dX0_how_33 rfl (lv_at hl 1 rfl) ?_
        obtain ⟨y_, uy, tI⟩ := hR.ben.2.1.2.2.2.2.1 x_ (by omega) (by omega)
        obtain ⟨ar, k_, F, fa0, -⟩ := id tI
        refine x_aald hx hb hK hH 9 hR.b12 rfl (by omega) (by omega) (Nat.le_of_ble_eq_true rfl) (v := some y_) uy dX0_how_34 ?_
        have L77 : ∀ (q : Nat) (N1 : Hp) (ωp : XCt) (k : Int), (hRp : RX G N1 a σ x ωp) → (hg : isX (σ 2) x_ ∧ isK (σ 2) a_ ∧ isK (σ 2) b_) → (hne : ¬ odd (tm (σ 2) x_) (loA (σ 2) a_) = odd (tm (σ 2) x_) (loA (σ 2) b_)) → (k0 : 0 ≤ k) → (k1 : k ≤ 9) → (hq : 9 < (q : Int) + k) → (he : hwN (σ 2) x_ a_ b_ (odd (tm (σ 2) x_) (loA (σ 2) b_)) 9 0 = hwN (σ 2) x_ a_ b_ (odd (tm (σ 2) x_) (loA (σ 2) b_)) (9 - k).toNat k) → ∀ (H : Heap) (locs : List Loc) (ls : Array Slot), XV G (DA M s.heap.size) N1 s.heap H locs → lv_has ls 7 [(0, .ref a), (1, .int (iI x_)), (2, .int (iI a_)), (3, .int (iI b_)), (4, .ref y_), (5, .int (iI (odd (tm (σ 2) x_) (loA (σ 2) b_)))), (6, .int (iI k))] → W p l e (rmD 210) s m ([.ref a, .int (iI x_), .int (iI a_), .int (iI b_)] : List Value).toArray below meth c H locs 0 0 (MQ below (xQi G (DA M s.heap.size) (fun z M' => z = howF (σ 2) x_ a_ b_ ∧ ∃ ω', RX G M' a σ x ω')) ([.ref a, .int (iI x_), .int (iI a_), .int (iI b_)] : List Value).toArray s 0 0 (DA M s.heap.size)) (F0 m 77 ls []) := by
          intro q
          induction q with
          | zero => intro N1 ωp k hRp hg hne k0 k1 hq he; exfalso; omega
          | succ q ih_77 =>
            intro N1 ωp k hRp hg hne k0 k1 hq he H locs ls hH hl
            have hoa := odd_r (tm (σ 2) x_) (loA (σ 2) a_)
            have hob := odd_r (tm (σ 2) x_) (loA (σ 2) b_)
            have hoc := odd_r (tm (σ 2) x_) (up (loA (σ 2) a_) k (loA (σ 2) b_ k))
            refine lv_iload hx hb dX0_how_77 (lv_at hl 6 rfl) ?_
            refine n_bipush (z := 9) hx hb dX0_how_79 (by decide) ?_
            refine n_icmp_ge (tgt := 148) hx hb (r32 (by omega)) (r32 (by omega)) dX0_how_81 (by decide) (fun c_81 => ?_) (fun c_81 => ?_)
            · -- 81T
              refine n_iconst hx hb dX0_how_148 ?_
              refine x_iret hx hb hr hlk hH dX0_how_149 ?_
              refine ⟨?_, _, hRp⟩
              unfold howF
              rw [if_pos hg, if_neg hne, he, show (9 - k).toNat = 0 by omega, hwN]
            · -- 81F
              refine lv_aload_n hx hb dX0_how_84 rfl (lv_at hl 0 rfl) ?_
              refine x_get hx hb hts in_X0 hown hK hH hRp.o rfl 11 (by decide) q352 (fun _ h9 => h9) rfl (by decide) dX0_how_85 ?_
              refine lv_aload_n hx hb dX0_how_88 rfl (lv_at hl 0 rfl) ?_
              refine x_get hx hb hts in_X0 hown hK hH hRp.o rfl 0 (by decide) q339 (fun _ h9 => h9) rfl (by decide) dX0_how_89 ?_
              refine x_getN hx hb hts in_X1 hown hK hH hRp.b0 rfl 10 (by decide) hXN q182 (fun _ h9 => h9) rfl (by decide) dX0_how_92 ?_
              refine lv_iload_n hx hb dX0_how_95 rfl (lv_at hl 2 rfl) ?_
              obtain ⟨y1, n1, w1, u1, g1, k1, e1⟩ := hRp.look (i := a_) (by omega) (by omega)
              have v1 := (hI.o a_ (by omega) (by omega)).2
              refine x_aald hx hb hK hH 7 hRp.b10 rfl (by omega) (by omega) (Nat.le_of_ble_eq_true rfl) (v := some y1) u1 dX0_how_96 ?_
              refine x_callv (x_runV (As := [.ref y1]) (rest := []) S hH hK (fun _ _ hW => XN.warm hW hXN) XN_b hl.1 hRp.p11 rfl (xm_X2_take l G N1 3 (gp x 23) 0 9 n1 (σ 2 (1224 + 10 * a_ + 9)) (gy ωp 23) w1 (gp x 11) y1 _ hRp.p11 (by decide) hRp.p23 g1 (by decide) k1) (lw_V q778 q765 q2056 q107 q766) kd_X2_take rfl rfl dX0_how_97) hH hA (fun M97_ H locs q_97 hH hz_97 => ?_)
              have e_M97_ := q_97
              have f2 : M97_ (gp x 23) = some (aI (G.2.1 0) 9 (cpZ w1 (gy ωp 23) 0 0 9)) := by rw [e_M97_]; exact hs_s
              obtain ⟨ω3, hR3, hY3, hZ3⟩ : ∃ ω3, RX G M97_ a σ x ω3 ∧ gy ω3 23 = cpZ w1 (gy ωp 23) 0 0 9 ∧ ∀ j, j ≠ 23 → gy ω3 j = gy ωp j := ⟨_, by rw [e_M97_]; exact hRp.scr (k := 23) (by decide) rfl (fun q => absurd q (by decide)), yS_s, fun j h => yS_n h⟩
              have hT0 : ∀ j, 0 ≤ j → j < 9 → gy ω3 23 j = loA (σ 2) a_ j := fun j j0 j1 => by rw [hY3, cpZ, if_pos ⟨by omega, by omega⟩, show (0 : Int) + (j - 0) = j by omega]; exact e1 j j0 j1
              refine lv_aload_n hx hb dX0_how_100 rfl (lv_at hl 0 rfl) ?_
              refine x_get hx hb hts in_X0 hown hK hH hR3.o rfl 11 (by decide) q352 (fun _ h9 => h9) rfl (by decide) dX0_how_101 ?_
              refine x_get hx hb hts in_X2 hown hK hH hR3.p11 rfl 0 (by decide) q262 (fun _ h9 => h9) rfl (by decide) dX0_how_104 ?_
              refine lv_iload hx hb dX0_how_107 (lv_at hl 6 rfl) ?_
              refine lv_aload_n hx hb dX0_how_109 rfl (lv_at hl 0 rfl) ?_
              refine x_get hx hb hts in_X0 hown hK hH hR3.o rfl 0 (by decide) q339 (fun _ h9 => h9) rfl (by decide) dX0_how_110 ?_
              refine x_getN hx hb hts in_X1 hown hK hH hR3.b0 rfl 10 (by decide) hXN q182 (fun _ h9 => h9) rfl (by decide) dX0_how_113 ?_
              refine lv_iload_n hx hb dX0_how_116 rfl (lv_at hl 3 rfl) ?_
              obtain ⟨y4, n4, w4, u4, g4, k4, e4⟩ := hR3.look (i := b_) (by omega) (by omega)
              have v4 := (hI.o b_ (by omega) (by omega)).2
              refine x_aald hx hb hK hH 7 hR3.b10 rfl (by omega) (by omega) (Nat.le_of_ble_eq_true rfl) (v := some y4) u4 dX0_how_117 ?_
              refine x_get hx hb hts in_X10 hown hK hH g4 rfl 0 (by decide) q263 (u_same (hts _ q264)) rfl (by decide) dX0_how_118 ?_
              refine lv_iload hx hb dX0_how_121 (lv_at hl 6 rfl) ?_
              refine x_iald hx hb hK hH k4 (by omega) (by omega) (Nat.le_of_ble_eq_true rfl) dX0_how_123 ?_
              refine W.eq (g2 := F0 m 124 ls (.int (iI (loA (σ 2) b_ k)) :: .int (iI k) :: .ref (gp x 23) :: [])) (by first | (rw [e4 _ (by omega) (by omega)]; done) | (rw [e4 _ (by omega) (by omega)]; rfl)) ?_
              refine x_iast hx hb hK hH hR3.p23 (by omega) (by omega) (Nat.le_of_ble_eq_true rfl) dX0_how_124 (fun H locs hH => ?_)
              obtain ⟨M5, e_M5⟩ : ∃ M5, M5 = hs M97_ (gp x 23) (aI (G.2.1 0) 9 (up (gy ω3 23) k (loA (σ 2) b_ k))) := ⟨_, rfl⟩
              have hH := XV_to hH e_M5.symm
              have f5 : M5 (gp x 23) = some (aI (G.2.1 0) 9 (up (gy ω3 23) k (loA (σ 2) b_ k))) := by rw [e_M5]; exact hs_s
              obtain ⟨ω6, hR6, hY6, hZ6⟩ : ∃ ω6, RX G M5 a σ x ω6 ∧ gy ω6 23 = up (gy ω3 23) k (loA (σ 2) b_ k) ∧ ∀ j, j ≠ 23 → gy ω6 j = gy ω3 j := ⟨_, by rw [e_M5]; exact hR3.scr (k := 23) (by decide) rfl (fun q => absurd q (by decide)), yS_s, fun j h => yS_n h⟩
              refine lv_aload hx hb dX0_how_125 (lv_at hl 4 rfl) ?_
              refine lv_aload_n hx hb dX0_how_127 rfl (lv_at hl 0 rfl) ?_
              refine x_get hx hb hts in_X0 hown hK hH hR6.o rfl 11 (by decide) q352 (fun _ h9 => h9) rfl (by decide) dX0_how_128 ?_
              refine x_calliF (x_runV (As := [.ref (gp x 11)]) (rest := []) S hH hK (fun _ _ hW => XN.warm hW hXN) XN_b hl.1 (hR6.sub _ _ fa0) rfl (how_odds (κ := σ 2) (x := x_) (a := a_) (b := b_) (k := k) hI ⟨by omega, by omega⟩ ⟨by omega, by omega⟩ (TextAt_up hR6.sub tI) hR6.p11 hR6.p23 (fun j j0 j1 => by rw [hY6]; unfold up; by_cases z : j = k <;> first | (rw [if_pos z, if_pos z]; done) | (rw [if_neg z, if_neg z]; exact hT0 j j0 j1))) (lw_V q1229 q1170 q1171 q135 q1172) kd_X22_odds rfl rfl dX0_how_131) hH hA (fun H locs hH => ?_)
              refine lv_iload hx hb dX0_how_134 (lv_at hl 5 rfl) ?_
              refine n_icmp_ne (tgt := 142) hx hb (r32 (by omega)) (r32 (by omega)) dX0_how_136 (by decide) (fun c_136 => ?_) (fun c_136 => ?_)
              · -- 136T
                refine n_iinc hx hb dX0_how_142 hl (k := 6) rfl (Nat.le_of_ble_eq_true rfl) (lv' := [(6, .int (iI (k + 1))), (0, .ref a), (1, .int (iI x_)), (2, .int (iI a_)), (3, .int (iI b_)), (4, .ref y_), (5, .int (iI (odd (tm (σ 2) x_) (loA (σ 2) b_))))]) rfl (fun ls hl => ?_)
                refine lv_goto (tgt := 77) hx hb dX0_how_145 (by decide) ?_
                have hl : lv_has ls 7 [(0, .ref a), (1, .int (iI x_)), (2, .int (iI a_)), (3, .int (iI b_)), (4, .ref y_), (5, .int (iI (odd (tm (σ 2) x_) (loA (σ 2) b_)))), (6, .int (iI (k + 1)))] := lv_sub hl [1, 2, 3, 4, 5, 6, 0] rfl
                refine ih_77 M5 ω6 (k + 1) ?_ ?_ ?_ ?_ ?_ ?_ ?_ _ _ _ hH hl
                · exact hR6
                · exact hg
                · exact hne
                · omega
                · omega
                · omega
                · rw [he, hwN_e (by omega), if_neg c_136]
              · -- 136F
                refine lv_iload hx hb dX0_how_139 (lv_at hl 6 rfl) ?_
                refine x_iret hx hb hr hlk hH dX0_how_141 ?_
                refine ⟨?_, _, hR6⟩
                unfold howF
                rw [if_pos hg, if_neg hne, he, hwN_e (by omega), if_pos c_136]
        have hoa := odd_r (tm (σ 2) x_) (loA (σ 2) a_)
        have hob := odd_r (tm (σ 2) x_) (loA (σ 2) b_)
        refine lv_astore hx hb dX0_how_35 hl (Nat.le_of_ble_eq_true rfl) (lv' := [(4, .ref y_), (0, .ref a), (1, .int (iI x_)), (2, .int (iI a_)), (3, .int (iI b_))]) rfl (fun ls hl => ?_)
        refine lv_aload hx hb dX0_how_37 (lv_at hl 0 rfl) ?_
        refine lv_aload_n hx hb dX0_how_39 rfl (lv_at hl 1 rfl) ?_
        refine x_get hx hb hts in_X0 hown hK hH hR.o rfl 0 (by decide) q339 (fun _ h9 => h9) rfl (by decide) dX0_how_40 ?_
        refine x_getN hx hb hts in_X1 hown hK hH hR.b0 rfl 10 (by decide) hXN q182 (fun _ h9 => h9) rfl (by decide) dX0_how_43 ?_
        refine lv_iload_n hx hb dX0_how_46 rfl (lv_at hl 4 rfl) ?_
        obtain ⟨y7, n7, w7, u7, g7, k7, e7⟩ := hR.look (i := b_) (by omega) (by omega)
        have v7 := (hI.o b_ (by omega) (by omega)).2
        refine x_aald hx hb hK hH 7 hR.b10 rfl (by omega) (by omega) (Nat.le_of_ble_eq_true rfl) (v := some y7) u7 dX0_how_47 ?_
        refine x_calliF (x_runV (As := [.ref y7]) (rest := []) S hH hK (fun _ _ hW => XN.warm hW hXN) XN_b hl.1 (hR.sub _ _ fa0) rfl (l_odds (x := x_) (k := b_) hI ⟨by omega, by omega⟩ g7 k7 e7 (TextAt_up hR.sub tI)) (lw_V q1229 q1170 q1171 q135 q1172) kd_X22_odds rfl rfl dX0_how_48) hH hA (fun H locs hH => ?_)
        refine lv_istore hx hb dX0_how_51 hl (Nat.le_of_ble_eq_true rfl) (lv' := [(5, .int (iI (odd (tm (σ 2) x_) (loA (σ 2) b_)))), (4, .ref y_), (0, .ref a), (1, .int (iI x_)), (2, .int (iI a_)), (3, .int (iI b_))]) rfl (fun ls hl => ?_)
        refine lv_aload hx hb dX0_how_53 (lv_at hl 1 rfl) ?_
        refine lv_aload_n hx hb dX0_how_55 rfl (lv_at hl 2 rfl) ?_
        refine x_get hx hb hts in_X0 hown hK hH hR.o rfl 0 (by decide) q339 (fun _ h9 => h9) rfl (by decide) dX0_how_56 ?_
        refine x_getN hx hb hts in_X1 hown hK hH hR.b0 rfl 10 (by decide) hXN q182 (fun _ h9 => h9) rfl (by decide) dX0_how_59 ?_
        refine lv_iload_n hx hb dX0_how_62 rfl (lv_at hl 4 rfl) ?_
        obtain ⟨y8, n8, w8, u8, g8, k8, e8⟩ := hR.look (i := a_) (by omega) (by omega)
        have v8 := (hI.o a_ (by omega) (by omega)).2
        refine x_aald hx hb hK hH 7 hR.b10 rfl (by omega) (by omega) (Nat.le_of_ble_eq_true rfl) (v := some y8) u8 dX0_how_63 ?_
        refine x_calliF (x_runV (As := [.ref y8]) (rest := []) S hH hK (fun _ _ hW => XN.warm hW hXN) XN_b hl.1 (hR.sub _ _ fa0) rfl (l_odds (x := x_) (k := a_) hI ⟨by omega, by omega⟩ g8 k8 e8 (TextAt_up hR.sub tI)) (lw_V q1229 q1170 q1171 q135 q1172) kd_X22_odds rfl rfl dX0_how_64) hH hA (fun H locs hH => ?_)
        refine lv_iload hx hb dX0_how_67 (lv_at hl 0 rfl) ?_
        refine n_icmp_ne (tgt := 74) hx hb (r32 (by omega)) (r32 (by omega)) dX0_how_69 (by decide) (fun c_69 => ?_) (fun c_69 => ?_)
        · -- 69T
          refine n_iconst hx hb dX0_how_74 ?_
          refine lv_istore hx hb dX0_how_75 hl (Nat.le_of_ble_eq_true rfl) (lv' := [(6, .int (iI 0)), (5, .int (iI (odd (tm (σ 2) x_) (loA (σ 2) b_)))), (4, .ref y_), (0, .ref a), (1, .int (iI x_)), (2, .int (iI a_)), (3, .int (iI b_))]) rfl (fun ls hl => ?_)
          have hl : lv_has ls 7 [(0, .ref a), (1, .int (iI x_)), (2, .int (iI a_)), (3, .int (iI b_)), (4, .ref y_), (5, .int (iI (odd (tm (σ 2) x_) (loA (σ 2) b_)))), (6, .int (iI 0))] := lv_sub hl [3, 4, 5, 6, 2, 1, 0] rfl
          refine L77 11 M ω 0 ?_ ?_ ?_ ?_ ?_ ?_ ?_ _ _ _ hH hl
          · exact hR
          · exact ⟨c_5, c_13, c_21⟩
          · exact c_69
          · omega
          · omega
          · omega
          · rfl
        · -- 69F
          refine n_iconst hx hb dX0_how_72 ?_
          refine x_iret hx hb hr hlk hH dX0_how_73 ?_
          refine ⟨?_, _, hR⟩
          unfold howF
          rw [if_pos ⟨c_5, c_13, c_21⟩, if_pos c_69]
      · -- 21F
        refine n_iconst hx hb dX0_how_24 ?_
        refine x_iret hx hb hr hlk hH dX0_how_25 ?_
        refine ⟨?_, _, hR⟩
        unfold howF isX isK
        rw [if_neg (by omega)]
