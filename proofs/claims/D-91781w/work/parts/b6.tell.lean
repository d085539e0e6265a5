theorem FW_up {F : Int → Int} {k v : Int} (h : FWok F) (hv : 0 ≤ v ∧ v ≤ k) : FWok (up F k v) := fun j a b => by
  unfold up
  split
  · omega
  · exact h j a b
theorem laT_R {κ : Int → Int} {s t : Int} : R32 (laT κ s t) := by
  unfold laT
  split
  · exact r32 (by decide)
  · exact (laN_r _).1
theorem pow_4096 {n : Int} (h0 : 0 ≤ n) (h1 : n ≤ 12) : (2 : Int) ^ n.toNat ≤ 4096 := by
  have t : ∀ k : Nat, k < 13 → (2 : Int) ^ k ≤ 4096 := by decide
  exact t n.toNat (by omega)
theorem kd_X0_telling : yX0_telling.cls = RX0 ∧ yX0_telling.cls ≠ "java/lang/invoke/MethodHandle" ∧ yX0_telling.cls ≠ "java/lang/invoke/VarHandle" ∧ (parseMethodDescriptor yX0_telling.desc).map (fun d => d.parameters.length) = some 2 := by decide +kernel
theorem xm_X0_telling (l : Launch) (G : MG) (M : Hp) (σ : St) (x : XGh) (ω : XCt) (a : Nat) (s_ : Int) (w_ : Int) (sz : Nat) (hR : RX G M a σ x ω) (h_s_ : R32 s_) (h_w_ : R32 w_) (hI : KI (σ 2)) (hT : TT (σ 2)) : Met l yX0_telling (ws_ yX0_telling cX0_telling 8 (some .int)) (rmD 209) (xP G XN [.ref a, .int (iI s_), .int (iI w_)] M sz) (xQi G (DA M sz) (fun z M' => z = telF (σ 2) s_ w_ ∧ ∃ ω', RX G M' a σ x ω')) 0 0 (DA M sz) := by
  refine x_start (by decide) (Nat.le_of_ble_eq_true rfl) ?_
  intro p e s m below meth c ⟨S, hr, hlk, hH, hK, hXN, hsz, hnm⟩ ls hl
  subst hsz
  obtain ⟨hx, hb, hml, hown, hts⟩ := S
  have S : CallFix p m c _ _ s _ lw_all RX0 := ⟨hx, hb, hml, hown, hts⟩
  have hA : ∀ q, s.heap.size ≤ q → DA M s.heap.size q := fun q hq => Or.inr hq
  have hl : lv_has ls 8 [(0, .ref a), (1, .int (iI s_)), (2, .int (iI w_))] := hl
  have b0 := hI.c
  unfold kCnt at b0
  have h_s_ := R32.n h_s_
  have h_w_ := R32.n h_w_
  have hp := pow_r b0.2.2.2.2.2.2.1.1 b0.2.2.2.2.2.2.1.2
  have h40a := pow_4096 b0.2.2.2.2.2.2.1.1 b0.2.2.2.2.2.2.1.2
  have hF0 := hR.fw
  have L30 : ∀ (q : Nat) (N1 : Hp) (ω1 : XCt) (fi : Int) (k : Int), (hR1 : RX G N1 a σ x ω1) → (hg : arT (σ 2) s_ ∧ (0 ≤ w_ ∧ w_ ≤ 1)) → (hAt : ∀ j : Int, 0 ≤ j → j < σ 2 1755 → gy ω1 9 j = laT (σ 2) s_ j) → (hk0 : 0 ≤ k) → (hk1 : k ≤ s_ + 1) → (hFk : gy ω1 10 = fwS (laT (σ 2) s_) s_ (σ 2 1755).toNat (gy ω 10) k.toNat) → (hfi : s_ < k → fi = (bsN (laT (σ 2) s_) (fwS (laT (σ 2) s_) s_ (σ 2 1755).toNat (gy ω 10) s_.toNat) s_ (σ 2 1755).toNat).2) → (hq : s_ + 1 < (q : Int) + k) → ∀ (H : Heap) (locs : List Loc) (ls : Array Slot), XV G (DA M s.heap.size) N1 s.heap H locs → lv_has ls 8 [(0, .ref a), (1, .int (iI s_)), (2, .int (iI w_)), (3, .int (iI fi)), (4, .int (iI k))] → W p l e (rmD 209) s m ([.ref a, .int (iI s_), .int (iI w_)] : List Value).toArray below meth c H locs 0 0 (MQ below (xQi G (DA M s.heap.size) (fun z M' => z = telF (σ 2) s_ w_ ∧ ∃ ω', RX G M' a σ x ω')) ([.ref a, .int (iI s_), .int (iI w_)] : List Value).toArray s 0 0 (DA M s.heap.size)) (F0 m 30 ls []) := by
    intro q
    induction q with
    | zero => intro N1 ω1 fi k hR1 hg hAt hk0 hk1 hFk hfi hq; exfalso; omega
    | succ q ih_30 =>
      intro N1 ω1 fi k hR1 hg hAt hk0 hk1 hFk hfi hq H locs ls hH hl
      have hFo := hR1.fw
      have L56 : ∀ (q1 : Nat) (t : Int), (hsub : subP k s_) → (hk2 : k ≤ s_) → (ht0 : 0 ≤ t) → (ht1 : t ≤ σ 2 1755) → (hq1 : σ 2 1755 < (q1 : Int) + t) → ∀ (H : Heap) (locs : List Loc) (ls : Array Slot), XV G (DA M s.heap.size) N1 s.heap H locs → lv_has ls 8 [(0, .ref a), (1, .int (iI s_)), (2, .int (iI w_)), (3, .int (iI ((bsN (laT (σ 2) s_) (gy ω1 10) k t.toNat).2))), (4, .int (iI k)), (5, .int (iI ((bsN (laT (σ 2) s_) (gy ω1 10) k t.toNat).1))), (6, .int (iI t))] → W p l e (rmD 209) s m ([.ref a, .int (iI s_), .int (iI w_)] : List Value).toArray below meth c H locs 0 0 (MQ below (xQi G (DA M s.heap.size) (fun z M' => z = telF (σ 2) s_ w_ ∧ ∃ ω', RX G M' a σ x ω')) ([.ref a, .int (iI s_), .int (iI w_)] : List Value).toArray s 0 0 (DA M s.heap.size)) (F0 m 56 ls []) := by
        intro q1
        induction q1 with
        | zero => intro t hsub hk2 ht0 ht1 hq1; exfalso; omega
        | succ q1 ih_56 =>
          intro t hsub hk2 ht0 ht1 hq1 H locs ls hH hl
          have hbs := bsN_r (Y := (laT (σ 2) s_)) hFo hk0 (by omega) t.toNat
          have hbe := bsN_e (Y := (laT (σ 2) s_)) (F := gy ω1 10) (s := k) ht0
          refine lv_iload hx hb dX0_telling_56 (lv_at hl 6 rfl) ?_
          refine lv_aload_n hx hb dX0_telling_58 rfl (lv_at hl 0 rfl) ?_
          refine x_get hx hb hts in_X0 hown hK hH hR1.o rfl 0 (by decide) q339 (fun _ h9 => h9) rfl (by decide) dX0_telling_59 ?_
          refine x_getN hx hb hts in_X1 hown hK hH hR1.b0 rfl 4 (by decide) hXN q170 (fun _ h9 => h9) rfl (by decide) dX0_telling_62 ?_
          refine n_icmp_ge (tgt := 113) hx hb (r32 (by omega)) (r32 (by omega)) dX0_telling_65 (by decide) (fun c_65 => ?_) (fun c_65 => ?_)
          · -- 65T
            refine lv_aload_n hx hb dX0_telling_113 rfl (lv_at hl 0 rfl) ?_
            refine x_get hx hb hts in_X0 hown hK hH hR1.o rfl 10 (by decide) q351 (fun _ h9 => h9) rfl (by decide) dX0_telling_114 ?_
            refine lv_iload hx hb dX0_telling_117 (lv_at hl 4 rfl) ?_
            refine lv_iload hx hb dX0_telling_119 (lv_at hl 5 rfl) ?_
            refine n_iconst hx hb dX0_telling_121 ?_
            refine n_icmp_ne (tgt := 129) hx hb (r32 (by omega)) (r32 (by omega)) dX0_telling_122 (by decide) (fun c_122 => ?_) (fun c_122 => ?_)
            · -- 122T
              refine lv_iload hx hb dX0_telling_129 (lv_at hl 5 rfl) ?_
              refine x_iast hx hb hK hH hR1.p10 (by omega) (by omega) (Nat.le_of_ble_eq_true rfl) dX0_telling_131 (fun H locs hH => ?_)
              obtain ⟨M1, e_M1⟩ : ∃ M1, M1 = hs N1 (gp x 10) (aI (G.2.1 0) 4096 (up (gy ω1 10) k ((bsN (laT (σ 2) s_) (gy ω1 10) k t.toNat).1))) := ⟨_, rfl⟩
              have hH := XV_to hH e_M1.symm
              have f1 : M1 (gp x 10) = some (aI (G.2.1 0) 4096 (up (gy ω1 10) k ((bsN (laT (σ 2) s_) (gy ω1 10) k t.toNat).1))) := by rw [e_M1]; exact hs_s
              obtain ⟨ω2, hR2, hY2, hZ2⟩ : ∃ ω2, RX G M1 a σ x ω2 ∧ gy ω2 10 = up (gy ω1 10) k ((bsN (laT (σ 2) s_) (gy ω1 10) k t.toNat).1) ∧ ∀ j, j ≠ 10 → gy ω2 j = gy ω1 j := ⟨_, by rw [e_M1]; exact hR1.scr (k := 10) (by decide) rfl (fun _ => FW_up hR1.fw (by omega)), yS_s, fun j h => yS_n h⟩
              refine n_iinc hx hb dX0_telling_132 hl (k := 4) rfl (Nat.le_of_ble_eq_true rfl) (lv' := [(4, .int (iI (k + 1))), (0, .ref a), (1, .int (iI s_)), (2, .int (iI w_)), (3, .int (iI ((bsN (laT (σ 2) s_) (gy ω1 10) k t.toNat).2))), (5, .int (iI ((bsN (laT (σ 2) s_) (gy ω1 10) k t.toNat).1))), (6, .int (iI t))]) rfl (fun ls hl => ?_)
              refine lv_goto (tgt := 30) hx hb dX0_telling_135 (by decide) ?_
              have hl : lv_has ls 8 [(0, .ref a), (1, .int (iI s_)), (2, .int (iI w_)), (3, .int (iI ((bsN (laT (σ 2) s_) (gy ω1 10) k t.toNat).2))), (4, .int (iI (k + 1)))] := lv_sub hl [1, 2, 3, 4, 0] rfl
              refine ih_30 M1 ω2 ((bsN (laT (σ 2) s_) (gy ω1 10) k t.toNat).2) (k + 1) ?_ ?_ ?_ ?_ ?_ ?_ ?_ ?_ _ _ _ hH hl
              · exact hR2
              · exact hg
              · exact fun j a b => by rw [hZ2 9 (by decide)]; exact hAt j a b
              · omega
              · omega
              · rw [hY2, fwS_e hk0, if_pos hsub, ← hFk, show (σ 2 1755).toNat = t.toNat by omega, if_neg c_122]
              · intro z
                have hz : k = s_ := by omega
                have hF2 := hFk
                rw [hz] at hF2
                rw [hz, ← hF2, show (σ 2 1755).toNat = t.toNat by omega]
              · omega
            · -- 122F
              refine n_iconst hx hb dX0_telling_125 ?_
              refine lv_goto (tgt := 131) hx hb dX0_telling_126 (by decide) ?_
              refine x_iast hx hb hK hH hR1.p10 (by omega) (by omega) (Nat.le_of_ble_eq_true rfl) dX0_telling_131 (fun H locs hH => ?_)
              obtain ⟨M3, e_M3⟩ : ∃ M3, M3 = hs N1 (gp x 10) (aI (G.2.1 0) 4096 (up (gy ω1 10) k 0)) := ⟨_, rfl⟩
              have hH := XV_to hH e_M3.symm
              have f3 : M3 (gp x 10) = some (aI (G.2.1 0) 4096 (up (gy ω1 10) k 0)) := by rw [e_M3]; exact hs_s
              obtain ⟨ω4, hR4, hY4, hZ4⟩ : ∃ ω4, RX G M3 a σ x ω4 ∧ gy ω4 10 = up (gy ω1 10) k 0 ∧ ∀ j, j ≠ 10 → gy ω4 j = gy ω1 j := ⟨_, by rw [e_M3]; exact hR1.scr (k := 10) (by decide) rfl (fun _ => FW_up hR1.fw (by omega)), yS_s, fun j h => yS_n h⟩
              refine n_iinc hx hb dX0_telling_132 hl (k := 4) rfl (Nat.le_of_ble_eq_true rfl) (lv' := [(4, .int (iI (k + 1))), (0, .ref a), (1, .int (iI s_)), (2, .int (iI w_)), (3, .int (iI ((bsN (laT (σ 2) s_) (gy ω1 10) k t.toNat).2))), (5, .int (iI ((bsN (laT (σ 2) s_) (gy ω1 10) k t.toNat).1))), (6, .int (iI t))]) rfl (fun ls hl => ?_)
              refine lv_goto (tgt := 30) hx hb dX0_telling_135 (by decide) ?_
              have hl : lv_has ls 8 [(0, .ref a), (1, .int (iI s_)), (2, .int (iI w_)), (3, .int (iI ((bsN (laT (σ 2) s_) (gy ω1 10) k t.toNat).2))), (4, .int (iI (k + 1)))] := lv_sub hl [1, 2, 3, 4, 0] rfl
              refine ih_30 M3 ω4 ((bsN (laT (σ 2) s_) (gy ω1 10) k t.toNat).2) (k + 1) ?_ ?_ ?_ ?_ ?_ ?_ ?_ ?_ _ _ _ hH hl
              · exact hR4
              · exact hg
              · exact fun j a b => by rw [hZ4 9 (by decide)]; exact hAt j a b
              · omega
              · omega
              · rw [hY4, fwS_e hk0, if_pos hsub, ← hFk, show (σ 2 1755).toNat = t.toNat by omega, if_pos c_122]
              · intro z
                have hz : k = s_ := by omega
                have hF2 := hFk
                rw [hz] at hF2
                rw [hz, ← hF2, show (σ 2 1755).toNat = t.toNat by omega]
              · omega
          · -- 65F
            have hyr : R32 (laT (σ 2) s_ t) := laT_R
            have hvr : -1 ≤ (if cutP (laT (σ 2) s_ t) k then fvI (gy ω1 10) (laT (σ 2) s_ t) k else -1) ∧ (if cutP (laT (σ 2) s_ t) k then fvI (gy ω1 10) (laT (σ 2) s_ t) k else -1) ≤ 4096 := by
              split
              · rename_i h
                have h3 := fvI_r hFo hk0 (by omega) h
                omega
              · omega
            refine lv_aload_n hx hb dX0_telling_68 rfl (lv_at hl 0 rfl) ?_
            refine lv_iload hx hb dX0_telling_69 (lv_at hl 4 rfl) ?_
            refine lv_iload hx hb dX0_telling_71 (lv_at hl 6 rfl) ?_
            refine x_calliF (x_runV (As := [.int (iI k), .int (iI t)]) (rest := []) S hH hK (fun _ _ hW => XN.warm hW hXN) XN_b hl.1 hR1.o rfl (xm_X0_by l G N1 σ x ω1 a k t _ hR1 hk0 (by omega) ⟨by omega, by omega⟩ (by rw [hAt t ht0 (by omega)]; exact laT_R)) (lw_V q1312 q1314 qs37 q105 q1315) kd_X0_by rfl rfl dX0_telling_73) hH hA (fun H locs hH => ?_)
            refine W.eq (g2 := F0 m 76 ls (.int (iI (if cutP (laT (σ 2) s_ t) k then fvI (gy ω1 10) (laT (σ 2) s_ t) k else -1)) :: [])) (by rw [hAt t ht0 (by omega)]) ?_
            refine n_name (fun v_ e_v_ => ?_)
            refine lv_istore hx hb dX0_telling_76 hl (Nat.le_of_ble_eq_true rfl) (lv' := [(7, .int (iI v_)), (0, .ref a), (1, .int (iI s_)), (2, .int (iI w_)), (3, .int (iI ((bsN (laT (σ 2) s_) (gy ω1 10) k t.toNat).2))), (4, .int (iI k)), (5, .int (iI ((bsN (laT (σ 2) s_) (gy ω1 10) k t.toNat).1))), (6, .int (iI t))]) rfl (fun ls hl => ?_)
            refine lv_iload hx hb dX0_telling_78 (lv_at hl 0 rfl) ?_
            refine n_iconst hx hb dX0_telling_80 ?_
            refine n_icmp_eq (tgt := 107) hx hb (r32 (by omega)) (r32 (by omega)) dX0_telling_81 (by decide) (fun c_81 => ?_) (fun c_81 => ?_)
            · -- 81T
              refine n_iinc hx hb dX0_telling_107 hl (k := 7) rfl (Nat.le_of_ble_eq_true rfl) (lv' := [(6, .int (iI (t + 1))), (7, .int (iI v_)), (0, .ref a), (1, .int (iI s_)), (2, .int (iI w_)), (3, .int (iI ((bsN (laT (σ 2) s_) (gy ω1 10) k t.toNat).2))), (4, .int (iI k)), (5, .int (iI ((bsN (laT (σ 2) s_) (gy ω1 10) k t.toNat).1)))]) rfl (fun ls hl => ?_)
              refine lv_goto (tgt := 56) hx hb dX0_telling_110 (by decide) ?_
              have hl : lv_has ls 8 [(0, .ref a), (1, .int (iI s_)), (2, .int (iI w_)), (3, .int (iI ((bsN (laT (σ 2) s_) (gy ω1 10) k t.toNat).2))), (4, .int (iI k)), (5, .int (iI ((bsN (laT (σ 2) s_) (gy ω1 10) k t.toNat).1))), (6, .int (iI (t + 1)))] := lv_sub hl [2, 3, 4, 5, 6, 7, 0] rfl
              have hl : lv_has ls 8 [(0, .ref a), (1, .int (iI s_)), (2, .int (iI w_)), (3, .int (iI ((bsN (laT (σ 2) s_) (gy ω1 10) k (t + 1).toNat).2))), (4, .int (iI k)), (5, .int (iI ((bsN (laT (σ 2) s_) (gy ω1 10) k (t + 1).toNat).1))), (6, .int (iI (t + 1)))] := by rw [hbe, if_neg (fun h => by have e1 := e_v_; rw [if_pos h.1] at e1; have h3 := fvI_r hFo hk0 (by omega) h.1; omega)]; exact hl
              refine ih_56 (t + 1) ?_ ?_ ?_ ?_ ?_ _ _ _ hH hl
              · exact hsub
              · omega
              · omega
              · omega
              · omega
            · -- 81F
              have hcu : cutP (laT (σ 2) s_ t) k := by
                rcases Classical.em (cutP (laT (σ 2) s_ t) k) with h | h
                · exact h
                · rw [if_neg h] at e_v_; exact absurd e_v_ c_81
              have hev : v_ = fvI (gy ω1 10) (laT (σ 2) s_ t) k := by rw [e_v_, if_pos hcu]
              have h3 := fvI_r hFo hk0 (by omega) hcu
              refine lv_iload hx hb dX0_telling_84 (lv_at hl 6 rfl) ?_
              refine n_iconst hx hb dX0_telling_86 ?_
              refine n_icmp_eq (tgt := 100) hx hb (r32 (by omega)) (r32 (by omega)) dX0_telling_87 (by decide) (fun c_87 => ?_) (fun c_87 => ?_)
              · -- 87T
                refine lv_iload hx hb dX0_telling_100 (lv_at hl 0 rfl) ?_
                refine lv_istore hx hb dX0_telling_102 hl (Nat.le_of_ble_eq_true rfl) (lv' := [(5, .int (iI v_)), (7, .int (iI v_)), (0, .ref a), (1, .int (iI s_)), (2, .int (iI w_)), (3, .int (iI ((bsN (laT (σ 2) s_) (gy ω1 10) k t.toNat).2))), (4, .int (iI k)), (6, .int (iI t))]) rfl (fun ls hl => ?_)
                refine lv_iload hx hb dX0_telling_104 (lv_at hl 7 rfl) ?_
                refine lv_istore_n hx hb dX0_telling_106 rfl hl (Nat.le_of_ble_eq_true rfl) (lv' := [(3, .int (iI t)), (5, .int (iI v_)), (7, .int (iI v_)), (0, .ref a), (1, .int (iI s_)), (2, .int (iI w_)), (4, .int (iI k)), (6, .int (iI t))]) rfl (fun ls hl => ?_)
                refine n_iinc hx hb dX0_telling_107 hl (k := 7) rfl (Nat.le_of_ble_eq_true rfl) (lv' := [(6, .int (iI (t + 1))), (3, .int (iI t)), (5, .int (iI v_)), (7, .int (iI v_)), (0, .ref a), (1, .int (iI s_)), (2, .int (iI w_)), (4, .int (iI k))]) rfl (fun ls hl => ?_)
                refine lv_goto (tgt := 56) hx hb dX0_telling_110 (by decide) ?_
                have hl : lv_has ls 8 [(0, .ref a), (1, .int (iI s_)), (2, .int (iI w_)), (3, .int (iI t)), (4, .int (iI k)), (5, .int (iI v_)), (6, .int (iI (t + 1)))] := lv_sub hl [4, 5, 6, 1, 7, 2, 0] rfl
                have hl : lv_has ls 8 [(0, .ref a), (1, .int (iI s_)), (2, .int (iI w_)), (3, .int (iI ((bsN (laT (σ 2) s_) (gy ω1 10) k (t + 1).toNat).2))), (4, .int (iI k)), (5, .int (iI ((bsN (laT (σ 2) s_) (gy ω1 10) k (t + 1).toNat).1))), (6, .int (iI (t + 1)))] := by rw [hbe, if_pos ⟨hcu, by omega⟩, ← hev]; exact hl
                refine ih_56 (t + 1) ?_ ?_ ?_ ?_ ?_ _ _ _ hH hl
                · exact hsub
                · omega
                · omega
                · omega
                · omega
              · -- 87F
                refine lv_iload hx hb dX0_telling_90 (lv_at hl 0 rfl) ?_
                refine lv_iload hx hb dX0_telling_92 (lv_at hl 6 rfl) ?_
                refine n_icmp_lt (tgt := 100) hx hb (r32 (by omega)) (r32 (by omega)) dX0_telling_94 (by decide) (fun c_94 => ?_) (fun c_94 => ?_)
                · -- 94T
                  refine lv_iload hx hb dX0_telling_100 (lv_at hl 0 rfl) ?_
                  refine lv_istore hx hb dX0_telling_102 hl (Nat.le_of_ble_eq_true rfl) (lv' := [(5, .int (iI v_)), (7, .int (iI v_)), (0, .ref a), (1, .int (iI s_)), (2, .int (iI w_)), (3, .int (iI ((bsN (laT (σ 2) s_) (gy ω1 10) k t.toNat).2))), (4, .int (iI k)), (6, .int (iI t))]) rfl (fun ls hl => ?_)
                  refine lv_iload hx hb dX0_telling_104 (lv_at hl 7 rfl) ?_
                  refine lv_istore_n hx hb dX0_telling_106 rfl hl (Nat.le_of_ble_eq_true rfl) (lv' := [(3, .int (iI t)), (5, .int (iI v_)), (7, .int (iI v_)), (0, .ref a), (1, .int (iI s_)), (2, .int (iI w_)), (4, .int (iI k)), (6, .int (iI t))]) rfl (fun ls hl => ?_)
                  refine n_iinc hx hb dX0_telling_107 hl (k := 7) rfl (Nat.le_of_ble_eq_true rfl) (lv' := [(6, .int (iI (t + 1))), (3, .int (iI t)), (5, .int (iI v_)), (7, .int (iI v_)), (0, .ref a), (1, .int (iI s_)), (2, .int (iI w_)), (4, .int (iI k))]) rfl (fun ls hl => ?_)
                  refine lv_goto (tgt := 56) hx hb dX0_telling_110 (by decide) ?_
                  have hl : lv_has ls 8 [(0, .ref a), (1, .int (iI s_)), (2, .int (iI w_)), (3, .int (iI t)), (4, .int (iI k)), (5, .int (iI v_)), (6, .int (iI (t + 1)))] := lv_sub hl [4, 5, 6, 1, 7, 2, 0] rfl
                  have hl : lv_has ls 8 [(0, .ref a), (1, .int (iI s_)), (2, .int (iI w_)), (3, .int (iI ((bsN (laT (σ 2) s_) (gy ω1 10) k (t + 1).toNat).2))), (4, .int (iI k)), (5, .int (iI ((bsN (laT (σ 2) s_) (gy ω1 10) k (t + 1).toNat).1))), (6, .int (iI (t + 1)))] := by rw [hbe, if_pos ⟨hcu, by omega⟩, ← hev]; exact hl
                  refine ih_56 (t + 1) ?_ ?_ ?_ ?_ ?_ _ _ _ hH hl
                  · exact hsub
                  · omega
                  · omega
                  · omega
                  · omega
                · -- 94F
                  refine lv_goto (tgt := 107) hx hb dX0_telling_97 (by decide) ?_
                  refine n_iinc hx hb dX0_telling_107 hl (k := 7) rfl (Nat.le_of_ble_eq_true rfl) (lv' := [(6, .int (iI (t + 1))), (7, .int (iI v_)), (0, .ref a), (1, .int (iI s_)), (2, .int (iI w_)), (3, .int (iI ((bsN (laT (σ 2) s_) (gy ω1 10) k t.toNat).2))), (4, .int (iI k)), (5, .int (iI ((bsN (laT (σ 2) s_) (gy ω1 10) k t.toNat).1)))]) rfl (fun ls hl => ?_)
                  refine lv_goto (tgt := 56) hx hb dX0_telling_110 (by decide) ?_
                  have hl : lv_has ls 8 [(0, .ref a), (1, .int (iI s_)), (2, .int (iI w_)), (3, .int (iI ((bsN (laT (σ 2) s_) (gy ω1 10) k t.toNat).2))), (4, .int (iI k)), (5, .int (iI ((bsN (laT (σ 2) s_) (gy ω1 10) k t.toNat).1))), (6, .int (iI (t + 1)))] := lv_sub hl [2, 3, 4, 5, 6, 7, 0] rfl
                  have hl : lv_has ls 8 [(0, .ref a), (1, .int (iI s_)), (2, .int (iI w_)), (3, .int (iI ((bsN (laT (σ 2) s_) (gy ω1 10) k (t + 1).toNat).2))), (4, .int (iI k)), (5, .int (iI ((bsN (laT (σ 2) s_) (gy ω1 10) k (t + 1).toNat).1))), (6, .int (iI (t + 1)))] := by rw [hbe, if_neg (fun h => by have e1 := e_v_; rw [if_pos h.1] at e1; have h3 := fvI_r hFo hk0 (by omega) h.1; omega)]; exact hl
                  refine ih_56 (t + 1) ?_ ?_ ?_ ?_ ?_ _ _ _ hH hl
                  · exact hsub
                  · omega
                  · omega
                  · omega
                  · omega
      refine lv_iload hx hb dX0_telling_30 (lv_at hl 4 rfl) ?_
      refine lv_iload_n hx hb dX0_telling_32 rfl (lv_at hl 1 rfl) ?_
      refine n_icmp_gt (tgt := 138) hx hb (r32 (by omega)) (r32 (by omega)) dX0_telling_33 (by decide) (fun c_33 => ?_) (fun c_33 => ?_)
      · -- 33T
        refine lv_iload_n hx hb dX0_telling_138 rfl (lv_at hl 2 rfl) ?_
        refine n_if_ne (tgt := 151) hx hb (r32 (by omega)) dX0_telling_139 (by decide) (fun c_139 => ?_) (fun c_139 => ?_)
        · -- 139T
          refine lv_iload_n hx hb dX0_telling_151 rfl (lv_at hl 3 rfl) ?_
          refine x_iret hx hb hr hlk hH dX0_telling_152 ?_
          exact ⟨by rw [telF, if_pos ⟨hg.1, hg.2⟩, if_neg (by omega), hfi (by omega), bsN_F hg.1.1 (by omega) (subP_self s_)], _, hR1⟩
        · -- 139F
          refine lv_aload_n hx hb dX0_telling_142 rfl (lv_at hl 0 rfl) ?_
          refine x_get hx hb hts in_X0 hown hK hH hR1.o rfl 10 (by decide) q351 (fun _ h9 => h9) rfl (by decide) dX0_telling_143 ?_
          refine lv_iload_n hx hb dX0_telling_146 rfl (lv_at hl 1 rfl) ?_
          refine x_iald hx hb hK hH hR1.p10 (by omega) (by omega) (Nat.le_of_ble_eq_true rfl) dX0_telling_147 ?_
          refine lv_goto (tgt := 152) hx hb dX0_telling_148 (by decide) ?_
          refine x_iret hx hb hr hlk hH dX0_telling_152 ?_
          exact ⟨by rw [telF, if_pos ⟨hg.1, hg.2⟩, if_pos (by omega), hFk, show k = s_ + 1 by omega]; exact fwS_cg _ (by omega) _ hg.1.1 (by omega) (subP_self s_), _, hR1⟩
      · -- 33F
        refine lv_iload hx hb dX0_telling_36 (lv_at hl 4 rfl) ?_
        refine lv_iload_n hx hb dX0_telling_38 rfl (lv_at hl 1 rfl) ?_
        refine n_iconst hx hb dX0_telling_39 ?_
        refine n_ixor hx hb dX0_telling_40 ?_
        refine n_iand hx hb dX0_telling_41 ?_
        have hbr1 := R32.n (bAnd_r (a := k) (b := bXor s_ (-1)))
        refine n_if_eq (tgt := 48) hx hb (r32 (by omega)) dX0_telling_42 (by decide) (fun c_42 => ?_) (fun c_42 => ?_)
        · -- 42T
          refine n_iconst hx hb dX0_telling_48 ?_
          refine lv_istore hx hb dX0_telling_49 hl (Nat.le_of_ble_eq_true rfl) (lv' := [(5, .int (iI (-1))), (0, .ref a), (1, .int (iI s_)), (2, .int (iI w_)), (3, .int (iI fi)), (4, .int (iI k))]) rfl (fun ls hl => ?_)
          refine n_iconst hx hb dX0_telling_51 ?_
          refine lv_istore_n hx hb dX0_telling_52 rfl hl (Nat.le_of_ble_eq_true rfl) (lv' := [(3, .int (iI (-1))), (5, .int (iI (-1))), (0, .ref a), (1, .int (iI s_)), (2, .int (iI w_)), (4, .int (iI k))]) rfl (fun ls hl => ?_)
          refine n_iconst hx hb dX0_telling_53 ?_
          refine lv_istore hx hb dX0_telling_54 hl (Nat.le_of_ble_eq_true rfl) (lv' := [(6, .int (iI 0)), (3, .int (iI (-1))), (5, .int (iI (-1))), (0, .ref a), (1, .int (iI s_)), (2, .int (iI w_)), (4, .int (iI k))]) rfl (fun ls hl => ?_)
          have hl : lv_has ls 8 [(0, .ref a), (1, .int (iI s_)), (2, .int (iI w_)), (3, .int (iI (-1))), (4, .int (iI k)), (5, .int (iI (-1))), (6, .int (iI 0))] := lv_sub hl [3, 4, 5, 1, 6, 2, 0] rfl
          have hl : lv_has ls 8 [(0, .ref a), (1, .int (iI s_)), (2, .int (iI w_)), (3, .int (iI ((bsN (laT (σ 2) s_) (gy ω1 10) k (0 : Int).toNat).2))), (4, .int (iI k)), (5, .int (iI ((bsN (laT (σ 2) s_) (gy ω1 10) k (0 : Int).toNat).1))), (6, .int (iI 0))] := by exact hl
          refine L56 20 0 ?_ ?_ ?_ ?_ ?_ _ _ _ hH hl
          · exact c_42
          · omega
          · omega
          · omega
          · omega
        · -- 42F
          refine lv_goto (tgt := 132) hx hb dX0_telling_45 (by decide) ?_
          refine n_iinc hx hb dX0_telling_132 hl (k := 4) rfl (Nat.le_of_ble_eq_true rfl) (lv' := [(4, .int (iI (k + 1))), (0, .ref a), (1, .int (iI s_)), (2, .int (iI w_)), (3, .int (iI fi))]) rfl (fun ls hl => ?_)
          refine lv_goto (tgt := 30) hx hb dX0_telling_135 (by decide) ?_
          have hl : lv_has ls 8 [(0, .ref a), (1, .int (iI s_)), (2, .int (iI w_)), (3, .int (iI fi)), (4, .int (iI (k + 1)))] := lv_sub hl [1, 2, 3, 4, 0] rfl
          refine ih_30 N1 ω1 fi (k + 1) ?_ ?_ ?_ ?_ ?_ ?_ ?_ ?_ _ _ _ hH hl
          · exact hR1
          · exact hg
          · exact hAt
          · omega
          · omega
          · rw [fwS_e hk0, if_neg c_42]; exact hFk
          · intro z
            exfalso
            exact c_42 (by rw [show k = s_ by omega]; exact subP_self s_)
          · omega
  refine lv_aload_n hx hb dX0_telling_0 rfl (lv_at hl 0 rfl) ?_
  refine lv_iload_n hx hb dX0_telling_1 rfl (lv_at hl 1 rfl) ?_
  refine x_calliF (x_runV (As := [.int (iI s_)]) (rest := []) S hH hK (fun _ _ hW => XN.warm hW hXN) XN_b hl.1 hR.o rfl (xm_X0_areTexts l G M σ x ω a s_ _ hR (r32 (by omega)) (by omega) (by omega)) (lw_V q1285 q1287 qs33 q105 q1288) kd_X0_areTexts rfl rfl dX0_telling_2) hH hA (fun H locs hH => ?_)
  refine z_if_eq (tgt := 18) hx hb dX0_telling_5 (by decide) (fun c_5 => ?_) (fun c_5 => ?_)
  · -- 5T
    refine n_iconst hx hb dX0_telling_18 ?_
    refine x_iret hx hb hr hlk hH dX0_telling_19 ?_
    exact ⟨by rw [telF, if_neg (by omega)], _, hR⟩
  · -- 5F
    refine lv_iload_n hx hb dX0_telling_8 rfl (lv_at hl 2 rfl) ?_
    refine n_i2l hx hb (r32 (by omega)) dX0_telling_9 ?_
    refine n_lconst (z := 0) hx hb dX0_telling_10 (by decide) ?_
    refine n_lconst (z := 1) hx hb dX0_telling_11 (by decide) ?_
    refine x_calliF (x_runS (As := [.long (lI w_), .long (lI 0), .long (lI 1)]) (rest := []) S hH hK (fun _ _ hW => XN.warm hW hXN) XN_b hl.1 (xm_X0_in l G M w_ 0 1 _ (r64 (by omega)) (r64 (by omega)) (r64 (by omega))) (lw_S q386 q387 q105 q388) kd_X0_in rfl rfl dX0_telling_12) hH hA (fun H locs hH => ?_)
    refine z_if_ne (tgt := 20) hx hb dX0_telling_15 (by decide) (fun c_15 => ?_) (fun c_15 => ?_)
    · -- 15T
      refine lv_aload_n hx hb dX0_telling_20 rfl (lv_at hl 0 rfl) ?_
      refine lv_iload_n hx hb dX0_telling_21 rfl (lv_at hl 1 rfl) ?_
      refine x_callv (x_runV (As := [.int (iI s_)]) (rest := []) S hH hK (fun _ _ hW => XN.warm hW hXN) XN_b hl.1 hR.o rfl (xm_X0_findPlain l G M σ x ω a s_ _ hR (r32 (by omega)) hI hT) (lw_V q1308 q1310 qs36 q105 q1311) kd_X0_findPlain rfl rfl dX0_telling_22) hH hA (fun M22_ H locs q_22 hH hz_22 => ?_)
      obtain ⟨ω2, hR2, hA2, h102⟩ := q_22
      refine n_iconst hx hb dX0_telling_25 ?_
      refine lv_istore_n hx hb dX0_telling_26 rfl hl (Nat.le_of_ble_eq_true rfl) (lv' := [(3, .int (iI (-1))), (0, .ref a), (1, .int (iI s_)), (2, .int (iI w_))]) rfl (fun ls hl => ?_)
      refine n_iconst hx hb dX0_telling_27 ?_
      refine lv_istore hx hb dX0_telling_28 hl (Nat.le_of_ble_eq_true rfl) (lv' := [(4, .int (iI 0)), (3, .int (iI (-1))), (0, .ref a), (1, .int (iI s_)), (2, .int (iI w_))]) rfl (fun ls hl => ?_)
      have hl : lv_has ls 8 [(0, .ref a), (1, .int (iI s_)), (2, .int (iI w_)), (3, .int (iI (-1))), (4, .int (iI 0))] := lv_sub hl [2, 3, 4, 1, 0] rfl
      refine L30 4100 M22_ ω2 (-1) 0 ?_ ?_ ?_ ?_ ?_ ?_ ?_ ?_ _ _ _ hH hl
      · exact hR2
      · exact ⟨by omega, by omega⟩
      · exact hA2
      · omega
      · omega
      · exact h102
      · omega
      · omega
    · -- 15F
      refine n_iconst hx hb dX0_telling_18 ?_
      refine x_iret hx hb hr hlk hH dX0_telling_19 ?_
      exact ⟨by rw [telF, if_neg (by omega)], _, hR⟩
