theorem kd_X6_hasAir : yX6_hasAir.cls = RX6 ∧ yX6_hasAir.cls ≠ "java/lang/invoke/MethodHandle" ∧ yX6_hasAir.cls ≠ "java/lang/invoke/VarHandle" ∧ (parseMethodDescriptor yX6_hasAir.desc).map (fun d => d.parameters.length) = some 0 := by decide +kernel
theorem xm_X6_hasAir (l : Launch) (G : MG) (M : Hp) (σ : St) (x : XGh) (i_ : Int) (fl_ : Nat) (y_ : Nat) (sz : Nat) (gk : M y_ = some (oB (fci (σ 2 (184 + 26 * i_ + 1))) (fFI (σ 2) x 0 fl_ i_))) (ho : 0 ≤ σ 2 (184 + 26 * i_ + 6) ∧ σ 2 (184 + 26 * i_ + 6) ≤ 1000) (hso : 0 ≤ σ 2 (184 + 26 * i_ + 1) ∧ σ 2 (184 + 26 * i_ + 1) ≤ 5) : Met l yX6_hasAir (ws_ yX6_hasAir cX6_hasAir 1 (some .boolean)) (rmD 2) (xP G XN [.ref y_] M sz) (xQi G (DA M sz) (fun z M' => z = zb (airP (σ 2 (184 + 26 * i_ + 1)) (σ 2 (184 + 26 * i_ + 6))) ∧ M' = M)) 0 0 (DA M sz) := by
  refine x_start (by decide) (Nat.le_of_ble_eq_true rfl) ?_
  intro p e s m below meth c ⟨S, hr, hlk, hH, hK, hXN, hsz, hnm⟩ ls hl
  subst hsz
  obtain ⟨hx, hb, hml, hown, hts⟩ := S
  have S : CallFix p m c _ _ s _ lw_all RX6 := ⟨hx, hb, hml, hown, hts⟩
  have hA : ∀ q, s.heap.size ≤ q → DA M s.heap.size q := fun q hq => Or.inr hq
  have hl : lv_has ls 1 [(0, .ref y_)] := hl
  refine lv_aload_n hx hb dX6_hasAir_0 rfl (lv_at hl 0 rfl) ?_
  refine x_calliF (br_run S hH hK hXN hl.1 gk q708 dX6_hasAir_1 ⟨Nat.le_of_ble_eq_true rfl, Nat.le_of_ble_eq_true rfl⟩ ⟨Nat.le_of_ble_eq_true rfl, Nat.le_of_ble_eq_true rfl⟩ (Nat.le_of_ble_eq_true rfl)) hH hA (fun H locs hH => ?_)
  refine z_if_ne (tgt := 14) hx hb dX6_hasAir_4 (by decide) (fun c_4 => ?_) (fun c_4 => ?_)
  · -- 4T
    refine n_iconst hx hb dX6_hasAir_14 ?_
    refine lv_goto (tgt := 19) hx hb dX6_hasAir_15 (by decide) ?_
    refine x_zret hx hb hr hlk hH dX6_hasAir_19 (Or.inr rfl) ?_
    refine ⟨?_, rfl⟩
    first | exact (zb_t (by unfold airP; omega)).symm | exact (zb_f (by unfold airP; omega)).symm
  · -- 4F
    refine lv_aload_n hx hb dX6_hasAir_7 rfl (lv_at hl 0 rfl) ?_
    refine x_getFl hx hb hts hown hK hH gk (fci_c _) 9 (by decide) q522 rfl rfl rfl rfl dX6_hasAir_8 ?_
    refine n_if_le (tgt := 18) hx hb (r32 (by omega)) dX6_hasAir_11 (by decide) (fun c_11 => ?_) (fun c_11 => ?_)
    · -- 11T
      refine n_iconst hx hb dX6_hasAir_18 ?_
      refine x_zret hx hb hr hlk hH dX6_hasAir_19 (Or.inl rfl) ?_
      refine ⟨?_, rfl⟩
      first | exact (zb_t (by unfold airP; omega)).symm | exact (zb_f (by unfold airP; omega)).symm
    · -- 11F
      refine n_iconst hx hb dX6_hasAir_14 ?_
      refine lv_goto (tgt := 19) hx hb dX6_hasAir_15 (by decide) ?_
      refine x_zret hx hb hr hlk hH dX6_hasAir_19 (Or.inr rfl) ?_
      refine ⟨?_, rfl⟩
      first | exact (zb_t (by unfold airP; omega)).symm | exact (zb_f (by unfold airP; omega)).symm
theorem kd_X6_fill : yX6_fill.cls = RX6 ∧ yX6_fill.cls ≠ "java/lang/invoke/MethodHandle" ∧ yX6_fill.cls ≠ "java/lang/invoke/VarHandle" ∧ (parseMethodDescriptor yX6_fill.desc).map (fun d => d.parameters.length) = some 2 := by decide +kernel
theorem xm_X6_fill (l : Launch) (G : MG) (M : Hp) (σ : St) (x : XGh) (i_ : Int) (fl_ : Nat) (n_ : Nat) (g_ : Int → Int) (y_ : Nat) (c_ : Nat) (now_ : Int) (sz : Nat) (gk : M y_ = some (oB (fci (σ 2 (184 + 26 * i_ + 1))) (fFI (σ 2) x 0 fl_ i_))) (gc : M c_ = some (oB 3 [.ref n_, .int (iI 0)])) (gn_ : M n_ = some (aI (G.2.1 0) 9 g_)) (ho : 0 ≤ σ 2 (184 + 26 * i_ + 6) ∧ σ 2 (184 + 26 * i_ + 6) ≤ 1000) (hbg : 0 ≤ σ 2 (184 + 26 * i_ + 4) ∧ σ 2 (184 + 26 * i_ + 4) ≤ 1000) (hnw : 0 ≤ now_ ∧ now_ ≤ 1000) (hti : σ 2 (184 + 26 * i_ + 7) = 0 ∨ σ 2 (184 + 26 * i_ + 7) = 1) : Met l yX6_fill (ws_ yX6_fill cX6_fill 4 none) (rmD 2) (xP G XN [.ref y_, .ref c_, .int (iI now_)] M sz) (xQv G (DA M sz) (fun M' => ∃ g', M' = hs M n_ (aI (G.2.1 0) 9 g') ∧ ∀ j, 0 ≤ j → j < 9 → g' j = (fun j => if j = 4 then min 255 (now_ - σ 2 (184 + 26 * i_ + 4)) else if j = 6 then min 255 (σ 2 (184 + 26 * i_ + 6)) else σ 2 (184 + 26 * i_ + j)) j)) 0 0 (DA M sz) := by
  refine x_start (by decide) (Nat.le_of_ble_eq_true rfl) ?_
  intro p e s m below meth c ⟨S, hr, hlk, hH, hK, hXN, hsz, hnm⟩ ls hl
  subst hsz
  obtain ⟨hx, hb, hml, hown, hts⟩ := S
  have S : CallFix p m c _ _ s _ lw_all RX6 := ⟨hx, hb, hml, hown, hts⟩
  have hA : ∀ q, s.heap.size ≤ q → DA M s.heap.size q := fun q hq => Or.inr hq
  have hl : lv_has ls 4 [(0, .ref y_), (1, .ref c_), (2, .int (iI now_))] := hl
  refine lv_aload_n hx hb dX6_fill_0 rfl (lv_at hl 1 rfl) ?_
  refine x_get hx hb hts in_X2 hown hK hH gc rfl 0 (by decide) q261 (fun _ h9 => h9) rfl (by decide) dX6_fill_1 ?_
  refine lv_astore_n hx hb dX6_fill_4 rfl hl (Nat.le_of_ble_eq_true rfl) (lv' := [(3, .ref n_), (0, .ref y_), (1, .ref c_), (2, .int (iI now_))]) rfl (fun ls hl => ?_)
  refine lv_aload_n hx hb dX6_fill_5 rfl (lv_at hl 0 rfl) ?_
  refine n_iconst hx hb dX6_fill_6 ?_
  refine lv_aload_n hx hb dX6_fill_7 rfl (lv_at hl 1 rfl) ?_
  refine x_getFl hx hb hts hown hK hH gk (fci_c _) 0 (by decide) q476 rfl rfl rfl rfl dX6_fill_8 ?_
  refine x_iast hx hb hK hH gn_ (by omega) (by omega) (Nat.le_of_ble_eq_true rfl) dX6_fill_11 (fun H locs hH => ?_)
  obtain ⟨M1, e_M1⟩ : ∃ M1, M1 = hs M n_ (aI (G.2.1 0) 9 (up g_ 0 (σ 2 (184 + 26 * i_ + 0)))) := ⟨_, rfl⟩
  have hH := XV_to hH e_M1.symm
  have f1 : M1 n_ = some (aI (G.2.1 0) 9 (up g_ 0 (σ 2 (184 + 26 * i_ + 0)))) := by rw [e_M1]; exact hs_s
  have f2 : M1 y_ = some (oB (fci (σ 2 (184 + 26 * i_ + 1))) [.int (iI (σ 2 (184 + 26 * i_ + 0))), .int (iI (σ 2 (184 + 26 * i_ + 1))), .int (iI (σ 2 (184 + 26 * i_ + 8))), .int (iI (σ 2 (184 + 26 * i_ + 9))), .int (iI (σ 2 (184 + 26 * i_ + 5))), .int (iI (σ 2 (184 + 26 * i_ + 2))), .int (iI (σ 2 (184 + 26 * i_ + 3))), .int (iI (σ 2 (184 + 26 * i_ + 4))), .int (iI (σ 2 (184 + 26 * i_ + 10))), .int (iI (σ 2 (184 + 26 * i_ + 6))), .int (iI (σ 2 (184 + 26 * i_ + 11))), .int (iI (σ 2 (184 + 26 * i_ + 12))), .int (iI (σ 2 (184 + 26 * i_ + 14))), .int (iI (σ 2 (184 + 26 * i_ + 15))), .int (iI (σ 2 (184 + 26 * i_ + 16))), .int (iI (σ 2 (184 + 26 * i_ + 7))), .int (iI (σ 2 (184 + 26 * i_ + 13))), .ref (gf x 0 fl_ 1), .ref (gf x 0 fl_ 2)]) := by rw [e_M1]; exact (hs_n (ne_oa gk gn_)).trans gk
  have f3 : M1 c_ = some (oB 3 [.ref n_, .int (iI 0)]) := by rw [e_M1]; exact (hs_n (ne_oa gc gn_)).trans gc
  have k_M1 := e_M1
  try rw [k_M, hs_hs] at k_M1
  refine lv_aload_n hx hb dX6_fill_12 rfl (lv_at hl 0 rfl) ?_
  refine n_iconst hx hb dX6_fill_13 ?_
  refine lv_aload_n hx hb dX6_fill_14 rfl (lv_at hl 1 rfl) ?_
  refine x_getFl hx hb hts hown hK hH f2 (fci_c _) 1 (by decide) q484 rfl rfl rfl rfl dX6_fill_15 ?_
  refine x_iast hx hb hK hH f1 (by omega) (by omega) (Nat.le_of_ble_eq_true rfl) dX6_fill_18 (fun H locs hH => ?_)
  obtain ⟨M4, e_M4⟩ : ∃ M4, M4 = hs M1 n_ (aI (G.2.1 0) 9 (up (up g_ 0 (σ 2 (184 + 26 * i_ + 0))) 1 (σ 2 (184 + 26 * i_ + 1)))) := ⟨_, rfl⟩
  have hH := XV_to hH e_M4.symm
  have f4 : M4 n_ = some (aI (G.2.1 0) 9 (up (up g_ 0 (σ 2 (184 + 26 * i_ + 0))) 1 (σ 2 (184 + 26 * i_ + 1)))) := by rw [e_M4]; exact hs_s
  have f5 : M4 y_ = some (oB (fci (σ 2 (184 + 26 * i_ + 1))) [.int (iI (σ 2 (184 + 26 * i_ + 0))), .int (iI (σ 2 (184 + 26 * i_ + 1))), .int (iI (σ 2 (184 + 26 * i_ + 8))), .int (iI (σ 2 (184 + 26 * i_ + 9))), .int (iI (σ 2 (184 + 26 * i_ + 5))), .int (iI (σ 2 (184 + 26 * i_ + 2))), .int (iI (σ 2 (184 + 26 * i_ + 3))), .int (iI (σ 2 (184 + 26 * i_ + 4))), .int (iI (σ 2 (184 + 26 * i_ + 10))), .int (iI (σ 2 (184 + 26 * i_ + 6))), .int (iI (σ 2 (184 + 26 * i_ + 11))), .int (iI (σ 2 (184 + 26 * i_ + 12))), .int (iI (σ 2 (184 + 26 * i_ + 14))), .int (iI (σ 2 (184 + 26 * i_ + 15))), .int (iI (σ 2 (184 + 26 * i_ + 16))), .int (iI (σ 2 (184 + 26 * i_ + 7))), .int (iI (σ 2 (184 + 26 * i_ + 13))), .ref (gf x 0 fl_ 1), .ref (gf x 0 fl_ 2)]) := by rw [e_M4]; exact (hs_n (ne_oa f2 f1)).trans f2
  have f6 : M4 c_ = some (oB 3 [.ref n_, .int (iI 0)]) := by rw [e_M4]; exact (hs_n (ne_oa f3 f1)).trans f3
  have k_M4 := e_M4
  try rw [k_M1, hs_hs] at k_M4
  refine lv_aload_n hx hb dX6_fill_19 rfl (lv_at hl 0 rfl) ?_
  refine n_iconst hx hb dX6_fill_20 ?_
  refine lv_aload_n hx hb dX6_fill_21 rfl (lv_at hl 1 rfl) ?_
  refine x_getFl hx hb hts hown hK hH f5 (fci_c _) 5 (by decide) q516 rfl rfl rfl rfl dX6_fill_22 ?_
  refine x_iast hx hb hK hH f4 (by omega) (by omega) (Nat.le_of_ble_eq_true rfl) dX6_fill_25 (fun H locs hH => ?_)
  obtain ⟨M7, e_M7⟩ : ∃ M7, M7 = hs M4 n_ (aI (G.2.1 0) 9 (up (up (up g_ 0 (σ 2 (184 + 26 * i_ + 0))) 1 (σ 2 (184 + 26 * i_ + 1))) 2 (σ 2 (184 + 26 * i_ + 2)))) := ⟨_, rfl⟩
  have hH := XV_to hH e_M7.symm
  have f7 : M7 n_ = some (aI (G.2.1 0) 9 (up (up (up g_ 0 (σ 2 (184 + 26 * i_ + 0))) 1 (σ 2 (184 + 26 * i_ + 1))) 2 (σ 2 (184 + 26 * i_ + 2)))) := by rw [e_M7]; exact hs_s
  have f8 : M7 y_ = some (oB (fci (σ 2 (184 + 26 * i_ + 1))) [.int (iI (σ 2 (184 + 26 * i_ + 0))), .int (iI (σ 2 (184 + 26 * i_ + 1))), .int (iI (σ 2 (184 + 26 * i_ + 8))), .int (iI (σ 2 (184 + 26 * i_ + 9))), .int (iI (σ 2 (184 + 26 * i_ + 5))), .int (iI (σ 2 (184 + 26 * i_ + 2))), .int (iI (σ 2 (184 + 26 * i_ + 3))), .int (iI (σ 2 (184 + 26 * i_ + 4))), .int (iI (σ 2 (184 + 26 * i_ + 10))), .int (iI (σ 2 (184 + 26 * i_ + 6))), .int (iI (σ 2 (184 + 26 * i_ + 11))), .int (iI (σ 2 (184 + 26 * i_ + 12))), .int (iI (σ 2 (184 + 26 * i_ + 14))), .int (iI (σ 2 (184 + 26 * i_ + 15))), .int (iI (σ 2 (184 + 26 * i_ + 16))), .int (iI (σ 2 (184 + 26 * i_ + 7))), .int (iI (σ 2 (184 + 26 * i_ + 13))), .ref (gf x 0 fl_ 1), .ref (gf x 0 fl_ 2)]) := by rw [e_M7]; exact (hs_n (ne_oa f5 f4)).trans f5
  have f9 : M7 c_ = some (oB 3 [.ref n_, .int (iI 0)]) := by rw [e_M7]; exact (hs_n (ne_oa f6 f4)).trans f6
  have k_M7 := e_M7
  try rw [k_M4, hs_hs] at k_M7
  refine lv_aload_n hx hb dX6_fill_26 rfl (lv_at hl 0 rfl) ?_
  refine n_iconst hx hb dX6_fill_27 ?_
  refine lv_aload_n hx hb dX6_fill_28 rfl (lv_at hl 1 rfl) ?_
  refine x_getFl hx hb hts hown hK hH f8 (fci_c _) 6 (by decide) q517 rfl rfl rfl rfl dX6_fill_29 ?_
  refine x_iast hx hb hK hH f7 (by omega) (by omega) (Nat.le_of_ble_eq_true rfl) dX6_fill_32 (fun H locs hH => ?_)
  obtain ⟨M10, e_M10⟩ : ∃ M10, M10 = hs M7 n_ (aI (G.2.1 0) 9 (up (up (up (up g_ 0 (σ 2 (184 + 26 * i_ + 0))) 1 (σ 2 (184 + 26 * i_ + 1))) 2 (σ 2 (184 + 26 * i_ + 2))) 3 (σ 2 (184 + 26 * i_ + 3)))) := ⟨_, rfl⟩
  have hH := XV_to hH e_M10.symm
  have f10 : M10 n_ = some (aI (G.2.1 0) 9 (up (up (up (up g_ 0 (σ 2 (184 + 26 * i_ + 0))) 1 (σ 2 (184 + 26 * i_ + 1))) 2 (σ 2 (184 + 26 * i_ + 2))) 3 (σ 2 (184 + 26 * i_ + 3)))) := by rw [e_M10]; exact hs_s
  have f11 : M10 y_ = some (oB (fci (σ 2 (184 + 26 * i_ + 1))) [.int (iI (σ 2 (184 + 26 * i_ + 0))), .int (iI (σ 2 (184 + 26 * i_ + 1))), .int (iI (σ 2 (184 + 26 * i_ + 8))), .int (iI (σ 2 (184 + 26 * i_ + 9))), .int (iI (σ 2 (184 + 26 * i_ + 5))), .int (iI (σ 2 (184 + 26 * i_ + 2))), .int (iI (σ 2 (184 + 26 * i_ + 3))), .int (iI (σ 2 (184 + 26 * i_ + 4))), .int (iI (σ 2 (184 + 26 * i_ + 10))), .int (iI (σ 2 (184 + 26 * i_ + 6))), .int (iI (σ 2 (184 + 26 * i_ + 11))), .int (iI (σ 2 (184 + 26 * i_ + 12))), .int (iI (σ 2 (184 + 26 * i_ + 14))), .int (iI (σ 2 (184 + 26 * i_ + 15))), .int (iI (σ 2 (184 + 26 * i_ + 16))), .int (iI (σ 2 (184 + 26 * i_ + 7))), .int (iI (σ 2 (184 + 26 * i_ + 13))), .ref (gf x 0 fl_ 1), .ref (gf x 0 fl_ 2)]) := by rw [e_M10]; exact (hs_n (ne_oa f8 f7)).trans f8
  have f12 : M10 c_ = some (oB 3 [.ref n_, .int (iI 0)]) := by rw [e_M10]; exact (hs_n (ne_oa f9 f7)).trans f9
  have k_M10 := e_M10
  try rw [k_M7, hs_hs] at k_M10
  refine lv_aload_n hx hb dX6_fill_33 rfl (lv_at hl 0 rfl) ?_
  refine n_iconst hx hb dX6_fill_34 ?_
  refine n_sipush (z := 255) hx hb dX6_fill_35 (by decide) ?_
  refine lv_iload_n hx hb dX6_fill_38 rfl (lv_at hl 3 rfl) ?_
  refine lv_aload_n hx hb dX6_fill_39 rfl (lv_at hl 1 rfl) ?_
  refine x_getFl hx hb hts hown hK hH f11 (fci_c _) 7 (by decide) q518 rfl rfl rfl rfl dX6_fill_40 ?_
  refine n_isub hx hb dX6_fill_43 ?_
  refine n_mmin hx hb hts (hml.trans hl.1.symm) hown (r32 (by omega)) (r32 (by omega)) q738 q688 q115 q689 ⟨Nat.le_of_ble_eq_true rfl, Nat.le_of_ble_eq_true rfl⟩ ⟨Nat.le_of_ble_eq_true rfl, Nat.le_of_ble_eq_true rfl⟩ (Nat.le_of_ble_eq_true rfl) dX6_fill_44 ?_
  refine x_iast hx hb hK hH f10 (by omega) (by omega) (Nat.le_of_ble_eq_true rfl) dX6_fill_47 (fun H locs hH => ?_)
  obtain ⟨M13, e_M13⟩ : ∃ M13, M13 = hs M10 n_ (aI (G.2.1 0) 9 (up (up (up (up (up g_ 0 (σ 2 (184 + 26 * i_ + 0))) 1 (σ 2 (184 + 26 * i_ + 1))) 2 (σ 2 (184 + 26 * i_ + 2))) 3 (σ 2 (184 + 26 * i_ + 3))) 4 (min 255 (now_ - (σ 2 (184 + 26 * i_ + 4)))))) := ⟨_, rfl⟩
  have hH := XV_to hH e_M13.symm
  have f13 : M13 n_ = some (aI (G.2.1 0) 9 (up (up (up (up (up g_ 0 (σ 2 (184 + 26 * i_ + 0))) 1 (σ 2 (184 + 26 * i_ + 1))) 2 (σ 2 (184 + 26 * i_ + 2))) 3 (σ 2 (184 + 26 * i_ + 3))) 4 (min 255 (now_ - (σ 2 (184 + 26 * i_ + 4)))))) := by rw [e_M13]; exact hs_s
  have f14 : M13 y_ = some (oB (fci (σ 2 (184 + 26 * i_ + 1))) [.int (iI (σ 2 (184 + 26 * i_ + 0))), .int (iI (σ 2 (184 + 26 * i_ + 1))), .int (iI (σ 2 (184 + 26 * i_ + 8))), .int (iI (σ 2 (184 + 26 * i_ + 9))), .int (iI (σ 2 (184 + 26 * i_ + 5))), .int (iI (σ 2 (184 + 26 * i_ + 2))), .int (iI (σ 2 (184 + 26 * i_ + 3))), .int (iI (σ 2 (184 + 26 * i_ + 4))), .int (iI (σ 2 (184 + 26 * i_ + 10))), .int (iI (σ 2 (184 + 26 * i_ + 6))), .int (iI (σ 2 (184 + 26 * i_ + 11))), .int (iI (σ 2 (184 + 26 * i_ + 12))), .int (iI (σ 2 (184 + 26 * i_ + 14))), .int (iI (σ 2 (184 + 26 * i_ + 15))), .int (iI (σ 2 (184 + 26 * i_ + 16))), .int (iI (σ 2 (184 + 26 * i_ + 7))), .int (iI (σ 2 (184 + 26 * i_ + 13))), .ref (gf x 0 fl_ 1), .ref (gf x 0 fl_ 2)]) := by rw [e_M13]; exact (hs_n (ne_oa f11 f10)).trans f11
  have f15 : M13 c_ = some (oB 3 [.ref n_, .int (iI 0)]) := by rw [e_M13]; exact (hs_n (ne_oa f12 f10)).trans f12
  have k_M13 := e_M13
  try rw [k_M10, hs_hs] at k_M13
  refine lv_aload_n hx hb dX6_fill_48 rfl (lv_at hl 0 rfl) ?_
  refine n_iconst hx hb dX6_fill_49 ?_
  refine lv_aload_n hx hb dX6_fill_50 rfl (lv_at hl 1 rfl) ?_
  refine x_getFl hx hb hts hown hK hH f14 (fci_c _) 4 (by decide) q507 rfl rfl rfl rfl dX6_fill_51 ?_
  refine x_iast hx hb hK hH f13 (by omega) (by omega) (Nat.le_of_ble_eq_true rfl) dX6_fill_54 (fun H locs hH => ?_)
  obtain ⟨M16, e_M16⟩ : ∃ M16, M16 = hs M13 n_ (aI (G.2.1 0) 9 (up (up (up (up (up (up g_ 0 (σ 2 (184 + 26 * i_ + 0))) 1 (σ 2 (184 + 26 * i_ + 1))) 2 (σ 2 (184 + 26 * i_ + 2))) 3 (σ 2 (184 + 26 * i_ + 3))) 4 (min 255 (now_ - (σ 2 (184 + 26 * i_ + 4))))) 5 (σ 2 (184 + 26 * i_ + 5)))) := ⟨_, rfl⟩
  have hH := XV_to hH e_M16.symm
  have f16 : M16 n_ = some (aI (G.2.1 0) 9 (up (up (up (up (up (up g_ 0 (σ 2 (184 + 26 * i_ + 0))) 1 (σ 2 (184 + 26 * i_ + 1))) 2 (σ 2 (184 + 26 * i_ + 2))) 3 (σ 2 (184 + 26 * i_ + 3))) 4 (min 255 (now_ - (σ 2 (184 + 26 * i_ + 4))))) 5 (σ 2 (184 + 26 * i_ + 5)))) := by rw [e_M16]; exact hs_s
  have f17 : M16 y_ = some (oB (fci (σ 2 (184 + 26 * i_ + 1))) [.int (iI (σ 2 (184 + 26 * i_ + 0))), .int (iI (σ 2 (184 + 26 * i_ + 1))), .int (iI (σ 2 (184 + 26 * i_ + 8))), .int (iI (σ 2 (184 + 26 * i_ + 9))), .int (iI (σ 2 (184 + 26 * i_ + 5))), .int (iI (σ 2 (184 + 26 * i_ + 2))), .int (iI (σ 2 (184 + 26 * i_ + 3))), .int (iI (σ 2 (184 + 26 * i_ + 4))), .int (iI (σ 2 (184 + 26 * i_ + 10))), .int (iI (σ 2 (184 + 26 * i_ + 6))), .int (iI (σ 2 (184 + 26 * i_ + 11))), .int (iI (σ 2 (184 + 26 * i_ + 12))), .int (iI (σ 2 (184 + 26 * i_ + 14))), .int (iI (σ 2 (184 + 26 * i_ + 15))), .int (iI (σ 2 (184 + 26 * i_ + 16))), .int (iI (σ 2 (184 + 26 * i_ + 7))), .int (iI (σ 2 (184 + 26 * i_ + 13))), .ref (gf x 0 fl_ 1), .ref (gf x 0 fl_ 2)]) := by rw [e_M16]; exact (hs_n (ne_oa f14 f13)).trans f14
  have f18 : M16 c_ = some (oB 3 [.ref n_, .int (iI 0)]) := by rw [e_M16]; exact (hs_n (ne_oa f15 f13)).trans f15
  have k_M16 := e_M16
  try rw [k_M13, hs_hs] at k_M16
  refine lv_aload_n hx hb dX6_fill_55 rfl (lv_at hl 0 rfl) ?_
  refine n_bipush (z := 6) hx hb dX6_fill_56 (by decide) ?_
  refine n_sipush (z := 255) hx hb dX6_fill_58 (by decide) ?_
  refine lv_aload_n hx hb dX6_fill_61 rfl (lv_at hl 1 rfl) ?_
  refine x_getFl hx hb hts hown hK hH f17 (fci_c _) 9 (by decide) q522 rfl rfl rfl rfl dX6_fill_62 ?_
  refine n_mmin hx hb hts (hml.trans hl.1.symm) hown (r32 (by omega)) (r32 (by omega)) q738 q688 q115 q689 ⟨Nat.le_of_ble_eq_true rfl, Nat.le_of_ble_eq_true rfl⟩ ⟨Nat.le_of_ble_eq_true rfl, Nat.le_of_ble_eq_true rfl⟩ (Nat.le_of_ble_eq_true rfl) dX6_fill_65 ?_
  refine x_iast hx hb hK hH f16 (by omega) (by omega) (Nat.le_of_ble_eq_true rfl) dX6_fill_68 (fun H locs hH => ?_)
  obtain ⟨M19, e_M19⟩ : ∃ M19, M19 = hs M16 n_ (aI (G.2.1 0) 9 (up (up (up (up (up (up (up g_ 0 (σ 2 (184 + 26 * i_ + 0))) 1 (σ 2 (184 + 26 * i_ + 1))) 2 (σ 2 (184 + 26 * i_ + 2))) 3 (σ 2 (184 + 26 * i_ + 3))) 4 (min 255 (now_ - (σ 2 (184 + 26 * i_ + 4))))) 5 (σ 2 (184 + 26 * i_ + 5))) 6 (min 255 (σ 2 (184 + 26 * i_ + 6))))) := ⟨_, rfl⟩
  have hH := XV_to hH e_M19.symm
  have f19 : M19 n_ = some (aI (G.2.1 0) 9 (up (up (up (up (up (up (up g_ 0 (σ 2 (184 + 26 * i_ + 0))) 1 (σ 2 (184 + 26 * i_ + 1))) 2 (σ 2 (184 + 26 * i_ + 2))) 3 (σ 2 (184 + 26 * i_ + 3))) 4 (min 255 (now_ - (σ 2 (184 + 26 * i_ + 4))))) 5 (σ 2 (184 + 26 * i_ + 5))) 6 (min 255 (σ 2 (184 + 26 * i_ + 6))))) := by rw [e_M19]; exact hs_s
  have f20 : M19 y_ = some (oB (fci (σ 2 (184 + 26 * i_ + 1))) [.int (iI (σ 2 (184 + 26 * i_ + 0))), .int (iI (σ 2 (184 + 26 * i_ + 1))), .int (iI (σ 2 (184 + 26 * i_ + 8))), .int (iI (σ 2 (184 + 26 * i_ + 9))), .int (iI (σ 2 (184 + 26 * i_ + 5))), .int (iI (σ 2 (184 + 26 * i_ + 2))), .int (iI (σ 2 (184 + 26 * i_ + 3))), .int (iI (σ 2 (184 + 26 * i_ + 4))), .int (iI (σ 2 (184 + 26 * i_ + 10))), .int (iI (σ 2 (184 + 26 * i_ + 6))), .int (iI (σ 2 (184 + 26 * i_ + 11))), .int (iI (σ 2 (184 + 26 * i_ + 12))), .int (iI (σ 2 (184 + 26 * i_ + 14))), .int (iI (σ 2 (184 + 26 * i_ + 15))), .int (iI (σ 2 (184 + 26 * i_ + 16))), .int (iI (σ 2 (184 + 26 * i_ + 7))), .int (iI (σ 2 (184 + 26 * i_ + 13))), .ref (gf x 0 fl_ 1), .ref (gf x 0 fl_ 2)]) := by rw [e_M19]; exact (hs_n (ne_oa f17 f16)).trans f17
  have f21 : M19 c_ = some (oB 3 [.ref n_, .int (iI 0)]) := by rw [e_M19]; exact (hs_n (ne_oa f18 f16)).trans f18
  have k_M19 := e_M19
  try rw [k_M16, hs_hs] at k_M19
  refine lv_aload_n hx hb dX6_fill_69 rfl (lv_at hl 0 rfl) ?_
  refine n_bipush (z := 7) hx hb dX6_fill_70 (by decide) ?_
  refine lv_aload_n hx hb dX6_fill_72 rfl (lv_at hl 1 rfl) ?_
  refine x_getFl hx hb hts hown hK hH f20 (fci_c _) 15 (by decide) q538 rfl rfl rfl rfl dX6_fill_73 ?_
  refine n_if_eq (tgt := 83) hx hb (r32 (by omega)) dX6_fill_76 (by decide) (fun c_76 => ?_) (fun c_76 => ?_)
  · -- 76T
    refine n_iconst hx hb dX6_fill_83 ?_
    refine x_iast hx hb hK hH f19 (by omega) (by omega) (Nat.le_of_ble_eq_true rfl) dX6_fill_84 (fun H locs hH => ?_)
    obtain ⟨M22, e_M22⟩ : ∃ M22, M22 = hs M19 n_ (aI (G.2.1 0) 9 (up (up (up (up (up (up (up (up g_ 0 (σ 2 (184 + 26 * i_ + 0))) 1 (σ 2 (184 + 26 * i_ + 1))) 2 (σ 2 (184 + 26 * i_ + 2))) 3 (σ 2 (184 + 26 * i_ + 3))) 4 (min 255 (now_ - (σ 2 (184 + 26 * i_ + 4))))) 5 (σ 2 (184 + 26 * i_ + 5))) 6 (min 255 (σ 2 (184 + 26 * i_ + 6)))) 7 0)) := ⟨_, rfl⟩
    have hH := XV_to hH e_M22.symm
    have f22 : M22 n_ = some (aI (G.2.1 0) 9 (up (up (up (up (up (up (up (up g_ 0 (σ 2 (184 + 26 * i_ + 0))) 1 (σ 2 (184 + 26 * i_ + 1))) 2 (σ 2 (184 + 26 * i_ + 2))) 3 (σ 2 (184 + 26 * i_ + 3))) 4 (min 255 (now_ - (σ 2 (184 + 26 * i_ + 4))))) 5 (σ 2 (184 + 26 * i_ + 5))) 6 (min 255 (σ 2 (184 + 26 * i_ + 6)))) 7 0)) := by rw [e_M22]; exact hs_s
    have f23 : M22 y_ = some (oB (fci (σ 2 (184 + 26 * i_ + 1))) [.int (iI (σ 2 (184 + 26 * i_ + 0))), .int (iI (σ 2 (184 + 26 * i_ + 1))), .int (iI (σ 2 (184 + 26 * i_ + 8))), .int (iI (σ 2 (184 + 26 * i_ + 9))), .int (iI (σ 2 (184 + 26 * i_ + 5))), .int (iI (σ 2 (184 + 26 * i_ + 2))), .int (iI (σ 2 (184 + 26 * i_ + 3))), .int (iI (σ 2 (184 + 26 * i_ + 4))), .int (iI (σ 2 (184 + 26 * i_ + 10))), .int (iI (σ 2 (184 + 26 * i_ + 6))), .int (iI (σ 2 (184 + 26 * i_ + 11))), .int (iI (σ 2 (184 + 26 * i_ + 12))), .int (iI (σ 2 (184 + 26 * i_ + 14))), .int (iI (σ 2 (184 + 26 * i_ + 15))), .int (iI (σ 2 (184 + 26 * i_ + 16))), .int (iI (σ 2 (184 + 26 * i_ + 7))), .int (iI (σ 2 (184 + 26 * i_ + 13))), .ref (gf x 0 fl_ 1), .ref (gf x 0 fl_ 2)]) := by rw [e_M22]; exact (hs_n (ne_oa f20 f19)).trans f20
    have f24 : M22 c_ = some (oB 3 [.ref n_, .int (iI 0)]) := by rw [e_M22]; exact (hs_n (ne_oa f21 f19)).trans f21
    have k_M22 := e_M22
    try rw [k_M19, hs_hs] at k_M22
    refine lv_aload_n hx hb dX6_fill_85 rfl (lv_at hl 0 rfl) ?_
    refine n_bipush (z := 8) hx hb dX6_fill_86 (by decide) ?_
    refine lv_aload_n hx hb dX6_fill_88 rfl (lv_at hl 1 rfl) ?_
    refine x_getFl hx hb hts hown hK hH f23 (fci_c _) 2 (by decide) q491 rfl rfl rfl rfl dX6_fill_89 ?_
    refine x_iast hx hb hK hH f22 (by omega) (by omega) (Nat.le_of_ble_eq_true rfl) dX6_fill_92 (fun H locs hH => ?_)
    obtain ⟨M25, e_M25⟩ : ∃ M25, M25 = hs M22 n_ (aI (G.2.1 0) 9 (up (up (up (up (up (up (up (up (up g_ 0 (σ 2 (184 + 26 * i_ + 0))) 1 (σ 2 (184 + 26 * i_ + 1))) 2 (σ 2 (184 + 26 * i_ + 2))) 3 (σ 2 (184 + 26 * i_ + 3))) 4 (min 255 (now_ - (σ 2 (184 + 26 * i_ + 4))))) 5 (σ 2 (184 + 26 * i_ + 5))) 6 (min 255 (σ 2 (184 + 26 * i_ + 6)))) 7 0) 8 (σ 2 (184 + 26 * i_ + 8)))) := ⟨_, rfl⟩
    have hH := XV_to hH e_M25.symm
    have f25 : M25 n_ = some (aI (G.2.1 0) 9 (up (up (up (up (up (up (up (up (up g_ 0 (σ 2 (184 + 26 * i_ + 0))) 1 (σ 2 (184 + 26 * i_ + 1))) 2 (σ 2 (184 + 26 * i_ + 2))) 3 (σ 2 (184 + 26 * i_ + 3))) 4 (min 255 (now_ - (σ 2 (184 + 26 * i_ + 4))))) 5 (σ 2 (184 + 26 * i_ + 5))) 6 (min 255 (σ 2 (184 + 26 * i_ + 6)))) 7 0) 8 (σ 2 (184 + 26 * i_ + 8)))) := by rw [e_M25]; exact hs_s
    have f26 : M25 y_ = some (oB (fci (σ 2 (184 + 26 * i_ + 1))) [.int (iI (σ 2 (184 + 26 * i_ + 0))), .int (iI (σ 2 (184 + 26 * i_ + 1))), .int (iI (σ 2 (184 + 26 * i_ + 8))), .int (iI (σ 2 (184 + 26 * i_ + 9))), .int (iI (σ 2 (184 + 26 * i_ + 5))), .int (iI (σ 2 (184 + 26 * i_ + 2))), .int (iI (σ 2 (184 + 26 * i_ + 3))), .int (iI (σ 2 (184 + 26 * i_ + 4))), .int (iI (σ 2 (184 + 26 * i_ + 10))), .int (iI (σ 2 (184 + 26 * i_ + 6))), .int (iI (σ 2 (184 + 26 * i_ + 11))), .int (iI (σ 2 (184 + 26 * i_ + 12))), .int (iI (σ 2 (184 + 26 * i_ + 14))), .int (iI (σ 2 (184 + 26 * i_ + 15))), .int (iI (σ 2 (184 + 26 * i_ + 16))), .int (iI (σ 2 (184 + 26 * i_ + 7))), .int (iI (σ 2 (184 + 26 * i_ + 13))), .ref (gf x 0 fl_ 1), .ref (gf x 0 fl_ 2)]) := by rw [e_M25]; exact (hs_n (ne_oa f23 f22)).trans f23
    have f27 : M25 c_ = some (oB 3 [.ref n_, .int (iI 0)]) := by rw [e_M25]; exact (hs_n (ne_oa f24 f22)).trans f24
    have k_M25 := e_M25
    try rw [k_M22, hs_hs] at k_M25
    refine x_vret hx hb hr hlk hH dX6_fill_93 ?_
    refine ⟨_, k_M25, fun j h0 h1 => ?_⟩
    have z : j = 0 ∨ j = 1 ∨ j = 2 ∨ j = 3 ∨ j = 4 ∨ j = 5 ∨ j = 6 ∨ j = 7 ∨ j = 8 := by omega
    rcases z with z | z | z | z | z | z | z | z | z <;> subst z <;> first | rfl | (show (0 : Int) = σ 2 (184 + 26 * i_ + 7); omega) | (show (1 : Int) = σ 2 (184 + 26 * i_ + 7); omega)
  · -- 76F
    refine n_iconst hx hb dX6_fill_79 ?_
    refine lv_goto (tgt := 84) hx hb dX6_fill_80 (by decide) ?_
    refine x_iast hx hb hK hH f19 (by omega) (by omega) (Nat.le_of_ble_eq_true rfl) dX6_fill_84 (fun H locs hH => ?_)
    obtain ⟨M28, e_M28⟩ : ∃ M28, M28 = hs M19 n_ (aI (G.2.1 0) 9 (up (up (up (up (up (up (up (up g_ 0 (σ 2 (184 + 26 * i_ + 0))) 1 (σ 2 (184 + 26 * i_ + 1))) 2 (σ 2 (184 + 26 * i_ + 2))) 3 (σ 2 (184 + 26 * i_ + 3))) 4 (min 255 (now_ - (σ 2 (184 + 26 * i_ + 4))))) 5 (σ 2 (184 + 26 * i_ + 5))) 6 (min 255 (σ 2 (184 + 26 * i_ + 6)))) 7 1)) := ⟨_, rfl⟩
    have hH := XV_to hH e_M28.symm
    have f28 : M28 n_ = some (aI (G.2.1 0) 9 (up (up (up (up (up (up (up (up g_ 0 (σ 2 (184 + 26 * i_ + 0))) 1 (σ 2 (184 + 26 * i_ + 1))) 2 (σ 2 (184 + 26 * i_ + 2))) 3 (σ 2 (184 + 26 * i_ + 3))) 4 (min 255 (now_ - (σ 2 (184 + 26 * i_ + 4))))) 5 (σ 2 (184 + 26 * i_ + 5))) 6 (min 255 (σ 2 (184 + 26 * i_ + 6)))) 7 1)) := by rw [e_M28]; exact hs_s
    have f29 : M28 y_ = some (oB (fci (σ 2 (184 + 26 * i_ + 1))) [.int (iI (σ 2 (184 + 26 * i_ + 0))), .int (iI (σ 2 (184 + 26 * i_ + 1))), .int (iI (σ 2 (184 + 26 * i_ + 8))), .int (iI (σ 2 (184 + 26 * i_ + 9))), .int (iI (σ 2 (184 + 26 * i_ + 5))), .int (iI (σ 2 (184 + 26 * i_ + 2))), .int (iI (σ 2 (184 + 26 * i_ + 3))), .int (iI (σ 2 (184 + 26 * i_ + 4))), .int (iI (σ 2 (184 + 26 * i_ + 10))), .int (iI (σ 2 (184 + 26 * i_ + 6))), .int (iI (σ 2 (184 + 26 * i_ + 11))), .int (iI (σ 2 (184 + 26 * i_ + 12))), .int (iI (σ 2 (184 + 26 * i_ + 14))), .int (iI (σ 2 (184 + 26 * i_ + 15))), .int (iI (σ 2 (184 + 26 * i_ + 16))), .int (iI (σ 2 (184 + 26 * i_ + 7))), .int (iI (σ 2 (184 + 26 * i_ + 13))), .ref (gf x 0 fl_ 1), .ref (gf x 0 fl_ 2)]) := by rw [e_M28]; exact (hs_n (ne_oa f20 f19)).trans f20
    have f30 : M28 c_ = some (oB 3 [.ref n_, .int (iI 0)]) := by rw [e_M28]; exact (hs_n (ne_oa f21 f19)).trans f21
    have k_M28 := e_M28
    try rw [k_M19, hs_hs] at k_M28
    refine lv_aload_n hx hb dX6_fill_85 rfl (lv_at hl 0 rfl) ?_
    refine n_bipush (z := 8) hx hb dX6_fill_86 (by decide) ?_
    refine lv_aload_n hx hb dX6_fill_88 rfl (lv_at hl 1 rfl) ?_
    refine x_getFl hx hb hts hown hK hH f29 (fci_c _) 2 (by decide) q491 rfl rfl rfl rfl dX6_fill_89 ?_
    refine x_iast hx hb hK hH f28 (by omega) (by omega) (Nat.le_of_ble_eq_true rfl) dX6_fill_92 (fun H locs hH => ?_)
    obtain ⟨M31, e_M31⟩ : ∃ M31, M31 = hs M28 n_ (aI (G.2.1 0) 9 (up (up (up (up (up (up (up (up (up g_ 0 (σ 2 (184 + 26 * i_ + 0))) 1 (σ 2 (184 + 26 * i_ + 1))) 2 (σ 2 (184 + 26 * i_ + 2))) 3 (σ 2 (184 + 26 * i_ + 3))) 4 (min 255 (now_ - (σ 2 (184 + 26 * i_ + 4))))) 5 (σ 2 (184 + 26 * i_ + 5))) 6 (min 255 (σ 2 (184 + 26 * i_ + 6)))) 7 1) 8 (σ 2 (184 + 26 * i_ + 8)))) := ⟨_, rfl⟩
    have hH := XV_to hH e_M31.symm
    have f31 : M31 n_ = some (aI (G.2.1 0) 9 (up (up (up (up (up (up (up (up (up g_ 0 (σ 2 (184 + 26 * i_ + 0))) 1 (σ 2 (184 + 26 * i_ + 1))) 2 (σ 2 (184 + 26 * i_ + 2))) 3 (σ 2 (184 + 26 * i_ + 3))) 4 (min 255 (now_ - (σ 2 (184 + 26 * i_ + 4))))) 5 (σ 2 (184 + 26 * i_ + 5))) 6 (min 255 (σ 2 (184 + 26 * i_ + 6)))) 7 1) 8 (σ 2 (184 + 26 * i_ + 8)))) := by rw [e_M31]; exact hs_s
    have f32 : M31 y_ = some (oB (fci (σ 2 (184 + 26 * i_ + 1))) [.int (iI (σ 2 (184 + 26 * i_ + 0))), .int (iI (σ 2 (184 + 26 * i_ + 1))), .int (iI (σ 2 (184 + 26 * i_ + 8))), .int (iI (σ 2 (184 + 26 * i_ + 9))), .int (iI (σ 2 (184 + 26 * i_ + 5))), .int (iI (σ 2 (184 + 26 * i_ + 2))), .int (iI (σ 2 (184 + 26 * i_ + 3))), .int (iI (σ 2 (184 + 26 * i_ + 4))), .int (iI (σ 2 (184 + 26 * i_ + 10))), .int (iI (σ 2 (184 + 26 * i_ + 6))), .int (iI (σ 2 (184 + 26 * i_ + 11))), .int (iI (σ 2 (184 + 26 * i_ + 12))), .int (iI (σ 2 (184 + 26 * i_ + 14))), .int (iI (σ 2 (184 + 26 * i_ + 15))), .int (iI (σ 2 (184 + 26 * i_ + 16))), .int (iI (σ 2 (184 + 26 * i_ + 7))), .int (iI (σ 2 (184 + 26 * i_ + 13))), .ref (gf x 0 fl_ 1), .ref (gf x 0 fl_ 2)]) := by rw [e_M31]; exact (hs_n (ne_oa f29 f28)).trans f29
    have f33 : M31 c_ = some (oB 3 [.ref n_, .int (iI 0)]) := by rw [e_M31]; exact (hs_n (ne_oa f30 f28)).trans f30
    have k_M31 := e_M31
    try rw [k_M28, hs_hs] at k_M31
    refine x_vret hx hb hr hlk hH dX6_fill_93 ?_
    refine ⟨_, k_M31, fun j h0 h1 => ?_⟩
    have z : j = 0 ∨ j = 1 ∨ j = 2 ∨ j = 3 ∨ j = 4 ∨ j = 5 ∨ j = 6 ∨ j = 7 ∨ j = 8 := by omega
    rcases z with z | z | z | z | z | z | z | z | z <;> subst z <;> first | rfl | (show (0 : Int) = σ 2 (184 + 26 * i_ + 7); omega) | (show (1 : Int) = σ 2 (184 + 26 * i_ + 7); omega)
