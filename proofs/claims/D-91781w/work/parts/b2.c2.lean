theorem kd_X0_tip : yX0_tip.cls = RX0 ∧ yX0_tip.cls ≠ "java/lang/invoke/MethodHandle" ∧ yX0_tip.cls ≠ "java/lang/invoke/VarHandle" ∧ (parseMethodDescriptor yX0_tip.desc).map (fun d => d.parameters.length) = some 1 := by decide +kernel
theorem xm_X0_tip (l : Launch) (G : MG) (M : Hp) (σ : St) (x : XGh) (ω : XCt) (a : Nat) (f : Int) (sz : Nat) (hR : RX G M a σ x ω) (h_f : R32 f) (hI : KI (σ 2)) (hT : TT (σ 2)) (h40 : F40 σ) : Met l yX0_tip (ws_ yX0_tip cX0_tip 2 (some .int)) (rmD 3) (xP G XN [.ref a, .int (iI f)] M sz) (xQi G (DA M sz) (fun z M' => z = (tipF σ f).1 ∧ ∃ ω', RX G M' a (tipF σ f).2 x ω')) 0 0 (DA M sz) := by
  refine x_start (by decide) (Nat.le_of_ble_eq_true rfl) ?_
  intro p e s m below meth c ⟨S, hr, hlk, hH, hK, hXN, hsz, hnm⟩ ls hl
  subst hsz
  obtain ⟨hx, hb, hml, hown, hts⟩ := S
  have S : CallFix p m c _ _ s _ lw_all RX0 := ⟨hx, hb, hml, hown, hts⟩
  have hA : ∀ q, s.heap.size ≤ q → DA M s.heap.size q := fun q hq => Or.inr hq
  have hl : lv_has ls 2 [(0, .ref a), (1, .int (iI f))] := hl
  have b0 := hI.c
  unfold kCnt at b0
  have h_f := R32.n h_f
  have hW := WK_of hI hT
  refine lv_aload_n hx hb dX0_tip_0 rfl (lv_at hl 0 rfl) ?_
  refine lv_iload_n hx hb dX0_tip_1 rfl (lv_at hl 1 rfl) ?_
  refine x_calliF (x_runV (As := [.int (iI f)]) (rest := []) S hH hK (fun _ _ hW => XN.warm hW hXN) XN_b hl.1 hR.o rfl (xm_X0_isFlask l G M σ x ω a f _ hR (r32 (by omega)) (by omega) (by omega)) (lw_V q639 q641 qs3 q105 q642) kd_X0_isFlask rfl rfl dX0_tip_2) hH hA (fun H locs hH => ?_)
  refine z_if_ne (tgt := 15) hx hb dX0_tip_5 (by decide) (fun c_5 => ?_) (fun c_5 => ?_)
  · -- 5T
    refine lv_aload_n hx hb dX0_tip_15 rfl (lv_at hl 0 rfl) ?_
    refine x_get hx hb hts in_X0 hown hK hH hR.o rfl 0 (by decide) q339 (fun _ h9 => h9) rfl (by decide) dX0_tip_16 ?_
    refine x_getN hx hb hts in_X1 hown hK hH hR.b0 rfl 9 (by decide) hXN q180 (fun _ h9 => h9) rfl (by decide) dX0_tip_19 ?_
    refine lv_iload_n hx hb dX0_tip_22 rfl (lv_at hl 1 rfl) ?_
    obtain ⟨f1, ef1, u1, g1, ga1, gb1⟩ := hR.flaskI (i := f) (by omega) (by omega)
    refine x_aald hx hb hK hH 6 hR.b9 rfl (by omega) (by omega) (Nat.le_of_ble_eq_true rfl) (v := some (gf x 0 f1 0)) u1 dX0_tip_23 ?_
    refine x_calliF (tip_run S hH hK hXN hl.1 g1 q666 dX0_tip_24 ⟨Nat.le_of_ble_eq_true rfl, Nat.le_of_ble_eq_true rfl⟩ ⟨Nat.le_of_ble_eq_true rfl, Nat.le_of_ble_eq_true rfl⟩ (Nat.le_of_ble_eq_true rfl)) hH hA (fun H locs hH => ?_)
    refine z_if_ne (tgt := 37) hx hb dX0_tip_27 (by decide) (fun c_27 => ?_) (fun c_27 => ?_)
    · -- 27T
      refine lv_aload_n hx hb dX0_tip_37 rfl (lv_at hl 0 rfl) ?_
      refine x_get hx hb hts in_X0 hown hK hH hR.o rfl 0 (by decide) q339 (fun _ h9 => h9) rfl (by decide) dX0_tip_38 ?_
      refine x_getN hx hb hts in_X1 hown hK hH hR.b0 rfl 9 (by decide) hXN q180 (fun _ h9 => h9) rfl (by decide) dX0_tip_41 ?_
      refine lv_iload_n hx hb dX0_tip_44 rfl (lv_at hl 1 rfl) ?_
      obtain ⟨f2, ef2, u2, g2, ga2, gb2⟩ := hR.flaskI (i := f) (by omega) (by omega)
      refine x_aald hx hb hK hH 6 hR.b9 rfl (by omega) (by omega) (Nat.le_of_ble_eq_true rfl) (v := some (gf x 0 f2 0)) u2 dX0_tip_45 ?_
      refine lv_aload_n hx hb dX0_tip_46 rfl (lv_at hl 0 rfl) ?_
      refine x_get hx hb hts in_X0 hown hK hH hR.o rfl 0 (by decide) q339 (fun _ h9 => h9) rfl (by decide) dX0_tip_47 ?_
      refine x_getN hx hb hts in_X1 hown hK hH hR.b0 rfl 0 (by decide) hXN q162 (fun _ h9 => h9) rfl (by decide) dX0_tip_50 ?_
      refine x_putFl (ty := .int) hx hb hts hown hK hH g2 (fci_c _) 11 (by decide) q528 rfl rfl rfl rfl (by decide +kernel) rfl rfl (Nat.le_of_ble_eq_true rfl) dX0_tip_53 (fun H locs hH => ?_)
      obtain ⟨M3, e_M3⟩ : ∃ M3, M3 = hs M (gf x 0 f2 0) (oB (fci (σ 2 (184 + 26 * f + 1))) [.int (iI (σ 2 (184 + 26 * f + 0))), .int (iI (σ 2 (184 + 26 * f + 1))), .int (iI (σ 2 (184 + 26 * f + 8))), .int (iI (σ 2 (184 + 26 * f + 9))), .int (iI (σ 2 (184 + 26 * f + 5))), .int (iI (σ 2 (184 + 26 * f + 2))), .int (iI (σ 2 (184 + 26 * f + 3))), .int (iI (σ 2 (184 + 26 * f + 4))), .int (iI (σ 2 (184 + 26 * f + 10))), .int (iI (σ 2 (184 + 26 * f + 6))), .int (iI (σ 2 (184 + 26 * f + 11))), .int (iI (σ 2 1750)), .int (iI (σ 2 (184 + 26 * f + 14))), .int (iI (σ 2 (184 + 26 * f + 15))), .int (iI (σ 2 (184 + 26 * f + 16))), .int (iI (σ 2 (184 + 26 * f + 7))), .int (iI (σ 2 (184 + 26 * f + 13))), .ref (gf x 0 f2 1), .ref (gf x 0 f2 2)]) := ⟨_, rfl⟩
      have hH := XV_to hH e_M3.symm
      have f3 : M3 (gf x 0 f2 0) = some (oB (fci (σ 2 (184 + 26 * f + 1))) [.int (iI (σ 2 (184 + 26 * f + 0))), .int (iI (σ 2 (184 + 26 * f + 1))), .int (iI (σ 2 (184 + 26 * f + 8))), .int (iI (σ 2 (184 + 26 * f + 9))), .int (iI (σ 2 (184 + 26 * f + 5))), .int (iI (σ 2 (184 + 26 * f + 2))), .int (iI (σ 2 (184 + 26 * f + 3))), .int (iI (σ 2 (184 + 26 * f + 4))), .int (iI (σ 2 (184 + 26 * f + 10))), .int (iI (σ 2 (184 + 26 * f + 6))), .int (iI (σ 2 (184 + 26 * f + 11))), .int (iI (σ 2 1750)), .int (iI (σ 2 (184 + 26 * f + 14))), .int (iI (σ 2 (184 + 26 * f + 15))), .int (iI (σ 2 (184 + 26 * f + 16))), .int (iI (σ 2 (184 + 26 * f + 7))), .int (iI (σ 2 (184 + 26 * f + 13))), .ref (gf x 0 f2 1), .ref (gf x 0 f2 2)]) := by rw [e_M3]; exact hs_s
      obtain ⟨ω4, hR4⟩ : ∃ ω4, RX G M3 a (st σ 2 (184 + 26 * f + 12) (σ 2 1750)) x ω4 := ⟨_, by rw [e_M3]; exact hR.ffI hW h40 ef2 (by omega) (j := 12) (by decide) fF_12⟩
      have hW4 : WK ((st σ 2 (184 + 26 * f + 12) (σ 2 1750)) 2) := WK_st hW (by omega)
      have hF4 : F40 (st σ 2 (184 + 26 * f + 12) (σ 2 1750)) := F40_st h40 (by omega)
      have hC4_1750 : (st σ 2 (184 + 26 * f + 12) (σ 2 1750)) 2 1750 = σ 2 1750 := st_i (by omega)
      have hC4_1752 : (st σ 2 (184 + 26 * f + 12) (σ 2 1750)) 2 1752 = σ 2 1752 := st_i (by omega)
      have hC4_1753 : (st σ 2 (184 + 26 * f + 12) (σ 2 1750)) 2 1753 = σ 2 1753 := st_i (by omega)
      refine lv_aload_n hx hb dX0_tip_56 rfl (lv_at hl 0 rfl) ?_
      refine x_get hx hb hts in_X0 hown hK hH hR4.o rfl 0 (by decide) q339 (fun _ h9 => h9) rfl (by decide) dX0_tip_57 ?_
      refine x_getN hx hb hts in_X1 hown hK hH hR4.b0 rfl 9 (by decide) hXN q180 (fun _ h9 => h9) rfl (by decide) dX0_tip_60 ?_
      refine lv_iload_n hx hb dX0_tip_63 rfl (lv_at hl 1 rfl) ?_
      obtain ⟨f5, ef5, u5, g5, ga5, gb5⟩ := hR4.flaskI (i := f) (by omega) (by omega)
      refine x_aald hx hb hK hH 6 hR4.b9 rfl (by omega) (by omega) (Nat.le_of_ble_eq_true rfl) (v := some (gf x 0 f5 0)) u5 dX0_tip_64 ?_
      refine n_iconst hx hb dX0_tip_65 ?_
      refine x_putFl (ty := .boolean) hx hb hts hown hK hH g5 (fci_c _) 15 (by decide) q539 rfl rfl rfl rfl (by decide +kernel) (zfit (Or.inr rfl)).1 (zfit (Or.inr rfl)).2 (Nat.le_of_ble_eq_true rfl) dX0_tip_66 (fun H locs hH => ?_)
      obtain ⟨M6, e_M6⟩ : ∃ M6, M6 = hs M3 (gf x 0 f5 0) (oB (fci ((st σ 2 (184 + 26 * f + 12) (σ 2 1750)) 2 (184 + 26 * f + 1))) [.int (iI ((st σ 2 (184 + 26 * f + 12) (σ 2 1750)) 2 (184 + 26 * f + 0))), .int (iI ((st σ 2 (184 + 26 * f + 12) (σ 2 1750)) 2 (184 + 26 * f + 1))), .int (iI ((st σ 2 (184 + 26 * f + 12) (σ 2 1750)) 2 (184 + 26 * f + 8))), .int (iI ((st σ 2 (184 + 26 * f + 12) (σ 2 1750)) 2 (184 + 26 * f + 9))), .int (iI ((st σ 2 (184 + 26 * f + 12) (σ 2 1750)) 2 (184 + 26 * f + 5))), .int (iI ((st σ 2 (184 + 26 * f + 12) (σ 2 1750)) 2 (184 + 26 * f + 2))), .int (iI ((st σ 2 (184 + 26 * f + 12) (σ 2 1750)) 2 (184 + 26 * f + 3))), .int (iI ((st σ 2 (184 + 26 * f + 12) (σ 2 1750)) 2 (184 + 26 * f + 4))), .int (iI ((st σ 2 (184 + 26 * f + 12) (σ 2 1750)) 2 (184 + 26 * f + 10))), .int (iI ((st σ 2 (184 + 26 * f + 12) (σ 2 1750)) 2 (184 + 26 * f + 6))), .int (iI ((st σ 2 (184 + 26 * f + 12) (σ 2 1750)) 2 (184 + 26 * f + 11))), .int (iI ((st σ 2 (184 + 26 * f + 12) (σ 2 1750)) 2 (184 + 26 * f + 12))), .int (iI ((st σ 2 (184 + 26 * f + 12) (σ 2 1750)) 2 (184 + 26 * f + 14))), .int (iI ((st σ 2 (184 + 26 * f + 12) (σ 2 1750)) 2 (184 + 26 * f + 15))), .int (iI ((st σ 2 (184 + 26 * f + 12) (σ 2 1750)) 2 (184 + 26 * f + 16))), .int (iI 1), .int (iI ((st σ 2 (184 + 26 * f + 12) (σ 2 1750)) 2 (184 + 26 * f + 13))), .ref (gf x 0 f5 1), .ref (gf x 0 f5 2)]) := ⟨_, rfl⟩
      have hH := XV_to hH e_M6.symm
      have f6 : M6 (gf x 0 f5 0) = some (oB (fci ((st σ 2 (184 + 26 * f + 12) (σ 2 1750)) 2 (184 + 26 * f + 1))) [.int (iI ((st σ 2 (184 + 26 * f + 12) (σ 2 1750)) 2 (184 + 26 * f + 0))), .int (iI ((st σ 2 (184 + 26 * f + 12) (σ 2 1750)) 2 (184 + 26 * f + 1))), .int (iI ((st σ 2 (184 + 26 * f + 12) (σ 2 1750)) 2 (184 + 26 * f + 8))), .int (iI ((st σ 2 (184 + 26 * f + 12) (σ 2 1750)) 2 (184 + 26 * f + 9))), .int (iI ((st σ 2 (184 + 26 * f + 12) (σ 2 1750)) 2 (184 + 26 * f + 5))), .int (iI ((st σ 2 (184 + 26 * f + 12) (σ 2 1750)) 2 (184 + 26 * f + 2))), .int (iI ((st σ 2 (184 + 26 * f + 12) (σ 2 1750)) 2 (184 + 26 * f + 3))), .int (iI ((st σ 2 (184 + 26 * f + 12) (σ 2 1750)) 2 (184 + 26 * f + 4))), .int (iI ((st σ 2 (184 + 26 * f + 12) (σ 2 1750)) 2 (184 + 26 * f + 10))), .int (iI ((st σ 2 (184 + 26 * f + 12) (σ 2 1750)) 2 (184 + 26 * f + 6))), .int (iI ((st σ 2 (184 + 26 * f + 12) (σ 2 1750)) 2 (184 + 26 * f + 11))), .int (iI ((st σ 2 (184 + 26 * f + 12) (σ 2 1750)) 2 (184 + 26 * f + 12))), .int (iI ((st σ 2 (184 + 26 * f + 12) (σ 2 1750)) 2 (184 + 26 * f + 14))), .int (iI ((st σ 2 (184 + 26 * f + 12) (σ 2 1750)) 2 (184 + 26 * f + 15))), .int (iI ((st σ 2 (184 + 26 * f + 12) (σ 2 1750)) 2 (184 + 26 * f + 16))), .int (iI 1), .int (iI ((st σ 2 (184 + 26 * f + 12) (σ 2 1750)) 2 (184 + 26 * f + 13))), .ref (gf x 0 f5 1), .ref (gf x 0 f5 2)]) := by rw [e_M6]; exact hs_s
      obtain ⟨ω7, hR7⟩ : ∃ ω7, RX G M6 a (st (st σ 2 (184 + 26 * f + 12) (σ 2 1750)) 2 (184 + 26 * f + 7) 1) x ω7 := ⟨_, by rw [e_M6]; exact hR4.ffI hW4 hF4 ef5 (by omega) (j := 7) (by decide) fF_7⟩
      have hW7 : WK ((st (st σ 2 (184 + 26 * f + 12) (σ 2 1750)) 2 (184 + 26 * f + 7) 1) 2) := WK_st hW4 (by omega)
      have hF7 : F40 (st (st σ 2 (184 + 26 * f + 12) (σ 2 1750)) 2 (184 + 26 * f + 7) 1) := F40_st hF4 (by omega)
      have hC7_1750 : (st (st σ 2 (184 + 26 * f + 12) (σ 2 1750)) 2 (184 + 26 * f + 7) 1) 2 1750 = (st σ 2 (184 + 26 * f + 12) (σ 2 1750)) 2 1750 := st_i (by omega)
      have hC7_1752 : (st (st σ 2 (184 + 26 * f + 12) (σ 2 1750)) 2 (184 + 26 * f + 7) 1) 2 1752 = (st σ 2 (184 + 26 * f + 12) (σ 2 1750)) 2 1752 := st_i (by omega)
      have hC7_1753 : (st (st σ 2 (184 + 26 * f + 12) (σ 2 1750)) 2 (184 + 26 * f + 7) 1) 2 1753 = (st σ 2 (184 + 26 * f + 12) (σ 2 1750)) 2 1753 := st_i (by omega)
      refine lv_aload_n hx hb dX0_tip_69 rfl (lv_at hl 0 rfl) ?_
      refine n_iconst hx hb dX0_tip_70 ?_
      refine x_calli (x_runV (As := [.int (iI 0)]) (rest := []) S hH hK (fun _ _ hW => XN.warm hW hXN) XN_b hl.1 hR7.o rfl (xm_X0_done l G M6 (st (st σ 2 (184 + 26 * f + 12) (σ 2 1750)) 2 (184 + 26 * f + 7) 1) x ω7 a 0 _ hR7) (lw_V q425 q427 qs1 q105 q428) kd_X0_done rfl rfl dX0_tip_71) hH hA (fun z71 M71_ H locs q_71 hH hz_71 => ?_)
      obtain ⟨e_71, ω71x, hR71x⟩ := q_71
      subst e_71
      refine x_iret hx hb hr hlk hH dX0_tip_74 ?_
      exact cmd_ret (F := tipF σ f) (by unfold tipF; (repeat' split) <;> first | rfl | (exfalso; omega)) hR71x
    · -- 27F
      refine lv_aload_n hx hb dX0_tip_30 rfl (lv_at hl 0 rfl) ?_
      refine n_bipush (z := -3) hx hb dX0_tip_31 (by decide) ?_
      refine x_calli (x_runV (As := [.int (iI (-3))]) (rest := []) S hH hK (fun _ _ hW => XN.warm hW hXN) XN_b hl.1 hR.o rfl (xm_X0_refuse l G M σ x ω a (-3) _ hR (by omega) (by omega)) (lw_V q393 q395 qs0 q105 q396) kd_X0_refuse rfl rfl dX0_tip_33) hH hA (fun z33 M33_ H locs q_33 hH hz_33 => ?_)
      obtain ⟨e_33, ω33x, hR33x⟩ := q_33
      subst e_33
      refine x_iret hx hb hr hlk hH dX0_tip_36 ?_
      exact cmd_ret (F := tipF σ f) (by unfold tipF; (repeat' split) <;> first | rfl | (exfalso; omega)) hR33x
  · -- 5F
    refine lv_aload_n hx hb dX0_tip_8 rfl (lv_at hl 0 rfl) ?_
    refine n_bipush (z := -2) hx hb dX0_tip_9 (by decide) ?_
    refine x_calli (x_runV (As := [.int (iI (-2))]) (rest := []) S hH hK (fun _ _ hW => XN.warm hW hXN) XN_b hl.1 hR.o rfl (xm_X0_refuse l G M σ x ω a (-2) _ hR (by omega) (by omega)) (lw_V q393 q395 qs0 q105 q396) kd_X0_refuse rfl rfl dX0_tip_11) hH hA (fun z11 M11_ H locs q_11 hH hz_11 => ?_)
    obtain ⟨e_11, ω11x, hR11x⟩ := q_11
    subst e_11
    refine x_iret hx hb hr hlk hH dX0_tip_14 ?_
    exact cmd_ret (F := tipF σ f) (by unfold tipF; (repeat' split) <;> first | rfl | (exfalso; omega)) hR11x
