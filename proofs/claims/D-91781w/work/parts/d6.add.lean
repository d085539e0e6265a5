theorem kd_X0_addLook : yX0_addLook.cls = RX0 ∧ yX0_addLook.cls ≠ "java/lang/invoke/MethodHandle" ∧ yX0_addLook.cls ≠ "java/lang/invoke/VarHandle" ∧ (parseMethodDescriptor yX0_addLook.desc).map (fun d => d.parameters.length) = some 2 := by decide +kernel
theorem xm_X0_addLook (l : Launch) (G : MG) (M : Hp) (σ : St) (x : XGh) (ω : XCt) (g_ : Int → Int) (a : Nat) (tn : Int) (sz : Nat) (hR : RX G M a σ x ω) (hW : WK (σ 2)) (h40 : F40 σ) (hlt : σ 2 1754 < 40) (hg : ∀ j, 0 ≤ j → j < 9 → gy ω 22 j = g_ j) (htn : tn = 0 ∨ tn = 1) : Met l yX0_addLook (ws_ yX0_addLook cX0_addLook 4 (some .int)) (rmX 4 2 12) (xP G XN [.ref a, .ref (gp x 4), .int (iI tn)] M sz) (xQi G (DA M sz) (fun z M' => z = σ 2 1754 ∧ ∃ x' ω', RX G M' a (addL σ g_ tn) x' ω' ∧ WK ((addL σ g_ tn) 2) ∧ F40 (addL σ g_ tn))) 2 12 (DA M sz) := by
  refine x_start (by decide) (Nat.le_of_ble_eq_true rfl) ?_
  intro p e s m below meth c ⟨S, hr, hlk, hH, hK, hXN, hsz, hnm⟩ ls hl
  subst hsz
  obtain ⟨hx, hb, hml, hown, hts⟩ := S
  have S : CallFix p m c _ _ s _ lw_all RX0 := ⟨hx, hb, hml, hown, hts⟩
  have hA : ∀ q, s.heap.size ≤ q → DA M s.heap.size q := fun q hq => Or.inr hq
  have hl : lv_has ls 4 [(0, .ref a), (1, .ref (gp x 4)), (2, .int (iI tn))] := hl
  have b0 := hW.1
  unfold kCnt at b0
  refine x_new (ci := 9) hx hb hts in_X10 tyX10 tyX10_ok hown q748 q749 q116 hK hH hA rfl [.null, .int (iI 0), .int (iI 0)] (fun j hj => by rcases (show j = 0 ∨ j = 1 ∨ j = 2 by omega) with rfl | rfl | rfl <;> rfl) eN_z9 (Nat.le_of_ble_eq_true rfl) (Nat.le_of_ble_eq_true rfl) dX0_addLook_0 (fun q1 H hq1 hH => ?_)
  obtain ⟨M1, e_M1⟩ : ∃ M1, M1 = hs M q1 (oB 9 [.null, .int (iI 0), .int (iI 0)]) := ⟨_, rfl⟩
  have hH := XV_to hH e_M1.symm
  have f1 : M1 q1 = some (oB 9 [.null, .int (iI 0), .int (iI 0)]) := by rw [e_M1]; exact hs_s
  have hR2 : RX G M1 a σ (xw x q1 1) ω := by rw [e_M1]; exact hR.al hq1 1
  have hw2_q1 : gw (xw x q1 1) q1 = 1 := xw_s
  refine lv_dup hx hb dX0_addLook_3 rfl ?_
  refine x_callv (x_runIN (As := []) (rest := [.ref q1]) S hH hK hXN hl.1 (xm_X10_init l G M1 q1 _ f1) (lw_meth q752) q116 q750 q751 kd_X10_init rfl rfl dX0_addLook_4) hH hA (fun M4_ H locs q_4 hH hz_4 => ?_)
  obtain ⟨q3, hq3, e0_3⟩ := q_4
  obtain ⟨M3, e_M3⟩ : ∃ M3, M3 = hs M1 q3 (aI (G.2.1 0) 9 (fun (_ : Int) => (0 : Int))) := ⟨_, rfl⟩
  have f3 : M3 q3 = some (aI (G.2.1 0) 9 (fun (_ : Int) => (0 : Int))) := by rw [e_M3]; exact hs_s
  have hR4 : RX G M3 a σ (xw (xw x q1 1) q3 1) ω := by rw [e_M3]; exact hR2.al hq3 1
  have ne_q1_q3 : q1 ≠ q3 := fun z => by have h9 := f1; rw [z, hq3] at h9; cases h9
  have hw4_q1 := (xw_n (x := (xw x q1 1)) (c := 1) ne_q1_q3).trans hw2_q1
  have hw4_q3 : gw (xw (xw x q1 1) q3 1) q3 = 1 := xw_s
  have f5 : M3 q1 = some (oB 9 [.null, .int (iI 0), .int (iI 0)]) := by rw [e_M3]; exact (hs_n ne_q1_q3).trans f1
  have q_4 : M4_ = hs M3 q1 (oB 9 [.ref q3, .int (iI 0), .int (iI 0)]) := by rw [e_M3]; exact e0_3
  have e_M4_ := q_4
  have f6 : M4_ q1 = some (oB 9 [.ref q3, .int (iI 0), .int (iI 0)]) := by rw [e_M4_]; exact hs_s
  have hR7 : RX G M4_ a σ (xw (xw x q1 1) q3 1) ω := by rw [e_M4_]; exact hR4.tmp hw4_q1
  have f8 : M4_ q3 = some (aI (G.2.1 0) 9 (fun (_ : Int) => (0 : Int))) := by rw [e_M4_]; exact (hs_n ne_q1_q3.symm).trans f3
  refine lv_astore_n hx hb dX0_addLook_7 rfl hl (Nat.le_of_ble_eq_true rfl) (lv' := [(3, .ref q1), (0, .ref a), (1, .ref (gp x 4)), (2, .int (iI tn))]) rfl (fun ls hl => ?_)
  refine lv_aload_n hx hb dX0_addLook_8 rfl (lv_at hl 0 rfl) ?_
  refine lv_aload_n hx hb dX0_addLook_9 rfl (lv_at hl 2 rfl) ?_
  refine x_callv (x_runU (As := [.ref (gp x 4)]) (rest := []) (n := 1) S hH hK hXN hl.1 f6 rfl (xm_X2_take l G M4_ 9 q3 0 3 (gp x 22) 0 (fun (_ : Int) => (0 : Int)) (gy ω 22) q1 (gp x 4) _ f6 (by decide) f8 hR7.p4 (by decide) hR7.p22) (lw_U q761 q762 q764 q765 q107 q766) rfl kd_X2_take.2 rfl rfl dX0_addLook_10 rfl rfl rfl ⟨Nat.le_of_ble_eq_true rfl, Nat.le_of_ble_eq_true rfl⟩ (Nat.le_of_ble_eq_true rfl) ⟨Nat.le_of_ble_eq_true rfl, Nat.le_of_ble_eq_true rfl⟩) hH hA (fun M10_ H locs q_10 hH hz_10 => ?_)
  have e_M10_ := q_10
  have f9 : M10_ q3 = some (aI (G.2.1 0) 9 (cpZ (gy ω 22) (fun (_ : Int) => (0 : Int)) 0 0 9)) := by rw [e_M10_]; exact hs_s
  have hR10 : RX G M10_ a σ (xw (xw x q1 1) q3 1) ω := by rw [e_M10_]; exact hR7.tmp hw4_q3
  have f11 : M10_ q1 = some (oB 9 [.ref q3, .int (iI 0), .int (iI 0)]) := by rw [e_M10_]; exact (hs_n ne_q1_q3).trans f6
  refine lv_aload_n hx hb dX0_addLook_13 rfl (lv_at hl 0 rfl) ?_
  refine lv_iload_n hx hb dX0_addLook_14 rfl (lv_at hl 3 rfl) ?_
  refine x_putN (ty := .boolean) hx hb hts in_X10 tyX10 tyX10_ok nmX10 hown hK hH f11 rfl 2 (by decide) hXN q755 (fun _ h9 => h9) rfl (by decide +kernel) (zfit htn).1 (zfit htn).2 (Nat.le_of_ble_eq_true rfl) (by decide) dX0_addLook_15 (fun H locs hH => ?_)
  obtain ⟨M12, e_M12⟩ : ∃ M12, M12 = hs M10_ q1 (oB 9 [.ref q3, .int (iI 0), .int (iI tn)]) := ⟨_, rfl⟩
  have hH := XV_to hH e_M12.symm
  have f12 : M12 q1 = some (oB 9 [.ref q3, .int (iI 0), .int (iI tn)]) := by rw [e_M12]; exact hs_s
  have hR13 : RX G M12 a σ (xw (xw x q1 1) q3 1) ω := by rw [e_M12]; exact hR10.tmp hw4_q1
  have f14 : M12 q3 = some (aI (G.2.1 0) 9 (cpZ (gy ω 22) (fun (_ : Int) => (0 : Int)) 0 0 9)) := by rw [e_M12]; exact (hs_n ne_q1_q3.symm).trans f9
  have hR15 := hR13.fz (e := (oB 9 [.ref q3, .int (iI 0), .int (iI tn)])) hw4_q1 f12
  have hI15_q1 : gI (xi (xw (xw x q1 1) q3 1) q1 (oB 9 [.ref q3, .int (iI 0), .int (iI tn)])) q1 = some (oB 9 [.ref q3, .int (iI 0), .int (iI tn)]) := xi_s
  have hw15_q3 := (xi_w (x := (xw (xw x q1 1) q3 1)) (e := (oB 9 [.ref q3, .int (iI 0), .int (iI tn)])) ne_q1_q3.symm).trans hw4_q3
  have hR16 := hR15.fz (e := (aI (G.2.1 0) 9 (cpZ (gy ω 22) (fun (_ : Int) => (0 : Int)) 0 0 9))) hw15_q3 f14
  have hI16_q1 := (xi_n (x := (xi (xw (xw x q1 1) q3 1) q1 (oB 9 [.ref q3, .int (iI 0), .int (iI tn)]))) (e := (aI (G.2.1 0) 9 (cpZ (gy ω 22) (fun (_ : Int) => (0 : Int)) 0 0 9))) ne_q1_q3).trans hI15_q1
  have hI16_q3 : gI (xi (xi (xw (xw x q1 1) q3 1) q1 (oB 9 [.ref q3, .int (iI 0), .int (iI tn)])) q3 (aI (G.2.1 0) 9 (cpZ (gy ω 22) (fun (_ : Int) => (0 : Int)) 0 0 9))) q3 = some (aI (G.2.1 0) 9 (cpZ (gy ω 22) (fun (_ : Int) => (0 : Int)) 0 0 9)) := xi_s
  refine lv_aload_n hx hb dX0_addLook_18 rfl (lv_at hl 1 rfl) ?_
  refine x_get hx hb hts in_X0 hown hK hH hR16.o rfl 0 (by decide) q339 (fun _ h9 => h9) rfl (by decide) dX0_addLook_19 ?_
  refine x_getN hx hb hts in_X1 hown hK hH hR16.b0 rfl 10 (by decide) hXN q182 (fun _ h9 => h9) rfl (by decide) dX0_addLook_22 ?_
  refine lv_aload_n hx hb dX0_addLook_25 rfl (lv_at hl 1 rfl) ?_
  refine x_get hx hb hts in_X0 hown hK hH hR16.o rfl 0 (by decide) q339 (fun _ h9 => h9) rfl (by decide) dX0_addLook_26 ?_
  refine x_getN hx hb hts in_X1 hown hK hH hR16.b0 rfl 3 (by decide) hXN q168 (fun _ h9 => h9) rfl (by decide) dX0_addLook_29 ?_
  refine lv_aload_n hx hb dX0_addLook_32 rfl (lv_at hl 0 rfl) ?_
  refine x_aast (E := "BrothFlasks$Look") hx hb hK hXN hH hR16.b10 rfl (hR16.sub _ _ hI16_q1) rfl (Or.inl rfl) (by omega) (by omega) (Nat.le_of_ble_eq_true rfl) dX0_addLook_33 (fun H locs hH => ?_)
  obtain ⟨M17, e_M17⟩ : ∃ M17, M17 = hs M12 (gb x 0 10) (aQ (G.2.1 7) 40 (upq (gq ω 0 10) (σ 2 1754) (some q1))) := ⟨_, rfl⟩
  have hH := XV_to hH e_M17.symm
  have f17 : M17 (gb x 0 10) = some (aQ (G.2.1 7) 40 (upq (gq ω 0 10) (σ 2 1754) (some q1))) := by rw [e_M17]; exact hs_s
  obtain ⟨ω18, hR18, hQ18⟩ : ∃ ω18, RX G M17 a σ (xi (xi (xw (xw x q1 1) q3 1) q1 (oB 9 [.ref q3, .int (iI 0), .int (iI tn)])) q3 (aI (G.2.1 0) 9 (cpZ (gy ω 22) (fun (_ : Int) => (0 : Int)) 0 0 9))) ω18 ∧ gq ω18 0 10 = upq (gq ω 0 10) (σ 2 1754) (some q1) := ⟨_, by rw [e_M17]; exact hR16.aq h40 (k := 10) (i := (σ 2 1754)) (y := q1) (Or.inr (Or.inr (Or.inl ⟨rfl, Int.le_refl _, _, hI16_q1⟩))) rfl, qS_s⟩
  refine lv_aload_n hx hb dX0_addLook_34 rfl (lv_at hl 1 rfl) ?_
  refine x_get hx hb hts in_X0 hown hK hH hR18.o rfl 0 (by decide) q339 (fun _ h9 => h9) rfl (by decide) dX0_addLook_35 ?_
  refine lv_dup hx hb dX0_addLook_38 rfl ?_
  refine x_getN hx hb hts in_X1 hown hK hH hR18.b0 rfl 3 (by decide) hXN q168 (fun _ h9 => h9) rfl (by decide) dX0_addLook_39 ?_
  refine n_iconst hx hb dX0_addLook_42 ?_
  refine n_iadd hx hb dX0_addLook_43 ?_
  refine x_putN (ty := .int) hx hb hts in_X1 tyX1 tyX1_ok nmX1 hown hK hH hR18.b0 rfl 3 (by decide) hXN q168 (fun _ h9 => h9) rfl (by decide +kernel) rfl rfl (Nat.le_of_ble_eq_true rfl) (by decide) dX0_addLook_44 (fun H locs hH => ?_)
  obtain ⟨M19, e_M19⟩ : ∃ M19, M19 = hs M17 (gb x 0 0) (oB 2 [.int (iI (σ 2 1750)), .int (iI (σ 2 1752)), .int (iI (σ 2 1753)), .int (iI ((σ 2 1754) + 1)), .int (iI (σ 2 1755)), .int (iI (σ 2 1756)), .int (iI (σ 2 1757)), .long (lI (σ 2 1751)), .ref (gb x 0 8), .ref (gb x 0 9), .ref (gb x 0 10), .ref (gb x 0 11), .ref (gb x 0 12), .ref (gb x 0 13), .ref (gb x 0 14), .ref (gb x 0 15), .ref (gb x 0 16), .ref (gb x 0 17), .ref (gb x 0 18), .ref (gb x 0 19), .ref (gb x 0 20), .ref (gb x 0 21)]) := ⟨_, rfl⟩
  have hH := XV_to hH e_M19.symm
  have f19 : M19 (gb x 0 0) = some (oB 2 [.int (iI (σ 2 1750)), .int (iI (σ 2 1752)), .int (iI (σ 2 1753)), .int (iI ((σ 2 1754) + 1)), .int (iI (σ 2 1755)), .int (iI (σ 2 1756)), .int (iI (σ 2 1757)), .long (lI (σ 2 1751)), .ref (gb x 0 8), .ref (gb x 0 9), .ref (gb x 0 10), .ref (gb x 0 11), .ref (gb x 0 12), .ref (gb x 0 13), .ref (gb x 0 14), .ref (gb x 0 15), .ref (gb x 0 16), .ref (gb x 0 17), .ref (gb x 0 18), .ref (gb x 0 19), .ref (gb x 0 20), .ref (gb x 0 21)]) := by rw [e_M19]; exact hs_s
  obtain ⟨ω20, hR20⟩ : ∃ ω20, RX G M19 a (addL σ g_ tn) (xi (xi (xw (xw x q1 1) q3 1) q1 (oB 9 [.ref q3, .int (iI 0), .int (iI tn)])) q3 (aI (G.2.1 0) 9 (cpZ (gy ω 22) (fun (_ : Int) => (0 : Int)) 0 0 9))) ω20 := ⟨_, by rw [e_M19]; exact (hR18.lookJ hW h40 hlt (by rw [hQ18]; exact upq_s) hI16_q1 hI16_q3 (fun j j0 j1 => by rw [show cpZ (gy ω 22) (fun (_ : Int) => (0 : Int)) 0 0 9 j = gy ω 22 (0 + (j - 0)) from if_pos (by omega), show (0 : Int) + (j - 0) = j by omega]; exact hg j j0 j1))⟩
  refine lv_aload_n hx hb dX0_addLook_47 rfl (lv_at hl 1 rfl) ?_
  refine x_get hx hb hts in_X0 hown hK hH hR20.o rfl 0 (by decide) q339 (fun _ h9 => h9) rfl (by decide) dX0_addLook_48 ?_
  refine x_getN hx hb hts in_X1 hown hK hH hR20.b0 rfl 3 (by decide) hXN q168 (fun _ h9 => h9) rfl (by decide) dX0_addLook_51 ?_
  refine W.eq (g2 := F0 m 54 ls (.int (iI (σ 2 1754 + 1)) :: [])) (by rw [addL_c]) ?_
  refine n_iconst hx hb dX0_addLook_54 ?_
  refine n_isub hx hb dX0_addLook_55 ?_
  refine W.eq (g2 := F0 m 56 ls (.int (iI (σ 2 1754)) :: [])) (by rw [show σ 2 1754 + 1 - 1 = σ 2 1754 by omega]) ?_
  refine W.widen (k := 2) (n := 12) (Nat.le_of_ble_eq_true rfl) (Nat.le_of_ble_eq_true rfl) ?_
  refine x_iret hx hb hr hlk hH dX0_addLook_56 ?_
  exact ⟨rfl, _, _, hR20, WK_L hW hlt, F40_L h40 (by omega) hlt⟩
theorem kd_X0_addTrial : yX0_addTrial.cls = RX0 ∧ yX0_addTrial.cls ≠ "java/lang/invoke/MethodHandle" ∧ yX0_addTrial.cls ≠ "java/lang/invoke/VarHandle" ∧ (parseMethodDescriptor yX0_addTrial.desc).map (fun d => d.parameters.length) = some 1 := by decide +kernel
theorem xm_X0_addTrial (l : Launch) (G : MG) (M : Hp) (σ : St) (x : XGh) (ω : XCt) (g_ : Int → Int) (a : Nat) (sz : Nat) (hR : RX G M a σ x ω) (hW : WK (σ 2)) (h40 : F40 σ) (hlt : σ 2 1755 < 12) (hg : ∀ j, 0 ≤ j → j < 9 → gy ω 22 j = g_ j) : Met l yX0_addTrial (ws_ yX0_addTrial cX0_addTrial 3 (some .int)) (rmX 4 2 11) (xP G XN [.ref a, .ref (gp x 4)] M sz) (xQi G (DA M sz) (fun z M' => z = σ 2 1755 ∧ ∃ x' ω', RX G M' a (addT σ g_) x' ω' ∧ WK ((addT σ g_) 2) ∧ F40 (addT σ g_))) 2 11 (DA M sz) := by
  refine x_start (by decide) (Nat.le_of_ble_eq_true rfl) ?_
  intro p e s m below meth c ⟨S, hr, hlk, hH, hK, hXN, hsz, hnm⟩ ls hl
  subst hsz
  obtain ⟨hx, hb, hml, hown, hts⟩ := S
  have S : CallFix p m c _ _ s _ lw_all RX0 := ⟨hx, hb, hml, hown, hts⟩
  have hA : ∀ q, s.heap.size ≤ q → DA M s.heap.size q := fun q hq => Or.inr hq
  have hl : lv_has ls 3 [(0, .ref a), (1, .ref (gp x 4))] := hl
  have b0 := hW.1
  unfold kCnt at b0
  refine x_new (ci := 3) hx hb hts in_X2 tyX2 tyX2_ok hown q252 q253 q107 hK hH hA rfl [.null, .int (iI 0)] (fun j hj => by rcases (show j = 0 ∨ j = 1 by omega) with rfl | rfl <;> rfl) eN_z3 (Nat.le_of_ble_eq_true rfl) (Nat.le_of_ble_eq_true rfl) dX0_addTrial_0 (fun q1 H hq1 hH => ?_)
  obtain ⟨M1, e_M1⟩ : ∃ M1, M1 = hs M q1 (oB 3 [.null, .int (iI 0)]) := ⟨_, rfl⟩
  have hH := XV_to hH e_M1.symm
  have f1 : M1 q1 = some (oB 3 [.null, .int (iI 0)]) := by rw [e_M1]; exact hs_s
  have hR2 : RX G M1 a σ (xw x q1 1) ω := by rw [e_M1]; exact hR.al hq1 1
  have hw2_q1 : gw (xw x q1 1) q1 = 1 := xw_s
  refine lv_dup hx hb dX0_addTrial_3 rfl ?_
  refine x_callv (x_runIN (As := []) (rest := [.ref q1]) S hH hK hXN hl.1 (xm_X2_init l G M1 3 q1 _ (by decide) f1) (lw_meth q256) q107 q254 q255 kd_X2_init rfl rfl dX0_addTrial_4) hH hA (fun M4_ H locs q_4 hH hz_4 => ?_)
  obtain ⟨q3, hq3, e0_3⟩ := q_4
  obtain ⟨M3, e_M3⟩ : ∃ M3, M3 = hs M1 q3 (aI (G.2.1 0) 9 (fun (_ : Int) => (0 : Int))) := ⟨_, rfl⟩
  have f3 : M3 q3 = some (aI (G.2.1 0) 9 (fun (_ : Int) => (0 : Int))) := by rw [e_M3]; exact hs_s
  have hR4 : RX G M3 a σ (xw (xw x q1 1) q3 1) ω := by rw [e_M3]; exact hR2.al hq3 1
  have ne_q1_q3 : q1 ≠ q3 := fun z => by have h9 := f1; rw [z, hq3] at h9; cases h9
  have hw4_q1 := (xw_n (x := (xw x q1 1)) (c := 1) ne_q1_q3).trans hw2_q1
  have hw4_q3 : gw (xw (xw x q1 1) q3 1) q3 = 1 := xw_s
  have f5 : M3 q1 = some (oB 3 [.null, .int (iI 0)]) := by rw [e_M3]; exact (hs_n ne_q1_q3).trans f1
  have q_4 : M4_ = hs M3 q1 (oB 3 [.ref q3, .int (iI 0)]) := by rw [e_M3]; exact e0_3
  have e_M4_ := q_4
  have f6 : M4_ q1 = some (oB 3 [.ref q3, .int (iI 0)]) := by rw [e_M4_]; exact hs_s
  have hR7 : RX G M4_ a σ (xw (xw x q1 1) q3 1) ω := by rw [e_M4_]; exact hR4.tmp hw4_q1
  have f8 : M4_ q3 = some (aI (G.2.1 0) 9 (fun (_ : Int) => (0 : Int))) := by rw [e_M4_]; exact (hs_n ne_q1_q3.symm).trans f3
  refine lv_astore_n hx hb dX0_addTrial_7 rfl hl (Nat.le_of_ble_eq_true rfl) (lv' := [(2, .ref q1), (0, .ref a), (1, .ref (gp x 4))]) rfl (fun ls hl => ?_)
  refine lv_aload_n hx hb dX0_addTrial_8 rfl (lv_at hl 0 rfl) ?_
  refine lv_aload_n hx hb dX0_addTrial_9 rfl (lv_at hl 2 rfl) ?_
  refine x_callv (x_runV (As := [.ref (gp x 4)]) (rest := []) S hH hK (fun _ _ hW => XN.warm hW hXN) XN_b hl.1 f6 rfl (xm_X2_take l G M4_ 3 q3 0 3 (gp x 22) 0 (fun (_ : Int) => (0 : Int)) (gy ω 22) q1 (gp x 4) _ f6 (by decide) f8 hR7.p4 (by decide) hR7.p22) (lw_V q778 q765 q2056 q107 q766) kd_X2_take rfl rfl dX0_addTrial_10) hH hA (fun M10_ H locs q_10 hH hz_10 => ?_)
  have e_M10_ := q_10
  have f9 : M10_ q3 = some (aI (G.2.1 0) 9 (cpZ (gy ω 22) (fun (_ : Int) => (0 : Int)) 0 0 9)) := by rw [e_M10_]; exact hs_s
  have hR10 : RX G M10_ a σ (xw (xw x q1 1) q3 1) ω := by rw [e_M10_]; exact hR7.tmp hw4_q3
  have f11 : M10_ q1 = some (oB 3 [.ref q3, .int (iI 0)]) := by rw [e_M10_]; exact (hs_n ne_q1_q3).trans f6
  have hR12 := hR10.fz (e := (oB 3 [.ref q3, .int (iI 0)])) hw4_q1 f11
  have hI12_q1 : gI (xi (xw (xw x q1 1) q3 1) q1 (oB 3 [.ref q3, .int (iI 0)])) q1 = some (oB 3 [.ref q3, .int (iI 0)]) := xi_s
  have hw12_q3 := (xi_w (x := (xw (xw x q1 1) q3 1)) (e := (oB 3 [.ref q3, .int (iI 0)])) ne_q1_q3.symm).trans hw4_q3
  have hR13 := hR12.fz (e := (aI (G.2.1 0) 9 (cpZ (gy ω 22) (fun (_ : Int) => (0 : Int)) 0 0 9))) hw12_q3 f9
  have hI13_q1 := (xi_n (x := (xi (xw (xw x q1 1) q3 1) q1 (oB 3 [.ref q3, .int (iI 0)]))) (e := (aI (G.2.1 0) 9 (cpZ (gy ω 22) (fun (_ : Int) => (0 : Int)) 0 0 9))) ne_q1_q3).trans hI12_q1
  have hI13_q3 : gI (xi (xi (xw (xw x q1 1) q3 1) q1 (oB 3 [.ref q3, .int (iI 0)])) q3 (aI (G.2.1 0) 9 (cpZ (gy ω 22) (fun (_ : Int) => (0 : Int)) 0 0 9))) q3 = some (aI (G.2.1 0) 9 (cpZ (gy ω 22) (fun (_ : Int) => (0 : Int)) 0 0 9)) := xi_s
  refine lv_aload_n hx hb dX0_addTrial_13 rfl (lv_at hl 1 rfl) ?_
  refine x_get hx hb hts in_X0 hown hK hH hR13.o rfl 0 (by decide) q339 (fun _ h9 => h9) rfl (by decide) dX0_addTrial_14 ?_
  refine x_getN hx hb hts in_X1 hown hK hH hR13.b0 rfl 11 (by decide) hXN q184 (fun _ h9 => h9) rfl (by decide) dX0_addTrial_17 ?_
  refine lv_aload_n hx hb dX0_addTrial_20 rfl (lv_at hl 1 rfl) ?_
  refine x_get hx hb hts in_X0 hown hK hH hR13.o rfl 0 (by decide) q339 (fun _ h9 => h9) rfl (by decide) dX0_addTrial_21 ?_
  refine x_getN hx hb hts in_X1 hown hK hH hR13.b0 rfl 4 (by decide) hXN q170 (fun _ h9 => h9) rfl (by decide) dX0_addTrial_24 ?_
  refine lv_aload_n hx hb dX0_addTrial_27 rfl (lv_at hl 0 rfl) ?_
  refine x_aast (E := "BrothFlasks$Case") hx hb hK hXN hH hR13.b11 rfl (hR13.sub _ _ hI13_q1) rfl (Or.inl rfl) (by omega) (by omega) (Nat.le_of_ble_eq_true rfl) dX0_addTrial_28 (fun H locs hH => ?_)
  obtain ⟨M14, e_M14⟩ : ∃ M14, M14 = hs M10_ (gb x 0 11) (aQ (G.2.1 8) 12 (upq (gq ω 0 11) (σ 2 1755) (some q1))) := ⟨_, rfl⟩
  have hH := XV_to hH e_M14.symm
  have f14 : M14 (gb x 0 11) = some (aQ (G.2.1 8) 12 (upq (gq ω 0 11) (σ 2 1755) (some q1))) := by rw [e_M14]; exact hs_s
  obtain ⟨ω15, hR15, hQ15⟩ : ∃ ω15, RX G M14 a σ (xi (xi (xw (xw x q1 1) q3 1) q1 (oB 3 [.ref q3, .int (iI 0)])) q3 (aI (G.2.1 0) 9 (cpZ (gy ω 22) (fun (_ : Int) => (0 : Int)) 0 0 9))) ω15 ∧ gq ω15 0 11 = upq (gq ω 0 11) (σ 2 1755) (some q1) := ⟨_, by rw [e_M14]; exact hR13.aq h40 (k := 11) (i := (σ 2 1755)) (y := q1) (Or.inr (Or.inr (Or.inr (Or.inl ⟨rfl, Int.le_refl _, _, hI13_q1⟩)))) rfl, qS_s⟩
  refine lv_aload_n hx hb dX0_addTrial_29 rfl (lv_at hl 1 rfl) ?_
  refine x_get hx hb hts in_X0 hown hK hH hR15.o rfl 0 (by decide) q339 (fun _ h9 => h9) rfl (by decide) dX0_addTrial_30 ?_
  refine lv_dup hx hb dX0_addTrial_33 rfl ?_
  refine x_getN hx hb hts in_X1 hown hK hH hR15.b0 rfl 4 (by decide) hXN q170 (fun _ h9 => h9) rfl (by decide) dX0_addTrial_34 ?_
  refine n_iconst hx hb dX0_addTrial_37 ?_
  refine n_iadd hx hb dX0_addTrial_38 ?_
  refine x_putN (ty := .int) hx hb hts in_X1 tyX1 tyX1_ok nmX1 hown hK hH hR15.b0 rfl 4 (by decide) hXN q170 (fun _ h9 => h9) rfl (by decide +kernel) rfl rfl (Nat.le_of_ble_eq_true rfl) (by decide) dX0_addTrial_39 (fun H locs hH => ?_)
  obtain ⟨M16, e_M16⟩ : ∃ M16, M16 = hs M14 (gb x 0 0) (oB 2 [.int (iI (σ 2 1750)), .int (iI (σ 2 1752)), .int (iI (σ 2 1753)), .int (iI (σ 2 1754)), .int (iI ((σ 2 1755) + 1)), .int (iI (σ 2 1756)), .int (iI (σ 2 1757)), .long (lI (σ 2 1751)), .ref (gb x 0 8), .ref (gb x 0 9), .ref (gb x 0 10), .ref (gb x 0 11), .ref (gb x 0 12), .ref (gb x 0 13), .ref (gb x 0 14), .ref (gb x 0 15), .ref (gb x 0 16), .ref (gb x 0 17), .ref (gb x 0 18), .ref (gb x 0 19), .ref (gb x 0 20), .ref (gb x 0 21)]) := ⟨_, rfl⟩
  have hH := XV_to hH e_M16.symm
  have f16 : M16 (gb x 0 0) = some (oB 2 [.int (iI (σ 2 1750)), .int (iI (σ 2 1752)), .int (iI (σ 2 1753)), .int (iI (σ 2 1754)), .int (iI ((σ 2 1755) + 1)), .int (iI (σ 2 1756)), .int (iI (σ 2 1757)), .long (lI (σ 2 1751)), .ref (gb x 0 8), .ref (gb x 0 9), .ref (gb x 0 10), .ref (gb x 0 11), .ref (gb x 0 12), .ref (gb x 0 13), .ref (gb x 0 14), .ref (gb x 0 15), .ref (gb x 0 16), .ref (gb x 0 17), .ref (gb x 0 18), .ref (gb x 0 19), .ref (gb x 0 20), .ref (gb x 0 21)]) := by rw [e_M16]; exact hs_s
  obtain ⟨ω17, hR17⟩ : ∃ ω17, RX G M16 a (addT σ g_) (xi (xi (xw (xw x q1 1) q3 1) q1 (oB 3 [.ref q3, .int (iI 0)])) q3 (aI (G.2.1 0) 9 (cpZ (gy ω 22) (fun (_ : Int) => (0 : Int)) 0 0 9))) ω17 := ⟨_, by rw [e_M16]; exact (hR15.trialJ hW h40 hlt (by rw [hQ15]; exact upq_s) hI13_q1 hI13_q3 (fun j j0 j1 => by rw [show cpZ (gy ω 22) (fun (_ : Int) => (0 : Int)) 0 0 9 j = gy ω 22 (0 + (j - 0)) from if_pos (by omega), show (0 : Int) + (j - 0) = j by omega]; exact hg j j0 j1))⟩
  refine lv_aload_n hx hb dX0_addTrial_42 rfl (lv_at hl 1 rfl) ?_
  refine x_get hx hb hts in_X0 hown hK hH hR17.o rfl 0 (by decide) q339 (fun _ h9 => h9) rfl (by decide) dX0_addTrial_43 ?_
  refine x_getN hx hb hts in_X1 hown hK hH hR17.b0 rfl 4 (by decide) hXN q170 (fun _ h9 => h9) rfl (by decide) dX0_addTrial_46 ?_
  refine W.eq (g2 := F0 m 49 ls (.int (iI (σ 2 1755 + 1)) :: [])) (by rw [addT_c]) ?_
  refine n_iconst hx hb dX0_addTrial_49 ?_
  refine n_isub hx hb dX0_addTrial_50 ?_
  refine W.eq (g2 := F0 m 51 ls (.int (iI (σ 2 1755)) :: [])) (by rw [show σ 2 1755 + 1 - 1 = σ 2 1755 by omega]) ?_
  refine W.widen (k := 2) (n := 11) (Nat.le_of_ble_eq_true rfl) (Nat.le_of_ble_eq_true rfl) ?_
  refine x_iret hx hb hr hlk hH dX0_addTrial_51 ?_
  exact ⟨rfl, _, _, hR17, WK_T hW hlt, F40_T h40 (by omega) hlt⟩
