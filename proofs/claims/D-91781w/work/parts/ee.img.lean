theorem kd_X0_image : yX0_image.cls = RX0 ∧ yX0_image.cls ≠ "java/lang/invoke/MethodHandle" ∧ yX0_image.cls ≠ "java/lang/invoke/VarHandle" ∧ (parseMethodDescriptor yX0_image.desc).map (fun d => d.parameters.length) = some 1 := by decide +kernel
theorem xm_X0_image (l : Launch) (G : MG) (M : Hp) (σ : St) (x : XGh) (ω : XCt) (a : Nat) (k : Int) (sz : Nat) (hR : RX G M a σ x ω) (h_k : R32 k) (hIm : ∀ j : Nat, j < 2 → σ 4 j = 1 → WK (imK σ j)) (hI : KI (σ 2)) (hT : TT (σ 2)) (h40 : F40 σ) : Met l yX0_image (ws_ yX0_image cX0_image 2 (some .int)) (rmX 12 140 1500) (xP G XN [.ref a, .int (iI k)] M sz) (xQi G (DA M sz) (fun z M' => z = (imageF σ k).1 ∧ ∃ x' ω', RX G M' a (imageF σ k).2 x' ω')) 140 1500 (DA M sz) := by
  refine x_start (by decide) (Nat.le_of_ble_eq_true rfl) ?_
  intro p e s m below meth c ⟨S, hr, hlk, hH, hK, hXN, hsz, hnm⟩ ls hl
  subst hsz
  obtain ⟨hx, hb, hml, hown, hts⟩ := S
  have S : CallFix p m c _ _ s _ lw_all RX0 := ⟨hx, hb, hml, hown, hts⟩
  have hA : ∀ q, s.heap.size ≤ q → DA M s.heap.size q := fun q hq => Or.inr hq
  have hl : lv_has ls 2 [(0, .ref a), (1, .int (iI k))] := hl
  have b0 := hI.c
  unfold kCnt at b0
  have h_k := R32.n h_k
  have hW := WK_of hI hT
  refine lv_iload_n hx hb dX0_image_0 rfl (lv_at hl 1 rfl) ?_
  refine n_i2l hx hb (r32 (by omega)) dX0_image_1 ?_
  refine n_lconst (z := 0) hx hb dX0_image_2 (by decide) ?_
  refine n_lconst (z := 1) hx hb dX0_image_3 (by decide) ?_
  refine x_calliF (x_runS (As := [.long (lI k), .long (lI 0), .long (lI 1)]) (rest := []) S hH hK (fun _ _ hW => XN.warm hW hXN) XN_b hl.1 (xm_X0_in l G M k 0 1 _ (r64 (by omega)) (r64 (by omega)) (r64 (by omega))) (lw_S q386 q387 q105 q388) kd_X0_in rfl rfl dX0_image_4) hH hA (fun H locs hH => ?_)
  refine z_if_ne (tgt := 16) hx hb dX0_image_7 (by decide) (fun c_7 => ?_) (fun c_7 => ?_)
  · -- 7T
    obtain ⟨kn, hkn⟩ : ∃ kn : Nat, (kn : Int) = k := ⟨k.toNat, by omega⟩
    refine lv_aload_n hx hb dX0_image_16 rfl (lv_at hl 0 rfl) ?_
    refine x_get hx hb hts in_X0 hown hK hH hR.o rfl 1 (by decide) q340 (fun _ h9 => h9) rfl (by decide) dX0_image_17 ?_
    refine lv_iload_n hx hb dX0_image_20 rfl (lv_at hl 1 rfl) ?_
    refine x_new (ci := 2) hx hb hts in_X1 tyX1 tyX1_ok hown q145 q146 q106 hK hH hA rfl [.int (iI 0), .int (iI 0), .int (iI 0), .int (iI 0), .int (iI 0), .int (iI 0), .int (iI 0), .long (lI 0), .null, .null, .null, .null, .null, .null, .null, .null, .null, .null, .null, .null, .null, .null] (fun j hj => by rcases (show j = 0 ∨ j = 1 ∨ j = 2 ∨ j = 3 ∨ j = 4 ∨ j = 5 ∨ j = 6 ∨ j = 7 ∨ j = 8 ∨ j = 9 ∨ j = 10 ∨ j = 11 ∨ j = 12 ∨ j = 13 ∨ j = 14 ∨ j = 15 ∨ j = 16 ∨ j = 17 ∨ j = 18 ∨ j = 19 ∨ j = 20 ∨ j = 21 by omega) with rfl | rfl | rfl | rfl | rfl | rfl | rfl | rfl | rfl | rfl | rfl | rfl | rfl | rfl | rfl | rfl | rfl | rfl | rfl | rfl | rfl | rfl <;> rfl) (eN_id (by decide)) (Nat.le_of_ble_eq_true rfl) (Nat.le_of_ble_eq_true rfl) dX0_image_21 (fun q1 H hq1 hH => ?_)
    obtain ⟨M1, e_M1⟩ : ∃ M1, M1 = hs M q1 (oB 2 [.int (iI 0), .int (iI 0), .int (iI 0), .int (iI 0), .int (iI 0), .int (iI 0), .int (iI 0), .long (lI 0), .null, .null, .null, .null, .null, .null, .null, .null, .null, .null, .null, .null, .null, .null]) := ⟨_, rfl⟩
    have hH := XV_to hH e_M1.symm
    have f1 : M1 q1 = some (oB 2 [.int (iI 0), .int (iI 0), .int (iI 0), .int (iI 0), .int (iI 0), .int (iI 0), .int (iI 0), .long (lI 0), .null, .null, .null, .null, .null, .null, .null, .null, .null, .null, .null, .null, .null, .null]) := by rw [e_M1]; exact hs_s
    have hR2 : RX G M1 a σ (xw x q1 1) ω := by rw [e_M1]; exact hR.al hq1 1
    have hw2_q1 : gw (xw x q1 1) q1 = 1 := xw_s
    refine lv_dup hx hb dX0_image_24 rfl ?_
    refine x_callv (x_runIN (As := []) (rest := [.ref q1, .int (iI k), .ref (gp x 1)]) S hH hK hXN hl.1 (xm_X1_init l G M1 (gw (xw x q1 1)) (200 + 100 * (kn + 1)) q1 _ f1) (lw_meth q149) q106 q147 q148 kd_X1_init rfl rfl dX0_image_25) hH hA (fun M25_ H locs q_25 hH hz_25 => ?_)
    obtain ⟨B, w', z, hB0, hBG, hBZ, hBf⟩ := q_25
    obtain ⟨x2, ω2, hRb, hgp, hb0, hBd⟩ := RXb.start (k := kn) hR2 hw2_q1 hBf hB0 hBG
    have hgp : gp x2 = gp x := hgp
    have fp1 : M25_ (gp x 1) = some (aQ (G.2.1 4) 2 (gn ω2 1)) := by rw [← hgp]; exact hRb.p1
    have fb0 : M25_ q1 = some (oB 2 [.int (iI (k0 1750)), .int (iI (k0 1752)), .int (iI (k0 1753)), .int (iI (k0 1754)), .int (iI (k0 1755)), .int (iI (k0 1756)), .int (iI (k0 1757)), .long (lI (k0 1751)), .ref (gb x2 (kn + 1) 8), .ref (gb x2 (kn + 1) 9), .ref (gb x2 (kn + 1) 10), .ref (gb x2 (kn + 1) 11), .ref (gb x2 (kn + 1) 12), .ref (gb x2 (kn + 1) 13), .ref (gb x2 (kn + 1) 14), .ref (gb x2 (kn + 1) 15), .ref (gb x2 (kn + 1) 16), .ref (gb x2 (kn + 1) 17), .ref (gb x2 (kn + 1) 18), .ref (gb x2 (kn + 1) 19), .ref (gb x2 (kn + 1) 20), .ref (gb x2 (kn + 1) 21)]) := by rw [← hb0]; exact (hBd 0 (by decide)).1
    refine x_aast (E := "BrothFlasks$Bench") hx hb hK hXN hH fp1 rfl fb0 rfl (Or.inl rfl) (by omega) (by omega) (Nat.le_of_ble_eq_true rfl) dX0_image_28 (fun H locs hH => ?_)
    obtain ⟨M3, e_M3⟩ : ∃ M3, M3 = hs M25_ (gp x 1) (aQ (G.2.1 4) 2 (upq (gn ω2 1) k (some q1))) := ⟨_, rfl⟩
    have hH := XV_to hH e_M3.symm
    have f3 : M3 (gp x 1) = some (aQ (G.2.1 4) 2 (upq (gn ω2 1) k (some q1))) := by rw [e_M3]; exact hs_s
    obtain ⟨ω3, hR3, hn3, hG3⟩ := hRb.lay hgp hkn hb0 hBd
    rw [← e_M3] at hR3 hG3
    refine lv_aload_n hx hb dX0_image_29 rfl (lv_at hl 0 rfl) ?_
    refine x_get hx hb hts in_X0 hown hK hH hR3.o rfl 1 (by decide) q340 (fun _ h9 => h9) rfl (by decide) dX0_image_30 ?_
    refine lv_iload_n hx hb dX0_image_33 rfl (lv_at hl 1 rfl) ?_
    refine x_aald hx hb hK hH 4 hR3.p1 rfl (by omega) (by omega) (Nat.le_of_ble_eq_true rfl) (v := some (gb x2 (kn + 1) 0)) hn3 dX0_image_34 ?_
    refine lv_aload_n hx hb dX0_image_35 rfl (lv_at hl 0 rfl) ?_
    refine x_get hx hb hts in_X0 hown hK hH hR3.o rfl 0 (by decide) q339 (fun _ h9 => h9) rfl (by decide) dX0_image_36 ?_
    refine x_callv (x_runV (As := [.ref (gb x2 0 0)]) (rest := []) S hH hK (fun _ _ hW => XN.warm hW hXN) XN_b hl.1 (hG3 0 (by decide)).1 rfl (xm_X1_take l G M3 x2 ω3 0 (kn + 1) (σ 2) k0 _ (hR3.2.2.2.2.2.2.1 (show (0 : Nat) ≠ kn + 1 by omega)) hG3 hR3.2.2.1 (by omega) (by omega) hI.c (hfk_of hI)) (lw_V q1424 q1425 q1426 q106 q1427) kd_X1_take rfl rfl dX0_image_39) hH hA (fun M39_ H locs q_39 hH hz_39 => ?_)
    obtain ⟨x4, ω4, hT4, hB4⟩ := q_39
    have hR4 := hR3.imaged (by omega) hkn hn3 hT4 hB4 hW hIm
    refine lv_aload_n hx hb dX0_image_42 rfl (lv_at hl 0 rfl) ?_
    refine n_iconst hx hb dX0_image_43 ?_
    refine x_calli (x_runV (As := [.int (iI 0)]) (rest := []) S hH hK (fun _ _ hW => XN.warm hW hXN) XN_b hl.1 hR4.o rfl (xm_X0_done l G M39_ (st (sa σ 3 (cpA (σ 3) (11370 * k) 11370 (σ 2))) 4 k 1) x4 ω4 a 0 _ hR4) (lw_V q425 q427 qs1 q105 q428) kd_X0_done rfl rfl dX0_image_44) hH hA (fun z44 M44_ H locs q_44 hH hz_44 => ?_)
    obtain ⟨e_44, ω44x, hR44x⟩ := q_44
    subst e_44
    refine W.widen (k := 140) (n := 1500) (Nat.le_of_ble_eq_true rfl) (Nat.le_of_ble_eq_true rfl) ?_
    refine x_iret hx hb hr hlk hH dX0_image_47 ?_
    exact cmd_ret2 (F := imageF σ k) (by unfold imageF; (repeat' split) <;> first | rfl | (exfalso; omega)) hR44x
  · -- 7F
    refine lv_aload_n hx hb dX0_image_10 rfl (lv_at hl 0 rfl) ?_
    refine n_iconst hx hb dX0_image_11 ?_
    refine x_calli (x_runV (As := [.int (iI (-1))]) (rest := []) S hH hK (fun _ _ hW => XN.warm hW hXN) XN_b hl.1 hR.o rfl (xm_X0_refuse l G M σ x ω a (-1) _ hR (by omega) (by omega)) (lw_V q393 q395 qs0 q105 q396) kd_X0_refuse rfl rfl dX0_image_12) hH hA (fun z12 M12_ H locs q_12 hH hz_12 => ?_)
    obtain ⟨e_12, ω12x, hR12x⟩ := q_12
    subst e_12
    refine W.widen (k := 140) (n := 1500) (Nat.le_of_ble_eq_true rfl) (Nat.le_of_ble_eq_true rfl) ?_
    refine x_iret hx hb hr hlk hH dX0_image_15 ?_
    exact cmd_ret2 (F := imageF σ k) (by unfold imageF; (repeat' split) <;> first | rfl | (exfalso; omega)) hR12x
theorem kd_X0_back : yX0_back.cls = RX0 ∧ yX0_back.cls ≠ "java/lang/invoke/MethodHandle" ∧ yX0_back.cls ≠ "java/lang/invoke/VarHandle" ∧ (parseMethodDescriptor yX0_back.desc).map (fun d => d.parameters.length) = some 1 := by decide +kernel
theorem xm_X0_back (l : Launch) (G : MG) (M : Hp) (σ : St) (x : XGh) (ω : XCt) (a : Nat) (k : Int) (sz : Nat) (hR : RX G M a σ x ω) (h_k : R32 k) (hIm0 : ∀ j : Nat, j < 2 → σ 4 j = 1 → KI (imK σ j) ∧ TT (imK σ j)) (hI : KI (σ 2)) (hT : TT (σ 2)) (h40 : F40 σ) : Met l yX0_back (ws_ yX0_back cX0_back 2 (some .int)) (rmX 12 140 1500) (xP G XN [.ref a, .int (iI k)] M sz) (xQi G (DA M sz) (fun z M' => z = (backF σ k).1 ∧ ∃ x' ω', RX G M' a (backF σ k).2 x' ω')) 140 1500 (DA M sz) := by
  refine x_start (by decide) (Nat.le_of_ble_eq_true rfl) ?_
  intro p e s m below meth c ⟨S, hr, hlk, hH, hK, hXN, hsz, hnm⟩ ls hl
  subst hsz
  obtain ⟨hx, hb, hml, hown, hts⟩ := S
  have S : CallFix p m c _ _ s _ lw_all RX0 := ⟨hx, hb, hml, hown, hts⟩
  have hA : ∀ q, s.heap.size ≤ q → DA M s.heap.size q := fun q hq => Or.inr hq
  have hl : lv_has ls 2 [(0, .ref a), (1, .int (iI k))] := hl
  have b0 := hI.c
  unfold kCnt at b0
  have h_k := R32.n h_k
  have hfD : BenchAt G M x ω 0 (σ 2) := hR.2.2.2.2.2.2.1
  have hW := WK_of hI hT
  by_cases h01 : 0 ≤ k ∧ k ≤ 1
  obtain ⟨kn, hkn⟩ : ∃ kn : Nat, (kn : Int) = k := ⟨k.toNat, by omega⟩
  obtain ⟨s1, g2, g3⟩ | ⟨s1, g2⟩ := hR.2.2.2.2.2.2.2 kn (by omega)
  · -- an image
    rw [hkn] at s1 g2 g3
    have hIm := hIm0 kn (by omega) (by rw [hkn]; exact s1)
    rw [hkn] at hIm
    have fI : M (gb x (kn + 1) 0) = some (oB 2 (bF (imK σ k) x (kn + 1))) := (g3.1 0 (by decide)).1
    refine lv_iload_n hx hb dX0_back_0 rfl (lv_at hl 1 rfl) ?_
    refine n_i2l hx hb (r32 (by omega)) dX0_back_1 ?_
    refine n_lconst (z := 0) hx hb dX0_back_2 (by decide) ?_
    refine n_lconst (z := 1) hx hb dX0_back_3 (by decide) ?_
    refine x_calliF (x_runS (As := [.long (lI k), .long (lI 0), .long (lI 1)]) (rest := []) S hH hK (fun _ _ hW => XN.warm hW hXN) XN_b hl.1 (xm_X0_in l G M k 0 1 _ (r64 (by omega)) (r64 (by omega)) (r64 (by omega))) (lw_S q386 q387 q105 q388) kd_X0_in rfl rfl dX0_back_4) hH hA (fun H locs hH => ?_)
    refine z_if_ne (tgt := 16) hx hb dX0_back_7 (by decide) (fun c_7 => ?_) (fun c_7 => ?_)
    · -- 7T
      refine lv_aload_n hx hb dX0_back_16 rfl (lv_at hl 0 rfl) ?_
      refine x_get hx hb hts in_X0 hown hK hH hR.o rfl 1 (by decide) q340 (fun _ h9 => h9) rfl (by decide) dX0_back_17 ?_
      refine lv_iload_n hx hb dX0_back_20 rfl (lv_at hl 1 rfl) ?_
      refine x_aald hx hb hK hH 4 hR.p1 rfl (by omega) (by omega) (Nat.le_of_ble_eq_true rfl) (v := some (gb x (kn + 1) 0)) g2 dX0_back_21 ?_
      refine lv_ifnonnull (tgt := 32) hx hb dX0_back_22 (by decide) ?_
      refine lv_aload_n hx hb dX0_back_32 rfl (lv_at hl 0 rfl) ?_
      refine x_get hx hb hts in_X0 hown hK hH hR.o rfl 0 (by decide) q339 (fun _ h9 => h9) rfl (by decide) dX0_back_33 ?_
      refine lv_aload_n hx hb dX0_back_36 rfl (lv_at hl 0 rfl) ?_
      refine x_get hx hb hts in_X0 hown hK hH hR.o rfl 1 (by decide) q340 (fun _ h9 => h9) rfl (by decide) dX0_back_37 ?_
      refine lv_iload_n hx hb dX0_back_40 rfl (lv_at hl 1 rfl) ?_
      refine x_aald hx hb hK hH 4 hR.p1 rfl (by omega) (by omega) (Nat.le_of_ble_eq_true rfl) (v := some (gb x (kn + 1) 0)) g2 dX0_back_41 ?_
      refine x_callv (x_runV (As := [.ref (gb x (kn + 1) 0)]) (rest := []) S hH hK (fun _ _ hW => XN.warm hW hXN) XN_b hl.1 hR.b0 rfl (xm_X1_take l G M x ω (kn + 1) 0 (imK σ k) (σ 2) _ g3 hfD.1 hR.2.2.1 (by omega) (by omega) hIm.1.c (hfk_of hIm.1)) (lw_V q1424 q1425 q1426 q106 q1427) kd_X1_take rfl rfl dX0_back_42) hH hA (fun M42_ H locs q_42 hH hz_42 => ?_)
      obtain ⟨x4, ω4, hT4, hB4⟩ := q_42
      have hR4 := hR.backed hkn hT4 hB4 (WK_of hIm.1 hIm.2)
      refine lv_aload_n hx hb dX0_back_45 rfl (lv_at hl 0 rfl) ?_
      refine n_iconst hx hb dX0_back_46 ?_
      refine x_calli (x_runV (As := [.int (iI 0)]) (rest := []) S hH hK (fun _ _ hW => XN.warm hW hXN) XN_b hl.1 hR4.o rfl (xm_X0_done l G M42_ (sa σ 2 (cpA (σ 2) 0 11370 (fun i => σ 3 (11370 * k + i)))) x4 ω4 a 0 _ hR4) (lw_V q425 q427 qs1 q105 q428) kd_X0_done rfl rfl dX0_back_47) hH hA (fun z47 M47_ H locs q_47 hH hz_47 => ?_)
      obtain ⟨e_47, ω47x, hR47x⟩ := q_47
      subst e_47
      refine W.widen (k := 140) (n := 1500) (Nat.le_of_ble_eq_true rfl) (Nat.le_of_ble_eq_true rfl) ?_
      refine x_iret hx hb hr hlk hH dX0_back_50 ?_
      exact cmd_ret2 (F := backF σ k) (by unfold backF; first | (rw [if_pos (by omega), if_neg (by omega)]; done) | (rw [if_neg (by omega)]; done)) hR47x
    · -- 7F
      refine lv_aload_n hx hb dX0_back_10 rfl (lv_at hl 0 rfl) ?_
      refine n_iconst hx hb dX0_back_11 ?_
      refine x_calli (x_runV (As := [.int (iI (-1))]) (rest := []) S hH hK (fun _ _ hW => XN.warm hW hXN) XN_b hl.1 hR.o rfl (xm_X0_refuse l G M σ x ω a (-1) _ hR (by omega) (by omega)) (lw_V q393 q395 qs0 q105 q396) kd_X0_refuse rfl rfl dX0_back_12) hH hA (fun z12 M12_ H locs q_12 hH hz_12 => ?_)
      obtain ⟨e_12, ω12x, hR12x⟩ := q_12
      subst e_12
      refine W.widen (k := 140) (n := 1500) (Nat.le_of_ble_eq_true rfl) (Nat.le_of_ble_eq_true rfl) ?_
      refine x_iret hx hb hr hlk hH dX0_back_15 ?_
      exact cmd_ret2 (F := backF σ k) (by unfold backF; first | (rw [if_pos (by omega), if_neg (by omega)]; done) | (rw [if_neg (by omega)]; done)) hR12x
  · -- none
    rw [hkn] at s1 g2
    refine lv_iload_n hx hb dX0_back_0 rfl (lv_at hl 1 rfl) ?_
    refine n_i2l hx hb (r32 (by omega)) dX0_back_1 ?_
    refine n_lconst (z := 0) hx hb dX0_back_2 (by decide) ?_
    refine n_lconst (z := 1) hx hb dX0_back_3 (by decide) ?_
    refine x_calliF (x_runS (As := [.long (lI k), .long (lI 0), .long (lI 1)]) (rest := []) S hH hK (fun _ _ hW => XN.warm hW hXN) XN_b hl.1 (xm_X0_in l G M k 0 1 _ (r64 (by omega)) (r64 (by omega)) (r64 (by omega))) (lw_S q386 q387 q105 q388) kd_X0_in rfl rfl dX0_back_4) hH hA (fun H locs hH => ?_)
    refine z_if_ne (tgt := 16) hx hb dX0_back_7 (by decide) (fun c_7 => ?_) (fun c_7 => ?_)
    · -- 7T
      refine lv_aload_n hx hb dX0_back_16 rfl (lv_at hl 0 rfl) ?_
      refine x_get hx hb hts in_X0 hown hK hH hR.o rfl 1 (by decide) q340 (fun _ h9 => h9) rfl (by decide) dX0_back_17 ?_
      refine lv_iload_n hx hb dX0_back_20 rfl (lv_at hl 1 rfl) ?_
      refine x_aald hx hb hK hH 4 hR.p1 rfl (by omega) (by omega) (Nat.le_of_ble_eq_true rfl) (v := none) g2 dX0_back_21 ?_
      refine lv_ifnonnullN hx hb dX0_back_22 ?_
      refine lv_aload_n hx hb dX0_back_25 rfl (lv_at hl 0 rfl) ?_
      refine n_bipush (z := -2) hx hb dX0_back_26 (by decide) ?_
      refine x_calli (x_runV (As := [.int (iI (-2))]) (rest := []) S hH hK (fun _ _ hW => XN.warm hW hXN) XN_b hl.1 hR.o rfl (xm_X0_refuse l G M σ x ω a (-2) _ hR (by omega) (by omega)) (lw_V q393 q395 qs0 q105 q396) kd_X0_refuse rfl rfl dX0_back_28) hH hA (fun z28 M28_ H locs q_28 hH hz_28 => ?_)
      obtain ⟨e_28, ω28x, hR28x⟩ := q_28
      subst e_28
      refine W.widen (k := 140) (n := 1500) (Nat.le_of_ble_eq_true rfl) (Nat.le_of_ble_eq_true rfl) ?_
      refine x_iret hx hb hr hlk hH dX0_back_31 ?_
      exact cmd_ret2 (F := backF σ k) (by unfold backF; first | (rw [if_pos (by omega), if_pos (by omega)]; done) | (rw [if_neg (by omega)]; done)) hR28x
    · -- 7F
      refine lv_aload_n hx hb dX0_back_10 rfl (lv_at hl 0 rfl) ?_
      refine n_iconst hx hb dX0_back_11 ?_
      refine x_calli (x_runV (As := [.int (iI (-1))]) (rest := []) S hH hK (fun _ _ hW => XN.warm hW hXN) XN_b hl.1 hR.o rfl (xm_X0_refuse l G M σ x ω a (-1) _ hR (by omega) (by omega)) (lw_V q393 q395 qs0 q105 q396) kd_X0_refuse rfl rfl dX0_back_12) hH hA (fun z12 M12_ H locs q_12 hH hz_12 => ?_)
      obtain ⟨e_12, ω12x, hR12x⟩ := q_12
      subst e_12
      refine W.widen (k := 140) (n := 1500) (Nat.le_of_ble_eq_true rfl) (Nat.le_of_ble_eq_true rfl) ?_
      refine x_iret hx hb hr hlk hH dX0_back_15 ?_
      exact cmd_ret2 (F := backF σ k) (by unfold backF; first | (rw [if_pos (by omega), if_pos (by omega)]; done) | (rw [if_neg (by omega)]; done)) hR12x
  · -- out
    refine lv_iload_n hx hb dX0_back_0 rfl (lv_at hl 1 rfl) ?_
    refine n_i2l hx hb (r32 (by omega)) dX0_back_1 ?_
    refine n_lconst (z := 0) hx hb dX0_back_2 (by decide) ?_
    refine n_lconst (z := 1) hx hb dX0_back_3 (by decide) ?_
    refine x_calliF (x_runS (As := [.long (lI k), .long (lI 0), .long (lI 1)]) (rest := []) S hH hK (fun _ _ hW => XN.warm hW hXN) XN_b hl.1 (xm_X0_in l G M k 0 1 _ (r64 (by omega)) (r64 (by omega)) (r64 (by omega))) (lw_S q386 q387 q105 q388) kd_X0_in rfl rfl dX0_back_4) hH hA (fun H locs hH => ?_)
    refine z_if_ne (tgt := 16) hx hb dX0_back_7 (by decide) (fun c_7 => ?_) (fun c_7 => ?_)
    · -- 7T
      refine lv_aload_n hx hb dX0_back_16 rfl (lv_at hl 0 rfl) ?_
      refine x_get hx hb hts in_X0 hown hK hH hR.o rfl 1 (by decide) q340 (fun _ h9 => h9) rfl (by decide) dX0_back_17 ?_
      refine lv_iload_n hx hb dX0_back_20 rfl (lv_at hl 1 rfl) ?_
      refine x_aald hx hb hK hH 4 hR.p1 rfl (by omega) (by omega) (Nat.le_of_ble_eq_true rfl) (v := none) (False.elim (h01 (by omega))) dX0_back_21 ?_
      refine lv_ifnonnullN hx hb dX0_back_22 ?_
      refine lv_aload_n hx hb dX0_back_25 rfl (lv_at hl 0 rfl) ?_
      refine n_bipush (z := -2) hx hb dX0_back_26 (by decide) ?_
      refine x_calli (x_runV (As := [.int (iI (-2))]) (rest := []) S hH hK (fun _ _ hW => XN.warm hW hXN) XN_b hl.1 hR.o rfl (xm_X0_refuse l G M σ x ω a (-2) _ hR (by omega) (by omega)) (lw_V q393 q395 qs0 q105 q396) kd_X0_refuse rfl rfl dX0_back_28) hH hA (fun z28 M28_ H locs q_28 hH hz_28 => ?_)
      obtain ⟨e_28, ω28x, hR28x⟩ := q_28
      subst e_28
      refine W.widen (k := 140) (n := 1500) (Nat.le_of_ble_eq_true rfl) (Nat.le_of_ble_eq_true rfl) ?_
      refine x_iret hx hb hr hlk hH dX0_back_31 ?_
      exact cmd_ret2 (F := backF σ k) (by unfold backF; first | (rw [if_pos (by omega), if_pos (by omega)]; done) | (rw [if_neg (by omega)]; done)) hR28x
    · -- 7F
      refine lv_aload_n hx hb dX0_back_10 rfl (lv_at hl 0 rfl) ?_
      refine n_iconst hx hb dX0_back_11 ?_
      refine x_calli (x_runV (As := [.int (iI (-1))]) (rest := []) S hH hK (fun _ _ hW => XN.warm hW hXN) XN_b hl.1 hR.o rfl (xm_X0_refuse l G M σ x ω a (-1) _ hR (by omega) (by omega)) (lw_V q393 q395 qs0 q105 q396) kd_X0_refuse rfl rfl dX0_back_12) hH hA (fun z12 M12_ H locs q_12 hH hz_12 => ?_)
      obtain ⟨e_12, ω12x, hR12x⟩ := q_12
      subst e_12
      refine W.widen (k := 140) (n := 1500) (Nat.le_of_ble_eq_true rfl) (Nat.le_of_ble_eq_true rfl) ?_
      refine x_iret hx hb hr hlk hH dX0_back_15 ?_
      exact cmd_ret2 (F := backF σ k) (by unfold backF; first | (rw [if_pos (by omega), if_pos (by omega)]; done) | (rw [if_neg (by omega)]; done)) hR12x
