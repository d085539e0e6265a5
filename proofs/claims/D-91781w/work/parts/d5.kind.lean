theorem kd_X0_kind : yX0_kind.cls = RX0 ∧ yX0_kind.cls ≠ "java/lang/invoke/MethodHandle" ∧ yX0_kind.cls ≠ "java/lang/invoke/VarHandle" ∧ (parseMethodDescriptor yX0_kind.desc).map (fun d => d.parameters.length) = some 6 := by decide +kernel
theorem xm_X0_kind (l : Launch) (G : MG) (M : Hp) (σ : St) (x : XGh) (ω : XCt) (a : Nat) (k1 : Int) (k2 : Int) (k3 : Int) (k4 : Int) (k5 : Int) (k6 : Int) (sz : Nat) (hR : RX G M a σ x ω) (h_k1 : R32 k1) (h_k2 : R32 k2) (h_k3 : R32 k3) (h_k4 : R32 k4) (h_k5 : R32 k5) (h_k6 : R32 k6) (hI : KI (σ 2)) (hT : TT (σ 2)) (h40 : F40 σ) : Met l yX0_kind (ws_ yX0_kind cX0_kind 7 (some .int)) (rmX 4 1 6) (xP G XN [.ref a, .int (iI k1), .int (iI k2), .int (iI k3), .int (iI k4), .int (iI k5), .int (iI k6)] M sz) (xQi G (DA M sz) (fun z M' => z = (kindF σ k1 k2 k3 k4 k5 k6).1 ∧ ∃ x' ω', RX G M' a (kindF σ k1 k2 k3 k4 k5 k6).2 x' ω')) 1 6 (DA M sz) := by
  refine x_start (by decide) (Nat.le_of_ble_eq_true rfl) ?_
  intro p e s m below meth c ⟨S, hr, hlk, hH, hK, hXN, hsz, hnm⟩ ls hl
  subst hsz
  obtain ⟨hx, hb, hml, hown, hts⟩ := S
  have S : CallFix p m c _ _ s _ lw_all RX0 := ⟨hx, hb, hml, hown, hts⟩
  have hA : ∀ q, s.heap.size ≤ q → DA M s.heap.size q := fun q hq => Or.inr hq
  have hl : lv_has ls 7 [(0, .ref a), (1, .int (iI k1)), (2, .int (iI k2)), (3, .int (iI k3)), (4, .int (iI k4)), (5, .int (iI k5)), (6, .int (iI k6))] := hl
  have b0 := hI.c
  unfold kCnt at b0
  have h_k1 := R32.n h_k1
  have h_k2 := R32.n h_k2
  have h_k3 := R32.n h_k3
  have h_k4 := R32.n h_k4
  have h_k5 := R32.n h_k5
  have h_k6 := R32.n h_k6
  have hW := WK_of hI hT
  refine lv_iload_n hx hb dX0_kind_0 rfl (lv_at hl 1 rfl) ?_
  refine n_i2l hx hb (r32 (by omega)) dX0_kind_1 ?_
  refine n_lconst (z := 0) hx hb dX0_kind_2 (by decide) ?_
  refine lv_ldc2 (v := lI 7) hx hb hown (hts _ q385) dX0_kind_3 ?_
  refine x_calliF (x_runS (As := [.long (lI k1), .long (lI 0), .long (lI 7)]) (rest := []) S hH hK (fun _ _ hW => XN.warm hW hXN) XN_b hl.1 (xm_X0_in l G M k1 0 7 _ (r64 (by omega)) (r64 (by omega)) (r64 (by omega))) (lw_S q386 q387 q105 q388) kd_X0_in rfl rfl dX0_kind_6) hH hA (fun H locs hH => ?_)
  refine z_if_eq (tgt := 73) hx hb dX0_kind_9 (by decide) (fun c_9 => ?_) (fun c_9 => ?_)
  · -- 9T
    refine lv_aload_n hx hb dX0_kind_73 rfl (lv_at hl 0 rfl) ?_
    refine n_iconst hx hb dX0_kind_74 ?_
    refine x_calli (x_runV (As := [.int (iI (-1))]) (rest := []) S hH hK (fun _ _ hW => XN.warm hW hXN) XN_b hl.1 hR.o rfl (xm_X0_refuse l G M σ x ω a (-1) _ hR (by omega) (by omega)) (lw_V q393 q395 qs0 q105 q396) kd_X0_refuse rfl rfl dX0_kind_75) hH hA (fun z75 M75_ H locs q_75 hH hz_75 => ?_)
    obtain ⟨e_75, ω75x, hR75x⟩ := q_75
    subst e_75
    refine W.widen (k := 1) (n := 6) (Nat.le_of_ble_eq_true rfl) (Nat.le_of_ble_eq_true rfl) ?_
    refine x_iret hx hb hr hlk hH dX0_kind_78 ?_
    exact cmd_ret2 (F := kindF σ k1 k2 k3 k4 k5 k6) (by unfold kindF; (repeat' split) <;> first | rfl | (exfalso; omega)) hR75x
  · -- 9F
    refine lv_iload_n hx hb dX0_kind_12 rfl (lv_at hl 2 rfl) ?_
    refine n_i2l hx hb (r32 (by omega)) dX0_kind_13 ?_
    refine n_lconst (z := 1) hx hb dX0_kind_14 (by decide) ?_
    refine lv_ldc2 (v := lI 255) hx hb hown (hts _ q389) dX0_kind_15 ?_
    refine x_calliF (x_runS (As := [.long (lI k2), .long (lI 1), .long (lI 255)]) (rest := []) S hH hK (fun _ _ hW => XN.warm hW hXN) XN_b hl.1 (xm_X0_in l G M k2 1 255 _ (r64 (by omega)) (r64 (by omega)) (r64 (by omega))) (lw_S q386 q387 q105 q388) kd_X0_in rfl rfl dX0_kind_18) hH hA (fun H locs hH => ?_)
    refine z_if_eq (tgt := 73) hx hb dX0_kind_21 (by decide) (fun c_21 => ?_) (fun c_21 => ?_)
    · -- 21T
      refine lv_aload_n hx hb dX0_kind_73 rfl (lv_at hl 0 rfl) ?_
      refine n_iconst hx hb dX0_kind_74 ?_
      refine x_calli (x_runV (As := [.int (iI (-1))]) (rest := []) S hH hK (fun _ _ hW => XN.warm hW hXN) XN_b hl.1 hR.o rfl (xm_X0_refuse l G M σ x ω a (-1) _ hR (by omega) (by omega)) (lw_V q393 q395 qs0 q105 q396) kd_X0_refuse rfl rfl dX0_kind_75) hH hA (fun z75 M75_ H locs q_75 hH hz_75 => ?_)
      obtain ⟨e_75, ω75x, hR75x⟩ := q_75
      subst e_75
      refine W.widen (k := 1) (n := 6) (Nat.le_of_ble_eq_true rfl) (Nat.le_of_ble_eq_true rfl) ?_
      refine x_iret hx hb hr hlk hH dX0_kind_78 ?_
      exact cmd_ret2 (F := kindF σ k1 k2 k3 k4 k5 k6) (by unfold kindF; (repeat' split) <;> first | rfl | (exfalso; omega)) hR75x
    · -- 21F
      refine lv_iload_n hx hb dX0_kind_24 rfl (lv_at hl 3 rfl) ?_
      refine n_i2l hx hb (r32 (by omega)) dX0_kind_25 ?_
      refine n_lconst (z := 0) hx hb dX0_kind_26 (by decide) ?_
      refine lv_ldc2 (v := lI 63) hx hb hown (hts _ q390) dX0_kind_27 ?_
      refine x_calliF (x_runS (As := [.long (lI k3), .long (lI 0), .long (lI 63)]) (rest := []) S hH hK (fun _ _ hW => XN.warm hW hXN) XN_b hl.1 (xm_X0_in l G M k3 0 63 _ (r64 (by omega)) (r64 (by omega)) (r64 (by omega))) (lw_S q386 q387 q105 q388) kd_X0_in rfl rfl dX0_kind_30) hH hA (fun H locs hH => ?_)
      refine z_if_eq (tgt := 73) hx hb dX0_kind_33 (by decide) (fun c_33 => ?_) (fun c_33 => ?_)
      · -- 33T
        refine lv_aload_n hx hb dX0_kind_73 rfl (lv_at hl 0 rfl) ?_
        refine n_iconst hx hb dX0_kind_74 ?_
        refine x_calli (x_runV (As := [.int (iI (-1))]) (rest := []) S hH hK (fun _ _ hW => XN.warm hW hXN) XN_b hl.1 hR.o rfl (xm_X0_refuse l G M σ x ω a (-1) _ hR (by omega) (by omega)) (lw_V q393 q395 qs0 q105 q396) kd_X0_refuse rfl rfl dX0_kind_75) hH hA (fun z75 M75_ H locs q_75 hH hz_75 => ?_)
        obtain ⟨e_75, ω75x, hR75x⟩ := q_75
        subst e_75
        refine W.widen (k := 1) (n := 6) (Nat.le_of_ble_eq_true rfl) (Nat.le_of_ble_eq_true rfl) ?_
        refine x_iret hx hb hr hlk hH dX0_kind_78 ?_
        exact cmd_ret2 (F := kindF σ k1 k2 k3 k4 k5 k6) (by unfold kindF; (repeat' split) <;> first | rfl | (exfalso; omega)) hR75x
      · -- 33F
        refine lv_iload hx hb dX0_kind_36 (lv_at hl 4 rfl) ?_
        refine n_i2l hx hb (r32 (by omega)) dX0_kind_38 ?_
        refine n_lconst (z := 1) hx hb dX0_kind_39 (by decide) ?_
        refine lv_ldc2 (v := lI 100) hx hb hown (hts _ q391) dX0_kind_40 ?_
        refine x_calliF (x_runS (As := [.long (lI k4), .long (lI 1), .long (lI 100)]) (rest := []) S hH hK (fun _ _ hW => XN.warm hW hXN) XN_b hl.1 (xm_X0_in l G M k4 1 100 _ (r64 (by omega)) (r64 (by omega)) (r64 (by omega))) (lw_S q386 q387 q105 q388) kd_X0_in rfl rfl dX0_kind_43) hH hA (fun H locs hH => ?_)
        refine z_if_eq (tgt := 73) hx hb dX0_kind_46 (by decide) (fun c_46 => ?_) (fun c_46 => ?_)
        · -- 46T
          refine lv_aload_n hx hb dX0_kind_73 rfl (lv_at hl 0 rfl) ?_
          refine n_iconst hx hb dX0_kind_74 ?_
          refine x_calli (x_runV (As := [.int (iI (-1))]) (rest := []) S hH hK (fun _ _ hW => XN.warm hW hXN) XN_b hl.1 hR.o rfl (xm_X0_refuse l G M σ x ω a (-1) _ hR (by omega) (by omega)) (lw_V q393 q395 qs0 q105 q396) kd_X0_refuse rfl rfl dX0_kind_75) hH hA (fun z75 M75_ H locs q_75 hH hz_75 => ?_)
          obtain ⟨e_75, ω75x, hR75x⟩ := q_75
          subst e_75
          refine W.widen (k := 1) (n := 6) (Nat.le_of_ble_eq_true rfl) (Nat.le_of_ble_eq_true rfl) ?_
          refine x_iret hx hb hr hlk hH dX0_kind_78 ?_
          exact cmd_ret2 (F := kindF σ k1 k2 k3 k4 k5 k6) (by unfold kindF; (repeat' split) <;> first | rfl | (exfalso; omega)) hR75x
        · -- 46F
          refine lv_iload hx hb dX0_kind_49 (lv_at hl 5 rfl) ?_
          refine n_i2l hx hb (r32 (by omega)) dX0_kind_51 ?_
          refine n_lconst (z := 0) hx hb dX0_kind_52 (by decide) ?_
          refine n_lconst (z := 1) hx hb dX0_kind_53 (by decide) ?_
          refine x_calliF (x_runS (As := [.long (lI k5), .long (lI 0), .long (lI 1)]) (rest := []) S hH hK (fun _ _ hW => XN.warm hW hXN) XN_b hl.1 (xm_X0_in l G M k5 0 1 _ (r64 (by omega)) (r64 (by omega)) (r64 (by omega))) (lw_S q386 q387 q105 q388) kd_X0_in rfl rfl dX0_kind_54) hH hA (fun H locs hH => ?_)
          refine z_if_eq (tgt := 73) hx hb dX0_kind_57 (by decide) (fun c_57 => ?_) (fun c_57 => ?_)
          · -- 57T
            refine lv_aload_n hx hb dX0_kind_73 rfl (lv_at hl 0 rfl) ?_
            refine n_iconst hx hb dX0_kind_74 ?_
            refine x_calli (x_runV (As := [.int (iI (-1))]) (rest := []) S hH hK (fun _ _ hW => XN.warm hW hXN) XN_b hl.1 hR.o rfl (xm_X0_refuse l G M σ x ω a (-1) _ hR (by omega) (by omega)) (lw_V q393 q395 qs0 q105 q396) kd_X0_refuse rfl rfl dX0_kind_75) hH hA (fun z75 M75_ H locs q_75 hH hz_75 => ?_)
            obtain ⟨e_75, ω75x, hR75x⟩ := q_75
            subst e_75
            refine W.widen (k := 1) (n := 6) (Nat.le_of_ble_eq_true rfl) (Nat.le_of_ble_eq_true rfl) ?_
            refine x_iret hx hb hr hlk hH dX0_kind_78 ?_
            exact cmd_ret2 (F := kindF σ k1 k2 k3 k4 k5 k6) (by unfold kindF; (repeat' split) <;> first | rfl | (exfalso; omega)) hR75x
          · -- 57F
            refine lv_iload hx hb dX0_kind_60 (lv_at hl 6 rfl) ?_
            refine n_i2l hx hb (r32 (by omega)) dX0_kind_62 ?_
            refine n_lconst (z := 0) hx hb dX0_kind_63 (by decide) ?_
            refine lv_ldc2 (v := lI 3) hx hb hown (hts _ q392) dX0_kind_64 ?_
            refine x_calliF (x_runS (As := [.long (lI k6), .long (lI 0), .long (lI 3)]) (rest := []) S hH hK (fun _ _ hW => XN.warm hW hXN) XN_b hl.1 (xm_X0_in l G M k6 0 3 _ (r64 (by omega)) (r64 (by omega)) (r64 (by omega))) (lw_S q386 q387 q105 q388) kd_X0_in rfl rfl dX0_kind_67) hH hA (fun H locs hH => ?_)
            refine z_if_ne (tgt := 79) hx hb dX0_kind_70 (by decide) (fun c_70 => ?_) (fun c_70 => ?_)
            · -- 70T
              refine lv_aload_n hx hb dX0_kind_79 rfl (lv_at hl 0 rfl) ?_
              refine x_get hx hb hts in_X0 hown hK hH hR.o rfl 0 (by decide) q339 (fun _ h9 => h9) rfl (by decide) dX0_kind_80 ?_
              refine x_getN hx hb hts in_X1 hown hK hH hR.b0 rfl 1 (by decide) hXN q164 (fun _ h9 => h9) rfl (by decide) dX0_kind_83 ?_
              refine n_bipush (z := 8) hx hb dX0_kind_86 (by decide) ?_
              refine n_icmp_ne (tgt := 98) hx hb (r32 (by omega)) (r32 (by omega)) dX0_kind_88 (by decide) (fun c_88 => ?_) (fun c_88 => ?_)
              · -- 88T
                refine lv_aload_n hx hb dX0_kind_98 rfl (lv_at hl 0 rfl) ?_
                refine x_get hx hb hts in_X0 hown hK hH hR.o rfl 0 (by decide) q339 (fun _ h9 => h9) rfl (by decide) dX0_kind_99 ?_
                refine x_getN hx hb hts in_X1 hown hK hH hR.b0 rfl 8 (by decide) hXN q178 (fun _ h9 => h9) rfl (by decide) dX0_kind_102 ?_
                refine lv_aload_n hx hb dX0_kind_105 rfl (lv_at hl 0 rfl) ?_
                refine x_get hx hb hts in_X0 hown hK hH hR.o rfl 0 (by decide) q339 (fun _ h9 => h9) rfl (by decide) dX0_kind_106 ?_
                refine x_getN hx hb hts in_X1 hown hK hH hR.b0 rfl 1 (by decide) hXN q164 (fun _ h9 => h9) rfl (by decide) dX0_kind_109 ?_
                refine x_new (ci := 5) hx hb hts in_X5 tyX5 tyX5_ok hown q397 q398 q110 hK hH hA rfl [.int (iI 0), .int (iI 0), .int (iI 0), .int (iI 0), .int (iI 0), .int (iI 0)] (fun j hj => by rcases (show j = 0 ∨ j = 1 ∨ j = 2 ∨ j = 3 ∨ j = 4 ∨ j = 5 by omega) with rfl | rfl | rfl | rfl | rfl | rfl <;> rfl) (eN_id (by decide)) (Nat.le_of_ble_eq_true rfl) (Nat.le_of_ble_eq_true rfl) dX0_kind_112 (fun q1 H hq1 hH => ?_)
                obtain ⟨M1, e_M1⟩ : ∃ M1, M1 = hs M q1 (oB 5 [.int (iI 0), .int (iI 0), .int (iI 0), .int (iI 0), .int (iI 0), .int (iI 0)]) := ⟨_, rfl⟩
                have hH := XV_to hH e_M1.symm
                have f1 : M1 q1 = some (oB 5 [.int (iI 0), .int (iI 0), .int (iI 0), .int (iI 0), .int (iI 0), .int (iI 0)]) := by rw [e_M1]; exact hs_s
                have hR2 : RX G M1 a σ (xw x q1 1) ω := by rw [e_M1]; exact hR.al hq1 1
                have hw2_q1 : gw (xw x q1 1) q1 = 1 := xw_s
                refine lv_dup hx hb dX0_kind_115 rfl ?_
                refine lv_iload_n hx hb dX0_kind_116 rfl (lv_at hl 1 rfl) ?_
                refine lv_iload_n hx hb dX0_kind_117 rfl (lv_at hl 2 rfl) ?_
                refine lv_iload_n hx hb dX0_kind_118 rfl (lv_at hl 3 rfl) ?_
                refine lv_iload hx hb dX0_kind_119 (lv_at hl 4 rfl) ?_
                refine lv_iload hx hb dX0_kind_121 (lv_at hl 5 rfl) ?_
                refine n_iconst hx hb dX0_kind_123 ?_
                refine n_icmp_ne (tgt := 131) hx hb (r32 (by omega)) (r32 (by omega)) dX0_kind_124 (by decide) (fun c_124 => ?_) (fun c_124 => ?_)
                · -- 124T
                  refine n_iconst hx hb dX0_kind_131 ?_
                  refine W.eq (g2 := F0 m 132 ls (.int (iI k5) :: .int (iI k4) :: .int (iI k3) :: .int (iI k2) :: .int (iI k1) :: .ref q1 :: .ref q1 :: .int (iI (σ 2 1752)) :: .ref (gb x 0 8) :: [])) (by rw [show k5 = 0 by omega]) ?_
                  refine lv_iload hx hb dX0_kind_132 (lv_at hl 6 rfl) ?_
                  refine x_callv (x_runI (As := [.int (iI k1), .int (iI k2), .int (iI k3), .int (iI k4), .int (iI k5), .int (iI k6)]) (rest := [.ref q1, .int (iI (σ 2 1752)), .ref (gb x 0 8)]) S hH hK (fun _ _ hW => XN.warm hW hXN) XN_b hl.1 (xm_X5_init l G M1 q1 k1 k2 k3 k4 k5 k6 _ f1 (by omega)) (lw_meth q401) q110 q399 q400 kd_X5_init rfl rfl dX0_kind_134) hH hA (fun M134_ H locs q_134 hH hz_134 => ?_)
                  have e_M134_ := q_134
                  have f3 : M134_ q1 = some (oB 5 [.int (iI k1), .int (iI k2), .int (iI k3), .int (iI k4), .int (iI k6), .int (iI k5)]) := by rw [e_M134_]; exact hs_s
                  have hR4 : RX G M134_ a σ (xw x q1 1) ω := by rw [e_M134_]; exact hR2.tmp hw2_q1
                  have hR5 := hR4.fz (e := (oB 5 [.int (iI k1), .int (iI k2), .int (iI k3), .int (iI k4), .int (iI k6), .int (iI k5)])) hw2_q1 f3
                  have hI5_q1 : gI (xi (xw x q1 1) q1 (oB 5 [.int (iI k1), .int (iI k2), .int (iI k3), .int (iI k4), .int (iI k6), .int (iI k5)])) q1 = some (oB 5 [.int (iI k1), .int (iI k2), .int (iI k3), .int (iI k4), .int (iI k6), .int (iI k5)]) := xi_s
                  refine x_aast (E := "BrothFlasks$Kind") hx hb hK hXN hH hR5.b8 rfl (hR5.sub _ _ hI5_q1) rfl (Or.inl rfl) (by omega) (by omega) (Nat.le_of_ble_eq_true rfl) dX0_kind_137 (fun H locs hH => ?_)
                  obtain ⟨M6, e_M6⟩ : ∃ M6, M6 = hs M134_ (gb x 0 8) (aQ (G.2.1 5) 8 (upq (gq ω 0 8) (σ 2 1752) (some q1))) := ⟨_, rfl⟩
                  have hH := XV_to hH e_M6.symm
                  have f6 : M6 (gb x 0 8) = some (aQ (G.2.1 5) 8 (upq (gq ω 0 8) (σ 2 1752) (some q1))) := by rw [e_M6]; exact hs_s
                  obtain ⟨ω7, hR7, hQ7⟩ : ∃ ω7, RX G M6 a σ (xi (xw x q1 1) q1 (oB 5 [.int (iI k1), .int (iI k2), .int (iI k3), .int (iI k4), .int (iI k6), .int (iI k5)])) ω7 ∧ gq ω7 0 8 = upq (gq ω 0 8) (σ 2 1752) (some q1) := ⟨_, by rw [e_M6]; exact hR5.aq h40 (k := 8) (i := (σ 2 1752)) (y := q1) (Or.inl ⟨rfl, Int.le_refl _, _, hI5_q1⟩) rfl, qS_s⟩
                  refine lv_aload_n hx hb dX0_kind_138 rfl (lv_at hl 0 rfl) ?_
                  refine x_get hx hb hts in_X0 hown hK hH hR7.o rfl 0 (by decide) q339 (fun _ h9 => h9) rfl (by decide) dX0_kind_139 ?_
                  refine lv_dup hx hb dX0_kind_142 rfl ?_
                  refine x_getN hx hb hts in_X1 hown hK hH hR7.b0 rfl 1 (by decide) hXN q164 (fun _ h9 => h9) rfl (by decide) dX0_kind_143 ?_
                  refine n_iconst hx hb dX0_kind_146 ?_
                  refine n_iadd hx hb dX0_kind_147 ?_
                  refine x_putN (ty := .int) hx hb hts in_X1 tyX1 tyX1_ok nmX1 hown hK hH hR7.b0 rfl 1 (by decide) hXN q164 (fun _ h9 => h9) rfl (by decide +kernel) rfl rfl (Nat.le_of_ble_eq_true rfl) (by decide) dX0_kind_148 (fun H locs hH => ?_)
                  obtain ⟨M8, e_M8⟩ : ∃ M8, M8 = hs M6 (gb x 0 0) (oB 2 [.int (iI (σ 2 1750)), .int (iI ((σ 2 1752) + 1)), .int (iI (σ 2 1753)), .int (iI (σ 2 1754)), .int (iI (σ 2 1755)), .int (iI (σ 2 1756)), .int (iI (σ 2 1757)), .long (lI (σ 2 1751)), .ref (gb x 0 8), .ref (gb x 0 9), .ref (gb x 0 10), .ref (gb x 0 11), .ref (gb x 0 12), .ref (gb x 0 13), .ref (gb x 0 14), .ref (gb x 0 15), .ref (gb x 0 16), .ref (gb x 0 17), .ref (gb x 0 18), .ref (gb x 0 19), .ref (gb x 0 20), .ref (gb x 0 21)]) := ⟨_, rfl⟩
                  have hH := XV_to hH e_M8.symm
                  have f8 : M8 (gb x 0 0) = some (oB 2 [.int (iI (σ 2 1750)), .int (iI ((σ 2 1752) + 1)), .int (iI (σ 2 1753)), .int (iI (σ 2 1754)), .int (iI (σ 2 1755)), .int (iI (σ 2 1756)), .int (iI (σ 2 1757)), .long (lI (σ 2 1751)), .ref (gb x 0 8), .ref (gb x 0 9), .ref (gb x 0 10), .ref (gb x 0 11), .ref (gb x 0 12), .ref (gb x 0 13), .ref (gb x 0 14), .ref (gb x 0 15), .ref (gb x 0 16), .ref (gb x 0 17), .ref (gb x 0 18), .ref (gb x 0 19), .ref (gb x 0 20), .ref (gb x 0 21)]) := by rw [e_M8]; exact hs_s
                  obtain ⟨ω9, hR9⟩ : ∃ ω9, RX G M8 a (kindS σ k1 k2 k3 k4 k5 k6) (xi (xw x q1 1) q1 (oB 5 [.int (iI k1), .int (iI k2), .int (iI k3), .int (iI k4), .int (iI k6), .int (iI k5)])) ω9 := ⟨_, by rw [e_M8]; exact (hR7.kindJ hI hT h40 (by omega) (by rw [hQ7]; exact upq_s) hI5_q1)⟩
                  refine lv_aload_n hx hb dX0_kind_151 rfl (lv_at hl 0 rfl) ?_
                  refine lv_aload_n hx hb dX0_kind_152 rfl (lv_at hl 0 rfl) ?_
                  refine x_get hx hb hts in_X0 hown hK hH hR9.o rfl 0 (by decide) q339 (fun _ h9 => h9) rfl (by decide) dX0_kind_153 ?_
                  refine x_getN hx hb hts in_X1 hown hK hH hR9.b0 rfl 1 (by decide) hXN q164 (fun _ h9 => h9) rfl (by decide) dX0_kind_156 ?_
                  refine W.eq (g2 := F0 m 159 ls (.int (iI (σ 2 1752 + 1)) :: .ref a :: [])) (by rw [kindS_c]) ?_
                  refine n_iconst hx hb dX0_kind_159 ?_
                  refine n_isub hx hb dX0_kind_160 ?_
                  refine W.eq (g2 := F0 m 161 ls (.int (iI (σ 2 1752)) :: .ref a :: [])) (by rw [show σ 2 1752 + 1 - 1 = σ 2 1752 by omega]) ?_
                  refine x_calli (x_runV (As := [.int (iI (σ 2 1752))]) (rest := []) S hH hK (fun _ _ hW => XN.warm hW hXN) XN_b hl.1 hR9.o rfl (xm_X0_done l G M8 (kindS σ k1 k2 k3 k4 k5 k6) (xi (xw x q1 1) q1 (oB 5 [.int (iI k1), .int (iI k2), .int (iI k3), .int (iI k4), .int (iI k6), .int (iI k5)])) ω9 a (σ 2 1752) _ hR9) (lw_V q425 q427 qs1 q105 q428) kd_X0_done rfl rfl dX0_kind_161) hH hA (fun z161 M161_ H locs q_161 hH hz_161 => ?_)
                  obtain ⟨e_161, ω161x, hR161x⟩ := q_161
                  subst e_161
                  refine W.widen (k := 1) (n := 6) (Nat.le_of_ble_eq_true rfl) (Nat.le_of_ble_eq_true rfl) ?_
                  refine x_iret hx hb hr hlk hH dX0_kind_164 ?_
                  exact cmd_ret2 (F := kindF σ k1 k2 k3 k4 k5 k6) (by unfold kindF; (repeat' split) <;> first | rfl | (exfalso; omega)) hR161x
                · -- 124F
                  refine n_iconst hx hb dX0_kind_127 ?_
                  refine lv_goto (tgt := 132) hx hb dX0_kind_128 (by decide) ?_
                  refine W.eq (g2 := F0 m 132 ls (.int (iI k5) :: .int (iI k4) :: .int (iI k3) :: .int (iI k2) :: .int (iI k1) :: .ref q1 :: .ref q1 :: .int (iI (σ 2 1752)) :: .ref (gb x 0 8) :: [])) (by rw [show k5 = 1 by omega]) ?_
                  refine lv_iload hx hb dX0_kind_132 (lv_at hl 6 rfl) ?_
                  refine x_callv (x_runI (As := [.int (iI k1), .int (iI k2), .int (iI k3), .int (iI k4), .int (iI k5), .int (iI k6)]) (rest := [.ref q1, .int (iI (σ 2 1752)), .ref (gb x 0 8)]) S hH hK (fun _ _ hW => XN.warm hW hXN) XN_b hl.1 (xm_X5_init l G M1 q1 k1 k2 k3 k4 k5 k6 _ f1 (by omega)) (lw_meth q401) q110 q399 q400 kd_X5_init rfl rfl dX0_kind_134) hH hA (fun M134_ H locs q_134 hH hz_134 => ?_)
                  have e_M134_ := q_134
                  have f10 : M134_ q1 = some (oB 5 [.int (iI k1), .int (iI k2), .int (iI k3), .int (iI k4), .int (iI k6), .int (iI k5)]) := by rw [e_M134_]; exact hs_s
                  have hR11 : RX G M134_ a σ (xw x q1 1) ω := by rw [e_M134_]; exact hR2.tmp hw2_q1
                  have hR12 := hR11.fz (e := (oB 5 [.int (iI k1), .int (iI k2), .int (iI k3), .int (iI k4), .int (iI k6), .int (iI k5)])) hw2_q1 f10
                  have hI12_q1 : gI (xi (xw x q1 1) q1 (oB 5 [.int (iI k1), .int (iI k2), .int (iI k3), .int (iI k4), .int (iI k6), .int (iI k5)])) q1 = some (oB 5 [.int (iI k1), .int (iI k2), .int (iI k3), .int (iI k4), .int (iI k6), .int (iI k5)]) := xi_s
                  refine x_aast (E := "BrothFlasks$Kind") hx hb hK hXN hH hR12.b8 rfl (hR12.sub _ _ hI12_q1) rfl (Or.inl rfl) (by omega) (by omega) (Nat.le_of_ble_eq_true rfl) dX0_kind_137 (fun H locs hH => ?_)
                  obtain ⟨M13, e_M13⟩ : ∃ M13, M13 = hs M134_ (gb x 0 8) (aQ (G.2.1 5) 8 (upq (gq ω 0 8) (σ 2 1752) (some q1))) := ⟨_, rfl⟩
                  have hH := XV_to hH e_M13.symm
                  have f13 : M13 (gb x 0 8) = some (aQ (G.2.1 5) 8 (upq (gq ω 0 8) (σ 2 1752) (some q1))) := by rw [e_M13]; exact hs_s
                  obtain ⟨ω14, hR14, hQ14⟩ : ∃ ω14, RX G M13 a σ (xi (xw x q1 1) q1 (oB 5 [.int (iI k1), .int (iI k2), .int (iI k3), .int (iI k4), .int (iI k6), .int (iI k5)])) ω14 ∧ gq ω14 0 8 = upq (gq ω 0 8) (σ 2 1752) (some q1) := ⟨_, by rw [e_M13]; exact hR12.aq h40 (k := 8) (i := (σ 2 1752)) (y := q1) (Or.inl ⟨rfl, Int.le_refl _, _, hI12_q1⟩) rfl, qS_s⟩
                  refine lv_aload_n hx hb dX0_kind_138 rfl (lv_at hl 0 rfl) ?_
                  refine x_get hx hb hts in_X0 hown hK hH hR14.o rfl 0 (by decide) q339 (fun _ h9 => h9) rfl (by decide) dX0_kind_139 ?_
                  refine lv_dup hx hb dX0_kind_142 rfl ?_
                  refine x_getN hx hb hts in_X1 hown hK hH hR14.b0 rfl 1 (by decide) hXN q164 (fun _ h9 => h9) rfl (by decide) dX0_kind_143 ?_
                  refine n_iconst hx hb dX0_kind_146 ?_
                  refine n_iadd hx hb dX0_kind_147 ?_
                  refine x_putN (ty := .int) hx hb hts in_X1 tyX1 tyX1_ok nmX1 hown hK hH hR14.b0 rfl 1 (by decide) hXN q164 (fun _ h9 => h9) rfl (by decide +kernel) rfl rfl (Nat.le_of_ble_eq_true rfl) (by decide) dX0_kind_148 (fun H locs hH => ?_)
                  obtain ⟨M15, e_M15⟩ : ∃ M15, M15 = hs M13 (gb x 0 0) (oB 2 [.int (iI (σ 2 1750)), .int (iI ((σ 2 1752) + 1)), .int (iI (σ 2 1753)), .int (iI (σ 2 1754)), .int (iI (σ 2 1755)), .int (iI (σ 2 1756)), .int (iI (σ 2 1757)), .long (lI (σ 2 1751)), .ref (gb x 0 8), .ref (gb x 0 9), .ref (gb x 0 10), .ref (gb x 0 11), .ref (gb x 0 12), .ref (gb x 0 13), .ref (gb x 0 14), .ref (gb x 0 15), .ref (gb x 0 16), .ref (gb x 0 17), .ref (gb x 0 18), .ref (gb x 0 19), .ref (gb x 0 20), .ref (gb x 0 21)]) := ⟨_, rfl⟩
                  have hH := XV_to hH e_M15.symm
                  have f15 : M15 (gb x 0 0) = some (oB 2 [.int (iI (σ 2 1750)), .int (iI ((σ 2 1752) + 1)), .int (iI (σ 2 1753)), .int (iI (σ 2 1754)), .int (iI (σ 2 1755)), .int (iI (σ 2 1756)), .int (iI (σ 2 1757)), .long (lI (σ 2 1751)), .ref (gb x 0 8), .ref (gb x 0 9), .ref (gb x 0 10), .ref (gb x 0 11), .ref (gb x 0 12), .ref (gb x 0 13), .ref (gb x 0 14), .ref (gb x 0 15), .ref (gb x 0 16), .ref (gb x 0 17), .ref (gb x 0 18), .ref (gb x 0 19), .ref (gb x 0 20), .ref (gb x 0 21)]) := by rw [e_M15]; exact hs_s
                  obtain ⟨ω16, hR16⟩ : ∃ ω16, RX G M15 a (kindS σ k1 k2 k3 k4 k5 k6) (xi (xw x q1 1) q1 (oB 5 [.int (iI k1), .int (iI k2), .int (iI k3), .int (iI k4), .int (iI k6), .int (iI k5)])) ω16 := ⟨_, by rw [e_M15]; exact (hR14.kindJ hI hT h40 (by omega) (by rw [hQ14]; exact upq_s) hI12_q1)⟩
                  refine lv_aload_n hx hb dX0_kind_151 rfl (lv_at hl 0 rfl) ?_
                  refine lv_aload_n hx hb dX0_kind_152 rfl (lv_at hl 0 rfl) ?_
                  refine x_get hx hb hts in_X0 hown hK hH hR16.o rfl 0 (by decide) q339 (fun _ h9 => h9) rfl (by decide) dX0_kind_153 ?_
                  refine x_getN hx hb hts in_X1 hown hK hH hR16.b0 rfl 1 (by decide) hXN q164 (fun _ h9 => h9) rfl (by decide) dX0_kind_156 ?_
                  refine W.eq (g2 := F0 m 159 ls (.int (iI (σ 2 1752 + 1)) :: .ref a :: [])) (by rw [kindS_c]) ?_
                  refine n_iconst hx hb dX0_kind_159 ?_
                  refine n_isub hx hb dX0_kind_160 ?_
                  refine W.eq (g2 := F0 m 161 ls (.int (iI (σ 2 1752)) :: .ref a :: [])) (by rw [show σ 2 1752 + 1 - 1 = σ 2 1752 by omega]) ?_
                  refine x_calli (x_runV (As := [.int (iI (σ 2 1752))]) (rest := []) S hH hK (fun _ _ hW => XN.warm hW hXN) XN_b hl.1 hR16.o rfl (xm_X0_done l G M15 (kindS σ k1 k2 k3 k4 k5 k6) (xi (xw x q1 1) q1 (oB 5 [.int (iI k1), .int (iI k2), .int (iI k3), .int (iI k4), .int (iI k6), .int (iI k5)])) ω16 a (σ 2 1752) _ hR16) (lw_V q425 q427 qs1 q105 q428) kd_X0_done rfl rfl dX0_kind_161) hH hA (fun z161 M161_ H locs q_161 hH hz_161 => ?_)
                  obtain ⟨e_161, ω161x, hR161x⟩ := q_161
                  subst e_161
                  refine W.widen (k := 1) (n := 6) (Nat.le_of_ble_eq_true rfl) (Nat.le_of_ble_eq_true rfl) ?_
                  refine x_iret hx hb hr hlk hH dX0_kind_164 ?_
                  exact cmd_ret2 (F := kindF σ k1 k2 k3 k4 k5 k6) (by unfold kindF; (repeat' split) <;> first | rfl | (exfalso; omega)) hR161x
              · -- 88F
                refine lv_aload_n hx hb dX0_kind_91 rfl (lv_at hl 0 rfl) ?_
                refine n_bipush (z := -5) hx hb dX0_kind_92 (by decide) ?_
                refine x_calli (x_runV (As := [.int (iI (-5))]) (rest := []) S hH hK (fun _ _ hW => XN.warm hW hXN) XN_b hl.1 hR.o rfl (xm_X0_refuse l G M σ x ω a (-5) _ hR (by omega) (by omega)) (lw_V q393 q395 qs0 q105 q396) kd_X0_refuse rfl rfl dX0_kind_94) hH hA (fun z94 M94_ H locs q_94 hH hz_94 => ?_)
                obtain ⟨e_94, ω94x, hR94x⟩ := q_94
                subst e_94
                refine W.widen (k := 1) (n := 6) (Nat.le_of_ble_eq_true rfl) (Nat.le_of_ble_eq_true rfl) ?_
                refine x_iret hx hb hr hlk hH dX0_kind_97 ?_
                exact cmd_ret2 (F := kindF σ k1 k2 k3 k4 k5 k6) (by unfold kindF; (repeat' split) <;> first | rfl | (exfalso; omega)) hR94x
            · -- 70F
              refine lv_aload_n hx hb dX0_kind_73 rfl (lv_at hl 0 rfl) ?_
              refine n_iconst hx hb dX0_kind_74 ?_
              refine x_calli (x_runV (As := [.int (iI (-1))]) (rest := []) S hH hK (fun _ _ hW => XN.warm hW hXN) XN_b hl.1 hR.o rfl (xm_X0_refuse l G M σ x ω a (-1) _ hR (by omega) (by omega)) (lw_V q393 q395 qs0 q105 q396) kd_X0_refuse rfl rfl dX0_kind_75) hH hA (fun z75 M75_ H locs q_75 hH hz_75 => ?_)
              obtain ⟨e_75, ω75x, hR75x⟩ := q_75
              subst e_75
              refine W.widen (k := 1) (n := 6) (Nat.le_of_ble_eq_true rfl) (Nat.le_of_ble_eq_true rfl) ?_
              refine x_iret hx hb hr hlk hH dX0_kind_78 ?_
              exact cmd_ret2 (F := kindF σ k1 k2 k3 k4 k5 k6) (by unfold kindF; (repeat' split) <;> first | rfl | (exfalso; omega)) hR75x
