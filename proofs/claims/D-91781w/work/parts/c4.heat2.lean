theorem kd_X0_heat : yX0_heat.cls = RX0 ∧ yX0_heat.cls ≠ "java/lang/invoke/MethodHandle" ∧ yX0_heat.cls ≠ "java/lang/invoke/VarHandle" ∧ (parseMethodDescriptor yX0_heat.desc).map (fun d => d.parameters.length) = some 3 := by decide +kernel
theorem xm_X0_heat (l : Launch) (G : MG) (M : Hp) (σ : St) (x : XGh) (ω : XCt) (a : Nat) (f : Int) (ht : Int) (mi : Int) (sz : Nat) (hR : RX G M a σ x ω) (h_f : R32 f) (h_ht : R32 ht) (h_mi : R32 mi) (hI : KI (σ 2)) (hT : TT (σ 2)) (h40 : F40 σ) : Met l yX0_heat (ws_ yX0_heat cX0_heat 4 (some .int)) (rmD 4) (xP G XN [.ref a, .int (iI f), .int (iI ht), .int (iI mi)] M sz) (xQi G (DA M sz) (fun z M' => z = (heatF σ f ht mi).1 ∧ ∃ ω', RX G M' a (heatF σ f ht mi).2 x ω')) 0 0 (DA M sz) := by
  refine x_start (by decide) (Nat.le_of_ble_eq_true rfl) ?_
  intro p e s m below meth c ⟨S, hr, hlk, hH, hK, hXN, hsz, hnm⟩ ls hl
  subst hsz
  obtain ⟨hx, hb, hml, hown, hts⟩ := S
  have S : CallFix p m c _ _ s _ lw_all RX0 := ⟨hx, hb, hml, hown, hts⟩
  have hA : ∀ q, s.heap.size ≤ q → DA M s.heap.size q := fun q hq => Or.inr hq
  have hl : lv_has ls 4 [(0, .ref a), (1, .int (iI f)), (2, .int (iI ht)), (3, .int (iI mi))] := hl
  have b0 := hI.c
  unfold kCnt at b0
  have h_f := R32.n h_f
  have h_ht := R32.n h_ht
  have h_mi := R32.n h_mi
  have hW := WK_of hI hT
  refine lv_iload_n hx hb dX0_heat_0 rfl (lv_at hl 2 rfl) ?_
  refine n_i2l hx hb (r32 (by omega)) dX0_heat_1 ?_
  refine n_lconst (z := 0) hx hb dX0_heat_2 (by decide) ?_
  refine lv_ldc2 (v := lI 7) hx hb hown (hts _ q385) dX0_heat_3 ?_
  refine x_calliF (x_runS (As := [.long (lI ht), .long (lI 0), .long (lI 7)]) (rest := []) S hH hK (fun _ _ hW => XN.warm hW hXN) XN_b hl.1 (xm_X0_in l G M ht 0 7 _ (r64 (by omega)) (r64 (by omega)) (r64 (by omega))) (lw_S q386 q387 q105 q388) kd_X0_in rfl rfl dX0_heat_6) hH hA (fun H locs hH => ?_)
  refine z_if_eq (tgt := 24) hx hb dX0_heat_9 (by decide) (fun c_9 => ?_) (fun c_9 => ?_)
  · -- 9T
    refine lv_aload_n hx hb dX0_heat_24 rfl (lv_at hl 0 rfl) ?_
    refine n_iconst hx hb dX0_heat_25 ?_
    refine x_calli (x_runV (As := [.int (iI (-1))]) (rest := []) S hH hK (fun _ _ hW => XN.warm hW hXN) XN_b hl.1 hR.o rfl (xm_X0_refuse l G M σ x ω a (-1) _ hR (by omega) (by omega)) (lw_V q393 q395 qs0 q105 q396) kd_X0_refuse rfl rfl dX0_heat_26) hH hA (fun z26 M26_ H locs q_26 hH hz_26 => ?_)
    obtain ⟨e_26, ω26x, hR26x⟩ := q_26
    subst e_26
    refine x_iret hx hb hr hlk hH dX0_heat_29 ?_
    exact cmd_ret (F := heatF σ f ht mi) (by unfold heatF; (repeat' split) <;> first | rfl | (exfalso; omega)) hR26x
  · -- 9F
    refine lv_iload_n hx hb dX0_heat_12 rfl (lv_at hl 3 rfl) ?_
    refine n_i2l hx hb (r32 (by omega)) dX0_heat_13 ?_
    refine n_lconst (z := 1) hx hb dX0_heat_14 (by decide) ?_
    refine lv_ldc2 (v := lI 255) hx hb hown (hts _ q389) dX0_heat_15 ?_
    refine x_calliF (x_runS (As := [.long (lI mi), .long (lI 1), .long (lI 255)]) (rest := []) S hH hK (fun _ _ hW => XN.warm hW hXN) XN_b hl.1 (xm_X0_in l G M mi 1 255 _ (r64 (by omega)) (r64 (by omega)) (r64 (by omega))) (lw_S q386 q387 q105 q388) kd_X0_in rfl rfl dX0_heat_18) hH hA (fun H locs hH => ?_)
    refine z_if_ne (tgt := 30) hx hb dX0_heat_21 (by decide) (fun c_21 => ?_) (fun c_21 => ?_)
    · -- 21T
      refine lv_aload_n hx hb dX0_heat_30 rfl (lv_at hl 0 rfl) ?_
      refine lv_iload_n hx hb dX0_heat_31 rfl (lv_at hl 1 rfl) ?_
      refine x_calliF (x_runV (As := [.int (iI f)]) (rest := []) S hH hK (fun _ _ hW => XN.warm hW hXN) XN_b hl.1 hR.o rfl (xm_X0_isFlask l G M σ x ω a f _ hR (r32 (by omega)) (by omega) (by omega)) (lw_V q639 q641 qs3 q105 q642) kd_X0_isFlask rfl rfl dX0_heat_32) hH hA (fun H locs hH => ?_)
      refine z_if_ne (tgt := 45) hx hb dX0_heat_35 (by decide) (fun c_35 => ?_) (fun c_35 => ?_)
      · -- 35T
        refine lv_aload_n hx hb dX0_heat_45 rfl (lv_at hl 0 rfl) ?_
        refine x_get hx hb hts in_X0 hown hK hH hR.o rfl 0 (by decide) q339 (fun _ h9 => h9) rfl (by decide) dX0_heat_46 ?_
        refine x_getN hx hb hts in_X1 hown hK hH hR.b0 rfl 9 (by decide) hXN q180 (fun _ h9 => h9) rfl (by decide) dX0_heat_49 ?_
        refine lv_iload_n hx hb dX0_heat_52 rfl (lv_at hl 1 rfl) ?_
        obtain ⟨f1, ef1, u1, g1, ga1, gb1⟩ := hR.flaskI (i := f) (by omega) (by omega)
        refine x_aald hx hb hK hH 6 hR.b9 rfl (by omega) (by omega) (Nat.le_of_ble_eq_true rfl) (v := some (gf x 0 f1 0)) u1 dX0_heat_53 ?_
        refine lv_aload_n hx hb dX0_heat_54 rfl (lv_at hl 0 rfl) ?_
        refine x_get hx hb hts in_X0 hown hK hH hR.o rfl 0 (by decide) q339 (fun _ h9 => h9) rfl (by decide) dX0_heat_55 ?_
        refine x_getN hx hb hts in_X1 hown hK hH hR.b0 rfl 0 (by decide) hXN q162 (fun _ h9 => h9) rfl (by decide) dX0_heat_58 ?_
        refine lv_iload_n hx hb dX0_heat_61 rfl (lv_at hl 2 rfl) ?_
        refine lv_iload_n hx hb dX0_heat_62 rfl (lv_at hl 3 rfl) ?_
        refine lv_aload_n hx hb dX0_heat_63 rfl (lv_at hl 0 rfl) ?_
        refine x_get hx hb hts in_X0 hown hK hH hR.o rfl 0 (by decide) q339 (fun _ h9 => h9) rfl (by decide) dX0_heat_64 ?_
        refine x_getN hx hb hts in_X1 hown hK hH hR.b0 rfl 8 (by decide) hXN q178 (fun _ h9 => h9) rfl (by decide) dX0_heat_67 ?_
        refine x_callv (fl_run (As := [.int (iI (σ 2 1750)), .int (iI ht), .int (iI mi), .ref (gb x 0 8)]) (rest := []) (n := 4) S hH hK hXN hl.1 g1 (xm_X6_heat l G M a σ x ω f f1 (σ 2 1750) ht mi (gb x 0 8) _ hR ef1 (by omega) hI hT h40 rfl rfl ⟨by omega, by omega⟩ ⟨by omega, by omega⟩) rfl q643 q645 q648 q646 q647 q644 q111 q649 kd_X6_heat.2 rfl rfl dX0_heat_70 rfl rfl ⟨Nat.le_of_ble_eq_true rfl, Nat.le_of_ble_eq_true rfl⟩ (Nat.le_of_ble_eq_true rfl) ⟨Nat.le_of_ble_eq_true rfl, Nat.le_of_ble_eq_true rfl⟩) hH hA (fun M70_ H locs q_70 hH hz_70 => ?_)
        obtain ⟨ω70x, hR70x⟩ := q_70
        have hc53 : (heatW (heatL σ f ht mi (σ 2 (184 + 26 * f + 16)).toNat).1 f (heatL σ f ht mi (σ 2 (184 + 26 * f + 16)).toNat).2 ht mi (σ 2 1750)) 2 1753 = σ 2 1753 := (heatW_o (by omega)).trans (heatL_o σ f ht mi 1753 _ (by have := heatL_n σ f ht mi (σ 2 (184 + 26 * f + 16)).toNat; have b1 := hI.f f (by omega) (by omega); unfold kFlask fl at b1; omega))
        refine lv_aload_n hx hb dX0_heat_73 rfl (lv_at hl 0 rfl) ?_
        refine lv_aload_n hx hb dX0_heat_74 rfl (lv_at hl 0 rfl) ?_
        refine x_get hx hb hts in_X0 hown hK hH hR70x.o rfl 0 (by decide) q339 (fun _ h9 => h9) rfl (by decide) dX0_heat_75 ?_
        refine x_getN hx hb hts in_X1 hown hK hH hR70x.b0 rfl 9 (by decide) hXN q180 (fun _ h9 => h9) rfl (by decide) dX0_heat_78 ?_
        refine lv_iload_n hx hb dX0_heat_81 rfl (lv_at hl 1 rfl) ?_
        obtain ⟨f2, ef2, u2, g2, ga2, gb2⟩ := hR70x.flaskI (i := f) (by omega) (by omega)
        refine x_aald hx hb hK hH 6 hR70x.b9 rfl (by omega) (by omega) (Nat.le_of_ble_eq_true rfl) (v := some (gf x 0 f2 0)) u2 dX0_heat_82 ?_
        refine x_getFl hx hb hts hown hK hH g2 (fci_c _) 14 (by decide) q537 rfl rfl rfl rfl dX0_heat_83 ?_
        refine W.eq (g2 := F0 m 86 ls (.int (iI ((heatL σ f ht mi (σ 2 (184 + 26 * f + 16)).toNat).2)) :: .ref a :: [])) (by rw [heatW_16]) ?_
        refine x_calli (x_runV (As := [.int (iI ((heatL σ f ht mi (σ 2 (184 + 26 * f + 16)).toNat).2))]) (rest := []) S hH hK (fun _ _ hW => XN.warm hW hXN) XN_b hl.1 hR70x.o rfl (xm_X0_done l G M70_ (heatW (heatL σ f ht mi (σ 2 (184 + 26 * f + 16)).toNat).1 f (heatL σ f ht mi (σ 2 (184 + 26 * f + 16)).toNat).2 ht mi (σ 2 1750)) x ω70x a ((heatL σ f ht mi (σ 2 (184 + 26 * f + 16)).toNat).2) _ hR70x) (lw_V q425 q427 qs1 q105 q428) kd_X0_done rfl rfl dX0_heat_86) hH hA (fun z86 M86_ H locs q_86 hH hz_86 => ?_)
        obtain ⟨e_86, ω86x, hR86x⟩ := q_86
        subst e_86
        refine x_iret hx hb hr hlk hH dX0_heat_89 ?_
        exact cmd_ret (F := heatF σ f ht mi) (by unfold heatF; (repeat' split) <;> first | rfl | (exfalso; omega)) hR86x
      · -- 35F
        refine lv_aload_n hx hb dX0_heat_38 rfl (lv_at hl 0 rfl) ?_
        refine n_bipush (z := -2) hx hb dX0_heat_39 (by decide) ?_
        refine x_calli (x_runV (As := [.int (iI (-2))]) (rest := []) S hH hK (fun _ _ hW => XN.warm hW hXN) XN_b hl.1 hR.o rfl (xm_X0_refuse l G M σ x ω a (-2) _ hR (by omega) (by omega)) (lw_V q393 q395 qs0 q105 q396) kd_X0_refuse rfl rfl dX0_heat_41) hH hA (fun z41 M41_ H locs q_41 hH hz_41 => ?_)
        obtain ⟨e_41, ω41x, hR41x⟩ := q_41
        subst e_41
        refine x_iret hx hb hr hlk hH dX0_heat_44 ?_
        exact cmd_ret (F := heatF σ f ht mi) (by unfold heatF; (repeat' split) <;> first | rfl | (exfalso; omega)) hR41x
    · -- 21F
      refine lv_aload_n hx hb dX0_heat_24 rfl (lv_at hl 0 rfl) ?_
      refine n_iconst hx hb dX0_heat_25 ?_
      refine x_calli (x_runV (As := [.int (iI (-1))]) (rest := []) S hH hK (fun _ _ hW => XN.warm hW hXN) XN_b hl.1 hR.o rfl (xm_X0_refuse l G M σ x ω a (-1) _ hR (by omega) (by omega)) (lw_V q393 q395 qs0 q105 q396) kd_X0_refuse rfl rfl dX0_heat_26) hH hA (fun z26 M26_ H locs q_26 hH hz_26 => ?_)
      obtain ⟨e_26, ω26x, hR26x⟩ := q_26
      subst e_26
      refine x_iret hx hb hr hlk hH dX0_heat_29 ?_
      exact cmd_ret (F := heatF σ f ht mi) (by unfold heatF; (repeat' split) <;> first | rfl | (exfalso; omega)) hR26x
