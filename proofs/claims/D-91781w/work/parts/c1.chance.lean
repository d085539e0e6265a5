theorem kd_X1_chance : yX1_chance.cls = RX1 ∧ yX1_chance.cls ≠ "java/lang/invoke/MethodHandle" ∧ yX1_chance.cls ≠ "java/lang/invoke/VarHandle" ∧ (parseMethodDescriptor yX1_chance.desc).map (fun d => d.parameters.length) = some 1 := by decide +kernel
theorem xm_X1_chance (l : Launch) (G : MG) (M : Hp) (a : Nat) (σ : St) (x : XGh) (ω : XCt) (i_ : Int) (fl_ : Nat) (b_ : Int) (y_ : Nat) (sz : Nat) (hR : RX G M a σ x ω) (gk : M y_ = some (oB (fci (σ 2 (184 + 26 * i_ + 1))) (fFI (σ 2) x 0 fl_ i_))) (hfk : kFlask (σ 2) i_ b_) (hL : kLets (σ 2)) (hC : kCnt (σ 2)) : Met l yX1_chance (ws_ yX1_chance cX1_chance 3 (some .int)) (rmD 2) (xP G XN [.ref (gb x 0 0), .ref y_] M sz) (xQi G (DA M sz) (fun z M' => z = (chF σ i_) ∧ M' = M)) 0 0 (DA M sz) := by
  refine x_start (by decide) (Nat.le_of_ble_eq_true rfl) ?_
  intro p e s m below meth c ⟨S, hr, hlk, hH, hK, hXN, hsz, hnm⟩ ls hl
  subst hsz
  obtain ⟨hx, hb, hml, hown, hts⟩ := S
  have S : CallFix p m c _ _ s _ lw_all RX1 := ⟨hx, hb, hml, hown, hts⟩
  have hA : ∀ q, s.heap.size ≤ q → DA M s.heap.size q := fun q hq => Or.inr hq
  have hl : lv_has ls 3 [(0, .ref (gb x 0 0)), (1, .ref y_)] := hl
  have b0 := hC
  unfold kCnt at b0
  have b1 := hfk
  unfold kFlask fl at b1
  have l1 := hL (28 + σ 2 (184 + 26 * i_ + 5)) (by omega) (by omega)
  have l2 := hL (18 + σ 2 (184 + 26 * i_ + 1)) (by omega) (by omega)
  have l3 := hL (24 + σ 2 (184 + 26 * i_ + 8)) (by omega) (by omega)
  have hdu : duF σ i_ = σ 2 (28 + σ 2 (184 + 26 * i_ + 5)) := rfl
  have hin : 0 ≤ inF σ i_ ∧ inF σ i_ ≤ 100 := by unfold inF; split <;> omega
  have hm1 : 0 ≤ duF σ i_ * inF σ i_ := Int.mul_nonneg (by omega) (by omega)
  have hm2 : duF σ i_ * inF σ i_ ≤ 100 * 100 := Int.mul_le_mul (by omega) (by omega) (by omega) (by omega)
  rw [hdu] at hm1 hm2
  refine lv_aload_n hx hb dX1_chance_0 rfl (lv_at hl 1 rfl) ?_
  refine x_getFl hx hb hts hown hK hH gk (fci_c _) 11 (by decide) q527 rfl rfl rfl rfl dX1_chance_1 ?_
  refine lv_aload_n hx hb dX1_chance_4 rfl (lv_at hl 0 rfl) ?_
  refine x_get hx hb hts in_X1 hown hK hH hR.b0 rfl 0 (by decide) q161 (fun _ h9 => h9) rfl (by decide) dX1_chance_5 ?_
  refine n_icmp_ne (tgt := 29) hx hb (r32 (by omega)) (r32 (by omega)) dX1_chance_8 (by decide) (fun c_8 => ?_) (fun c_8 => ?_)
  · -- 8T
    refine lv_aload_n hx hb dX1_chance_29 rfl (lv_at hl 0 rfl) ?_
    refine x_get hx hb hts in_X1 hown hK hH hR.b0 rfl 0 (by decide) q161 (fun _ h9 => h9) rfl (by decide) dX1_chance_30 ?_
    refine lv_aload_n hx hb dX1_chance_33 rfl (lv_at hl 1 rfl) ?_
    refine x_getFl hx hb hts hown hK hH gk (fci_c _) 8 (by decide) q520 rfl rfl rfl rfl dX1_chance_34 ?_
    refine n_icmp_gt (tgt := 45) hx hb (r32 (by omega)) (r32 (by omega)) dX1_chance_37 (by decide) (fun c_37 => ?_) (fun c_37 => ?_)
    · -- 37T
      refine n_bipush (z := 100) hx hb dX1_chance_45 (by decide) ?_
      refine lv_aload_n hx hb dX1_chance_47 rfl (lv_at hl 0 rfl) ?_
      refine x_get hx hb hts in_X1 hown hK hH hR.b0 rfl 18 (by decide) q197 (fun _ h9 => h9) rfl (by decide) dX1_chance_48 ?_
      refine lv_aload_n hx hb dX1_chance_51 rfl (lv_at hl 1 rfl) ?_
      refine x_getFl hx hb hts hown hK hH gk (fci_c _) 1 (by decide) q489 rfl rfl rfl rfl dX1_chance_52 ?_
      refine x_iald hx hb hK hH hR.b18 (by omega) (by omega) (Nat.le_of_ble_eq_true rfl) dX1_chance_55 ?_
      refine W.eq (g2 := F0 m 56 ls (.int (iI (σ 2 (18 + (σ 2 (184 + 26 * i_ + 1))))) :: .int (iI 100) :: [])) (by first | (rw [(hR.z.2.1 _ (by omega) (by omega)).2.2.2]; done) | (rw [(hR.z.2.1 _ (by omega) (by omega)).2.2.2]; rfl)) ?_
      refine lv_aload_n hx hb dX1_chance_56 rfl (lv_at hl 0 rfl) ?_
      refine x_get hx hb hts in_X1 hown hK hH hR.b0 rfl 19 (by decide) q199 (fun _ h9 => h9) rfl (by decide) dX1_chance_57 ?_
      refine lv_aload_n hx hb dX1_chance_60 rfl (lv_at hl 1 rfl) ?_
      refine x_getFl hx hb hts hown hK hH gk (fci_c _) 2 (by decide) q498 rfl rfl rfl rfl dX1_chance_61 ?_
      refine x_iald hx hb hK hH hR.b19 (by omega) (by omega) (Nat.le_of_ble_eq_true rfl) dX1_chance_64 ?_
      refine W.eq (g2 := F0 m 65 ls (.int (iI (σ 2 (24 + (σ 2 (184 + 26 * i_ + 8))))) :: .int (iI (σ 2 (18 + (σ 2 (184 + 26 * i_ + 1))))) :: .int (iI 100) :: [])) (by first | (rw [hR.z.2.2.1 _ (by omega) (by omega)]; done) | (rw [hR.z.2.2.1 _ (by omega) (by omega)]; rfl)) ?_
      refine n_iadd hx hb dX1_chance_65 ?_
      refine n_mmin hx hb hts (hml.trans hl.1.symm) hown (r32 (by omega)) (r32 (by omega)) q687 q688 q115 q689 ⟨Nat.le_of_ble_eq_true rfl, Nat.le_of_ble_eq_true rfl⟩ ⟨Nat.le_of_ble_eq_true rfl, Nat.le_of_ble_eq_true rfl⟩ (Nat.le_of_ble_eq_true rfl) dX1_chance_66 ?_
      refine W.eq (g2 := F0 m 69 ls (.int (iI (inF σ i_)) :: [])) (by rw [show inF σ i_ = (min 100 ((σ 2 (18 + (σ 2 (184 + 26 * i_ + 1)))) + (σ 2 (24 + (σ 2 (184 + 26 * i_ + 8)))))) from by unfold inF opP; split <;> omega]) ?_
      refine lv_istore_n hx hb dX1_chance_69 rfl hl (Nat.le_of_ble_eq_true rfl) (lv' := [(2, .int (iI (inF σ i_))), (0, .ref (gb x 0 0)), (1, .ref y_)]) rfl (fun ls hl => ?_)
      refine lv_aload_n hx hb dX1_chance_70 rfl (lv_at hl 1 rfl) ?_
      refine x_get hx hb hts in_X1 hown hK hH hR.b0 rfl 20 (by decide) q201 (fun _ h9 => h9) rfl (by decide) dX1_chance_71 ?_
      refine lv_aload_n hx hb dX1_chance_74 rfl (lv_at hl 2 rfl) ?_
      refine x_getFl hx hb hts hown hK hH gk (fci_c _) 4 (by decide) q514 rfl rfl rfl rfl dX1_chance_75 ?_
      refine x_iald hx hb hK hH hR.b20 (by omega) (by omega) (Nat.le_of_ble_eq_true rfl) dX1_chance_78 ?_
      refine W.eq (g2 := F0 m 79 ls (.int (iI (σ 2 (28 + (σ 2 (184 + 26 * i_ + 5))))) :: [])) (by first | (rw [hR.z.2.2.2.1 _ (by omega) (by omega)]; done) | (rw [hR.z.2.2.2.1 _ (by omega) (by omega)]; rfl)) ?_
      refine lv_iload_n hx hb dX1_chance_79 rfl (lv_at hl 0 rfl) ?_
      refine n_imul hx hb dX1_chance_80 ?_
      refine n_bipush (z := 100) hx hb dX1_chance_81 (by decide) ?_
      refine n_idiv hx hb (by omega) (by omega) (r32 (by omega)) (by omega) dX1_chance_83 ?_
      refine x_iret hx hb hr hlk hH dX1_chance_84 ?_
      refine ⟨?_, rfl⟩
      rw [chF, if_neg (by omega), hdu]
    · -- 37F
      refine n_bipush (z := 100) hx hb dX1_chance_40 (by decide) ?_
      refine lv_goto (tgt := 69) hx hb dX1_chance_42 (by decide) ?_
      refine W.eq (g2 := F0 m 69 ls (.int (iI (inF σ i_)) :: [])) (by rw [show inF σ i_ = 100 from by unfold inF opP; split <;> omega]) ?_
      refine lv_istore_n hx hb dX1_chance_69 rfl hl (Nat.le_of_ble_eq_true rfl) (lv' := [(2, .int (iI (inF σ i_))), (0, .ref (gb x 0 0)), (1, .ref y_)]) rfl (fun ls hl => ?_)
      refine lv_aload_n hx hb dX1_chance_70 rfl (lv_at hl 1 rfl) ?_
      refine x_get hx hb hts in_X1 hown hK hH hR.b0 rfl 20 (by decide) q201 (fun _ h9 => h9) rfl (by decide) dX1_chance_71 ?_
      refine lv_aload_n hx hb dX1_chance_74 rfl (lv_at hl 2 rfl) ?_
      refine x_getFl hx hb hts hown hK hH gk (fci_c _) 4 (by decide) q514 rfl rfl rfl rfl dX1_chance_75 ?_
      refine x_iald hx hb hK hH hR.b20 (by omega) (by omega) (Nat.le_of_ble_eq_true rfl) dX1_chance_78 ?_
      refine W.eq (g2 := F0 m 79 ls (.int (iI (σ 2 (28 + (σ 2 (184 + 26 * i_ + 5))))) :: [])) (by first | (rw [hR.z.2.2.2.1 _ (by omega) (by omega)]; done) | (rw [hR.z.2.2.2.1 _ (by omega) (by omega)]; rfl)) ?_
      refine lv_iload_n hx hb dX1_chance_79 rfl (lv_at hl 0 rfl) ?_
      refine n_imul hx hb dX1_chance_80 ?_
      refine n_bipush (z := 100) hx hb dX1_chance_81 (by decide) ?_
      refine n_idiv hx hb (by omega) (by omega) (r32 (by omega)) (by omega) dX1_chance_83 ?_
      refine x_iret hx hb hr hlk hH dX1_chance_84 ?_
      refine ⟨?_, rfl⟩
      rw [chF, if_neg (by omega), hdu]
  · -- 8F
    refine n_bipush (z := 100) hx hb dX1_chance_11 (by decide) ?_
    refine n_bipush (z := 10) hx hb dX1_chance_13 (by decide) ?_
    refine lv_aload_n hx hb dX1_chance_15 rfl (lv_at hl 0 rfl) ?_
    refine x_get hx hb hts in_X1 hown hK hH hR.b0 rfl 20 (by decide) q201 (fun _ h9 => h9) rfl (by decide) dX1_chance_16 ?_
    refine lv_aload_n hx hb dX1_chance_19 rfl (lv_at hl 1 rfl) ?_
    refine x_getFl hx hb hts hown hK hH gk (fci_c _) 4 (by decide) q514 rfl rfl rfl rfl dX1_chance_20 ?_
    refine x_iald hx hb hK hH hR.b20 (by omega) (by omega) (Nat.le_of_ble_eq_true rfl) dX1_chance_23 ?_
    refine W.eq (g2 := F0 m 24 ls (.int (iI (σ 2 (28 + (σ 2 (184 + 26 * i_ + 5))))) :: .int (iI 10) :: .int (iI 100) :: [])) (by first | (rw [hR.z.2.2.2.1 _ (by omega) (by omega)]; done) | (rw [hR.z.2.2.2.1 _ (by omega) (by omega)]; rfl)) ?_
    refine n_imul hx hb dX1_chance_24 ?_
    refine n_mmin hx hb hts (hml.trans hl.1.symm) hown (r32 (by omega)) (r32 (by omega)) q687 q688 q115 q689 ⟨Nat.le_of_ble_eq_true rfl, Nat.le_of_ble_eq_true rfl⟩ ⟨Nat.le_of_ble_eq_true rfl, Nat.le_of_ble_eq_true rfl⟩ (Nat.le_of_ble_eq_true rfl) dX1_chance_25 ?_
    refine x_iret hx hb hr hlk hH dX1_chance_28 ?_
    refine ⟨?_, rfl⟩
    rw [chF, if_pos (by omega)]
    split <;> omega
