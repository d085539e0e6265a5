theorem kd_X1_draw : yX1_draw.cls = RX1 ∧ yX1_draw.cls ≠ "java/lang/invoke/MethodHandle" ∧ yX1_draw.cls ≠ "java/lang/invoke/VarHandle" ∧ (parseMethodDescriptor yX1_draw.desc).map (fun d => d.parameters.length) = some 1 := by decide +kernel
theorem xm_X1_draw (l : Launch) (G : MG) (M : Hp) (a : Nat) (σ : St) (x : XGh) (ω : XCt) (n : Int) (sz : Nat) (hR : RX G M a σ x ω) (hW : WK (σ 2)) (h40 : F40 σ) (hn : 0 < n) (hn2 : n < 2147483648) : Met l yX1_draw (ws_ yX1_draw cX1_draw 2 (some .int)) (rmD 1) (xP G XN [.ref (gb x 0 0), .int (iI n)] M sz) (xQi G (DA M sz) (fun z M' => z = drawF (σ 2) % n ∧ ∃ ω', RX G M' a (drawS σ) x ω' ∧ WK (drawS σ 2) ∧ F40 (drawS σ))) 0 0 (DA M sz) := by
  refine x_start (by decide) (Nat.le_of_ble_eq_true rfl) ?_
  intro p e s m below meth c ⟨S, hr, hlk, hH, hK, hXN, hsz, hnm⟩ ls hl
  subst hsz
  obtain ⟨hx, hb, hml, hown, hts⟩ := S
  have S : CallFix p m c _ _ s _ lw_all RX1 := ⟨hx, hb, hml, hown, hts⟩
  have hA : ∀ q, s.heap.size ≤ q → DA M s.heap.size q := fun q hq => Or.inr hq
  have hl : lv_has ls 2 [(0, .ref (gb x 0 0)), (1, .int (iI n))] := hl
  have hd := drawF_r (σ 2)
  have b0 := hW.1
  unfold kCnt at b0
  refine lv_aload_n hx hb dX1_draw_0 rfl (lv_at hl 0 rfl) ?_
  refine lv_aload_n hx hb dX1_draw_1 rfl (lv_at hl 0 rfl) ?_
  refine x_get hx hb hts in_X1 hown hK hH hR.b0 rfl 7 (by decide) q175 (fun _ h9 => h9) rfl (by decide) dX1_draw_2 ?_
  refine lv_ldc2 (v := lI 1103) hx hb hown (hts _ q694) dX1_draw_5 ?_
  refine n_lmul hx hb dX1_draw_8 ?_
  refine lv_ldc2 (v := lI 12345) hx hb hown (hts _ q695) dX1_draw_9 ?_
  refine n_ladd hx hb dX1_draw_12 ?_
  refine lv_ldc2 (v := lI 1000003) hx hb hown (hts _ q696) dX1_draw_13 ?_
  refine n_lrem hx hb (by decide) (r64 (by omega)) (r64 (by omega)) (r64 (by rw [Int.tdiv_eq_ediv_of_nonneg (by omega)]; omega)) dX1_draw_16 ?_
  refine W.eq (g2 := F0 m 17 ls (.long (lI (drawF (σ 2))) :: .ref (gb x 0 0) :: [])) (by rw [drawF, Int.tmod_eq_emod_of_nonneg (by omega), Int.mul_comm]) ?_
  refine x_put (ty := .long) hx hb hts in_X1 tyX1 tyX1_ok nmX1 hown hK hH hR.b0 rfl 7 (by decide) q175 (fun _ h9 => h9) rfl (by decide +kernel) rfl rfl (Nat.le_of_ble_eq_true rfl) (by decide) dX1_draw_17 (fun H locs hH => ?_)
  obtain ⟨M1, e_M1⟩ : ∃ M1, M1 = hs M (gb x 0 0) (oB 2 [.int (iI (σ 2 1750)), .int (iI (σ 2 1752)), .int (iI (σ 2 1753)), .int (iI (σ 2 1754)), .int (iI (σ 2 1755)), .int (iI (σ 2 1756)), .int (iI (σ 2 1757)), .long (lI (drawF (σ 2))), .ref (gb x 0 8), .ref (gb x 0 9), .ref (gb x 0 10), .ref (gb x 0 11), .ref (gb x 0 12), .ref (gb x 0 13), .ref (gb x 0 14), .ref (gb x 0 15), .ref (gb x 0 16), .ref (gb x 0 17), .ref (gb x 0 18), .ref (gb x 0 19), .ref (gb x 0 20), .ref (gb x 0 21)]) := ⟨_, rfl⟩
  have hH := XV_to hH e_M1.symm
  have f1 : M1 (gb x 0 0) = some (oB 2 [.int (iI (σ 2 1750)), .int (iI (σ 2 1752)), .int (iI (σ 2 1753)), .int (iI (σ 2 1754)), .int (iI (σ 2 1755)), .int (iI (σ 2 1756)), .int (iI (σ 2 1757)), .long (lI (drawF (σ 2))), .ref (gb x 0 8), .ref (gb x 0 9), .ref (gb x 0 10), .ref (gb x 0 11), .ref (gb x 0 12), .ref (gb x 0 13), .ref (gb x 0 14), .ref (gb x 0 15), .ref (gb x 0 16), .ref (gb x 0 17), .ref (gb x 0 18), .ref (gb x 0 19), .ref (gb x 0 20), .ref (gb x 0 21)]) := by rw [e_M1]; exact hs_s
  obtain ⟨ω2, hR2⟩ : ∃ ω2, RX G M1 a (st σ 2 (1751) (drawF (σ 2))) x ω2 := ⟨_, by rw [e_M1]; exact hR.bf hW h40 (p := 1751) (v := (drawF (σ 2))) (by decide)⟩
  have hW2 : WK ((st σ 2 (1751) (drawF (σ 2))) 2) := WK_n hW (by omega)
  have hF2 : F40 (st σ 2 (1751) (drawF (σ 2))) := F40_st h40 (by omega)
  have hC2_1750 : (st σ 2 (1751) (drawF (σ 2))) 2 1750 = σ 2 1750 := st_i (by omega)
  have hC2_1752 : (st σ 2 (1751) (drawF (σ 2))) 2 1752 = σ 2 1752 := st_i (by omega)
  have hC2_1753 : (st σ 2 (1751) (drawF (σ 2))) 2 1753 = σ 2 1753 := st_i (by omega)
  refine lv_aload_n hx hb dX1_draw_20 rfl (lv_at hl 0 rfl) ?_
  refine x_get hx hb hts in_X1 hown hK hH hR2.b0 rfl 7 (by decide) q175 (fun _ h9 => h9) rfl (by decide) dX1_draw_21 ?_
  refine W.eq (g2 := F0 m 24 ls (.long (lI (drawF (σ 2))) :: [])) (by rw [st_s]) ?_
  refine lv_iload_n hx hb dX1_draw_24 rfl (lv_at hl 1 rfl) ?_
  refine n_i2l hx hb (r32 (by omega)) dX1_draw_25 ?_
  refine n_lrem hx hb (by omega) (r64 (by omega)) (r64 (by omega)) (tdiv_r (by omega) (by omega) (by omega)) dX1_draw_26 ?_
  refine n_l2i hx hb dX1_draw_27 ?_
  refine W.eq (g2 := F0 m 28 ls (.int (iI (drawF (σ 2) % n)) :: [])) (by rw [Int.tmod_eq_emod_of_nonneg (by omega)]) ?_
  refine x_iret hx hb hr hlk hH dX1_draw_28 ?_
  exact ⟨rfl, _, hR2, hW2, hF2⟩
