theorem kd_X0_commission : yX0_commission.cls = RX0 ∧ yX0_commission.cls ≠ "java/lang/invoke/MethodHandle" ∧ yX0_commission.cls ≠ "java/lang/invoke/VarHandle" ∧ (parseMethodDescriptor yX0_commission.desc).map (fun d => d.parameters.length) = some 2 := by decide +kernel
theorem xm_X0_commission (l : Launch) (G : MG) (M : Hp) (σ : St) (x : XGh) (ω : XCt) (a : Nat) (t_ : Int) (q_ : Int) (sz : Nat) (hR : RX G M a σ x ω) (h_t_ : R32 t_) (h_q_ : R32 q_) (hI : KI (σ 2)) (hT : TT (σ 2)) (h40 : F40 σ) : Met l yX0_commission (ws_ yX0_commission cX0_commission 4 (some .int)) (rmD 3) (xP G XN [.ref a, .int (iI t_), .int (iI q_)] M sz) (xQi G (DA M sz) (fun z M' => z = (commF σ t_ q_).1 ∧ ∃ ω', RX G M' a (commF σ t_ q_).2 x ω')) 0 0 (DA M sz) := by
  refine x_start (by decide) (Nat.le_of_ble_eq_true rfl) ?_
  intro p e s m below meth c ⟨S, hr, hlk, hH, hK, hXN, hsz, hnm⟩ ls hl
  subst hsz
  obtain ⟨hx, hb, hml, hown, hts⟩ := S
  have S : CallFix p m c _ _ s _ lw_all RX0 := ⟨hx, hb, hml, hown, hts⟩
  have hA : ∀ q, s.heap.size ≤ q → DA M s.heap.size q := fun q hq => Or.inr hq
  have hl : lv_has ls 4 [(0, .ref a), (1, .int (iI t_)), (2, .int (iI q_))] := hl
  have b0 := hI.c
  unfold kCnt at b0
  have h_t_ := R32.n h_t_
  have h_q_ := R32.n h_q_
  have ho := onesN_r t_ 12
  have hp := pow_r b0.2.2.2.2.2.1.1 b0.2.2.2.2.2.1.2
  have hbr := R32.n (bcN_r (x := t_))
  have hbe := bcN_e (x := t_)
  have hW := WK_of hI hT
  refine lv_iload_n hx hb dX0_commission_0 rfl (lv_at hl 1 rfl) ?_
  refine x_calliF (x_runS (As := [.int (iI t_)]) (rest := []) S hH hK (fun _ _ hW => XN.warm hW hXN) XN_b hl.1 (xm_J7_bitCount l G M t_ _ ) (lw_S q1389 q1390 q136 q1391) kd_J7_bitCount rfl rfl dX0_commission_1) hH hA (fun H locs hH => ?_)
  refine lv_istore_n hx hb dX0_commission_4 rfl hl (Nat.le_of_ble_eq_true rfl) (lv' := [(3, .int (iI (bcN t_))), (0, .ref a), (1, .int (iI t_)), (2, .int (iI q_))]) rfl (fun ls hl => ?_)
  refine lv_iload_n hx hb dX0_commission_5 rfl (lv_at hl 2 rfl) ?_
  refine n_i2l hx hb (r32 (by omega)) dX0_commission_6 ?_
  refine n_lconst (z := 1) hx hb dX0_commission_7 (by decide) ?_
  refine n_iconst hx hb dX0_commission_8 ?_
  refine lv_aload_n hx hb dX0_commission_9 rfl (lv_at hl 1 rfl) ?_
  refine x_get hx hb hts in_X0 hown hK hH hR.o rfl 0 (by decide) q339 (fun _ h9 => h9) rfl (by decide) dX0_commission_10 ?_
  refine x_getN hx hb hts in_X1 hown hK hH hR.b0 rfl 4 (by decide) hXN q170 (fun _ h9 => h9) rfl (by decide) dX0_commission_13 ?_
  refine n_ishl hx hb (by omega) (by omega) dX0_commission_16 ?_
  refine W.eq (g2 := F0 m 17 ls (.int (iI (2 ^ (σ 2 1755).toNat)) :: .long (lI 1) :: .long (lI t_) :: [])) (by rw [Int.one_mul]) ?_
  refine n_iconst hx hb dX0_commission_17 ?_
  refine n_isub hx hb dX0_commission_18 ?_
  refine n_i2l hx hb (r32 (by omega)) dX0_commission_19 ?_
  refine x_calliF (x_runS (As := [.long (lI t_), .long (lI 1), .long (lI ((2 ^ (σ 2 1755).toNat) - 1))]) (rest := []) S hH hK (fun _ _ hW => XN.warm hW hXN) XN_b hl.1 (xm_X0_in l G M t_ 1 ((2 ^ (σ 2 1755).toNat) - 1) _ (r64 (by omega)) (r64 (by omega)) (r64 (by omega))) (lw_S q386 q387 q105 q388) kd_X0_in rfl rfl dX0_commission_20) hH hA (fun H locs hH => ?_)
  refine z_if_eq (tgt := 43) hx hb dX0_commission_23 (by decide) (fun c_23 => ?_) (fun c_23 => ?_)
  · -- 23T
    refine lv_aload_n hx hb dX0_commission_43 rfl (lv_at hl 1 rfl) ?_
    refine n_iconst hx hb dX0_commission_44 ?_
    refine x_calli (x_runV (As := [.int (iI (-1))]) (rest := []) S hH hK (fun _ _ hW => XN.warm hW hXN) XN_b hl.1 hR.o rfl (xm_X0_refuse l G M σ x ω a (-1) _ hR (by omega) (by omega)) (lw_V q393 q395 qs0 q105 q396) kd_X0_refuse rfl rfl dX0_commission_45) hH hA (fun z45 M45_ H locs q_45 hH hz_45 => ?_)
    obtain ⟨e_45, ω45x, hR45x⟩ := q_45
    subst e_45
    refine x_iret hx hb hr hlk hH dX0_commission_48 ?_
    exact cmd_ret (F := commF σ t_ q_) (by unfold commF; (repeat' split) <;> first | rfl | (exfalso; omega)) hR45x
  · -- 23F
    have hbe2 := hbe (by omega) (by omega)
    refine lv_iload_n hx hb dX0_commission_26 rfl (lv_at hl 0 rfl) ?_
    refine n_bipush (z := 9) hx hb dX0_commission_27 (by decide) ?_
    refine n_icmp_gt (tgt := 43) hx hb (r32 (by omega)) (r32 (by omega)) dX0_commission_29 (by decide) (fun c_29 => ?_) (fun c_29 => ?_)
    · -- 29T
      refine lv_aload_n hx hb dX0_commission_43 rfl (lv_at hl 1 rfl) ?_
      refine n_iconst hx hb dX0_commission_44 ?_
      refine x_calli (x_runV (As := [.int (iI (-1))]) (rest := []) S hH hK (fun _ _ hW => XN.warm hW hXN) XN_b hl.1 hR.o rfl (xm_X0_refuse l G M σ x ω a (-1) _ hR (by omega) (by omega)) (lw_V q393 q395 qs0 q105 q396) kd_X0_refuse rfl rfl dX0_commission_45) hH hA (fun z45 M45_ H locs q_45 hH hz_45 => ?_)
      obtain ⟨e_45, ω45x, hR45x⟩ := q_45
      subst e_45
      refine x_iret hx hb hr hlk hH dX0_commission_48 ?_
      exact cmd_ret (F := commF σ t_ q_) (by unfold commF; (repeat' split) <;> first | rfl | (exfalso; omega)) hR45x
    · -- 29F
      refine lv_iload_n hx hb dX0_commission_32 rfl (lv_at hl 3 rfl) ?_
      refine n_i2l hx hb (r32 (by omega)) dX0_commission_33 ?_
      refine n_lconst (z := 1) hx hb dX0_commission_34 (by decide) ?_
      refine lv_iload_n hx hb dX0_commission_35 rfl (lv_at hl 0 rfl) ?_
      refine n_i2l hx hb (r32 (by omega)) dX0_commission_36 ?_
      refine x_calliF (x_runS (As := [.long (lI q_), .long (lI 1), .long (lI (bcN t_))]) (rest := []) S hH hK (fun _ _ hW => XN.warm hW hXN) XN_b hl.1 (xm_X0_in l G M q_ 1 (bcN t_) _ (r64 (by omega)) (r64 (by omega)) (r64 (by omega))) (lw_S q386 q387 q105 q388) kd_X0_in rfl rfl dX0_commission_37) hH hA (fun H locs hH => ?_)
      refine z_if_ne (tgt := 49) hx hb dX0_commission_40 (by decide) (fun c_40 => ?_) (fun c_40 => ?_)
      · -- 40T
        refine lv_aload_n hx hb dX0_commission_49 rfl (lv_at hl 1 rfl) ?_
        refine x_get hx hb hts in_X0 hown hK hH hR.o rfl 0 (by decide) q339 (fun _ h9 => h9) rfl (by decide) dX0_commission_50 ?_
        refine x_getN hx hb hts in_X1 hown hK hH hR.b0 rfl 6 (by decide) hXN q174 (fun _ h9 => h9) rfl (by decide) dX0_commission_53 ?_
        refine n_bipush (z := 9) hx hb dX0_commission_56 (by decide) ?_
        refine n_icmp_ne (tgt := 68) hx hb (r32 (by omega)) (r32 (by omega)) dX0_commission_58 (by decide) (fun c_58 => ?_) (fun c_58 => ?_)
        · -- 58T
          refine lv_aload_n hx hb dX0_commission_68 rfl (lv_at hl 1 rfl) ?_
          refine x_get hx hb hts in_X0 hown hK hH hR.o rfl 0 (by decide) q339 (fun _ h9 => h9) rfl (by decide) dX0_commission_69 ?_
          refine x_getN hx hb hts in_X1 hown hK hH hR.b0 rfl 13 (by decide) hXN q188 (fun _ h9 => h9) rfl (by decide) dX0_commission_72 ?_
          refine lv_aload_n hx hb dX0_commission_75 rfl (lv_at hl 1 rfl) ?_
          refine x_get hx hb hts in_X0 hown hK hH hR.o rfl 0 (by decide) q339 (fun _ h9 => h9) rfl (by decide) dX0_commission_76 ?_
          refine x_getN hx hb hts in_X1 hown hK hH hR.b0 rfl 6 (by decide) hXN q174 (fun _ h9 => h9) rfl (by decide) dX0_commission_79 ?_
          refine lv_iload_n hx hb dX0_commission_82 rfl (lv_at hl 2 rfl) ?_
          refine x_iast hx hb hK hH hR.b13 (by omega) (by omega) (Nat.le_of_ble_eq_true rfl) dX0_commission_83 (fun H locs hH => ?_)
          obtain ⟨M1, e_M1⟩ : ∃ M1, M1 = hs M (gb x 0 13) (aI (G.2.1 0) 9 (up (gz ω 0 13) (σ 2 1757) t_)) := ⟨_, rfl⟩
          have hH := XV_to hH e_M1.symm
          have f1 : M1 (gb x 0 13) = some (aI (G.2.1 0) 9 (up (gz ω 0 13) (σ 2 1757) t_)) := by rw [e_M1]; exact hs_s
          obtain ⟨ω2, hR2⟩ : ∃ ω2, RX G M1 a (st σ 2 (1732 + 2 * (σ 2 1757)) t_) x ω2 := ⟨_, by rw [e_M1]; exact hR.bz hW h40 (k := 13) (p := 1732 + 2 * (σ 2 1757)) (v := t_) (by decide) (by omega) (Zok_13 (v := t_) hR.z (i := (σ 2 1757)) (by omega) (by omega)) rfl⟩
          have hW2 : WK ((st σ 2 (1732 + 2 * (σ 2 1757)) t_) 2) := WK_st hW (by omega)
          have hF2 : F40 (st σ 2 (1732 + 2 * (σ 2 1757)) t_) := F40_st h40 (by omega)
          have hC2_1750 : (st σ 2 (1732 + 2 * (σ 2 1757)) t_) 2 1750 = σ 2 1750 := st_i (by omega)
          have hC2_1752 : (st σ 2 (1732 + 2 * (σ 2 1757)) t_) 2 1752 = σ 2 1752 := st_i (by omega)
          have hC2_1753 : (st σ 2 (1732 + 2 * (σ 2 1757)) t_) 2 1753 = σ 2 1753 := st_i (by omega)
          refine lv_aload_n hx hb dX0_commission_84 rfl (lv_at hl 1 rfl) ?_
          refine x_get hx hb hts in_X0 hown hK hH hR2.o rfl 0 (by decide) q339 (fun _ h9 => h9) rfl (by decide) dX0_commission_85 ?_
          refine x_getN hx hb hts in_X1 hown hK hH hR2.b0 rfl 14 (by decide) hXN q190 (fun _ h9 => h9) rfl (by decide) dX0_commission_88 ?_
          refine lv_aload_n hx hb dX0_commission_91 rfl (lv_at hl 1 rfl) ?_
          refine x_get hx hb hts in_X0 hown hK hH hR2.o rfl 0 (by decide) q339 (fun _ h9 => h9) rfl (by decide) dX0_commission_92 ?_
          refine x_getN hx hb hts in_X1 hown hK hH hR2.b0 rfl 6 (by decide) hXN q174 (fun _ h9 => h9) rfl (by decide) dX0_commission_95 ?_
          refine W.eq (g2 := F0 m 98 ls (.int (iI (σ 2 1757)) :: .ref (gb x 0 14) :: [])) (by rw [st_i (by omega)]) ?_
          refine lv_iload_n hx hb dX0_commission_98 rfl (lv_at hl 3 rfl) ?_
          refine x_iast hx hb hK hH hR2.b14 (by omega) (by omega) (Nat.le_of_ble_eq_true rfl) dX0_commission_99 (fun H locs hH => ?_)
          obtain ⟨M3, e_M3⟩ : ∃ M3, M3 = hs M1 (gb x 0 14) (aI (G.2.1 0) 9 (up (gz ω2 0 14) (σ 2 1757) q_)) := ⟨_, rfl⟩
          have hH := XV_to hH e_M3.symm
          have f3 : M3 (gb x 0 14) = some (aI (G.2.1 0) 9 (up (gz ω2 0 14) (σ 2 1757) q_)) := by rw [e_M3]; exact hs_s
          obtain ⟨ω4, hR4⟩ : ∃ ω4, RX G M3 a (st (st σ 2 (1732 + 2 * (σ 2 1757)) t_) 2 (1732 + 2 * (σ 2 1757) + 1) q_) x ω4 := ⟨_, by rw [e_M3]; exact hR2.bz hW2 hF2 (k := 14) (p := 1732 + 2 * (σ 2 1757) + 1) (v := q_) (by decide) (by omega) (Zok_14 (v := q_) hR2.z (i := (σ 2 1757)) (by omega) (by omega)) rfl⟩
          have hW4 : WK ((st (st σ 2 (1732 + 2 * (σ 2 1757)) t_) 2 (1732 + 2 * (σ 2 1757) + 1) q_) 2) := WK_st hW2 (by omega)
          have hF4 : F40 (st (st σ 2 (1732 + 2 * (σ 2 1757)) t_) 2 (1732 + 2 * (σ 2 1757) + 1) q_) := F40_st hF2 (by omega)
          have hC4_1750 : (st (st σ 2 (1732 + 2 * (σ 2 1757)) t_) 2 (1732 + 2 * (σ 2 1757) + 1) q_) 2 1750 = (st σ 2 (1732 + 2 * (σ 2 1757)) t_) 2 1750 := st_i (by omega)
          have hC4_1752 : (st (st σ 2 (1732 + 2 * (σ 2 1757)) t_) 2 (1732 + 2 * (σ 2 1757) + 1) q_) 2 1752 = (st σ 2 (1732 + 2 * (σ 2 1757)) t_) 2 1752 := st_i (by omega)
          have hC4_1753 : (st (st σ 2 (1732 + 2 * (σ 2 1757)) t_) 2 (1732 + 2 * (σ 2 1757) + 1) q_) 2 1753 = (st σ 2 (1732 + 2 * (σ 2 1757)) t_) 2 1753 := st_i (by omega)
          refine lv_aload_n hx hb dX0_commission_100 rfl (lv_at hl 1 rfl) ?_
          refine x_get hx hb hts in_X0 hown hK hH hR4.o rfl 0 (by decide) q339 (fun _ h9 => h9) rfl (by decide) dX0_commission_101 ?_
          refine lv_dup hx hb dX0_commission_104 rfl ?_
          refine x_getN hx hb hts in_X1 hown hK hH hR4.b0 rfl 6 (by decide) hXN q174 (fun _ h9 => h9) rfl (by decide) dX0_commission_105 ?_
          refine W.eq (g2 := F0 m 108 ls (.int (iI (σ 2 1757)) :: .ref (gb x 0 0) :: [])) (by rw [st_i (by omega), st_i (by omega)]) ?_
          refine n_iconst hx hb dX0_commission_108 ?_
          refine n_iadd hx hb dX0_commission_109 ?_
          refine x_putN (ty := .int) hx hb hts in_X1 tyX1 tyX1_ok nmX1 hown hK hH hR4.b0 rfl 6 (by decide) hXN q174 (fun _ h9 => h9) rfl (by decide +kernel) rfl rfl (Nat.le_of_ble_eq_true rfl) (by decide) dX0_commission_110 (fun H locs hH => ?_)
          obtain ⟨M5, e_M5⟩ : ∃ M5, M5 = hs M3 (gb x 0 0) (oB 2 [.int (iI ((st (st σ 2 (1732 + 2 * (σ 2 1757)) t_) 2 (1732 + 2 * (σ 2 1757) + 1) q_) 2 1750)), .int (iI ((st (st σ 2 (1732 + 2 * (σ 2 1757)) t_) 2 (1732 + 2 * (σ 2 1757) + 1) q_) 2 1752)), .int (iI ((st (st σ 2 (1732 + 2 * (σ 2 1757)) t_) 2 (1732 + 2 * (σ 2 1757) + 1) q_) 2 1753)), .int (iI ((st (st σ 2 (1732 + 2 * (σ 2 1757)) t_) 2 (1732 + 2 * (σ 2 1757) + 1) q_) 2 1754)), .int (iI ((st (st σ 2 (1732 + 2 * (σ 2 1757)) t_) 2 (1732 + 2 * (σ 2 1757) + 1) q_) 2 1755)), .int (iI ((st (st σ 2 (1732 + 2 * (σ 2 1757)) t_) 2 (1732 + 2 * (σ 2 1757) + 1) q_) 2 1756)), .int (iI ((σ 2 1757) + 1)), .long (lI ((st (st σ 2 (1732 + 2 * (σ 2 1757)) t_) 2 (1732 + 2 * (σ 2 1757) + 1) q_) 2 1751)), .ref (gb x 0 8), .ref (gb x 0 9), .ref (gb x 0 10), .ref (gb x 0 11), .ref (gb x 0 12), .ref (gb x 0 13), .ref (gb x 0 14), .ref (gb x 0 15), .ref (gb x 0 16), .ref (gb x 0 17), .ref (gb x 0 18), .ref (gb x 0 19), .ref (gb x 0 20), .ref (gb x 0 21)]) := ⟨_, rfl⟩
          have hH := XV_to hH e_M5.symm
          have f5 : M5 (gb x 0 0) = some (oB 2 [.int (iI ((st (st σ 2 (1732 + 2 * (σ 2 1757)) t_) 2 (1732 + 2 * (σ 2 1757) + 1) q_) 2 1750)), .int (iI ((st (st σ 2 (1732 + 2 * (σ 2 1757)) t_) 2 (1732 + 2 * (σ 2 1757) + 1) q_) 2 1752)), .int (iI ((st (st σ 2 (1732 + 2 * (σ 2 1757)) t_) 2 (1732 + 2 * (σ 2 1757) + 1) q_) 2 1753)), .int (iI ((st (st σ 2 (1732 + 2 * (σ 2 1757)) t_) 2 (1732 + 2 * (σ 2 1757) + 1) q_) 2 1754)), .int (iI ((st (st σ 2 (1732 + 2 * (σ 2 1757)) t_) 2 (1732 + 2 * (σ 2 1757) + 1) q_) 2 1755)), .int (iI ((st (st σ 2 (1732 + 2 * (σ 2 1757)) t_) 2 (1732 + 2 * (σ 2 1757) + 1) q_) 2 1756)), .int (iI ((σ 2 1757) + 1)), .long (lI ((st (st σ 2 (1732 + 2 * (σ 2 1757)) t_) 2 (1732 + 2 * (σ 2 1757) + 1) q_) 2 1751)), .ref (gb x 0 8), .ref (gb x 0 9), .ref (gb x 0 10), .ref (gb x 0 11), .ref (gb x 0 12), .ref (gb x 0 13), .ref (gb x 0 14), .ref (gb x 0 15), .ref (gb x 0 16), .ref (gb x 0 17), .ref (gb x 0 18), .ref (gb x 0 19), .ref (gb x 0 20), .ref (gb x 0 21)]) := by rw [e_M5]; exact hs_s
          obtain ⟨ω6, hR6⟩ : ∃ ω6, RX G M5 a (st (st (st σ 2 (1732 + 2 * (σ 2 1757)) t_) 2 (1732 + 2 * (σ 2 1757) + 1) q_) 2 (1757) ((σ 2 1757) + 1)) x ω6 := ⟨_, by rw [e_M5]; exact hR4.b7 hW4 hF4 (v := ((σ 2 1757) + 1))⟩
          have hW6 : WK ((st (st (st σ 2 (1732 + 2 * (σ 2 1757)) t_) 2 (1732 + 2 * (σ 2 1757) + 1) q_) 2 (1757) ((σ 2 1757) + 1)) 2) := WK_7 hW4 (by omega)
          have hF6 : F40 (st (st (st σ 2 (1732 + 2 * (σ 2 1757)) t_) 2 (1732 + 2 * (σ 2 1757) + 1) q_) 2 (1757) ((σ 2 1757) + 1)) := F40_st hF4 (by omega)
          have hC6_1750 : (st (st (st σ 2 (1732 + 2 * (σ 2 1757)) t_) 2 (1732 + 2 * (σ 2 1757) + 1) q_) 2 (1757) ((σ 2 1757) + 1)) 2 1750 = (st (st σ 2 (1732 + 2 * (σ 2 1757)) t_) 2 (1732 + 2 * (σ 2 1757) + 1) q_) 2 1750 := st_i (by omega)
          have hC6_1752 : (st (st (st σ 2 (1732 + 2 * (σ 2 1757)) t_) 2 (1732 + 2 * (σ 2 1757) + 1) q_) 2 (1757) ((σ 2 1757) + 1)) 2 1752 = (st (st σ 2 (1732 + 2 * (σ 2 1757)) t_) 2 (1732 + 2 * (σ 2 1757) + 1) q_) 2 1752 := st_i (by omega)
          have hC6_1753 : (st (st (st σ 2 (1732 + 2 * (σ 2 1757)) t_) 2 (1732 + 2 * (σ 2 1757) + 1) q_) 2 (1757) ((σ 2 1757) + 1)) 2 1753 = (st (st σ 2 (1732 + 2 * (σ 2 1757)) t_) 2 (1732 + 2 * (σ 2 1757) + 1) q_) 2 1753 := st_i (by omega)
          refine lv_aload_n hx hb dX0_commission_113 rfl (lv_at hl 1 rfl) ?_
          refine lv_aload_n hx hb dX0_commission_114 rfl (lv_at hl 1 rfl) ?_
          refine x_get hx hb hts in_X0 hown hK hH hR6.o rfl 0 (by decide) q339 (fun _ h9 => h9) rfl (by decide) dX0_commission_115 ?_
          refine x_getN hx hb hts in_X1 hown hK hH hR6.b0 rfl 6 (by decide) hXN q174 (fun _ h9 => h9) rfl (by decide) dX0_commission_118 ?_
          refine W.eq (g2 := F0 m 121 ls (.int (iI (σ 2 1757 + 1)) :: .ref a :: [])) (by rw [st_s]) ?_
          refine n_iconst hx hb dX0_commission_121 ?_
          refine n_isub hx hb dX0_commission_122 ?_
          refine W.eq (g2 := F0 m 123 ls (.int (iI (σ 2 1757)) :: .ref a :: [])) (by rw [show σ 2 1757 + 1 - 1 = σ 2 1757 by omega]) ?_
          refine x_calli (x_runV (As := [.int (iI (σ 2 1757))]) (rest := []) S hH hK (fun _ _ hW => XN.warm hW hXN) XN_b hl.1 hR6.o rfl (xm_X0_done l G M5 (st (st (st σ 2 (1732 + 2 * (σ 2 1757)) t_) 2 (1732 + 2 * (σ 2 1757) + 1) q_) 2 (1757) ((σ 2 1757) + 1)) x ω6 a (σ 2 1757) _ hR6) (lw_V q425 q427 qs1 q105 q428) kd_X0_done rfl rfl dX0_commission_123) hH hA (fun z123 M123_ H locs q_123 hH hz_123 => ?_)
          obtain ⟨e_123, ω123x, hR123x⟩ := q_123
          subst e_123
          refine x_iret hx hb hr hlk hH dX0_commission_126 ?_
          exact cmd_ret (F := commF σ t_ q_) (by unfold commF; (repeat' split) <;> first | rfl | (exfalso; omega)) hR123x
        · -- 58F
          refine lv_aload_n hx hb dX0_commission_61 rfl (lv_at hl 1 rfl) ?_
          refine n_bipush (z := -5) hx hb dX0_commission_62 (by decide) ?_
          refine x_calli (x_runV (As := [.int (iI (-5))]) (rest := []) S hH hK (fun _ _ hW => XN.warm hW hXN) XN_b hl.1 hR.o rfl (xm_X0_refuse l G M σ x ω a (-5) _ hR (by omega) (by omega)) (lw_V q393 q395 qs0 q105 q396) kd_X0_refuse rfl rfl dX0_commission_64) hH hA (fun z64 M64_ H locs q_64 hH hz_64 => ?_)
          obtain ⟨e_64, ω64x, hR64x⟩ := q_64
          subst e_64
          refine x_iret hx hb hr hlk hH dX0_commission_67 ?_
          exact cmd_ret (F := commF σ t_ q_) (by unfold commF; (repeat' split) <;> first | rfl | (exfalso; omega)) hR64x
      · -- 40F
        refine lv_aload_n hx hb dX0_commission_43 rfl (lv_at hl 1 rfl) ?_
        refine n_iconst hx hb dX0_commission_44 ?_
        refine x_calli (x_runV (As := [.int (iI (-1))]) (rest := []) S hH hK (fun _ _ hW => XN.warm hW hXN) XN_b hl.1 hR.o rfl (xm_X0_refuse l G M σ x ω a (-1) _ hR (by omega) (by omega)) (lw_V q393 q395 qs0 q105 q396) kd_X0_refuse rfl rfl dX0_commission_45) hH hA (fun z45 M45_ H locs q_45 hH hz_45 => ?_)
        obtain ⟨e_45, ω45x, hR45x⟩ := q_45
        subst e_45
        refine x_iret hx hb hr hlk hH dX0_commission_48 ?_
        exact cmd_ret (F := commF σ t_ q_) (by unfold commF; (repeat' split) <;> first | rfl | (exfalso; omega)) hR45x
