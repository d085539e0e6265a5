theorem pw100_e : ∀ n : Nat, 1 ≤ n → (100 : Int) ^ n % 2 = 0
  | 0, h => absurd h (by decide)
  | n + 1, _ => by rw [Int.pow_succ]; omega
theorem huT_e {κ : Int → Int} {c : Int} (hu : (1 ≤ κ (1732 + 2 * c) ∧ κ (1732 + 2 * c) < 2 ^ (κ 1755).toNat) ∧ onesN (κ (1732 + 2 * c)) 12 ≤ 9 ∧ (1 ≤ κ (1732 + 2 * c + 1) ∧ κ (1732 + 2 * c + 1) ≤ onesN (κ (1732 + 2 * c)) 12)) : huT κ c % 2 = 0 := pw100_e _ (by omega)
theorem kd_X0_judged : yX0_judged.cls = RX0 ∧ yX0_judged.cls ≠ "java/lang/invoke/MethodHandle" ∧ yX0_judged.cls ≠ "java/lang/invoke/VarHandle" ∧ (parseMethodDescriptor yX0_judged.desc).map (fun d => d.parameters.length) = some 3 := by decide +kernel
theorem xm_X0_judged (l : Launch) (G : MG) (M : Hp) (σ : St) (x : XGh) (ω : XCt) (a : Nat) (c_ : Int) (x_ : Int) (w_ : Int) (sz : Nat) (hR : RX G M a σ x ω) (h_c_ : R32 c_) (h_x_ : R32 x_) (h_w_ : R32 w_) (hI : KI (σ 2)) (hT : TT (σ 2)) : Met l yX0_judged (ws_ yX0_judged cX0_judged 6 (some .long)) (rmX 211 1 10) (xP G XN [.ref a, .int (iI c_), .int (iI x_), .int (iI w_)] M sz) (xQl G (DA M sz) (fun z M' => z = judF (σ 2) c_ x_ w_ ∧ ∃ x' ω', RX G M' a σ x' ω')) 1 10 (DA M sz) := by
  refine x_start (by decide) (Nat.le_of_ble_eq_true rfl) ?_
  intro p e s m below meth c ⟨S, hr, hlk, hH, hK, hXN, hsz, hnm⟩ ls hl
  subst hsz
  obtain ⟨hx, hb, hml, hown, hts⟩ := S
  have S : CallFix p m c _ _ s _ lw_all RX0 := ⟨hx, hb, hml, hown, hts⟩
  have hA : ∀ q, s.heap.size ≤ q → DA M s.heap.size q := fun q hq => Or.inr hq
  have hl : lv_has ls 6 [(0, .ref a), (1, .int (iI c_)), (2, .int (iI x_)), (3, .int (iI w_))] := hl
  have b0 := hI.c
  unfold kCnt at b0
  have h_c_ := R32.n h_c_
  have h_x_ := R32.n h_x_
  have h_w_ := R32.n h_w_
  refine lv_aload_n hx hb dX0_judged_0 rfl (lv_at hl 0 rfl) ?_
  refine lv_iload_n hx hb dX0_judged_1 rfl (lv_at hl 1 rfl) ?_
  refine x_calliF (x_runV (As := [.int (iI c_)]) (rest := []) S hH hK (fun _ _ hW => XN.warm hW hXN) XN_b hl.1 hR.o rfl (xm_X0_isCommission l G M σ x ω a c_ _ hR (r32 (by omega)) (by omega) (by omega)) (lw_V q1399 q1401 qs40 q105 q1402) kd_X0_isCommission rfl rfl dX0_judged_2) hH hA (fun H locs hH => ?_)
  refine z_if_eq (tgt := 23) hx hb dX0_judged_5 (by decide) (fun c_5 => ?_) (fun c_5 => ?_)
  · -- 5T
    refine lv_ldc2 (v := lI (-1)) hx hb hown (by have h9 := hts _ q1249; rw [show ((-1) : Int64) = lI (-1) by decide +kernel] at h9; exact h9) dX0_judged_23 ?_
    refine W.widen (k := 1) (n := 10) (Nat.le_of_ble_eq_true rfl) (Nat.le_of_ble_eq_true rfl) ?_
    refine x_lret hx hb hr hlk hH dX0_judged_26 ?_
    refine ⟨?_, _, _, hR⟩
    unfold judF
    first | rw [if_pos (by unfold isC isX; omega)] | rw [if_neg (by unfold isC isX; omega)]
  · -- 5F
    refine lv_aload_n hx hb dX0_judged_8 rfl (lv_at hl 0 rfl) ?_
    refine lv_iload_n hx hb dX0_judged_9 rfl (lv_at hl 2 rfl) ?_
    refine x_calliF (x_runV (As := [.int (iI x_)]) (rest := []) S hH hK (fun _ _ hW => XN.warm hW hXN) XN_b hl.1 hR.o rfl (xm_X0_isText l G M σ x ω a x_ _ hR (r32 (by omega)) (by omega) (by omega)) (lw_V q1161 q1163 qs32 q105 q1164) kd_X0_isText rfl rfl dX0_judged_10) hH hA (fun H locs hH => ?_)
    refine z_if_eq (tgt := 23) hx hb dX0_judged_13 (by decide) (fun c_13 => ?_) (fun c_13 => ?_)
    · -- 13T
      refine lv_ldc2 (v := lI (-1)) hx hb hown (by have h9 := hts _ q1249; rw [show ((-1) : Int64) = lI (-1) by decide +kernel] at h9; exact h9) dX0_judged_23 ?_
      refine W.widen (k := 1) (n := 10) (Nat.le_of_ble_eq_true rfl) (Nat.le_of_ble_eq_true rfl) ?_
      refine x_lret hx hb hr hlk hH dX0_judged_26 ?_
      refine ⟨?_, _, _, hR⟩
      unfold judF
      first | rw [if_pos (by unfold isC isX; omega)] | rw [if_neg (by unfold isC isX; omega)]
    · -- 13F
      refine lv_iload_n hx hb dX0_judged_16 rfl (lv_at hl 3 rfl) ?_
      refine x_calliF (x_runS (As := [.int (iI w_)]) (rest := []) S hH hK (fun _ _ hW => XN.warm hW hXN) XN_b hl.1 (xm_X0_isPart l G M w_ _ (r32 (by omega))) (lw_S q1246 q1247 q105 q1248) kd_X0_isPart rfl rfl dX0_judged_17) hH hA (fun H locs hH => ?_)
      refine z_if_ne (tgt := 27) hx hb dX0_judged_20 (by decide) (fun c_20 => ?_) (fun c_20 => ?_)
      · -- 20T
        refine lv_aload_n hx hb dX0_judged_27 rfl (lv_at hl 0 rfl) ?_
        refine lv_iload_n hx hb dX0_judged_28 rfl (lv_at hl 1 rfl) ?_
        refine lv_aload_n hx hb dX0_judged_29 rfl (lv_at hl 0 rfl) ?_
        refine x_get hx hb hts in_X0 hown hK hH hR.o rfl 0 (by decide) q339 (fun _ h9 => h9) rfl (by decide) dX0_judged_30 ?_
        refine x_getN hx hb hts in_X1 hown hK hH hR.b0 rfl 12 (by decide) hXN q186 (fun _ h9 => h9) rfl (by decide) dX0_judged_33 ?_
        refine lv_iload_n hx hb dX0_judged_36 rfl (lv_at hl 2 rfl) ?_
        obtain ⟨y_, uy, tI⟩ := hR.ben.2.1.2.2.2.2.1 x_ (by omega) (by omega)
        obtain ⟨ar, k_, F, fa0, -⟩ := id tI
        have htr := tuT_r (x := x_) (c := c_) (by omega) (by omega) hI
        refine x_aald hx hb hK hH 9 hR.b12 rfl (by omega) (by omega) (Nat.le_of_ble_eq_true rfl) (v := some y_) uy dX0_judged_37 ?_
        refine x_calll (x_runV (As := [.int (iI c_), .ref y_]) (rest := []) S hH hK (fun _ _ hW => XN.warm hW hXN) XN_b hl.1 hR.o rfl (xm_X0_verdicts l G M σ x ω x_ ar a c_ y_ _ hR ⟨by omega, by omega⟩ ⟨by omega, by omega⟩ tI fa0 hI hT) (lw_V q1403 q1405 qs41 q105 q1406) kd_X0_verdicts rfl rfl dX0_judged_38) hH hA (fun z38 M38_ H locs q_38 hH hz_38 => ?_)
        obtain ⟨e_38, x38x, ω38x, hR38x, hL38x⟩ := q_38
        subst e_38
        refine lv_lstore hx hb dX0_judged_41 hl (Nat.le_of_ble_eq_true rfl) (lv' := [(4, .long (lI (tuT (σ 2) c_ x_))), (0, .ref a), (1, .int (iI c_)), (2, .int (iI x_)), (3, .int (iI w_))]) rfl (fun ls hl => ?_)
        refine lv_lload hx hb dX0_judged_43 (lv_at hl 0 rfl) ?_
        refine lv_aload_n hx hb dX0_judged_45 rfl (lv_at hl 1 rfl) ?_
        refine x_get hx hb hts in_X0 hown hK hH hR38x.o rfl 12 (by decide) q353 (fun _ h9 => h9) rfl (by decide) dX0_judged_46 ?_
        refine W.eq (g2 := F0 m 49 ls (.long (lI (huT (σ 2) c_)) :: .long (lI (tuT (σ 2) c_ x_)) :: [])) (by rw [hL38x]) ?_
        refine lv_iload_n hx hb dX0_judged_49 rfl (lv_at hl 4 rfl) ?_
        refine x_calllF (x_runS (As := [.long (lI (tuT (σ 2) c_ x_)), .long (lI (huT (σ 2) c_)), .int (iI w_)]) (rest := []) S hH hK (fun _ _ hW => XN.warm hW hXN) XN_b hl.1 (xm_X0_lowest l G M38_ (tuT (σ 2) c_ x_) (huT (σ 2) c_) w_ _ htr.1 (by omega) (by omega) (by omega) (by omega)) (lw_S q1250 q1251 q105 q1252) kd_X0_lowest rfl rfl dX0_judged_50) hH hA (fun H locs hH => ?_)
        refine W.widen (k := 1) (n := 10) (Nat.le_of_ble_eq_true rfl) (Nat.le_of_ble_eq_true rfl) ?_
        refine x_lret hx hb hr hlk hH dX0_judged_53 ?_
        refine ⟨?_, _, _, hR38x⟩
        unfold judF
        first | rw [if_pos (by unfold isC isX; omega)] | rw [if_neg (by unfold isC isX; omega)]
      · -- 20F
        refine lv_ldc2 (v := lI (-1)) hx hb hown (by have h9 := hts _ q1249; rw [show ((-1) : Int64) = lI (-1) by decide +kernel] at h9; exact h9) dX0_judged_23 ?_
        refine W.widen (k := 1) (n := 10) (Nat.le_of_ble_eq_true rfl) (Nat.le_of_ble_eq_true rfl) ?_
        refine x_lret hx hb hr hlk hH dX0_judged_26 ?_
        refine ⟨?_, _, _, hR⟩
        unfold judF
        first | rw [if_pos (by unfold isC isX; omega)] | rw [if_neg (by unfold isC isX; omega)]
theorem kd_X0_saysTurned : yX0_saysTurned.cls = RX0 ∧ yX0_saysTurned.cls ≠ "java/lang/invoke/MethodHandle" ∧ yX0_saysTurned.cls ≠ "java/lang/invoke/VarHandle" ∧ (parseMethodDescriptor yX0_saysTurned.desc).map (fun d => d.parameters.length) = some 2 := by decide +kernel
theorem xm_X0_saysTurned (l : Launch) (G : MG) (M : Hp) (σ : St) (x : XGh) (ω : XCt) (a : Nat) (c_ : Int) (x_ : Int) (sz : Nat) (hR : RX G M a σ x ω) (h_c_ : R32 c_) (h_x_ : R32 x_) (hI : KI (σ 2)) (hT : TT (σ 2)) (hg : isC (σ 2) c_ ∧ isX (σ 2) x_) : Met l yX0_saysTurned (ws_ yX0_saysTurned cX0_saysTurned 3 (some .boolean)) (rmX 210 1 10) (xP G XN [.ref a, .int (iI c_), .int (iI x_)] M sz) (xQi G (DA M sz) (fun z M' => z = zb (leanP (σ 2) c_ x_) ∧ ∃ x' ω', RX G M' a σ x' ω')) 1 10 (DA M sz) := by
  refine x_start (by decide) (Nat.le_of_ble_eq_true rfl) ?_
  intro p e s m below meth c ⟨S, hr, hlk, hH, hK, hXN, hsz, hnm⟩ ls hl
  subst hsz
  obtain ⟨hx, hb, hml, hown, hts⟩ := S
  have S : CallFix p m c _ _ s _ lw_all RX0 := ⟨hx, hb, hml, hown, hts⟩
  have hA : ∀ q, s.heap.size ≤ q → DA M s.heap.size q := fun q hq => Or.inr hq
  have hl : lv_has ls 3 [(0, .ref a), (1, .int (iI c_)), (2, .int (iI x_))] := hl
  have b0 := hI.c
  unfold kCnt at b0
  have h_c_ := R32.n h_c_
  have h_x_ := R32.n h_x_
  refine lv_ldc2 (v := lI 2) hx hb hown (hts _ q438) dX0_saysTurned_0 ?_
  refine lv_aload_n hx hb dX0_saysTurned_3 rfl (lv_at hl 0 rfl) ?_
  refine lv_iload_n hx hb dX0_saysTurned_4 rfl (lv_at hl 1 rfl) ?_
  refine lv_aload_n hx hb dX0_saysTurned_5 rfl (lv_at hl 0 rfl) ?_
  refine x_get hx hb hts in_X0 hown hK hH hR.o rfl 0 (by decide) q339 (fun _ h9 => h9) rfl (by decide) dX0_saysTurned_6 ?_
  refine x_getN hx hb hts in_X1 hown hK hH hR.b0 rfl 12 (by decide) hXN q186 (fun _ h9 => h9) rfl (by decide) dX0_saysTurned_9 ?_
  refine lv_iload_n hx hb dX0_saysTurned_12 rfl (lv_at hl 2 rfl) ?_
  obtain ⟨y_, uy, tI⟩ := hR.ben.2.1.2.2.2.2.1 x_ (by omega) (by omega)
  obtain ⟨ar, k_, F, fa0, -⟩ := id tI
  have htr := tuT_r (x := x_) (c := c_) (by omega) (by omega) hI
  have hev := huT_e (κ := σ 2) (c := c_) (hI.u c_ (by omega) (by omega))
  refine x_aald hx hb hK hH 9 hR.b12 rfl (by omega) (by omega) (Nat.le_of_ble_eq_true rfl) (v := some y_) uy dX0_saysTurned_13 ?_
  refine x_calll (x_runV (As := [.int (iI c_), .ref y_]) (rest := [.long (lI 2)]) S hH hK (fun _ _ hW => XN.warm hW hXN) XN_b hl.1 hR.o rfl (xm_X0_verdicts l G M σ x ω x_ ar a c_ y_ _ hR ⟨by omega, by omega⟩ ⟨by omega, by omega⟩ tI fa0 hI hT) (lw_V q1403 q1405 qs41 q105 q1406) kd_X0_verdicts rfl rfl dX0_saysTurned_14) hH hA (fun z14 M14_ H locs q_14 hH hz_14 => ?_)
  obtain ⟨e_14, x14x, ω14x, hR14x, hL14x⟩ := q_14
  subst e_14
  refine n_lmul hx hb dX0_saysTurned_17 ?_
  refine lv_aload_n hx hb dX0_saysTurned_18 rfl (lv_at hl 0 rfl) ?_
  refine x_get hx hb hts in_X0 hown hK hH hR14x.o rfl 12 (by decide) q353 (fun _ h9 => h9) rfl (by decide) dX0_saysTurned_19 ?_
  refine W.eq (g2 := F0 m 22 ls (.long (lI (huT (σ 2) c_)) :: .long (lI (2 * (tuT (σ 2) c_ x_))) :: [])) (by rw [hL14x]) ?_
  refine n_lcmp_lt (tgt := 30) hx hb (r64 (by omega)) (r64 (by omega)) dX0_saysTurned_22 dX0_saysTurned_23 (by decide) (fun c_22 => ?_) (fun c_22 => ?_)
  · -- 22T
    refine n_iconst hx hb dX0_saysTurned_30 ?_
    refine W.widen (k := 1) (n := 10) (Nat.le_of_ble_eq_true rfl) (Nat.le_of_ble_eq_true rfl) ?_
    refine x_zret hx hb hr hlk hH dX0_saysTurned_31 (Or.inl rfl) ?_
    refine ⟨?_, _, _, hR14x⟩
    first | exact (zb_t (by unfold leanP; rw [Int.tdiv_eq_ediv_of_nonneg (by omega)]; omega)).symm | exact (zb_f (by unfold leanP; rw [Int.tdiv_eq_ediv_of_nonneg (by omega)]; omega)).symm
  · -- 22F
    refine n_iconst hx hb dX0_saysTurned_26 ?_
    refine lv_goto (tgt := 31) hx hb dX0_saysTurned_27 (by decide) ?_
    refine W.widen (k := 1) (n := 10) (Nat.le_of_ble_eq_true rfl) (Nat.le_of_ble_eq_true rfl) ?_
    refine x_zret hx hb hr hlk hH dX0_saysTurned_31 (Or.inr rfl) ?_
    refine ⟨?_, _, _, hR14x⟩
    first | exact (zb_t (by unfold leanP; rw [Int.tdiv_eq_ediv_of_nonneg (by omega)]; omega)).symm | exact (zb_f (by unfold leanP; rw [Int.tdiv_eq_ediv_of_nonneg (by omega)]; omega)).symm
theorem kd_X0_leans : yX0_leans.cls = RX0 ∧ yX0_leans.cls ≠ "java/lang/invoke/MethodHandle" ∧ yX0_leans.cls ≠ "java/lang/invoke/VarHandle" ∧ (parseMethodDescriptor yX0_leans.desc).map (fun d => d.parameters.length) = some 3 := by decide +kernel
theorem xm_X0_leans (l : Launch) (G : MG) (M : Hp) (σ : St) (x : XGh) (ω : XCt) (a : Nat) (c_ : Int) (p_ : Int) (q_ : Int) (sz : Nat) (hR : RX G M a σ x ω) (h_c_ : R32 c_) (h_p_ : R32 p_) (h_q_ : R32 q_) (hI : KI (σ 2)) (hT : TT (σ 2)) : Met l yX0_leans (ws_ yX0_leans cX0_leans 6 (some .int)) (rmX 211 2 20) (xP G XN [.ref a, .int (iI c_), .int (iI p_), .int (iI q_)] M sz) (xQi G (DA M sz) (fun z M' => z = leanF (σ 2) c_ p_ q_ ∧ ∃ x' ω', RX G M' a σ x' ω')) 2 20 (DA M sz) := by
  refine x_start (by decide) (Nat.le_of_ble_eq_true rfl) ?_
  intro p e s m below meth c ⟨S, hr, hlk, hH, hK, hXN, hsz, hnm⟩ ls hl
  subst hsz
  obtain ⟨hx, hb, hml, hown, hts⟩ := S
  have S : CallFix p m c _ _ s _ lw_all RX0 := ⟨hx, hb, hml, hown, hts⟩
  have hA : ∀ q, s.heap.size ≤ q → DA M s.heap.size q := fun q hq => Or.inr hq
  have hl : lv_has ls 6 [(0, .ref a), (1, .int (iI c_)), (2, .int (iI p_)), (3, .int (iI q_))] := hl
  have b0 := hI.c
  unfold kCnt at b0
  have h_c_ := R32.n h_c_
  have h_p_ := R32.n h_p_
  have h_q_ := R32.n h_q_
  refine lv_aload_n hx hb dX0_leans_0 rfl (lv_at hl 0 rfl) ?_
  refine lv_iload_n hx hb dX0_leans_1 rfl (lv_at hl 1 rfl) ?_
  refine x_calliF (x_runV (As := [.int (iI c_)]) (rest := []) S hH hK (fun _ _ hW => XN.warm hW hXN) XN_b hl.1 hR.o rfl (xm_X0_isCommission l G M σ x ω a c_ _ hR (r32 (by omega)) (by omega) (by omega)) (lw_V q1399 q1401 qs40 q105 q1402) kd_X0_isCommission rfl rfl dX0_leans_2) hH hA (fun H locs hH => ?_)
  refine z_if_eq (tgt := 24) hx hb dX0_leans_5 (by decide) (fun c_5 => ?_) (fun c_5 => ?_)
  · -- 5T
    refine n_sipush (z := -1000) hx hb dX0_leans_24 (by decide) ?_
    refine W.widen (k := 2) (n := 20) (Nat.le_of_ble_eq_true rfl) (Nat.le_of_ble_eq_true rfl) ?_
    refine x_iret hx hb hr hlk hH dX0_leans_27 ?_
    refine ⟨?_, _, _, hR⟩
    unfold leanF
    first
    | (rw [if_neg (by unfold isC isX; omega)]; done)
    | (rw [if_pos (show isC (σ 2) c_ ∧ isX (σ 2) p_ ∧ isX (σ 2) q_ by unfold isC isX; omega)]
       by_cases y1 : leanP (σ 2) c_ p_ <;> by_cases y2 : leanP (σ 2) c_ q_ <;> simp [zb, y1, y2] at * <;> omega)
  · -- 5F
    refine lv_aload_n hx hb dX0_leans_8 rfl (lv_at hl 0 rfl) ?_
    refine lv_iload_n hx hb dX0_leans_9 rfl (lv_at hl 2 rfl) ?_
    refine x_calliF (x_runV (As := [.int (iI p_)]) (rest := []) S hH hK (fun _ _ hW => XN.warm hW hXN) XN_b hl.1 hR.o rfl (xm_X0_isText l G M σ x ω a p_ _ hR (r32 (by omega)) (by omega) (by omega)) (lw_V q1161 q1163 qs32 q105 q1164) kd_X0_isText rfl rfl dX0_leans_10) hH hA (fun H locs hH => ?_)
    refine z_if_eq (tgt := 24) hx hb dX0_leans_13 (by decide) (fun c_13 => ?_) (fun c_13 => ?_)
    · -- 13T
      refine n_sipush (z := -1000) hx hb dX0_leans_24 (by decide) ?_
      refine W.widen (k := 2) (n := 20) (Nat.le_of_ble_eq_true rfl) (Nat.le_of_ble_eq_true rfl) ?_
      refine x_iret hx hb hr hlk hH dX0_leans_27 ?_
      refine ⟨?_, _, _, hR⟩
      unfold leanF
      first
      | (rw [if_neg (by unfold isC isX; omega)]; done)
      | (rw [if_pos (show isC (σ 2) c_ ∧ isX (σ 2) p_ ∧ isX (σ 2) q_ by unfold isC isX; omega)]
         by_cases y1 : leanP (σ 2) c_ p_ <;> by_cases y2 : leanP (σ 2) c_ q_ <;> simp [zb, y1, y2] at * <;> omega)
    · -- 13F
      refine lv_aload_n hx hb dX0_leans_16 rfl (lv_at hl 0 rfl) ?_
      refine lv_iload_n hx hb dX0_leans_17 rfl (lv_at hl 3 rfl) ?_
      refine x_calliF (x_runV (As := [.int (iI q_)]) (rest := []) S hH hK (fun _ _ hW => XN.warm hW hXN) XN_b hl.1 hR.o rfl (xm_X0_isText l G M σ x ω a q_ _ hR (r32 (by omega)) (by omega) (by omega)) (lw_V q1161 q1163 qs32 q105 q1164) kd_X0_isText rfl rfl dX0_leans_18) hH hA (fun H locs hH => ?_)
      refine z_if_ne (tgt := 28) hx hb dX0_leans_21 (by decide) (fun c_21 => ?_) (fun c_21 => ?_)
      · -- 21T
        refine lv_aload_n hx hb dX0_leans_28 rfl (lv_at hl 0 rfl) ?_
        refine lv_iload_n hx hb dX0_leans_29 rfl (lv_at hl 1 rfl) ?_
        refine lv_iload_n hx hb dX0_leans_30 rfl (lv_at hl 2 rfl) ?_
        refine x_calli (x_runV (As := [.int (iI c_), .int (iI p_)]) (rest := []) S hH hK (fun _ _ hW => XN.warm hW hXN) XN_b hl.1 hR.o rfl (xm_X0_saysTurned l G M σ x ω a c_ p_ _ hR (r32 (by omega)) (r32 (by omega)) hI hT ⟨⟨by omega, by omega⟩, by omega, by omega⟩) (lw_V q1412 q1414 qs42 q105 q1415) kd_X0_saysTurned rfl rfl dX0_leans_31) hH hA (fun z31 M31_ H locs q_31 hH hz_31 => ?_)
        obtain ⟨e_31, x31x, ω31x, hR31x⟩ := q_31
        subst e_31
        refine lv_istore hx hb dX0_leans_34 hl (Nat.le_of_ble_eq_true rfl) (lv' := [(4, .int (iI (zb (leanP (σ 2) c_ p_)))), (0, .ref a), (1, .int (iI c_)), (2, .int (iI p_)), (3, .int (iI q_))]) rfl (fun ls hl => ?_)
        refine lv_aload_n hx hb dX0_leans_36 rfl (lv_at hl 1 rfl) ?_
        refine lv_iload_n hx hb dX0_leans_37 rfl (lv_at hl 2 rfl) ?_
        refine lv_iload_n hx hb dX0_leans_38 rfl (lv_at hl 4 rfl) ?_
        refine x_calli (x_runV (As := [.int (iI c_), .int (iI q_)]) (rest := []) S hH hK (fun _ _ hW => XN.warm hW hXN) XN_b hl.1 hR31x.o rfl (xm_X0_saysTurned l G M31_ σ x31x ω31x a c_ q_ _ hR31x (r32 (by omega)) (r32 (by omega)) hI hT ⟨⟨by omega, by omega⟩, by omega, by omega⟩) (lw_V q1412 q1414 qs42 q105 q1415) kd_X0_saysTurned rfl rfl dX0_leans_39) hH hA (fun z39 M39_ H locs q_39 hH hz_39 => ?_)
        obtain ⟨e_39, x39x, ω39x, hR39x⟩ := q_39
        subst e_39
        refine lv_istore hx hb dX0_leans_42 hl (Nat.le_of_ble_eq_true rfl) (lv' := [(5, .int (iI (zb (leanP (σ 2) c_ q_)))), (4, .int (iI (zb (leanP (σ 2) c_ p_)))), (0, .ref a), (1, .int (iI c_)), (2, .int (iI p_)), (3, .int (iI q_))]) rfl (fun ls hl => ?_)
        refine lv_iload hx hb dX0_leans_44 (lv_at hl 1 rfl) ?_
        refine z_if_eq (tgt := 58) hx hb dX0_leans_46 (by decide) (fun c_46 => ?_) (fun c_46 => ?_)
        · -- 46T
          refine lv_iload hx hb dX0_leans_58 (lv_at hl 1 rfl) ?_
          refine z_if_ne (tgt := 68) hx hb dX0_leans_60 (by decide) (fun c_60 => ?_) (fun c_60 => ?_)
          · exact absurd c_60 c_46
          · -- 60F
            refine lv_iload hx hb dX0_leans_63 (lv_at hl 0 rfl) ?_
            refine z_if_eq (tgt := 72) hx hb dX0_leans_65 (by decide) (fun c_65 => ?_) (fun c_65 => ?_)
            · -- 65T
              refine n_iconst hx hb dX0_leans_72 ?_
              refine W.widen (k := 2) (n := 20) (Nat.le_of_ble_eq_true rfl) (Nat.le_of_ble_eq_true rfl) ?_
              refine x_iret hx hb hr hlk hH dX0_leans_73 ?_
              refine ⟨?_, _, _, hR39x⟩
              unfold leanF
              first
              | (rw [if_neg (by unfold isC isX; omega)]; done)
              | (rw [if_pos (show isC (σ 2) c_ ∧ isX (σ 2) p_ ∧ isX (σ 2) q_ by unfold isC isX; omega)]
                 by_cases y1 : leanP (σ 2) c_ p_ <;> by_cases y2 : leanP (σ 2) c_ q_ <;> simp [zb, y1, y2] at * <;> omega)
            · -- 65F
              refine n_iconst hx hb dX0_leans_68 ?_
              refine lv_goto (tgt := 73) hx hb dX0_leans_69 (by decide) ?_
              refine W.widen (k := 2) (n := 20) (Nat.le_of_ble_eq_true rfl) (Nat.le_of_ble_eq_true rfl) ?_
              refine x_iret hx hb hr hlk hH dX0_leans_73 ?_
              refine ⟨?_, _, _, hR39x⟩
              unfold leanF
              first
              | (rw [if_neg (by unfold isC isX; omega)]; done)
              | (rw [if_pos (show isC (σ 2) c_ ∧ isX (σ 2) p_ ∧ isX (σ 2) q_ by unfold isC isX; omega)]
                 by_cases y1 : leanP (σ 2) c_ p_ <;> by_cases y2 : leanP (σ 2) c_ q_ <;> simp [zb, y1, y2] at * <;> omega)
        · -- 46F
          refine lv_iload hx hb dX0_leans_49 (lv_at hl 0 rfl) ?_
          refine z_if_eq (tgt := 58) hx hb dX0_leans_51 (by decide) (fun c_51 => ?_) (fun c_51 => ?_)
          · -- 51T
            refine lv_iload hx hb dX0_leans_58 (lv_at hl 1 rfl) ?_
            refine z_if_ne (tgt := 68) hx hb dX0_leans_60 (by decide) (fun c_60 => ?_) (fun c_60 => ?_)
            · -- 60T
              refine n_iconst hx hb dX0_leans_68 ?_
              refine lv_goto (tgt := 73) hx hb dX0_leans_69 (by decide) ?_
              refine W.widen (k := 2) (n := 20) (Nat.le_of_ble_eq_true rfl) (Nat.le_of_ble_eq_true rfl) ?_
              refine x_iret hx hb hr hlk hH dX0_leans_73 ?_
              refine ⟨?_, _, _, hR39x⟩
              unfold leanF
              first
              | (rw [if_neg (by unfold isC isX; omega)]; done)
              | (rw [if_pos (show isC (σ 2) c_ ∧ isX (σ 2) p_ ∧ isX (σ 2) q_ by unfold isC isX; omega)]
                 by_cases y1 : leanP (σ 2) c_ p_ <;> by_cases y2 : leanP (σ 2) c_ q_ <;> simp [zb, y1, y2] at * <;> omega)
            · exact absurd c_46 c_60
          · -- 51F
            refine n_iconst hx hb dX0_leans_54 ?_
            refine lv_goto (tgt := 73) hx hb dX0_leans_55 (by decide) ?_
            refine W.widen (k := 2) (n := 20) (Nat.le_of_ble_eq_true rfl) (Nat.le_of_ble_eq_true rfl) ?_
            refine x_iret hx hb hr hlk hH dX0_leans_73 ?_
            refine ⟨?_, _, _, hR39x⟩
            unfold leanF
            first
            | (rw [if_neg (by unfold isC isX; omega)]; done)
            | (rw [if_pos (show isC (σ 2) c_ ∧ isX (σ 2) p_ ∧ isX (σ 2) q_ by unfold isC isX; omega)]
               by_cases y1 : leanP (σ 2) c_ p_ <;> by_cases y2 : leanP (σ 2) c_ q_ <;> simp [zb, y1, y2] at * <;> omega)
      · -- 21F
        refine n_sipush (z := -1000) hx hb dX0_leans_24 (by decide) ?_
        refine W.widen (k := 2) (n := 20) (Nat.le_of_ble_eq_true rfl) (Nat.le_of_ble_eq_true rfl) ?_
        refine x_iret hx hb hr hlk hH dX0_leans_27 ?_
        refine ⟨?_, _, _, hR⟩
        unfold leanF
        first
        | (rw [if_neg (by unfold isC isX; omega)]; done)
        | (rw [if_pos (show isC (σ 2) c_ ∧ isX (σ 2) p_ ∧ isX (σ 2) q_ by unfold isC isX; omega)]
           by_cases y1 : leanP (σ 2) c_ p_ <;> by_cases y2 : leanP (σ 2) c_ q_ <;> simp [zb, y1, y2] at * <;> omega)
