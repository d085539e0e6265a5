theorem out_m {κ : Int → Int} {x i : Int} : ∀ (m : Nat) (k n : Int), 0 ≤ n → i < -1 → outN κ x i m k n = -1
  | 0, k, n, h0, h => by rw [outN, if_neg (by omega)]
  | m + 1, k, n, h0, h => by
    rw [outN]
    split
    · rw [if_neg (by omega)]; exact out_m m _ _ (by omega) h
    · exact out_m m _ _ h0 h
theorem share_0 {a b w : Int} (ha : a = 0) (hb : 0 < b) (hw : 0 ≤ w ∧ w ≤ 1) : shareF a b w = w := by
  subst ha
  have e : (Nat.gcd (0 : Int).toNat b.toNat : Int) = b := by
    rw [show (0 : Int).toNat = 0 from rfl, Nat.gcd_zero_left]
    omega
  unfold shareF
  rw [e]
  split
  · rw [Int.zero_tdiv]; omega
  · rw [Int.tdiv_self (by omega)]; omega
theorem kd_X0_odds : yX0_odds.cls = RX0 ∧ yX0_odds.cls ≠ "java/lang/invoke/MethodHandle" ∧ yX0_odds.cls ≠ "java/lang/invoke/VarHandle" ∧ (parseMethodDescriptor yX0_odds.desc).map (fun d => d.parameters.length) = some 3 := by decide +kernel
theorem xm_X0_odds (l : Launch) (G : MG) (M : Hp) (σ : St) (x : XGh) (ω : XCt) (a : Nat) (x_ : Int) (w_ : Int) (n_ : Int) (sz : Nat) (hR : RX G M a σ x ω) (h_x_ : R32 x_) (h_w_ : R32 w_) (h_n_ : R32 n_) (hI : KI (σ 2)) (hT : TT (σ 2)) : Met l yX0_odds (ws_ yX0_odds cX0_odds 4 (some .int)) (rmD 208) (xP G XN [.ref a, .int (iI x_), .int (iI w_), .int (iI n_)] M sz) (xQi G (DA M sz) (fun z M' => z = (oddsF (σ 2) x_ w_ n_) ∧ M' = M)) 0 0 (DA M sz) := by
  refine x_start (by decide) (Nat.le_of_ble_eq_true rfl) ?_
  intro p e s m below meth c ⟨S, hr, hlk, hH, hK, hXN, hsz, hnm⟩ ls hl
  subst hsz
  obtain ⟨hx, hb, hml, hown, hts⟩ := S
  have S : CallFix p m c _ _ s _ lw_all RX0 := ⟨hx, hb, hml, hown, hts⟩
  have hA : ∀ q, s.heap.size ≤ q → DA M s.heap.size q := fun q hq => Or.inr hq
  have hl : lv_has ls 4 [(0, .ref a), (1, .int (iI x_)), (2, .int (iI w_)), (3, .int (iI n_))] := hl
  have b0 := hI.c
  unfold kCnt at b0
  have h_x_ := R32.n h_x_
  have h_w_ := R32.n h_w_
  have h_n_ := R32.n h_n_
  refine lv_aload_n hx hb dX0_odds_0 rfl (lv_at hl 0 rfl) ?_
  refine lv_iload_n hx hb dX0_odds_1 rfl (lv_at hl 1 rfl) ?_
  refine x_calliF (x_runV (As := [.int (iI x_)]) (rest := []) S hH hK (fun _ _ hW => XN.warm hW hXN) XN_b hl.1 hR.o rfl (xm_X0_isText l G M σ x ω a x_ _ hR (r32 (by omega)) (by omega) (by omega)) (lw_V q1161 q1163 qs32 q105 q1164) kd_X0_isText rfl rfl dX0_odds_2) hH hA (fun H locs hH => ?_)
  refine z_if_eq (tgt := 33) hx hb dX0_odds_5 (by decide) (fun c_5 => ?_) (fun c_5 => ?_)
  · -- 5T
    refine n_iconst hx hb dX0_odds_33 ?_
    refine x_iret hx hb hr hlk hH dX0_odds_34 ?_
    refine ⟨?_, rfl⟩
    show _ = oddsF _ _ _ _
    unfold oddsF isX isK isT
    (repeat' split) <;> first | rfl | (exfalso; omega)
  · -- 5F
    refine lv_iload_n hx hb dX0_odds_8 rfl (lv_at hl 2 rfl) ?_
    refine n_if_ne (tgt := 20) hx hb (r32 (by omega)) dX0_odds_9 (by decide) (fun c_9 => ?_) (fun c_9 => ?_)
    · -- 9T
      refine lv_iload_n hx hb dX0_odds_20 rfl (lv_at hl 2 rfl) ?_
      refine n_iconst hx hb dX0_odds_21 ?_
      refine n_icmp_ne (tgt := 33) hx hb (r32 (by omega)) (r32 (by omega)) dX0_odds_22 (by decide) (fun c_22 => ?_) (fun c_22 => ?_)
      · -- 22T
        refine n_iconst hx hb dX0_odds_33 ?_
        refine x_iret hx hb hr hlk hH dX0_odds_34 ?_
        refine ⟨?_, rfl⟩
        show _ = oddsF _ _ _ _
        unfold oddsF isX isK isT
        (repeat' split) <;> first | rfl | (exfalso; omega)
      · -- 22F
        refine lv_aload_n hx hb dX0_odds_25 rfl (lv_at hl 0 rfl) ?_
        refine lv_iload_n hx hb dX0_odds_26 rfl (lv_at hl 3 rfl) ?_
        refine x_calliF (x_runV (As := [.int (iI n_)]) (rest := []) S hH hK (fun _ _ hW => XN.warm hW hXN) XN_b hl.1 hR.o rfl (xm_X0_isTrial l G M σ x ω a n_ _ hR (r32 (by omega)) (by omega) (by omega)) (lw_V q795 q797 qs11 q105 q798) kd_X0_isTrial rfl rfl dX0_odds_27) hH hA (fun H locs hH => ?_)
        refine z_if_ne (tgt := 35) hx hb dX0_odds_30 (by decide) (fun c_30 => ?_) (fun c_30 => ?_)
        · -- 30T
          refine lv_iload_n hx hb dX0_odds_35 rfl (lv_at hl 2 rfl) ?_
          refine n_if_ne (tgt := 63) hx hb (r32 (by omega)) dX0_odds_36 (by decide) (fun c_36 => ?_) (fun c_36 => ?_)
          · -- 36T
            refine lv_aload_n hx hb dX0_odds_63 rfl (lv_at hl 0 rfl) ?_
            refine x_get hx hb hts in_X0 hown hK hH hR.o rfl 0 (by decide) q339 (fun _ h9 => h9) rfl (by decide) dX0_odds_64 ?_
            refine x_getN hx hb hts in_X1 hown hK hH hR.b0 rfl 12 (by decide) hXN q186 (fun _ h9 => h9) rfl (by decide) dX0_odds_67 ?_
            refine lv_iload_n hx hb dX0_odds_70 rfl (lv_at hl 1 rfl) ?_
            obtain ⟨y1, r1, u1, t1, g1⟩ := hR.text (i := x_) (by omega) (by omega)
            refine x_aald hx hb hK hH 9 hR.b12 rfl (by omega) (by omega) (Nat.le_of_ble_eq_true rfl) (v := some y1) u1 dX0_odds_71 ?_
            refine lv_aload_n hx hb dX0_odds_72 rfl (lv_at hl 0 rfl) ?_
            refine x_get hx hb hts in_X0 hown hK hH hR.o rfl 0 (by decide) q339 (fun _ h9 => h9) rfl (by decide) dX0_odds_73 ?_
            refine x_getN hx hb hts in_X1 hown hK hH hR.b0 rfl 11 (by decide) hXN q184 (fun _ h9 => h9) rfl (by decide) dX0_odds_76 ?_
            refine lv_iload_n hx hb dX0_odds_79 rfl (lv_at hl 3 rfl) ?_
            obtain ⟨y2, n2, w2, u2, g2, k2, e2⟩ := hR.trial (i := n_) (by omega) (by omega)
            refine x_aald hx hb hK hH 8 hR.b11 rfl (by omega) (by omega) (Nat.le_of_ble_eq_true rfl) (v := some y2) u2 dX0_odds_80 ?_
            refine x_calliF (x_runV (As := [.ref y2]) (rest := []) S hH hK (fun _ _ hW => XN.warm hW hXN) XN_b hl.1 g1 rfl (r_odds (x := x_) (k := n_) hI ⟨by omega, by omega⟩ g2 k2 e2 t1) (lw_V q1229 q1170 q1171 q135 q1172) kd_X22_odds rfl rfl dX0_odds_81) hH hA (fun H locs hH => ?_)
            refine x_iret hx hb hr hlk hH dX0_odds_84 ?_
            refine ⟨?_, rfl⟩
            show _ = oddsF _ _ _ _
            unfold oddsF isX isK isT
            (repeat' split) <;> first | rfl | (exfalso; omega)
          · exact absurd c_36 c_9
        · -- 30F
          refine n_iconst hx hb dX0_odds_33 ?_
          refine x_iret hx hb hr hlk hH dX0_odds_34 ?_
          refine ⟨?_, rfl⟩
          show _ = oddsF _ _ _ _
          unfold oddsF isX isK isT
          (repeat' split) <;> first | rfl | (exfalso; omega)
    · -- 9F
      refine lv_aload_n hx hb dX0_odds_12 rfl (lv_at hl 0 rfl) ?_
      refine lv_iload_n hx hb dX0_odds_13 rfl (lv_at hl 3 rfl) ?_
      refine x_calliF (x_runV (As := [.int (iI n_)]) (rest := []) S hH hK (fun _ _ hW => XN.warm hW hXN) XN_b hl.1 hR.o rfl (xm_X0_isLook l G M σ x ω a n_ _ hR (r32 (by omega)) (by omega) (by omega)) (lw_V q790 q792 qs10 q105 q793) kd_X0_isLook rfl rfl dX0_odds_14) hH hA (fun H locs hH => ?_)
      refine z_if_ne (tgt := 35) hx hb dX0_odds_17 (by decide) (fun c_17 => ?_) (fun c_17 => ?_)
      · -- 17T
        refine lv_iload_n hx hb dX0_odds_35 rfl (lv_at hl 2 rfl) ?_
        refine n_if_ne (tgt := 63) hx hb (r32 (by omega)) dX0_odds_36 (by decide) (fun c_36 => ?_) (fun c_36 => ?_)
        · exact absurd c_9 c_36
        · -- 36F
          refine lv_aload_n hx hb dX0_odds_39 rfl (lv_at hl 0 rfl) ?_
          refine x_get hx hb hts in_X0 hown hK hH hR.o rfl 0 (by decide) q339 (fun _ h9 => h9) rfl (by decide) dX0_odds_40 ?_
          refine x_getN hx hb hts in_X1 hown hK hH hR.b0 rfl 12 (by decide) hXN q186 (fun _ h9 => h9) rfl (by decide) dX0_odds_43 ?_
          refine lv_iload_n hx hb dX0_odds_46 rfl (lv_at hl 1 rfl) ?_
          obtain ⟨y3, r3, u3, t3, g3⟩ := hR.text (i := x_) (by omega) (by omega)
          refine x_aald hx hb hK hH 9 hR.b12 rfl (by omega) (by omega) (Nat.le_of_ble_eq_true rfl) (v := some y3) u3 dX0_odds_47 ?_
          refine lv_aload_n hx hb dX0_odds_48 rfl (lv_at hl 0 rfl) ?_
          refine x_get hx hb hts in_X0 hown hK hH hR.o rfl 0 (by decide) q339 (fun _ h9 => h9) rfl (by decide) dX0_odds_49 ?_
          refine x_getN hx hb hts in_X1 hown hK hH hR.b0 rfl 10 (by decide) hXN q182 (fun _ h9 => h9) rfl (by decide) dX0_odds_52 ?_
          refine lv_iload_n hx hb dX0_odds_55 rfl (lv_at hl 3 rfl) ?_
          obtain ⟨y4, n4, w4, u4, g4, k4, e4⟩ := hR.look (i := n_) (by omega) (by omega)
          have v4 := (hI.o n_ (by omega) (by omega)).2
          refine x_aald hx hb hK hH 7 hR.b10 rfl (by omega) (by omega) (Nat.le_of_ble_eq_true rfl) (v := some y4) u4 dX0_odds_56 ?_
          refine x_calliF (x_runV (As := [.ref y4]) (rest := []) S hH hK (fun _ _ hW => XN.warm hW hXN) XN_b hl.1 g3 rfl (l_oddsOf (x := x_) (k := n_) hI ⟨by omega, by omega⟩ g4 k4 e4 t3) (lw_V q1165 q1166 q1167 q135 q1168) kd_X22_oddsOf rfl rfl dX0_odds_57) hH hA (fun H locs hH => ?_)
          refine lv_goto (tgt := 84) hx hb dX0_odds_60 (by decide) ?_
          refine x_iret hx hb hr hlk hH dX0_odds_84 ?_
          refine ⟨?_, rfl⟩
          show _ = oddsF _ _ _ _
          unfold oddsF isX isK isT
          (repeat' split) <;> first | rfl | (exfalso; omega)
      · -- 17F
        refine lv_iload_n hx hb dX0_odds_20 rfl (lv_at hl 2 rfl) ?_
        refine n_iconst hx hb dX0_odds_21 ?_
        refine n_icmp_ne (tgt := 33) hx hb (r32 (by omega)) (r32 (by omega)) dX0_odds_22 (by decide) (fun c_22 => ?_) (fun c_22 => ?_)
        · -- 22T
          refine n_iconst hx hb dX0_odds_33 ?_
          refine x_iret hx hb hr hlk hH dX0_odds_34 ?_
          refine ⟨?_, rfl⟩
          show _ = oddsF _ _ _ _
          unfold oddsF isX isK isT
          (repeat' split) <;> first | rfl | (exfalso; omega)
        · -- 22F
          refine lv_aload_n hx hb dX0_odds_25 rfl (lv_at hl 0 rfl) ?_
          refine lv_iload_n hx hb dX0_odds_26 rfl (lv_at hl 3 rfl) ?_
          refine x_calliF (x_runV (As := [.int (iI n_)]) (rest := []) S hH hK (fun _ _ hW => XN.warm hW hXN) XN_b hl.1 hR.o rfl (xm_X0_isTrial l G M σ x ω a n_ _ hR (r32 (by omega)) (by omega) (by omega)) (lw_V q795 q797 qs11 q105 q798) kd_X0_isTrial rfl rfl dX0_odds_27) hH hA (fun H locs hH => ?_)
          refine z_if_ne (tgt := 35) hx hb dX0_odds_30 (by decide) (fun c_30 => ?_) (fun c_30 => ?_)
          · -- 30T
            refine lv_iload_n hx hb dX0_odds_35 rfl (lv_at hl 2 rfl) ?_
            refine n_if_ne (tgt := 63) hx hb (r32 (by omega)) dX0_odds_36 (by decide) (fun c_36 => ?_) (fun c_36 => ?_)
            · exact absurd c_9 c_36
            · -- 36F
              refine lv_aload_n hx hb dX0_odds_39 rfl (lv_at hl 0 rfl) ?_
              refine x_get hx hb hts in_X0 hown hK hH hR.o rfl 0 (by decide) q339 (fun _ h9 => h9) rfl (by decide) dX0_odds_40 ?_
              refine x_getN hx hb hts in_X1 hown hK hH hR.b0 rfl 12 (by decide) hXN q186 (fun _ h9 => h9) rfl (by decide) dX0_odds_43 ?_
              refine lv_iload_n hx hb dX0_odds_46 rfl (lv_at hl 1 rfl) ?_
              obtain ⟨y5, r5, u5, t5, g5⟩ := hR.text (i := x_) (by omega) (by omega)
              refine x_aald hx hb hK hH 9 hR.b12 rfl (by omega) (by omega) (Nat.le_of_ble_eq_true rfl) (v := some y5) u5 dX0_odds_47 ?_
              refine lv_aload_n hx hb dX0_odds_48 rfl (lv_at hl 0 rfl) ?_
              refine x_get hx hb hts in_X0 hown hK hH hR.o rfl 0 (by decide) q339 (fun _ h9 => h9) rfl (by decide) dX0_odds_49 ?_
              refine x_getN hx hb hts in_X1 hown hK hH hR.b0 rfl 10 (by decide) hXN q182 (fun _ h9 => h9) rfl (by decide) dX0_odds_52 ?_
              refine lv_iload_n hx hb dX0_odds_55 rfl (lv_at hl 3 rfl) ?_
              obtain ⟨y6, n6, w6, u6, g6, k6, e6⟩ := hR.look (i := n_) (by omega) (by omega)
              have v6 := (hI.o n_ (by omega) (by omega)).2
              refine x_aald hx hb hK hH 7 hR.b10 rfl (by omega) (by omega) (Nat.le_of_ble_eq_true rfl) (v := some y6) u6 dX0_odds_56 ?_
              refine x_calliF (x_runV (As := [.ref y6]) (rest := []) S hH hK (fun _ _ hW => XN.warm hW hXN) XN_b hl.1 g5 rfl (l_oddsOf (x := x_) (k := n_) hI ⟨by omega, by omega⟩ g6 k6 e6 t5) (lw_V q1165 q1166 q1167 q135 q1168) kd_X22_oddsOf rfl rfl dX0_odds_57) hH hA (fun H locs hH => ?_)
              refine lv_goto (tgt := 84) hx hb dX0_odds_60 (by decide) ?_
              refine x_iret hx hb hr hlk hH dX0_odds_84 ?_
              refine ⟨?_, rfl⟩
              show _ = oddsF _ _ _ _
              unfold oddsF isX isK isT
              (repeat' split) <;> first | rfl | (exfalso; omega)
          · -- 30F
            refine n_iconst hx hb dX0_odds_33 ?_
            refine x_iret hx hb hr hlk hH dX0_odds_34 ?_
            refine ⟨?_, rfl⟩
            show _ = oddsF _ _ _ _
            unfold oddsF isX isK isT
            (repeat' split) <;> first | rfl | (exfalso; omega)
theorem kd_X0_fair : yX0_fair.cls = RX0 ∧ yX0_fair.cls ≠ "java/lang/invoke/MethodHandle" ∧ yX0_fair.cls ≠ "java/lang/invoke/VarHandle" ∧ (parseMethodDescriptor yX0_fair.desc).map (fun d => d.parameters.length) = some 2 := by decide +kernel
theorem xm_X0_fair (l : Launch) (G : MG) (M : Hp) (σ : St) (x : XGh) (ω : XCt) (a : Nat) (x_ : Int) (t_ : Int) (sz : Nat) (hR : RX G M a σ x ω) (h_x_ : R32 x_) (h_t_ : R32 t_) (hI : KI (σ 2)) (hT : TT (σ 2)) : Met l yX0_fair (ws_ yX0_fair cX0_fair 3 (some .int)) (rmD 208) (xP G XN [.ref a, .int (iI x_), .int (iI t_)] M sz) (xQi G (DA M sz) (fun z M' => z = (fairF (σ 2) x_ t_) ∧ M' = M)) 0 0 (DA M sz) := by
  refine x_start (by decide) (Nat.le_of_ble_eq_true rfl) ?_
  intro p e s m below meth c ⟨S, hr, hlk, hH, hK, hXN, hsz, hnm⟩ ls hl
  subst hsz
  obtain ⟨hx, hb, hml, hown, hts⟩ := S
  have S : CallFix p m c _ _ s _ lw_all RX0 := ⟨hx, hb, hml, hown, hts⟩
  have hA : ∀ q, s.heap.size ≤ q → DA M s.heap.size q := fun q hq => Or.inr hq
  have hl : lv_has ls 3 [(0, .ref a), (1, .int (iI x_)), (2, .int (iI t_))] := hl
  have b0 := hI.c
  unfold kCnt at b0
  have h_x_ := R32.n h_x_
  have h_t_ := R32.n h_t_
  refine lv_aload_n hx hb dX0_fair_0 rfl (lv_at hl 0 rfl) ?_
  refine lv_iload_n hx hb dX0_fair_1 rfl (lv_at hl 1 rfl) ?_
  refine x_calliF (x_runV (As := [.int (iI x_)]) (rest := []) S hH hK (fun _ _ hW => XN.warm hW hXN) XN_b hl.1 hR.o rfl (xm_X0_isText l G M σ x ω a x_ _ hR (r32 (by omega)) (by omega) (by omega)) (lw_V q1161 q1163 qs32 q105 q1164) kd_X0_isText rfl rfl dX0_fair_2) hH hA (fun H locs hH => ?_)
  refine z_if_eq (tgt := 16) hx hb dX0_fair_5 (by decide) (fun c_5 => ?_) (fun c_5 => ?_)
  · -- 5T
    refine n_iconst hx hb dX0_fair_16 ?_
    refine lv_goto (tgt := 49) hx hb dX0_fair_17 (by decide) ?_
    refine x_iret hx hb hr hlk hH dX0_fair_49 ?_
    refine ⟨?_, rfl⟩
    show _ = fairF _ _ _
    unfold fairF isX isT
    (repeat' split) <;> omega
  · -- 5F
    refine lv_aload_n hx hb dX0_fair_8 rfl (lv_at hl 0 rfl) ?_
    refine lv_iload_n hx hb dX0_fair_9 rfl (lv_at hl 2 rfl) ?_
    refine x_calliF (x_runV (As := [.int (iI t_)]) (rest := []) S hH hK (fun _ _ hW => XN.warm hW hXN) XN_b hl.1 hR.o rfl (xm_X0_isTrial l G M σ x ω a t_ _ hR (r32 (by omega)) (by omega) (by omega)) (lw_V q795 q797 qs11 q105 q798) kd_X0_isTrial rfl rfl dX0_fair_10) hH hA (fun H locs hH => ?_)
    refine z_if_ne (tgt := 20) hx hb dX0_fair_13 (by decide) (fun c_13 => ?_) (fun c_13 => ?_)
    · -- 13T
      refine lv_aload_n hx hb dX0_fair_20 rfl (lv_at hl 0 rfl) ?_
      refine x_get hx hb hts in_X0 hown hK hH hR.o rfl 0 (by decide) q339 (fun _ h9 => h9) rfl (by decide) dX0_fair_21 ?_
      refine x_getN hx hb hts in_X1 hown hK hH hR.b0 rfl 12 (by decide) hXN q186 (fun _ h9 => h9) rfl (by decide) dX0_fair_24 ?_
      refine lv_iload_n hx hb dX0_fair_27 rfl (lv_at hl 1 rfl) ?_
      obtain ⟨y1, r1, u1, t1, g1⟩ := hR.text (i := x_) (by omega) (by omega)
      refine x_aald hx hb hK hH 9 hR.b12 rfl (by omega) (by omega) (Nat.le_of_ble_eq_true rfl) (v := some y1) u1 dX0_fair_28 ?_
      refine lv_aload_n hx hb dX0_fair_29 rfl (lv_at hl 0 rfl) ?_
      refine x_get hx hb hts in_X0 hown hK hH hR.o rfl 0 (by decide) q339 (fun _ h9 => h9) rfl (by decide) dX0_fair_30 ?_
      refine x_getN hx hb hts in_X1 hown hK hH hR.b0 rfl 11 (by decide) hXN q184 (fun _ h9 => h9) rfl (by decide) dX0_fair_33 ?_
      refine lv_iload_n hx hb dX0_fair_36 rfl (lv_at hl 2 rfl) ?_
      obtain ⟨y2, n2, w2, u2, g2, k2, e2⟩ := hR.trial (i := t_) (by omega) (by omega)
      refine x_aald hx hb hK hH 8 hR.b11 rfl (by omega) (by omega) (Nat.le_of_ble_eq_true rfl) (v := some y2) u2 dX0_fair_37 ?_
      have hf : fT (σ 2) x_ t_ = 0 ∨ fT (σ 2) x_ t_ = 1 := fairQ_01 _ _
      refine x_calliF (x_runV (As := [.ref y2]) (rest := []) S hH hK (fun _ _ hW => XN.warm hW hXN) XN_b hl.1 g1 rfl (r_isFair (x := x_) (k := t_) hI ⟨by omega, by omega⟩ g2 k2 e2 t1) (lw_V q1234 q1235 q1236 q135 q1237) kd_X22_isFair rfl rfl dX0_fair_38) hH hA (fun H locs hH => ?_)
      refine n_if_eq (tgt := 48) hx hb (r32 (by omega)) dX0_fair_41 (by decide) (fun c_41 => ?_) (fun c_41 => ?_)
      · -- 41T
        refine n_iconst hx hb dX0_fair_48 ?_
        refine x_iret hx hb hr hlk hH dX0_fair_49 ?_
        refine ⟨?_, rfl⟩
        show _ = fairF _ _ _
        unfold fairF isX isT
        (repeat' split) <;> omega
      · -- 41F
        refine n_iconst hx hb dX0_fair_44 ?_
        refine lv_goto (tgt := 49) hx hb dX0_fair_45 (by decide) ?_
        refine x_iret hx hb hr hlk hH dX0_fair_49 ?_
        refine ⟨?_, rfl⟩
        show _ = fairF _ _ _
        unfold fairF isX isT
        (repeat' split) <;> omega
    · -- 13F
      refine n_iconst hx hb dX0_fair_16 ?_
      refine lv_goto (tgt := 49) hx hb dX0_fair_17 (by decide) ?_
      refine x_iret hx hb hr hlk hH dX0_fair_49 ?_
      refine ⟨?_, rfl⟩
      show _ = fairF _ _ _
      unfold fairF isX isT
      (repeat' split) <;> omega
theorem kd_X0_outBy : yX0_outBy.cls = RX0 ∧ yX0_outBy.cls ≠ "java/lang/invoke/MethodHandle" ∧ yX0_outBy.cls ≠ "java/lang/invoke/VarHandle" ∧ (parseMethodDescriptor yX0_outBy.desc).map (fun d => d.parameters.length) = some 2 := by decide +kernel
theorem xm_X0_outBy (l : Launch) (G : MG) (M : Hp) (σ : St) (x : XGh) (ω : XCt) (a : Nat) (x_ : Int) (i_ : Int) (sz : Nat) (hR : RX G M a σ x ω) (h_x_ : R32 x_) (h_i_ : R32 i_) (hI : KI (σ 2)) (hT : TT (σ 2)) : Met l yX0_outBy (ws_ yX0_outBy cX0_outBy 5 (some .int)) (rmD 208) (xP G XN [.ref a, .int (iI x_), .int (iI i_)] M sz) (xQi G (DA M sz) (fun z M' => z = (outF (σ 2) x_ i_) ∧ M' = M)) 0 0 (DA M sz) := by
  refine x_start (by decide) (Nat.le_of_ble_eq_true rfl) ?_
  intro p e s m below meth c ⟨S, hr, hlk, hH, hK, hXN, hsz, hnm⟩ ls hl
  subst hsz
  obtain ⟨hx, hb, hml, hown, hts⟩ := S
  have S : CallFix p m c _ _ s _ lw_all RX0 := ⟨hx, hb, hml, hown, hts⟩
  have hA : ∀ q, s.heap.size ≤ q → DA M s.heap.size q := fun q hq => Or.inr hq
  have hl : lv_has ls 5 [(0, .ref a), (1, .int (iI x_)), (2, .int (iI i_))] := hl
  have b0 := hI.c
  unfold kCnt at b0
  have h_x_ := R32.n h_x_
  have h_i_ := R32.n h_i_
  have hmin : ∀ (m : Nat) (k n : Int), 0 ≤ n → i_ < -1 → outN (σ 2) x_ i_ m k n = -1 := out_m
  have L15 : ∀ (q : Nat) (k : Int) (n : Int), (hg : isX (σ 2) x_) → (hk0 : 0 ≤ k) → (hk1 : k ≤ σ 2 1754) → (hn0 : 0 ≤ n) → (hn1 : n ≤ k) → (hq : σ 2 1754 < (q : Int) + k) → (he : outN (σ 2) x_ i_ (σ 2 1754).toNat 0 0 = outN (σ 2) x_ i_ (σ 2 1754 - k).toNat k n) → ∀ (H : Heap) (locs : List Loc) (ls : Array Slot), XV G (DA M s.heap.size) M s.heap H locs → lv_has ls 5 [(0, .ref a), (1, .int (iI x_)), (2, .int (iI i_)), (3, .int (iI n)), (4, .int (iI k))] → W p l e (rmD 208) s m ([.ref a, .int (iI x_), .int (iI i_)] : List Value).toArray below meth c H locs 0 0 (MQ below (xQi G (DA M s.heap.size) (fun z M' => z = (outF (σ 2) x_ i_) ∧ M' = M)) ([.ref a, .int (iI x_), .int (iI i_)] : List Value).toArray s 0 0 (DA M s.heap.size)) (F0 m 15 ls []) := by
    intro q
    induction q with
    | zero => intro k n hg hk0 hk1 hn0 hn1 hq he; exfalso; omega
    | succ q ih_15 =>
      intro k n hg hk0 hk1 hn0 hn1 hq he H locs ls hH hl
      have ho := oL_r (σ 2) x_ k
      refine lv_iload hx hb dX0_outBy_15 (lv_at hl 4 rfl) ?_
      refine lv_aload_n hx hb dX0_outBy_17 rfl (lv_at hl 0 rfl) ?_
      refine x_get hx hb hts in_X0 hown hK hH hR.o rfl 0 (by decide) q339 (fun _ h9 => h9) rfl (by decide) dX0_outBy_18 ?_
      refine x_getN hx hb hts in_X1 hown hK hH hR.b0 rfl 3 (by decide) hXN q168 (fun _ h9 => h9) rfl (by decide) dX0_outBy_21 ?_
      refine n_icmp_ge (tgt := 72) hx hb (r32 (by omega)) (r32 (by omega)) dX0_outBy_24 (by decide) (fun c_24 => ?_) (fun c_24 => ?_)
      · -- 24T
        refine lv_iload_n hx hb dX0_outBy_72 rfl (lv_at hl 2 rfl) ?_
        refine n_iconst hx hb dX0_outBy_73 ?_
        refine n_icmp_ne (tgt := 81) hx hb (r32 (by omega)) (r32 (by omega)) dX0_outBy_74 (by decide) (fun c_74 => ?_) (fun c_74 => ?_)
        · -- 74T
          refine n_iconst hx hb dX0_outBy_81 ?_
          refine x_iret hx hb hr hlk hH dX0_outBy_82 ?_
          refine ⟨?_, rfl⟩
          show _ = outF _ _ _
          rw [outF]
          split
          · rw [he, show (σ 2 1754 - k).toNat = 0 by omega, outN, if_neg (by omega)]
          · rfl
        · -- 74F
          refine lv_iload_n hx hb dX0_outBy_77 rfl (lv_at hl 3 rfl) ?_
          refine lv_goto (tgt := 82) hx hb dX0_outBy_78 (by decide) ?_
          refine x_iret hx hb hr hlk hH dX0_outBy_82 ?_
          refine ⟨?_, rfl⟩
          show _ = outF _ _ _
          rw [outF, if_pos ⟨hg, by omega⟩, he, show (σ 2 1754 - k).toNat = 0 by omega, outN, if_pos (by omega)]
      · -- 24F
        refine lv_aload_n hx hb dX0_outBy_27 rfl (lv_at hl 0 rfl) ?_
        refine x_get hx hb hts in_X0 hown hK hH hR.o rfl 0 (by decide) q339 (fun _ h9 => h9) rfl (by decide) dX0_outBy_28 ?_
        refine x_getN hx hb hts in_X1 hown hK hH hR.b0 rfl 12 (by decide) hXN q186 (fun _ h9 => h9) rfl (by decide) dX0_outBy_31 ?_
        refine lv_iload_n hx hb dX0_outBy_34 rfl (lv_at hl 1 rfl) ?_
        obtain ⟨y1, r1, u1, t1, g1⟩ := hR.text (i := x_) (by omega) (by omega)
        refine x_aald hx hb hK hH 9 hR.b12 rfl (by omega) (by omega) (Nat.le_of_ble_eq_true rfl) (v := some y1) u1 dX0_outBy_35 ?_
        refine lv_aload_n hx hb dX0_outBy_36 rfl (lv_at hl 0 rfl) ?_
        refine x_get hx hb hts in_X0 hown hK hH hR.o rfl 0 (by decide) q339 (fun _ h9 => h9) rfl (by decide) dX0_outBy_37 ?_
        refine x_getN hx hb hts in_X1 hown hK hH hR.b0 rfl 10 (by decide) hXN q182 (fun _ h9 => h9) rfl (by decide) dX0_outBy_40 ?_
        refine lv_iload hx hb dX0_outBy_43 (lv_at hl 4 rfl) ?_
        obtain ⟨y2, n2, w2, u2, g2, k2, e2⟩ := hR.look (i := k) (by omega) (by omega)
        have v2 := (hI.o k (by omega) (by omega)).2
        refine x_aald hx hb hK hH 7 hR.b10 rfl (by omega) (by omega) (Nat.le_of_ble_eq_true rfl) (v := some y2) u2 dX0_outBy_45 ?_
        refine x_calliF (x_runV (As := [.ref y2]) (rest := []) S hH hK (fun _ _ hW => XN.warm hW hXN) XN_b hl.1 g1 rfl (l_oddsOf (x := x_) (k := k) hI ⟨by omega, by omega⟩ g2 k2 e2 t1) (lw_V q1165 q1166 q1167 q135 q1168) kd_X22_oddsOf rfl rfl dX0_outBy_46) hH hA (fun H locs hH => ?_)
        refine n_if_le (tgt := 55) hx hb (r32 (by omega)) dX0_outBy_49 (by decide) (fun c_49 => ?_) (fun c_49 => ?_)
        · -- 49T
          refine lv_iload_n hx hb dX0_outBy_55 rfl (lv_at hl 3 rfl) ?_
          refine lv_iload_n hx hb dX0_outBy_56 rfl (lv_at hl 2 rfl) ?_
          refine n_icmp_ne (tgt := 63) hx hb (r32 (by omega)) (r32 (by omega)) dX0_outBy_57 (by decide) (fun c_57 => ?_) (fun c_57 => ?_)
          · -- 57T
            refine n_iinc hx hb dX0_outBy_63 hl (k := 3) rfl (Nat.le_of_ble_eq_true rfl) (lv' := [(3, .int (iI (n + 1))), (0, .ref a), (1, .int (iI x_)), (2, .int (iI i_)), (4, .int (iI k))]) rfl (fun ls hl => ?_)
            refine n_iinc hx hb dX0_outBy_66 hl (k := 4) rfl (Nat.le_of_ble_eq_true rfl) (lv' := [(4, .int (iI (k + 1))), (3, .int (iI (n + 1))), (0, .ref a), (1, .int (iI x_)), (2, .int (iI i_))]) rfl (fun ls hl => ?_)
            refine lv_goto (tgt := 15) hx hb dX0_outBy_69 (by decide) ?_
            have hl : lv_has ls 5 [(0, .ref a), (1, .int (iI x_)), (2, .int (iI i_)), (3, .int (iI (n + 1))), (4, .int (iI (k + 1)))] := lv_sub hl [2, 3, 4, 1, 0] rfl
            refine ih_15 (k + 1) (n + 1) ?_ ?_ ?_ ?_ ?_ ?_ ?_ _ _ _ hH hl
            · exact hg
            · omega
            · omega
            · omega
            · omega
            · omega
            · rw [he, outN_e (by omega)]
              (repeat' split) <;> first | rfl | (exfalso; omega)
          · -- 57F
            refine lv_iload hx hb dX0_outBy_60 (lv_at hl 4 rfl) ?_
            refine x_iret hx hb hr hlk hH dX0_outBy_62 ?_
            refine ⟨?_, rfl⟩
            show _ = outF _ _ _
            rw [outF, if_pos ⟨hg, by omega⟩, he, outN_e (by omega), if_pos (by omega), if_pos (by omega)]
        · -- 49F
          refine lv_goto (tgt := 66) hx hb dX0_outBy_52 (by decide) ?_
          refine n_iinc hx hb dX0_outBy_66 hl (k := 4) rfl (Nat.le_of_ble_eq_true rfl) (lv' := [(4, .int (iI (k + 1))), (0, .ref a), (1, .int (iI x_)), (2, .int (iI i_)), (3, .int (iI n))]) rfl (fun ls hl => ?_)
          refine lv_goto (tgt := 15) hx hb dX0_outBy_69 (by decide) ?_
          have hl : lv_has ls 5 [(0, .ref a), (1, .int (iI x_)), (2, .int (iI i_)), (3, .int (iI n)), (4, .int (iI (k + 1)))] := lv_sub hl [1, 2, 3, 4, 0] rfl
          refine ih_15 (k + 1) n ?_ ?_ ?_ ?_ ?_ ?_ ?_ _ _ _ hH hl
          · exact hg
          · omega
          · omega
          · omega
          · omega
          · omega
          · rw [he, outN_e (by omega)]
            (repeat' split) <;> first | rfl | (exfalso; omega)
  refine lv_aload_n hx hb dX0_outBy_0 rfl (lv_at hl 0 rfl) ?_
  refine lv_iload_n hx hb dX0_outBy_1 rfl (lv_at hl 1 rfl) ?_
  refine x_calliF (x_runV (As := [.int (iI x_)]) (rest := []) S hH hK (fun _ _ hW => XN.warm hW hXN) XN_b hl.1 hR.o rfl (xm_X0_isText l G M σ x ω a x_ _ hR (r32 (by omega)) (by omega) (by omega)) (lw_V q1161 q1163 qs32 q105 q1164) kd_X0_isText rfl rfl dX0_outBy_2) hH hA (fun H locs hH => ?_)
  refine z_if_ne (tgt := 10) hx hb dX0_outBy_5 (by decide) (fun c_5 => ?_) (fun c_5 => ?_)
  · -- 5T
    refine n_iconst hx hb dX0_outBy_10 ?_
    refine lv_istore_n hx hb dX0_outBy_11 rfl hl (Nat.le_of_ble_eq_true rfl) (lv' := [(3, .int (iI 0)), (0, .ref a), (1, .int (iI x_)), (2, .int (iI i_))]) rfl (fun ls hl => ?_)
    refine n_iconst hx hb dX0_outBy_12 ?_
    refine lv_istore hx hb dX0_outBy_13 hl (Nat.le_of_ble_eq_true rfl) (lv' := [(4, .int (iI 0)), (3, .int (iI 0)), (0, .ref a), (1, .int (iI x_)), (2, .int (iI i_))]) rfl (fun ls hl => ?_)
    have hl : lv_has ls 5 [(0, .ref a), (1, .int (iI x_)), (2, .int (iI i_)), (3, .int (iI 0)), (4, .int (iI 0))] := lv_sub hl [2, 3, 4, 1, 0] rfl
    refine L15 50 0 0 ?_ ?_ ?_ ?_ ?_ ?_ ?_ _ _ _ hH hl
    · omega
    · omega
    · omega
    · omega
    · omega
    · omega
    · rw [Int.sub_zero]
  · -- 5F
    refine n_iconst hx hb dX0_outBy_8 ?_
    refine x_iret hx hb hr hlk hH dX0_outBy_9 ?_
    refine ⟨?_, rfl⟩
    show _ = outF _ _ _
    unfold outF isX
    rw [if_neg (by omega)]
theorem kd_X0_common : yX0_common.cls = RX0 ∧ yX0_common.cls ≠ "java/lang/invoke/MethodHandle" ∧ yX0_common.cls ≠ "java/lang/invoke/VarHandle" ∧ (parseMethodDescriptor yX0_common.desc).map (fun d => d.parameters.length) = some 2 := by decide +kernel
theorem xm_X0_common (l : Launch) (G : MG) (M : Hp) (a_ : Int) (b_ : Int) (sz : Nat) (h0 : 0 ≤ a_) (h1 : 0 ≤ b_) (h2 : a_ < 9223372036854775808) (h3 : b_ < 9223372036854775808) : Met l yX0_common (ws_ yX0_common cX0_common 10 (some .long)) (rmD 1) (xP G XN [.long (lI a_), .long (lI b_)] M sz) (xQl G (DA M sz) (fun z M' => z = ((Nat.gcd a_.toNat b_.toNat : Nat) : Int) ∧ M' = M)) 0 0 (DA M sz) := by
  refine x_start (by decide) (Nat.le_of_ble_eq_true rfl) ?_
  intro p e s m below meth c ⟨S, hr, hlk, hH, hK, hXN, hsz, hnm⟩ ls hl
  subst hsz
  obtain ⟨hx, hb, hml, hown, hts⟩ := S
  have S : CallFix p m c _ _ s _ lw_all RX0 := ⟨hx, hb, hml, hown, hts⟩
  have hA : ∀ q, s.heap.size ≤ q → DA M s.heap.size q := fun q hq => Or.inr hq
  have hl : lv_has ls 10 [(0, .long (lI a_)), (2, .long (lI b_))] := hl
  have L6 : ∀ (q : Nat) (x : Int) (y : Int), (hx0 : 0 ≤ x) → (hy0 : 0 ≤ y) → (hx1 : x < 9223372036854775808) → (hy1 : y < 9223372036854775808) → (hg : Nat.gcd x.toNat y.toNat = Nat.gcd a_.toNat b_.toNat) → (hk : y < (q : Int)) → ∀ (H : Heap) (locs : List Loc) (ls : Array Slot), XV G (DA M s.heap.size) M s.heap H locs → lv_has ls 10 [(4, .long (lI x)), (6, .long (lI y))] → W p l e (rmD 1) s m ([.long (lI a_), .long (lI b_)] : List Value).toArray below meth c H locs 0 0 (MQ below (xQl G (DA M s.heap.size) (fun z M' => z = ((Nat.gcd a_.toNat b_.toNat : Nat) : Int) ∧ M' = M)) ([.long (lI a_), .long (lI b_)] : List Value).toArray s 0 0 (DA M s.heap.size)) (F0 m 6 ls []) := by
    intro q
    induction q with
    | zero => intro x y hx0 hy0 hx1 hy1 hg hk; exfalso; omega
    | succ q ih_6 =>
      intro x y hx0 hy0 hx1 hy1 hg hk H locs ls hH hl
      refine lv_lload hx hb dX0_common_6 (lv_at hl 1 rfl) ?_
      refine n_lconst (z := 0) hx hb dX0_common_8 (by decide) ?_
      refine n_lcmp_eq (tgt := 31) hx hb (r64 (by omega)) (r64 (by omega)) dX0_common_9 dX0_common_10 (by decide) (fun c_9 => ?_) (fun c_9 => ?_)
      · -- 9T
        refine lv_lload hx hb dX0_common_31 (lv_at hl 0 rfl) ?_
        refine x_lret hx hb hr hlk hH dX0_common_33 ?_
        exact ⟨gcd_en hx0 c_9 hg, rfl⟩
      · -- 9F
        have hy2 : 0 < y := by omega
        have hm1 := tmod_nn hx0 hy2
        have hm2 := tmod_lt hx0 hy2
        refine lv_lload hx hb dX0_common_13 (lv_at hl 0 rfl) ?_
        refine lv_lload hx hb dX0_common_15 (lv_at hl 1 rfl) ?_
        refine n_lrem hx hb (by omega) (r64 (by omega)) (r64 (by omega)) (tdiv_r hx0 hx1 hy2) dX0_common_17 ?_
        refine lv_lstore hx hb dX0_common_18 hl (Nat.le_of_ble_eq_true rfl) (lv' := [(8, .long (lI (Int.tmod x y))), (4, .long (lI x)), (6, .long (lI y))]) rfl (fun ls hl => ?_)
        refine lv_lload hx hb dX0_common_20 (lv_at hl 2 rfl) ?_
        refine lv_lstore hx hb dX0_common_22 hl (Nat.le_of_ble_eq_true rfl) (lv' := [(4, .long (lI y)), (8, .long (lI (Int.tmod x y))), (6, .long (lI y))]) rfl (fun ls hl => ?_)
        refine lv_lload hx hb dX0_common_24 (lv_at hl 1 rfl) ?_
        refine lv_lstore hx hb dX0_common_26 hl (Nat.le_of_ble_eq_true rfl) (lv' := [(6, .long (lI (Int.tmod x y))), (4, .long (lI y)), (8, .long (lI (Int.tmod x y)))]) rfl (fun ls hl => ?_)
        refine lv_goto (tgt := 6) hx hb dX0_common_28 (by decide) ?_
        have hl : lv_has ls 10 [(4, .long (lI y)), (6, .long (lI (Int.tmod x y)))] := lv_sub hl [1, 0] rfl
        refine ih_6 y (Int.tmod x y) ?_ ?_ ?_ ?_ ?_ ?_ _ _ _ hH hl
        · omega
        · omega
        · omega
        · omega
        · exact gcd_st hx0 hy0 hg
        · omega
  refine lv_lload_n hx hb dX0_common_0 rfl (lv_at hl 0 rfl) ?_
  refine lv_lstore hx hb dX0_common_1 hl (Nat.le_of_ble_eq_true rfl) (lv' := [(4, .long (lI a_)), (0, .long (lI a_)), (2, .long (lI b_))]) rfl (fun ls hl => ?_)
  refine lv_lload_n hx hb dX0_common_3 rfl (lv_at hl 2 rfl) ?_
  refine lv_lstore hx hb dX0_common_4 hl (Nat.le_of_ble_eq_true rfl) (lv' := [(6, .long (lI b_)), (4, .long (lI a_)), (0, .long (lI a_)), (2, .long (lI b_))]) rfl (fun ls hl => ?_)
  have hl : lv_has ls 10 [(4, .long (lI a_)), (6, .long (lI b_))] := lv_sub hl [1, 0] rfl
  refine L6 (b_.toNat + 1) a_ b_ ?_ ?_ ?_ ?_ ?_ ?_ _ _ _ hH hl
  · omega
  · omega
  · omega
  · omega
  · rfl
  · omega
theorem kd_X0_lowest : yX0_lowest.cls = RX0 ∧ yX0_lowest.cls ≠ "java/lang/invoke/MethodHandle" ∧ yX0_lowest.cls ≠ "java/lang/invoke/VarHandle" ∧ (parseMethodDescriptor yX0_lowest.desc).map (fun d => d.parameters.length) = some 3 := by decide +kernel
theorem xm_X0_lowest (l : Launch) (G : MG) (M : Hp) (a_ : Int) (b_ : Int) (w_ : Int) (sz : Nat) (h0 : 0 ≤ a_) (h1 : 0 < b_) (h2 : a_ < 9223372036854775808) (h3 : b_ < 9223372036854775808) (h4 : 0 ≤ w_ ∧ w_ ≤ 1) : Met l yX0_lowest (ws_ yX0_lowest cX0_lowest 7 (some .long)) (rmD 2) (xP G XN [.long (lI a_), .long (lI b_), .int (iI w_)] M sz) (xQl G (DA M sz) (fun z M' => z = (shareF a_ b_ w_) ∧ M' = M)) 0 0 (DA M sz) := by
  refine x_start (by decide) (Nat.le_of_ble_eq_true rfl) ?_
  intro p e s m below meth c ⟨S, hr, hlk, hH, hK, hXN, hsz, hnm⟩ ls hl
  subst hsz
  obtain ⟨hx, hb, hml, hown, hts⟩ := S
  have S : CallFix p m c _ _ s _ lw_all RX0 := ⟨hx, hb, hml, hown, hts⟩
  have hA : ∀ q, s.heap.size ≤ q → DA M s.heap.size q := fun q hq => Or.inr hq
  have hl : lv_has ls 7 [(0, .long (lI a_)), (2, .long (lI b_)), (4, .int (iI w_))] := hl
  have hgp := gcd_p (a := a_) h1
  refine lv_lload_n hx hb dX0_lowest_0 rfl (lv_at hl 0 rfl) ?_
  refine n_lconst (z := 0) hx hb dX0_lowest_1 (by decide) ?_
  refine n_lcmp_ne (tgt := 10) hx hb (r64 (by omega)) (r64 (by omega)) dX0_lowest_2 dX0_lowest_3 (by decide) (fun c_2 => ?_) (fun c_2 => ?_)
  · -- 2T
    refine lv_lload_n hx hb dX0_lowest_10 rfl (lv_at hl 0 rfl) ?_
    refine lv_lload_n hx hb dX0_lowest_11 rfl (lv_at hl 1 rfl) ?_
    refine x_calllF (x_runS (As := [.long (lI a_), .long (lI b_)]) (rest := []) S hH hK (fun _ _ hW => XN.warm hW hXN) XN_b hl.1 (xm_X0_common l G M a_ b_ _ (by omega) (by omega) (by omega) (by omega)) (lw_S q1253 q1254 q105 q1255) kd_X0_common rfl rfl dX0_lowest_12) hH hA (fun H locs hH => ?_)
    refine lv_lstore hx hb dX0_lowest_15 hl (Nat.le_of_ble_eq_true rfl) (lv' := [(5, .long (lI ((Nat.gcd a_.toNat b_.toNat : Nat) : Int))), (0, .long (lI a_)), (2, .long (lI b_)), (4, .int (iI w_))]) rfl (fun ls hl => ?_)
    refine lv_iload hx hb dX0_lowest_17 (lv_at hl 3 rfl) ?_
    refine n_if_ne (tgt := 29) hx hb (r32 (by omega)) dX0_lowest_19 (by decide) (fun c_19 => ?_) (fun c_19 => ?_)
    · -- 19T
      refine lv_lload_n hx hb dX0_lowest_29 rfl (lv_at hl 2 rfl) ?_
      refine lv_lload hx hb dX0_lowest_30 (lv_at hl 0 rfl) ?_
      refine n_ldiv hx hb (by omega) (r64 (by omega)) (r64 (by omega)) (tdiv_r (by omega) (by omega) (by omega)) dX0_lowest_32 ?_
      refine x_lret hx hb hr hlk hH dX0_lowest_33 ?_
      exact ⟨(if_neg c_19).symm, rfl⟩
    · -- 19F
      refine lv_lload_n hx hb dX0_lowest_22 rfl (lv_at hl 1 rfl) ?_
      refine lv_lload hx hb dX0_lowest_23 (lv_at hl 0 rfl) ?_
      refine n_ldiv hx hb (by omega) (r64 (by omega)) (r64 (by omega)) (tdiv_r h0 (by omega) (by omega)) dX0_lowest_25 ?_
      refine lv_goto (tgt := 33) hx hb dX0_lowest_26 (by decide) ?_
      refine x_lret hx hb hr hlk hH dX0_lowest_33 ?_
      exact ⟨(if_pos c_19).symm, rfl⟩
  · -- 2F
    refine lv_iload hx hb dX0_lowest_6 (lv_at hl 2 rfl) ?_
    refine n_i2l hx hb (r32 (by omega)) dX0_lowest_8 ?_
    refine x_lret hx hb hr hlk hH dX0_lowest_9 ?_
    exact ⟨(share_0 c_2 h1 h4).symm, rfl⟩
theorem kd_X0_worth : yX0_worth.cls = RX0 ∧ yX0_worth.cls ≠ "java/lang/invoke/MethodHandle" ∧ yX0_worth.cls ≠ "java/lang/invoke/VarHandle" ∧ (parseMethodDescriptor yX0_worth.desc).map (fun d => d.parameters.length) = some 4 := by decide +kernel
theorem xm_X0_worth (l : Launch) (G : MG) (M : Hp) (σ : St) (x : XGh) (ω : XCt) (a : Nat) (x_ : Int) (f_ : Int) (t_ : Int) (w_ : Int) (sz : Nat) (hR : RX G M a σ x ω) (h_x_ : R32 x_) (h_f_ : R32 f_) (h_t_ : R32 t_) (h_w_ : R32 w_) (hI : KI (σ 2)) (hT : TT (σ 2)) : Met l yX0_worth (ws_ yX0_worth cX0_worth 10 (some .long)) (rmD 208) (xP G XN [.ref a, .int (iI x_), .int (iI f_), .int (iI t_), .int (iI w_)] M sz) (xQl G (DA M sz) (fun z M' => z = (worthF (σ 2) x_ f_ t_ w_) ∧ M' = M)) 0 0 (DA M sz) := by
  refine x_start (by decide) (Nat.le_of_ble_eq_true rfl) ?_
  intro p e s m below meth c ⟨S, hr, hlk, hH, hK, hXN, hsz, hnm⟩ ls hl
  subst hsz
  obtain ⟨hx, hb, hml, hown, hts⟩ := S
  have S : CallFix p m c _ _ s _ lw_all RX0 := ⟨hx, hb, hml, hown, hts⟩
  have hA : ∀ q, s.heap.size ≤ q → DA M s.heap.size q := fun q hq => Or.inr hq
  have hl : lv_has ls 10 [(0, .ref a), (1, .int (iI x_)), (2, .int (iI f_)), (3, .int (iI t_)), (4, .int (iI w_))] := hl
  have b0 := hI.c
  unfold kCnt at b0
  have h_x_ := R32.n h_x_
  have h_f_ := R32.n h_f_
  have h_t_ := R32.n h_t_
  have h_w_ := R32.n h_w_
  have L56 : ∀ (q : Nat) (i : Int), (hg : isX (σ 2) x_ ∧ isK (σ 2) f_ ∧ isK (σ 2) t_ ∧ f_ ≤ t_ ∧ t_ - f_ ≤ 8 ∧ (0 ≤ w_ ∧ w_ ≤ 1)) → (hi0 : f_ ≤ i) → (hi1 : i ≤ t_ + 1) → (hq : t_ + 1 < (q : Int) + i) → ∀ (H : Heap) (locs : List Loc) (ls : Array Slot), XV G (DA M s.heap.size) M s.heap H locs → lv_has ls 10 [(0, .ref a), (1, .int (iI x_)), (2, .int (iI f_)), (3, .int (iI t_)), (4, .int (iI w_)), (5, .long (lI (upN (σ 2) x_ f_ (i - f_).toNat))), (7, .long (lI ((100 : Int) ^ (i - f_).toNat))), (9, .int (iI i))] → W p l e (rmD 208) s m ([.ref a, .int (iI x_), .int (iI f_), .int (iI t_), .int (iI w_)] : List Value).toArray below meth c H locs 0 0 (MQ below (xQl G (DA M s.heap.size) (fun z M' => z = (worthF (σ 2) x_ f_ t_ w_) ∧ M' = M)) ([.ref a, .int (iI x_), .int (iI f_), .int (iI t_), .int (iI w_)] : List Value).toArray s 0 0 (DA M s.heap.size)) (F0 m 56 ls []) := by
    intro q
    induction q with
    | zero => intro i hg hi0 hi1 hq; exfalso; omega
    | succ q ih_56 =>
      intro i hg hi0 hi1 hq H locs ls hH hl
      have ho := oL_r (σ 2) x_ i
      have hu := upN_r (κ := σ 2) (x := x_) (f := f_) (i - f_).toNat
      have hp := p100_r (i := i - f_) (by omega)
      refine lv_iload hx hb dX0_worth_56 (lv_at hl 7 rfl) ?_
      refine lv_iload_n hx hb dX0_worth_58 rfl (lv_at hl 3 rfl) ?_
      refine n_icmp_gt (tgt := 104) hx hb (r32 (by omega)) (r32 (by omega)) dX0_worth_59 (by decide) (fun c_59 => ?_) (fun c_59 => ?_)
      · -- 59T
        refine lv_lload hx hb dX0_worth_104 (lv_at hl 5 rfl) ?_
        refine lv_lload hx hb dX0_worth_106 (lv_at hl 6 rfl) ?_
        refine lv_iload hx hb dX0_worth_108 (lv_at hl 4 rfl) ?_
        refine x_calllF (x_runS (As := [.long (lI (upN (σ 2) x_ f_ (i - f_).toNat)), .long (lI ((100 : Int) ^ (i - f_).toNat)), .int (iI w_)]) (rest := []) S hH hK (fun _ _ hW => XN.warm hW hXN) XN_b hl.1 (xm_X0_lowest l G M (upN (σ 2) x_ f_ (i - f_).toNat) ((100 : Int) ^ (i - f_).toNat) w_ _ hu.1 (by omega) (by omega) (by omega) (by omega)) (lw_S q1250 q1251 q105 q1252) kd_X0_lowest rfl rfl dX0_worth_110) hH hA (fun H locs hH => ?_)
        refine x_lret hx hb hr hlk hH dX0_worth_113 ?_
        refine ⟨?_, rfl⟩
        show _ = worthF _ _ _ _ _
        rw [worthF, if_pos hg, show t_ - f_ + 1 = i - f_ by omega]
      · -- 59F
        refine lv_lload hx hb dX0_worth_62 (lv_at hl 5 rfl) ?_
        refine lv_aload_n hx hb dX0_worth_64 rfl (lv_at hl 0 rfl) ?_
        refine x_get hx hb hts in_X0 hown hK hH hR.o rfl 0 (by decide) q339 (fun _ h9 => h9) rfl (by decide) dX0_worth_65 ?_
        refine x_getN hx hb hts in_X1 hown hK hH hR.b0 rfl 12 (by decide) hXN q186 (fun _ h9 => h9) rfl (by decide) dX0_worth_68 ?_
        refine lv_iload_n hx hb dX0_worth_71 rfl (lv_at hl 1 rfl) ?_
        obtain ⟨y1, r1, u1, t1, g1⟩ := hR.text (i := x_) (by omega) (by omega)
        refine x_aald hx hb hK hH 9 hR.b12 rfl (by omega) (by omega) (Nat.le_of_ble_eq_true rfl) (v := some y1) u1 dX0_worth_72 ?_
        refine lv_aload_n hx hb dX0_worth_73 rfl (lv_at hl 0 rfl) ?_
        refine x_get hx hb hts in_X0 hown hK hH hR.o rfl 0 (by decide) q339 (fun _ h9 => h9) rfl (by decide) dX0_worth_74 ?_
        refine x_getN hx hb hts in_X1 hown hK hH hR.b0 rfl 10 (by decide) hXN q182 (fun _ h9 => h9) rfl (by decide) dX0_worth_77 ?_
        refine lv_iload hx hb dX0_worth_80 (lv_at hl 7 rfl) ?_
        obtain ⟨y2, n2, w2, u2, g2, k2, e2⟩ := hR.look (i := i) (by omega) (by omega)
        have v2 := (hI.o i (by omega) (by omega)).2
        refine x_aald hx hb hK hH 7 hR.b10 rfl (by omega) (by omega) (Nat.le_of_ble_eq_true rfl) (v := some y2) u2 dX0_worth_82 ?_
        refine x_calliF (x_runV (As := [.ref y2]) (rest := [.long (lI (upN (σ 2) x_ f_ (i - f_).toNat))]) S hH hK (fun _ _ hW => XN.warm hW hXN) XN_b hl.1 g1 rfl (l_oddsOf (x := x_) (k := i) hI ⟨by omega, by omega⟩ g2 k2 e2 t1) (lw_V q1165 q1166 q1167 q135 q1168) kd_X22_oddsOf rfl rfl dX0_worth_83) hH hA (fun H locs hH => ?_)
        refine n_i2l hx hb (r32 (by omega)) dX0_worth_86 ?_
        refine n_lmul hx hb dX0_worth_87 ?_
        refine lv_lstore hx hb dX0_worth_88 hl (Nat.le_of_ble_eq_true rfl) (lv' := [(5, .long (lI ((upN (σ 2) x_ f_ (i - f_).toNat) * (oL (σ 2) x_ i)))), (0, .ref a), (1, .int (iI x_)), (2, .int (iI f_)), (3, .int (iI t_)), (4, .int (iI w_)), (7, .long (lI ((100 : Int) ^ (i - f_).toNat))), (9, .int (iI i))]) rfl (fun ls hl => ?_)
        refine lv_lload hx hb dX0_worth_90 (lv_at hl 6 rfl) ?_
        refine lv_ldc2 (v := lI 100) hx hb hown (hts _ q391) dX0_worth_92 ?_
        refine n_lmul hx hb dX0_worth_95 ?_
        refine lv_lstore hx hb dX0_worth_96 hl (Nat.le_of_ble_eq_true rfl) (lv' := [(7, .long (lI (((100 : Int) ^ (i - f_).toNat) * 100))), (5, .long (lI ((upN (σ 2) x_ f_ (i - f_).toNat) * (oL (σ 2) x_ i)))), (0, .ref a), (1, .int (iI x_)), (2, .int (iI f_)), (3, .int (iI t_)), (4, .int (iI w_)), (9, .int (iI i))]) rfl (fun ls hl => ?_)
        refine n_iinc hx hb dX0_worth_98 hl (k := 7) rfl (Nat.le_of_ble_eq_true rfl) (lv' := [(9, .int (iI (i + 1))), (7, .long (lI (((100 : Int) ^ (i - f_).toNat) * 100))), (5, .long (lI ((upN (σ 2) x_ f_ (i - f_).toNat) * (oL (σ 2) x_ i)))), (0, .ref a), (1, .int (iI x_)), (2, .int (iI f_)), (3, .int (iI t_)), (4, .int (iI w_))]) rfl (fun ls hl => ?_)
        refine lv_goto (tgt := 56) hx hb dX0_worth_101 (by decide) ?_
        have hl : lv_has ls 10 [(0, .ref a), (1, .int (iI x_)), (2, .int (iI f_)), (3, .int (iI t_)), (4, .int (iI w_)), (5, .long (lI ((upN (σ 2) x_ f_ (i - f_).toNat) * (oL (σ 2) x_ i)))), (7, .long (lI (((100 : Int) ^ (i - f_).toNat) * 100))), (9, .int (iI (i + 1)))] := lv_sub hl [3, 4, 5, 6, 7, 2, 1, 0] rfl
        have hl : lv_has ls 10 [(0, .ref a), (1, .int (iI x_)), (2, .int (iI f_)), (3, .int (iI t_)), (4, .int (iI w_)), (5, .long (lI (upN (σ 2) x_ f_ (i + 1 - f_).toNat))), (7, .long (lI ((100 : Int) ^ (i + 1 - f_).toNat))), (9, .int (iI (i + 1)))] := by rw [show i + 1 - f_ = (i - f_) + 1 by omega, upN_e (by omega), p100_e (by omega), show f_ + (i - f_) = i by omega]; exact hl
        refine ih_56 (i + 1) ?_ ?_ ?_ ?_ _ _ _ hH hl
        · exact hg
        · omega
        · omega
        · omega
  refine lv_aload_n hx hb dX0_worth_0 rfl (lv_at hl 0 rfl) ?_
  refine lv_iload_n hx hb dX0_worth_1 rfl (lv_at hl 1 rfl) ?_
  refine x_calliF (x_runV (As := [.int (iI x_)]) (rest := []) S hH hK (fun _ _ hW => XN.warm hW hXN) XN_b hl.1 hR.o rfl (xm_X0_isText l G M σ x ω a x_ _ hR (r32 (by omega)) (by omega) (by omega)) (lw_V q1161 q1163 qs32 q105 q1164) kd_X0_isText rfl rfl dX0_worth_2) hH hA (fun H locs hH => ?_)
  refine z_if_eq (tgt := 43) hx hb dX0_worth_5 (by decide) (fun c_5 => ?_) (fun c_5 => ?_)
  · -- 5T
    refine lv_ldc2 (v := lI (-1)) hx hb hown (by have h9 := hts _ q1249; rw [show ((-1) : Int64) = lI (-1) by decide +kernel] at h9; exact h9) dX0_worth_43 ?_
    refine x_lret hx hb hr hlk hH dX0_worth_46 ?_
    refine ⟨?_, rfl⟩
    show _ = worthF _ _ _ _ _
    unfold worthF isX isK
    rw [if_neg (by omega)]
  · -- 5F
    refine lv_aload_n hx hb dX0_worth_8 rfl (lv_at hl 0 rfl) ?_
    refine lv_iload_n hx hb dX0_worth_9 rfl (lv_at hl 3 rfl) ?_
    refine x_calliF (x_runV (As := [.int (iI t_)]) (rest := []) S hH hK (fun _ _ hW => XN.warm hW hXN) XN_b hl.1 hR.o rfl (xm_X0_isLook l G M σ x ω a t_ _ hR (r32 (by omega)) (by omega) (by omega)) (lw_V q790 q792 qs10 q105 q793) kd_X0_isLook rfl rfl dX0_worth_10) hH hA (fun H locs hH => ?_)
    refine z_if_eq (tgt := 43) hx hb dX0_worth_13 (by decide) (fun c_13 => ?_) (fun c_13 => ?_)
    · -- 13T
      refine lv_ldc2 (v := lI (-1)) hx hb hown (by have h9 := hts _ q1249; rw [show ((-1) : Int64) = lI (-1) by decide +kernel] at h9; exact h9) dX0_worth_43 ?_
      refine x_lret hx hb hr hlk hH dX0_worth_46 ?_
      refine ⟨?_, rfl⟩
      show _ = worthF _ _ _ _ _
      unfold worthF isX isK
      rw [if_neg (by omega)]
    · -- 13F
      refine lv_iload_n hx hb dX0_worth_16 rfl (lv_at hl 2 rfl) ?_
      refine n_i2l hx hb (r32 (by omega)) dX0_worth_17 ?_
      refine n_lconst (z := 0) hx hb dX0_worth_18 (by decide) ?_
      refine lv_iload_n hx hb dX0_worth_19 rfl (lv_at hl 3 rfl) ?_
      refine n_i2l hx hb (r32 (by omega)) dX0_worth_20 ?_
      refine x_calliF (x_runS (As := [.long (lI f_), .long (lI 0), .long (lI t_)]) (rest := []) S hH hK (fun _ _ hW => XN.warm hW hXN) XN_b hl.1 (xm_X0_in l G M f_ 0 t_ _ (r64 (by omega)) (r64 (by omega)) (r64 (by omega))) (lw_S q386 q387 q105 q388) kd_X0_in rfl rfl dX0_worth_21) hH hA (fun H locs hH => ?_)
      refine z_if_eq (tgt := 43) hx hb dX0_worth_24 (by decide) (fun c_24 => ?_) (fun c_24 => ?_)
      · -- 24T
        refine lv_ldc2 (v := lI (-1)) hx hb hown (by have h9 := hts _ q1249; rw [show ((-1) : Int64) = lI (-1) by decide +kernel] at h9; exact h9) dX0_worth_43 ?_
        refine x_lret hx hb hr hlk hH dX0_worth_46 ?_
        refine ⟨?_, rfl⟩
        show _ = worthF _ _ _ _ _
        unfold worthF isX isK
        rw [if_neg (by omega)]
      · -- 24F
        refine lv_iload_n hx hb dX0_worth_27 rfl (lv_at hl 3 rfl) ?_
        refine lv_iload_n hx hb dX0_worth_28 rfl (lv_at hl 2 rfl) ?_
        refine n_isub hx hb dX0_worth_29 ?_
        refine n_bipush (z := 9) hx hb dX0_worth_30 (by decide) ?_
        refine n_icmp_ge (tgt := 43) hx hb (r32 (by omega)) (r32 (by omega)) dX0_worth_32 (by decide) (fun c_32 => ?_) (fun c_32 => ?_)
        · -- 32T
          refine lv_ldc2 (v := lI (-1)) hx hb hown (by have h9 := hts _ q1249; rw [show ((-1) : Int64) = lI (-1) by decide +kernel] at h9; exact h9) dX0_worth_43 ?_
          refine x_lret hx hb hr hlk hH dX0_worth_46 ?_
          refine ⟨?_, rfl⟩
          show _ = worthF _ _ _ _ _
          unfold worthF isX isK
          rw [if_neg (by omega)]
        · -- 32F
          refine lv_iload hx hb dX0_worth_35 (lv_at hl 4 rfl) ?_
          refine x_calliF (x_runS (As := [.int (iI w_)]) (rest := []) S hH hK (fun _ _ hW => XN.warm hW hXN) XN_b hl.1 (xm_X0_isPart l G M w_ _ (r32 (by omega))) (lw_S q1246 q1247 q105 q1248) kd_X0_isPart rfl rfl dX0_worth_37) hH hA (fun H locs hH => ?_)
          refine z_if_ne (tgt := 47) hx hb dX0_worth_40 (by decide) (fun c_40 => ?_) (fun c_40 => ?_)
          · -- 40T
            refine n_lconst (z := 1) hx hb dX0_worth_47 (by decide) ?_
            refine lv_lstore hx hb dX0_worth_48 hl (Nat.le_of_ble_eq_true rfl) (lv' := [(5, .long (lI 1)), (0, .ref a), (1, .int (iI x_)), (2, .int (iI f_)), (3, .int (iI t_)), (4, .int (iI w_))]) rfl (fun ls hl => ?_)
            refine n_lconst (z := 1) hx hb dX0_worth_50 (by decide) ?_
            refine lv_lstore hx hb dX0_worth_51 hl (Nat.le_of_ble_eq_true rfl) (lv' := [(7, .long (lI 1)), (5, .long (lI 1)), (0, .ref a), (1, .int (iI x_)), (2, .int (iI f_)), (3, .int (iI t_)), (4, .int (iI w_))]) rfl (fun ls hl => ?_)
            refine lv_iload_n hx hb dX0_worth_53 rfl (lv_at hl 4 rfl) ?_
            refine lv_istore hx hb dX0_worth_54 hl (Nat.le_of_ble_eq_true rfl) (lv' := [(9, .int (iI f_)), (7, .long (lI 1)), (5, .long (lI 1)), (0, .ref a), (1, .int (iI x_)), (2, .int (iI f_)), (3, .int (iI t_)), (4, .int (iI w_))]) rfl (fun ls hl => ?_)
            have hl : lv_has ls 10 [(0, .ref a), (1, .int (iI x_)), (2, .int (iI f_)), (3, .int (iI t_)), (4, .int (iI w_)), (5, .long (lI 1)), (7, .long (lI 1)), (9, .int (iI f_))] := lv_sub hl [3, 4, 5, 6, 7, 2, 1, 0] rfl
            have hl : lv_has ls 10 [(0, .ref a), (1, .int (iI x_)), (2, .int (iI f_)), (3, .int (iI t_)), (4, .int (iI w_)), (5, .long (lI (upN (σ 2) x_ f_ (f_ - f_).toNat))), (7, .long (lI ((100 : Int) ^ (f_ - f_).toNat))), (9, .int (iI f_))] := by rw [Int.sub_self]; exact hl
            refine L56 60 f_ ?_ ?_ ?_ ?_ _ _ _ hH hl
            · omega
            · omega
            · omega
            · omega
          · -- 40F
            refine lv_ldc2 (v := lI (-1)) hx hb hown (by have h9 := hts _ q1249; rw [show ((-1) : Int64) = lI (-1) by decide +kernel] at h9; exact h9) dX0_worth_43 ?_
            refine x_lret hx hb hr hlk hH dX0_worth_46 ?_
            refine ⟨?_, rfl⟩
            show _ = worthF _ _ _ _ _
            unfold worthF isX isK
            rw [if_neg (by omega)]
theorem kd_X0_answer : yX0_answer.cls = RX0 ∧ yX0_answer.cls ≠ "java/lang/invoke/MethodHandle" ∧ yX0_answer.cls ≠ "java/lang/invoke/VarHandle" ∧ (parseMethodDescriptor yX0_answer.desc).map (fun d => d.parameters.length) = some 2 := by decide +kernel
theorem xm_X0_answer (l : Launch) (G : MG) (M : Hp) (σ : St) (x : XGh) (ω : XCt) (a : Nat) (x_ : Int) (k_ : Int) (sz : Nat) (hR : RX G M a σ x ω) (h_x_ : R32 x_) (h_k_ : R32 k_) (hI : KI (σ 2)) (hT : TT (σ 2)) : Met l yX0_answer (ws_ yX0_answer cX0_answer 4 (some .int)) (rmD 209) (xP G XN [.ref a, .int (iI x_), .int (iI k_)] M sz) (xQi G (DA M sz) (fun z M' => z = (ansF (σ 2) x_ k_) ∧ M' = M)) 0 0 (DA M sz) := by
  refine x_start (by decide) (Nat.le_of_ble_eq_true rfl) ?_
  intro p e s m below meth c ⟨S, hr, hlk, hH, hK, hXN, hsz, hnm⟩ ls hl
  subst hsz
  obtain ⟨hx, hb, hml, hown, hts⟩ := S
  have S : CallFix p m c _ _ s _ lw_all RX0 := ⟨hx, hb, hml, hown, hts⟩
  have hA : ∀ q, s.heap.size ≤ q → DA M s.heap.size q := fun q hq => Or.inr hq
  have hl : lv_has ls 4 [(0, .ref a), (1, .int (iI x_)), (2, .int (iI k_))] := hl
  have b0 := hI.c
  unfold kCnt at b0
  have h_x_ := R32.n h_x_
  have h_k_ := R32.n h_k_
  refine lv_aload_n hx hb dX0_answer_0 rfl (lv_at hl 0 rfl) ?_
  refine lv_iload_n hx hb dX0_answer_1 rfl (lv_at hl 1 rfl) ?_
  refine x_calliF (x_runV (As := [.int (iI x_)]) (rest := []) S hH hK (fun _ _ hW => XN.warm hW hXN) XN_b hl.1 hR.o rfl (xm_X0_isText l G M σ x ω a x_ _ hR (r32 (by omega)) (by omega) (by omega)) (lw_V q1161 q1163 qs32 q105 q1164) kd_X0_isText rfl rfl dX0_answer_2) hH hA (fun H locs hH => ?_)
  refine z_if_eq (tgt := 16) hx hb dX0_answer_5 (by decide) (fun c_5 => ?_) (fun c_5 => ?_)
  · -- 5T
    refine n_iconst hx hb dX0_answer_16 ?_
    refine x_iret hx hb hr hlk hH dX0_answer_17 ?_
    refine ⟨?_, rfl⟩
    show _ = ansF _ _ _
    unfold ansF isX isK
    (repeat' split) <;> first | rfl | (exfalso; omega)
  · -- 5F
    refine lv_aload_n hx hb dX0_answer_8 rfl (lv_at hl 0 rfl) ?_
    refine lv_iload_n hx hb dX0_answer_9 rfl (lv_at hl 2 rfl) ?_
    refine x_calliF (x_runV (As := [.int (iI k_)]) (rest := []) S hH hK (fun _ _ hW => XN.warm hW hXN) XN_b hl.1 hR.o rfl (xm_X0_isLook l G M σ x ω a k_ _ hR (r32 (by omega)) (by omega) (by omega)) (lw_V q790 q792 qs10 q105 q793) kd_X0_isLook rfl rfl dX0_answer_10) hH hA (fun H locs hH => ?_)
    refine z_if_ne (tgt := 18) hx hb dX0_answer_13 (by decide) (fun c_13 => ?_) (fun c_13 => ?_)
    · -- 13T
      have hol := oL_r (σ 2) x_ k_
      refine lv_aload_n hx hb dX0_answer_18 rfl (lv_at hl 0 rfl) ?_
      refine x_get hx hb hts in_X0 hown hK hH hR.o rfl 0 (by decide) q339 (fun _ h9 => h9) rfl (by decide) dX0_answer_19 ?_
      refine x_getN hx hb hts in_X1 hown hK hH hR.b0 rfl 10 (by decide) hXN q182 (fun _ h9 => h9) rfl (by decide) dX0_answer_22 ?_
      refine lv_iload_n hx hb dX0_answer_25 rfl (lv_at hl 2 rfl) ?_
      obtain ⟨y1, n1, w1, u1, g1, k1, e1⟩ := hR.look (i := k_) (by omega) (by omega)
      have v1 := (hI.o k_ (by omega) (by omega)).2
      refine x_aald hx hb hK hH 7 hR.b10 rfl (by omega) (by omega) (Nat.le_of_ble_eq_true rfl) (v := some y1) u1 dX0_answer_26 ?_
      refine lv_astore_n hx hb dX0_answer_27 rfl hl (Nat.le_of_ble_eq_true rfl) (lv' := [(3, .ref y1), (0, .ref a), (1, .int (iI x_)), (2, .int (iI k_))]) rfl (fun ls hl => ?_)
      refine lv_aload_n hx hb dX0_answer_28 rfl (lv_at hl 1 rfl) ?_
      refine x_get hx hb hts in_X0 hown hK hH hR.o rfl 0 (by decide) q339 (fun _ h9 => h9) rfl (by decide) dX0_answer_29 ?_
      refine x_getN hx hb hts in_X1 hown hK hH hR.b0 rfl 12 (by decide) hXN q186 (fun _ h9 => h9) rfl (by decide) dX0_answer_32 ?_
      refine lv_iload_n hx hb dX0_answer_35 rfl (lv_at hl 2 rfl) ?_
      obtain ⟨y2, r2, u2, t2, g2⟩ := hR.text (i := x_) (by omega) (by omega)
      refine x_aald hx hb hK hH 9 hR.b12 rfl (by omega) (by omega) (Nat.le_of_ble_eq_true rfl) (v := some y2) u2 dX0_answer_36 ?_
      refine lv_aload_n hx hb dX0_answer_37 rfl (lv_at hl 0 rfl) ?_
      refine x_calliF (x_runV (As := [.ref y1]) (rest := []) S hH hK (fun _ _ hW => XN.warm hW hXN) XN_b hl.1 g2 rfl (l_mustAnswer (x := x_) (k := k_) hI ⟨by omega, by omega⟩ g1 k1 e1 t2) (lw_V q1260 q1261 q1262 q135 q1263) kd_X22_mustAnswer rfl rfl dX0_answer_38) hH hA (fun H locs hH => ?_)
      refine z_if_eq (tgt := 60) hx hb dX0_answer_41 (by decide) (fun c_41 => ?_) (fun c_41 => ?_)
      · -- 41T
        refine n_iconst hx hb dX0_answer_60 ?_
        refine x_iret hx hb hr hlk hH dX0_answer_61 ?_
        refine ⟨?_, rfl⟩
        show _ = ansF _ _ _
        unfold ansF isX isK
        (repeat' split) <;> first | rfl | (exfalso; omega)
      · -- 41F
        refine lv_aload_n hx hb dX0_answer_44 rfl (lv_at hl 1 rfl) ?_
        refine x_get hx hb hts in_X0 hown hK hH hR.o rfl 0 (by decide) q339 (fun _ h9 => h9) rfl (by decide) dX0_answer_45 ?_
        refine x_getN hx hb hts in_X1 hown hK hH hR.b0 rfl 12 (by decide) hXN q186 (fun _ h9 => h9) rfl (by decide) dX0_answer_48 ?_
        refine lv_iload_n hx hb dX0_answer_51 rfl (lv_at hl 2 rfl) ?_
        obtain ⟨y3, r3, u3, t3, g3⟩ := hR.text (i := x_) (by omega) (by omega)
        refine x_aald hx hb hK hH 9 hR.b12 rfl (by omega) (by omega) (Nat.le_of_ble_eq_true rfl) (v := some y3) u3 dX0_answer_52 ?_
        refine lv_aload_n hx hb dX0_answer_53 rfl (lv_at hl 0 rfl) ?_
        refine x_calliF (x_runV (As := [.ref y1]) (rest := []) S hH hK (fun _ _ hW => XN.warm hW hXN) XN_b hl.1 g3 rfl (l_price (x := x_) (k := k_) hI ⟨by omega, by omega⟩ g1 k1 e1 t3) (lw_V q1265 q1266 q1267 q135 q1268) kd_X22_price rfl rfl dX0_answer_54) hH hA (fun H locs hH => ?_)
        refine lv_goto (tgt := 61) hx hb dX0_answer_57 (by decide) ?_
        refine x_iret hx hb hr hlk hH dX0_answer_61 ?_
        refine ⟨?_, rfl⟩
        show _ = ansF _ _ _
        unfold ansF isX isK
        (repeat' split) <;> first | rfl | (exfalso; omega)
    · -- 13F
      refine n_iconst hx hb dX0_answer_16 ?_
      refine x_iret hx hb hr hlk hH dX0_answer_17 ?_
      refine ⟨?_, rfl⟩
      show _ = ansF _ _ _
      unfold ansF isX isK
      (repeat' split) <;> first | rfl | (exfalso; omega)
theorem kd_X0_saves : yX0_saves.cls = RX0 ∧ yX0_saves.cls ≠ "java/lang/invoke/MethodHandle" ∧ yX0_saves.cls ≠ "java/lang/invoke/VarHandle" ∧ (parseMethodDescriptor yX0_saves.desc).map (fun d => d.parameters.length) = some 1 := by decide +kernel
theorem xm_X0_saves (l : Launch) (G : MG) (M : Hp) (σ : St) (x : XGh) (ω : XCt) (a : Nat) (x_ : Int) (sz : Nat) (hR : RX G M a σ x ω) (h_x_ : R32 x_) (hI : KI (σ 2)) (hT : TT (σ 2)) : Met l yX0_saves (ws_ yX0_saves cX0_saves 5 (some .int)) (rmD 210) (xP G XN [.ref a, .int (iI x_)] M sz) (xQi G (DA M sz) (fun z M' => z = (savF (σ 2) x_) ∧ M' = M)) 0 0 (DA M sz) := by
  refine x_start (by decide) (Nat.le_of_ble_eq_true rfl) ?_
  intro p e s m below meth c ⟨S, hr, hlk, hH, hK, hXN, hsz, hnm⟩ ls hl
  subst hsz
  obtain ⟨hx, hb, hml, hown, hts⟩ := S
  have S : CallFix p m c _ _ s _ lw_all RX0 := ⟨hx, hb, hml, hown, hts⟩
  have hA : ∀ q, s.heap.size ≤ q → DA M s.heap.size q := fun q hq => Or.inr hq
  have hl : lv_has ls 5 [(0, .ref a), (1, .int (iI x_))] := hl
  have b0 := hI.c
  unfold kCnt at b0
  have h_x_ := R32.n h_x_
  have L14 : ∀ (q : Nat) (k : Int) (s_ : Int), (hg : isX (σ 2) x_) → (hk0 : 0 ≤ k) → (hk1 : k ≤ σ 2 1754) → (hs0 : 0 ≤ s_) → (hs1 : s_ ≤ 1000 * k) → (hq : σ 2 1754 < (q : Int) + k) → (he : savN (σ 2) x_ (σ 2 1754).toNat 0 0 = savN (σ 2) x_ (σ 2 1754 - k).toNat k s_) → ∀ (H : Heap) (locs : List Loc) (ls : Array Slot), XV G (DA M s.heap.size) M s.heap H locs → lv_has ls 5 [(0, .ref a), (1, .int (iI x_)), (2, .int (iI s_)), (3, .int (iI k))] → W p l e (rmD 210) s m ([.ref a, .int (iI x_)] : List Value).toArray below meth c H locs 0 0 (MQ below (xQi G (DA M s.heap.size) (fun z M' => z = (savF (σ 2) x_) ∧ M' = M)) ([.ref a, .int (iI x_)] : List Value).toArray s 0 0 (DA M s.heap.size)) (F0 m 14 ls []) := by
    intro q
    induction q with
    | zero => intro k s_ hg hk0 hk1 hs0 hs1 hq he; exfalso; omega
    | succ q ih_14 =>
      intro k s_ hg hk0 hk1 hs0 hs1 hq he H locs ls hH hl
      have ha := ansF_r (σ 2) x_ k
      refine lv_iload_n hx hb dX0_saves_14 rfl (lv_at hl 3 rfl) ?_
      refine lv_aload_n hx hb dX0_saves_15 rfl (lv_at hl 0 rfl) ?_
      refine x_get hx hb hts in_X0 hown hK hH hR.o rfl 0 (by decide) q339 (fun _ h9 => h9) rfl (by decide) dX0_saves_16 ?_
      refine x_getN hx hb hts in_X1 hown hK hH hR.b0 rfl 3 (by decide) hXN q168 (fun _ h9 => h9) rfl (by decide) dX0_saves_19 ?_
      refine n_icmp_ge (tgt := 52) hx hb (r32 (by omega)) (r32 (by omega)) dX0_saves_22 (by decide) (fun c_22 => ?_) (fun c_22 => ?_)
      · -- 22T
        refine lv_iload_n hx hb dX0_saves_52 rfl (lv_at hl 2 rfl) ?_
        refine x_iret hx hb hr hlk hH dX0_saves_53 ?_
        refine ⟨?_, rfl⟩
        show _ = savF _ _
        rw [savF, if_pos hg, he, show (σ 2 1754 - k).toNat = 0 by omega, savN]
      · -- 22F
        refine lv_aload_n hx hb dX0_saves_25 rfl (lv_at hl 0 rfl) ?_
        refine lv_iload_n hx hb dX0_saves_26 rfl (lv_at hl 1 rfl) ?_
        refine lv_iload_n hx hb dX0_saves_27 rfl (lv_at hl 3 rfl) ?_
        refine x_calliF (x_runV (As := [.int (iI x_), .int (iI k)]) (rest := []) S hH hK (fun _ _ hW => XN.warm hW hXN) XN_b hl.1 hR.o rfl (xm_X0_answer l G M σ x ω a x_ k _ hR (r32 (by omega)) (r32 (by omega)) hI hT) (lw_V q1275 q1257 q1258 q105 q1259) kd_X0_answer rfl rfl dX0_saves_28) hH hA (fun H locs hH => ?_)
        refine lv_istore hx hb dX0_saves_31 hl (Nat.le_of_ble_eq_true rfl) (lv' := [(4, .int (iI (ansF (σ 2) x_ k))), (0, .ref a), (1, .int (iI x_)), (2, .int (iI s_)), (3, .int (iI k))]) rfl (fun ls hl => ?_)
        refine lv_iload hx hb dX0_saves_33 (lv_at hl 0 rfl) ?_
        refine n_iconst hx hb dX0_saves_35 ?_
        refine n_icmp_ne (tgt := 41) hx hb (r32 (by omega)) (r32 (by omega)) dX0_saves_36 (by decide) (fun c_36 => ?_) (fun c_36 => ?_)
        · -- 36T
          refine lv_iload_n hx hb dX0_saves_41 rfl (lv_at hl 3 rfl) ?_
          refine lv_iload hx hb dX0_saves_42 (lv_at hl 0 rfl) ?_
          refine n_iadd hx hb dX0_saves_44 ?_
          refine lv_istore_n hx hb dX0_saves_45 rfl hl (Nat.le_of_ble_eq_true rfl) (lv' := [(2, .int (iI (s_ + (ansF (σ 2) x_ k)))), (4, .int (iI (ansF (σ 2) x_ k))), (0, .ref a), (1, .int (iI x_)), (3, .int (iI k))]) rfl (fun ls hl => ?_)
          refine n_iinc hx hb dX0_saves_46 hl (k := 4) rfl (Nat.le_of_ble_eq_true rfl) (lv' := [(3, .int (iI (k + 1))), (2, .int (iI (s_ + (ansF (σ 2) x_ k)))), (4, .int (iI (ansF (σ 2) x_ k))), (0, .ref a), (1, .int (iI x_))]) rfl (fun ls hl => ?_)
          refine lv_goto (tgt := 14) hx hb dX0_saves_49 (by decide) ?_
          have hl : lv_has ls 5 [(0, .ref a), (1, .int (iI x_)), (2, .int (iI (s_ + (ansF (σ 2) x_ k)))), (3, .int (iI (k + 1)))] := lv_sub hl [3, 4, 1, 0] rfl
          refine ih_14 (k + 1) (s_ + (ansF (σ 2) x_ k)) ?_ ?_ ?_ ?_ ?_ ?_ ?_ _ _ _ hH hl
          · exact hg
          · omega
          · omega
          · omega
          · omega
          · omega
          · rw [he, savN_e (by omega), if_neg (by omega)]
        · -- 36F
          refine n_iconst hx hb dX0_saves_39 ?_
          refine x_iret hx hb hr hlk hH dX0_saves_40 ?_
          refine ⟨?_, rfl⟩
          show _ = savF _ _
          rw [savF, if_pos hg, he, savN_e (by omega), if_pos (by omega)]
  refine lv_aload_n hx hb dX0_saves_0 rfl (lv_at hl 0 rfl) ?_
  refine lv_iload_n hx hb dX0_saves_1 rfl (lv_at hl 1 rfl) ?_
  refine x_calliF (x_runV (As := [.int (iI x_)]) (rest := []) S hH hK (fun _ _ hW => XN.warm hW hXN) XN_b hl.1 hR.o rfl (xm_X0_isText l G M σ x ω a x_ _ hR (r32 (by omega)) (by omega) (by omega)) (lw_V q1161 q1163 qs32 q105 q1164) kd_X0_isText rfl rfl dX0_saves_2) hH hA (fun H locs hH => ?_)
  refine z_if_ne (tgt := 10) hx hb dX0_saves_5 (by decide) (fun c_5 => ?_) (fun c_5 => ?_)
  · -- 5T
    refine n_iconst hx hb dX0_saves_10 ?_
    refine lv_istore_n hx hb dX0_saves_11 rfl hl (Nat.le_of_ble_eq_true rfl) (lv' := [(2, .int (iI 0)), (0, .ref a), (1, .int (iI x_))]) rfl (fun ls hl => ?_)
    refine n_iconst hx hb dX0_saves_12 ?_
    refine lv_istore_n hx hb dX0_saves_13 rfl hl (Nat.le_of_ble_eq_true rfl) (lv' := [(3, .int (iI 0)), (2, .int (iI 0)), (0, .ref a), (1, .int (iI x_))]) rfl (fun ls hl => ?_)
    have hl : lv_has ls 5 [(0, .ref a), (1, .int (iI x_)), (2, .int (iI 0)), (3, .int (iI 0))] := lv_sub hl [2, 3, 1, 0] rfl
    refine L14 50 0 0 ?_ ?_ ?_ ?_ ?_ ?_ ?_ _ _ _ hH hl
    · omega
    · omega
    · omega
    · omega
    · omega
    · omega
    · rw [Int.sub_zero]
  · -- 5F
    refine n_iconst hx hb dX0_saves_8 ?_
    refine x_iret hx hb hr hlk hH dX0_saves_9 ?_
    refine ⟨?_, rfl⟩
    show _ = savF _ _
    unfold savF isX
    rw [if_neg (by omega)]
theorem kd_X0_of : yX0_of.cls = RX0 ∧ yX0_of.cls ≠ "java/lang/invoke/MethodHandle" ∧ yX0_of.cls ≠ "java/lang/invoke/VarHandle" ∧ (parseMethodDescriptor yX0_of.desc).map (fun d => d.parameters.length) = some 3 := by decide +kernel
theorem xm_X0_of (l : Launch) (G : MG) (M : Hp) (σ : St) (x : XGh) (ω : XCt) (a : Nat) (w_ : Int) (n_ : Int) (q_ : Int) (sz : Nat) (hR : RX G M a σ x ω) (h_w_ : R32 w_) (h_n_ : R32 n_) (h_q_ : R32 q_) (hI : KI (σ 2)) : Met l yX0_of (ws_ yX0_of cX0_of 4 (some .int)) (rmD 3) (xP G XN [.ref a, .int (iI w_), .int (iI n_), .int (iI q_)] M sz) (xQi G (DA M sz) (fun z M' => z = (ofF σ w_ n_ q_) ∧ M' = M)) 0 0 (DA M sz) := by
  refine x_start (by decide) (Nat.le_of_ble_eq_true rfl) ?_
  intro p e s m below meth c ⟨S, hr, hlk, hH, hK, hXN, hsz, hnm⟩ ls hl
  subst hsz
  obtain ⟨hx, hb, hml, hown, hts⟩ := S
  have S : CallFix p m c _ _ s _ lw_all RX0 := ⟨hx, hb, hml, hown, hts⟩
  have hA : ∀ q, s.heap.size ≤ q → DA M s.heap.size q := fun q hq => Or.inr hq
  have hl : lv_has ls 4 [(0, .ref a), (1, .int (iI w_)), (2, .int (iI n_)), (3, .int (iI q_))] := hl
  have b0 := hI.c
  unfold kCnt at b0
  have h_w_ := R32.n h_w_
  have h_n_ := R32.n h_n_
  have h_q_ := R32.n h_q_
  refine lv_iload_n hx hb dX0_of_0 rfl (lv_at hl 1 rfl) ?_
  refine n_if_ne (tgt := 68) hx hb (r32 (by omega)) dX0_of_1 (by decide) (fun c_1 => ?_) (fun c_1 => ?_)
  · -- 1T
    refine lv_iload_n hx hb dX0_of_68 rfl (lv_at hl 1 rfl) ?_
    refine n_iconst hx hb dX0_of_69 ?_
    refine n_icmp_ne (tgt := 110) hx hb (r32 (by omega)) (r32 (by omega)) dX0_of_70 (by decide) (fun c_70 => ?_) (fun c_70 => ?_)
    · -- 70T
      refine n_iconst hx hb dX0_of_110 ?_
      refine x_iret hx hb hr hlk hH dX0_of_111 ?_
      refine ⟨?_, rfl⟩
      show _ = ofF _ _ _ _
      unfold ofF
      (repeat' split) <;> first | rfl | (exfalso; omega) | (rw [show q_ = 9 by omega]; omega)
    · -- 70F
      refine lv_aload_n hx hb dX0_of_73 rfl (lv_at hl 0 rfl) ?_
      refine lv_iload_n hx hb dX0_of_74 rfl (lv_at hl 2 rfl) ?_
      refine x_calliF (x_runV (As := [.int (iI n_)]) (rest := []) S hH hK (fun _ _ hW => XN.warm hW hXN) XN_b hl.1 hR.o rfl (xm_X0_isTrial l G M σ x ω a n_ _ hR (r32 (by omega)) (by omega) (by omega)) (lw_V q795 q797 qs11 q105 q798) kd_X0_isTrial rfl rfl dX0_of_75) hH hA (fun H locs hH => ?_)
      refine z_if_eq (tgt := 110) hx hb dX0_of_78 (by decide) (fun c_78 => ?_) (fun c_78 => ?_)
      · -- 78T
        refine n_iconst hx hb dX0_of_110 ?_
        refine x_iret hx hb hr hlk hH dX0_of_111 ?_
        refine ⟨?_, rfl⟩
        show _ = ofF _ _ _ _
        unfold ofF
        (repeat' split) <;> first | rfl | (exfalso; omega) | (rw [show q_ = 9 by omega]; omega)
      · -- 78F
        refine lv_iload_n hx hb dX0_of_81 rfl (lv_at hl 3 rfl) ?_
        refine n_i2l hx hb (r32 (by omega)) dX0_of_82 ?_
        refine n_lconst (z := 0) hx hb dX0_of_83 (by decide) ?_
        refine lv_ldc2 (v := lI 8) hx hb hown (hts _ q799) dX0_of_84 ?_
        refine x_calliF (x_runS (As := [.long (lI q_), .long (lI 0), .long (lI 8)]) (rest := []) S hH hK (fun _ _ hW => XN.warm hW hXN) XN_b hl.1 (xm_X0_in l G M q_ 0 8 _ (r64 (by omega)) (r64 (by omega)) (r64 (by omega))) (lw_S q386 q387 q105 q388) kd_X0_in rfl rfl dX0_of_87) hH hA (fun H locs hH => ?_)
        refine z_if_eq (tgt := 110) hx hb dX0_of_90 (by decide) (fun c_90 => ?_) (fun c_90 => ?_)
        · -- 90T
          refine n_iconst hx hb dX0_of_110 ?_
          refine x_iret hx hb hr hlk hH dX0_of_111 ?_
          refine ⟨?_, rfl⟩
          show _ = ofF _ _ _ _
          unfold ofF
          (repeat' split) <;> first | rfl | (exfalso; omega) | (rw [show q_ = 9 by omega]; omega)
        · -- 90F
          refine lv_aload_n hx hb dX0_of_93 rfl (lv_at hl 0 rfl) ?_
          refine x_get hx hb hts in_X0 hown hK hH hR.o rfl 0 (by decide) q339 (fun _ h9 => h9) rfl (by decide) dX0_of_94 ?_
          refine x_getN hx hb hts in_X1 hown hK hH hR.b0 rfl 11 (by decide) hXN q184 (fun _ h9 => h9) rfl (by decide) dX0_of_97 ?_
          refine lv_iload_n hx hb dX0_of_100 rfl (lv_at hl 2 rfl) ?_
          obtain ⟨y1, n1, w1, u1, g1, k1, e1⟩ := hR.trial (i := n_) (by omega) (by omega)
          refine x_aald hx hb hK hH 8 hR.b11 rfl (by omega) (by omega) (Nat.le_of_ble_eq_true rfl) (v := some y1) u1 dX0_of_101 ?_
          refine x_get hx hb hts in_X2 hown hK hH g1 rfl 0 (by decide) q262 (fun _ h9 => h9) rfl (by decide) dX0_of_102 ?_
          refine lv_iload_n hx hb dX0_of_105 rfl (lv_at hl 3 rfl) ?_
          refine x_iald hx hb hK hH k1 (by omega) (by omega) (Nat.le_of_ble_eq_true rfl) dX0_of_106 ?_
          refine W.eq (g2 := F0 m 107 ls (.int (iI (trA (σ 2) n_ q_)) :: [])) (by first | (rw [e1 _ (by omega) (by omega)]; done) | (rw [e1 _ (by omega) (by omega)]; rfl)) ?_
          refine lv_goto (tgt := 111) hx hb dX0_of_107 (by decide) ?_
          refine x_iret hx hb hr hlk hH dX0_of_111 ?_
          refine ⟨?_, rfl⟩
          show _ = ofF _ _ _ _
          unfold ofF
          (repeat' split) <;> first | rfl | (exfalso; omega) | (rw [show q_ = 9 by omega]; omega)
  · -- 1F
    refine lv_aload_n hx hb dX0_of_4 rfl (lv_at hl 0 rfl) ?_
    refine lv_iload_n hx hb dX0_of_5 rfl (lv_at hl 2 rfl) ?_
    refine x_calliF (x_runV (As := [.int (iI n_)]) (rest := []) S hH hK (fun _ _ hW => XN.warm hW hXN) XN_b hl.1 hR.o rfl (xm_X0_isLook l G M σ x ω a n_ _ hR (r32 (by omega)) (by omega) (by omega)) (lw_V q790 q792 qs10 q105 q793) kd_X0_isLook rfl rfl dX0_of_6) hH hA (fun H locs hH => ?_)
    refine z_if_eq (tgt := 68) hx hb dX0_of_9 (by decide) (fun c_9 => ?_) (fun c_9 => ?_)
    · -- 9T
      refine lv_iload_n hx hb dX0_of_68 rfl (lv_at hl 1 rfl) ?_
      refine n_iconst hx hb dX0_of_69 ?_
      refine n_icmp_ne (tgt := 110) hx hb (r32 (by omega)) (r32 (by omega)) dX0_of_70 (by decide) (fun c_70 => ?_) (fun c_70 => ?_)
      · -- 70T
        refine n_iconst hx hb dX0_of_110 ?_
        refine x_iret hx hb hr hlk hH dX0_of_111 ?_
        refine ⟨?_, rfl⟩
        show _ = ofF _ _ _ _
        unfold ofF
        (repeat' split) <;> first | rfl | (exfalso; omega) | (rw [show q_ = 9 by omega]; omega)
      · -- 70F
        refine lv_aload_n hx hb dX0_of_73 rfl (lv_at hl 0 rfl) ?_
        refine lv_iload_n hx hb dX0_of_74 rfl (lv_at hl 2 rfl) ?_
        refine x_calliF (x_runV (As := [.int (iI n_)]) (rest := []) S hH hK (fun _ _ hW => XN.warm hW hXN) XN_b hl.1 hR.o rfl (xm_X0_isTrial l G M σ x ω a n_ _ hR (r32 (by omega)) (by omega) (by omega)) (lw_V q795 q797 qs11 q105 q798) kd_X0_isTrial rfl rfl dX0_of_75) hH hA (fun H locs hH => ?_)
        refine z_if_eq (tgt := 110) hx hb dX0_of_78 (by decide) (fun c_78 => ?_) (fun c_78 => ?_)
        · -- 78T
          refine n_iconst hx hb dX0_of_110 ?_
          refine x_iret hx hb hr hlk hH dX0_of_111 ?_
          refine ⟨?_, rfl⟩
          show _ = ofF _ _ _ _
          unfold ofF
          (repeat' split) <;> first | rfl | (exfalso; omega) | (rw [show q_ = 9 by omega]; omega)
        · -- 78F
          refine lv_iload_n hx hb dX0_of_81 rfl (lv_at hl 3 rfl) ?_
          refine n_i2l hx hb (r32 (by omega)) dX0_of_82 ?_
          refine n_lconst (z := 0) hx hb dX0_of_83 (by decide) ?_
          refine lv_ldc2 (v := lI 8) hx hb hown (hts _ q799) dX0_of_84 ?_
          refine x_calliF (x_runS (As := [.long (lI q_), .long (lI 0), .long (lI 8)]) (rest := []) S hH hK (fun _ _ hW => XN.warm hW hXN) XN_b hl.1 (xm_X0_in l G M q_ 0 8 _ (r64 (by omega)) (r64 (by omega)) (r64 (by omega))) (lw_S q386 q387 q105 q388) kd_X0_in rfl rfl dX0_of_87) hH hA (fun H locs hH => ?_)
          refine z_if_eq (tgt := 110) hx hb dX0_of_90 (by decide) (fun c_90 => ?_) (fun c_90 => ?_)
          · -- 90T
            refine n_iconst hx hb dX0_of_110 ?_
            refine x_iret hx hb hr hlk hH dX0_of_111 ?_
            refine ⟨?_, rfl⟩
            show _ = ofF _ _ _ _
            unfold ofF
            (repeat' split) <;> first | rfl | (exfalso; omega) | (rw [show q_ = 9 by omega]; omega)
          · -- 90F
            refine lv_aload_n hx hb dX0_of_93 rfl (lv_at hl 0 rfl) ?_
            refine x_get hx hb hts in_X0 hown hK hH hR.o rfl 0 (by decide) q339 (fun _ h9 => h9) rfl (by decide) dX0_of_94 ?_
            refine x_getN hx hb hts in_X1 hown hK hH hR.b0 rfl 11 (by decide) hXN q184 (fun _ h9 => h9) rfl (by decide) dX0_of_97 ?_
            refine lv_iload_n hx hb dX0_of_100 rfl (lv_at hl 2 rfl) ?_
            obtain ⟨y2, n2, w2, u2, g2, k2, e2⟩ := hR.trial (i := n_) (by omega) (by omega)
            refine x_aald hx hb hK hH 8 hR.b11 rfl (by omega) (by omega) (Nat.le_of_ble_eq_true rfl) (v := some y2) u2 dX0_of_101 ?_
            refine x_get hx hb hts in_X2 hown hK hH g2 rfl 0 (by decide) q262 (fun _ h9 => h9) rfl (by decide) dX0_of_102 ?_
            refine lv_iload_n hx hb dX0_of_105 rfl (lv_at hl 3 rfl) ?_
            refine x_iald hx hb hK hH k2 (by omega) (by omega) (Nat.le_of_ble_eq_true rfl) dX0_of_106 ?_
            refine W.eq (g2 := F0 m 107 ls (.int (iI (trA (σ 2) n_ q_)) :: [])) (by first | (rw [e2 _ (by omega) (by omega)]; done) | (rw [e2 _ (by omega) (by omega)]; rfl)) ?_
            refine lv_goto (tgt := 111) hx hb dX0_of_107 (by decide) ?_
            refine x_iret hx hb hr hlk hH dX0_of_111 ?_
            refine ⟨?_, rfl⟩
            show _ = ofF _ _ _ _
            unfold ofF
            (repeat' split) <;> first | rfl | (exfalso; omega) | (rw [show q_ = 9 by omega]; omega)
    · -- 9F
      refine lv_iload_n hx hb dX0_of_12 rfl (lv_at hl 3 rfl) ?_
      refine n_i2l hx hb (r32 (by omega)) dX0_of_13 ?_
      refine n_lconst (z := 0) hx hb dX0_of_14 (by decide) ?_
      refine lv_ldc2 (v := lI 9) hx hb hown (hts _ q794) dX0_of_15 ?_
      refine x_calliF (x_runS (As := [.long (lI q_), .long (lI 0), .long (lI 9)]) (rest := []) S hH hK (fun _ _ hW => XN.warm hW hXN) XN_b hl.1 (xm_X0_in l G M q_ 0 9 _ (r64 (by omega)) (r64 (by omega)) (r64 (by omega))) (lw_S q386 q387 q105 q388) kd_X0_in rfl rfl dX0_of_18) hH hA (fun H locs hH => ?_)
      refine z_if_eq (tgt := 68) hx hb dX0_of_21 (by decide) (fun c_21 => ?_) (fun c_21 => ?_)
      · -- 21T
        refine lv_iload_n hx hb dX0_of_68 rfl (lv_at hl 1 rfl) ?_
        refine n_iconst hx hb dX0_of_69 ?_
        refine n_icmp_ne (tgt := 110) hx hb (r32 (by omega)) (r32 (by omega)) dX0_of_70 (by decide) (fun c_70 => ?_) (fun c_70 => ?_)
        · -- 70T
          refine n_iconst hx hb dX0_of_110 ?_
          refine x_iret hx hb hr hlk hH dX0_of_111 ?_
          refine ⟨?_, rfl⟩
          show _ = ofF _ _ _ _
          unfold ofF
          (repeat' split) <;> first | rfl | (exfalso; omega) | (rw [show q_ = 9 by omega]; omega)
        · -- 70F
          refine lv_aload_n hx hb dX0_of_73 rfl (lv_at hl 0 rfl) ?_
          refine lv_iload_n hx hb dX0_of_74 rfl (lv_at hl 2 rfl) ?_
          refine x_calliF (x_runV (As := [.int (iI n_)]) (rest := []) S hH hK (fun _ _ hW => XN.warm hW hXN) XN_b hl.1 hR.o rfl (xm_X0_isTrial l G M σ x ω a n_ _ hR (r32 (by omega)) (by omega) (by omega)) (lw_V q795 q797 qs11 q105 q798) kd_X0_isTrial rfl rfl dX0_of_75) hH hA (fun H locs hH => ?_)
          refine z_if_eq (tgt := 110) hx hb dX0_of_78 (by decide) (fun c_78 => ?_) (fun c_78 => ?_)
          · -- 78T
            refine n_iconst hx hb dX0_of_110 ?_
            refine x_iret hx hb hr hlk hH dX0_of_111 ?_
            refine ⟨?_, rfl⟩
            show _ = ofF _ _ _ _
            unfold ofF
            (repeat' split) <;> first | rfl | (exfalso; omega) | (rw [show q_ = 9 by omega]; omega)
          · -- 78F
            refine lv_iload_n hx hb dX0_of_81 rfl (lv_at hl 3 rfl) ?_
            refine n_i2l hx hb (r32 (by omega)) dX0_of_82 ?_
            refine n_lconst (z := 0) hx hb dX0_of_83 (by decide) ?_
            refine lv_ldc2 (v := lI 8) hx hb hown (hts _ q799) dX0_of_84 ?_
            refine x_calliF (x_runS (As := [.long (lI q_), .long (lI 0), .long (lI 8)]) (rest := []) S hH hK (fun _ _ hW => XN.warm hW hXN) XN_b hl.1 (xm_X0_in l G M q_ 0 8 _ (r64 (by omega)) (r64 (by omega)) (r64 (by omega))) (lw_S q386 q387 q105 q388) kd_X0_in rfl rfl dX0_of_87) hH hA (fun H locs hH => ?_)
            refine z_if_eq (tgt := 110) hx hb dX0_of_90 (by decide) (fun c_90 => ?_) (fun c_90 => ?_)
            · -- 90T
              refine n_iconst hx hb dX0_of_110 ?_
              refine x_iret hx hb hr hlk hH dX0_of_111 ?_
              refine ⟨?_, rfl⟩
              show _ = ofF _ _ _ _
              unfold ofF
              (repeat' split) <;> first | rfl | (exfalso; omega) | (rw [show q_ = 9 by omega]; omega)
            · -- 90F
              refine lv_aload_n hx hb dX0_of_93 rfl (lv_at hl 0 rfl) ?_
              refine x_get hx hb hts in_X0 hown hK hH hR.o rfl 0 (by decide) q339 (fun _ h9 => h9) rfl (by decide) dX0_of_94 ?_
              refine x_getN hx hb hts in_X1 hown hK hH hR.b0 rfl 11 (by decide) hXN q184 (fun _ h9 => h9) rfl (by decide) dX0_of_97 ?_
              refine lv_iload_n hx hb dX0_of_100 rfl (lv_at hl 2 rfl) ?_
              obtain ⟨y3, n3, w3, u3, g3, k3, e3⟩ := hR.trial (i := n_) (by omega) (by omega)
              refine x_aald hx hb hK hH 8 hR.b11 rfl (by omega) (by omega) (Nat.le_of_ble_eq_true rfl) (v := some y3) u3 dX0_of_101 ?_
              refine x_get hx hb hts in_X2 hown hK hH g3 rfl 0 (by decide) q262 (fun _ h9 => h9) rfl (by decide) dX0_of_102 ?_
              refine lv_iload_n hx hb dX0_of_105 rfl (lv_at hl 3 rfl) ?_
              refine x_iald hx hb hK hH k3 (by omega) (by omega) (Nat.le_of_ble_eq_true rfl) dX0_of_106 ?_
              refine W.eq (g2 := F0 m 107 ls (.int (iI (trA (σ 2) n_ q_)) :: [])) (by first | (rw [e3 _ (by omega) (by omega)]; done) | (rw [e3 _ (by omega) (by omega)]; rfl)) ?_
              refine lv_goto (tgt := 111) hx hb dX0_of_107 (by decide) ?_
              refine x_iret hx hb hr hlk hH dX0_of_111 ?_
              refine ⟨?_, rfl⟩
              show _ = ofF _ _ _ _
              unfold ofF
              (repeat' split) <;> first | rfl | (exfalso; omega) | (rw [show q_ = 9 by omega]; omega)
      · -- 21F
        refine lv_iload_n hx hb dX0_of_24 rfl (lv_at hl 3 rfl) ?_
        refine n_bipush (z := 9) hx hb dX0_of_25 (by decide) ?_
        refine n_icmp_ge (tgt := 47) hx hb (r32 (by omega)) (r32 (by omega)) dX0_of_27 (by decide) (fun c_27 => ?_) (fun c_27 => ?_)
        · -- 27T
          refine lv_aload_n hx hb dX0_of_47 rfl (lv_at hl 0 rfl) ?_
          refine x_get hx hb hts in_X0 hown hK hH hR.o rfl 0 (by decide) q339 (fun _ h9 => h9) rfl (by decide) dX0_of_48 ?_
          refine x_getN hx hb hts in_X1 hown hK hH hR.b0 rfl 10 (by decide) hXN q182 (fun _ h9 => h9) rfl (by decide) dX0_of_51 ?_
          refine lv_iload_n hx hb dX0_of_54 rfl (lv_at hl 2 rfl) ?_
          obtain ⟨y4, n4, w4, u4, g4, k4, e4⟩ := hR.look (i := n_) (by omega) (by omega)
          have v4 := (hI.o n_ (by omega) (by omega)).2
          refine x_aald hx hb hK hH 7 hR.b10 rfl (by omega) (by omega) (Nat.le_of_ble_eq_true rfl) (v := some y4) u4 dX0_of_55 ?_
          refine x_getN hx hb hts in_X10 hown hK hH g4 rfl 2 (by decide) hXN q755 (fun _ h9 => h9) rfl (by decide) dX0_of_56 ?_
          refine n_if_eq (tgt := 66) hx hb (r32 (by omega)) dX0_of_59 (by decide) (fun c_59 => ?_) (fun c_59 => ?_)
          · -- 59T
            refine n_iconst hx hb dX0_of_66 ?_
            refine x_iret hx hb hr hlk hH dX0_of_67 ?_
            refine ⟨?_, rfl⟩
            show _ = ofF _ _ _ _
            unfold ofF
            (repeat' split) <;> first | rfl | (exfalso; omega) | (rw [show q_ = 9 by omega]; omega)
          · -- 59F
            refine n_iconst hx hb dX0_of_62 ?_
            refine lv_goto (tgt := 67) hx hb dX0_of_63 (by decide) ?_
            refine x_iret hx hb hr hlk hH dX0_of_67 ?_
            refine ⟨?_, rfl⟩
            show _ = ofF _ _ _ _
            unfold ofF
            (repeat' split) <;> first | rfl | (exfalso; omega) | (rw [show q_ = 9 by omega]; omega)
        · -- 27F
          refine lv_aload_n hx hb dX0_of_30 rfl (lv_at hl 0 rfl) ?_
          refine x_get hx hb hts in_X0 hown hK hH hR.o rfl 0 (by decide) q339 (fun _ h9 => h9) rfl (by decide) dX0_of_31 ?_
          refine x_getN hx hb hts in_X1 hown hK hH hR.b0 rfl 10 (by decide) hXN q182 (fun _ h9 => h9) rfl (by decide) dX0_of_34 ?_
          refine lv_iload_n hx hb dX0_of_37 rfl (lv_at hl 2 rfl) ?_
          obtain ⟨y5, n5, w5, u5, g5, k5, e5⟩ := hR.look (i := n_) (by omega) (by omega)
          have v5 := (hI.o n_ (by omega) (by omega)).2
          refine x_aald hx hb hK hH 7 hR.b10 rfl (by omega) (by omega) (Nat.le_of_ble_eq_true rfl) (v := some y5) u5 dX0_of_38 ?_
          refine x_get hx hb hts in_X10 hown hK hH g5 rfl 0 (by decide) q263 (u_same (hts _ q264)) rfl (by decide) dX0_of_39 ?_
          refine lv_iload_n hx hb dX0_of_42 rfl (lv_at hl 3 rfl) ?_
          refine x_iald hx hb hK hH k5 (by omega) (by omega) (Nat.le_of_ble_eq_true rfl) dX0_of_43 ?_
          refine W.eq (g2 := F0 m 44 ls (.int (iI (loA (σ 2) n_ q_)) :: [])) (by first | (rw [e5 _ (by omega) (by omega)]; done) | (rw [e5 _ (by omega) (by omega)]; rfl)) ?_
          refine lv_goto (tgt := 67) hx hb dX0_of_44 (by decide) ?_
          refine x_iret hx hb hr hlk hH dX0_of_67 ?_
          refine ⟨?_, rfl⟩
          show _ = ofF _ _ _ _
          unfold ofF
          (repeat' split) <;> first | rfl | (exfalso; omega) | (rw [show q_ = 9 by omega]; omega)
