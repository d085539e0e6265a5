theorem kd_X4_odds : yX4_odds.cls = RX4 ∧ yX4_odds.cls ≠ "java/lang/invoke/MethodHandle" ∧ yX4_odds.cls ≠ "java/lang/invoke/VarHandle" ∧ (parseMethodDescriptor yX4_odds.desc).map (fun d => d.parameters.length) = some 3 := by decide +kernel
theorem mm_odds (l : Launch) (G : MG) (σ : St) (x_ : Int) (w_ : Int) (n_ : Int) (sz : Nat) (h_x_ : R32 x_) (h_w_ : R32 w_) (h_n_ : R32 n_) (hI : KI (σ 2)) (hT : TT (σ 2)) : Met l yX4_odds (ws_ yX4_odds cX4_odds 4 (some .int)) (rmD 69) (mP G [.ref (G.2.2 0), .int (iI x_), .int (iI w_), .int (iI n_)] σ sz) (mQi G σ sz (fun z σ' => z = (oddsF (σ 2) x_ w_ n_) ∧ Sc σ σ')) 0 0 (mA G σ sz) := by
  refine m_start (by decide) (Nat.le_of_ble_eq_true rfl) ?_
  intro p e s m below meth c ⟨S, hr, hlk, hH, hK, hj, hsz, hnm⟩ ls hl
  subst hsz
  obtain ⟨hx, hb, hml, hown, hts⟩ := S
  have S : CallFix p m c _ _ s _ lw_all RX4 := ⟨hx, hb, hml, hown, hts⟩
  have hA : ∀ q, s.heap.size ≤ q → mA G σ s.heap.size q := fun q hq => Or.inr hq
  have hl : lv_has ls 4 [(0, .ref (G.2.2 0)), (1, .int (iI x_)), (2, .int (iI w_)), (3, .int (iI n_))] := hl
  have b0 := hI.c
  unfold kCnt at b0
  have h_x_ := R32.n h_x_
  have h_w_ := R32.n h_w_
  have h_n_ := R32.n h_n_
  have hH := MH_to hH (τ := mx σ σ) mx_self.symm
  refine lv_aload_n hx hb dX4_odds_0 rfl (lv_at hl 0 rfl) ?_
  refine lv_iload_n hx hb dX4_odds_1 rfl (lv_at hl 1 rfl) ?_
  refine m_calliF (m_runV (As := [.int (iI x_)]) (rest := []) S hH hK hj hl.1 (mm_isText l G (mx σ σ) x_ _ (r32 (by omega)) (show 0 ≤ σ 2 1756 from by omega) (show σ 2 1756 ≤ 1000 from by omega)) (lw_V q1803 q1805 qs73 q109 q1806) kd_X4_isText rfl rfl dX4_odds_2) hH hA (fun H locs hH => ?_)
  refine W.eq (g2 := F0 m 5 ls (.int (iI (zb (0 ≤ x_ ∧ x_ ≤ σ 2 1756 - 1))) :: [])) rfl ?_
  refine z_if_eq (tgt := 40) hx hb dX4_odds_5 (by decide) (fun c_5 => ?_) (fun c_5 => ?_)
  · -- 5T
    refine n_iconst hx hb dX4_odds_40 ?_
    refine m_iret hx hb hr hlk hH dX4_odds_41 ?_
    refine ⟨?_, mx_sc⟩
    show _ = oddsF _ _ _ _
    unfold oddsF isX isK isT
    (repeat' split) <;> first | rfl | (exfalso; omega)
  · -- 5F
    refine lv_iload_n hx hb dX4_odds_8 rfl (lv_at hl 2 rfl) ?_
    refine n_iconst hx hb dX4_odds_9 ?_
    refine n_iconst hx hb dX4_odds_10 ?_
    refine m_calliF (m_runS (As := [.int (iI w_), .int (iI 0), .int (iI 1)]) (rest := []) S hH hK hj hl.1 (mm_in l G (mx σ σ) w_ 0 1 _ (r32 (by omega)) (r32 (by omega)) (r32 (by omega))) (lw_S q1569 q1570 q109 q1571) kd_X4_in rfl rfl dX4_odds_11) hH hA (fun H locs hH => ?_)
    refine z_if_eq (tgt := 40) hx hb dX4_odds_14 (by decide) (fun c_14 => ?_) (fun c_14 => ?_)
    · -- 14T
      refine n_iconst hx hb dX4_odds_40 ?_
      refine m_iret hx hb hr hlk hH dX4_odds_41 ?_
      refine ⟨?_, mx_sc⟩
      show _ = oddsF _ _ _ _
      unfold oddsF isX isK isT
      (repeat' split) <;> first | rfl | (exfalso; omega)
    · -- 14F
      refine lv_iload_n hx hb dX4_odds_17 rfl (lv_at hl 2 rfl) ?_
      refine n_if_ne (tgt := 32) hx hb (r32 (by omega)) dX4_odds_18 (by decide) (fun c_18 => ?_) (fun c_18 => ?_)
      · -- 18T
        refine lv_aload_n hx hb dX4_odds_32 rfl (lv_at hl 0 rfl) ?_
        refine lv_iload_n hx hb dX4_odds_33 rfl (lv_at hl 3 rfl) ?_
        refine m_calliF (m_runV (As := [.int (iI n_)]) (rest := []) S hH hK hj hl.1 (mm_isTrial l G (mx σ σ) n_ _ (r32 (by omega)) (show 0 ≤ σ 2 1755 from by omega) (show σ 2 1755 ≤ 1000 from by omega)) (lw_V q1709 q1711 qs57 q109 q1712) kd_X4_isTrial rfl rfl dX4_odds_34) hH hA (fun H locs hH => ?_)
        refine W.eq (g2 := F0 m 37 ls (.int (iI (zb (0 ≤ n_ ∧ n_ ≤ σ 2 1755 - 1))) :: [])) rfl ?_
        refine z_if_ne (tgt := 42) hx hb dX4_odds_37 (by decide) (fun c_37 => ?_) (fun c_37 => ?_)
        · -- 37T
          refine lv_iload_n hx hb dX4_odds_42 rfl (lv_at hl 2 rfl) ?_
          refine n_if_ne (tgt := 55) hx hb (r32 (by omega)) dX4_odds_43 (by decide) (fun c_43 => ?_) (fun c_43 => ?_)
          · -- 43T
            refine lv_aload_n hx hb dX4_odds_55 rfl (lv_at hl 0 rfl) ?_
            refine lv_iload_n hx hb dX4_odds_56 rfl (lv_at hl 1 rfl) ?_
            refine lv_iload_n hx hb dX4_odds_57 rfl (lv_at hl 3 rfl) ?_
            refine m_calli (m_runV (As := [.int (iI x_), .int (iI n_)]) (rest := []) S hH hK hj hl.1 (mm_oddsOfTrial l G (mx σ σ) x_ n_ _ (by omega) (show x_ < σ 2 1756 from by omega) hI hT (by omega) (show n_ < σ 2 1755 from by omega)) (lw_V q1876 q1878 qs90 q109 q1879) kd_X4_oddsOfTrial rfl rfl dX4_odds_58) hH hA (fun z58 σ58 H locs q_58 hH => ?_)
            obtain ⟨e_58, q_58⟩ := q_58
            have e_58 : z58 = (oT (σ 2) x_ n_) := e_58
            subst e_58
            have hH := MH_to hH (τ := mx σ σ58) (mx_of q_58)
            refine m_iret hx hb hr hlk hH dX4_odds_61 ?_
            refine ⟨?_, mx_sc⟩
            show _ = oddsF _ _ _ _
            unfold oddsF isX isK isT
            (repeat' split) <;> first | rfl | (exfalso; omega)
          · exact absurd c_43 c_18
        · -- 37F
          refine n_iconst hx hb dX4_odds_40 ?_
          refine m_iret hx hb hr hlk hH dX4_odds_41 ?_
          refine ⟨?_, mx_sc⟩
          show _ = oddsF _ _ _ _
          unfold oddsF isX isK isT
          (repeat' split) <;> first | rfl | (exfalso; omega)
      · -- 18F
        refine lv_aload_n hx hb dX4_odds_21 rfl (lv_at hl 0 rfl) ?_
        refine lv_iload_n hx hb dX4_odds_22 rfl (lv_at hl 3 rfl) ?_
        refine m_calliF (m_runV (As := [.int (iI n_)]) (rest := []) S hH hK hj hl.1 (mm_isLook l G (mx σ σ) n_ _ (r32 (by omega)) (show 0 ≤ σ 2 1754 from by omega) (show σ 2 1754 ≤ 1000 from by omega)) (lw_V q1705 q1707 qs56 q109 q1708) kd_X4_isLook rfl rfl dX4_odds_23) hH hA (fun H locs hH => ?_)
        refine W.eq (g2 := F0 m 26 ls (.int (iI (zb (0 ≤ n_ ∧ n_ ≤ σ 2 1754 - 1))) :: [])) rfl ?_
        refine z_if_ne (tgt := 42) hx hb dX4_odds_26 (by decide) (fun c_26 => ?_) (fun c_26 => ?_)
        · -- 26T
          refine lv_iload_n hx hb dX4_odds_42 rfl (lv_at hl 2 rfl) ?_
          refine n_if_ne (tgt := 55) hx hb (r32 (by omega)) dX4_odds_43 (by decide) (fun c_43 => ?_) (fun c_43 => ?_)
          · exact absurd c_18 c_43
          · -- 43F
            refine lv_aload_n hx hb dX4_odds_46 rfl (lv_at hl 0 rfl) ?_
            refine lv_iload_n hx hb dX4_odds_47 rfl (lv_at hl 1 rfl) ?_
            refine lv_iload_n hx hb dX4_odds_48 rfl (lv_at hl 3 rfl) ?_
            refine m_calli (m_runV (As := [.int (iI x_), .int (iI n_)]) (rest := []) S hH hK hj hl.1 (mm_oddsOfLook l G (mx σ σ) x_ n_ _ (by omega) (show x_ < σ 2 1756 from by omega) hI hT (by omega) (show n_ < σ 2 1754 from by omega)) (lw_V q1807 q1809 qs74 q109 q1810) kd_X4_oddsOfLook rfl rfl dX4_odds_49) hH hA (fun z49 σ49 H locs q_49 hH => ?_)
            obtain ⟨e_49, q_49⟩ := q_49
            have e_49 : z49 = (oL (σ 2) x_ n_) := e_49
            subst e_49
            have hH := MH_to hH (τ := mx σ σ49) (mx_of q_49)
            refine lv_goto (tgt := 61) hx hb dX4_odds_52 (by decide) ?_
            refine m_iret hx hb hr hlk hH dX4_odds_61 ?_
            refine ⟨?_, mx_sc⟩
            show _ = oddsF _ _ _ _
            unfold oddsF isX isK isT
            (repeat' split) <;> first | rfl | (exfalso; omega)
        · -- 26F
          refine lv_goto (tgt := 40) hx hb dX4_odds_29 (by decide) ?_
          refine n_iconst hx hb dX4_odds_40 ?_
          refine m_iret hx hb hr hlk hH dX4_odds_41 ?_
          refine ⟨?_, mx_sc⟩
          show _ = oddsF _ _ _ _
          unfold oddsF isX isK isT
          (repeat' split) <;> first | rfl | (exfalso; omega)
theorem kd_X4_fair : yX4_fair.cls = RX4 ∧ yX4_fair.cls ≠ "java/lang/invoke/MethodHandle" ∧ yX4_fair.cls ≠ "java/lang/invoke/VarHandle" ∧ (parseMethodDescriptor yX4_fair.desc).map (fun d => d.parameters.length) = some 2 := by decide +kernel
theorem mm_fair (l : Launch) (G : MG) (σ : St) (x_ : Int) (t_ : Int) (sz : Nat) (h_x_ : R32 x_) (h_t_ : R32 t_) (hI : KI (σ 2)) (hT : TT (σ 2)) : Met l yX4_fair (ws_ yX4_fair cX4_fair 3 (some .int)) (rmD 69) (mP G [.ref (G.2.2 0), .int (iI x_), .int (iI t_)] σ sz) (mQi G σ sz (fun z σ' => z = (fairF (σ 2) x_ t_) ∧ Sc σ σ')) 0 0 (mA G σ sz) := by
  refine m_start (by decide) (Nat.le_of_ble_eq_true rfl) ?_
  intro p e s m below meth c ⟨S, hr, hlk, hH, hK, hj, hsz, hnm⟩ ls hl
  subst hsz
  obtain ⟨hx, hb, hml, hown, hts⟩ := S
  have S : CallFix p m c _ _ s _ lw_all RX4 := ⟨hx, hb, hml, hown, hts⟩
  have hA : ∀ q, s.heap.size ≤ q → mA G σ s.heap.size q := fun q hq => Or.inr hq
  have hl : lv_has ls 3 [(0, .ref (G.2.2 0)), (1, .int (iI x_)), (2, .int (iI t_))] := hl
  have b0 := hI.c
  unfold kCnt at b0
  have h_x_ := R32.n h_x_
  have h_t_ := R32.n h_t_
  have hH := MH_to hH (τ := mx σ σ) mx_self.symm
  refine lv_aload_n hx hb dX4_fair_0 rfl (lv_at hl 0 rfl) ?_
  refine lv_iload_n hx hb dX4_fair_1 rfl (lv_at hl 1 rfl) ?_
  refine m_calliF (m_runV (As := [.int (iI x_)]) (rest := []) S hH hK hj hl.1 (mm_isText l G (mx σ σ) x_ _ (r32 (by omega)) (show 0 ≤ σ 2 1756 from by omega) (show σ 2 1756 ≤ 1000 from by omega)) (lw_V q1803 q1805 qs73 q109 q1806) kd_X4_isText rfl rfl dX4_fair_2) hH hA (fun H locs hH => ?_)
  refine W.eq (g2 := F0 m 5 ls (.int (iI (zb (0 ≤ x_ ∧ x_ ≤ σ 2 1756 - 1))) :: [])) rfl ?_
  refine z_if_eq (tgt := 33) hx hb dX4_fair_5 (by decide) (fun c_5 => ?_) (fun c_5 => ?_)
  · -- 5T
    refine n_iconst hx hb dX4_fair_33 ?_
    refine m_iret hx hb hr hlk hH dX4_fair_34 ?_
    refine ⟨?_, mx_sc⟩
    show _ = fairF _ _ _
    unfold fairF isX isT
    (repeat' split) <;> omega
  · -- 5F
    refine lv_aload_n hx hb dX4_fair_8 rfl (lv_at hl 0 rfl) ?_
    refine lv_iload_n hx hb dX4_fair_9 rfl (lv_at hl 2 rfl) ?_
    refine m_calliF (m_runV (As := [.int (iI t_)]) (rest := []) S hH hK hj hl.1 (mm_isTrial l G (mx σ σ) t_ _ (r32 (by omega)) (show 0 ≤ σ 2 1755 from by omega) (show σ 2 1755 ≤ 1000 from by omega)) (lw_V q1709 q1711 qs57 q109 q1712) kd_X4_isTrial rfl rfl dX4_fair_10) hH hA (fun H locs hH => ?_)
    refine W.eq (g2 := F0 m 13 ls (.int (iI (zb (0 ≤ t_ ∧ t_ ≤ σ 2 1755 - 1))) :: [])) rfl ?_
    refine z_if_eq (tgt := 33) hx hb dX4_fair_13 (by decide) (fun c_13 => ?_) (fun c_13 => ?_)
    · -- 13T
      refine n_iconst hx hb dX4_fair_33 ?_
      refine m_iret hx hb hr hlk hH dX4_fair_34 ?_
      refine ⟨?_, mx_sc⟩
      show _ = fairF _ _ _
      unfold fairF isX isT
      (repeat' split) <;> omega
    · -- 13F
      refine lv_aload_n hx hb dX4_fair_16 rfl (lv_at hl 0 rfl) ?_
      refine lv_iload_n hx hb dX4_fair_17 rfl (lv_at hl 1 rfl) ?_
      refine lv_iload_n hx hb dX4_fair_18 rfl (lv_at hl 2 rfl) ?_
      refine m_calli (m_runV (As := [.int (iI x_), .int (iI t_)]) (rest := []) S hH hK hj hl.1 (mm_isFair l G (mx σ σ) x_ t_ _ (by omega) (show x_ < σ 2 1756 from by omega) hI hT (by omega) (show t_ < σ 2 1755 from by omega)) (lw_V q1884 q1886 qs91 q109 q1887) kd_X4_isFair rfl rfl dX4_fair_19) hH hA (fun z19 σ19 H locs q_19 hH => ?_)
      obtain ⟨e_19, q_19⟩ := q_19
      have e_19 : z19 = (fT (σ 2) x_ t_) := e_19
      subst e_19
      have hH := MH_to hH (τ := mx σ σ19) (mx_of q_19)
      have hf : fT (σ 2) x_ t_ = 0 ∨ fT (σ 2) x_ t_ = 1 := fairQ_01 _ _
      refine n_if_eq (tgt := 29) hx hb (r32 (by omega)) dX4_fair_22 (by decide) (fun c_22 => ?_) (fun c_22 => ?_)
      · -- 22T
        refine n_iconst hx hb dX4_fair_29 ?_
        refine lv_goto (tgt := 34) hx hb dX4_fair_30 (by decide) ?_
        refine m_iret hx hb hr hlk hH dX4_fair_34 ?_
        refine ⟨?_, mx_sc⟩
        show _ = fairF _ _ _
        unfold fairF isX isT
        (repeat' split) <;> omega
      · -- 22F
        refine n_iconst hx hb dX4_fair_25 ?_
        refine lv_goto (tgt := 34) hx hb dX4_fair_26 (by decide) ?_
        refine m_iret hx hb hr hlk hH dX4_fair_34 ?_
        refine ⟨?_, mx_sc⟩
        show _ = fairF _ _ _
        unfold fairF isX isT
        (repeat' split) <;> omega
theorem kd_X4_outBy : yX4_outBy.cls = RX4 ∧ yX4_outBy.cls ≠ "java/lang/invoke/MethodHandle" ∧ yX4_outBy.cls ≠ "java/lang/invoke/VarHandle" ∧ (parseMethodDescriptor yX4_outBy.desc).map (fun d => d.parameters.length) = some 2 := by decide +kernel
theorem mm_outBy (l : Launch) (G : MG) (σ : St) (x_ : Int) (i_ : Int) (sz : Nat) (h_x_ : R32 x_) (h_i_ : R32 i_) (hI : KI (σ 2)) (hT : TT (σ 2)) : Met l yX4_outBy (ws_ yX4_outBy cX4_outBy 5 (some .int)) (rmD 69) (mP G [.ref (G.2.2 0), .int (iI x_), .int (iI i_)] σ sz) (mQi G σ sz (fun z σ' => z = (outF (σ 2) x_ i_) ∧ Sc σ σ')) 0 0 (mA G σ sz) := by
  refine m_start (by decide) (Nat.le_of_ble_eq_true rfl) ?_
  intro p e s m below meth c ⟨S, hr, hlk, hH, hK, hj, hsz, hnm⟩ ls hl
  subst hsz
  obtain ⟨hx, hb, hml, hown, hts⟩ := S
  have S : CallFix p m c _ _ s _ lw_all RX4 := ⟨hx, hb, hml, hown, hts⟩
  have hA : ∀ q, s.heap.size ≤ q → mA G σ s.heap.size q := fun q hq => Or.inr hq
  have hl : lv_has ls 5 [(0, .ref (G.2.2 0)), (1, .int (iI x_)), (2, .int (iI i_))] := hl
  have b0 := hI.c
  unfold kCnt at b0
  have h_x_ := R32.n h_x_
  have h_i_ := R32.n h_i_
  have hH := MH_to hH (τ := mx σ σ) mx_self.symm
  have L20 : ∀ (q : Nat) (τ : St) (k : Int) (n : Int), (hg : isX (σ 2) x_ ∧ -1 ≤ i_) → (hk0 : 0 ≤ k) → (hk1 : k ≤ σ 2 1754) → (hn0 : 0 ≤ n) → (hn1 : n ≤ k) → (hq : σ 2 1754 < (q : Int) + k) → (he : outN (σ 2) x_ i_ (σ 2 1754).toNat 0 0 = outN (σ 2) x_ i_ (σ 2 1754 - k).toNat k n) → ∀ (H : Heap) (locs : List Loc) (ls : Array Slot), MH G (mA G σ s.heap.size) (mx σ τ) s.heap H locs → lv_has ls 5 [(0, .ref (G.2.2 0)), (1, .int (iI x_)), (2, .int (iI i_)), (3, .int (iI n)), (4, .int (iI k))] → W p l e (rmD 69) s m ([.ref (G.2.2 0), .int (iI x_), .int (iI i_)] : List Value).toArray below meth c H locs 0 0 (MQ below (mQi G σ s.heap.size (fun z σ' => z = (outF (σ 2) x_ i_) ∧ Sc σ σ')) ([.ref (G.2.2 0), .int (iI x_), .int (iI i_)] : List Value).toArray s 0 0 (mA G σ s.heap.size)) (F0 m 20 ls []) := by
    intro q
    induction q with
    | zero => intro τ k n hg hk0 hk1 hn0 hn1 hq he; exfalso; omega
    | succ q ih_20 =>
      intro τ k n hg hk0 hk1 hn0 hn1 hq he H locs ls hH hl
      have ho := oL_r (σ 2) x_ k
      refine lv_iload hx hb dX4_outBy_20 (lv_at hl 4 rfl) ?_
      refine lv_aload_n hx hb dX4_outBy_22 rfl (lv_at hl 0 rfl) ?_
      refine m_get 2 (by decide) hx hb hts hown hK hj hH q1475 (fun _ h9 => h9) rfl dX4_outBy_23 ?_
      refine n_sipush (z := 1754) hx hb dX4_outBy_26 (by decide) ?_
      refine ml_2 hx hb hK hj hH (by omega) (by omega) dX4_outBy_29 ?_
      refine W.eq (g2 := F0 m 30 ls (.int (iI (σ 2 1754)) :: .int (iI k) :: [])) rfl ?_
      refine n_icmp_ge (tgt := 63) hx hb (r32 (by omega)) (r32 (by omega)) dX4_outBy_30 (by decide) (fun c_30 => ?_) (fun c_30 => ?_)
      · -- 30T
        refine lv_iload_n hx hb dX4_outBy_63 rfl (lv_at hl 2 rfl) ?_
        refine n_iconst hx hb dX4_outBy_64 ?_
        refine n_icmp_ne (tgt := 72) hx hb (r32 (by omega)) (r32 (by omega)) dX4_outBy_65 (by decide) (fun c_65 => ?_) (fun c_65 => ?_)
        · -- 65T
          refine n_iconst hx hb dX4_outBy_72 ?_
          refine m_iret hx hb hr hlk hH dX4_outBy_73 ?_
          refine ⟨?_, mx_sc⟩
          show _ = outF _ _ _
          rw [outF, if_pos hg, he, show (σ 2 1754 - k).toNat = 0 by omega, outN, if_neg (by omega)]
        · -- 65F
          refine lv_iload_n hx hb dX4_outBy_68 rfl (lv_at hl 3 rfl) ?_
          refine lv_goto (tgt := 73) hx hb dX4_outBy_69 (by decide) ?_
          refine m_iret hx hb hr hlk hH dX4_outBy_73 ?_
          refine ⟨?_, mx_sc⟩
          show _ = outF _ _ _
          rw [outF, if_pos hg, he, show (σ 2 1754 - k).toNat = 0 by omega, outN, if_pos (by omega)]
      · -- 30F
        refine lv_aload_n hx hb dX4_outBy_33 rfl (lv_at hl 0 rfl) ?_
        refine lv_iload_n hx hb dX4_outBy_34 rfl (lv_at hl 1 rfl) ?_
        refine lv_iload hx hb dX4_outBy_35 (lv_at hl 4 rfl) ?_
        refine m_calli (m_runV (As := [.int (iI x_), .int (iI k)]) (rest := []) S hH hK hj hl.1 (mm_oddsOfLook l G (mx σ τ) x_ k _ (by omega) (show x_ < σ 2 1756 from by omega) hI hT (by omega) (show k < σ 2 1754 from by omega)) (lw_V q1807 q1809 qs74 q109 q1810) kd_X4_oddsOfLook rfl rfl dX4_outBy_37) hH hA (fun z37 σ37 H locs q_37 hH => ?_)
        obtain ⟨e_37, q_37⟩ := q_37
        have e_37 : z37 = (oL (σ 2) x_ k) := e_37
        subst e_37
        have hH := MH_to hH (τ := mx σ σ37) (mx_of q_37)
        refine n_if_eq (tgt := 46) hx hb (r32 (by omega)) dX4_outBy_40 (by decide) (fun c_40 => ?_) (fun c_40 => ?_)
        · -- 40T
          refine lv_iload_n hx hb dX4_outBy_46 rfl (lv_at hl 3 rfl) ?_
          refine lv_iload_n hx hb dX4_outBy_47 rfl (lv_at hl 2 rfl) ?_
          refine n_icmp_ne (tgt := 54) hx hb (r32 (by omega)) (r32 (by omega)) dX4_outBy_48 (by decide) (fun c_48 => ?_) (fun c_48 => ?_)
          · -- 48T
            refine n_iinc hx hb dX4_outBy_54 hl (k := 3) rfl (Nat.le_of_ble_eq_true rfl) (lv' := [(3, .int (iI (n + 1))), (0, .ref (G.2.2 0)), (1, .int (iI x_)), (2, .int (iI i_)), (4, .int (iI k))]) rfl (fun ls hl => ?_)
            refine n_iinc hx hb dX4_outBy_57 hl (k := 4) rfl (Nat.le_of_ble_eq_true rfl) (lv' := [(4, .int (iI (k + 1))), (3, .int (iI (n + 1))), (0, .ref (G.2.2 0)), (1, .int (iI x_)), (2, .int (iI i_))]) rfl (fun ls hl => ?_)
            refine lv_goto (tgt := 20) hx hb dX4_outBy_60 (by decide) ?_
            have hl : lv_has ls 5 [(0, .ref (G.2.2 0)), (1, .int (iI x_)), (2, .int (iI i_)), (3, .int (iI (n + 1))), (4, .int (iI (k + 1)))] := lv_sub hl [2, 3, 4, 1, 0] rfl
            refine ih_20 σ37 (k + 1) (n + 1) ?_ ?_ ?_ ?_ ?_ ?_ ?_ _ _ _ hH hl
            · exact hg
            · omega
            · omega
            · omega
            · omega
            · omega
            · rw [he, outN_e (by omega)]
              (repeat' split) <;> first | rfl | (exfalso; omega)
          · -- 48F
            refine lv_iload hx hb dX4_outBy_51 (lv_at hl 4 rfl) ?_
            refine m_iret hx hb hr hlk hH dX4_outBy_53 ?_
            refine ⟨?_, mx_sc⟩
            show _ = outF _ _ _
            rw [outF, if_pos hg, he, outN_e (by omega), if_pos (by omega), if_pos (by omega)]
        · -- 40F
          refine lv_goto (tgt := 57) hx hb dX4_outBy_43 (by decide) ?_
          refine n_iinc hx hb dX4_outBy_57 hl (k := 4) rfl (Nat.le_of_ble_eq_true rfl) (lv' := [(4, .int (iI (k + 1))), (0, .ref (G.2.2 0)), (1, .int (iI x_)), (2, .int (iI i_)), (3, .int (iI n))]) rfl (fun ls hl => ?_)
          refine lv_goto (tgt := 20) hx hb dX4_outBy_60 (by decide) ?_
          have hl : lv_has ls 5 [(0, .ref (G.2.2 0)), (1, .int (iI x_)), (2, .int (iI i_)), (3, .int (iI n)), (4, .int (iI (k + 1)))] := lv_sub hl [1, 2, 3, 4, 0] rfl
          refine ih_20 σ37 (k + 1) n ?_ ?_ ?_ ?_ ?_ ?_ ?_ _ _ _ hH hl
          · exact hg
          · omega
          · omega
          · omega
          · omega
          · omega
          · rw [he, outN_e (by omega)]
            (repeat' split) <;> first | rfl | (exfalso; omega)
  refine lv_aload_n hx hb dX4_outBy_0 rfl (lv_at hl 0 rfl) ?_
  refine lv_iload_n hx hb dX4_outBy_1 rfl (lv_at hl 1 rfl) ?_
  refine m_calliF (m_runV (As := [.int (iI x_)]) (rest := []) S hH hK hj hl.1 (mm_isText l G (mx σ σ) x_ _ (r32 (by omega)) (show 0 ≤ σ 2 1756 from by omega) (show σ 2 1756 ≤ 1000 from by omega)) (lw_V q1803 q1805 qs73 q109 q1806) kd_X4_isText rfl rfl dX4_outBy_2) hH hA (fun H locs hH => ?_)
  refine W.eq (g2 := F0 m 5 ls (.int (iI (zb (0 ≤ x_ ∧ x_ ≤ σ 2 1756 - 1))) :: [])) rfl ?_
  refine z_if_eq (tgt := 13) hx hb dX4_outBy_5 (by decide) (fun c_5 => ?_) (fun c_5 => ?_)
  · -- 5T
    refine n_iconst hx hb dX4_outBy_13 ?_
    refine m_iret hx hb hr hlk hH dX4_outBy_14 ?_
    refine ⟨?_, mx_sc⟩
    show _ = outF _ _ _
    unfold outF isX
    rw [if_neg (by omega)]
  · -- 5F
    refine lv_iload_n hx hb dX4_outBy_8 rfl (lv_at hl 2 rfl) ?_
    refine n_iconst hx hb dX4_outBy_9 ?_
    refine n_icmp_ge (tgt := 15) hx hb (r32 (by omega)) (r32 (by omega)) dX4_outBy_10 (by decide) (fun c_10 => ?_) (fun c_10 => ?_)
    · -- 10T
      refine n_iconst hx hb dX4_outBy_15 ?_
      refine lv_istore_n hx hb dX4_outBy_16 rfl hl (Nat.le_of_ble_eq_true rfl) (lv' := [(3, .int (iI 0)), (0, .ref (G.2.2 0)), (1, .int (iI x_)), (2, .int (iI i_))]) rfl (fun ls hl => ?_)
      refine n_iconst hx hb dX4_outBy_17 ?_
      refine lv_istore hx hb dX4_outBy_18 hl (Nat.le_of_ble_eq_true rfl) (lv' := [(4, .int (iI 0)), (3, .int (iI 0)), (0, .ref (G.2.2 0)), (1, .int (iI x_)), (2, .int (iI i_))]) rfl (fun ls hl => ?_)
      have hl : lv_has ls 5 [(0, .ref (G.2.2 0)), (1, .int (iI x_)), (2, .int (iI i_)), (3, .int (iI 0)), (4, .int (iI 0))] := lv_sub hl [2, 3, 4, 1, 0] rfl
      refine L20 50 σ 0 0 ?_ ?_ ?_ ?_ ?_ ?_ ?_ _ _ _ hH hl
      · omega
      · omega
      · omega
      · omega
      · omega
      · omega
      · rw [Int.sub_zero]
    · -- 10F
      refine n_iconst hx hb dX4_outBy_13 ?_
      refine m_iret hx hb hr hlk hH dX4_outBy_14 ?_
      refine ⟨?_, mx_sc⟩
      show _ = outF _ _ _
      unfold outF isX
      rw [if_neg (by omega)]
theorem kd_X4_worth : yX4_worth.cls = RX4 ∧ yX4_worth.cls ≠ "java/lang/invoke/MethodHandle" ∧ yX4_worth.cls ≠ "java/lang/invoke/VarHandle" ∧ (parseMethodDescriptor yX4_worth.desc).map (fun d => d.parameters.length) = some 4 := by decide +kernel
theorem mm_worth (l : Launch) (G : MG) (σ : St) (x_ : Int) (f_ : Int) (t_ : Int) (w_ : Int) (sz : Nat) (h_x_ : R32 x_) (h_f_ : R32 f_) (h_t_ : R32 t_) (h_w_ : R32 w_) (hI : KI (σ 2)) (hT : TT (σ 2)) : Met l yX4_worth (ws_ yX4_worth cX4_worth 10 (some .long)) (rmD 69) (mP G [.ref (G.2.2 0), .int (iI x_), .int (iI f_), .int (iI t_), .int (iI w_)] σ sz) (mQl G σ sz (fun z σ' => z = (worthF (σ 2) x_ f_ t_ w_) ∧ Sc σ σ')) 0 0 (mA G σ sz) := by
  refine m_start (by decide) (Nat.le_of_ble_eq_true rfl) ?_
  intro p e s m below meth c ⟨S, hr, hlk, hH, hK, hj, hsz, hnm⟩ ls hl
  subst hsz
  obtain ⟨hx, hb, hml, hown, hts⟩ := S
  have S : CallFix p m c _ _ s _ lw_all RX4 := ⟨hx, hb, hml, hown, hts⟩
  have hA : ∀ q, s.heap.size ≤ q → mA G σ s.heap.size q := fun q hq => Or.inr hq
  have hl : lv_has ls 10 [(0, .ref (G.2.2 0)), (1, .int (iI x_)), (2, .int (iI f_)), (3, .int (iI t_)), (4, .int (iI w_))] := hl
  have b0 := hI.c
  unfold kCnt at b0
  have h_x_ := R32.n h_x_
  have h_f_ := R32.n h_f_
  have h_t_ := R32.n h_t_
  have h_w_ := R32.n h_w_
  have hH := MH_to hH (τ := mx σ σ) mx_self.symm
  have L60 : ∀ (q : Nat) (τ : St) (i : Int), (hg : isX (σ 2) x_ ∧ isK (σ 2) f_ ∧ isK (σ 2) t_ ∧ f_ ≤ t_ ∧ t_ - f_ ≤ 8 ∧ (0 ≤ w_ ∧ w_ ≤ 1)) → (hi0 : f_ ≤ i) → (hi1 : i ≤ t_ + 1) → (hq : t_ + 1 < (q : Int) + i) → ∀ (H : Heap) (locs : List Loc) (ls : Array Slot), MH G (mA G σ s.heap.size) (mx σ τ) s.heap H locs → lv_has ls 10 [(0, .ref (G.2.2 0)), (1, .int (iI x_)), (2, .int (iI f_)), (3, .int (iI t_)), (4, .int (iI w_)), (5, .long (lI (upN (σ 2) x_ f_ (i - f_).toNat))), (7, .long (lI ((100 : Int) ^ (i - f_).toNat))), (9, .int (iI i))] → W p l e (rmD 69) s m ([.ref (G.2.2 0), .int (iI x_), .int (iI f_), .int (iI t_), .int (iI w_)] : List Value).toArray below meth c H locs 0 0 (MQ below (mQl G σ s.heap.size (fun z σ' => z = (worthF (σ 2) x_ f_ t_ w_) ∧ Sc σ σ')) ([.ref (G.2.2 0), .int (iI x_), .int (iI f_), .int (iI t_), .int (iI w_)] : List Value).toArray s 0 0 (mA G σ s.heap.size)) (F0 m 60 ls []) := by
    intro q
    induction q with
    | zero => intro τ i hg hi0 hi1 hq; exfalso; omega
    | succ q ih_60 =>
      intro τ i hg hi0 hi1 hq H locs ls hH hl
      have ho := oL_r (σ 2) x_ i
      have hu := upN_r (κ := σ 2) (x := x_) (f := f_) (i - f_).toNat
      have hp := p100_r (i := i - f_) (by omega)
      refine lv_iload hx hb dX4_worth_60 (lv_at hl 7 rfl) ?_
      refine lv_iload_n hx hb dX4_worth_62 rfl (lv_at hl 3 rfl) ?_
      refine n_icmp_gt (tgt := 93) hx hb (r32 (by omega)) (r32 (by omega)) dX4_worth_63 (by decide) (fun c_63 => ?_) (fun c_63 => ?_)
      · -- 63T
        refine lv_lload hx hb dX4_worth_93 (lv_at hl 5 rfl) ?_
        refine lv_lload hx hb dX4_worth_95 (lv_at hl 6 rfl) ?_
        refine lv_iload hx hb dX4_worth_97 (lv_at hl 4 rfl) ?_
        refine m_calllF (m_runS (As := [.long (lI (upN (σ 2) x_ f_ (i - f_).toNat)), .long (lI ((100 : Int) ^ (i - f_).toNat)), .int (iI w_)]) (rest := []) S hH hK hj hl.1 (mm_part l G (mx σ τ) (upN (σ 2) x_ f_ (i - f_).toNat) ((100 : Int) ^ (i - f_).toNat) w_ _ hu.1 (by omega) (by omega) (by omega) (r32 (by omega))) (lw_S q1898 q1899 q109 q1900) kd_X4_part rfl rfl dX4_worth_99) hH hA (fun H locs hH => ?_)
        refine m_lret hx hb hr hlk hH dX4_worth_102 ?_
        refine ⟨?_, mx_sc⟩
        show _ = worthF _ _ _ _ _
        rw [worthF, if_pos hg, show t_ - f_ + 1 = i - f_ by omega]
      · -- 63F
        refine lv_lload hx hb dX4_worth_66 (lv_at hl 5 rfl) ?_
        refine lv_aload_n hx hb dX4_worth_68 rfl (lv_at hl 0 rfl) ?_
        refine lv_iload_n hx hb dX4_worth_69 rfl (lv_at hl 1 rfl) ?_
        refine lv_iload hx hb dX4_worth_70 (lv_at hl 7 rfl) ?_
        refine m_calli (m_runV (As := [.int (iI x_), .int (iI i)]) (rest := [.long (lI (upN (σ 2) x_ f_ (i - f_).toNat))]) S hH hK hj hl.1 (mm_oddsOfLook l G (mx σ τ) x_ i _ (by omega) (show x_ < σ 2 1756 from by omega) hI hT (by omega) (show i < σ 2 1754 from by omega)) (lw_V q1807 q1809 qs74 q109 q1810) kd_X4_oddsOfLook rfl rfl dX4_worth_72) hH hA (fun z72 σ72 H locs q_72 hH => ?_)
        obtain ⟨e_72, q_72⟩ := q_72
        have e_72 : z72 = (oL (σ 2) x_ i) := e_72
        subst e_72
        have hH := MH_to hH (τ := mx σ σ72) (mx_of q_72)
        refine n_i2l hx hb (r32 (by omega)) dX4_worth_75 ?_
        refine n_lmul hx hb dX4_worth_76 ?_
        refine lv_lstore hx hb dX4_worth_77 hl (Nat.le_of_ble_eq_true rfl) (lv' := [(5, .long (lI ((upN (σ 2) x_ f_ (i - f_).toNat) * (oL (σ 2) x_ i)))), (0, .ref (G.2.2 0)), (1, .int (iI x_)), (2, .int (iI f_)), (3, .int (iI t_)), (4, .int (iI w_)), (7, .long (lI ((100 : Int) ^ (i - f_).toNat))), (9, .int (iI i))]) rfl (fun ls hl => ?_)
        refine lv_lload hx hb dX4_worth_79 (lv_at hl 6 rfl) ?_
        refine lv_ldc2 (v := lI 100) hx hb hown (hts _ q1897) dX4_worth_81 ?_
        refine n_lmul hx hb dX4_worth_84 ?_
        refine lv_lstore hx hb dX4_worth_85 hl (Nat.le_of_ble_eq_true rfl) (lv' := [(7, .long (lI (((100 : Int) ^ (i - f_).toNat) * 100))), (5, .long (lI ((upN (σ 2) x_ f_ (i - f_).toNat) * (oL (σ 2) x_ i)))), (0, .ref (G.2.2 0)), (1, .int (iI x_)), (2, .int (iI f_)), (3, .int (iI t_)), (4, .int (iI w_)), (9, .int (iI i))]) rfl (fun ls hl => ?_)
        refine n_iinc hx hb dX4_worth_87 hl (k := 7) rfl (Nat.le_of_ble_eq_true rfl) (lv' := [(9, .int (iI (i + 1))), (7, .long (lI (((100 : Int) ^ (i - f_).toNat) * 100))), (5, .long (lI ((upN (σ 2) x_ f_ (i - f_).toNat) * (oL (σ 2) x_ i)))), (0, .ref (G.2.2 0)), (1, .int (iI x_)), (2, .int (iI f_)), (3, .int (iI t_)), (4, .int (iI w_))]) rfl (fun ls hl => ?_)
        refine lv_goto (tgt := 60) hx hb dX4_worth_90 (by decide) ?_
        have hl : lv_has ls 10 [(0, .ref (G.2.2 0)), (1, .int (iI x_)), (2, .int (iI f_)), (3, .int (iI t_)), (4, .int (iI w_)), (5, .long (lI ((upN (σ 2) x_ f_ (i - f_).toNat) * (oL (σ 2) x_ i)))), (7, .long (lI (((100 : Int) ^ (i - f_).toNat) * 100))), (9, .int (iI (i + 1)))] := lv_sub hl [3, 4, 5, 6, 7, 2, 1, 0] rfl
        have hl : lv_has ls 10 [(0, .ref (G.2.2 0)), (1, .int (iI x_)), (2, .int (iI f_)), (3, .int (iI t_)), (4, .int (iI w_)), (5, .long (lI (upN (σ 2) x_ f_ (i + 1 - f_).toNat))), (7, .long (lI ((100 : Int) ^ (i + 1 - f_).toNat))), (9, .int (iI (i + 1)))] := by rw [show i + 1 - f_ = (i - f_) + 1 by omega, upN_e (by omega), p100_e (by omega), show f_ + (i - f_) = i by omega]; exact hl
        refine ih_60 σ72 (i + 1) ?_ ?_ ?_ ?_ _ _ _ hH hl
        · exact hg
        · omega
        · omega
        · omega
  refine lv_aload_n hx hb dX4_worth_0 rfl (lv_at hl 0 rfl) ?_
  refine lv_iload_n hx hb dX4_worth_1 rfl (lv_at hl 1 rfl) ?_
  refine m_calliF (m_runV (As := [.int (iI x_)]) (rest := []) S hH hK hj hl.1 (mm_isText l G (mx σ σ) x_ _ (r32 (by omega)) (show 0 ≤ σ 2 1756 from by omega) (show σ 2 1756 ≤ 1000 from by omega)) (lw_V q1803 q1805 qs73 q109 q1806) kd_X4_isText rfl rfl dX4_worth_2) hH hA (fun H locs hH => ?_)
  refine W.eq (g2 := F0 m 5 ls (.int (iI (zb (0 ≤ x_ ∧ x_ ≤ σ 2 1756 - 1))) :: [])) rfl ?_
  refine z_if_eq (tgt := 47) hx hb dX4_worth_5 (by decide) (fun c_5 => ?_) (fun c_5 => ?_)
  · -- 5T
    refine lv_ldc2 (v := lI (-1)) hx hb hown (by have h9 := hts _ q1896; rw [show ((-1) : Int64) = lI (-1) by decide +kernel] at h9; exact h9) dX4_worth_47 ?_
    refine m_lret hx hb hr hlk hH dX4_worth_50 ?_
    refine ⟨?_, mx_sc⟩
    show _ = worthF _ _ _ _ _
    unfold worthF isX isK
    rw [if_neg (by omega)]
  · -- 5F
    refine lv_aload_n hx hb dX4_worth_8 rfl (lv_at hl 0 rfl) ?_
    refine lv_iload_n hx hb dX4_worth_9 rfl (lv_at hl 2 rfl) ?_
    refine m_calliF (m_runV (As := [.int (iI f_)]) (rest := []) S hH hK hj hl.1 (mm_isLook l G (mx σ σ) f_ _ (r32 (by omega)) (show 0 ≤ σ 2 1754 from by omega) (show σ 2 1754 ≤ 1000 from by omega)) (lw_V q1705 q1707 qs56 q109 q1708) kd_X4_isLook rfl rfl dX4_worth_10) hH hA (fun H locs hH => ?_)
    refine W.eq (g2 := F0 m 13 ls (.int (iI (zb (0 ≤ f_ ∧ f_ ≤ σ 2 1754 - 1))) :: [])) rfl ?_
    refine z_if_eq (tgt := 47) hx hb dX4_worth_13 (by decide) (fun c_13 => ?_) (fun c_13 => ?_)
    · -- 13T
      refine lv_ldc2 (v := lI (-1)) hx hb hown (by have h9 := hts _ q1896; rw [show ((-1) : Int64) = lI (-1) by decide +kernel] at h9; exact h9) dX4_worth_47 ?_
      refine m_lret hx hb hr hlk hH dX4_worth_50 ?_
      refine ⟨?_, mx_sc⟩
      show _ = worthF _ _ _ _ _
      unfold worthF isX isK
      rw [if_neg (by omega)]
    · -- 13F
      refine lv_aload_n hx hb dX4_worth_16 rfl (lv_at hl 0 rfl) ?_
      refine lv_iload_n hx hb dX4_worth_17 rfl (lv_at hl 3 rfl) ?_
      refine m_calliF (m_runV (As := [.int (iI t_)]) (rest := []) S hH hK hj hl.1 (mm_isLook l G (mx σ σ) t_ _ (r32 (by omega)) (show 0 ≤ σ 2 1754 from by omega) (show σ 2 1754 ≤ 1000 from by omega)) (lw_V q1705 q1707 qs56 q109 q1708) kd_X4_isLook rfl rfl dX4_worth_18) hH hA (fun H locs hH => ?_)
      refine W.eq (g2 := F0 m 21 ls (.int (iI (zb (0 ≤ t_ ∧ t_ ≤ σ 2 1754 - 1))) :: [])) rfl ?_
      refine z_if_eq (tgt := 47) hx hb dX4_worth_21 (by decide) (fun c_21 => ?_) (fun c_21 => ?_)
      · -- 21T
        refine lv_ldc2 (v := lI (-1)) hx hb hown (by have h9 := hts _ q1896; rw [show ((-1) : Int64) = lI (-1) by decide +kernel] at h9; exact h9) dX4_worth_47 ?_
        refine m_lret hx hb hr hlk hH dX4_worth_50 ?_
        refine ⟨?_, mx_sc⟩
        show _ = worthF _ _ _ _ _
        unfold worthF isX isK
        rw [if_neg (by omega)]
      · -- 21F
        refine lv_iload_n hx hb dX4_worth_24 rfl (lv_at hl 3 rfl) ?_
        refine lv_iload_n hx hb dX4_worth_25 rfl (lv_at hl 2 rfl) ?_
        refine n_icmp_lt (tgt := 47) hx hb (r32 (by omega)) (r32 (by omega)) dX4_worth_26 (by decide) (fun c_26 => ?_) (fun c_26 => ?_)
        · -- 26T
          refine lv_ldc2 (v := lI (-1)) hx hb hown (by have h9 := hts _ q1896; rw [show ((-1) : Int64) = lI (-1) by decide +kernel] at h9; exact h9) dX4_worth_47 ?_
          refine m_lret hx hb hr hlk hH dX4_worth_50 ?_
          refine ⟨?_, mx_sc⟩
          show _ = worthF _ _ _ _ _
          unfold worthF isX isK
          rw [if_neg (by omega)]
        · -- 26F
          refine lv_iload_n hx hb dX4_worth_29 rfl (lv_at hl 3 rfl) ?_
          refine lv_iload_n hx hb dX4_worth_30 rfl (lv_at hl 2 rfl) ?_
          refine n_isub hx hb dX4_worth_31 ?_
          refine n_bipush (z := 8) hx hb dX4_worth_32 (by decide) ?_
          refine n_icmp_gt (tgt := 47) hx hb (r32 (by omega)) (r32 (by omega)) dX4_worth_34 (by decide) (fun c_34 => ?_) (fun c_34 => ?_)
          · -- 34T
            refine lv_ldc2 (v := lI (-1)) hx hb hown (by have h9 := hts _ q1896; rw [show ((-1) : Int64) = lI (-1) by decide +kernel] at h9; exact h9) dX4_worth_47 ?_
            refine m_lret hx hb hr hlk hH dX4_worth_50 ?_
            refine ⟨?_, mx_sc⟩
            show _ = worthF _ _ _ _ _
            unfold worthF isX isK
            rw [if_neg (by omega)]
          · -- 34F
            refine lv_iload hx hb dX4_worth_37 (lv_at hl 4 rfl) ?_
            refine n_iconst hx hb dX4_worth_39 ?_
            refine n_iconst hx hb dX4_worth_40 ?_
            refine m_calliF (m_runS (As := [.int (iI w_), .int (iI 0), .int (iI 1)]) (rest := []) S hH hK hj hl.1 (mm_in l G (mx σ σ) w_ 0 1 _ (r32 (by omega)) (r32 (by omega)) (r32 (by omega))) (lw_S q1569 q1570 q109 q1571) kd_X4_in rfl rfl dX4_worth_41) hH hA (fun H locs hH => ?_)
            refine z_if_ne (tgt := 51) hx hb dX4_worth_44 (by decide) (fun c_44 => ?_) (fun c_44 => ?_)
            · -- 44T
              refine n_lconst (z := 1) hx hb dX4_worth_51 (by decide) ?_
              refine lv_lstore hx hb dX4_worth_52 hl (Nat.le_of_ble_eq_true rfl) (lv' := [(5, .long (lI 1)), (0, .ref (G.2.2 0)), (1, .int (iI x_)), (2, .int (iI f_)), (3, .int (iI t_)), (4, .int (iI w_))]) rfl (fun ls hl => ?_)
              refine n_lconst (z := 1) hx hb dX4_worth_54 (by decide) ?_
              refine lv_lstore hx hb dX4_worth_55 hl (Nat.le_of_ble_eq_true rfl) (lv' := [(7, .long (lI 1)), (5, .long (lI 1)), (0, .ref (G.2.2 0)), (1, .int (iI x_)), (2, .int (iI f_)), (3, .int (iI t_)), (4, .int (iI w_))]) rfl (fun ls hl => ?_)
              refine lv_iload_n hx hb dX4_worth_57 rfl (lv_at hl 4 rfl) ?_
              refine lv_istore hx hb dX4_worth_58 hl (Nat.le_of_ble_eq_true rfl) (lv' := [(9, .int (iI f_)), (7, .long (lI 1)), (5, .long (lI 1)), (0, .ref (G.2.2 0)), (1, .int (iI x_)), (2, .int (iI f_)), (3, .int (iI t_)), (4, .int (iI w_))]) rfl (fun ls hl => ?_)
              have hl : lv_has ls 10 [(0, .ref (G.2.2 0)), (1, .int (iI x_)), (2, .int (iI f_)), (3, .int (iI t_)), (4, .int (iI w_)), (5, .long (lI 1)), (7, .long (lI 1)), (9, .int (iI f_))] := lv_sub hl [3, 4, 5, 6, 7, 2, 1, 0] rfl
              have hl : lv_has ls 10 [(0, .ref (G.2.2 0)), (1, .int (iI x_)), (2, .int (iI f_)), (3, .int (iI t_)), (4, .int (iI w_)), (5, .long (lI (upN (σ 2) x_ f_ (f_ - f_).toNat))), (7, .long (lI ((100 : Int) ^ (f_ - f_).toNat))), (9, .int (iI f_))] := by rw [Int.sub_self]; exact hl
              refine L60 60 σ f_ ?_ ?_ ?_ ?_ _ _ _ hH hl
              · omega
              · omega
              · omega
              · omega
            · -- 44F
              refine lv_ldc2 (v := lI (-1)) hx hb hown (by have h9 := hts _ q1896; rw [show ((-1) : Int64) = lI (-1) by decide +kernel] at h9; exact h9) dX4_worth_47 ?_
              refine m_lret hx hb hr hlk hH dX4_worth_50 ?_
              refine ⟨?_, mx_sc⟩
              show _ = worthF _ _ _ _ _
              unfold worthF isX isK
              rw [if_neg (by omega)]
theorem kd_X4_answer : yX4_answer.cls = RX4 ∧ yX4_answer.cls ≠ "java/lang/invoke/MethodHandle" ∧ yX4_answer.cls ≠ "java/lang/invoke/VarHandle" ∧ (parseMethodDescriptor yX4_answer.desc).map (fun d => d.parameters.length) = some 2 := by decide +kernel
theorem mm_answer (l : Launch) (G : MG) (σ : St) (x_ : Int) (k_ : Int) (sz : Nat) (h_x_ : R32 x_) (h_k_ : R32 k_) (hI : KI (σ 2)) (hT : TT (σ 2)) : Met l yX4_answer (ws_ yX4_answer cX4_answer 3 (some .int)) (rmD 69) (mP G [.ref (G.2.2 0), .int (iI x_), .int (iI k_)] σ sz) (mQi G σ sz (fun z σ' => z = (ansF (σ 2) x_ k_) ∧ Sc σ σ')) 0 0 (mA G σ sz) := by
  refine m_start (by decide) (Nat.le_of_ble_eq_true rfl) ?_
  intro p e s m below meth c ⟨S, hr, hlk, hH, hK, hj, hsz, hnm⟩ ls hl
  subst hsz
  obtain ⟨hx, hb, hml, hown, hts⟩ := S
  have S : CallFix p m c _ _ s _ lw_all RX4 := ⟨hx, hb, hml, hown, hts⟩
  have hA : ∀ q, s.heap.size ≤ q → mA G σ s.heap.size q := fun q hq => Or.inr hq
  have hl : lv_has ls 3 [(0, .ref (G.2.2 0)), (1, .int (iI x_)), (2, .int (iI k_))] := hl
  have b0 := hI.c
  unfold kCnt at b0
  have h_x_ := R32.n h_x_
  have h_k_ := R32.n h_k_
  have hH := MH_to hH (τ := mx σ σ) mx_self.symm
  refine lv_aload_n hx hb dX4_answer_0 rfl (lv_at hl 0 rfl) ?_
  refine lv_iload_n hx hb dX4_answer_1 rfl (lv_at hl 1 rfl) ?_
  refine m_calliF (m_runV (As := [.int (iI x_)]) (rest := []) S hH hK hj hl.1 (mm_isText l G (mx σ σ) x_ _ (r32 (by omega)) (show 0 ≤ σ 2 1756 from by omega) (show σ 2 1756 ≤ 1000 from by omega)) (lw_V q1803 q1805 qs73 q109 q1806) kd_X4_isText rfl rfl dX4_answer_2) hH hA (fun H locs hH => ?_)
  refine W.eq (g2 := F0 m 5 ls (.int (iI (zb (0 ≤ x_ ∧ x_ ≤ σ 2 1756 - 1))) :: [])) rfl ?_
  refine z_if_eq (tgt := 16) hx hb dX4_answer_5 (by decide) (fun c_5 => ?_) (fun c_5 => ?_)
  · -- 5T
    refine n_iconst hx hb dX4_answer_16 ?_
    refine m_iret hx hb hr hlk hH dX4_answer_17 ?_
    refine ⟨?_, mx_sc⟩
    show _ = ansF _ _ _
    unfold ansF isX isK
    (repeat' split) <;> first | rfl | (exfalso; omega)
  · -- 5F
    refine lv_aload_n hx hb dX4_answer_8 rfl (lv_at hl 0 rfl) ?_
    refine lv_iload_n hx hb dX4_answer_9 rfl (lv_at hl 2 rfl) ?_
    refine m_calliF (m_runV (As := [.int (iI k_)]) (rest := []) S hH hK hj hl.1 (mm_isLook l G (mx σ σ) k_ _ (r32 (by omega)) (show 0 ≤ σ 2 1754 from by omega) (show σ 2 1754 ≤ 1000 from by omega)) (lw_V q1705 q1707 qs56 q109 q1708) kd_X4_isLook rfl rfl dX4_answer_10) hH hA (fun H locs hH => ?_)
    refine W.eq (g2 := F0 m 13 ls (.int (iI (zb (0 ≤ k_ ∧ k_ ≤ σ 2 1754 - 1))) :: [])) rfl ?_
    refine z_if_ne (tgt := 18) hx hb dX4_answer_13 (by decide) (fun c_13 => ?_) (fun c_13 => ?_)
    · -- 13T
      refine lv_aload_n hx hb dX4_answer_18 rfl (lv_at hl 0 rfl) ?_
      refine lv_iload_n hx hb dX4_answer_19 rfl (lv_at hl 1 rfl) ?_
      refine lv_iload_n hx hb dX4_answer_20 rfl (lv_at hl 2 rfl) ?_
      refine m_calli (m_runV (As := [.int (iI x_), .int (iI k_)]) (rest := []) S hH hK hj hl.1 (mm_oddsOfLook l G (mx σ σ) x_ k_ _ (by omega) (show x_ < σ 2 1756 from by omega) hI hT (by omega) (show k_ < σ 2 1754 from by omega)) (lw_V q1807 q1809 qs74 q109 q1810) kd_X4_oddsOfLook rfl rfl dX4_answer_21) hH hA (fun z21 σ21 H locs q_21 hH => ?_)
      obtain ⟨e_21, q_21⟩ := q_21
      have e_21 : z21 = (oL (σ 2) x_ k_) := e_21
      subst e_21
      have hH := MH_to hH (τ := mx σ σ21) (mx_of q_21)
      have hol := oL_r (σ 2) x_ k_
      refine n_bipush (z := 10) hx hb dX4_answer_24 (by decide) ?_
      refine n_icmp_lt (tgt := 33) hx hb (r32 (by omega)) (r32 (by omega)) dX4_answer_26 (by decide) (fun c_26 => ?_) (fun c_26 => ?_)
      · -- 26T
        refine lv_aload_n hx hb dX4_answer_33 rfl (lv_at hl 0 rfl) ?_
        refine lv_iload_n hx hb dX4_answer_34 rfl (lv_at hl 1 rfl) ?_
        refine lv_iload_n hx hb dX4_answer_35 rfl (lv_at hl 2 rfl) ?_
        refine m_calli (m_runV (As := [.int (iI x_), .int (iI k_)]) (rest := []) S hH hK hj hl.1 (mm_price l G (mx σ σ21) x_ k_ _ (by omega) (show x_ < σ 2 1756 from by omega) hI hT (by omega) (show k_ < σ 2 1754 from by omega)) (lw_V q1908 q1910 qs92 q109 q1911) kd_X4_price rfl rfl dX4_answer_36) hH hA (fun z36 σ36 H locs q_36 hH => ?_)
        obtain ⟨e_36, q_36⟩ := q_36
        have e_36 : z36 = (pL (σ 2) x_ k_) := e_36
        subst e_36
        obtain ⟨q_36, k_36⟩ := q_36
        have k_36 : AskQ (σ 2) x_ (loA (σ 2) k_) σ36 := k_36
        have hH := MH_to hH (τ := mx σ σ36) (mx_of q_36)
        refine m_iret hx hb hr hlk hH dX4_answer_39 ?_
        refine ⟨?_, mx_sc⟩
        show _ = ansF _ _ _
        unfold ansF isX isK
        (repeat' split) <;> first | rfl | (exfalso; omega)
      · -- 26F
        refine n_iconst hx hb dX4_answer_29 ?_
        refine lv_goto (tgt := 39) hx hb dX4_answer_30 (by decide) ?_
        refine m_iret hx hb hr hlk hH dX4_answer_39 ?_
        refine ⟨?_, mx_sc⟩
        show _ = ansF _ _ _
        unfold ansF isX isK
        (repeat' split) <;> first | rfl | (exfalso; omega)
    · -- 13F
      refine n_iconst hx hb dX4_answer_16 ?_
      refine m_iret hx hb hr hlk hH dX4_answer_17 ?_
      refine ⟨?_, mx_sc⟩
      show _ = ansF _ _ _
      unfold ansF isX isK
      (repeat' split) <;> first | rfl | (exfalso; omega)
theorem kd_X4_saves : yX4_saves.cls = RX4 ∧ yX4_saves.cls ≠ "java/lang/invoke/MethodHandle" ∧ yX4_saves.cls ≠ "java/lang/invoke/VarHandle" ∧ (parseMethodDescriptor yX4_saves.desc).map (fun d => d.parameters.length) = some 1 := by decide +kernel
theorem mm_saves (l : Launch) (G : MG) (σ : St) (x_ : Int) (sz : Nat) (h_x_ : R32 x_) (hI : KI (σ 2)) (hT : TT (σ 2)) : Met l yX4_saves (ws_ yX4_saves cX4_saves 5 (some .int)) (rmD 70) (mP G [.ref (G.2.2 0), .int (iI x_)] σ sz) (mQi G σ sz (fun z σ' => z = (savF (σ 2) x_) ∧ Sc σ σ')) 0 0 (mA G σ sz) := by
  refine m_start (by decide) (Nat.le_of_ble_eq_true rfl) ?_
  intro p e s m below meth c ⟨S, hr, hlk, hH, hK, hj, hsz, hnm⟩ ls hl
  subst hsz
  obtain ⟨hx, hb, hml, hown, hts⟩ := S
  have S : CallFix p m c _ _ s _ lw_all RX4 := ⟨hx, hb, hml, hown, hts⟩
  have hA : ∀ q, s.heap.size ≤ q → mA G σ s.heap.size q := fun q hq => Or.inr hq
  have hl : lv_has ls 5 [(0, .ref (G.2.2 0)), (1, .int (iI x_))] := hl
  have b0 := hI.c
  unfold kCnt at b0
  have h_x_ := R32.n h_x_
  have hH := MH_to hH (τ := mx σ σ) mx_self.symm
  have L14 : ∀ (q : Nat) (τ : St) (k : Int) (s_ : Int), (hg : isX (σ 2) x_) → (hk0 : 0 ≤ k) → (hk1 : k ≤ σ 2 1754) → (hs0 : 0 ≤ s_) → (hs1 : s_ ≤ 1000 * k) → (hq : σ 2 1754 < (q : Int) + k) → (he : savN (σ 2) x_ (σ 2 1754).toNat 0 0 = savN (σ 2) x_ (σ 2 1754 - k).toNat k s_) → ∀ (H : Heap) (locs : List Loc) (ls : Array Slot), MH G (mA G σ s.heap.size) (mx σ τ) s.heap H locs → lv_has ls 5 [(0, .ref (G.2.2 0)), (1, .int (iI x_)), (2, .int (iI s_)), (3, .int (iI k))] → W p l e (rmD 70) s m ([.ref (G.2.2 0), .int (iI x_)] : List Value).toArray below meth c H locs 0 0 (MQ below (mQi G σ s.heap.size (fun z σ' => z = (savF (σ 2) x_) ∧ Sc σ σ')) ([.ref (G.2.2 0), .int (iI x_)] : List Value).toArray s 0 0 (mA G σ s.heap.size)) (F0 m 14 ls []) := by
    intro q
    induction q with
    | zero => intro τ k s_ hg hk0 hk1 hs0 hs1 hq he; exfalso; omega
    | succ q ih_14 =>
      intro τ k s_ hg hk0 hk1 hs0 hs1 hq he H locs ls hH hl
      have ha := ansF_r (σ 2) x_ k
      refine lv_iload_n hx hb dX4_saves_14 rfl (lv_at hl 3 rfl) ?_
      refine lv_aload_n hx hb dX4_saves_15 rfl (lv_at hl 0 rfl) ?_
      refine m_get 2 (by decide) hx hb hts hown hK hj hH q1475 (fun _ h9 => h9) rfl dX4_saves_16 ?_
      refine n_sipush (z := 1754) hx hb dX4_saves_19 (by decide) ?_
      refine ml_2 hx hb hK hj hH (by omega) (by omega) dX4_saves_22 ?_
      refine W.eq (g2 := F0 m 23 ls (.int (iI (σ 2 1754)) :: .int (iI k) :: [])) rfl ?_
      refine n_icmp_ge (tgt := 53) hx hb (r32 (by omega)) (r32 (by omega)) dX4_saves_23 (by decide) (fun c_23 => ?_) (fun c_23 => ?_)
      · -- 23T
        refine lv_iload_n hx hb dX4_saves_53 rfl (lv_at hl 2 rfl) ?_
        refine m_iret hx hb hr hlk hH dX4_saves_54 ?_
        refine ⟨?_, mx_sc⟩
        show _ = savF _ _
        rw [savF, if_pos hg, he, show (σ 2 1754 - k).toNat = 0 by omega, savN]
      · -- 23F
        refine lv_aload_n hx hb dX4_saves_26 rfl (lv_at hl 0 rfl) ?_
        refine lv_iload_n hx hb dX4_saves_27 rfl (lv_at hl 1 rfl) ?_
        refine lv_iload_n hx hb dX4_saves_28 rfl (lv_at hl 3 rfl) ?_
        refine m_calli (m_runV (As := [.int (iI x_), .int (iI k)]) (rest := []) S hH hK hj hl.1 (mm_answer l G (mx σ τ) x_ k _ (r32 (by omega)) (r32 (by omega)) hI hT) (lw_V q1916 q1905 q1906 q109 q1907) kd_X4_answer rfl rfl dX4_saves_29) hH hA (fun z29 σ29 H locs q_29 hH => ?_)
        obtain ⟨e_29, q_29⟩ := q_29
        have e_29 : z29 = (ansF (σ 2) x_ k) := e_29
        subst e_29
        have hH := MH_to hH (τ := mx σ σ29) (mx_of q_29)
        refine lv_istore hx hb dX4_saves_32 hl (Nat.le_of_ble_eq_true rfl) (lv' := [(4, .int (iI (ansF (σ 2) x_ k))), (0, .ref (G.2.2 0)), (1, .int (iI x_)), (2, .int (iI s_)), (3, .int (iI k))]) rfl (fun ls hl => ?_)
        refine lv_iload hx hb dX4_saves_34 (lv_at hl 0 rfl) ?_
        refine n_iconst hx hb dX4_saves_36 ?_
        refine n_icmp_ne (tgt := 42) hx hb (r32 (by omega)) (r32 (by omega)) dX4_saves_37 (by decide) (fun c_37 => ?_) (fun c_37 => ?_)
        · -- 37T
          refine lv_iload_n hx hb dX4_saves_42 rfl (lv_at hl 3 rfl) ?_
          refine lv_iload hx hb dX4_saves_43 (lv_at hl 0 rfl) ?_
          refine n_iadd hx hb dX4_saves_45 ?_
          refine lv_istore_n hx hb dX4_saves_46 rfl hl (Nat.le_of_ble_eq_true rfl) (lv' := [(2, .int (iI (s_ + (ansF (σ 2) x_ k)))), (4, .int (iI (ansF (σ 2) x_ k))), (0, .ref (G.2.2 0)), (1, .int (iI x_)), (3, .int (iI k))]) rfl (fun ls hl => ?_)
          refine n_iinc hx hb dX4_saves_47 hl (k := 4) rfl (Nat.le_of_ble_eq_true rfl) (lv' := [(3, .int (iI (k + 1))), (2, .int (iI (s_ + (ansF (σ 2) x_ k)))), (4, .int (iI (ansF (σ 2) x_ k))), (0, .ref (G.2.2 0)), (1, .int (iI x_))]) rfl (fun ls hl => ?_)
          refine lv_goto (tgt := 14) hx hb dX4_saves_50 (by decide) ?_
          have hl : lv_has ls 5 [(0, .ref (G.2.2 0)), (1, .int (iI x_)), (2, .int (iI (s_ + (ansF (σ 2) x_ k)))), (3, .int (iI (k + 1)))] := lv_sub hl [3, 4, 1, 0] rfl
          refine ih_14 σ29 (k + 1) (s_ + (ansF (σ 2) x_ k)) ?_ ?_ ?_ ?_ ?_ ?_ ?_ _ _ _ hH hl
          · exact hg
          · omega
          · omega
          · omega
          · omega
          · omega
          · rw [he, savN_e (by omega), if_neg (by omega)]
        · -- 37F
          refine n_iconst hx hb dX4_saves_40 ?_
          refine m_iret hx hb hr hlk hH dX4_saves_41 ?_
          refine ⟨?_, mx_sc⟩
          show _ = savF _ _
          rw [savF, if_pos hg, he, savN_e (by omega), if_pos (by omega)]
  refine lv_aload_n hx hb dX4_saves_0 rfl (lv_at hl 0 rfl) ?_
  refine lv_iload_n hx hb dX4_saves_1 rfl (lv_at hl 1 rfl) ?_
  refine m_calliF (m_runV (As := [.int (iI x_)]) (rest := []) S hH hK hj hl.1 (mm_isText l G (mx σ σ) x_ _ (r32 (by omega)) (show 0 ≤ σ 2 1756 from by omega) (show σ 2 1756 ≤ 1000 from by omega)) (lw_V q1803 q1805 qs73 q109 q1806) kd_X4_isText rfl rfl dX4_saves_2) hH hA (fun H locs hH => ?_)
  refine W.eq (g2 := F0 m 5 ls (.int (iI (zb (0 ≤ x_ ∧ x_ ≤ σ 2 1756 - 1))) :: [])) rfl ?_
  refine z_if_ne (tgt := 10) hx hb dX4_saves_5 (by decide) (fun c_5 => ?_) (fun c_5 => ?_)
  · -- 5T
    refine n_iconst hx hb dX4_saves_10 ?_
    refine lv_istore_n hx hb dX4_saves_11 rfl hl (Nat.le_of_ble_eq_true rfl) (lv' := [(2, .int (iI 0)), (0, .ref (G.2.2 0)), (1, .int (iI x_))]) rfl (fun ls hl => ?_)
    refine n_iconst hx hb dX4_saves_12 ?_
    refine lv_istore_n hx hb dX4_saves_13 rfl hl (Nat.le_of_ble_eq_true rfl) (lv' := [(3, .int (iI 0)), (2, .int (iI 0)), (0, .ref (G.2.2 0)), (1, .int (iI x_))]) rfl (fun ls hl => ?_)
    have hl : lv_has ls 5 [(0, .ref (G.2.2 0)), (1, .int (iI x_)), (2, .int (iI 0)), (3, .int (iI 0))] := lv_sub hl [2, 3, 1, 0] rfl
    refine L14 50 σ 0 0 ?_ ?_ ?_ ?_ ?_ ?_ ?_ _ _ _ hH hl
    · omega
    · omega
    · omega
    · omega
    · omega
    · omega
    · rw [Int.sub_zero]
  · -- 5F
    refine n_iconst hx hb dX4_saves_8 ?_
    refine m_iret hx hb hr hlk hH dX4_saves_9 ?_
    refine ⟨?_, mx_sc⟩
    show _ = savF _ _
    unfold savF isX
    rw [if_neg (by omega)]
theorem kd_X4_all : yX4_all.cls = RX4 ∧ yX4_all.cls ≠ "java/lang/invoke/MethodHandle" ∧ yX4_all.cls ≠ "java/lang/invoke/VarHandle" ∧ (parseMethodDescriptor yX4_all.desc).map (fun d => d.parameters.length) = some 1 := by decide +kernel
theorem mm_all (l : Launch) (G : MG) (σ : St) (x_ : Int) (sz : Nat) (h_x_ : R32 x_) (hI : KI (σ 2)) (hT : TT (σ 2)) : Met l yX4_all (ws_ yX4_all cX4_all 6 (some .int)) (rmD 69) (mP G [.ref (G.2.2 0), .int (iI x_)] σ sz) (mQi G σ sz (fun z σ' => z = (allF (σ 2) x_) ∧ Sc σ σ')) 0 0 (mA G σ sz) := by
  refine m_start (by decide) (Nat.le_of_ble_eq_true rfl) ?_
  intro p e s m below meth c ⟨S, hr, hlk, hH, hK, hj, hsz, hnm⟩ ls hl
  subst hsz
  obtain ⟨hx, hb, hml, hown, hts⟩ := S
  have S : CallFix p m c _ _ s _ lw_all RX4 := ⟨hx, hb, hml, hown, hts⟩
  have hA : ∀ q, s.heap.size ≤ q → mA G σ s.heap.size q := fun q hq => Or.inr hq
  have hl : lv_has ls 6 [(0, .ref (G.2.2 0)), (1, .int (iI x_))] := hl
  have b0 := hI.c
  unfold kCnt at b0
  have h_x_ := R32.n h_x_
  have hH := MH_to hH (τ := mx σ σ) mx_self.symm
  have L131 : ∀ (q : Nat) (τ : St) (c_ : Int) (k : Int), (hg : isX (σ 2) x_) → (hk : k = σ 2 1754) → (han : anN (σ 2) x_ k.toNat ≠ 0) → (hc0 : 0 ≤ c_) → (hex : ∃ j : Nat, c_.toNat ≤ j ∧ j < 12 ∧ alN (σ 2) x_ j k.toNat = 1) → (hq : 12 < (q : Int) + c_) → (he : fiN (fun c => alN (σ 2) x_ c k.toNat) 12 0 = fiN (fun c => alN (σ 2) x_ c k.toNat) (12 - c_).toNat c_.toNat) → ∀ (H : Heap) (locs : List Loc) (ls : Array Slot), MH G (mA G σ s.heap.size) (mx σ τ) s.heap H locs → lv_has ls 6 [(0, .ref (G.2.2 0)), (1, .int (iI x_)), (2, .int (iI (mk12 (fun c => alN (σ 2) x_ c k.toNat)))), (4, .int (iI c_))] → W p l e (rmD 69) s m ([.ref (G.2.2 0), .int (iI x_)] : List Value).toArray below meth c H locs 0 0 (MQ below (mQi G σ s.heap.size (fun z σ' => z = (allF (σ 2) x_) ∧ Sc σ σ')) ([.ref (G.2.2 0), .int (iI x_)] : List Value).toArray s 0 0 (mA G σ s.heap.size)) (F0 m 131 ls []) := by
    intro q
    induction q with
    | zero => intro τ c_ k hg hk han hc0 hex hq he; exfalso; omega
    | succ q ih_131 =>
      intro τ c_ k hg hk han hc0 hex hq he H locs ls hH hl
      obtain ⟨j0, hj0, hj1, hj2⟩ := hex
      have hm := mk12_r (f := fun c => alN (σ 2) x_ c k.toNat) (fun c => alN_01 _)
      have hmb := mk12_b (f := fun c => alN (σ 2) x_ c k.toNat) (fun c => alN_01 _) (c := c_.toNat) (by omega)
      have hfe := fiN_e (f := fun c => alN (σ 2) x_ c k.toNat) hc0 (by omega)
      have h01 := alN_01 (κ := σ 2) (x := x_) (c := c_.toNat) k.toNat
      refine lv_iload_n hx hb dX4_all_131 rfl (lv_at hl 2 rfl) ?_
      refine lv_iload hx hb dX4_all_132 (lv_at hl 3 rfl) ?_
      refine n_ishr hx hb (r32 (by omega)) (by omega) (by omega) dX4_all_134 ?_
      refine n_iconst hx hb dX4_all_135 ?_
      refine n_and1 hx hb dX4_all_136 ?_
      refine W.eq (g2 := F0 m 137 ls (.int (iI (alN (σ 2) x_ c_.toNat k.toNat)) :: [])) (by rw [hmb]) ?_
      refine n_if_ne (tgt := 146) hx hb (r32 (by omega)) dX4_all_137 (by decide) (fun c_137 => ?_) (fun c_137 => ?_)
      · -- 137T
        refine lv_iload hx hb dX4_all_146 (lv_at hl 3 rfl) ?_
        refine m_iret hx hb hr hlk hH dX4_all_148 ?_
        refine ⟨?_, mx_sc⟩
        show _ = allF _ _
        rw [allF, if_pos hg, ← hk, if_neg han, he, hfe, if_pos (by show alN _ _ _ _ = 1; omega)]
      · -- 137F
        refine n_iinc hx hb dX4_all_140 hl (k := 3) rfl (Nat.le_of_ble_eq_true rfl) (lv' := [(4, .int (iI (c_ + 1))), (0, .ref (G.2.2 0)), (1, .int (iI x_)), (2, .int (iI (mk12 (fun c => alN (σ 2) x_ c k.toNat))))]) rfl (fun ls hl => ?_)
        refine lv_goto (tgt := 131) hx hb dX4_all_143 (by decide) ?_
        have hl : lv_has ls 6 [(0, .ref (G.2.2 0)), (1, .int (iI x_)), (2, .int (iI (mk12 (fun c => alN (σ 2) x_ c k.toNat)))), (4, .int (iI (c_ + 1)))] := lv_sub hl [1, 2, 3, 0] rfl
        refine ih_131 τ (c_ + 1) _ ?_ ?_ ?_ ?_ ?_ ?_ ?_ _ _ _ hH hl
        · exact hg
        · exact hk
        · exact han
        · omega
        · exact ⟨j0, by
            have : j0 ≠ c_.toNat := fun z => by rw [z] at hj2; omega
            omega, hj1, hj2⟩
        · omega
        · rw [he, hfe, if_neg (by show ¬ alN _ _ _ _ = 1; omega)]
  have L19 : ∀ (q : Nat) (τ : St) (k : Int), (hg : isX (σ 2) x_) → (hk0 : 0 ≤ k) → (hk1 : k ≤ σ 2 1754) → (hq : σ 2 1754 < (q : Int) + k) → ∀ (H : Heap) (locs : List Loc) (ls : Array Slot), MH G (mA G σ s.heap.size) (mx σ τ) s.heap H locs → lv_has ls 6 [(0, .ref (G.2.2 0)), (1, .int (iI x_)), (2, .int (iI (mk12 (fun c => alN (σ 2) x_ c k.toNat)))), (3, .int (iI (anN (σ 2) x_ k.toNat))), (4, .int (iI k))] → W p l e (rmD 69) s m ([.ref (G.2.2 0), .int (iI x_)] : List Value).toArray below meth c H locs 0 0 (MQ below (mQi G σ s.heap.size (fun z σ' => z = (allF (σ 2) x_) ∧ Sc σ σ')) ([.ref (G.2.2 0), .int (iI x_)] : List Value).toArray s 0 0 (mA G σ s.heap.size)) (F0 m 19 ls []) := by
    intro q
    induction q with
    | zero => intro τ k hg hk0 hk1 hq; exfalso; omega
    | succ q ih_19 =>
      intro τ k hg hk0 hk1 hq H locs ls hH hl
      have ho := oL_r (σ 2) x_ k
      have hlen := hT.n (x := x_) (by omega) (by omega)
      have ha := anN_01 (κ := σ 2) (x := x_) k.toNat
      have hm := mk12_r (f := fun c => alN (σ 2) x_ c k.toNat) (fun c => alN_01 _)
      have L60 : ∀ (q1 : Nat) (τ1 : St) (j : Int), (hQ : AskQ (σ 2) x_ (loA (σ 2) k) τ1) → (hk2 : k < σ 2 1754) → (ho2 : oL (σ 2) x_ k < 10) → (hj0 : 0 ≤ j) → (hj1 : j ≤ 12) → (hq1 : 12 < (q1 : Int) + j) → ∀ (H : Heap) (locs : List Loc) (ls : Array Slot), MH G (mA G σ s.heap.size) (mx σ τ1) s.heap H locs → lv_has ls 6 [(0, .ref (G.2.2 0)), (1, .int (iI x_)), (2, .int (iI (mk12 (alM (σ 2) x_ k j.toNat)))), (3, .int (iI 1)), (4, .int (iI k)), (5, .int (iI j))] → W p l e (rmD 69) s m ([.ref (G.2.2 0), .int (iI x_)] : List Value).toArray below meth c H locs 0 0 (MQ below (mQi G σ s.heap.size (fun z σ' => z = (allF (σ 2) x_) ∧ Sc σ σ')) ([.ref (G.2.2 0), .int (iI x_)] : List Value).toArray s 0 0 (mA G σ s.heap.size)) (F0 m 60 ls []) := by
        intro q1
        induction q1 with
        | zero => intro τ1 j hQ hk2 ho2 hj0 hj1 hq1; exfalso; omega
        | succ q1 ih_60 =>
          intro τ1 j hQ hk2 ho2 hj0 hj1 hq1 H locs ls hH hl
          have hd := hd_r hT (by omega : 0 ≤ x_) (by omega : x_ < 12) j.toNat
          have hh := ho_01 (l := tm (σ 2) x_) (a := loA (σ 2) k) j.toNat
          have hm2 := mk12_r (f := alM (σ 2) x_ k j.toNat) (fun c => alM_01 c)
          refine lv_iload hx hb dX4_all_60 (lv_at hl 5 rfl) ?_
          refine n_bipush (z := 12) hx hb dX4_all_62 (by decide) ?_
          refine n_icmp_ge (tgt := 112) hx hb (r32 (by omega)) (r32 (by omega)) dX4_all_64 (by decide) (fun c_64 => ?_) (fun c_64 => ?_)
          · -- 64T
            refine n_iinc hx hb dX4_all_112 hl (k := 4) rfl (Nat.le_of_ble_eq_true rfl) (lv' := [(4, .int (iI (k + 1))), (0, .ref (G.2.2 0)), (1, .int (iI x_)), (2, .int (iI (mk12 (alM (σ 2) x_ k j.toNat)))), (3, .int (iI 1)), (5, .int (iI j))]) rfl (fun ls hl => ?_)
            refine lv_goto (tgt := 19) hx hb dX4_all_115 (by decide) ?_
            have hl : lv_has ls 6 [(0, .ref (G.2.2 0)), (1, .int (iI x_)), (2, .int (iI (mk12 (alM (σ 2) x_ k j.toNat)))), (3, .int (iI 1)), (4, .int (iI (k + 1)))] := lv_sub hl [1, 2, 3, 4, 0] rfl
            have hl : lv_has ls 6 [(0, .ref (G.2.2 0)), (1, .int (iI x_)), (2, .int (iI (mk12 (fun c => alN (σ 2) x_ c (k + 1).toNat)))), (3, .int (iI (anN (σ 2) x_ (k + 1).toNat))), (4, .int (iI (k + 1)))] := by rw [← alM_12, anN_e hk0, if_pos (by omega), show 12 = j.toNat by omega]; exact hl
            refine ih_19 τ1 (k + 1) ?_ ?_ ?_ ?_ _ _ _ hH hl
            · exact hg
            · omega
            · omega
            · omega
          · -- 64F
            refine lv_iload hx hb dX4_all_67 (lv_at hl 5 rfl) ?_
            refine lv_aload_n hx hb dX4_all_69 rfl (lv_at hl 0 rfl) ?_
            refine m_get 21 (by decide) hx hb hts hown hK hj hH q1494 (fun _ h9 => h9) rfl dX4_all_70 ?_
            refine W.eq (g2 := F0 m 73 ls (.int (iI (τ1 21 0)) :: .int (iI j) :: [])) rfl ?_
            refine W.eq (g2 := F0 m 73 ls (.int (iI ((tm (σ 2) x_).length : Int)) :: .int (iI j) :: [])) (by rw [hQ.1]) ?_
            refine n_icmp_ge (tgt := 97) hx hb (r32 (by omega)) (r32 (by omega)) dX4_all_73 (by decide) (fun c_73 => ?_) (fun c_73 => ?_)
            · -- 73T
              refine lv_iload_n hx hb dX4_all_97 rfl (lv_at hl 2 rfl) ?_
              refine n_iconst hx hb dX4_all_98 ?_
              refine lv_iload hx hb dX4_all_99 (lv_at hl 5 rfl) ?_
              refine n_ishl hx hb (by omega) (by omega) dX4_all_101 ?_
              refine n_iconst hx hb dX4_all_102 ?_
              refine n_ixor hx hb dX4_all_103 ?_
              refine n_iand hx hb dX4_all_104 ?_
              refine lv_istore_n hx hb dX4_all_105 rfl hl (Nat.le_of_ble_eq_true rfl) (lv' := [(2, .int (iI (bAnd (mk12 (alM (σ 2) x_ k j.toNat)) (bXor (1 * 2 ^ j.toNat) (-1))))), (0, .ref (G.2.2 0)), (1, .int (iI x_)), (3, .int (iI 1)), (4, .int (iI k)), (5, .int (iI j))]) rfl (fun ls hl => ?_)
              refine n_iinc hx hb dX4_all_106 hl (k := 5) rfl (Nat.le_of_ble_eq_true rfl) (lv' := [(5, .int (iI (j + 1))), (2, .int (iI (bAnd (mk12 (alM (σ 2) x_ k j.toNat)) (bXor (1 * 2 ^ j.toNat) (-1))))), (0, .ref (G.2.2 0)), (1, .int (iI x_)), (3, .int (iI 1)), (4, .int (iI k))]) rfl (fun ls hl => ?_)
              refine lv_goto (tgt := 60) hx hb dX4_all_109 (by decide) ?_
              have hl : lv_has ls 6 [(0, .ref (G.2.2 0)), (1, .int (iI x_)), (2, .int (iI (bAnd (mk12 (alM (σ 2) x_ k j.toNat)) (bXor (1 * 2 ^ j.toNat) (-1))))), (3, .int (iI 1)), (4, .int (iI k)), (5, .int (iI (j + 1)))] := lv_sub hl [2, 3, 1, 4, 5, 0] rfl
              have hl : lv_has ls 6 [(0, .ref (G.2.2 0)), (1, .int (iI x_)), (2, .int (iI (mk12 (alM (σ 2) x_ k (j + 1).toNat)))), (3, .int (iI 1)), (4, .int (iI k)), (5, .int (iI (j + 1)))] := by rw [show (j + 1).toNat = j.toNat + 1 by omega, ← alM_n hk0 (by omega) ho2 (fun h => by have h1 := h.1.1; have h2 := h.1.2; have h3 := h.2; omega)]; exact hl
              refine ih_60 τ1 (j + 1) ?_ ?_ ?_ ?_ ?_ ?_ _ _ _ hH hl
              · exact hQ
              · omega
              · omega
              · omega
              · omega
              · omega
            · -- 73F
              refine lv_aload_n hx hb dX4_all_76 rfl (lv_at hl 0 rfl) ?_
              refine m_get 22 (by decide) hx hb hts hown hK hj hH q1495 (fun _ h9 => h9) rfl dX4_all_77 ?_
              refine lv_iload hx hb dX4_all_80 (lv_at hl 5 rfl) ?_
              refine ml_22 hx hb hK hj hH (by omega) (by omega) dX4_all_82 ?_
              refine W.eq (g2 := F0 m 83 ls (.int (iI (τ1 22 j)) :: [])) rfl ?_
              refine W.eq (g2 := F0 m 83 ls (.int (iI (hdN (tm (σ 2) x_) j.toNat)) :: [])) (by rw [(hQ.2 j (by omega) (by omega)).1]) ?_
              refine n_iconst hx hb dX4_all_83 ?_
              refine n_icmp_ne (tgt := 97) hx hb (r32 (by omega)) (r32 (by omega)) dX4_all_84 (by decide) (fun c_84 => ?_) (fun c_84 => ?_)
              · -- 84T
                refine lv_iload_n hx hb dX4_all_97 rfl (lv_at hl 2 rfl) ?_
                refine n_iconst hx hb dX4_all_98 ?_
                refine lv_iload hx hb dX4_all_99 (lv_at hl 5 rfl) ?_
                refine n_ishl hx hb (by omega) (by omega) dX4_all_101 ?_
                refine n_iconst hx hb dX4_all_102 ?_
                refine n_ixor hx hb dX4_all_103 ?_
                refine n_iand hx hb dX4_all_104 ?_
                refine lv_istore_n hx hb dX4_all_105 rfl hl (Nat.le_of_ble_eq_true rfl) (lv' := [(2, .int (iI (bAnd (mk12 (alM (σ 2) x_ k j.toNat)) (bXor (1 * 2 ^ j.toNat) (-1))))), (0, .ref (G.2.2 0)), (1, .int (iI x_)), (3, .int (iI 1)), (4, .int (iI k)), (5, .int (iI j))]) rfl (fun ls hl => ?_)
                refine n_iinc hx hb dX4_all_106 hl (k := 5) rfl (Nat.le_of_ble_eq_true rfl) (lv' := [(5, .int (iI (j + 1))), (2, .int (iI (bAnd (mk12 (alM (σ 2) x_ k j.toNat)) (bXor (1 * 2 ^ j.toNat) (-1))))), (0, .ref (G.2.2 0)), (1, .int (iI x_)), (3, .int (iI 1)), (4, .int (iI k))]) rfl (fun ls hl => ?_)
                refine lv_goto (tgt := 60) hx hb dX4_all_109 (by decide) ?_
                have hl : lv_has ls 6 [(0, .ref (G.2.2 0)), (1, .int (iI x_)), (2, .int (iI (bAnd (mk12 (alM (σ 2) x_ k j.toNat)) (bXor (1 * 2 ^ j.toNat) (-1))))), (3, .int (iI 1)), (4, .int (iI k)), (5, .int (iI (j + 1)))] := lv_sub hl [2, 3, 1, 4, 5, 0] rfl
                have hl : lv_has ls 6 [(0, .ref (G.2.2 0)), (1, .int (iI x_)), (2, .int (iI (mk12 (alM (σ 2) x_ k (j + 1).toNat)))), (3, .int (iI 1)), (4, .int (iI k)), (5, .int (iI (j + 1)))] := by rw [show (j + 1).toNat = j.toNat + 1 by omega, ← alM_n hk0 (by omega) ho2 (fun h => by have h1 := h.1.1; have h2 := h.1.2; have h3 := h.2; omega)]; exact hl
                refine ih_60 τ1 (j + 1) ?_ ?_ ?_ ?_ ?_ ?_ _ _ _ hH hl
                · exact hQ
                · omega
                · omega
                · omega
                · omega
                · omega
              · -- 84F
                refine lv_aload_n hx hb dX4_all_87 rfl (lv_at hl 0 rfl) ?_
                refine m_get 23 (by decide) hx hb hts hown hK hj hH q1496 (fun _ h9 => h9) rfl dX4_all_88 ?_
                refine lv_iload hx hb dX4_all_91 (lv_at hl 5 rfl) ?_
                refine ml_23 hx hb hK hj hH (by omega) (by omega) dX4_all_93 ?_
                refine W.eq (g2 := F0 m 94 ls (.int (iI (τ1 23 j)) :: [])) rfl ?_
                refine W.eq (g2 := F0 m 94 ls (.int (iI (hoN (tm (σ 2) x_) (loA (σ 2) k) j.toNat)) :: [])) (by rw [(hQ.2 j (by omega) (by omega)).2.1]) ?_
                refine n_if_ne (tgt := 106) hx hb (r32 (by omega)) dX4_all_94 (by decide) (fun c_94 => ?_) (fun c_94 => ?_)
                · -- 94T
                  refine n_iinc hx hb dX4_all_106 hl (k := 5) rfl (Nat.le_of_ble_eq_true rfl) (lv' := [(5, .int (iI (j + 1))), (0, .ref (G.2.2 0)), (1, .int (iI x_)), (2, .int (iI (mk12 (alM (σ 2) x_ k j.toNat)))), (3, .int (iI 1)), (4, .int (iI k))]) rfl (fun ls hl => ?_)
                  refine lv_goto (tgt := 60) hx hb dX4_all_109 (by decide) ?_
                  have hl : lv_has ls 6 [(0, .ref (G.2.2 0)), (1, .int (iI x_)), (2, .int (iI (mk12 (alM (σ 2) x_ k j.toNat)))), (3, .int (iI 1)), (4, .int (iI k)), (5, .int (iI (j + 1)))] := lv_sub hl [1, 2, 3, 4, 5, 0] rfl
                  have hl : lv_has ls 6 [(0, .ref (G.2.2 0)), (1, .int (iI x_)), (2, .int (iI (mk12 (alM (σ 2) x_ k (j + 1).toNat)))), (3, .int (iI 1)), (4, .int (iI k)), (5, .int (iI (j + 1)))] := by rw [show (j + 1).toNat = j.toNat + 1 by omega, ← alM_y hk0 ⟨⟨by omega, by omega⟩, by omega⟩]; exact hl
                  refine ih_60 τ1 (j + 1) ?_ ?_ ?_ ?_ ?_ ?_ _ _ _ hH hl
                  · exact hQ
                  · omega
                  · omega
                  · omega
                  · omega
                  · omega
                · -- 94F
                  refine lv_iload_n hx hb dX4_all_97 rfl (lv_at hl 2 rfl) ?_
                  refine n_iconst hx hb dX4_all_98 ?_
                  refine lv_iload hx hb dX4_all_99 (lv_at hl 5 rfl) ?_
                  refine n_ishl hx hb (by omega) (by omega) dX4_all_101 ?_
                  refine n_iconst hx hb dX4_all_102 ?_
                  refine n_ixor hx hb dX4_all_103 ?_
                  refine n_iand hx hb dX4_all_104 ?_
                  refine lv_istore_n hx hb dX4_all_105 rfl hl (Nat.le_of_ble_eq_true rfl) (lv' := [(2, .int (iI (bAnd (mk12 (alM (σ 2) x_ k j.toNat)) (bXor (1 * 2 ^ j.toNat) (-1))))), (0, .ref (G.2.2 0)), (1, .int (iI x_)), (3, .int (iI 1)), (4, .int (iI k)), (5, .int (iI j))]) rfl (fun ls hl => ?_)
                  refine n_iinc hx hb dX4_all_106 hl (k := 5) rfl (Nat.le_of_ble_eq_true rfl) (lv' := [(5, .int (iI (j + 1))), (2, .int (iI (bAnd (mk12 (alM (σ 2) x_ k j.toNat)) (bXor (1 * 2 ^ j.toNat) (-1))))), (0, .ref (G.2.2 0)), (1, .int (iI x_)), (3, .int (iI 1)), (4, .int (iI k))]) rfl (fun ls hl => ?_)
                  refine lv_goto (tgt := 60) hx hb dX4_all_109 (by decide) ?_
                  have hl : lv_has ls 6 [(0, .ref (G.2.2 0)), (1, .int (iI x_)), (2, .int (iI (bAnd (mk12 (alM (σ 2) x_ k j.toNat)) (bXor (1 * 2 ^ j.toNat) (-1))))), (3, .int (iI 1)), (4, .int (iI k)), (5, .int (iI (j + 1)))] := lv_sub hl [2, 3, 1, 4, 5, 0] rfl
                  have hl : lv_has ls 6 [(0, .ref (G.2.2 0)), (1, .int (iI x_)), (2, .int (iI (mk12 (alM (σ 2) x_ k (j + 1).toNat)))), (3, .int (iI 1)), (4, .int (iI k)), (5, .int (iI (j + 1)))] := by rw [show (j + 1).toNat = j.toNat + 1 by omega, ← alM_n hk0 (by omega) ho2 (fun h => by have h1 := h.1.1; have h2 := h.1.2; have h3 := h.2; omega)]; exact hl
                  refine ih_60 τ1 (j + 1) ?_ ?_ ?_ ?_ ?_ ?_ _ _ _ hH hl
                  · exact hQ
                  · omega
                  · omega
                  · omega
                  · omega
                  · omega
      refine lv_iload hx hb dX4_all_19 (lv_at hl 4 rfl) ?_
      refine lv_aload_n hx hb dX4_all_21 rfl (lv_at hl 0 rfl) ?_
      refine m_get 2 (by decide) hx hb hts hown hK hj hH q1475 (fun _ h9 => h9) rfl dX4_all_22 ?_
      refine n_sipush (z := 1754) hx hb dX4_all_25 (by decide) ?_
      refine ml_2 hx hb hK hj hH (by omega) (by omega) dX4_all_28 ?_
      refine W.eq (g2 := F0 m 29 ls (.int (iI (σ 2 1754)) :: .int (iI k) :: [])) rfl ?_
      refine n_icmp_ge (tgt := 118) hx hb (r32 (by omega)) (r32 (by omega)) dX4_all_29 (by decide) (fun c_29 => ?_) (fun c_29 => ?_)
      · -- 29T
        refine lv_iload_n hx hb dX4_all_118 rfl (lv_at hl 3 rfl) ?_
        refine n_if_eq (tgt := 126) hx hb (r32 (by omega)) dX4_all_119 (by decide) (fun c_119 => ?_) (fun c_119 => ?_)
        · -- 119T
          refine n_iconst hx hb dX4_all_126 ?_
          refine m_iret hx hb hr hlk hH dX4_all_127 ?_
          refine ⟨?_, mx_sc⟩
          show _ = allF _ _
          rw [allF, if_pos hg, show (σ 2 1754).toNat = k.toNat by omega, if_pos (by omega)]
        · -- 119F
          refine lv_iload_n hx hb dX4_all_122 rfl (lv_at hl 2 rfl) ?_
          refine n_if_ne (tgt := 128) hx hb (r32 (by omega)) dX4_all_123 (by decide) (fun c_123 => ?_) (fun c_123 => ?_)
          · -- 123T
            refine n_iconst hx hb dX4_all_128 ?_
            refine lv_istore hx hb dX4_all_129 hl (Nat.le_of_ble_eq_true rfl) (lv' := [(4, .int (iI 0)), (0, .ref (G.2.2 0)), (1, .int (iI x_)), (2, .int (iI (mk12 (fun c => alN (σ 2) x_ c k.toNat)))), (3, .int (iI (anN (σ 2) x_ k.toNat)))]) rfl (fun ls hl => ?_)
            have hl : lv_has ls 6 [(0, .ref (G.2.2 0)), (1, .int (iI x_)), (2, .int (iI (mk12 (fun c => alN (σ 2) x_ c k.toNat)))), (4, .int (iI 0))] := lv_sub hl [1, 2, 3, 0] rfl
            refine L131 20 τ 0 _ ?_ ?_ ?_ ?_ ?_ ?_ ?_ _ _ _ hH hl
            · exact hg
            · omega
            · exact c_119
            · omega
            · exact fi_ex (fun c => alN_01 _) c_123
            · omega
            · rfl
          · -- 123F
            refine n_iconst hx hb dX4_all_126 ?_
            refine m_iret hx hb hr hlk hH dX4_all_127 ?_
            refine ⟨?_, mx_sc⟩
            show _ = allF _ _
            rw [allF, if_pos hg, show (σ 2 1754).toNat = k.toNat by omega, if_neg (by omega), fi_0 (by omega) (fun c => alN_01 _)]
      · -- 29F
        refine lv_aload_n hx hb dX4_all_32 rfl (lv_at hl 0 rfl) ?_
        refine lv_iload_n hx hb dX4_all_33 rfl (lv_at hl 1 rfl) ?_
        refine lv_iload hx hb dX4_all_34 (lv_at hl 4 rfl) ?_
        refine m_calli (m_runV (As := [.int (iI x_), .int (iI k)]) (rest := []) S hH hK hj hl.1 (mm_oddsOfLook l G (mx σ τ) x_ k _ (by omega) (show x_ < σ 2 1756 from by omega) hI hT (by omega) (show k < σ 2 1754 from by omega)) (lw_V q1807 q1809 qs74 q109 q1810) kd_X4_oddsOfLook rfl rfl dX4_all_36) hH hA (fun z36 σ36 H locs q_36 hH => ?_)
        obtain ⟨e_36, q_36⟩ := q_36
        have e_36 : z36 = (oL (σ 2) x_ k) := e_36
        subst e_36
        have hH := MH_to hH (τ := mx σ σ36) (mx_of q_36)
        refine n_bipush (z := 10) hx hb dX4_all_39 (by decide) ?_
        refine n_icmp_lt (tgt := 47) hx hb (r32 (by omega)) (r32 (by omega)) dX4_all_41 (by decide) (fun c_41 => ?_) (fun c_41 => ?_)
        · -- 41T
          refine n_iconst hx hb dX4_all_47 ?_
          refine lv_istore_n hx hb dX4_all_48 rfl hl (Nat.le_of_ble_eq_true rfl) (lv' := [(3, .int (iI 1)), (0, .ref (G.2.2 0)), (1, .int (iI x_)), (2, .int (iI (mk12 (fun c => alN (σ 2) x_ c k.toNat)))), (4, .int (iI k))]) rfl (fun ls hl => ?_)
          refine lv_aload_n hx hb dX4_all_49 rfl (lv_at hl 1 rfl) ?_
          refine lv_iload_n hx hb dX4_all_50 rfl (lv_at hl 2 rfl) ?_
          refine lv_iload hx hb dX4_all_51 (lv_at hl 4 rfl) ?_
          refine m_calli (m_runV (As := [.int (iI x_), .int (iI k)]) (rest := []) S hH hK hj hl.1 (mm_price l G (mx σ σ36) x_ k _ (by omega) (show x_ < σ 2 1756 from by omega) hI hT (by omega) (show k < σ 2 1754 from by omega)) (lw_V q1908 q1910 qs92 q109 q1911) kd_X4_price rfl rfl dX4_all_53) hH hA (fun z53 σ53 H locs q_53 hH => ?_)
          obtain ⟨e_53, q_53⟩ := q_53
          have e_53 : z53 = (pL (σ 2) x_ k) := e_53
          subst e_53
          obtain ⟨q_53, k_53⟩ := q_53
          have k_53 : AskQ (σ 2) x_ (loA (σ 2) k) σ53 := k_53
          have hH := MH_to hH (τ := mx σ σ53) (mx_of q_53)
          refine lv_pop hx hb dX4_all_56 rfl ?_
          refine n_iconst hx hb dX4_all_57 ?_
          refine lv_istore hx hb dX4_all_58 hl (Nat.le_of_ble_eq_true rfl) (lv' := [(5, .int (iI 0)), (3, .int (iI 1)), (0, .ref (G.2.2 0)), (1, .int (iI x_)), (2, .int (iI (mk12 (fun c => alN (σ 2) x_ c k.toNat)))), (4, .int (iI k))]) rfl (fun ls hl => ?_)
          have hl : lv_has ls 6 [(0, .ref (G.2.2 0)), (1, .int (iI x_)), (2, .int (iI (mk12 (fun c => alN (σ 2) x_ c k.toNat)))), (3, .int (iI 1)), (4, .int (iI k)), (5, .int (iI 0))] := lv_sub hl [2, 3, 4, 1, 5, 0] rfl
          have hl : lv_has ls 6 [(0, .ref (G.2.2 0)), (1, .int (iI x_)), (2, .int (iI (mk12 (alM (σ 2) x_ k (0 : Int).toNat)))), (3, .int (iI 1)), (4, .int (iI k)), (5, .int (iI 0))] := by rw [show (0 : Int).toNat = 0 from rfl, alM_0]; exact hl
          refine L60 20 σ53 0 ?_ ?_ ?_ ?_ ?_ ?_ _ _ _ hH hl
          · exact k_53
          · omega
          · omega
          · omega
          · omega
          · omega
        · -- 41F
          refine lv_goto (tgt := 112) hx hb dX4_all_44 (by decide) ?_
          refine n_iinc hx hb dX4_all_112 hl (k := 4) rfl (Nat.le_of_ble_eq_true rfl) (lv' := [(4, .int (iI (k + 1))), (0, .ref (G.2.2 0)), (1, .int (iI x_)), (2, .int (iI (mk12 (fun c => alN (σ 2) x_ c k.toNat)))), (3, .int (iI (anN (σ 2) x_ k.toNat)))]) rfl (fun ls hl => ?_)
          refine lv_goto (tgt := 19) hx hb dX4_all_115 (by decide) ?_
          have hl : lv_has ls 6 [(0, .ref (G.2.2 0)), (1, .int (iI x_)), (2, .int (iI (mk12 (fun c => alN (σ 2) x_ c k.toNat)))), (3, .int (iI (anN (σ 2) x_ k.toNat))), (4, .int (iI (k + 1)))] := lv_sub hl [1, 2, 3, 4, 0] rfl
          have hl : lv_has ls 6 [(0, .ref (G.2.2 0)), (1, .int (iI x_)), (2, .int (iI (mk12 (fun c => alN (σ 2) x_ c (k + 1).toNat)))), (3, .int (iI (anN (σ 2) x_ (k + 1).toNat))), (4, .int (iI (k + 1)))] := by rw [al_ge hk0 (by omega), anN_e hk0, if_neg (by omega)]; exact hl
          refine ih_19 σ36 (k + 1) ?_ ?_ ?_ ?_ _ _ _ hH hl
          · exact hg
          · omega
          · omega
          · omega
  refine lv_aload_n hx hb dX4_all_0 rfl (lv_at hl 0 rfl) ?_
  refine lv_iload_n hx hb dX4_all_1 rfl (lv_at hl 1 rfl) ?_
  refine m_calliF (m_runV (As := [.int (iI x_)]) (rest := []) S hH hK hj hl.1 (mm_isText l G (mx σ σ) x_ _ (r32 (by omega)) (show 0 ≤ σ 2 1756 from by omega) (show σ 2 1756 ≤ 1000 from by omega)) (lw_V q1803 q1805 qs73 q109 q1806) kd_X4_isText rfl rfl dX4_all_2) hH hA (fun H locs hH => ?_)
  refine W.eq (g2 := F0 m 5 ls (.int (iI (zb (0 ≤ x_ ∧ x_ ≤ σ 2 1756 - 1))) :: [])) rfl ?_
  refine z_if_ne (tgt := 10) hx hb dX4_all_5 (by decide) (fun c_5 => ?_) (fun c_5 => ?_)
  · -- 5T
    refine n_sipush (z := 4095) hx hb dX4_all_10 (by decide) ?_
    refine lv_istore_n hx hb dX4_all_13 rfl hl (Nat.le_of_ble_eq_true rfl) (lv' := [(2, .int (iI 4095)), (0, .ref (G.2.2 0)), (1, .int (iI x_))]) rfl (fun ls hl => ?_)
    refine n_iconst hx hb dX4_all_14 ?_
    refine lv_istore_n hx hb dX4_all_15 rfl hl (Nat.le_of_ble_eq_true rfl) (lv' := [(3, .int (iI 0)), (2, .int (iI 4095)), (0, .ref (G.2.2 0)), (1, .int (iI x_))]) rfl (fun ls hl => ?_)
    refine n_iconst hx hb dX4_all_16 ?_
    refine lv_istore hx hb dX4_all_17 hl (Nat.le_of_ble_eq_true rfl) (lv' := [(4, .int (iI 0)), (3, .int (iI 0)), (2, .int (iI 4095)), (0, .ref (G.2.2 0)), (1, .int (iI x_))]) rfl (fun ls hl => ?_)
    have hl : lv_has ls 6 [(0, .ref (G.2.2 0)), (1, .int (iI x_)), (2, .int (iI 4095)), (3, .int (iI 0)), (4, .int (iI 0))] := lv_sub hl [3, 4, 2, 1, 0] rfl
    have hl : lv_has ls 6 [(0, .ref (G.2.2 0)), (1, .int (iI x_)), (2, .int (iI (mk12 (fun c => alN (σ 2) x_ c (0 : Int).toNat)))), (3, .int (iI (anN (σ 2) x_ (0 : Int).toNat))), (4, .int (iI 0))] := by exact hl
    refine L19 50 σ 0 ?_ ?_ ?_ ?_ _ _ _ hH hl
    · omega
    · omega
    · omega
    · omega
  · -- 5F
    refine n_iconst hx hb dX4_all_8 ?_
    refine m_iret hx hb hr hlk hH dX4_all_9 ?_
    refine ⟨?_, mx_sc⟩
    show _ = allF _ _
    unfold allF isX
    rw [if_neg (by omega)]
