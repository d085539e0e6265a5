theorem kd_X4_isSmall : yX4_isSmall.cls = RX4 ∧ yX4_isSmall.cls ≠ "java/lang/invoke/MethodHandle" ∧ yX4_isSmall.cls ≠ "java/lang/invoke/VarHandle" ∧ (parseMethodDescriptor yX4_isSmall.desc).map (fun d => d.parameters.length) = some 1 := by decide +kernel
theorem mm_isSmall (l : Launch) (G : MG) (σ : St) (b : Int) (sz : Nat) (h_b : R32 b) : Met l yX4_isSmall (ws_ yX4_isSmall cX4_isSmall 1 (some .boolean)) (rmD 1) (mP G [.int (iI b)] σ sz) (mQi G σ sz (fun z σ' => z = zb (lowP b) ∧ σ' = σ)) 0 0 (mA G σ sz) := by
  refine m_start (by decide) (Nat.le_of_ble_eq_true rfl) ?_
  intro p e s m below meth c ⟨S, hr, hlk, hH, hK, hj, hsz, hnm⟩ ls hl
  subst hsz
  obtain ⟨hx, hb, hml, hown, hts⟩ := S
  have S : CallFix p m c _ _ s _ lw_all RX4 := ⟨hx, hb, hml, hown, hts⟩
  have hA : ∀ q, s.heap.size ≤ q → mA G σ s.heap.size q := fun q hq => Or.inr hq
  have hl : lv_has ls 1 [(0, .int (iI b))] := hl
  have h_b := R32.n h_b
  refine lv_iload_n hx hb dX4_isSmall_0 rfl (lv_at hl 0 rfl) ?_
  refine n_bipush (z := 97) hx hb dX4_isSmall_1 (by decide) ?_
  refine n_icmp_lt (tgt := 16) hx hb (r32 (by omega)) (r32 (by omega)) dX4_isSmall_3 (by decide) (fun c_3 => ?_) (fun c_3 => ?_)
  · -- 3T
    refine n_iconst hx hb dX4_isSmall_16 ?_
    refine m_zret hx hb hr hlk hH dX4_isSmall_17 (Or.inl rfl) ?_
    refine ⟨?_, rfl⟩
    first | exact (zb_t (by unfold lowP; omega)).symm | exact (zb_f (by unfold lowP; omega)).symm
  · -- 3F
    refine lv_iload_n hx hb dX4_isSmall_6 rfl (lv_at hl 0 rfl) ?_
    refine n_bipush (z := 122) hx hb dX4_isSmall_7 (by decide) ?_
    refine n_icmp_gt (tgt := 16) hx hb (r32 (by omega)) (r32 (by omega)) dX4_isSmall_9 (by decide) (fun c_9 => ?_) (fun c_9 => ?_)
    · -- 9T
      refine n_iconst hx hb dX4_isSmall_16 ?_
      refine m_zret hx hb hr hlk hH dX4_isSmall_17 (Or.inl rfl) ?_
      refine ⟨?_, rfl⟩
      first | exact (zb_t (by unfold lowP; omega)).symm | exact (zb_f (by unfold lowP; omega)).symm
    · -- 9F
      refine n_iconst hx hb dX4_isSmall_12 ?_
      refine lv_goto (tgt := 17) hx hb dX4_isSmall_13 (by decide) ?_
      refine m_zret hx hb hr hlk hH dX4_isSmall_17 (Or.inr rfl) ?_
      refine ⟨?_, rfl⟩
      first | exact (zb_t (by unfold lowP; omega)).symm | exact (zb_f (by unfold lowP; omega)).symm
theorem kd_X4_isDigit : yX4_isDigit.cls = RX4 ∧ yX4_isDigit.cls ≠ "java/lang/invoke/MethodHandle" ∧ yX4_isDigit.cls ≠ "java/lang/invoke/VarHandle" ∧ (parseMethodDescriptor yX4_isDigit.desc).map (fun d => d.parameters.length) = some 1 := by decide +kernel
theorem mm_isDigit (l : Launch) (G : MG) (σ : St) (b : Int) (sz : Nat) (h_b : R32 b) : Met l yX4_isDigit (ws_ yX4_isDigit cX4_isDigit 1 (some .boolean)) (rmD 1) (mP G [.int (iI b)] σ sz) (mQi G σ sz (fun z σ' => z = zb (digP b) ∧ σ' = σ)) 0 0 (mA G σ sz) := by
  refine m_start (by decide) (Nat.le_of_ble_eq_true rfl) ?_
  intro p e s m below meth c ⟨S, hr, hlk, hH, hK, hj, hsz, hnm⟩ ls hl
  subst hsz
  obtain ⟨hx, hb, hml, hown, hts⟩ := S
  have S : CallFix p m c _ _ s _ lw_all RX4 := ⟨hx, hb, hml, hown, hts⟩
  have hA : ∀ q, s.heap.size ≤ q → mA G σ s.heap.size q := fun q hq => Or.inr hq
  have hl : lv_has ls 1 [(0, .int (iI b))] := hl
  have h_b := R32.n h_b
  refine lv_iload_n hx hb dX4_isDigit_0 rfl (lv_at hl 0 rfl) ?_
  refine n_bipush (z := 48) hx hb dX4_isDigit_1 (by decide) ?_
  refine n_icmp_lt (tgt := 16) hx hb (r32 (by omega)) (r32 (by omega)) dX4_isDigit_3 (by decide) (fun c_3 => ?_) (fun c_3 => ?_)
  · -- 3T
    refine n_iconst hx hb dX4_isDigit_16 ?_
    refine m_zret hx hb hr hlk hH dX4_isDigit_17 (Or.inl rfl) ?_
    refine ⟨?_, rfl⟩
    first | exact (zb_t (by unfold digP; omega)).symm | exact (zb_f (by unfold digP; omega)).symm
  · -- 3F
    refine lv_iload_n hx hb dX4_isDigit_6 rfl (lv_at hl 0 rfl) ?_
    refine n_bipush (z := 57) hx hb dX4_isDigit_7 (by decide) ?_
    refine n_icmp_gt (tgt := 16) hx hb (r32 (by omega)) (r32 (by omega)) dX4_isDigit_9 (by decide) (fun c_9 => ?_) (fun c_9 => ?_)
    · -- 9T
      refine n_iconst hx hb dX4_isDigit_16 ?_
      refine m_zret hx hb hr hlk hH dX4_isDigit_17 (Or.inl rfl) ?_
      refine ⟨?_, rfl⟩
      first | exact (zb_t (by unfold digP; omega)).symm | exact (zb_f (by unfold digP; omega)).symm
    · -- 9F
      refine n_iconst hx hb dX4_isDigit_12 ?_
      refine lv_goto (tgt := 17) hx hb dX4_isDigit_13 (by decide) ?_
      refine m_zret hx hb hr hlk hH dX4_isDigit_17 (Or.inr rfl) ?_
      refine ⟨?_, rfl⟩
      first | exact (zb_t (by unfold digP; omega)).symm | exact (zb_f (by unfold digP; omega)).symm
theorem kd_X4_sign : yX4_sign.cls = RX4 ∧ yX4_sign.cls ≠ "java/lang/invoke/MethodHandle" ∧ yX4_sign.cls ≠ "java/lang/invoke/VarHandle" ∧ (parseMethodDescriptor yX4_sign.desc).map (fun d => d.parameters.length) = some 1 := by decide +kernel
theorem mm_sign (l : Launch) (G : MG) (σ : St) (ch : Int) (sz : Nat) (h0 : 0 ≤ ch) (h1 : ch ≤ 65535) : Met l yX4_sign (ws_ yX4_sign cX4_sign 1 (some .int)) (rmD 1) (mP G [.int (iI ch)] σ sz) (mQi G σ sz (fun z σ' => z = 100 + ch ∧ σ' = σ)) 0 0 (mA G σ sz) := by
  refine m_start (by decide) (Nat.le_of_ble_eq_true rfl) ?_
  intro p e s m below meth c ⟨S, hr, hlk, hH, hK, hj, hsz, hnm⟩ ls hl
  subst hsz
  obtain ⟨hx, hb, hml, hown, hts⟩ := S
  have S : CallFix p m c _ _ s _ lw_all RX4 := ⟨hx, hb, hml, hown, hts⟩
  have hA : ∀ q, s.heap.size ≤ q → mA G σ s.heap.size q := fun q hq => Or.inr hq
  have hl : lv_has ls 1 [(0, .int (iI ch))] := hl
  refine n_bipush (z := 100) hx hb dX4_sign_0 (by decide) ?_
  refine lv_iload_n hx hb dX4_sign_2 rfl (lv_at hl 0 rfl) ?_
  refine n_iadd hx hb dX4_sign_3 ?_
  refine m_iret hx hb hr hlk hH dX4_sign_4 ?_
  exact ⟨rfl, rfl⟩
theorem kd_X4_fine : yX4_fine.cls = RX4 ∧ yX4_fine.cls ≠ "java/lang/invoke/MethodHandle" ∧ yX4_fine.cls ≠ "java/lang/invoke/VarHandle" ∧ (parseMethodDescriptor yX4_fine.desc).map (fun d => d.parameters.length) = some 0 := by decide +kernel
theorem mm_fine (l : Launch) (G : MG) (σ0 : St) (t : Int) (u : PS) (sz : Nat) (hT : TK (σ0 11) (σ0 12) (σ0 13) t) (hB : BS t u) : Met l yX4_fine (ws_ yX4_fine cX4_fine 1 (some .boolean)) (rmD 1) (mP G [.ref (G.2.2 0)] (psS σ0 u) sz) (mQi G (psS σ0 u) sz (fun z σ' => z = zb (u.2.2 = -1) ∧ σ' = psS σ0 u)) 0 0 (mA G (psS σ0 u) sz) := by
  refine m_start (by decide) (Nat.le_of_ble_eq_true rfl) ?_
  intro p e s m below meth c ⟨S, hr, hlk, hH, hK, hj, hsz, hnm⟩ ls hl
  subst hsz
  obtain ⟨hx, hb, hml, hown, hts⟩ := S
  have S : CallFix p m c _ _ s _ lw_all RX4 := ⟨hx, hb, hml, hown, hts⟩
  have hA : ∀ q, s.heap.size ≤ q → mA G (psS σ0 u) s.heap.size q := fun q hq => Or.inr hq
  have hl : lv_has ls 1 [(0, .ref (G.2.2 0))] := hl
  have b0 := hB
  unfold BS at b0
  have t0 := hT
  unfold TK at t0
  have t1 := t0.2.2 u.1 (by omega) (by omega)
  refine lv_aload_n hx hb dX4_fine_0 rfl (lv_at hl 0 rfl) ?_
  refine m_get 17 (by decide) hx hb hts hown hK hj hH q1490 (fun _ h9 => h9) rfl dX4_fine_1 ?_
  refine W.eq (g2 := F0 m 4 ls (.int (iI u.2.2) :: [])) rfl ?_
  refine n_iconst hx hb dX4_fine_4 ?_
  refine n_icmp_ne (tgt := 12) hx hb (r32 (by omega)) (r32 (by omega)) dX4_fine_5 (by decide) (fun c_5 => ?_) (fun c_5 => ?_)
  · -- 5T
    refine n_iconst hx hb dX4_fine_12 ?_
    refine m_zret hx hb hr hlk hH dX4_fine_13 (Or.inl rfl) ?_
    first | exact ⟨(zb_t c_5).symm, rfl⟩ | exact ⟨(zb_f c_5).symm, rfl⟩
  · -- 5F
    refine n_iconst hx hb dX4_fine_8 ?_
    refine lv_goto (tgt := 13) hx hb dX4_fine_9 (by decide) ?_
    refine m_zret hx hb hr hlk hH dX4_fine_13 (Or.inr rfl) ?_
    first | exact ⟨(zb_t c_5).symm, rfl⟩ | exact ⟨(zb_f c_5).symm, rfl⟩
theorem kd_X4_faults : yX4_faults.cls = RX4 ∧ yX4_faults.cls ≠ "java/lang/invoke/MethodHandle" ∧ yX4_faults.cls ≠ "java/lang/invoke/VarHandle" ∧ (parseMethodDescriptor yX4_faults.desc).map (fun d => d.parameters.length) = some 0 := by decide +kernel
theorem mm_faults (l : Launch) (G : MG) (σ0 : St) (t : Int) (u : PS) (sz : Nat) (hT : TK (σ0 11) (σ0 12) (σ0 13) t) (hB : BS t u) : Met l yX4_faults (ws_ yX4_faults cX4_faults 1 none) (rmD 2) (mP G [.ref (G.2.2 0)] (psS σ0 u) sz) (mQv G (psS σ0 u) sz (fun σ' => σ' = psS σ0 (fauP (σ0 13) u))) 0 0 (mA G (psS σ0 u) sz) := by
  refine m_start (by decide) (Nat.le_of_ble_eq_true rfl) ?_
  intro p e s m below meth c ⟨S, hr, hlk, hH, hK, hj, hsz, hnm⟩ ls hl
  subst hsz
  obtain ⟨hx, hb, hml, hown, hts⟩ := S
  have S : CallFix p m c _ _ s _ lw_all RX4 := ⟨hx, hb, hml, hown, hts⟩
  have hA : ∀ q, s.heap.size ≤ q → mA G (psS σ0 u) s.heap.size q := fun q hq => Or.inr hq
  have hl : lv_has ls 1 [(0, .ref (G.2.2 0))] := hl
  have b0 := hB
  unfold BS at b0
  have t0 := hT
  unfold TK at t0
  have t1 := t0.2.2 u.1 (by omega) (by omega)
  refine lv_aload_n hx hb dX4_faults_0 rfl (lv_at hl 0 rfl) ?_
  refine m_calliF (m_runV (As := []) (rest := []) S hH hK hj hl.1 (mm_fine l G σ0 _ u _ hT hB) (lw_V q1751 q1753 qs63 q109 q1754) kd_X4_fine rfl rfl dX4_faults_1) hH hA (fun H locs hH => ?_)
  refine z_if_eq (tgt := 20) hx hb dX4_faults_4 (by decide) (fun c_4 => ?_) (fun c_4 => ?_)
  · -- 4T
    refine m_vret hx hb hr hlk hH dX4_faults_20 ?_
    unfold fauP
    rw [if_neg c_4]
  · -- 4F
    refine lv_aload_n hx hb dX4_faults_7 rfl (lv_at hl 0 rfl) ?_
    refine lv_aload_n hx hb dX4_faults_8 rfl (lv_at hl 0 rfl) ?_
    refine m_get 13 (by decide) hx hb hts hown hK hj hH q1486 (fun _ h9 => h9) rfl dX4_faults_9 ?_
    refine lv_aload_n hx hb dX4_faults_12 rfl (lv_at hl 0 rfl) ?_
    refine m_get 15 (by decide) hx hb hts hown hK hj hH q1488 (fun _ h9 => h9) rfl dX4_faults_13 ?_
    refine W.eq (g2 := F0 m 16 ls (.int (iI u.1) :: .ref (G.2.2 13) :: .ref (G.2.2 0) :: [])) rfl ?_
    refine ml_13 hx hb hK hj hH (by omega) (by omega) dX4_faults_16 ?_
    refine W.eq (g2 := F0 m 17 ls (.int (iI (σ0 13 u.1)) :: .ref (G.2.2 0) :: [])) rfl ?_
    refine mp_17 hx hb hts hown hK hj hH q1490 (fun _ h9 => h9) dX4_faults_17 (fun H locs hH => ?_)
    have hH := MH_to hH (τ := psS σ0 (u.1, u.2.1, σ0 13 u.1)) psS_17
    refine m_vret hx hb hr hlk hH dX4_faults_20 ?_
    unfold fauP
    rw [if_pos c_4]
theorem kd_X4_takes : yX4_takes.cls = RX4 ∧ yX4_takes.cls ≠ "java/lang/invoke/MethodHandle" ∧ yX4_takes.cls ≠ "java/lang/invoke/VarHandle" ∧ (parseMethodDescriptor yX4_takes.desc).map (fun d => d.parameters.length) = some 1 := by decide +kernel
theorem mm_takes (l : Launch) (G : MG) (σ0 : St) (t : Int) (u : PS) (cc_ : Int) (sz : Nat) (hT : TK (σ0 11) (σ0 12) (σ0 13) t) (hB : BS t u) (hc0 : 1 ≤ cc_) (hc1 : cc_ ≤ 1000) : Met l yX4_takes (ws_ yX4_takes cX4_takes 3 (some .boolean)) (rmD 2) (mP G [.ref (G.2.2 0), .int (iI cc_)] (psS σ0 u) sz) (mQi G (psS σ0 u) sz (fun z σ' => z = zb (takP (σ0 11) cc_ u) ∧ σ' = psS σ0 (if takP (σ0 11) cc_ u then advP u else u))) 0 0 (mA G (psS σ0 u) sz) := by
  refine m_start (by decide) (Nat.le_of_ble_eq_true rfl) ?_
  intro p e s m below meth c ⟨S, hr, hlk, hH, hK, hj, hsz, hnm⟩ ls hl
  subst hsz
  obtain ⟨hx, hb, hml, hown, hts⟩ := S
  have S : CallFix p m c _ _ s _ lw_all RX4 := ⟨hx, hb, hml, hown, hts⟩
  have hA : ∀ q, s.heap.size ≤ q → mA G (psS σ0 u) s.heap.size q := fun q hq => Or.inr hq
  have hl : lv_has ls 3 [(0, .ref (G.2.2 0)), (1, .int (iI cc_))] := hl
  have b0 := hB
  unfold BS at b0
  have t0 := hT
  unfold TK at t0
  have t1 := t0.2.2 u.1 (by omega) (by omega)
  refine lv_aload_n hx hb dX4_takes_0 rfl (lv_at hl 0 rfl) ?_
  refine m_calliF (m_runV (As := []) (rest := []) S hH hK hj hl.1 (mm_fine l G σ0 _ u _ hT hB) (lw_V q1751 q1753 qs63 q109 q1754) kd_X4_fine rfl rfl dX4_takes_1) hH hA (fun H locs hH => ?_)
  refine z_if_eq (tgt := 24) hx hb dX4_takes_4 (by decide) (fun c_4 => ?_) (fun c_4 => ?_)
  · -- 4T
    refine n_iconst hx hb dX4_takes_24 ?_
    refine lv_istore_n hx hb dX4_takes_25 rfl hl (Nat.le_of_ble_eq_true rfl) (lv' := [(2, .int (iI 0)), (0, .ref (G.2.2 0)), (1, .int (iI cc_))]) rfl (fun ls hl => ?_)
    refine lv_iload_n hx hb dX4_takes_26 rfl (lv_at hl 0 rfl) ?_
    refine n_if_eq (tgt := 40) hx hb (r32 (by omega)) dX4_takes_27 (by decide) (fun _ => ?_) (fun h => absurd h (by decide))
    refine lv_iload_n hx hb dX4_takes_40 rfl (lv_at hl 0 rfl) ?_
    refine m_zret hx hb hr hlk hH dX4_takes_41 (Or.inl rfl) ?_
    first | (rw [if_pos (show takP (σ0 11) cc_ u from ⟨c_4, c_17⟩)]; exact ⟨(zb_t ⟨c_4, c_17⟩).symm, rfl⟩) | (rw [if_neg (fun q : takP (σ0 11) cc_ u => by first | exact c_4 q.1 | exact c_17 q.2)]; exact ⟨(zb_f (fun q : takP (σ0 11) cc_ u => by first | exact c_4 q.1 | exact c_17 q.2)).symm, rfl⟩)
  · -- 4F
    refine lv_aload_n hx hb dX4_takes_7 rfl (lv_at hl 0 rfl) ?_
    refine m_get 11 (by decide) hx hb hts hown hK hj hH q1484 (fun _ h9 => h9) rfl dX4_takes_8 ?_
    refine lv_aload_n hx hb dX4_takes_11 rfl (lv_at hl 0 rfl) ?_
    refine m_get 15 (by decide) hx hb hts hown hK hj hH q1488 (fun _ h9 => h9) rfl dX4_takes_12 ?_
    refine W.eq (g2 := F0 m 15 ls (.int (iI u.1) :: .ref (G.2.2 11) :: [])) rfl ?_
    refine ml_11 hx hb hK hj hH (by omega) (by omega) dX4_takes_15 ?_
    refine W.eq (g2 := F0 m 16 ls (.int (iI (σ0 11 u.1)) :: [])) rfl ?_
    refine lv_iload_n hx hb dX4_takes_16 rfl (lv_at hl 1 rfl) ?_
    refine n_icmp_ne (tgt := 24) hx hb (r32 (by omega)) (r32 (by omega)) dX4_takes_17 (by decide) (fun c_17 => ?_) (fun c_17 => ?_)
    · -- 17T
      refine n_iconst hx hb dX4_takes_24 ?_
      refine lv_istore_n hx hb dX4_takes_25 rfl hl (Nat.le_of_ble_eq_true rfl) (lv' := [(2, .int (iI 0)), (0, .ref (G.2.2 0)), (1, .int (iI cc_))]) rfl (fun ls hl => ?_)
      refine lv_iload_n hx hb dX4_takes_26 rfl (lv_at hl 0 rfl) ?_
      refine n_if_eq (tgt := 40) hx hb (r32 (by omega)) dX4_takes_27 (by decide) (fun _ => ?_) (fun h => absurd h (by decide))
      refine lv_iload_n hx hb dX4_takes_40 rfl (lv_at hl 0 rfl) ?_
      refine m_zret hx hb hr hlk hH dX4_takes_41 (Or.inl rfl) ?_
      first | (rw [if_pos (show takP (σ0 11) cc_ u from ⟨c_4, c_17⟩)]; exact ⟨(zb_t ⟨c_4, c_17⟩).symm, rfl⟩) | (rw [if_neg (fun q : takP (σ0 11) cc_ u => by first | exact c_4 q.1 | exact c_17 q.2)]; exact ⟨(zb_f (fun q : takP (σ0 11) cc_ u => by first | exact c_4 q.1 | exact c_17 q.2)).symm, rfl⟩)
    · -- 17F
      refine n_iconst hx hb dX4_takes_20 ?_
      refine lv_goto (tgt := 25) hx hb dX4_takes_21 (by decide) ?_
      refine lv_istore_n hx hb dX4_takes_25 rfl hl (Nat.le_of_ble_eq_true rfl) (lv' := [(2, .int (iI 1)), (0, .ref (G.2.2 0)), (1, .int (iI cc_))]) rfl (fun ls hl => ?_)
      refine lv_iload_n hx hb dX4_takes_26 rfl (lv_at hl 0 rfl) ?_
      refine n_if_eq (tgt := 40) hx hb (r32 (by omega)) dX4_takes_27 (by decide) (fun h => absurd h (by decide)) (fun _ => ?_)
      refine lv_aload_n hx hb dX4_takes_30 rfl (lv_at hl 1 rfl) ?_
      refine lv_dup hx hb dX4_takes_31 rfl ?_
      refine m_get 15 (by decide) hx hb hts hown hK hj hH q1488 (fun _ h9 => h9) rfl dX4_takes_32 ?_
      refine W.eq (g2 := F0 m 35 ls (.int (iI u.1) :: .ref (G.2.2 0) :: [])) rfl ?_
      refine n_iconst hx hb dX4_takes_35 ?_
      refine n_iadd hx hb dX4_takes_36 ?_
      refine mp_15 hx hb hts hown hK hj hH q1488 (fun _ h9 => h9) dX4_takes_37 (fun H locs hH => ?_)
      have hH := MH_to hH (τ := psS σ0 (u.1 + 1, u.2.1, u.2.2)) psS_15
      refine lv_iload_n hx hb dX4_takes_40 rfl (lv_at hl 0 rfl) ?_
      refine m_zret hx hb hr hlk hH dX4_takes_41 (Or.inr rfl) ?_
      first | (rw [if_pos (show takP (σ0 11) cc_ u from ⟨c_4, c_17⟩)]; exact ⟨(zb_t ⟨c_4, c_17⟩).symm, rfl⟩) | (rw [if_neg (fun q : takP (σ0 11) cc_ u => by first | exact c_4 q.1 | exact c_17 q.2)]; exact ⟨(zb_f (fun q : takP (σ0 11) cc_ u => by first | exact c_4 q.1 | exact c_17 q.2)).symm, rfl⟩)
theorem kd_X4_must : yX4_must.cls = RX4 ∧ yX4_must.cls ≠ "java/lang/invoke/MethodHandle" ∧ yX4_must.cls ≠ "java/lang/invoke/VarHandle" ∧ (parseMethodDescriptor yX4_must.desc).map (fun d => d.parameters.length) = some 1 := by decide +kernel
theorem mm_must (l : Launch) (G : MG) (σ0 : St) (t : Int) (u : PS) (cc_ : Int) (sz : Nat) (hT : TK (σ0 11) (σ0 12) (σ0 13) t) (hB : BS t u) (hc0 : 1 ≤ cc_) (hc1 : cc_ ≤ 1000) : Met l yX4_must (ws_ yX4_must cX4_must 2 none) (rmD 3) (mP G [.ref (G.2.2 0), .int (iI cc_)] (psS σ0 u) sz) (mQv G (psS σ0 u) sz (fun σ' => σ' = psS σ0 (musP (σ0 11) (σ0 13) cc_ u))) 0 0 (mA G (psS σ0 u) sz) := by
  refine m_start (by decide) (Nat.le_of_ble_eq_true rfl) ?_
  intro p e s m below meth c ⟨S, hr, hlk, hH, hK, hj, hsz, hnm⟩ ls hl
  subst hsz
  obtain ⟨hx, hb, hml, hown, hts⟩ := S
  have S : CallFix p m c _ _ s _ lw_all RX4 := ⟨hx, hb, hml, hown, hts⟩
  have hA : ∀ q, s.heap.size ≤ q → mA G (psS σ0 u) s.heap.size q := fun q hq => Or.inr hq
  have hl : lv_has ls 2 [(0, .ref (G.2.2 0)), (1, .int (iI cc_))] := hl
  have b0 := hB
  unfold BS at b0
  have t0 := hT
  unfold TK at t0
  have t1 := t0.2.2 u.1 (by omega) (by omega)
  refine lv_aload_n hx hb dX4_must_0 rfl (lv_at hl 0 rfl) ?_
  refine lv_iload_n hx hb dX4_must_1 rfl (lv_at hl 1 rfl) ?_
  refine m_calliF (m_runV (As := [.int (iI cc_)]) (rest := []) S hH hK hj hl.1 (mm_takes l G σ0 _ u cc_ _ hT hB (by omega) (by omega)) (lw_V q1747 q1749 qs62 q109 q1750) kd_X4_takes rfl rfl dX4_must_2) hH hA (fun H locs hH => ?_)
  refine z_if_ne (tgt := 12) hx hb dX4_must_5 (by decide) (fun c_5 => ?_) (fun c_5 => ?_)
  · -- 5T
    rw [if_pos c_5] at hH
    refine m_vret hx hb hr hlk hH dX4_must_12 ?_
    unfold musP
    rw [if_pos c_5]
  · -- 5F
    rw [if_neg c_5] at hH
    refine lv_aload_n hx hb dX4_must_8 rfl (lv_at hl 0 rfl) ?_
    refine m_callvF (m_runV (As := []) (rest := []) S hH hK hj hl.1 (mm_faults l G σ0 _ u _ hT hB) (lw_V q1770 q1772 qs67 q109 q1773) kd_X4_faults rfl rfl dX4_must_9) hH hA (fun H locs hH => ?_)
    refine m_vret hx hb hr hlk hH dX4_must_12 ?_
    unfold musP
    rw [if_neg c_5]
theorem kd_X4_leaf : yX4_leaf.cls = RX4 ∧ yX4_leaf.cls ≠ "java/lang/invoke/MethodHandle" ∧ yX4_leaf.cls ≠ "java/lang/invoke/VarHandle" ∧ (parseMethodDescriptor yX4_leaf.desc).map (fun d => d.parameters.length) = some 0 := by decide +kernel
theorem mm_leaf (l : Launch) (G : MG) (σ0 : St) (t : Int) (u : PS) (sz : Nat) (hT : TK (σ0 11) (σ0 12) (σ0 13) t) (hB : BS t u) (hf : u.2.2 = -1) : Met l yX4_leaf (ws_ yX4_leaf cX4_leaf 1 none) (rmD 3) (mP G [.ref (G.2.2 0)] (psS σ0 u) sz) (mQv G (psS σ0 u) sz (fun σ' => σ' = psS σ0 (leaP (σ0 13) u))) 0 0 (mA G (psS σ0 u) sz) := by
  refine m_start (by decide) (Nat.le_of_ble_eq_true rfl) ?_
  intro p e s m below meth c ⟨S, hr, hlk, hH, hK, hj, hsz, hnm⟩ ls hl
  subst hsz
  obtain ⟨hx, hb, hml, hown, hts⟩ := S
  have S : CallFix p m c _ _ s _ lw_all RX4 := ⟨hx, hb, hml, hown, hts⟩
  have hA : ∀ q, s.heap.size ≤ q → mA G (psS σ0 u) s.heap.size q := fun q hq => Or.inr hq
  have hl : lv_has ls 1 [(0, .ref (G.2.2 0))] := hl
  have b0 := hB
  unfold BS at b0
  have t0 := hT
  unfold TK at t0
  have t1 := t0.2.2 u.1 (by omega) (by omega)
  have L13 : ∀ (τ : St), (hτ : τ = psS σ0 (if u.2.1 = 50 then fauP (σ0 13) u else u)) → ∀ (H : Heap) (locs : List Loc) (ls : Array Slot), MH G (mA G (psS σ0 u) s.heap.size) τ s.heap H locs → lv_has ls 1 [(0, .ref (G.2.2 0))] → W p l e (rmD 3) s m ([.ref (G.2.2 0)] : List Value).toArray below meth c H locs 0 0 (MQ below (mQv G (psS σ0 u) s.heap.size (fun σ' => σ' = psS σ0 (leaP (σ0 13) u))) ([.ref (G.2.2 0)] : List Value).toArray s 0 0 (mA G (psS σ0 u) s.heap.size)) (F0 m 13 ls []) := by
    intro τ hτ H locs ls hH hl
    subst hτ
    have hB2 : BS t (if u.2.1 = 50 then fauP (σ0 13) u else u) := by
      split
      · exact BS_fau hT hB
      · exact hB
    have hB3 := BS_leaQ hT hB hf
    refine lv_aload_n hx hb dX4_leaf_13 rfl (lv_at hl 0 rfl) ?_
    refine lv_dup hx hb dX4_leaf_14 rfl ?_
    refine m_get 16 (by decide) hx hb hts hown hK hj hH q1489 (fun _ h9 => h9) rfl dX4_leaf_15 ?_
    refine W.eq (g2 := F0 m 18 ls (.int (iI ((if u.2.1 = 50 then fauP (σ0 13) u else u).2.1)) :: .ref (G.2.2 0) :: [])) rfl ?_
    refine n_iconst hx hb dX4_leaf_18 ?_
    refine n_iadd hx hb dX4_leaf_19 ?_
    refine mp_16 hx hb hts hown hK hj hH q1489 (fun _ h9 => h9) dX4_leaf_20 (fun H locs hH => ?_)
    have hH := MH_to hH (τ := psS σ0 ((if u.2.1 = 50 then fauP (σ0 13) u else u).1, ((if u.2.1 = 50 then fauP (σ0 13) u else u).2.1) + 1, (if u.2.1 = 50 then fauP (σ0 13) u else u).2.2)) psS_16
    have hH := MH_to hH (τ := psS σ0 (leaQ (σ0 13) u)) (rfl)
    refine lv_aload_n hx hb dX4_leaf_23 rfl (lv_at hl 0 rfl) ?_
    refine m_calliF (m_runV (As := []) (rest := []) S hH hK hj hl.1 (mm_fine l G σ0 t (leaQ (σ0 13) u) _ hT hB3) (lw_V q1751 q1753 qs63 q109 q1754) kd_X4_fine rfl rfl dX4_leaf_24) hH hA (fun H locs hH => ?_)
    refine z_if_eq (tgt := 40) hx hb dX4_leaf_27 (by decide) (fun c_27 => ?_) (fun c_27 => ?_)
    · -- 27T
      refine m_vret hx hb hr hlk hH dX4_leaf_40 ?_
      unfold leaP
      rw [if_neg c_27]
    · -- 27F
      refine lv_aload_n hx hb dX4_leaf_30 rfl (lv_at hl 0 rfl) ?_
      refine lv_dup hx hb dX4_leaf_31 rfl ?_
      refine m_get 15 (by decide) hx hb hts hown hK hj hH q1488 (fun _ h9 => h9) rfl dX4_leaf_32 ?_
      refine W.eq (g2 := F0 m 35 ls (.int (iI ((leaQ (σ0 13) u).1)) :: .ref (G.2.2 0) :: [])) rfl ?_
      refine n_iconst hx hb dX4_leaf_35 ?_
      refine n_iadd hx hb dX4_leaf_36 ?_
      refine mp_15 hx hb hts hown hK hj hH q1488 (fun _ h9 => h9) dX4_leaf_37 (fun H locs hH => ?_)
      have hH := MH_to hH (τ := psS σ0 (((leaQ (σ0 13) u).1) + 1, (leaQ (σ0 13) u).2.1, (leaQ (σ0 13) u).2.2)) psS_15
      refine m_vret hx hb hr hlk hH dX4_leaf_40 ?_
      unfold leaP
      rw [if_pos c_27]
      all_goals rfl
  refine lv_aload_n hx hb dX4_leaf_0 rfl (lv_at hl 0 rfl) ?_
  refine m_get 16 (by decide) hx hb hts hown hK hj hH q1489 (fun _ h9 => h9) rfl dX4_leaf_1 ?_
  refine W.eq (g2 := F0 m 4 ls (.int (iI u.2.1) :: [])) rfl ?_
  refine n_bipush (z := 50) hx hb dX4_leaf_4 (by decide) ?_
  refine n_icmp_ne (tgt := 13) hx hb (r32 (by omega)) (r32 (by omega)) dX4_leaf_6 (by decide) (fun c_6 => ?_) (fun c_6 => ?_)
  · -- 6T
    have hl : lv_has ls 1 [(0, .ref (G.2.2 0))] := lv_sub hl [0] rfl
    refine L13 (psS σ0 u) ?_ _ _ _ hH hl
    · first | rw [if_pos c_6] | rw [if_neg c_6]
  · -- 6F
    refine lv_aload_n hx hb dX4_leaf_9 rfl (lv_at hl 0 rfl) ?_
    refine m_callvF (m_runV (As := []) (rest := []) S hH hK hj hl.1 (mm_faults l G σ0 _ u _ hT hB) (lw_V q1770 q1772 qs67 q109 q1773) kd_X4_faults rfl rfl dX4_leaf_10) hH hA (fun H locs hH => ?_)
    have hl : lv_has ls 1 [(0, .ref (G.2.2 0))] := lv_sub hl [0] rfl
    refine L13 (psS σ0 (fauP (σ0 13) u)) ?_ _ _ _ hH hl
    · first | rw [if_pos c_6] | rw [if_neg c_6]
