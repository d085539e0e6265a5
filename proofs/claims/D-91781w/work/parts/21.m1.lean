theorem kd_X4_in : yX4_in.cls = RX4 ∧ yX4_in.cls ≠ "java/lang/invoke/MethodHandle" ∧ yX4_in.cls ≠ "java/lang/invoke/VarHandle" ∧ (parseMethodDescriptor yX4_in.desc).map (fun d => d.parameters.length) = some 3 := by decide +kernel
theorem mm_in (l : Launch) (G : MG) (σ : St) (v : Int) (low : Int) (high : Int) (sz : Nat) (h_v : R32 v) (h_low : R32 low) (h_high : R32 high) : Met l yX4_in (ws_ yX4_in cX4_in 3 (some .boolean)) (rmD 1) (mP G [.int (iI v), .int (iI low), .int (iI high)] σ sz) (mQi G σ sz (fun z σ' => z = zb (low ≤ v ∧ v ≤ high) ∧ σ' = σ)) 0 0 (mA G σ sz) := by
  refine m_start (by decide) (Nat.le_of_ble_eq_true rfl) ?_
  intro p e s m below meth c ⟨S, hr, hlk, hH, hK, hj, hsz, hnm⟩ ls hl
  subst hsz
  obtain ⟨hx, hb, hml, hown, hts⟩ := S
  have S : CallFix p m c _ _ s _ lw_all RX4 := ⟨hx, hb, hml, hown, hts⟩
  have hA : ∀ q, s.heap.size ≤ q → mA G σ s.heap.size q := fun q hq => Or.inr hq
  have hl : lv_has ls 3 [(0, .int (iI v)), (1, .int (iI low)), (2, .int (iI high))] := hl
  have h_v := R32.n h_v
  have h_low := R32.n h_low
  have h_high := R32.n h_high
  refine lv_iload_n hx hb dX4_in_0 rfl (lv_at hl 0 rfl) ?_
  refine lv_iload_n hx hb dX4_in_1 rfl (lv_at hl 1 rfl) ?_
  refine n_icmp_lt (tgt := 14) hx hb (r32 (by omega)) (r32 (by omega)) dX4_in_2 (by decide) (fun c_2 => ?_) (fun c_2 => ?_)
  · -- 2T
    refine n_iconst hx hb dX4_in_14 ?_
    refine m_zret hx hb hr hlk hH dX4_in_15 (Or.inl rfl) ?_
    exact ⟨(zb_f (by omega)).symm, rfl⟩
  · -- 2F
    refine lv_iload_n hx hb dX4_in_5 rfl (lv_at hl 0 rfl) ?_
    refine lv_iload_n hx hb dX4_in_6 rfl (lv_at hl 2 rfl) ?_
    refine n_icmp_gt (tgt := 14) hx hb (r32 (by omega)) (r32 (by omega)) dX4_in_7 (by decide) (fun c_7 => ?_) (fun c_7 => ?_)
    · -- 7T
      refine n_iconst hx hb dX4_in_14 ?_
      refine m_zret hx hb hr hlk hH dX4_in_15 (Or.inl rfl) ?_
      exact ⟨(zb_f (by omega)).symm, rfl⟩
    · -- 7F
      refine n_iconst hx hb dX4_in_10 ?_
      refine lv_goto (tgt := 15) hx hb dX4_in_11 (by decide) ?_
      refine m_zret hx hb hr hlk hH dX4_in_15 (Or.inr rfl) ?_
      exact ⟨(zb_t (by omega)).symm, rfl⟩
theorem kd_X4_refuses : yX4_refuses.cls = RX4 ∧ yX4_refuses.cls ≠ "java/lang/invoke/MethodHandle" ∧ yX4_refuses.cls ≠ "java/lang/invoke/VarHandle" ∧ (parseMethodDescriptor yX4_refuses.desc).map (fun d => d.parameters.length) = some 1 := by decide +kernel
def refS (σ : St) (code : Int) : St := st (st σ 0 0 code) 1 (-code) (σ 1 (-code) + 1)
theorem mm_refuses (l : Launch) (G : MG) (σ : St) (code : Int) (sz : Nat) (h1 : -6 ≤ code) (h2 : code ≤ -1) : Met l yX4_refuses (ws_ yX4_refuses cX4_refuses 2 (some .int)) (rmD 1) (mP G [.ref (G.2.2 0), .int (iI code)] σ sz) (mQi G σ sz (fun z σ' => z = code ∧ σ' = refS σ code)) 0 0 (mA G σ sz) := by
  refine m_start (by decide) (Nat.le_of_ble_eq_true rfl) ?_
  intro p e s m below meth c ⟨S, hr, hlk, hH, hK, hj, hsz, hnm⟩ ls hl
  subst hsz
  obtain ⟨hx, hb, hml, hown, hts⟩ := S
  have S : CallFix p m c _ _ s _ lw_all RX4 := ⟨hx, hb, hml, hown, hts⟩
  have hA : ∀ q, s.heap.size ≤ q → mA G σ s.heap.size q := fun q hq => Or.inr hq
  have hl : lv_has ls 2 [(0, .ref (G.2.2 0)), (1, .int (iI code))] := hl
  refine lv_aload_n hx hb dX4_refuses_0 rfl (lv_at hl 0 rfl) ?_
  refine lv_iload_n hx hb dX4_refuses_1 rfl (lv_at hl 1 rfl) ?_
  refine mp_0 hx hb hts hown hK hj hH q1473 (fun _ h9 => h9) dX4_refuses_2 (fun H locs hH => ?_)
  refine lv_aload_n hx hb dX4_refuses_5 rfl (lv_at hl 0 rfl) ?_
  refine m_get 1 (by decide) hx hb hts hown hK hj hH q1474 (fun _ h9 => h9) rfl dX4_refuses_6 ?_
  refine lv_iload_n hx hb dX4_refuses_9 rfl (lv_at hl 1 rfl) ?_
  refine n_ineg hx hb dX4_refuses_10 ?_
  refine lv_dup2_11 hx hb dX4_refuses_11 rfl rfl ?_
  refine ml_1 hx hb hK hj hH (by omega) (by omega) dX4_refuses_12 ?_
  refine n_iconst hx hb dX4_refuses_13 ?_
  refine n_iadd hx hb dX4_refuses_14 ?_
  refine ms_1 hx hb hK hj hH (by omega) (by omega) dX4_refuses_15 (fun H locs hH => ?_)
  refine lv_iload_n hx hb dX4_refuses_16 rfl (lv_at hl 1 rfl) ?_
  refine m_iret hx hb hr hlk hH dX4_refuses_17 ?_
  exact ⟨rfl, rfl⟩
theorem kd_X4_good : yX4_good.cls = RX4 ∧ yX4_good.cls ≠ "java/lang/invoke/MethodHandle" ∧ yX4_good.cls ≠ "java/lang/invoke/VarHandle" ∧ (parseMethodDescriptor yX4_good.desc).map (fun d => d.parameters.length) = some 1 := by decide +kernel
def goodS (σ : St) : St := st σ 0 0 0
theorem mm_good (l : Launch) (G : MG) (σ : St) (v : Int) (sz : Nat) : Met l yX4_good (ws_ yX4_good cX4_good 2 (some .int)) (rmD 1) (mP G [.ref (G.2.2 0), .int (iI v)] σ sz) (mQi G σ sz (fun z σ' => z = v ∧ σ' = goodS σ)) 0 0 (mA G σ sz) := by
  refine m_start (by decide) (Nat.le_of_ble_eq_true rfl) ?_
  intro p e s m below meth c ⟨S, hr, hlk, hH, hK, hj, hsz, hnm⟩ ls hl
  subst hsz
  obtain ⟨hx, hb, hml, hown, hts⟩ := S
  have S : CallFix p m c _ _ s _ lw_all RX4 := ⟨hx, hb, hml, hown, hts⟩
  have hA : ∀ q, s.heap.size ≤ q → mA G σ s.heap.size q := fun q hq => Or.inr hq
  have hl : lv_has ls 2 [(0, .ref (G.2.2 0)), (1, .int (iI v))] := hl
  refine lv_aload_n hx hb dX4_good_0 rfl (lv_at hl 0 rfl) ?_
  refine n_iconst hx hb dX4_good_1 ?_
  refine mp_0 hx hb hts hown hK hj hH q1473 (fun _ h9 => h9) dX4_good_2 (fun H locs hH => ?_)
  refine lv_iload_n hx hb dX4_good_5 rfl (lv_at hl 1 rfl) ?_
  refine m_iret hx hb hr hlk hH dX4_good_6 ?_
  exact ⟨rfl, rfl⟩
theorem kd_X4_isKind : yX4_isKind.cls = RX4 ∧ yX4_isKind.cls ≠ "java/lang/invoke/MethodHandle" ∧ yX4_isKind.cls ≠ "java/lang/invoke/VarHandle" ∧ (parseMethodDescriptor yX4_isKind.desc).map (fun d => d.parameters.length) = some 1 := by decide +kernel
theorem mm_isKind (l : Launch) (G : MG) (σ : St) (k : Int) (sz : Nat) (h_k : R32 k) (h0 : 0 ≤ σ 2 1752) (h1 : σ 2 1752 ≤ 1000) : Met l yX4_isKind (ws_ yX4_isKind cX4_isKind 2 (some .boolean)) (rmD 2) (mP G [.ref (G.2.2 0), .int (iI k)] σ sz) (mQi G σ sz (fun z σ' => z = zb (0 ≤ k ∧ k ≤ σ 2 1752 - 1) ∧ σ' = σ)) 0 0 (mA G σ sz) := by
  refine m_start (by decide) (Nat.le_of_ble_eq_true rfl) ?_
  intro p e s m below meth c ⟨S, hr, hlk, hH, hK, hj, hsz, hnm⟩ ls hl
  subst hsz
  obtain ⟨hx, hb, hml, hown, hts⟩ := S
  have S : CallFix p m c _ _ s _ lw_all RX4 := ⟨hx, hb, hml, hown, hts⟩
  have hA : ∀ q, s.heap.size ≤ q → mA G σ s.heap.size q := fun q hq => Or.inr hq
  have hl : lv_has ls 2 [(0, .ref (G.2.2 0)), (1, .int (iI k))] := hl
  have h_k := R32.n h_k
  refine lv_iload_n hx hb dX4_isKind_0 rfl (lv_at hl 1 rfl) ?_
  refine n_iconst hx hb dX4_isKind_1 ?_
  refine lv_aload_n hx hb dX4_isKind_2 rfl (lv_at hl 0 rfl) ?_
  refine m_get 2 (by decide) hx hb hts hown hK hj hH q1475 (fun _ h9 => h9) rfl dX4_isKind_3 ?_
  refine n_sipush (z := 1752) hx hb dX4_isKind_6 (by decide) ?_
  refine ml_2 hx hb hK hj hH (by omega) (by omega) dX4_isKind_9 ?_
  refine n_iconst hx hb dX4_isKind_10 ?_
  refine n_isub hx hb dX4_isKind_11 ?_
  refine m_calliF (m_runS (As := [.int (iI k), .int (iI 0), .int (iI ((σ 2 1752) - 1))]) (rest := []) S hH hK hj hl.1 (mm_in l G σ k 0 ((σ 2 1752) - 1) _ (r32 (by omega)) (r32 (by omega)) (r32 (by omega))) (lw_S q1569 q1570 q109 q1571) kd_X4_in rfl rfl dX4_isKind_12) hH hA (fun H locs hH => ?_)
  refine m_zret hx hb hr hlk hH dX4_isKind_15 zb_01 ?_
  exact ⟨rfl, rfl⟩
theorem kd_X4_isFlask : yX4_isFlask.cls = RX4 ∧ yX4_isFlask.cls ≠ "java/lang/invoke/MethodHandle" ∧ yX4_isFlask.cls ≠ "java/lang/invoke/VarHandle" ∧ (parseMethodDescriptor yX4_isFlask.desc).map (fun d => d.parameters.length) = some 1 := by decide +kernel
theorem mm_isFlask (l : Launch) (G : MG) (σ : St) (k : Int) (sz : Nat) (h_k : R32 k) (h0 : 0 ≤ σ 2 1753) (h1 : σ 2 1753 ≤ 1000) : Met l yX4_isFlask (ws_ yX4_isFlask cX4_isFlask 2 (some .boolean)) (rmD 2) (mP G [.ref (G.2.2 0), .int (iI k)] σ sz) (mQi G σ sz (fun z σ' => z = zb (0 ≤ k ∧ k ≤ σ 2 1753 - 1) ∧ σ' = σ)) 0 0 (mA G σ sz) := by
  refine m_start (by decide) (Nat.le_of_ble_eq_true rfl) ?_
  intro p e s m below meth c ⟨S, hr, hlk, hH, hK, hj, hsz, hnm⟩ ls hl
  subst hsz
  obtain ⟨hx, hb, hml, hown, hts⟩ := S
  have S : CallFix p m c _ _ s _ lw_all RX4 := ⟨hx, hb, hml, hown, hts⟩
  have hA : ∀ q, s.heap.size ≤ q → mA G σ s.heap.size q := fun q hq => Or.inr hq
  have hl : lv_has ls 2 [(0, .ref (G.2.2 0)), (1, .int (iI k))] := hl
  have h_k := R32.n h_k
  refine lv_iload_n hx hb dX4_isFlask_0 rfl (lv_at hl 1 rfl) ?_
  refine n_iconst hx hb dX4_isFlask_1 ?_
  refine lv_aload_n hx hb dX4_isFlask_2 rfl (lv_at hl 0 rfl) ?_
  refine m_get 2 (by decide) hx hb hts hown hK hj hH q1475 (fun _ h9 => h9) rfl dX4_isFlask_3 ?_
  refine n_sipush (z := 1753) hx hb dX4_isFlask_6 (by decide) ?_
  refine ml_2 hx hb hK hj hH (by omega) (by omega) dX4_isFlask_9 ?_
  refine n_iconst hx hb dX4_isFlask_10 ?_
  refine n_isub hx hb dX4_isFlask_11 ?_
  refine m_calliF (m_runS (As := [.int (iI k), .int (iI 0), .int (iI ((σ 2 1753) - 1))]) (rest := []) S hH hK hj hl.1 (mm_in l G σ k 0 ((σ 2 1753) - 1) _ (r32 (by omega)) (r32 (by omega)) (r32 (by omega))) (lw_S q1569 q1570 q109 q1571) kd_X4_in rfl rfl dX4_isFlask_12) hH hA (fun H locs hH => ?_)
  refine m_zret hx hb hr hlk hH dX4_isFlask_15 zb_01 ?_
  exact ⟨rfl, rfl⟩
theorem kd_X4_isLook : yX4_isLook.cls = RX4 ∧ yX4_isLook.cls ≠ "java/lang/invoke/MethodHandle" ∧ yX4_isLook.cls ≠ "java/lang/invoke/VarHandle" ∧ (parseMethodDescriptor yX4_isLook.desc).map (fun d => d.parameters.length) = some 1 := by decide +kernel
theorem mm_isLook (l : Launch) (G : MG) (σ : St) (k : Int) (sz : Nat) (h_k : R32 k) (h0 : 0 ≤ σ 2 1754) (h1 : σ 2 1754 ≤ 1000) : Met l yX4_isLook (ws_ yX4_isLook cX4_isLook 2 (some .boolean)) (rmD 2) (mP G [.ref (G.2.2 0), .int (iI k)] σ sz) (mQi G σ sz (fun z σ' => z = zb (0 ≤ k ∧ k ≤ σ 2 1754 - 1) ∧ σ' = σ)) 0 0 (mA G σ sz) := by
  refine m_start (by decide) (Nat.le_of_ble_eq_true rfl) ?_
  intro p e s m below meth c ⟨S, hr, hlk, hH, hK, hj, hsz, hnm⟩ ls hl
  subst hsz
  obtain ⟨hx, hb, hml, hown, hts⟩ := S
  have S : CallFix p m c _ _ s _ lw_all RX4 := ⟨hx, hb, hml, hown, hts⟩
  have hA : ∀ q, s.heap.size ≤ q → mA G σ s.heap.size q := fun q hq => Or.inr hq
  have hl : lv_has ls 2 [(0, .ref (G.2.2 0)), (1, .int (iI k))] := hl
  have h_k := R32.n h_k
  refine lv_iload_n hx hb dX4_isLook_0 rfl (lv_at hl 1 rfl) ?_
  refine n_iconst hx hb dX4_isLook_1 ?_
  refine lv_aload_n hx hb dX4_isLook_2 rfl (lv_at hl 0 rfl) ?_
  refine m_get 2 (by decide) hx hb hts hown hK hj hH q1475 (fun _ h9 => h9) rfl dX4_isLook_3 ?_
  refine n_sipush (z := 1754) hx hb dX4_isLook_6 (by decide) ?_
  refine ml_2 hx hb hK hj hH (by omega) (by omega) dX4_isLook_9 ?_
  refine n_iconst hx hb dX4_isLook_10 ?_
  refine n_isub hx hb dX4_isLook_11 ?_
  refine m_calliF (m_runS (As := [.int (iI k), .int (iI 0), .int (iI ((σ 2 1754) - 1))]) (rest := []) S hH hK hj hl.1 (mm_in l G σ k 0 ((σ 2 1754) - 1) _ (r32 (by omega)) (r32 (by omega)) (r32 (by omega))) (lw_S q1569 q1570 q109 q1571) kd_X4_in rfl rfl dX4_isLook_12) hH hA (fun H locs hH => ?_)
  refine m_zret hx hb hr hlk hH dX4_isLook_15 zb_01 ?_
  exact ⟨rfl, rfl⟩
theorem kd_X4_isTrial : yX4_isTrial.cls = RX4 ∧ yX4_isTrial.cls ≠ "java/lang/invoke/MethodHandle" ∧ yX4_isTrial.cls ≠ "java/lang/invoke/VarHandle" ∧ (parseMethodDescriptor yX4_isTrial.desc).map (fun d => d.parameters.length) = some 1 := by decide +kernel
theorem mm_isTrial (l : Launch) (G : MG) (σ : St) (k : Int) (sz : Nat) (h_k : R32 k) (h0 : 0 ≤ σ 2 1755) (h1 : σ 2 1755 ≤ 1000) : Met l yX4_isTrial (ws_ yX4_isTrial cX4_isTrial 2 (some .boolean)) (rmD 2) (mP G [.ref (G.2.2 0), .int (iI k)] σ sz) (mQi G σ sz (fun z σ' => z = zb (0 ≤ k ∧ k ≤ σ 2 1755 - 1) ∧ σ' = σ)) 0 0 (mA G σ sz) := by
  refine m_start (by decide) (Nat.le_of_ble_eq_true rfl) ?_
  intro p e s m below meth c ⟨S, hr, hlk, hH, hK, hj, hsz, hnm⟩ ls hl
  subst hsz
  obtain ⟨hx, hb, hml, hown, hts⟩ := S
  have S : CallFix p m c _ _ s _ lw_all RX4 := ⟨hx, hb, hml, hown, hts⟩
  have hA : ∀ q, s.heap.size ≤ q → mA G σ s.heap.size q := fun q hq => Or.inr hq
  have hl : lv_has ls 2 [(0, .ref (G.2.2 0)), (1, .int (iI k))] := hl
  have h_k := R32.n h_k
  refine lv_iload_n hx hb dX4_isTrial_0 rfl (lv_at hl 1 rfl) ?_
  refine n_iconst hx hb dX4_isTrial_1 ?_
  refine lv_aload_n hx hb dX4_isTrial_2 rfl (lv_at hl 0 rfl) ?_
  refine m_get 2 (by decide) hx hb hts hown hK hj hH q1475 (fun _ h9 => h9) rfl dX4_isTrial_3 ?_
  refine n_sipush (z := 1755) hx hb dX4_isTrial_6 (by decide) ?_
  refine ml_2 hx hb hK hj hH (by omega) (by omega) dX4_isTrial_9 ?_
  refine n_iconst hx hb dX4_isTrial_10 ?_
  refine n_isub hx hb dX4_isTrial_11 ?_
  refine m_calliF (m_runS (As := [.int (iI k), .int (iI 0), .int (iI ((σ 2 1755) - 1))]) (rest := []) S hH hK hj hl.1 (mm_in l G σ k 0 ((σ 2 1755) - 1) _ (r32 (by omega)) (r32 (by omega)) (r32 (by omega))) (lw_S q1569 q1570 q109 q1571) kd_X4_in rfl rfl dX4_isTrial_12) hH hA (fun H locs hH => ?_)
  refine m_zret hx hb hr hlk hH dX4_isTrial_15 zb_01 ?_
  exact ⟨rfl, rfl⟩
theorem kd_X4_isText : yX4_isText.cls = RX4 ∧ yX4_isText.cls ≠ "java/lang/invoke/MethodHandle" ∧ yX4_isText.cls ≠ "java/lang/invoke/VarHandle" ∧ (parseMethodDescriptor yX4_isText.desc).map (fun d => d.parameters.length) = some 1 := by decide +kernel
theorem mm_isText (l : Launch) (G : MG) (σ : St) (k : Int) (sz : Nat) (h_k : R32 k) (h0 : 0 ≤ σ 2 1756) (h1 : σ 2 1756 ≤ 1000) : Met l yX4_isText (ws_ yX4_isText cX4_isText 2 (some .boolean)) (rmD 2) (mP G [.ref (G.2.2 0), .int (iI k)] σ sz) (mQi G σ sz (fun z σ' => z = zb (0 ≤ k ∧ k ≤ σ 2 1756 - 1) ∧ σ' = σ)) 0 0 (mA G σ sz) := by
  refine m_start (by decide) (Nat.le_of_ble_eq_true rfl) ?_
  intro p e s m below meth c ⟨S, hr, hlk, hH, hK, hj, hsz, hnm⟩ ls hl
  subst hsz
  obtain ⟨hx, hb, hml, hown, hts⟩ := S
  have S : CallFix p m c _ _ s _ lw_all RX4 := ⟨hx, hb, hml, hown, hts⟩
  have hA : ∀ q, s.heap.size ≤ q → mA G σ s.heap.size q := fun q hq => Or.inr hq
  have hl : lv_has ls 2 [(0, .ref (G.2.2 0)), (1, .int (iI k))] := hl
  have h_k := R32.n h_k
  refine lv_iload_n hx hb dX4_isText_0 rfl (lv_at hl 1 rfl) ?_
  refine n_iconst hx hb dX4_isText_1 ?_
  refine lv_aload_n hx hb dX4_isText_2 rfl (lv_at hl 0 rfl) ?_
  refine m_get 2 (by decide) hx hb hts hown hK hj hH q1475 (fun _ h9 => h9) rfl dX4_isText_3 ?_
  refine n_sipush (z := 1756) hx hb dX4_isText_6 (by decide) ?_
  refine ml_2 hx hb hK hj hH (by omega) (by omega) dX4_isText_9 ?_
  refine n_iconst hx hb dX4_isText_10 ?_
  refine n_isub hx hb dX4_isText_11 ?_
  refine m_calliF (m_runS (As := [.int (iI k), .int (iI 0), .int (iI ((σ 2 1756) - 1))]) (rest := []) S hH hK hj hl.1 (mm_in l G σ k 0 ((σ 2 1756) - 1) _ (r32 (by omega)) (r32 (by omega)) (r32 (by omega))) (lw_S q1569 q1570 q109 q1571) kd_X4_in rfl rfl dX4_isText_12) hH hA (fun H locs hH => ?_)
  refine m_zret hx hb hr hlk hH dX4_isText_15 zb_01 ?_
  exact ⟨rfl, rfl⟩
theorem kd_X4_isCourt : yX4_isCourt.cls = RX4 ∧ yX4_isCourt.cls ≠ "java/lang/invoke/MethodHandle" ∧ yX4_isCourt.cls ≠ "java/lang/invoke/VarHandle" ∧ (parseMethodDescriptor yX4_isCourt.desc).map (fun d => d.parameters.length) = some 1 := by decide +kernel
theorem mm_isCourt (l : Launch) (G : MG) (σ : St) (k : Int) (sz : Nat) (h_k : R32 k) (h0 : 0 ≤ σ 2 1757) (h1 : σ 2 1757 ≤ 1000) : Met l yX4_isCourt (ws_ yX4_isCourt cX4_isCourt 2 (some .boolean)) (rmD 2) (mP G [.ref (G.2.2 0), .int (iI k)] σ sz) (mQi G σ sz (fun z σ' => z = zb (0 ≤ k ∧ k ≤ σ 2 1757 - 1) ∧ σ' = σ)) 0 0 (mA G σ sz) := by
  refine m_start (by decide) (Nat.le_of_ble_eq_true rfl) ?_
  intro p e s m below meth c ⟨S, hr, hlk, hH, hK, hj, hsz, hnm⟩ ls hl
  subst hsz
  obtain ⟨hx, hb, hml, hown, hts⟩ := S
  have S : CallFix p m c _ _ s _ lw_all RX4 := ⟨hx, hb, hml, hown, hts⟩
  have hA : ∀ q, s.heap.size ≤ q → mA G σ s.heap.size q := fun q hq => Or.inr hq
  have hl : lv_has ls 2 [(0, .ref (G.2.2 0)), (1, .int (iI k))] := hl
  have h_k := R32.n h_k
  refine lv_iload_n hx hb dX4_isCourt_0 rfl (lv_at hl 1 rfl) ?_
  refine n_iconst hx hb dX4_isCourt_1 ?_
  refine lv_aload_n hx hb dX4_isCourt_2 rfl (lv_at hl 0 rfl) ?_
  refine m_get 2 (by decide) hx hb hts hown hK hj hH q1475 (fun _ h9 => h9) rfl dX4_isCourt_3 ?_
  refine n_sipush (z := 1757) hx hb dX4_isCourt_6 (by decide) ?_
  refine ml_2 hx hb hK hj hH (by omega) (by omega) dX4_isCourt_9 ?_
  refine n_iconst hx hb dX4_isCourt_10 ?_
  refine n_isub hx hb dX4_isCourt_11 ?_
  refine m_calliF (m_runS (As := [.int (iI k), .int (iI 0), .int (iI ((σ 2 1757) - 1))]) (rest := []) S hH hK hj hl.1 (mm_in l G σ k 0 ((σ 2 1757) - 1) _ (r32 (by omega)) (r32 (by omega)) (r32 (by omega))) (lw_S q1569 q1570 q109 q1571) kd_X4_in rfl rfl dX4_isCourt_12) hH hA (fun H locs hH => ?_)
  refine m_zret hx hb hr hlk hH dX4_isCourt_15 zb_01 ?_
  exact ⟨rfl, rfl⟩
theorem kd_X4_kindOf : yX4_kindOf.cls = RX4 ∧ yX4_kindOf.cls ≠ "java/lang/invoke/MethodHandle" ∧ yX4_kindOf.cls ≠ "java/lang/invoke/VarHandle" ∧ (parseMethodDescriptor yX4_kindOf.desc).map (fun d => d.parameters.length) = some 2 := by decide +kernel
theorem mm_kindOf (l : Launch) (G : MG) (σ : St) (k : Int) (field : Int) (sz : Nat) (h1 : 0 ≤ k) (h2 : k < 8) (h3 : 0 ≤ field) (h4 : field < 6) : Met l yX4_kindOf (ws_ yX4_kindOf cX4_kindOf 3 (some .int)) (rmD 1) (mP G [.ref (G.2.2 0), .int (iI k), .int (iI field)] σ sz) (mQi G σ sz (fun z σ' => z = σ 2 (136 + 6 * k + field) ∧ σ' = σ)) 0 0 (mA G σ sz) := by
  refine m_start (by decide) (Nat.le_of_ble_eq_true rfl) ?_
  intro p e s m below meth c ⟨S, hr, hlk, hH, hK, hj, hsz, hnm⟩ ls hl
  subst hsz
  obtain ⟨hx, hb, hml, hown, hts⟩ := S
  have S : CallFix p m c _ _ s _ lw_all RX4 := ⟨hx, hb, hml, hown, hts⟩
  have hA : ∀ q, s.heap.size ≤ q → mA G σ s.heap.size q := fun q hq => Or.inr hq
  have hl : lv_has ls 3 [(0, .ref (G.2.2 0)), (1, .int (iI k)), (2, .int (iI field))] := hl
  refine lv_aload_n hx hb dX4_kindOf_0 rfl (lv_at hl 0 rfl) ?_
  refine m_get 2 (by decide) hx hb hts hown hK hj hH q1475 (fun _ h9 => h9) rfl dX4_kindOf_1 ?_
  refine n_sipush (z := 136) hx hb dX4_kindOf_4 (by decide) ?_
  refine n_bipush (z := 6) hx hb dX4_kindOf_7 (by decide) ?_
  refine lv_iload_n hx hb dX4_kindOf_9 rfl (lv_at hl 1 rfl) ?_
  refine n_imul hx hb dX4_kindOf_10 ?_
  refine n_iadd hx hb dX4_kindOf_11 ?_
  refine lv_iload_n hx hb dX4_kindOf_12 rfl (lv_at hl 2 rfl) ?_
  refine n_iadd hx hb dX4_kindOf_13 ?_
  refine ml_2 hx hb hK hj hH (by omega) (by omega) dX4_kindOf_14 ?_
  refine m_iret hx hb hr hlk hH dX4_kindOf_15 ?_
  exact ⟨rfl, rfl⟩
theorem kd_X4_flaskOf : yX4_flaskOf.cls = RX4 ∧ yX4_flaskOf.cls ≠ "java/lang/invoke/MethodHandle" ∧ yX4_flaskOf.cls ≠ "java/lang/invoke/VarHandle" ∧ (parseMethodDescriptor yX4_flaskOf.desc).map (fun d => d.parameters.length) = some 2 := by decide +kernel
theorem mm_flaskOf (l : Launch) (G : MG) (σ : St) (f : Int) (field : Int) (sz : Nat) (h1 : 0 ≤ f) (h2 : f < 40) (h3 : 0 ≤ field) (h4 : field < 26) : Met l yX4_flaskOf (ws_ yX4_flaskOf cX4_flaskOf 3 (some .int)) (rmD 1) (mP G [.ref (G.2.2 0), .int (iI f), .int (iI field)] σ sz) (mQi G σ sz (fun z σ' => z = σ 2 (184 + 26 * f + field) ∧ σ' = σ)) 0 0 (mA G σ sz) := by
  refine m_start (by decide) (Nat.le_of_ble_eq_true rfl) ?_
  intro p e s m below meth c ⟨S, hr, hlk, hH, hK, hj, hsz, hnm⟩ ls hl
  subst hsz
  obtain ⟨hx, hb, hml, hown, hts⟩ := S
  have S : CallFix p m c _ _ s _ lw_all RX4 := ⟨hx, hb, hml, hown, hts⟩
  have hA : ∀ q, s.heap.size ≤ q → mA G σ s.heap.size q := fun q hq => Or.inr hq
  have hl : lv_has ls 3 [(0, .ref (G.2.2 0)), (1, .int (iI f)), (2, .int (iI field))] := hl
  refine lv_aload_n hx hb dX4_flaskOf_0 rfl (lv_at hl 0 rfl) ?_
  refine m_get 2 (by decide) hx hb hts hown hK hj hH q1475 (fun _ h9 => h9) rfl dX4_flaskOf_1 ?_
  refine n_sipush (z := 184) hx hb dX4_flaskOf_4 (by decide) ?_
  refine n_bipush (z := 26) hx hb dX4_flaskOf_7 (by decide) ?_
  refine lv_iload_n hx hb dX4_flaskOf_9 rfl (lv_at hl 1 rfl) ?_
  refine n_imul hx hb dX4_flaskOf_10 ?_
  refine n_iadd hx hb dX4_flaskOf_11 ?_
  refine lv_iload_n hx hb dX4_flaskOf_12 rfl (lv_at hl 2 rfl) ?_
  refine n_iadd hx hb dX4_flaskOf_13 ?_
  refine ml_2 hx hb hK hj hH (by omega) (by omega) dX4_flaskOf_14 ?_
  refine m_iret hx hb hr hlk hH dX4_flaskOf_15 ?_
  exact ⟨rfl, rfl⟩
theorem kd_X4_sets : yX4_sets.cls = RX4 ∧ yX4_sets.cls ≠ "java/lang/invoke/MethodHandle" ∧ yX4_sets.cls ≠ "java/lang/invoke/VarHandle" ∧ (parseMethodDescriptor yX4_sets.desc).map (fun d => d.parameters.length) = some 3 := by decide +kernel
theorem mm_sets (l : Launch) (G : MG) (σ : St) (f : Int) (field : Int) (v : Int) (sz : Nat) (h1 : 0 ≤ f) (h2 : f < 40) (h3 : 0 ≤ field) (h4 : field < 26) : Met l yX4_sets (ws_ yX4_sets cX4_sets 4 none) (rmD 1) (mP G [.ref (G.2.2 0), .int (iI f), .int (iI field), .int (iI v)] σ sz) (mQv G σ sz (fun σ' => σ' = st σ 2 (184 + 26 * f + field) v)) 0 0 (mA G σ sz) := by
  refine m_start (by decide) (Nat.le_of_ble_eq_true rfl) ?_
  intro p e s m below meth c ⟨S, hr, hlk, hH, hK, hj, hsz, hnm⟩ ls hl
  subst hsz
  obtain ⟨hx, hb, hml, hown, hts⟩ := S
  have S : CallFix p m c _ _ s _ lw_all RX4 := ⟨hx, hb, hml, hown, hts⟩
  have hA : ∀ q, s.heap.size ≤ q → mA G σ s.heap.size q := fun q hq => Or.inr hq
  have hl : lv_has ls 4 [(0, .ref (G.2.2 0)), (1, .int (iI f)), (2, .int (iI field)), (3, .int (iI v))] := hl
  refine lv_aload_n hx hb dX4_sets_0 rfl (lv_at hl 0 rfl) ?_
  refine m_get 2 (by decide) hx hb hts hown hK hj hH q1475 (fun _ h9 => h9) rfl dX4_sets_1 ?_
  refine n_sipush (z := 184) hx hb dX4_sets_4 (by decide) ?_
  refine n_bipush (z := 26) hx hb dX4_sets_7 (by decide) ?_
  refine lv_iload_n hx hb dX4_sets_9 rfl (lv_at hl 1 rfl) ?_
  refine n_imul hx hb dX4_sets_10 ?_
  refine n_iadd hx hb dX4_sets_11 ?_
  refine lv_iload_n hx hb dX4_sets_12 rfl (lv_at hl 2 rfl) ?_
  refine n_iadd hx hb dX4_sets_13 ?_
  refine lv_iload_n hx hb dX4_sets_14 rfl (lv_at hl 3 rfl) ?_
  refine ms_2 hx hb hK hj hH (by omega) (by omega) dX4_sets_15 (fun H locs hH => ?_)
  refine m_vret hx hb hr hlk hH dX4_sets_16 ?_
  rfl
theorem kd_X4_lookAt : yX4_lookAt.cls = RX4 ∧ yX4_lookAt.cls ≠ "java/lang/invoke/MethodHandle" ∧ yX4_lookAt.cls ≠ "java/lang/invoke/VarHandle" ∧ (parseMethodDescriptor yX4_lookAt.desc).map (fun d => d.parameters.length) = some 1 := by decide +kernel
theorem mm_lookAt (l : Launch) (G : MG) (σ : St) (k : Int) (sz : Nat) : Met l yX4_lookAt (ws_ yX4_lookAt cX4_lookAt 2 (some .int)) (rmD 1) (mP G [.ref (G.2.2 0), .int (iI k)] σ sz) (mQi G σ sz (fun z σ' => z = 1224 + 10 * k ∧ σ' = σ)) 0 0 (mA G σ sz) := by
  refine m_start (by decide) (Nat.le_of_ble_eq_true rfl) ?_
  intro p e s m below meth c ⟨S, hr, hlk, hH, hK, hj, hsz, hnm⟩ ls hl
  subst hsz
  obtain ⟨hx, hb, hml, hown, hts⟩ := S
  have S : CallFix p m c _ _ s _ lw_all RX4 := ⟨hx, hb, hml, hown, hts⟩
  have hA : ∀ q, s.heap.size ≤ q → mA G σ s.heap.size q := fun q hq => Or.inr hq
  have hl : lv_has ls 2 [(0, .ref (G.2.2 0)), (1, .int (iI k))] := hl
  refine n_sipush (z := 1224) hx hb dX4_lookAt_0 (by decide) ?_
  refine n_bipush (z := 10) hx hb dX4_lookAt_3 (by decide) ?_
  refine lv_iload_n hx hb dX4_lookAt_5 rfl (lv_at hl 1 rfl) ?_
  refine n_imul hx hb dX4_lookAt_6 ?_
  refine n_iadd hx hb dX4_lookAt_7 ?_
  refine m_iret hx hb hr hlk hH dX4_lookAt_8 ?_
  exact ⟨rfl, rfl⟩
theorem kd_X4_trialAt : yX4_trialAt.cls = RX4 ∧ yX4_trialAt.cls ≠ "java/lang/invoke/MethodHandle" ∧ yX4_trialAt.cls ≠ "java/lang/invoke/VarHandle" ∧ (parseMethodDescriptor yX4_trialAt.desc).map (fun d => d.parameters.length) = some 1 := by decide +kernel
theorem mm_trialAt (l : Launch) (G : MG) (σ : St) (k : Int) (sz : Nat) : Met l yX4_trialAt (ws_ yX4_trialAt cX4_trialAt 2 (some .int)) (rmD 1) (mP G [.ref (G.2.2 0), .int (iI k)] σ sz) (mQi G σ sz (fun z σ' => z = 1624 + 9 * k ∧ σ' = σ)) 0 0 (mA G σ sz) := by
  refine m_start (by decide) (Nat.le_of_ble_eq_true rfl) ?_
  intro p e s m below meth c ⟨S, hr, hlk, hH, hK, hj, hsz, hnm⟩ ls hl
  subst hsz
  obtain ⟨hx, hb, hml, hown, hts⟩ := S
  have S : CallFix p m c _ _ s _ lw_all RX4 := ⟨hx, hb, hml, hown, hts⟩
  have hA : ∀ q, s.heap.size ≤ q → mA G σ s.heap.size q := fun q hq => Or.inr hq
  have hl : lv_has ls 2 [(0, .ref (G.2.2 0)), (1, .int (iI k))] := hl
  refine n_sipush (z := 1624) hx hb dX4_trialAt_0 (by decide) ?_
  refine n_bipush (z := 9) hx hb dX4_trialAt_3 (by decide) ?_
  refine lv_iload_n hx hb dX4_trialAt_5 rfl (lv_at hl 1 rfl) ?_
  refine n_imul hx hb dX4_trialAt_6 ?_
  refine n_iadd hx hb dX4_trialAt_7 ?_
  refine m_iret hx hb hr hlk hH dX4_trialAt_8 ?_
  exact ⟨rfl, rfl⟩
theorem kd_X4_least : yX4_least.cls = RX4 ∧ yX4_least.cls ≠ "java/lang/invoke/MethodHandle" ∧ yX4_least.cls ≠ "java/lang/invoke/VarHandle" ∧ (parseMethodDescriptor yX4_least.desc).map (fun d => d.parameters.length) = some 2 := by decide +kernel
theorem mm_least (l : Launch) (G : MG) (σ : St) (a : Int) (b : Int) (sz : Nat) (h_a : R32 a) (h_b : R32 b) : Met l yX4_least (ws_ yX4_least cX4_least 2 (some .int)) (rmD 1) (mP G [.int (iI a), .int (iI b)] σ sz) (mQi G σ sz (fun z σ' => z = min a b ∧ σ' = σ)) 0 0 (mA G σ sz) := by
  refine m_start (by decide) (Nat.le_of_ble_eq_true rfl) ?_
  intro p e s m below meth c ⟨S, hr, hlk, hH, hK, hj, hsz, hnm⟩ ls hl
  subst hsz
  obtain ⟨hx, hb, hml, hown, hts⟩ := S
  have S : CallFix p m c _ _ s _ lw_all RX4 := ⟨hx, hb, hml, hown, hts⟩
  have hA : ∀ q, s.heap.size ≤ q → mA G σ s.heap.size q := fun q hq => Or.inr hq
  have hl : lv_has ls 2 [(0, .int (iI a)), (1, .int (iI b))] := hl
  have h_a := R32.n h_a
  have h_b := R32.n h_b
  refine lv_iload_n hx hb dX4_least_0 rfl (lv_at hl 0 rfl) ?_
  refine lv_iload_n hx hb dX4_least_1 rfl (lv_at hl 1 rfl) ?_
  refine n_icmp_ge (tgt := 9) hx hb (r32 (by omega)) (r32 (by omega)) dX4_least_2 (by decide) (fun c_2 => ?_) (fun c_2 => ?_)
  · -- 2T
    refine lv_iload_n hx hb dX4_least_9 rfl (lv_at hl 1 rfl) ?_
    refine m_iret hx hb hr hlk hH dX4_least_10 ?_
    exact ⟨by omega, rfl⟩
  · -- 2F
    refine lv_iload_n hx hb dX4_least_5 rfl (lv_at hl 0 rfl) ?_
    refine lv_goto (tgt := 10) hx hb dX4_least_6 (by decide) ?_
    refine m_iret hx hb hr hlk hH dX4_least_10 ?_
    exact ⟨by omega, rfl⟩
theorem kd_X4_seenAt : yX4_seenAt.cls = RX4 ∧ yX4_seenAt.cls ≠ "java/lang/invoke/MethodHandle" ∧ yX4_seenAt.cls ≠ "java/lang/invoke/VarHandle" ∧ (parseMethodDescriptor yX4_seenAt.desc).map (fun d => d.parameters.length) = some 1 := by decide +kernel
theorem mm_seenAt (l : Launch) (G : MG) (σ : St) (k : Int) (sz : Nat) (h1 : 0 ≤ k) (h2 : k < 40) : Met l yX4_seenAt (ws_ yX4_seenAt cX4_seenAt 2 (some .int)) (rmD 2) (mP G [.ref (G.2.2 0), .int (iI k)] σ sz) (mQi G σ sz (fun z σ' => z = σ 2 (1224 + 10 * k + 9) ∧ σ' = σ)) 0 0 (mA G σ sz) := by
  refine m_start (by decide) (Nat.le_of_ble_eq_true rfl) ?_
  intro p e s m below meth c ⟨S, hr, hlk, hH, hK, hj, hsz, hnm⟩ ls hl
  subst hsz
  obtain ⟨hx, hb, hml, hown, hts⟩ := S
  have S : CallFix p m c _ _ s _ lw_all RX4 := ⟨hx, hb, hml, hown, hts⟩
  have hA : ∀ q, s.heap.size ≤ q → mA G σ s.heap.size q := fun q hq => Or.inr hq
  have hl : lv_has ls 2 [(0, .ref (G.2.2 0)), (1, .int (iI k))] := hl
  refine lv_aload_n hx hb dX4_seenAt_0 rfl (lv_at hl 0 rfl) ?_
  refine m_get 2 (by decide) hx hb hts hown hK hj hH q1475 (fun _ h9 => h9) rfl dX4_seenAt_1 ?_
  refine lv_aload_n hx hb dX4_seenAt_4 rfl (lv_at hl 0 rfl) ?_
  refine lv_iload_n hx hb dX4_seenAt_5 rfl (lv_at hl 1 rfl) ?_
  refine m_calliF (m_runV (As := [.int (iI k)]) (rest := [.ref (G.2.2 2)]) S hH hK hj hl.1 (mm_lookAt l G σ k _ ) (lw_V q1682 q1684 qs54 q109 q1685) kd_X4_lookAt rfl rfl dX4_seenAt_6) hH hA (fun H locs hH => ?_)
  refine n_bipush (z := 9) hx hb dX4_seenAt_9 (by decide) ?_
  refine n_iadd hx hb dX4_seenAt_11 ?_
  refine ml_2 hx hb hK hj hH (by omega) (by omega) dX4_seenAt_12 ?_
  refine m_iret hx hb hr hlk hH dX4_seenAt_13 ?_
  exact ⟨rfl, rfl⟩
theorem kd_X4_status : yX4_status.cls = RX4 ∧ yX4_status.cls ≠ "java/lang/invoke/MethodHandle" ∧ yX4_status.cls ≠ "java/lang/invoke/VarHandle" ∧ (parseMethodDescriptor yX4_status.desc).map (fun d => d.parameters.length) = some 0 := by decide +kernel
theorem mm_status (l : Launch) (G : MG) (σ : St) (sz : Nat) : Met l yX4_status (ws_ yX4_status cX4_status 1 (some .int)) (rmD 1) (mP G [.ref (G.2.2 0)] σ sz) (mQi G σ sz (fun z σ' => z = σ 0 0 ∧ σ' = σ)) 0 0 (mA G σ sz) := by
  refine m_start (by decide) (Nat.le_of_ble_eq_true rfl) ?_
  intro p e s m below meth c ⟨S, hr, hlk, hH, hK, hj, hsz, hnm⟩ ls hl
  subst hsz
  obtain ⟨hx, hb, hml, hown, hts⟩ := S
  have S : CallFix p m c _ _ s _ lw_all RX4 := ⟨hx, hb, hml, hown, hts⟩
  have hA : ∀ q, s.heap.size ≤ q → mA G σ s.heap.size q := fun q hq => Or.inr hq
  have hl : lv_has ls 1 [(0, .ref (G.2.2 0))] := hl
  refine lv_aload_n hx hb dX4_status_0 rfl (lv_at hl 0 rfl) ?_
  refine m_get 0 (by decide) hx hb hts hown hK hj hH q1473 (fun _ h9 => h9) rfl dX4_status_1 ?_
  refine m_iret hx hb hr hlk hH dX4_status_4 ?_
  exact ⟨rfl, rfl⟩
theorem kd_X4_fault : yX4_fault.cls = RX4 ∧ yX4_fault.cls ≠ "java/lang/invoke/MethodHandle" ∧ yX4_fault.cls ≠ "java/lang/invoke/VarHandle" ∧ (parseMethodDescriptor yX4_fault.desc).map (fun d => d.parameters.length) = some 0 := by decide +kernel
theorem mm_fault (l : Launch) (G : MG) (σ : St) (sz : Nat) : Met l yX4_fault (ws_ yX4_fault cX4_fault 1 (some .int)) (rmD 1) (mP G [.ref (G.2.2 0)] σ sz) (mQi G σ sz (fun z σ' => z = σ 10 0 ∧ σ' = σ)) 0 0 (mA G σ sz) := by
  refine m_start (by decide) (Nat.le_of_ble_eq_true rfl) ?_
  intro p e s m below meth c ⟨S, hr, hlk, hH, hK, hj, hsz, hnm⟩ ls hl
  subst hsz
  obtain ⟨hx, hb, hml, hown, hts⟩ := S
  have S : CallFix p m c _ _ s _ lw_all RX4 := ⟨hx, hb, hml, hown, hts⟩
  have hA : ∀ q, s.heap.size ≤ q → mA G σ s.heap.size q := fun q hq => Or.inr hq
  have hl : lv_has ls 1 [(0, .ref (G.2.2 0))] := hl
  refine lv_aload_n hx hb dX4_fault_0 rfl (lv_at hl 0 rfl) ?_
  refine m_get 10 (by decide) hx hb hts hown hK hj hH q1483 (fun _ h9 => h9) rfl dX4_fault_1 ?_
  refine m_iret hx hb hr hlk hH dX4_fault_4 ?_
  exact ⟨rfl, rfl⟩
