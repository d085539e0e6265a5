theorem kd_X12_init : yX12_init.cls = RX12 ∧ yX12_init.cls ≠ "java/lang/invoke/MethodHandle" ∧ yX12_init.cls ≠ "java/lang/invoke/VarHandle" ∧ (parseMethodDescriptor yX12_init.desc).map (fun d => d.parameters.length) = some 0 := by decide +kernel
theorem xm_X12_init (l : Launch) (G : MG) (M : Hp) (y_ : Nat) (sz : Nat) : Met l yX12_init (ws_ yX12_init cX12_init 1 none) (rmD 1) (xP G XN [.ref y_] M sz) (xQv G (DA M sz) (fun M' => M' = M)) 0 0 (DA M sz) := by
  refine x_start (by decide) (Nat.le_of_ble_eq_true rfl) ?_
  intro p e s m below meth c ⟨S, hr, hlk, hH, hK, hXN, hsz, hnm⟩ ls hl
  subst hsz
  obtain ⟨hx, hb, hml, hown, hts⟩ := S
  have S : CallFix p m c _ _ s _ lw_all RX12 := ⟨hx, hb, hml, hown, hts⟩
  have hA : ∀ q, s.heap.size ≤ q → DA M s.heap.size q := fun q hq => Or.inr hq
  have hl : lv_has ls 1 [(0, .ref y_)] := hl
  refine lv_aload_n hx hb dX12_init_0 rfl (lv_at hl 0 rfl) ?_
  refine W.objInit hx hb hown (hts _ q1003) (hts _ q143) (hts _ q144) rfl (by rw [hml]; exact hl.1) rfl dX12_init_1 (Nat.le_of_ble_eq_true rfl) (Nat.le_of_ble_eq_true rfl) ?_
  refine x_vret hx hb hr hlk hH dX12_init_4 ?_
  rfl
theorem kd_X16_init : yX16_init.cls = RX16 ∧ yX16_init.cls ≠ "java/lang/invoke/MethodHandle" ∧ yX16_init.cls ≠ "java/lang/invoke/VarHandle" ∧ (parseMethodDescriptor yX16_init.desc).map (fun d => d.parameters.length) = some 0 := by decide +kernel
theorem xm_X16_init (l : Launch) (G : MG) (M : Hp) (y_ : Nat) (sz : Nat) : Met l yX16_init (ws_ yX16_init cX16_init 1 none) (rmD 1) (xP G XN [.ref y_] M sz) (xQv G (DA M sz) (fun M' => M' = M)) 0 0 (DA M sz) := by
  refine x_start (by decide) (Nat.le_of_ble_eq_true rfl) ?_
  intro p e s m below meth c ⟨S, hr, hlk, hH, hK, hXN, hsz, hnm⟩ ls hl
  subst hsz
  obtain ⟨hx, hb, hml, hown, hts⟩ := S
  have S : CallFix p m c _ _ s _ lw_all RX16 := ⟨hx, hb, hml, hown, hts⟩
  have hA : ∀ q, s.heap.size ≤ q → DA M s.heap.size q := fun q hq => Or.inr hq
  have hl : lv_has ls 1 [(0, .ref y_)] := hl
  refine lv_aload_n hx hb dX16_init_0 rfl (lv_at hl 0 rfl) ?_
  refine W.objInit hx hb hown (hts _ q1062) (hts _ q143) (hts _ q144) rfl (by rw [hml]; exact hl.1) rfl dX16_init_1 (Nat.le_of_ble_eq_true rfl) (Nat.le_of_ble_eq_true rfl) ?_
  refine x_vret hx hb hr hlk hH dX16_init_4 ?_
  rfl
theorem kd_X13_init : yX13_init.cls = RX13 ∧ yX13_init.cls ≠ "java/lang/invoke/MethodHandle" ∧ yX13_init.cls ≠ "java/lang/invoke/VarHandle" ∧ (parseMethodDescriptor yX13_init.desc).map (fun d => d.parameters.length) = some 1 := by decide +kernel
theorem xm_X13_init (l : Launch) (G : MG) (M : Hp) (y_ : Nat) (v_ : Int) (sz : Nat) (g1 : M y_ = some (oB 11 [.int (iI 0)])) : Met l yX13_init (ws_ yX13_init cX13_init 2 none) (rmD 2) (xP G XN [.ref y_, .int (iI v_)] M sz) (xQv G (DA M sz) (fun M' => M' = hs M y_ (oB 11 [.int (iI v_)]))) 0 0 (DA M sz) := by
  refine x_start (by decide) (Nat.le_of_ble_eq_true rfl) ?_
  intro p e s m below meth c ⟨S, hr, hlk, hH, hK, hXN, hsz, hnm⟩ ls hl
  subst hsz
  obtain ⟨hx, hb, hml, hown, hts⟩ := S
  have S : CallFix p m c _ _ s _ lw_all RX13 := ⟨hx, hb, hml, hown, hts⟩
  have hA : ∀ q, s.heap.size ≤ q → DA M s.heap.size q := fun q hq => Or.inr hq
  have hl : lv_has ls 2 [(0, .ref y_), (1, .int (iI v_))] := hl
  refine lv_aload_n hx hb dX13_init_0 rfl (lv_at hl 0 rfl) ?_
  refine x_callv (x_runIN (As := []) (rest := []) S hH hK hXN hl.1 (xm_X12_init l G M y_ _ ) (lw_meth q1002) q125 q1000 q1001 kd_X12_init rfl rfl dX13_init_1) hH hA (fun M1_ H locs q_1 hH hz_1 => ?_)
  subst q_1
  refine lv_aload_n hx hb dX13_init_4 rfl (lv_at hl 0 rfl) ?_
  refine lv_iload_n hx hb dX13_init_5 rfl (lv_at hl 1 rfl) ?_
  refine x_putF (ty := .int) hx hb hts in_X13 tyX13 tyX13_ok nmX13 hown hK hH g1 rfl 0 (by decide) q1004 (fun _ h9 => h9) rfl hnm rfl (by decide +kernel) rfl rfl (Nat.le_of_ble_eq_true rfl) (by decide) dX13_init_6 (fun H locs hH => ?_)
  obtain ⟨M1, e_M1⟩ : ∃ M1, M1 = hs M1_ y_ (oB 11 [.int (iI v_)]) := ⟨_, rfl⟩
  have hH := XV_to hH e_M1.symm
  have f1 : M1 y_ = some (oB 11 [.int (iI v_)]) := by rw [e_M1]; exact hs_s
  have k_M1 := e_M1
  try rw [k_M1_, hs_hs] at k_M1
  refine x_vret hx hb hr hlk hH dX13_init_9 ?_
  exact k_M1
theorem kd_X14_init : yX14_init.cls = RX14 ∧ yX14_init.cls ≠ "java/lang/invoke/MethodHandle" ∧ yX14_init.cls ≠ "java/lang/invoke/VarHandle" ∧ (parseMethodDescriptor yX14_init.desc).map (fun d => d.parameters.length) = some 1 := by decide +kernel
theorem xm_X14_init (l : Launch) (G : MG) (M : Hp) (y_ : Nat) (v_ : Int) (sz : Nat) (g1 : M y_ = some (oB 12 [.int (iI 0)])) : Met l yX14_init (ws_ yX14_init cX14_init 2 none) (rmD 2) (xP G XN [.ref y_, .int (iI v_)] M sz) (xQv G (DA M sz) (fun M' => M' = hs M y_ (oB 12 [.int (iI v_)]))) 0 0 (DA M sz) := by
  refine x_start (by decide) (Nat.le_of_ble_eq_true rfl) ?_
  intro p e s m below meth c ⟨S, hr, hlk, hH, hK, hXN, hsz, hnm⟩ ls hl
  subst hsz
  obtain ⟨hx, hb, hml, hown, hts⟩ := S
  have S : CallFix p m c _ _ s _ lw_all RX14 := ⟨hx, hb, hml, hown, hts⟩
  have hA : ∀ q, s.heap.size ≤ q → DA M s.heap.size q := fun q hq => Or.inr hq
  have hl : lv_has ls 2 [(0, .ref y_), (1, .int (iI v_))] := hl
  refine lv_aload_n hx hb dX14_init_0 rfl (lv_at hl 0 rfl) ?_
  refine x_callv (x_runIN (As := []) (rest := []) S hH hK hXN hl.1 (xm_X12_init l G M y_ _ ) (lw_meth q1002) q125 q1013 q1001 kd_X12_init rfl rfl dX14_init_1) hH hA (fun M1_ H locs q_1 hH hz_1 => ?_)
  subst q_1
  refine lv_aload_n hx hb dX14_init_4 rfl (lv_at hl 0 rfl) ?_
  refine lv_iload_n hx hb dX14_init_5 rfl (lv_at hl 1 rfl) ?_
  refine x_putF (ty := .int) hx hb hts in_X14 tyX14 tyX14_ok nmX14 hown hK hH g1 rfl 0 (by decide) q1014 (fun _ h9 => h9) rfl hnm rfl (by decide +kernel) rfl rfl (Nat.le_of_ble_eq_true rfl) (by decide) dX14_init_6 (fun H locs hH => ?_)
  obtain ⟨M1, e_M1⟩ : ∃ M1, M1 = hs M1_ y_ (oB 12 [.int (iI v_)]) := ⟨_, rfl⟩
  have hH := XV_to hH e_M1.symm
  have f1 : M1 y_ = some (oB 12 [.int (iI v_)]) := by rw [e_M1]; exact hs_s
  have k_M1 := e_M1
  try rw [k_M1_, hs_hs] at k_M1
  refine x_vret hx hb hr hlk hH dX14_init_9 ?_
  exact k_M1
theorem kd_X15_init : yX15_init.cls = RX15 ∧ yX15_init.cls ≠ "java/lang/invoke/MethodHandle" ∧ yX15_init.cls ≠ "java/lang/invoke/VarHandle" ∧ (parseMethodDescriptor yX15_init.desc).map (fun d => d.parameters.length) = some 3 := by decide +kernel
theorem xm_X15_init (l : Launch) (G : MG) (M : Hp) (y_ : Nat) (o_ : Nat) (v_ : Int) (r_ : Nat) (sz : Nat) (g1 : M y_ = some (oB 13 [.null, .null, .int (iI 0)])) : Met l yX15_init (ws_ yX15_init cX15_init 4 none) (rmD 2) (xP G XN [.ref y_, .ref o_, .int (iI v_), .ref r_] M sz) (xQv G (DA M sz) (fun M' => M' = hs M y_ (oB 13 [.ref o_, .ref r_, .int (iI v_)]))) 0 0 (DA M sz) := by
  refine x_start (by decide) (Nat.le_of_ble_eq_true rfl) ?_
  intro p e s m below meth c ⟨S, hr, hlk, hH, hK, hXN, hsz, hnm⟩ ls hl
  subst hsz
  obtain ⟨hx, hb, hml, hown, hts⟩ := S
  have S : CallFix p m c _ _ s _ lw_all RX15 := ⟨hx, hb, hml, hown, hts⟩
  have hA : ∀ q, s.heap.size ≤ q → DA M s.heap.size q := fun q hq => Or.inr hq
  have hl : lv_has ls 4 [(0, .ref y_), (1, .ref o_), (2, .int (iI v_)), (3, .ref r_)] := hl
  refine lv_aload_n hx hb dX15_init_0 rfl (lv_at hl 0 rfl) ?_
  refine x_callv (x_runIN (As := []) (rest := []) S hH hK hXN hl.1 (xm_X12_init l G M y_ _ ) (lw_meth q1002) q125 q1025 q1001 kd_X12_init rfl rfl dX15_init_1) hH hA (fun M1_ H locs q_1 hH hz_1 => ?_)
  subst q_1
  refine lv_aload_n hx hb dX15_init_4 rfl (lv_at hl 0 rfl) ?_
  refine lv_aload_n hx hb dX15_init_5 rfl (lv_at hl 1 rfl) ?_
  refine x_putF (ty := (.object "BrothFlasks$Sum")) hx hb hts in_X15 tyX15 tyX15_ok nmX15 hown hK hH g1 rfl 0 (by decide) q1026 (fun _ h9 => h9) rfl hnm rfl (by decide +kernel) rfl rfl (Nat.le_of_ble_eq_true rfl) (by decide) dX15_init_6 (fun H locs hH => ?_)
  obtain ⟨M1, e_M1⟩ : ∃ M1, M1 = hs M1_ y_ (oB 13 [.ref o_, .null, .int (iI 0)]) := ⟨_, rfl⟩
  have hH := XV_to hH e_M1.symm
  have f1 : M1 y_ = some (oB 13 [.ref o_, .null, .int (iI 0)]) := by rw [e_M1]; exact hs_s
  have k_M1 := e_M1
  try rw [k_M1_, hs_hs] at k_M1
  refine lv_aload_n hx hb dX15_init_9 rfl (lv_at hl 0 rfl) ?_
  refine lv_iload_n hx hb dX15_init_10 rfl (lv_at hl 2 rfl) ?_
  refine x_putF (ty := .int) hx hb hts in_X15 tyX15 tyX15_ok nmX15 hown hK hH f1 rfl 2 (by decide) q1028 (fun _ h9 => h9) rfl hnm rfl (by decide +kernel) rfl rfl (Nat.le_of_ble_eq_true rfl) (by decide) dX15_init_11 (fun H locs hH => ?_)
  obtain ⟨M2, e_M2⟩ : ∃ M2, M2 = hs M1 y_ (oB 13 [.ref o_, .null, .int (iI v_)]) := ⟨_, rfl⟩
  have hH := XV_to hH e_M2.symm
  have f2 : M2 y_ = some (oB 13 [.ref o_, .null, .int (iI v_)]) := by rw [e_M2]; exact hs_s
  have k_M2 := e_M2
  try rw [k_M1, hs_hs] at k_M2
  refine lv_aload_n hx hb dX15_init_14 rfl (lv_at hl 0 rfl) ?_
  refine lv_aload_n hx hb dX15_init_15 rfl (lv_at hl 3 rfl) ?_
  refine x_putF (ty := (.object "BrothFlasks$Sum")) hx hb hts in_X15 tyX15 tyX15_ok nmX15 hown hK hH f2 rfl 1 (by decide) q1027 (fun _ h9 => h9) rfl hnm rfl (by decide +kernel) rfl rfl (Nat.le_of_ble_eq_true rfl) (by decide) dX15_init_16 (fun H locs hH => ?_)
  obtain ⟨M3, e_M3⟩ : ∃ M3, M3 = hs M2 y_ (oB 13 [.ref o_, .ref r_, .int (iI v_)]) := ⟨_, rfl⟩
  have hH := XV_to hH e_M3.symm
  have f3 : M3 y_ = some (oB 13 [.ref o_, .ref r_, .int (iI v_)]) := by rw [e_M3]; exact hs_s
  have k_M3 := e_M3
  try rw [k_M2, hs_hs] at k_M3
  refine x_vret hx hb hr hlk hH dX15_init_19 ?_
  exact k_M3
theorem kd_X17_init : yX17_init.cls = RX17 ∧ yX17_init.cls ≠ "java/lang/invoke/MethodHandle" ∧ yX17_init.cls ≠ "java/lang/invoke/VarHandle" ∧ (parseMethodDescriptor yX17_init.desc).map (fun d => d.parameters.length) = some 1 := by decide +kernel
theorem xm_X17_init (l : Launch) (G : MG) (M : Hp) (y_ : Nat) (v_ : Int) (sz : Nat) (g1 : M y_ = some (oB 14 [.int (iI 0)])) : Met l yX17_init (ws_ yX17_init cX17_init 2 none) (rmD 2) (xP G XN [.ref y_, .int (iI v_)] M sz) (xQv G (DA M sz) (fun M' => M' = hs M y_ (oB 14 [.int (iI v_)]))) 0 0 (DA M sz) := by
  refine x_start (by decide) (Nat.le_of_ble_eq_true rfl) ?_
  intro p e s m below meth c ⟨S, hr, hlk, hH, hK, hXN, hsz, hnm⟩ ls hl
  subst hsz
  obtain ⟨hx, hb, hml, hown, hts⟩ := S
  have S : CallFix p m c _ _ s _ lw_all RX17 := ⟨hx, hb, hml, hown, hts⟩
  have hA : ∀ q, s.heap.size ≤ q → DA M s.heap.size q := fun q hq => Or.inr hq
  have hl : lv_has ls 2 [(0, .ref y_), (1, .int (iI v_))] := hl
  refine lv_aload_n hx hb dX17_init_0 rfl (lv_at hl 0 rfl) ?_
  refine x_callv (x_runIN (As := []) (rest := []) S hH hK hXN hl.1 (xm_X16_init l G M y_ _ ) (lw_meth q1061) q129 q1059 q1060 kd_X16_init rfl rfl dX17_init_1) hH hA (fun M1_ H locs q_1 hH hz_1 => ?_)
  subst q_1
  refine lv_aload_n hx hb dX17_init_4 rfl (lv_at hl 0 rfl) ?_
  refine lv_iload_n hx hb dX17_init_5 rfl (lv_at hl 1 rfl) ?_
  refine x_putF (ty := .int) hx hb hts in_X17 tyX17 tyX17_ok nmX17 hown hK hH g1 rfl 0 (by decide) q1063 (fun _ h9 => h9) rfl hnm rfl (by decide +kernel) rfl rfl (Nat.le_of_ble_eq_true rfl) (by decide) dX17_init_6 (fun H locs hH => ?_)
  obtain ⟨M1, e_M1⟩ : ∃ M1, M1 = hs M1_ y_ (oB 14 [.int (iI v_)]) := ⟨_, rfl⟩
  have hH := XV_to hH e_M1.symm
  have f1 : M1 y_ = some (oB 14 [.int (iI v_)]) := by rw [e_M1]; exact hs_s
  have k_M1 := e_M1
  try rw [k_M1_, hs_hs] at k_M1
  refine x_vret hx hb hr hlk hH dX17_init_9 ?_
  exact k_M1
theorem kd_X18_init : yX18_init.cls = RX18 ∧ yX18_init.cls ≠ "java/lang/invoke/MethodHandle" ∧ yX18_init.cls ≠ "java/lang/invoke/VarHandle" ∧ (parseMethodDescriptor yX18_init.desc).map (fun d => d.parameters.length) = some 3 := by decide +kernel
theorem xm_X18_init (l : Launch) (G : MG) (M : Hp) (y_ : Nat) (o_ : Nat) (v_ : Int) (r_ : Nat) (sz : Nat) (g1 : M y_ = some (oB 15 [.null, .null, .int (iI 0)])) : Met l yX18_init (ws_ yX18_init cX18_init 4 none) (rmD 2) (xP G XN [.ref y_, .ref o_, .int (iI v_), .ref r_] M sz) (xQv G (DA M sz) (fun M' => M' = hs M y_ (oB 15 [.ref o_, .ref r_, .int (iI v_)]))) 0 0 (DA M sz) := by
  refine x_start (by decide) (Nat.le_of_ble_eq_true rfl) ?_
  intro p e s m below meth c ⟨S, hr, hlk, hH, hK, hXN, hsz, hnm⟩ ls hl
  subst hsz
  obtain ⟨hx, hb, hml, hown, hts⟩ := S
  have S : CallFix p m c _ _ s _ lw_all RX18 := ⟨hx, hb, hml, hown, hts⟩
  have hA : ∀ q, s.heap.size ≤ q → DA M s.heap.size q := fun q hq => Or.inr hq
  have hl : lv_has ls 4 [(0, .ref y_), (1, .ref o_), (2, .int (iI v_)), (3, .ref r_)] := hl
  refine lv_aload_n hx hb dX18_init_0 rfl (lv_at hl 0 rfl) ?_
  refine x_callv (x_runIN (As := []) (rest := []) S hH hK hXN hl.1 (xm_X16_init l G M y_ _ ) (lw_meth q1061) q129 q1075 q1060 kd_X16_init rfl rfl dX18_init_1) hH hA (fun M1_ H locs q_1 hH hz_1 => ?_)
  subst q_1
  refine lv_aload_n hx hb dX18_init_4 rfl (lv_at hl 0 rfl) ?_
  refine lv_aload_n hx hb dX18_init_5 rfl (lv_at hl 1 rfl) ?_
  refine x_putF (ty := (.object "BrothFlasks$Sum")) hx hb hts in_X18 tyX18 tyX18_ok nmX18 hown hK hH g1 rfl 0 (by decide) q1076 (fun _ h9 => h9) rfl hnm rfl (by decide +kernel) rfl rfl (Nat.le_of_ble_eq_true rfl) (by decide) dX18_init_6 (fun H locs hH => ?_)
  obtain ⟨M1, e_M1⟩ : ∃ M1, M1 = hs M1_ y_ (oB 15 [.ref o_, .null, .int (iI 0)]) := ⟨_, rfl⟩
  have hH := XV_to hH e_M1.symm
  have f1 : M1 y_ = some (oB 15 [.ref o_, .null, .int (iI 0)]) := by rw [e_M1]; exact hs_s
  have k_M1 := e_M1
  try rw [k_M1_, hs_hs] at k_M1
  refine lv_aload_n hx hb dX18_init_9 rfl (lv_at hl 0 rfl) ?_
  refine lv_iload_n hx hb dX18_init_10 rfl (lv_at hl 2 rfl) ?_
  refine x_putF (ty := .int) hx hb hts in_X18 tyX18 tyX18_ok nmX18 hown hK hH f1 rfl 2 (by decide) q1078 (fun _ h9 => h9) rfl hnm rfl (by decide +kernel) rfl rfl (Nat.le_of_ble_eq_true rfl) (by decide) dX18_init_11 (fun H locs hH => ?_)
  obtain ⟨M2, e_M2⟩ : ∃ M2, M2 = hs M1 y_ (oB 15 [.ref o_, .null, .int (iI v_)]) := ⟨_, rfl⟩
  have hH := XV_to hH e_M2.symm
  have f2 : M2 y_ = some (oB 15 [.ref o_, .null, .int (iI v_)]) := by rw [e_M2]; exact hs_s
  have k_M2 := e_M2
  try rw [k_M1, hs_hs] at k_M2
  refine lv_aload_n hx hb dX18_init_14 rfl (lv_at hl 0 rfl) ?_
  refine lv_aload_n hx hb dX18_init_15 rfl (lv_at hl 3 rfl) ?_
  refine x_putF (ty := (.object "BrothFlasks$Sum")) hx hb hts in_X18 tyX18 tyX18_ok nmX18 hown hK hH f2 rfl 1 (by decide) q1077 (fun _ h9 => h9) rfl hnm rfl (by decide +kernel) rfl rfl (Nat.le_of_ble_eq_true rfl) (by decide) dX18_init_16 (fun H locs hH => ?_)
  obtain ⟨M3, e_M3⟩ : ∃ M3, M3 = hs M2 y_ (oB 15 [.ref o_, .ref r_, .int (iI v_)]) := ⟨_, rfl⟩
  have hH := XV_to hH e_M3.symm
  have f3 : M3 y_ = some (oB 15 [.ref o_, .ref r_, .int (iI v_)]) := by rw [e_M3]; exact hs_s
  have k_M3 := e_M3
  try rw [k_M2, hs_hs] at k_M3
  refine x_vret hx hb hr hlk hH dX18_init_19 ?_
  exact k_M3
theorem kd_X19_init : yX19_init.cls = RX19 ∧ yX19_init.cls ≠ "java/lang/invoke/MethodHandle" ∧ yX19_init.cls ≠ "java/lang/invoke/VarHandle" ∧ (parseMethodDescriptor yX19_init.desc).map (fun d => d.parameters.length) = some 1 := by decide +kernel
theorem xm_X19_init (l : Launch) (G : MG) (M : Hp) (y_ : Nat) (o_ : Nat) (sz : Nat) (g1 : M y_ = some (oB 16 [.null])) : Met l yX19_init (ws_ yX19_init cX19_init 2 none) (rmD 2) (xP G XN [.ref y_, .ref o_] M sz) (xQv G (DA M sz) (fun M' => M' = hs M y_ (oB 16 [.ref o_]))) 0 0 (DA M sz) := by
  refine x_start (by decide) (Nat.le_of_ble_eq_true rfl) ?_
  intro p e s m below meth c ⟨S, hr, hlk, hH, hK, hXN, hsz, hnm⟩ ls hl
  subst hsz
  obtain ⟨hx, hb, hml, hown, hts⟩ := S
  have S : CallFix p m c _ _ s _ lw_all RX19 := ⟨hx, hb, hml, hown, hts⟩
  have hA : ∀ q, s.heap.size ≤ q → DA M s.heap.size q := fun q hq => Or.inr hq
  have hl : lv_has ls 2 [(0, .ref y_), (1, .ref o_)] := hl
  refine lv_aload_n hx hb dX19_init_0 rfl (lv_at hl 0 rfl) ?_
  refine x_callv (x_runIN (As := []) (rest := []) S hH hK hXN hl.1 (xm_X16_init l G M y_ _ ) (lw_meth q1061) q129 q1091 q1060 kd_X16_init rfl rfl dX19_init_1) hH hA (fun M1_ H locs q_1 hH hz_1 => ?_)
  subst q_1
  refine lv_aload_n hx hb dX19_init_4 rfl (lv_at hl 0 rfl) ?_
  refine lv_aload_n hx hb dX19_init_5 rfl (lv_at hl 1 rfl) ?_
  refine x_putF (ty := (.object "BrothFlasks$Test")) hx hb hts in_X19 tyX19 tyX19_ok nmX19 hown hK hH g1 rfl 0 (by decide) q1092 (fun _ h9 => h9) rfl hnm rfl (by decide +kernel) rfl rfl (Nat.le_of_ble_eq_true rfl) (by decide) dX19_init_6 (fun H locs hH => ?_)
  obtain ⟨M1, e_M1⟩ : ∃ M1, M1 = hs M1_ y_ (oB 16 [.ref o_]) := ⟨_, rfl⟩
  have hH := XV_to hH e_M1.symm
  have f1 : M1 y_ = some (oB 16 [.ref o_]) := by rw [e_M1]; exact hs_s
  have k_M1 := e_M1
  try rw [k_M1_, hs_hs] at k_M1
  refine x_vret hx hb hr hlk hH dX19_init_9 ?_
  exact k_M1
theorem kd_X20_init : yX20_init.cls = RX20 ∧ yX20_init.cls ≠ "java/lang/invoke/MethodHandle" ∧ yX20_init.cls ≠ "java/lang/invoke/VarHandle" ∧ (parseMethodDescriptor yX20_init.desc).map (fun d => d.parameters.length) = some 2 := by decide +kernel
theorem xm_X20_init (l : Launch) (G : MG) (M : Hp) (y_ : Nat) (all_ : Int) (r_ : Nat) (sz : Nat) (g1 : M y_ = some (oB 17 [.int (iI 0), .null])) (h_all : all_ = 0 ∨ all_ = 1) : Met l yX20_init (ws_ yX20_init cX20_init 3 none) (rmD 2) (xP G XN [.ref y_, .int (iI all_), .ref r_] M sz) (xQv G (DA M sz) (fun M' => M' = hs M y_ (oB 17 [.int (iI all_), .ref r_]))) 0 0 (DA M sz) := by
  refine x_start (by decide) (Nat.le_of_ble_eq_true rfl) ?_
  intro p e s m below meth c ⟨S, hr, hlk, hH, hK, hXN, hsz, hnm⟩ ls hl
  subst hsz
  obtain ⟨hx, hb, hml, hown, hts⟩ := S
  have S : CallFix p m c _ _ s _ lw_all RX20 := ⟨hx, hb, hml, hown, hts⟩
  have hA : ∀ q, s.heap.size ≤ q → DA M s.heap.size q := fun q hq => Or.inr hq
  have hl : lv_has ls 3 [(0, .ref y_), (1, .int (iI all_)), (2, .ref r_)] := hl
  refine lv_aload_n hx hb dX20_init_0 rfl (lv_at hl 0 rfl) ?_
  refine x_callv (x_runIN (As := []) (rest := []) S hH hK hXN hl.1 (xm_X16_init l G M y_ _ ) (lw_meth q1061) q129 q1111 q1060 kd_X16_init rfl rfl dX20_init_1) hH hA (fun M1_ H locs q_1 hH hz_1 => ?_)
  subst q_1
  refine lv_aload_n hx hb dX20_init_4 rfl (lv_at hl 0 rfl) ?_
  refine lv_iload_n hx hb dX20_init_5 rfl (lv_at hl 1 rfl) ?_
  refine x_putF (ty := .boolean) hx hb hts in_X20 tyX20 tyX20_ok nmX20 hown hK hH g1 rfl 0 (by decide) q1112 (fun _ h9 => h9) rfl hnm rfl (by decide +kernel) (zfit h_all).1 (zfit h_all).2 (Nat.le_of_ble_eq_true rfl) (by decide) dX20_init_6 (fun H locs hH => ?_)
  obtain ⟨M1, e_M1⟩ : ∃ M1, M1 = hs M1_ y_ (oB 17 [.int (iI all_), .null]) := ⟨_, rfl⟩
  have hH := XV_to hH e_M1.symm
  have f1 : M1 y_ = some (oB 17 [.int (iI all_), .null]) := by rw [e_M1]; exact hs_s
  have k_M1 := e_M1
  try rw [k_M1_, hs_hs] at k_M1
  refine lv_aload_n hx hb dX20_init_9 rfl (lv_at hl 0 rfl) ?_
  refine lv_aload_n hx hb dX20_init_10 rfl (lv_at hl 2 rfl) ?_
  refine x_putF (ty := (.array (.object "BrothFlasks$Test"))) hx hb hts in_X20 tyX20 tyX20_ok nmX20 hown hK hH f1 rfl 1 (by decide) q1113 (fun _ h9 => h9) rfl hnm rfl (by decide +kernel) rfl rfl (Nat.le_of_ble_eq_true rfl) (by decide) dX20_init_11 (fun H locs hH => ?_)
  obtain ⟨M2, e_M2⟩ : ∃ M2, M2 = hs M1 y_ (oB 17 [.int (iI all_), .ref r_]) := ⟨_, rfl⟩
  have hH := XV_to hH e_M2.symm
  have f2 : M2 y_ = some (oB 17 [.int (iI all_), .ref r_]) := by rw [e_M2]; exact hs_s
  have k_M2 := e_M2
  try rw [k_M1, hs_hs] at k_M2
  refine x_vret hx hb hr hlk hH dX20_init_14 ?_
  exact k_M2
theorem kd_X21_init : yX21_init.cls = RX21 ∧ yX21_init.cls ≠ "java/lang/invoke/MethodHandle" ∧ yX21_init.cls ≠ "java/lang/invoke/VarHandle" ∧ (parseMethodDescriptor yX21_init.desc).map (fun d => d.parameters.length) = some 3 := by decide +kernel
theorem xm_X21_initRR (l : Launch) (G : MG) (M : Hp) (y_ : Nat) (h_ : Int) (o_ : Nat) (r_ : Nat) (sz : Nat) (g1 : M y_ = some (oB 18 [.int (iI 0), .null, .null, .long (lI 0)])) : Met l yX21_init (ws_ yX21_init cX21_init 4 none) (rmD 2) (xP G XN [.ref y_, .int (iI h_), .ref o_, .ref r_] M sz) (xQv G (DA M sz) (fun M' => M' = hs M y_ (oB 18 [.int (iI h_), .ref o_, .ref r_, .long (lI 0)]))) 0 0 (DA M sz) := by
  refine x_start (by decide) (Nat.le_of_ble_eq_true rfl) ?_
  intro p e s m below meth c ⟨S, hr, hlk, hH, hK, hXN, hsz, hnm⟩ ls hl
  subst hsz
  obtain ⟨hx, hb, hml, hown, hts⟩ := S
  have S : CallFix p m c _ _ s _ lw_all RX21 := ⟨hx, hb, hml, hown, hts⟩
  have hA : ∀ q, s.heap.size ≤ q → DA M s.heap.size q := fun q hq => Or.inr hq
  have hl : lv_has ls 4 [(0, .ref y_), (1, .int (iI h_)), (2, .ref o_), (3, .ref r_)] := hl
  refine lv_aload_n hx hb dX21_init_0 rfl (lv_at hl 0 rfl) ?_
  refine W.objInit hx hb hown (hts _ q1124) (hts _ q143) (hts _ q144) rfl (by rw [hml]; exact hl.1) rfl dX21_init_1 (Nat.le_of_ble_eq_true rfl) (Nat.le_of_ble_eq_true rfl) ?_
  refine lv_aload_n hx hb dX21_init_4 rfl (lv_at hl 0 rfl) ?_
  refine lv_iload_n hx hb dX21_init_5 rfl (lv_at hl 1 rfl) ?_
  refine x_putF (ty := .int) hx hb hts in_X21 tyX21 tyX21_ok nmX21 hown hK hH g1 rfl 0 (by decide) q1125 (fun _ h9 => h9) rfl hnm rfl (by decide +kernel) rfl rfl (Nat.le_of_ble_eq_true rfl) (by decide) dX21_init_6 (fun H locs hH => ?_)
  obtain ⟨M1, e_M1⟩ : ∃ M1, M1 = hs M y_ (oB 18 [.int (iI h_), .null, .null, .long (lI 0)]) := ⟨_, rfl⟩
  have hH := XV_to hH e_M1.symm
  have f1 : M1 y_ = some (oB 18 [.int (iI h_), .null, .null, .long (lI 0)]) := by rw [e_M1]; exact hs_s
  have k_M1 := e_M1
  try rw [k_M, hs_hs] at k_M1
  refine lv_aload_n hx hb dX21_init_9 rfl (lv_at hl 0 rfl) ?_
  refine lv_aload_n hx hb dX21_init_10 rfl (lv_at hl 2 rfl) ?_
  refine x_putF (ty := (.object "BrothFlasks$Sum")) hx hb hts in_X21 tyX21 tyX21_ok nmX21 hown hK hH f1 rfl 1 (by decide) q1128 (fun _ h9 => h9) rfl hnm rfl (by decide +kernel) rfl rfl (Nat.le_of_ble_eq_true rfl) (by decide) dX21_init_11 (fun H locs hH => ?_)
  obtain ⟨M2, e_M2⟩ : ∃ M2, M2 = hs M1 y_ (oB 18 [.int (iI h_), .ref o_, .null, .long (lI 0)]) := ⟨_, rfl⟩
  have hH := XV_to hH e_M2.symm
  have f2 : M2 y_ = some (oB 18 [.int (iI h_), .ref o_, .null, .long (lI 0)]) := by rw [e_M2]; exact hs_s
  have k_M2 := e_M2
  try rw [k_M1, hs_hs] at k_M2
  refine lv_aload_n hx hb dX21_init_14 rfl (lv_at hl 0 rfl) ?_
  refine lv_aload_n hx hb dX21_init_15 rfl (lv_at hl 3 rfl) ?_
  refine x_putF (ty := (.object "BrothFlasks$Test")) hx hb hts in_X21 tyX21 tyX21_ok nmX21 hown hK hH f2 rfl 2 (by decide) q1129 (fun _ h9 => h9) rfl hnm rfl (by decide +kernel) rfl rfl (Nat.le_of_ble_eq_true rfl) (by decide) dX21_init_16 (fun H locs hH => ?_)
  obtain ⟨M3, e_M3⟩ : ∃ M3, M3 = hs M2 y_ (oB 18 [.int (iI h_), .ref o_, .ref r_, .long (lI 0)]) := ⟨_, rfl⟩
  have hH := XV_to hH e_M3.symm
  have f3 : M3 y_ = some (oB 18 [.int (iI h_), .ref o_, .ref r_, .long (lI 0)]) := by rw [e_M3]; exact hs_s
  have k_M3 := e_M3
  try rw [k_M2, hs_hs] at k_M3
  refine x_vret hx hb hr hlk hH dX21_init_19 ?_
  exact k_M3
theorem xm_X21_initRN (l : Launch) (G : MG) (M : Hp) (y_ : Nat) (h_ : Int) (o_ : Nat) (sz : Nat) (g1 : M y_ = some (oB 18 [.int (iI 0), .null, .null, .long (lI 0)])) : Met l yX21_init (ws_ yX21_init cX21_init 4 none) (rmD 2) (xP G XN [.ref y_, .int (iI h_), .ref o_, .null] M sz) (xQv G (DA M sz) (fun M' => M' = hs M y_ (oB 18 [.int (iI h_), .ref o_, .null, .long (lI 0)]))) 0 0 (DA M sz) := by
  refine x_start (by decide) (Nat.le_of_ble_eq_true rfl) ?_
  intro p e s m below meth c ⟨S, hr, hlk, hH, hK, hXN, hsz, hnm⟩ ls hl
  subst hsz
  obtain ⟨hx, hb, hml, hown, hts⟩ := S
  have S : CallFix p m c _ _ s _ lw_all RX21 := ⟨hx, hb, hml, hown, hts⟩
  have hA : ∀ q, s.heap.size ≤ q → DA M s.heap.size q := fun q hq => Or.inr hq
  have hl : lv_has ls 4 [(0, .ref y_), (1, .int (iI h_)), (2, .ref o_), (3, .null)] := hl
  refine lv_aload_n hx hb dX21_init_0 rfl (lv_at hl 0 rfl) ?_
  refine W.objInit hx hb hown (hts _ q1124) (hts _ q143) (hts _ q144) rfl (by rw [hml]; exact hl.1) rfl dX21_init_1 (Nat.le_of_ble_eq_true rfl) (Nat.le_of_ble_eq_true rfl) ?_
  refine lv_aload_n hx hb dX21_init_4 rfl (lv_at hl 0 rfl) ?_
  refine lv_iload_n hx hb dX21_init_5 rfl (lv_at hl 1 rfl) ?_
  refine x_putF (ty := .int) hx hb hts in_X21 tyX21 tyX21_ok nmX21 hown hK hH g1 rfl 0 (by decide) q1125 (fun _ h9 => h9) rfl hnm rfl (by decide +kernel) rfl rfl (Nat.le_of_ble_eq_true rfl) (by decide) dX21_init_6 (fun H locs hH => ?_)
  obtain ⟨M1, e_M1⟩ : ∃ M1, M1 = hs M y_ (oB 18 [.int (iI h_), .null, .null, .long (lI 0)]) := ⟨_, rfl⟩
  have hH := XV_to hH e_M1.symm
  have f1 : M1 y_ = some (oB 18 [.int (iI h_), .null, .null, .long (lI 0)]) := by rw [e_M1]; exact hs_s
  have k_M1 := e_M1
  try rw [k_M, hs_hs] at k_M1
  refine lv_aload_n hx hb dX21_init_9 rfl (lv_at hl 0 rfl) ?_
  refine lv_aload_n hx hb dX21_init_10 rfl (lv_at hl 2 rfl) ?_
  refine x_putF (ty := (.object "BrothFlasks$Sum")) hx hb hts in_X21 tyX21 tyX21_ok nmX21 hown hK hH f1 rfl 1 (by decide) q1128 (fun _ h9 => h9) rfl hnm rfl (by decide +kernel) rfl rfl (Nat.le_of_ble_eq_true rfl) (by decide) dX21_init_11 (fun H locs hH => ?_)
  obtain ⟨M2, e_M2⟩ : ∃ M2, M2 = hs M1 y_ (oB 18 [.int (iI h_), .ref o_, .null, .long (lI 0)]) := ⟨_, rfl⟩
  have hH := XV_to hH e_M2.symm
  have f2 : M2 y_ = some (oB 18 [.int (iI h_), .ref o_, .null, .long (lI 0)]) := by rw [e_M2]; exact hs_s
  have k_M2 := e_M2
  try rw [k_M1, hs_hs] at k_M2
  refine lv_aload_n hx hb dX21_init_14 rfl (lv_at hl 0 rfl) ?_
  refine lv_aload_nN hx hb dX21_init_15 rfl (lv_at hl 3 rfl) ?_
  refine x_putF (ty := (.object "BrothFlasks$Test")) hx hb hts in_X21 tyX21 tyX21_ok nmX21 hown hK hH f2 rfl 2 (by decide) q1129 (fun _ h9 => h9) rfl hnm rfl (by decide +kernel) rfl rfl (Nat.le_of_ble_eq_true rfl) (by decide) dX21_init_16 (fun H locs hH => ?_)
  obtain ⟨M3, e_M3⟩ : ∃ M3, M3 = hs M2 y_ (oB 18 [.int (iI h_), .ref o_, .null, .long (lI 0)]) := ⟨_, rfl⟩
  have hH := XV_to hH e_M3.symm
  have f3 : M3 y_ = some (oB 18 [.int (iI h_), .ref o_, .null, .long (lI 0)]) := by rw [e_M3]; exact hs_s
  have k_M3 := e_M3
  try rw [k_M2, hs_hs] at k_M3
  refine x_vret hx hb hr hlk hH dX21_init_19 ?_
  exact k_M3
theorem xm_X21_initNR (l : Launch) (G : MG) (M : Hp) (y_ : Nat) (h_ : Int) (r_ : Nat) (sz : Nat) (g1 : M y_ = some (oB 18 [.int (iI 0), .null, .null, .long (lI 0)])) : Met l yX21_init (ws_ yX21_init cX21_init 4 none) (rmD 2) (xP G XN [.ref y_, .int (iI h_), .null, .ref r_] M sz) (xQv G (DA M sz) (fun M' => M' = hs M y_ (oB 18 [.int (iI h_), .null, .ref r_, .long (lI 0)]))) 0 0 (DA M sz) := by
  refine x_start (by decide) (Nat.le_of_ble_eq_true rfl) ?_
  intro p e s m below meth c ⟨S, hr, hlk, hH, hK, hXN, hsz, hnm⟩ ls hl
  subst hsz
  obtain ⟨hx, hb, hml, hown, hts⟩ := S
  have S : CallFix p m c _ _ s _ lw_all RX21 := ⟨hx, hb, hml, hown, hts⟩
  have hA : ∀ q, s.heap.size ≤ q → DA M s.heap.size q := fun q hq => Or.inr hq
  have hl : lv_has ls 4 [(0, .ref y_), (1, .int (iI h_)), (2, .null), (3, .ref r_)] := hl
  refine lv_aload_n hx hb dX21_init_0 rfl (lv_at hl 0 rfl) ?_
  refine W.objInit hx hb hown (hts _ q1124) (hts _ q143) (hts _ q144) rfl (by rw [hml]; exact hl.1) rfl dX21_init_1 (Nat.le_of_ble_eq_true rfl) (Nat.le_of_ble_eq_true rfl) ?_
  refine lv_aload_n hx hb dX21_init_4 rfl (lv_at hl 0 rfl) ?_
  refine lv_iload_n hx hb dX21_init_5 rfl (lv_at hl 1 rfl) ?_
  refine x_putF (ty := .int) hx hb hts in_X21 tyX21 tyX21_ok nmX21 hown hK hH g1 rfl 0 (by decide) q1125 (fun _ h9 => h9) rfl hnm rfl (by decide +kernel) rfl rfl (Nat.le_of_ble_eq_true rfl) (by decide) dX21_init_6 (fun H locs hH => ?_)
  obtain ⟨M1, e_M1⟩ : ∃ M1, M1 = hs M y_ (oB 18 [.int (iI h_), .null, .null, .long (lI 0)]) := ⟨_, rfl⟩
  have hH := XV_to hH e_M1.symm
  have f1 : M1 y_ = some (oB 18 [.int (iI h_), .null, .null, .long (lI 0)]) := by rw [e_M1]; exact hs_s
  have k_M1 := e_M1
  try rw [k_M, hs_hs] at k_M1
  refine lv_aload_n hx hb dX21_init_9 rfl (lv_at hl 0 rfl) ?_
  refine lv_aload_nN hx hb dX21_init_10 rfl (lv_at hl 2 rfl) ?_
  refine x_putF (ty := (.object "BrothFlasks$Sum")) hx hb hts in_X21 tyX21 tyX21_ok nmX21 hown hK hH f1 rfl 1 (by decide) q1128 (fun _ h9 => h9) rfl hnm rfl (by decide +kernel) rfl rfl (Nat.le_of_ble_eq_true rfl) (by decide) dX21_init_11 (fun H locs hH => ?_)
  obtain ⟨M2, e_M2⟩ : ∃ M2, M2 = hs M1 y_ (oB 18 [.int (iI h_), .null, .null, .long (lI 0)]) := ⟨_, rfl⟩
  have hH := XV_to hH e_M2.symm
  have f2 : M2 y_ = some (oB 18 [.int (iI h_), .null, .null, .long (lI 0)]) := by rw [e_M2]; exact hs_s
  have k_M2 := e_M2
  try rw [k_M1, hs_hs] at k_M2
  refine lv_aload_n hx hb dX21_init_14 rfl (lv_at hl 0 rfl) ?_
  refine lv_aload_n hx hb dX21_init_15 rfl (lv_at hl 3 rfl) ?_
  refine x_putF (ty := (.object "BrothFlasks$Test")) hx hb hts in_X21 tyX21 tyX21_ok nmX21 hown hK hH f2 rfl 2 (by decide) q1129 (fun _ h9 => h9) rfl hnm rfl (by decide +kernel) rfl rfl (Nat.le_of_ble_eq_true rfl) (by decide) dX21_init_16 (fun H locs hH => ?_)
  obtain ⟨M3, e_M3⟩ : ∃ M3, M3 = hs M2 y_ (oB 18 [.int (iI h_), .null, .ref r_, .long (lI 0)]) := ⟨_, rfl⟩
  have hH := XV_to hH e_M3.symm
  have f3 : M3 y_ = some (oB 18 [.int (iI h_), .null, .ref r_, .long (lI 0)]) := by rw [e_M3]; exact hs_s
  have k_M3 := e_M3
  try rw [k_M2, hs_hs] at k_M3
  refine x_vret hx hb hr hlk hH dX21_init_19 ?_
  exact k_M3
theorem xm_X21_initNN (l : Launch) (G : MG) (M : Hp) (y_ : Nat) (h_ : Int) (sz : Nat) (g1 : M y_ = some (oB 18 [.int (iI 0), .null, .null, .long (lI 0)])) : Met l yX21_init (ws_ yX21_init cX21_init 4 none) (rmD 2) (xP G XN [.ref y_, .int (iI h_), .null, .null] M sz) (xQv G (DA M sz) (fun M' => M' = hs M y_ (oB 18 [.int (iI h_), .null, .null, .long (lI 0)]))) 0 0 (DA M sz) := by
  refine x_start (by decide) (Nat.le_of_ble_eq_true rfl) ?_
  intro p e s m below meth c ⟨S, hr, hlk, hH, hK, hXN, hsz, hnm⟩ ls hl
  subst hsz
  obtain ⟨hx, hb, hml, hown, hts⟩ := S
  have S : CallFix p m c _ _ s _ lw_all RX21 := ⟨hx, hb, hml, hown, hts⟩
  have hA : ∀ q, s.heap.size ≤ q → DA M s.heap.size q := fun q hq => Or.inr hq
  have hl : lv_has ls 4 [(0, .ref y_), (1, .int (iI h_)), (2, .null), (3, .null)] := hl
  refine lv_aload_n hx hb dX21_init_0 rfl (lv_at hl 0 rfl) ?_
  refine W.objInit hx hb hown (hts _ q1124) (hts _ q143) (hts _ q144) rfl (by rw [hml]; exact hl.1) rfl dX21_init_1 (Nat.le_of_ble_eq_true rfl) (Nat.le_of_ble_eq_true rfl) ?_
  refine lv_aload_n hx hb dX21_init_4 rfl (lv_at hl 0 rfl) ?_
  refine lv_iload_n hx hb dX21_init_5 rfl (lv_at hl 1 rfl) ?_
  refine x_putF (ty := .int) hx hb hts in_X21 tyX21 tyX21_ok nmX21 hown hK hH g1 rfl 0 (by decide) q1125 (fun _ h9 => h9) rfl hnm rfl (by decide +kernel) rfl rfl (Nat.le_of_ble_eq_true rfl) (by decide) dX21_init_6 (fun H locs hH => ?_)
  obtain ⟨M1, e_M1⟩ : ∃ M1, M1 = hs M y_ (oB 18 [.int (iI h_), .null, .null, .long (lI 0)]) := ⟨_, rfl⟩
  have hH := XV_to hH e_M1.symm
  have f1 : M1 y_ = some (oB 18 [.int (iI h_), .null, .null, .long (lI 0)]) := by rw [e_M1]; exact hs_s
  have k_M1 := e_M1
  try rw [k_M, hs_hs] at k_M1
  refine lv_aload_n hx hb dX21_init_9 rfl (lv_at hl 0 rfl) ?_
  refine lv_aload_nN hx hb dX21_init_10 rfl (lv_at hl 2 rfl) ?_
  refine x_putF (ty := (.object "BrothFlasks$Sum")) hx hb hts in_X21 tyX21 tyX21_ok nmX21 hown hK hH f1 rfl 1 (by decide) q1128 (fun _ h9 => h9) rfl hnm rfl (by decide +kernel) rfl rfl (Nat.le_of_ble_eq_true rfl) (by decide) dX21_init_11 (fun H locs hH => ?_)
  obtain ⟨M2, e_M2⟩ : ∃ M2, M2 = hs M1 y_ (oB 18 [.int (iI h_), .null, .null, .long (lI 0)]) := ⟨_, rfl⟩
  have hH := XV_to hH e_M2.symm
  have f2 : M2 y_ = some (oB 18 [.int (iI h_), .null, .null, .long (lI 0)]) := by rw [e_M2]; exact hs_s
  have k_M2 := e_M2
  try rw [k_M1, hs_hs] at k_M2
  refine lv_aload_n hx hb dX21_init_14 rfl (lv_at hl 0 rfl) ?_
  refine lv_aload_nN hx hb dX21_init_15 rfl (lv_at hl 3 rfl) ?_
  refine x_putF (ty := (.object "BrothFlasks$Test")) hx hb hts in_X21 tyX21 tyX21_ok nmX21 hown hK hH f2 rfl 2 (by decide) q1129 (fun _ h9 => h9) rfl hnm rfl (by decide +kernel) rfl rfl (Nat.le_of_ble_eq_true rfl) (by decide) dX21_init_16 (fun H locs hH => ?_)
  obtain ⟨M3, e_M3⟩ : ∃ M3, M3 = hs M2 y_ (oB 18 [.int (iI h_), .null, .null, .long (lI 0)]) := ⟨_, rfl⟩
  have hH := XV_to hH e_M3.symm
  have f3 : M3 y_ = some (oB 18 [.int (iI h_), .null, .null, .long (lI 0)]) := by rw [e_M3]; exact hs_s
  have k_M3 := e_M3
  try rw [k_M2, hs_hs] at k_M3
  refine x_vret hx hb hr hlk hH dX21_init_19 ?_
  exact k_M3
theorem kd_X22_init : yX22_init.cls = RX22 ∧ yX22_init.cls ≠ "java/lang/invoke/MethodHandle" ∧ yX22_init.cls ≠ "java/lang/invoke/VarHandle" ∧ (parseMethodDescriptor yX22_init.desc).map (fun d => d.parameters.length) = some 1 := by decide +kernel
theorem xm_X22_init (l : Launch) (G : MG) (M : Hp) (y_ : Nat) (o_ : Nat) (sz : Nat) (g1 : M y_ = some (oB 19 [.null])) : Met l yX22_init (ws_ yX22_init cX22_init 2 none) (rmD 2) (xP G XN [.ref y_, .ref o_] M sz) (xQv G (DA M sz) (fun M' => M' = hs M y_ (oB 19 [.ref o_]))) 0 0 (DA M sz) := by
  refine x_start (by decide) (Nat.le_of_ble_eq_true rfl) ?_
  intro p e s m below meth c ⟨S, hr, hlk, hH, hK, hXN, hsz, hnm⟩ ls hl
  subst hsz
  obtain ⟨hx, hb, hml, hown, hts⟩ := S
  have S : CallFix p m c _ _ s _ lw_all RX22 := ⟨hx, hb, hml, hown, hts⟩
  have hA : ∀ q, s.heap.size ≤ q → DA M s.heap.size q := fun q hq => Or.inr hq
  have hl : lv_has ls 2 [(0, .ref y_), (1, .ref o_)] := hl
  refine lv_aload_n hx hb dX22_init_0 rfl (lv_at hl 0 rfl) ?_
  refine W.objInit hx hb hown (hts _ q1147) (hts _ q143) (hts _ q144) rfl (by rw [hml]; exact hl.1) rfl dX22_init_1 (Nat.le_of_ble_eq_true rfl) (Nat.le_of_ble_eq_true rfl) ?_
  refine lv_aload_n hx hb dX22_init_4 rfl (lv_at hl 0 rfl) ?_
  refine lv_aload_n hx hb dX22_init_5 rfl (lv_at hl 1 rfl) ?_
  refine x_putF (ty := (.array (.object "BrothFlasks$Clause"))) hx hb hts in_X22 tyX22 tyX22_ok nmX22 hown hK hH g1 rfl 0 (by decide) q1148 (fun _ h9 => h9) rfl hnm rfl (by decide +kernel) rfl rfl (Nat.le_of_ble_eq_true rfl) (by decide) dX22_init_6 (fun H locs hH => ?_)
  obtain ⟨M1, e_M1⟩ : ∃ M1, M1 = hs M y_ (oB 19 [.ref o_]) := ⟨_, rfl⟩
  have hH := XV_to hH e_M1.symm
  have f1 : M1 y_ = some (oB 19 [.ref o_]) := by rw [e_M1]; exact hs_s
  have k_M1 := e_M1
  try rw [k_M, hs_hs] at k_M1
  refine x_vret hx hb hr hlk hH dX22_init_9 ?_
  exact k_M1
