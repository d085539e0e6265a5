theorem kd_X2_take : yX2_take.cls = RX2 ∧ yX2_take.cls ≠ "java/lang/invoke/MethodHandle" ∧ yX2_take.cls ≠ "java/lang/invoke/VarHandle" ∧ (parseMethodDescriptor yX2_take.desc).map (fun d => d.parameters.length) = some 1 := by decide +kernel
theorem xm_X2_take (l : Launch) (G : MG) (M : Hp) (ci : Nat) (na : Nat) (t : Int) (cj : Nat) (nd : Nat) (u : Int) (f_ : Int → Int) (g_ : Int → Int) (c_ : Nat) (d_ : Nat) (sz : Nat) (hc1 : M c_ = some (csE ci na 0 t)) (hci : ci = 3 ∨ ci = 9) (hn1 : M na = some (aI (G.2.1 0) 9 f_)) (hd1 : M d_ = some (csE cj nd 0 u)) (hcj : cj = 3 ∨ cj = 9) (hn2 : M nd = some (aI (G.2.1 0) 9 g_)) : Met l yX2_take (ws_ yX2_take cX2_take 2 none) (rmD 2) (xP G XN [.ref c_, .ref d_] M sz) (xQv G (DA M sz) (fun M' => M' = hs M na (aI (G.2.1 0) 9 (cpZ g_ f_ 0 0 9)))) 0 0 (DA M sz) := by
  refine x_start (by decide) (Nat.le_of_ble_eq_true rfl) ?_
  intro p e s m below meth c ⟨S, hr, hlk, hH, hK, hXN, hsz, hnm⟩ ls hl
  subst hsz
  obtain ⟨hx, hb, hml, hown, hts⟩ := S
  have S : CallFix p m c _ _ s _ lw_all RX2 := ⟨hx, hb, hml, hown, hts⟩
  have hA : ∀ q, s.heap.size ≤ q → DA M s.heap.size q := fun q hq => Or.inr hq
  have hl : lv_has ls 2 [(0, .ref c_), (1, .ref d_)] := hl
  refine lv_aload_n hx hb dX2_take_0 rfl (lv_at hl 1 rfl) ?_
  refine x_num hx hb hts hown hK hH hd1 hcj q258 dX2_take_1 ?_
  refine n_iconst hx hb dX2_take_4 ?_
  refine lv_aload_n hx hb dX2_take_5 rfl (lv_at hl 0 rfl) ?_
  refine x_num hx hb hts hown hK hH hc1 hci q258 dX2_take_6 ?_
  refine n_iconst hx hb dX2_take_9 ?_
  refine n_bipush (z := 9) hx hb dX2_take_10 (by decide) ?_
  refine x_copyi (rest := []) hx hb hts (hml.trans hl.1.symm) hown q767 q769 q768 q117 hK hH hn2 hn1 (by omega) (by omega) (by omega) (by omega) (by omega) ⟨by omega, by omega⟩ (Nat.le_of_ble_eq_true rfl) (Nat.le_of_ble_eq_true rfl) dX2_take_12 (fun H locs hH => ?_)
  obtain ⟨M1, e_M1⟩ : ∃ M1, M1 = hs M na (aI (G.2.1 0) 9 (cpZ g_ f_ 0 0 9)) := ⟨_, rfl⟩
  have hH := XV_to hH e_M1.symm
  have f1 : M1 na = some (aI (G.2.1 0) 9 (cpZ g_ f_ 0 0 9)) := by rw [e_M1]; exact hs_s
  have f2 : M1 c_ = some (csE ci na 0 t) := by rw [e_M1]; exact (hs_n (Ne.symm (ne_ac hn1 hc1))).trans hc1
  have f3 : M1 d_ = some (csE cj nd 0 u) := by rw [e_M1]; exact (hs_n (Ne.symm (ne_ac hn1 hd1))).trans hd1
  refine x_vret hx hb hr hlk hH dX2_take_15 ?_
  exact e_M1
theorem kd_X2_init : yX2_init.cls = RX2 ∧ yX2_init.cls ≠ "java/lang/invoke/MethodHandle" ∧ yX2_init.cls ≠ "java/lang/invoke/VarHandle" ∧ (parseMethodDescriptor yX2_init.desc).map (fun d => d.parameters.length) = some 0 := by decide +kernel
theorem xm_X2_init (l : Launch) (G : MG) (M : Hp) (ci : Nat) (y_ : Nat) (sz : Nat) (hci : ci = 3 ∨ ci = 9) (g1 : M y_ = some (csZ ci)) : Met l yX2_init (ws_ yX2_init cX2_init 1 none) (rmX 2 1 9) (xP G XN [.ref y_] M sz) (xQv G (DA M sz) (fun M' => ∃ g, M g = none ∧ M' = hs (hs M g (aI (G.2.1 0) 9 (fun _ => 0))) y_ (csE ci g 0 0))) 1 9 (DA M sz) := by
  refine x_start (by decide) (Nat.le_of_ble_eq_true rfl) ?_
  intro p e s m below meth c ⟨S, hr, hlk, hH, hK, hXN, hsz, hnm⟩ ls hl
  subst hsz
  obtain ⟨hx, hb, hml, hown, hts⟩ := S
  have S : CallFix p m c _ _ s _ lw_all RX2 := ⟨hx, hb, hml, hown, hts⟩
  have hA : ∀ q, s.heap.size ≤ q → DA M s.heap.size q := fun q hq => Or.inr hq
  have hl : lv_has ls 1 [(0, .ref y_)] := hl
  rcases hci with rfl | rfl
  · -- case
    refine lv_aload_n hx hb dX2_init_0 rfl (lv_at hl 0 rfl) ?_
    refine W.objInit hx hb hown (hts _ q257) (hts _ q143) (hts _ q144) rfl (by rw [hml]; exact hl.1) rfl dX2_init_1 (Nat.le_of_ble_eq_true rfl) (Nat.le_of_ble_eq_true rfl) ?_
    refine lv_aload_n hx hb dX2_init_4 rfl (lv_at hl 0 rfl) ?_
    refine n_bipush (z := 9) hx hb dX2_init_5 (by decide) ?_
    refine x_newa (atype := .int) 0 (9, .inl (fun (j : Nat) => iI ((fun (_ : Int) => (0 : Int)) (j : Int)))) hx hb hts rfl q250 hK hH hA rfl (fun _ => rfl) (by decide) (by decide) (by decide) (Nat.le_of_ble_eq_true rfl) (Nat.le_of_ble_eq_true rfl) dX2_init_7 (fun q1 H hq1 hH => ?_)
    obtain ⟨M1, e_M1⟩ : ∃ M1, M1 = hs M q1 (aI (G.2.1 0) 9 (fun (_ : Int) => (0 : Int))) := ⟨_, rfl⟩
    have hH := XV_to hH e_M1.symm
    have f1 : M1 q1 = some (aI (G.2.1 0) 9 (fun (_ : Int) => (0 : Int))) := by rw [e_M1]; exact hs_s
    have f2 : M1 y_ = some (oB 3 [.null, .int (iI 0)]) := by rw [e_M1]; exact (hs_n (fun z => by have h9 := g1; rw [z, hq1] at h9; cases h9)).trans g1
    have k_M1 := e_M1
    try rw [k_M] at k_M1
    refine x_putF (ty := (.array .int)) hx hb hts in_X2 tyX2 tyX2_ok nmX2 hown hK hH f2 rfl 0 (by decide) q258 (fun _ h9 => h9) rfl hnm rfl (by decide +kernel) rfl rfl (Nat.le_of_ble_eq_true rfl) (by decide) dX2_init_9 (fun H locs hH => ?_)
    obtain ⟨M3, e_M3⟩ : ∃ M3, M3 = hs M1 y_ (oB 3 [.ref q1, .int (iI 0)]) := ⟨_, rfl⟩
    have hH := XV_to hH e_M3.symm
    have f3 : M3 y_ = some (oB 3 [.ref q1, .int (iI 0)]) := by rw [e_M3]; exact hs_s
    have f4 : M3 q1 = some (aI (G.2.1 0) 9 (fun (_ : Int) => (0 : Int))) := by rw [e_M3]; exact (hs_n (ne_ao f1 f2)).trans f1
    have k_M3 := e_M3
    try rw [k_M1] at k_M3
    refine W.widen (k := 1) (n := 9) (Nat.le_of_ble_eq_true rfl) (Nat.le_of_ble_eq_true rfl) ?_
    refine x_vret hx hb hr hlk hH dX2_init_12 ?_
    refine ⟨_, ?_, k_M3⟩
    assumption
  · -- look
    refine lv_aload_n hx hb dX2_init_0 rfl (lv_at hl 0 rfl) ?_
    refine W.objInit hx hb hown (hts _ q257) (hts _ q143) (hts _ q144) rfl (by rw [hml]; exact hl.1) rfl dX2_init_1 (Nat.le_of_ble_eq_true rfl) (Nat.le_of_ble_eq_true rfl) ?_
    refine lv_aload_n hx hb dX2_init_4 rfl (lv_at hl 0 rfl) ?_
    refine n_bipush (z := 9) hx hb dX2_init_5 (by decide) ?_
    refine x_newa (atype := .int) 0 (9, .inl (fun (j : Nat) => iI ((fun (_ : Int) => (0 : Int)) (j : Int)))) hx hb hts rfl q250 hK hH hA rfl (fun _ => rfl) (by decide) (by decide) (by decide) (Nat.le_of_ble_eq_true rfl) (Nat.le_of_ble_eq_true rfl) dX2_init_7 (fun q5 H hq5 hH => ?_)
    obtain ⟨M5, e_M5⟩ : ∃ M5, M5 = hs M q5 (aI (G.2.1 0) 9 (fun (_ : Int) => (0 : Int))) := ⟨_, rfl⟩
    have hH := XV_to hH e_M5.symm
    have f5 : M5 q5 = some (aI (G.2.1 0) 9 (fun (_ : Int) => (0 : Int))) := by rw [e_M5]; exact hs_s
    have f6 : M5 y_ = some (oB 9 [.null, .int (iI 0), .int (iI 0)]) := by rw [e_M5]; exact (hs_n (fun z => by have h9 := g1; rw [z, hq5] at h9; cases h9)).trans g1
    have k_M5 := e_M5
    try rw [k_M] at k_M5
    refine x_putF (ty := (.array .int)) hx hb hts in_X10 tyX10 tyX10_ok nmX10 hown hK hH f6 rfl 0 (by decide) q258 (fun _ h9 => h9) rfl hnm rfl (by decide +kernel) rfl rfl (Nat.le_of_ble_eq_true rfl) (by decide) dX2_init_9 (fun H locs hH => ?_)
    obtain ⟨M7, e_M7⟩ : ∃ M7, M7 = hs M5 y_ (oB 9 [.ref q5, .int (iI 0), .int (iI 0)]) := ⟨_, rfl⟩
    have hH := XV_to hH e_M7.symm
    have f7 : M7 y_ = some (oB 9 [.ref q5, .int (iI 0), .int (iI 0)]) := by rw [e_M7]; exact hs_s
    have f8 : M7 q5 = some (aI (G.2.1 0) 9 (fun (_ : Int) => (0 : Int))) := by rw [e_M7]; exact (hs_n (ne_ao f5 f6)).trans f5
    have k_M7 := e_M7
    try rw [k_M5] at k_M7
    refine W.widen (k := 1) (n := 9) (Nat.le_of_ble_eq_true rfl) (Nat.le_of_ble_eq_true rfl) ?_
    refine x_vret hx hb hr hlk hH dX2_init_12 ?_
    refine ⟨_, ?_, k_M7⟩
    assumption
theorem kd_X10_init : yX10_init.cls = RX10 ∧ yX10_init.cls ≠ "java/lang/invoke/MethodHandle" ∧ yX10_init.cls ≠ "java/lang/invoke/VarHandle" ∧ (parseMethodDescriptor yX10_init.desc).map (fun d => d.parameters.length) = some 0 := by decide +kernel
theorem xm_X10_init (l : Launch) (G : MG) (M : Hp) (y_ : Nat) (sz : Nat) (g1 : M y_ = some (oB 9 [.null, .int (iI 0), .int (iI 0)])) : Met l yX10_init (ws_ yX10_init cX10_init 1 none) (rmX 3 1 9) (xP G XN [.ref y_] M sz) (xQv G (DA M sz) (fun M' => ∃ g, M g = none ∧ M' = hs (hs M g (aI (G.2.1 0) 9 (fun _ => 0))) y_ (csE 9 g 0 0))) 1 9 (DA M sz) := by
  refine x_start (by decide) (Nat.le_of_ble_eq_true rfl) ?_
  intro p e s m below meth c ⟨S, hr, hlk, hH, hK, hXN, hsz, hnm⟩ ls hl
  subst hsz
  obtain ⟨hx, hb, hml, hown, hts⟩ := S
  have S : CallFix p m c _ _ s _ lw_all RX10 := ⟨hx, hb, hml, hown, hts⟩
  have hA : ∀ q, s.heap.size ≤ q → DA M s.heap.size q := fun q hq => Or.inr hq
  have hl : lv_has ls 1 [(0, .ref y_)] := hl
  refine lv_aload_n hx hb dX10_init_0 rfl (lv_at hl 0 rfl) ?_
  refine x_callv (x_runIN (As := []) (rest := []) S hH hK hXN hl.1 (xm_X2_init l G M 9 y_ _ (by decide) g1) (lw_meth q256) q107 q753 q255 kd_X2_init rfl rfl dX10_init_1) hH hA (fun M1_ H locs q_1 hH hz_1 => ?_)
  refine W.widen (k := 1) (n := 9) (Nat.le_of_ble_eq_true rfl) (Nat.le_of_ble_eq_true rfl) ?_
  refine x_vret hx hb hr hlk hH dX10_init_4 ?_
  exact q_1
theorem kd_X5_init : yX5_init.cls = RX5 ∧ yX5_init.cls ≠ "java/lang/invoke/MethodHandle" ∧ yX5_init.cls ≠ "java/lang/invoke/VarHandle" ∧ (parseMethodDescriptor yX5_init.desc).map (fun d => d.parameters.length) = some 6 := by decide +kernel
theorem xm_X5_init (l : Launch) (G : MG) (M : Hp) (y_ : Nat) (b1 : Int) (b2 : Int) (b3 : Int) (b4 : Int) (b5 : Int) (b6 : Int) (sz : Nat) (g1 : M y_ = some (oB 5 [.int (iI 0), .int (iI 0), .int (iI 0), .int (iI 0), .int (iI 0), .int (iI 0)])) (h5 : b5 = 0 ∨ b5 = 1) : Met l yX5_init (ws_ yX5_init cX5_init 7 none) (rmD 2) (xP G XN [.ref y_, .int (iI b1), .int (iI b2), .int (iI b3), .int (iI b4), .int (iI b5), .int (iI b6)] M sz) (xQv G (DA M sz) (fun M' => M' = hs M y_ (oB 5 [.int (iI b1), .int (iI b2), .int (iI b3), .int (iI b4), .int (iI b6), .int (iI b5)]))) 0 0 (DA M sz) := by
  refine x_start (by decide) (Nat.le_of_ble_eq_true rfl) ?_
  intro p e s m below meth c ⟨S, hr, hlk, hH, hK, hXN, hsz, hnm⟩ ls hl
  subst hsz
  obtain ⟨hx, hb, hml, hown, hts⟩ := S
  have S : CallFix p m c _ _ s _ lw_all RX5 := ⟨hx, hb, hml, hown, hts⟩
  have hA : ∀ q, s.heap.size ≤ q → DA M s.heap.size q := fun q hq => Or.inr hq
  have hl : lv_has ls 7 [(0, .ref y_), (1, .int (iI b1)), (2, .int (iI b2)), (3, .int (iI b3)), (4, .int (iI b4)), (5, .int (iI b5)), (6, .int (iI b6))] := hl
  refine lv_aload_n hx hb dX5_init_0 rfl (lv_at hl 0 rfl) ?_
  refine W.objInit hx hb hown (hts _ q402) (hts _ q143) (hts _ q144) rfl (by rw [hml]; exact hl.1) rfl dX5_init_1 (Nat.le_of_ble_eq_true rfl) (Nat.le_of_ble_eq_true rfl) ?_
  refine lv_aload_n hx hb dX5_init_4 rfl (lv_at hl 0 rfl) ?_
  refine lv_iload_n hx hb dX5_init_5 rfl (lv_at hl 1 rfl) ?_
  refine x_putF (ty := .int) hx hb hts in_X5 tyX5 tyX5_ok nmX5 hown hK hH g1 rfl 0 (by decide) q403 (fun _ h9 => h9) rfl hnm rfl (by decide +kernel) rfl rfl (Nat.le_of_ble_eq_true rfl) (by decide) dX5_init_6 (fun H locs hH => ?_)
  obtain ⟨M1, e_M1⟩ : ∃ M1, M1 = hs M y_ (oB 5 [.int (iI b1), .int (iI 0), .int (iI 0), .int (iI 0), .int (iI 0), .int (iI 0)]) := ⟨_, rfl⟩
  have hH := XV_to hH e_M1.symm
  have f1 : M1 y_ = some (oB 5 [.int (iI b1), .int (iI 0), .int (iI 0), .int (iI 0), .int (iI 0), .int (iI 0)]) := by rw [e_M1]; exact hs_s
  have k_M1 := e_M1
  try rw [k_M, hs_hs] at k_M1
  refine lv_aload_n hx hb dX5_init_9 rfl (lv_at hl 0 rfl) ?_
  refine lv_iload_n hx hb dX5_init_10 rfl (lv_at hl 2 rfl) ?_
  refine x_putF (ty := .int) hx hb hts in_X5 tyX5 tyX5_ok nmX5 hown hK hH f1 rfl 1 (by decide) q404 (fun _ h9 => h9) rfl hnm rfl (by decide +kernel) rfl rfl (Nat.le_of_ble_eq_true rfl) (by decide) dX5_init_11 (fun H locs hH => ?_)
  obtain ⟨M2, e_M2⟩ : ∃ M2, M2 = hs M1 y_ (oB 5 [.int (iI b1), .int (iI b2), .int (iI 0), .int (iI 0), .int (iI 0), .int (iI 0)]) := ⟨_, rfl⟩
  have hH := XV_to hH e_M2.symm
  have f2 : M2 y_ = some (oB 5 [.int (iI b1), .int (iI b2), .int (iI 0), .int (iI 0), .int (iI 0), .int (iI 0)]) := by rw [e_M2]; exact hs_s
  have k_M2 := e_M2
  try rw [k_M1, hs_hs] at k_M2
  refine lv_aload_n hx hb dX5_init_14 rfl (lv_at hl 0 rfl) ?_
  refine lv_iload_n hx hb dX5_init_15 rfl (lv_at hl 3 rfl) ?_
  refine x_putF (ty := .int) hx hb hts in_X5 tyX5 tyX5_ok nmX5 hown hK hH f2 rfl 2 (by decide) q405 (fun _ h9 => h9) rfl hnm rfl (by decide +kernel) rfl rfl (Nat.le_of_ble_eq_true rfl) (by decide) dX5_init_16 (fun H locs hH => ?_)
  obtain ⟨M3, e_M3⟩ : ∃ M3, M3 = hs M2 y_ (oB 5 [.int (iI b1), .int (iI b2), .int (iI b3), .int (iI 0), .int (iI 0), .int (iI 0)]) := ⟨_, rfl⟩
  have hH := XV_to hH e_M3.symm
  have f3 : M3 y_ = some (oB 5 [.int (iI b1), .int (iI b2), .int (iI b3), .int (iI 0), .int (iI 0), .int (iI 0)]) := by rw [e_M3]; exact hs_s
  have k_M3 := e_M3
  try rw [k_M2, hs_hs] at k_M3
  refine lv_aload_n hx hb dX5_init_19 rfl (lv_at hl 0 rfl) ?_
  refine lv_iload hx hb dX5_init_20 (lv_at hl 4 rfl) ?_
  refine x_putF (ty := .int) hx hb hts in_X5 tyX5 tyX5_ok nmX5 hown hK hH f3 rfl 3 (by decide) q406 (fun _ h9 => h9) rfl hnm rfl (by decide +kernel) rfl rfl (Nat.le_of_ble_eq_true rfl) (by decide) dX5_init_22 (fun H locs hH => ?_)
  obtain ⟨M4, e_M4⟩ : ∃ M4, M4 = hs M3 y_ (oB 5 [.int (iI b1), .int (iI b2), .int (iI b3), .int (iI b4), .int (iI 0), .int (iI 0)]) := ⟨_, rfl⟩
  have hH := XV_to hH e_M4.symm
  have f4 : M4 y_ = some (oB 5 [.int (iI b1), .int (iI b2), .int (iI b3), .int (iI b4), .int (iI 0), .int (iI 0)]) := by rw [e_M4]; exact hs_s
  have k_M4 := e_M4
  try rw [k_M3, hs_hs] at k_M4
  refine lv_aload_n hx hb dX5_init_25 rfl (lv_at hl 0 rfl) ?_
  refine lv_iload hx hb dX5_init_26 (lv_at hl 5 rfl) ?_
  refine x_putF (ty := .boolean) hx hb hts in_X5 tyX5 tyX5_ok nmX5 hown hK hH f4 rfl 5 (by decide) q410 (fun _ h9 => h9) rfl hnm rfl (by decide +kernel) (zfit h5).1 (zfit h5).2 (Nat.le_of_ble_eq_true rfl) (by decide) dX5_init_28 (fun H locs hH => ?_)
  obtain ⟨M5, e_M5⟩ : ∃ M5, M5 = hs M4 y_ (oB 5 [.int (iI b1), .int (iI b2), .int (iI b3), .int (iI b4), .int (iI 0), .int (iI b5)]) := ⟨_, rfl⟩
  have hH := XV_to hH e_M5.symm
  have f5 : M5 y_ = some (oB 5 [.int (iI b1), .int (iI b2), .int (iI b3), .int (iI b4), .int (iI 0), .int (iI b5)]) := by rw [e_M5]; exact hs_s
  have k_M5 := e_M5
  try rw [k_M4, hs_hs] at k_M5
  refine lv_aload_n hx hb dX5_init_31 rfl (lv_at hl 0 rfl) ?_
  refine lv_iload hx hb dX5_init_32 (lv_at hl 6 rfl) ?_
  refine x_putF (ty := .int) hx hb hts in_X5 tyX5 tyX5_ok nmX5 hown hK hH f5 rfl 4 (by decide) q408 (fun _ h9 => h9) rfl hnm rfl (by decide +kernel) rfl rfl (Nat.le_of_ble_eq_true rfl) (by decide) dX5_init_34 (fun H locs hH => ?_)
  obtain ⟨M6, e_M6⟩ : ∃ M6, M6 = hs M5 y_ (oB 5 [.int (iI b1), .int (iI b2), .int (iI b3), .int (iI b4), .int (iI b6), .int (iI b5)]) := ⟨_, rfl⟩
  have hH := XV_to hH e_M6.symm
  have f6 : M6 y_ = some (oB 5 [.int (iI b1), .int (iI b2), .int (iI b3), .int (iI b4), .int (iI b6), .int (iI b5)]) := by rw [e_M6]; exact hs_s
  have k_M6 := e_M6
  try rw [k_M5, hs_hs] at k_M6
  refine x_vret hx hb hr hlk hH dX5_init_37 ?_
  exact k_M6
