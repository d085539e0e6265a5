theorem kd_J1_init_2 : yJ1_init_2.cls = RJ1 ∧ yJ1_init_2.cls ≠ "java/lang/invoke/MethodHandle" ∧ yJ1_init_2.cls ≠ "java/lang/invoke/VarHandle" ∧ (parseMethodDescriptor yJ1_init_2.desc).map (fun d => d.parameters.length) = some 4 := by decide +kernel
theorem xm_J1_init_2 (l : Launch) (G : MG) (M : Hp) (K : (Nat → Nat) × (Nat → Nat)) (y_ : Nat) (i3 : Int) (i4 : Int) (sz : Nat) (g1 : M y_ = some (oB 10 [.null, .null, .null, .null, .null, .int (iI 0), .int (iI 0)])) (h3 : i3 = 0) (h4 : i4 = 0) : Met l yJ1_init_2 (ws_ yJ1_init_2 cJ1_init_2 5 none) (rmD 2) (xP G (XRd K M) [.ref y_, .null, .null, .int (iI i3), .int (iI i4)] M sz) (xQv G (DA M sz) (fun M' => M' = M)) 0 0 (DA M sz) := by
  refine x_start (by decide) (Nat.le_of_ble_eq_true rfl) ?_
  intro p e s m below meth c ⟨S, hr, hlk, hH, hK, hX, hsz, hnm⟩ ls hl
  have hXN : XN s := hX.1
  subst hsz
  obtain ⟨hx, hb, hml, hown, hts⟩ := S
  have S : CallFix p m c _ _ s _ lw_all RJ1 := ⟨hx, hb, hml, hown, hts⟩
  have hA : ∀ q, s.heap.size ≤ q → DA M s.heap.size q := fun q hq => Or.inr hq
  have hl : lv_has ls 5 [(0, .ref y_), (1, .null), (2, .null), (3, .int (iI i3)), (4, .int (iI i4))] := hl
  obtain rfl : i3 = 0 := by omega
  obtain rfl : i4 = 0 := by omega
  refine lv_aload_n hx hb dJ1_init_2_0 rfl (lv_at hl 0 rfl) ?_
  refine W.objInit hx hb hown (hts _ q860) (hts _ q143) (hts _ q144) rfl (by rw [hml]; exact hl.1) rfl dJ1_init_2_1 (Nat.le_of_ble_eq_true rfl) (Nat.le_of_ble_eq_true rfl) ?_
  refine W.eq (g2 := F0 m 4 ls ([])) rfl ?_
  refine lv_aload_n hx hb dJ1_init_2_4 rfl (lv_at hl 0 rfl) ?_
  refine lv_aload_n hx hb dJ1_init_2_5 rfl (lv_at hl 0 rfl) ?_
  refine x_put (ty := (.object "java/lang/Throwable")) hx hb hts in_X11 tyX11 tyX11_ok nmX11 hown hK hH g1 rfl 0 (by decide) q887 (fun _ h9 => h9) rfl (by decide +kernel) rfl rfl (Nat.le_of_ble_eq_true rfl) (by decide) dJ1_init_2_6 (fun H locs hH => ?_)
  obtain ⟨M1, e_M1⟩ : ∃ M1, M1 = hs M y_ (oB 10 [.ref y_, .null, .null, .null, .null, .int (iI 0), .int (iI 0)]) := ⟨_, rfl⟩
  have hH := XV_to hH e_M1.symm
  have f1 : M1 y_ = some (oB 10 [.ref y_, .null, .null, .null, .null, .int (iI 0), .int (iI 0)]) := by rw [e_M1]; exact hs_s
  have k_M1 := e_M1
  try rw [k_M, hs_hs] at k_M1
  refine lv_aload_n hx hb dJ1_init_2_9 rfl (lv_at hl 0 rfl) ?_
  obtain ⟨t4_, hZ4⟩ := hX.2.2.2.2.2.1
  refine va_gets (C := "java/lang/Throwable") hx hb hZ4 hH.2 hown (hts _ q861) (fun _ h => h) dJ1_init_2_10 ?_
  refine x_put (ty := (.array (.object "java/lang/StackTraceElement"))) hx hb hts in_X11 tyX11 tyX11_ok nmX11 hown hK hH f1 rfl 1 (by decide) q888 (fun _ h9 => h9) rfl (by decide +kernel) rfl rfl (Nat.le_of_ble_eq_true rfl) (by decide) dJ1_init_2_13 (fun H locs hH => ?_)
  obtain ⟨M2, e_M2⟩ : ∃ M2, M2 = hs M1 y_ (oB 10 [.ref y_, .ref t4_, .null, .null, .null, .int (iI 0), .int (iI 0)]) := ⟨_, rfl⟩
  have hH := XV_to hH e_M2.symm
  have f2 : M2 y_ = some (oB 10 [.ref y_, .ref t4_, .null, .null, .null, .int (iI 0), .int (iI 0)]) := by rw [e_M2]; exact hs_s
  have k_M2 := e_M2
  try rw [k_M1, hs_hs] at k_M2
  refine lv_aload_n hx hb dJ1_init_2_16 rfl (lv_at hl 0 rfl) ?_
  obtain ⟨t5_, hZ5⟩ := hX.2.2.2.2.2.2
  refine va_gets (C := "java/lang/Throwable") hx hb hZ5 hH.2 hown (hts _ q863) (fun _ h => h) dJ1_init_2_17 ?_
  refine x_put (ty := (.object "java/util/List")) hx hb hts in_X11 tyX11 tyX11_ok nmX11 hown hK hH f2 rfl 2 (by decide) q889 (fun _ h9 => h9) rfl (by decide +kernel) rfl rfl (Nat.le_of_ble_eq_true rfl) (by decide) dJ1_init_2_20 (fun H locs hH => ?_)
  obtain ⟨M3, e_M3⟩ : ∃ M3, M3 = hs M2 y_ (oB 10 [.ref y_, .ref t4_, .ref t5_, .null, .null, .int (iI 0), .int (iI 0)]) := ⟨_, rfl⟩
  have hH := XV_to hH e_M3.symm
  have f3 : M3 y_ = some (oB 10 [.ref y_, .ref t4_, .ref t5_, .null, .null, .int (iI 0), .int (iI 0)]) := by rw [e_M3]; exact hs_s
  have k_M3 := e_M3
  try rw [k_M2, hs_hs] at k_M3
  refine lv_iload hx hb dJ1_init_2_23 (lv_at hl 4 rfl) ?_
  refine n_if_eq (tgt := 36) hx hb (r32 (by omega)) dJ1_init_2_25 (by decide) (fun _ => ?_) (fun h => absurd h (by decide))
  refine lv_aload_n hx hb dJ1_init_2_36 rfl (lv_at hl 0 rfl) ?_
  refine lv_null hx hb dJ1_init_2_37 ?_
  refine x_put (ty := (.array (.object "java/lang/StackTraceElement"))) hx hb hts in_X11 tyX11 tyX11_ok nmX11 hown hK hH f3 rfl 1 (by decide) q888 (fun _ h9 => h9) rfl (by decide +kernel) rfl rfl (Nat.le_of_ble_eq_true rfl) (by decide) dJ1_init_2_38 (fun H locs hH => ?_)
  obtain ⟨M4, e_M4⟩ : ∃ M4, M4 = hs M3 y_ (oB 10 [.ref y_, .null, .ref t5_, .null, .null, .int (iI 0), .int (iI 0)]) := ⟨_, rfl⟩
  have hH := XV_to hH e_M4.symm
  have f4 : M4 y_ = some (oB 10 [.ref y_, .null, .ref t5_, .null, .null, .int (iI 0), .int (iI 0)]) := by rw [e_M4]; exact hs_s
  have k_M4 := e_M4
  try rw [k_M3, hs_hs] at k_M4
  refine lv_aload_n hx hb dJ1_init_2_41 rfl (lv_at hl 0 rfl) ?_
  refine lv_aload_nN hx hb dJ1_init_2_42 rfl (lv_at hl 1 rfl) ?_
  refine x_put (ty := (.object "java/lang/String")) hx hb hts in_X11 tyX11 tyX11_ok nmX11 hown hK hH f4 rfl 3 (by decide) q886 (fun _ h9 => h9) rfl (by decide +kernel) rfl rfl (Nat.le_of_ble_eq_true rfl) (by decide) dJ1_init_2_43 (fun H locs hH => ?_)
  obtain ⟨M5, e_M5⟩ : ∃ M5, M5 = hs M4 y_ (oB 10 [.ref y_, .null, .ref t5_, .null, .null, .int (iI 0), .int (iI 0)]) := ⟨_, rfl⟩
  have hH := XV_to hH e_M5.symm
  have f5 : M5 y_ = some (oB 10 [.ref y_, .null, .ref t5_, .null, .null, .int (iI 0), .int (iI 0)]) := by rw [e_M5]; exact hs_s
  have k_M5 := e_M5
  try rw [k_M4, hs_hs] at k_M5
  refine lv_aload_n hx hb dJ1_init_2_46 rfl (lv_at hl 0 rfl) ?_
  refine lv_aload_nN hx hb dJ1_init_2_47 rfl (lv_at hl 2 rfl) ?_
  refine x_put (ty := (.object "java/lang/Throwable")) hx hb hts in_X11 tyX11 tyX11_ok nmX11 hown hK hH f5 rfl 0 (by decide) q887 (fun _ h9 => h9) rfl (by decide +kernel) rfl rfl (Nat.le_of_ble_eq_true rfl) (by decide) dJ1_init_2_48 (fun H locs hH => ?_)
  obtain ⟨M6, e_M6⟩ : ∃ M6, M6 = hs M5 y_ (oB 10 [.null, .null, .ref t5_, .null, .null, .int (iI 0), .int (iI 0)]) := ⟨_, rfl⟩
  have hH := XV_to hH e_M6.symm
  have f6 : M6 y_ = some (oB 10 [.null, .null, .ref t5_, .null, .null, .int (iI 0), .int (iI 0)]) := by rw [e_M6]; exact hs_s
  have k_M6 := e_M6
  try rw [k_M5, hs_hs] at k_M6
  refine lv_iload_n hx hb dJ1_init_2_51 rfl (lv_at hl 3 rfl) ?_
  refine n_if_ne (tgt := 60) hx hb (r32 (by omega)) dJ1_init_2_52 (by decide) (fun h => absurd h (by decide)) (fun _ => ?_)
  refine lv_aload_n hx hb dJ1_init_2_55 rfl (lv_at hl 0 rfl) ?_
  refine lv_null hx hb dJ1_init_2_56 ?_
  refine x_put (ty := (.object "java/util/List")) hx hb hts in_X11 tyX11 tyX11_ok nmX11 hown hK hH f6 rfl 2 (by decide) q889 (fun _ h9 => h9) rfl (by decide +kernel) rfl rfl (Nat.le_of_ble_eq_true rfl) (by decide) dJ1_init_2_57 (fun H locs hH => ?_)
  obtain ⟨M7, e_M7⟩ : ∃ M7, M7 = hs M6 y_ (oB 10 [.null, .null, .null, .null, .null, .int (iI 0), .int (iI 0)]) := ⟨_, rfl⟩
  have hH := XV_to hH e_M7.symm
  have f7 : M7 y_ = some (oB 10 [.null, .null, .null, .null, .null, .int (iI 0), .int (iI 0)]) := by rw [e_M7]; exact hs_s
  have k_M7 := e_M7
  try rw [k_M6, hs_hs] at k_M7
  refine x_vret hx hb hr hlk hH dJ1_init_2_60 ?_
  exact (k_M7).trans (hs_id g1)
theorem kd_J2_init : yJ2_init.cls = RJ2 ∧ yJ2_init.cls ≠ "java/lang/invoke/MethodHandle" ∧ yJ2_init.cls ≠ "java/lang/invoke/VarHandle" ∧ (parseMethodDescriptor yJ2_init.desc).map (fun d => d.parameters.length) = some 4 := by decide +kernel
theorem xm_J2_init (l : Launch) (G : MG) (M : Hp) (K : (Nat → Nat) × (Nat → Nat)) (y_ : Nat) (i3 : Int) (i4 : Int) (sz : Nat) (g1 : M y_ = some (oB 10 [.null, .null, .null, .null, .null, .int (iI 0), .int (iI 0)])) (h3 : i3 = 0) (h4 : i4 = 0) : Met l yJ2_init (ws_ yJ2_init cJ2_init 5 none) (rmD 3) (xP G (XRd K M) [.ref y_, .null, .null, .int (iI i3), .int (iI i4)] M sz) (xQv G (DA M sz) (fun M' => M' = M)) 0 0 (DA M sz) := by
  refine x_start (by decide) (Nat.le_of_ble_eq_true rfl) ?_
  intro p e s m below meth c ⟨S, hr, hlk, hH, hK, hX, hsz, hnm⟩ ls hl
  have hXN : XN s := hX.1
  subst hsz
  obtain ⟨hx, hb, hml, hown, hts⟩ := S
  have S : CallFix p m c _ _ s _ lw_all RJ2 := ⟨hx, hb, hml, hown, hts⟩
  have hA : ∀ q, s.heap.size ≤ q → DA M s.heap.size q := fun q hq => Or.inr hq
  have hl : lv_has ls 5 [(0, .ref y_), (1, .null), (2, .null), (3, .int (iI i3)), (4, .int (iI i4))] := hl
  refine lv_aload_n hx hb dJ2_init_0 rfl (lv_at hl 0 rfl) ?_
  refine lv_aload_nN hx hb dJ2_init_1 rfl (lv_at hl 1 rfl) ?_
  refine lv_aload_nN hx hb dJ2_init_2 rfl (lv_at hl 2 rfl) ?_
  refine lv_iload_n hx hb dJ2_init_3 rfl (lv_at hl 3 rfl) ?_
  refine lv_iload hx hb dJ2_init_4 (lv_at hl 4 rfl) ?_
  refine x_callv (x_runI (As := [.null, .null, .int (iI i3), .int (iI i4)]) (rest := []) S hH hK (hX.at hH) XRd_b hl.1 (xm_J1_init_2 l G M K y_ i3 i4 _ g1 (by omega) (by omega)) (lw_meth q882) q118 q880 q881 kd_J1_init_2 rfl rfl dJ2_init_6) hH hA (fun M6_ H locs q_6 hH hz_6 => ?_)
  refine x_vret hx hb hr hlk hH dJ2_init_9 ?_
  exact q_6
theorem kd_X11_init : yX11_init.cls = RX11 ∧ yX11_init.cls ≠ "java/lang/invoke/MethodHandle" ∧ yX11_init.cls ≠ "java/lang/invoke/VarHandle" ∧ (parseMethodDescriptor yX11_init.desc).map (fun d => d.parameters.length) = some 1 := by decide +kernel
theorem xm_X11_init (l : Launch) (G : MG) (M : Hp) (K : (Nat → Nat) × (Nat → Nat)) (y_ : Nat) (p_ : Int) (sz : Nat) (g1 : M y_ = some (oB 10 [.null, .null, .null, .null, .null, .int (iI 0), .int (iI 0)])) : Met l yX11_init (ws_ yX11_init cX11_init 2 none) (rmD 4) (xP G (XRd K M) [.ref y_, .int (iI p_)] M sz) (xQv G (DA M sz) (fun M' => M' = hs M y_ (wrE p_))) 0 0 (DA M sz) := by
  refine x_start (by decide) (Nat.le_of_ble_eq_true rfl) ?_
  intro p e s m below meth c ⟨S, hr, hlk, hH, hK, hX, hsz, hnm⟩ ls hl
  have hXN : XN s := hX.1
  subst hsz
  obtain ⟨hx, hb, hml, hown, hts⟩ := S
  have S : CallFix p m c _ _ s _ lw_all RX11 := ⟨hx, hb, hml, hown, hts⟩
  have hA : ∀ q, s.heap.size ≤ q → DA M s.heap.size q := fun q hq => Or.inr hq
  have hl : lv_has ls 2 [(0, .ref y_), (1, .int (iI p_))] := hl
  refine lv_aload_n hx hb dX11_init_0 rfl (lv_at hl 0 rfl) ?_
  refine lv_null hx hb dX11_init_1 ?_
  refine lv_null hx hb dX11_init_2 ?_
  refine n_iconst hx hb dX11_init_3 ?_
  refine n_iconst hx hb dX11_init_4 ?_
  refine x_callv (x_runI (As := [.null, .null, .int (iI 0), .int (iI 0)]) (rest := []) S hH hK (hX.at hH) XRd_b hl.1 (xm_J2_init l G M K y_ 0 0 _ g1 (by omega) (by omega)) (lw_meth q879) q119 q877 q878 kd_J2_init rfl rfl dX11_init_5) hH hA (fun M5_ H locs q_5 hH hz_5 => ?_)
  subst q_5
  refine lv_aload_n hx hb dX11_init_8 rfl (lv_at hl 0 rfl) ?_
  refine lv_iload_n hx hb dX11_init_9 rfl (lv_at hl 1 rfl) ?_
  refine x_putF (ty := .int) hx hb hts in_X11 tyX11 tyX11_ok nmX11 hown hK hH g1 rfl 6 (by decide) q883 (fun _ h9 => h9) rfl hnm rfl (by decide +kernel) rfl rfl (Nat.le_of_ble_eq_true rfl) (by decide) dX11_init_10 (fun H locs hH => ?_)
  obtain ⟨M1, e_M1⟩ : ∃ M1, M1 = hs M5_ y_ (oB 10 [.null, .null, .null, .null, .null, .int (iI 0), .int (iI p_)]) := ⟨_, rfl⟩
  have hH := XV_to hH e_M1.symm
  have f1 : M1 y_ = some (oB 10 [.null, .null, .null, .null, .null, .int (iI 0), .int (iI p_)]) := by rw [e_M1]; exact hs_s
  refine x_vret hx hb hr hlk hH dX11_init_13 ?_
  exact e_M1
