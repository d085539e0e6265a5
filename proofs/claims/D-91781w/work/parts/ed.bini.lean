theorem kd_X1_init : yX1_init.cls = RX1 ∧ yX1_init.cls ≠ "java/lang/invoke/MethodHandle" ∧ yX1_init.cls ≠ "java/lang/invoke/VarHandle" ∧ (parseMethodDescriptor yX1_init.desc).map (fun d => d.parameters.length) = some 0 := by decide +kernel
set_option maxHeartbeats 4000000 in
theorem xm_X1_init (l : Launch) (G : MG) (M : Hp) (w_ : Nat → Nat) (cd_ : Nat) (y_ : Nat) (sz : Nat) (g1 : M y_ = some (oB 2 [.int (iI 0), .int (iI 0), .int (iI 0), .int (iI 0), .int (iI 0), .int (iI 0), .int (iI 0), .long (lI 0), .null, .null, .null, .null, .null, .null, .null, .null, .null, .null, .null, .null, .null, .null])) : Met l yX1_init (ws_ yX1_init cX1_init 1 none) (rmX 2 14 300) (xP G XN [.ref y_] M sz) (xQv G (DA M sz) (fun M' => ∃ (B : Nat → Nat) (w' : Nat → Nat) (z : Nat → Int → Int), B 0 = y_ ∧ Gp M' w' cd_ bKeys B (bcell G k0 (nx B) (nω z) 0) ∧ Zok k0 z ∧ ∀ v e, M v = some e → v ≠ y_ → M' v = some e ∧ w' v = w_ v)) 14 300 (DA M sz) := by
  refine x_start (by decide) (Nat.le_of_ble_eq_true rfl) ?_
  intro p e s m below meth c ⟨S, hr, hlk, hH, hK, hXN, hsz, hnm⟩ ls hl
  subst hsz
  obtain ⟨hx, hb, hml, hown, hts⟩ := S
  have S : CallFix p m c _ _ s _ lw_all RX1 := ⟨hx, hb, hml, hown, hts⟩
  have hA : ∀ q, s.heap.size ≤ q → DA M s.heap.size q := fun q hq => Or.inr hq
  have hl : lv_has ls 1 [(0, .ref y_)] := hl
  refine lv_aload_n hx hb dX1_init_0 rfl (lv_at hl 0 rfl) ?_
  refine W.objInit hx hb hown (hts _ q150) (hts _ q143) (hts _ q144) rfl (by rw [hml]; exact hl.1) rfl dX1_init_1 (Nat.le_of_ble_eq_true rfl) (Nat.le_of_ble_eq_true rfl) ?_
  refine lv_aload_n hx hb dX1_init_4 rfl (lv_at hl 0 rfl) ?_
  refine n_bipush (z := 8) hx hb dX1_init_5 (by decide) ?_
  refine x_newq (N := 8) 5 hx hb hts hown q151 hXN q152 hK hH hA rfl (by decide) (by decide) (Nat.le_of_ble_eq_true rfl) (Nat.le_of_ble_eq_true rfl) dX1_init_7 (fun q1 H hq1 hH => ?_)
  have ne_y__q1 : y_ ≠ q1 := fun z => by have h9 := g1; rw [z, hq1] at h9; cases h9
  obtain ⟨M1, e_M1⟩ : ∃ M1, M1 = hs M q1 (aQ (G.2.1 5) 8 (fun (_ : Int) => (none : Option Nat))) := ⟨_, rfl⟩
  have hH := XV_to hH e_M1.symm
  have f1 : M1 q1 = some (aQ (G.2.1 5) 8 (fun (_ : Int) => (none : Option Nat))) := by rw [e_M1]; exact hs_s
  have f2 : M1 y_ = some (oB 2 [.int (iI 0), .int (iI 0), .int (iI 0), .int (iI 0), .int (iI 0), .int (iI 0), .int (iI 0), .long (lI 0), .null, .null, .null, .null, .null, .null, .null, .null, .null, .null, .null, .null, .null, .null]) := by rw [e_M1]; exact (hs_n (fun z => by have h9 := g1; rw [z, hq1] at h9; cases h9)).trans g1
  refine x_putF (ty := (.array (.object "BrothFlasks$Kind"))) hx hb hts in_X1 tyX1 tyX1_ok nmX1 hown hK hH f2 rfl 8 (by decide) q177 (fun _ h9 => h9) rfl hnm rfl (by decide +kernel) rfl rfl (Nat.le_of_ble_eq_true rfl) (by decide) dX1_init_10 (fun H locs hH => ?_)
  obtain ⟨M3, e_M3⟩ : ∃ M3, M3 = hs M1 y_ (oB 2 [.int (iI 0), .int (iI 0), .int (iI 0), .int (iI 0), .int (iI 0), .int (iI 0), .int (iI 0), .long (lI 0), .ref q1, .null, .null, .null, .null, .null, .null, .null, .null, .null, .null, .null, .null, .null]) := ⟨_, rfl⟩
  have hH := XV_to hH e_M3.symm
  have f3 : M3 y_ = some (oB 2 [.int (iI 0), .int (iI 0), .int (iI 0), .int (iI 0), .int (iI 0), .int (iI 0), .int (iI 0), .long (lI 0), .ref q1, .null, .null, .null, .null, .null, .null, .null, .null, .null, .null, .null, .null, .null]) := by rw [e_M3]; exact hs_s
  have f4 : M3 q1 = some (aQ (G.2.1 5) 8 (fun (_ : Int) => (none : Option Nat))) := by rw [e_M3]; exact (hs_n ne_y__q1.symm).trans f1
  refine lv_aload_n hx hb dX1_init_13 rfl (lv_at hl 0 rfl) ?_
  refine n_bipush (z := 40) hx hb dX1_init_14 (by decide) ?_
  refine x_newq (N := 40) 6 hx hb hts hown q153 hXN q154 hK hH hA rfl (by decide) (by decide) (Nat.le_of_ble_eq_true rfl) (Nat.le_of_ble_eq_true rfl) dX1_init_16 (fun q5 H hq5 hH => ?_)
  have ne_y__q5 : y_ ≠ q5 := fun z => by have h9 := f3; rw [z, hq5] at h9; cases h9
  have ne_q1_q5 : q1 ≠ q5 := fun z => by have h9 := f4; rw [z, hq5] at h9; cases h9
  obtain ⟨M5, e_M5⟩ : ∃ M5, M5 = hs M3 q5 (aQ (G.2.1 6) 40 (fun (_ : Int) => (none : Option Nat))) := ⟨_, rfl⟩
  have hH := XV_to hH e_M5.symm
  have f5 : M5 q5 = some (aQ (G.2.1 6) 40 (fun (_ : Int) => (none : Option Nat))) := by rw [e_M5]; exact hs_s
  have f6 : M5 y_ = some (oB 2 [.int (iI 0), .int (iI 0), .int (iI 0), .int (iI 0), .int (iI 0), .int (iI 0), .int (iI 0), .long (lI 0), .ref q1, .null, .null, .null, .null, .null, .null, .null, .null, .null, .null, .null, .null, .null]) := by rw [e_M5]; exact (hs_n (fun z => by have h9 := f3; rw [z, hq5] at h9; cases h9)).trans f3
  have f7 : M5 q1 = some (aQ (G.2.1 5) 8 (fun (_ : Int) => (none : Option Nat))) := by rw [e_M5]; exact (hs_n (fun z => by have h9 := f4; rw [z, hq5] at h9; cases h9)).trans f4
  refine x_putF (ty := (.array (.object "BrothFlasks$Flask"))) hx hb hts in_X1 tyX1 tyX1_ok nmX1 hown hK hH f6 rfl 9 (by decide) q179 (fun _ h9 => h9) rfl hnm rfl (by decide +kernel) rfl rfl (Nat.le_of_ble_eq_true rfl) (by decide) dX1_init_19 (fun H locs hH => ?_)
  obtain ⟨M8, e_M8⟩ : ∃ M8, M8 = hs M5 y_ (oB 2 [.int (iI 0), .int (iI 0), .int (iI 0), .int (iI 0), .int (iI 0), .int (iI 0), .int (iI 0), .long (lI 0), .ref q1, .ref q5, .null, .null, .null, .null, .null, .null, .null, .null, .null, .null, .null, .null]) := ⟨_, rfl⟩
  have hH := XV_to hH e_M8.symm
  have f8 : M8 y_ = some (oB 2 [.int (iI 0), .int (iI 0), .int (iI 0), .int (iI 0), .int (iI 0), .int (iI 0), .int (iI 0), .long (lI 0), .ref q1, .ref q5, .null, .null, .null, .null, .null, .null, .null, .null, .null, .null, .null, .null]) := by rw [e_M8]; exact hs_s
  have f9 : M8 q5 = some (aQ (G.2.1 6) 40 (fun (_ : Int) => (none : Option Nat))) := by rw [e_M8]; exact (hs_n ne_y__q5.symm).trans f5
  have f10 : M8 q1 = some (aQ (G.2.1 5) 8 (fun (_ : Int) => (none : Option Nat))) := by rw [e_M8]; exact (hs_n ne_y__q1.symm).trans f7
  refine lv_aload_n hx hb dX1_init_22 rfl (lv_at hl 0 rfl) ?_
  refine n_bipush (z := 40) hx hb dX1_init_23 (by decide) ?_
  refine x_newq (N := 40) 7 hx hb hts hown q155 hXN q156 hK hH hA rfl (by decide) (by decide) (Nat.le_of_ble_eq_true rfl) (Nat.le_of_ble_eq_true rfl) dX1_init_25 (fun q11 H hq11 hH => ?_)
  have ne_y__q11 : y_ ≠ q11 := fun z => by have h9 := f8; rw [z, hq11] at h9; cases h9
  have ne_q5_q11 : q5 ≠ q11 := fun z => by have h9 := f9; rw [z, hq11] at h9; cases h9
  have ne_q1_q11 : q1 ≠ q11 := fun z => by have h9 := f10; rw [z, hq11] at h9; cases h9
  obtain ⟨M11, e_M11⟩ : ∃ M11, M11 = hs M8 q11 (aQ (G.2.1 7) 40 (fun (_ : Int) => (none : Option Nat))) := ⟨_, rfl⟩
  have hH := XV_to hH e_M11.symm
  have f11 : M11 q11 = some (aQ (G.2.1 7) 40 (fun (_ : Int) => (none : Option Nat))) := by rw [e_M11]; exact hs_s
  have f12 : M11 y_ = some (oB 2 [.int (iI 0), .int (iI 0), .int (iI 0), .int (iI 0), .int (iI 0), .int (iI 0), .int (iI 0), .long (lI 0), .ref q1, .ref q5, .null, .null, .null, .null, .null, .null, .null, .null, .null, .null, .null, .null]) := by rw [e_M11]; exact (hs_n (fun z => by have h9 := f8; rw [z, hq11] at h9; cases h9)).trans f8
  have f13 : M11 q5 = some (aQ (G.2.1 6) 40 (fun (_ : Int) => (none : Option Nat))) := by rw [e_M11]; exact (hs_n (fun z => by have h9 := f9; rw [z, hq11] at h9; cases h9)).trans f9
  have f14 : M11 q1 = some (aQ (G.2.1 5) 8 (fun (_ : Int) => (none : Option Nat))) := by rw [e_M11]; exact (hs_n (fun z => by have h9 := f10; rw [z, hq11] at h9; cases h9)).trans f10
  refine x_putF (ty := (.array (.object "BrothFlasks$Look"))) hx hb hts in_X1 tyX1 tyX1_ok nmX1 hown hK hH f12 rfl 10 (by decide) q181 (fun _ h9 => h9) rfl hnm rfl (by decide +kernel) rfl rfl (Nat.le_of_ble_eq_true rfl) (by decide) dX1_init_28 (fun H locs hH => ?_)
  obtain ⟨M15, e_M15⟩ : ∃ M15, M15 = hs M11 y_ (oB 2 [.int (iI 0), .int (iI 0), .int (iI 0), .int (iI 0), .int (iI 0), .int (iI 0), .int (iI 0), .long (lI 0), .ref q1, .ref q5, .ref q11, .null, .null, .null, .null, .null, .null, .null, .null, .null, .null, .null]) := ⟨_, rfl⟩
  have hH := XV_to hH e_M15.symm
  have f15 : M15 y_ = some (oB 2 [.int (iI 0), .int (iI 0), .int (iI 0), .int (iI 0), .int (iI 0), .int (iI 0), .int (iI 0), .long (lI 0), .ref q1, .ref q5, .ref q11, .null, .null, .null, .null, .null, .null, .null, .null, .null, .null, .null]) := by rw [e_M15]; exact hs_s
  have f16 : M15 q11 = some (aQ (G.2.1 7) 40 (fun (_ : Int) => (none : Option Nat))) := by rw [e_M15]; exact (hs_n ne_y__q11.symm).trans f11
  have f17 : M15 q5 = some (aQ (G.2.1 6) 40 (fun (_ : Int) => (none : Option Nat))) := by rw [e_M15]; exact (hs_n ne_y__q5.symm).trans f13
  have f18 : M15 q1 = some (aQ (G.2.1 5) 8 (fun (_ : Int) => (none : Option Nat))) := by rw [e_M15]; exact (hs_n ne_y__q1.symm).trans f14
  refine lv_aload_n hx hb dX1_init_31 rfl (lv_at hl 0 rfl) ?_
  refine n_bipush (z := 12) hx hb dX1_init_32 (by decide) ?_
  refine x_newq (N := 12) 8 hx hb hts hown q157 hXN q158 hK hH hA rfl (by decide) (by decide) (Nat.le_of_ble_eq_true rfl) (Nat.le_of_ble_eq_true rfl) dX1_init_34 (fun q19 H hq19 hH => ?_)
  have ne_y__q19 : y_ ≠ q19 := fun z => by have h9 := f15; rw [z, hq19] at h9; cases h9
  have ne_q11_q19 : q11 ≠ q19 := fun z => by have h9 := f16; rw [z, hq19] at h9; cases h9
  have ne_q5_q19 : q5 ≠ q19 := fun z => by have h9 := f17; rw [z, hq19] at h9; cases h9
  have ne_q1_q19 : q1 ≠ q19 := fun z => by have h9 := f18; rw [z, hq19] at h9; cases h9
  obtain ⟨M19, e_M19⟩ : ∃ M19, M19 = hs M15 q19 (aQ (G.2.1 8) 12 (fun (_ : Int) => (none : Option Nat))) := ⟨_, rfl⟩
  have hH := XV_to hH e_M19.symm
  have f19 : M19 q19 = some (aQ (G.2.1 8) 12 (fun (_ : Int) => (none : Option Nat))) := by rw [e_M19]; exact hs_s
  have f20 : M19 y_ = some (oB 2 [.int (iI 0), .int (iI 0), .int (iI 0), .int (iI 0), .int (iI 0), .int (iI 0), .int (iI 0), .long (lI 0), .ref q1, .ref q5, .ref q11, .null, .null, .null, .null, .null, .null, .null, .null, .null, .null, .null]) := by rw [e_M19]; exact (hs_n (fun z => by have h9 := f15; rw [z, hq19] at h9; cases h9)).trans f15
  have f21 : M19 q11 = some (aQ (G.2.1 7) 40 (fun (_ : Int) => (none : Option Nat))) := by rw [e_M19]; exact (hs_n (fun z => by have h9 := f16; rw [z, hq19] at h9; cases h9)).trans f16
  have f22 : M19 q5 = some (aQ (G.2.1 6) 40 (fun (_ : Int) => (none : Option Nat))) := by rw [e_M19]; exact (hs_n (fun z => by have h9 := f17; rw [z, hq19] at h9; cases h9)).trans f17
  have f23 : M19 q1 = some (aQ (G.2.1 5) 8 (fun (_ : Int) => (none : Option Nat))) := by rw [e_M19]; exact (hs_n (fun z => by have h9 := f18; rw [z, hq19] at h9; cases h9)).trans f18
  refine x_putF (ty := (.array (.object "BrothFlasks$Case"))) hx hb hts in_X1 tyX1 tyX1_ok nmX1 hown hK hH f20 rfl 11 (by decide) q183 (fun _ h9 => h9) rfl hnm rfl (by decide +kernel) rfl rfl (Nat.le_of_ble_eq_true rfl) (by decide) dX1_init_37 (fun H locs hH => ?_)
  obtain ⟨M24, e_M24⟩ : ∃ M24, M24 = hs M19 y_ (oB 2 [.int (iI 0), .int (iI 0), .int (iI 0), .int (iI 0), .int (iI 0), .int (iI 0), .int (iI 0), .long (lI 0), .ref q1, .ref q5, .ref q11, .ref q19, .null, .null, .null, .null, .null, .null, .null, .null, .null, .null]) := ⟨_, rfl⟩
  have hH := XV_to hH e_M24.symm
  have f24 : M24 y_ = some (oB 2 [.int (iI 0), .int (iI 0), .int (iI 0), .int (iI 0), .int (iI 0), .int (iI 0), .int (iI 0), .long (lI 0), .ref q1, .ref q5, .ref q11, .ref q19, .null, .null, .null, .null, .null, .null, .null, .null, .null, .null]) := by rw [e_M24]; exact hs_s
  have f25 : M24 q19 = some (aQ (G.2.1 8) 12 (fun (_ : Int) => (none : Option Nat))) := by rw [e_M24]; exact (hs_n ne_y__q19.symm).trans f19
  have f26 : M24 q11 = some (aQ (G.2.1 7) 40 (fun (_ : Int) => (none : Option Nat))) := by rw [e_M24]; exact (hs_n ne_y__q11.symm).trans f21
  have f27 : M24 q5 = some (aQ (G.2.1 6) 40 (fun (_ : Int) => (none : Option Nat))) := by rw [e_M24]; exact (hs_n ne_y__q5.symm).trans f22
  have f28 : M24 q1 = some (aQ (G.2.1 5) 8 (fun (_ : Int) => (none : Option Nat))) := by rw [e_M24]; exact (hs_n ne_y__q1.symm).trans f23
  refine lv_aload_n hx hb dX1_init_40 rfl (lv_at hl 0 rfl) ?_
  refine n_bipush (z := 12) hx hb dX1_init_41 (by decide) ?_
  refine x_newq (N := 12) 9 hx hb hts hown q159 hXN q160 hK hH hA rfl (by decide) (by decide) (Nat.le_of_ble_eq_true rfl) (Nat.le_of_ble_eq_true rfl) dX1_init_43 (fun q29 H hq29 hH => ?_)
  have ne_y__q29 : y_ ≠ q29 := fun z => by have h9 := f24; rw [z, hq29] at h9; cases h9
  have ne_q19_q29 : q19 ≠ q29 := fun z => by have h9 := f25; rw [z, hq29] at h9; cases h9
  have ne_q11_q29 : q11 ≠ q29 := fun z => by have h9 := f26; rw [z, hq29] at h9; cases h9
  have ne_q5_q29 : q5 ≠ q29 := fun z => by have h9 := f27; rw [z, hq29] at h9; cases h9
  have ne_q1_q29 : q1 ≠ q29 := fun z => by have h9 := f28; rw [z, hq29] at h9; cases h9
  obtain ⟨M29, e_M29⟩ : ∃ M29, M29 = hs M24 q29 (aQ (G.2.1 9) 12 (fun (_ : Int) => (none : Option Nat))) := ⟨_, rfl⟩
  have hH := XV_to hH e_M29.symm
  have f29 : M29 q29 = some (aQ (G.2.1 9) 12 (fun (_ : Int) => (none : Option Nat))) := by rw [e_M29]; exact hs_s
  have f30 : M29 y_ = some (oB 2 [.int (iI 0), .int (iI 0), .int (iI 0), .int (iI 0), .int (iI 0), .int (iI 0), .int (iI 0), .long (lI 0), .ref q1, .ref q5, .ref q11, .ref q19, .null, .null, .null, .null, .null, .null, .null, .null, .null, .null]) := by rw [e_M29]; exact (hs_n (fun z => by have h9 := f24; rw [z, hq29] at h9; cases h9)).trans f24
  have f31 : M29 q19 = some (aQ (G.2.1 8) 12 (fun (_ : Int) => (none : Option Nat))) := by rw [e_M29]; exact (hs_n (fun z => by have h9 := f25; rw [z, hq29] at h9; cases h9)).trans f25
  have f32 : M29 q11 = some (aQ (G.2.1 7) 40 (fun (_ : Int) => (none : Option Nat))) := by rw [e_M29]; exact (hs_n (fun z => by have h9 := f26; rw [z, hq29] at h9; cases h9)).trans f26
  have f33 : M29 q5 = some (aQ (G.2.1 6) 40 (fun (_ : Int) => (none : Option Nat))) := by rw [e_M29]; exact (hs_n (fun z => by have h9 := f27; rw [z, hq29] at h9; cases h9)).trans f27
  have f34 : M29 q1 = some (aQ (G.2.1 5) 8 (fun (_ : Int) => (none : Option Nat))) := by rw [e_M29]; exact (hs_n (fun z => by have h9 := f28; rw [z, hq29] at h9; cases h9)).trans f28
  refine x_putF (ty := (.array (.object "BrothFlasks$Text"))) hx hb hts in_X1 tyX1 tyX1_ok nmX1 hown hK hH f30 rfl 12 (by decide) q185 (fun _ h9 => h9) rfl hnm rfl (by decide +kernel) rfl rfl (Nat.le_of_ble_eq_true rfl) (by decide) dX1_init_46 (fun H locs hH => ?_)
  obtain ⟨M35, e_M35⟩ : ∃ M35, M35 = hs M29 y_ (oB 2 [.int (iI 0), .int (iI 0), .int (iI 0), .int (iI 0), .int (iI 0), .int (iI 0), .int (iI 0), .long (lI 0), .ref q1, .ref q5, .ref q11, .ref q19, .ref q29, .null, .null, .null, .null, .null, .null, .null, .null, .null]) := ⟨_, rfl⟩
  have hH := XV_to hH e_M35.symm
  have f35 : M35 y_ = some (oB 2 [.int (iI 0), .int (iI 0), .int (iI 0), .int (iI 0), .int (iI 0), .int (iI 0), .int (iI 0), .long (lI 0), .ref q1, .ref q5, .ref q11, .ref q19, .ref q29, .null, .null, .null, .null, .null, .null, .null, .null, .null]) := by rw [e_M35]; exact hs_s
  have f36 : M35 q29 = some (aQ (G.2.1 9) 12 (fun (_ : Int) => (none : Option Nat))) := by rw [e_M35]; exact (hs_n ne_y__q29.symm).trans f29
  have f37 : M35 q19 = some (aQ (G.2.1 8) 12 (fun (_ : Int) => (none : Option Nat))) := by rw [e_M35]; exact (hs_n ne_y__q19.symm).trans f31
  have f38 : M35 q11 = some (aQ (G.2.1 7) 40 (fun (_ : Int) => (none : Option Nat))) := by rw [e_M35]; exact (hs_n ne_y__q11.symm).trans f32
  have f39 : M35 q5 = some (aQ (G.2.1 6) 40 (fun (_ : Int) => (none : Option Nat))) := by rw [e_M35]; exact (hs_n ne_y__q5.symm).trans f33
  have f40 : M35 q1 = some (aQ (G.2.1 5) 8 (fun (_ : Int) => (none : Option Nat))) := by rw [e_M35]; exact (hs_n ne_y__q1.symm).trans f34
  refine lv_aload_n hx hb dX1_init_49 rfl (lv_at hl 0 rfl) ?_
  refine n_bipush (z := 9) hx hb dX1_init_50 (by decide) ?_
  refine x_newa (atype := .int) 0 (9, .inl (fun (j : Nat) => iI ((fun (_ : Int) => (0 : Int)) (j : Int)))) hx hb hts rfl q250 hK hH hA rfl (fun _ => rfl) (by decide) (by decide) (by decide) (Nat.le_of_ble_eq_true rfl) (Nat.le_of_ble_eq_true rfl) dX1_init_52 (fun q41 H hq41 hH => ?_)
  have ne_y__q41 : y_ ≠ q41 := fun z => by have h9 := f35; rw [z, hq41] at h9; cases h9
  have ne_q29_q41 : q29 ≠ q41 := fun z => by have h9 := f36; rw [z, hq41] at h9; cases h9
  have ne_q19_q41 : q19 ≠ q41 := fun z => by have h9 := f37; rw [z, hq41] at h9; cases h9
  have ne_q11_q41 : q11 ≠ q41 := fun z => by have h9 := f38; rw [z, hq41] at h9; cases h9
  have ne_q5_q41 : q5 ≠ q41 := fun z => by have h9 := f39; rw [z, hq41] at h9; cases h9
  have ne_q1_q41 : q1 ≠ q41 := fun z => by have h9 := f40; rw [z, hq41] at h9; cases h9
  obtain ⟨M41, e_M41⟩ : ∃ M41, M41 = hs M35 q41 (aI (G.2.1 0) 9 (fun (_ : Int) => (0 : Int))) := ⟨_, rfl⟩
  have hH := XV_to hH e_M41.symm
  have f41 : M41 q41 = some (aI (G.2.1 0) 9 (fun (_ : Int) => (0 : Int))) := by rw [e_M41]; exact hs_s
  have f42 : M41 y_ = some (oB 2 [.int (iI 0), .int (iI 0), .int (iI 0), .int (iI 0), .int (iI 0), .int (iI 0), .int (iI 0), .long (lI 0), .ref q1, .ref q5, .ref q11, .ref q19, .ref q29, .null, .null, .null, .null, .null, .null, .null, .null, .null]) := by rw [e_M41]; exact (hs_n (fun z => by have h9 := f35; rw [z, hq41] at h9; cases h9)).trans f35
  have f43 : M41 q29 = some (aQ (G.2.1 9) 12 (fun (_ : Int) => (none : Option Nat))) := by rw [e_M41]; exact (hs_n (fun z => by have h9 := f36; rw [z, hq41] at h9; cases h9)).trans f36
  have f44 : M41 q19 = some (aQ (G.2.1 8) 12 (fun (_ : Int) => (none : Option Nat))) := by rw [e_M41]; exact (hs_n (fun z => by have h9 := f37; rw [z, hq41] at h9; cases h9)).trans f37
  have f45 : M41 q11 = some (aQ (G.2.1 7) 40 (fun (_ : Int) => (none : Option Nat))) := by rw [e_M41]; exact (hs_n (fun z => by have h9 := f38; rw [z, hq41] at h9; cases h9)).trans f38
  have f46 : M41 q5 = some (aQ (G.2.1 6) 40 (fun (_ : Int) => (none : Option Nat))) := by rw [e_M41]; exact (hs_n (fun z => by have h9 := f39; rw [z, hq41] at h9; cases h9)).trans f39
  have f47 : M41 q1 = some (aQ (G.2.1 5) 8 (fun (_ : Int) => (none : Option Nat))) := by rw [e_M41]; exact (hs_n (fun z => by have h9 := f40; rw [z, hq41] at h9; cases h9)).trans f40
  refine x_putF (ty := (.array .int)) hx hb hts in_X1 tyX1 tyX1_ok nmX1 hown hK hH f42 rfl 13 (by decide) q187 (fun _ h9 => h9) rfl hnm rfl (by decide +kernel) rfl rfl (Nat.le_of_ble_eq_true rfl) (by decide) dX1_init_54 (fun H locs hH => ?_)
  obtain ⟨M48, e_M48⟩ : ∃ M48, M48 = hs M41 y_ (oB 2 [.int (iI 0), .int (iI 0), .int (iI 0), .int (iI 0), .int (iI 0), .int (iI 0), .int (iI 0), .long (lI 0), .ref q1, .ref q5, .ref q11, .ref q19, .ref q29, .ref q41, .null, .null, .null, .null, .null, .null, .null, .null]) := ⟨_, rfl⟩
  have hH := XV_to hH e_M48.symm
  have f48 : M48 y_ = some (oB 2 [.int (iI 0), .int (iI 0), .int (iI 0), .int (iI 0), .int (iI 0), .int (iI 0), .int (iI 0), .long (lI 0), .ref q1, .ref q5, .ref q11, .ref q19, .ref q29, .ref q41, .null, .null, .null, .null, .null, .null, .null, .null]) := by rw [e_M48]; exact hs_s
  have f49 : M48 q41 = some (aI (G.2.1 0) 9 (fun (_ : Int) => (0 : Int))) := by rw [e_M48]; exact (hs_n ne_y__q41.symm).trans f41
  have f50 : M48 q29 = some (aQ (G.2.1 9) 12 (fun (_ : Int) => (none : Option Nat))) := by rw [e_M48]; exact (hs_n ne_y__q29.symm).trans f43
  have f51 : M48 q19 = some (aQ (G.2.1 8) 12 (fun (_ : Int) => (none : Option Nat))) := by rw [e_M48]; exact (hs_n ne_y__q19.symm).trans f44
  have f52 : M48 q11 = some (aQ (G.2.1 7) 40 (fun (_ : Int) => (none : Option Nat))) := by rw [e_M48]; exact (hs_n ne_y__q11.symm).trans f45
  have f53 : M48 q5 = some (aQ (G.2.1 6) 40 (fun (_ : Int) => (none : Option Nat))) := by rw [e_M48]; exact (hs_n ne_y__q5.symm).trans f46
  have f54 : M48 q1 = some (aQ (G.2.1 5) 8 (fun (_ : Int) => (none : Option Nat))) := by rw [e_M48]; exact (hs_n ne_y__q1.symm).trans f47
  refine lv_aload_n hx hb dX1_init_57 rfl (lv_at hl 0 rfl) ?_
  refine n_bipush (z := 9) hx hb dX1_init_58 (by decide) ?_
  refine x_newa (atype := .int) 0 (9, .inl (fun (j : Nat) => iI ((fun (_ : Int) => (0 : Int)) (j : Int)))) hx hb hts rfl q250 hK hH hA rfl (fun _ => rfl) (by decide) (by decide) (by decide) (Nat.le_of_ble_eq_true rfl) (Nat.le_of_ble_eq_true rfl) dX1_init_60 (fun q55 H hq55 hH => ?_)
  have ne_y__q55 : y_ ≠ q55 := fun z => by have h9 := f48; rw [z, hq55] at h9; cases h9
  have ne_q41_q55 : q41 ≠ q55 := fun z => by have h9 := f49; rw [z, hq55] at h9; cases h9
  have ne_q29_q55 : q29 ≠ q55 := fun z => by have h9 := f50; rw [z, hq55] at h9; cases h9
  have ne_q19_q55 : q19 ≠ q55 := fun z => by have h9 := f51; rw [z, hq55] at h9; cases h9
  have ne_q11_q55 : q11 ≠ q55 := fun z => by have h9 := f52; rw [z, hq55] at h9; cases h9
  have ne_q5_q55 : q5 ≠ q55 := fun z => by have h9 := f53; rw [z, hq55] at h9; cases h9
  have ne_q1_q55 : q1 ≠ q55 := fun z => by have h9 := f54; rw [z, hq55] at h9; cases h9
  obtain ⟨M55, e_M55⟩ : ∃ M55, M55 = hs M48 q55 (aI (G.2.1 0) 9 (fun (_ : Int) => (0 : Int))) := ⟨_, rfl⟩
  have hH := XV_to hH e_M55.symm
  have f55 : M55 q55 = some (aI (G.2.1 0) 9 (fun (_ : Int) => (0 : Int))) := by rw [e_M55]; exact hs_s
  have f56 : M55 y_ = some (oB 2 [.int (iI 0), .int (iI 0), .int (iI 0), .int (iI 0), .int (iI 0), .int (iI 0), .int (iI 0), .long (lI 0), .ref q1, .ref q5, .ref q11, .ref q19, .ref q29, .ref q41, .null, .null, .null, .null, .null, .null, .null, .null]) := by rw [e_M55]; exact (hs_n (fun z => by have h9 := f48; rw [z, hq55] at h9; cases h9)).trans f48
  have f57 : M55 q41 = some (aI (G.2.1 0) 9 (fun (_ : Int) => (0 : Int))) := by rw [e_M55]; exact (hs_n (fun z => by have h9 := f49; rw [z, hq55] at h9; cases h9)).trans f49
  have f58 : M55 q29 = some (aQ (G.2.1 9) 12 (fun (_ : Int) => (none : Option Nat))) := by rw [e_M55]; exact (hs_n (fun z => by have h9 := f50; rw [z, hq55] at h9; cases h9)).trans f50
  have f59 : M55 q19 = some (aQ (G.2.1 8) 12 (fun (_ : Int) => (none : Option Nat))) := by rw [e_M55]; exact (hs_n (fun z => by have h9 := f51; rw [z, hq55] at h9; cases h9)).trans f51
  have f60 : M55 q11 = some (aQ (G.2.1 7) 40 (fun (_ : Int) => (none : Option Nat))) := by rw [e_M55]; exact (hs_n (fun z => by have h9 := f52; rw [z, hq55] at h9; cases h9)).trans f52
  have f61 : M55 q5 = some (aQ (G.2.1 6) 40 (fun (_ : Int) => (none : Option Nat))) := by rw [e_M55]; exact (hs_n (fun z => by have h9 := f53; rw [z, hq55] at h9; cases h9)).trans f53
  have f62 : M55 q1 = some (aQ (G.2.1 5) 8 (fun (_ : Int) => (none : Option Nat))) := by rw [e_M55]; exact (hs_n (fun z => by have h9 := f54; rw [z, hq55] at h9; cases h9)).trans f54
  refine x_putF (ty := (.array .int)) hx hb hts in_X1 tyX1 tyX1_ok nmX1 hown hK hH f56 rfl 14 (by decide) q189 (fun _ h9 => h9) rfl hnm rfl (by decide +kernel) rfl rfl (Nat.le_of_ble_eq_true rfl) (by decide) dX1_init_62 (fun H locs hH => ?_)
  obtain ⟨M63, e_M63⟩ : ∃ M63, M63 = hs M55 y_ (oB 2 [.int (iI 0), .int (iI 0), .int (iI 0), .int (iI 0), .int (iI 0), .int (iI 0), .int (iI 0), .long (lI 0), .ref q1, .ref q5, .ref q11, .ref q19, .ref q29, .ref q41, .ref q55, .null, .null, .null, .null, .null, .null, .null]) := ⟨_, rfl⟩
  have hH := XV_to hH e_M63.symm
  have f63 : M63 y_ = some (oB 2 [.int (iI 0), .int (iI 0), .int (iI 0), .int (iI 0), .int (iI 0), .int (iI 0), .int (iI 0), .long (lI 0), .ref q1, .ref q5, .ref q11, .ref q19, .ref q29, .ref q41, .ref q55, .null, .null, .null, .null, .null, .null, .null]) := by rw [e_M63]; exact hs_s
  have f64 : M63 q55 = some (aI (G.2.1 0) 9 (fun (_ : Int) => (0 : Int))) := by rw [e_M63]; exact (hs_n ne_y__q55.symm).trans f55
  have f65 : M63 q41 = some (aI (G.2.1 0) 9 (fun (_ : Int) => (0 : Int))) := by rw [e_M63]; exact (hs_n ne_y__q41.symm).trans f57
  have f66 : M63 q29 = some (aQ (G.2.1 9) 12 (fun (_ : Int) => (none : Option Nat))) := by rw [e_M63]; exact (hs_n ne_y__q29.symm).trans f58
  have f67 : M63 q19 = some (aQ (G.2.1 8) 12 (fun (_ : Int) => (none : Option Nat))) := by rw [e_M63]; exact (hs_n ne_y__q19.symm).trans f59
  have f68 : M63 q11 = some (aQ (G.2.1 7) 40 (fun (_ : Int) => (none : Option Nat))) := by rw [e_M63]; exact (hs_n ne_y__q11.symm).trans f60
  have f69 : M63 q5 = some (aQ (G.2.1 6) 40 (fun (_ : Int) => (none : Option Nat))) := by rw [e_M63]; exact (hs_n ne_y__q5.symm).trans f61
  have f70 : M63 q1 = some (aQ (G.2.1 5) 8 (fun (_ : Int) => (none : Option Nat))) := by rw [e_M63]; exact (hs_n ne_y__q1.symm).trans f62
  refine lv_aload_n hx hb dX1_init_65 rfl (lv_at hl 0 rfl) ?_
  refine n_bipush (z := 6) hx hb dX1_init_66 (by decide) ?_
  refine x_newa (atype := .int) 0 (6, .inl (fun (j : Nat) => iI ((fun (_ : Int) => (0 : Int)) (j : Int)))) hx hb hts rfl q250 hK hH hA rfl (fun _ => rfl) (by decide) (by decide) (by decide) (Nat.le_of_ble_eq_true rfl) (Nat.le_of_ble_eq_true rfl) dX1_init_68 (fun q71 H hq71 hH => ?_)
  have ne_y__q71 : y_ ≠ q71 := fun z => by have h9 := f63; rw [z, hq71] at h9; cases h9
  have ne_q55_q71 : q55 ≠ q71 := fun z => by have h9 := f64; rw [z, hq71] at h9; cases h9
  have ne_q41_q71 : q41 ≠ q71 := fun z => by have h9 := f65; rw [z, hq71] at h9; cases h9
  have ne_q29_q71 : q29 ≠ q71 := fun z => by have h9 := f66; rw [z, hq71] at h9; cases h9
  have ne_q19_q71 : q19 ≠ q71 := fun z => by have h9 := f67; rw [z, hq71] at h9; cases h9
  have ne_q11_q71 : q11 ≠ q71 := fun z => by have h9 := f68; rw [z, hq71] at h9; cases h9
  have ne_q5_q71 : q5 ≠ q71 := fun z => by have h9 := f69; rw [z, hq71] at h9; cases h9
  have ne_q1_q71 : q1 ≠ q71 := fun z => by have h9 := f70; rw [z, hq71] at h9; cases h9
  obtain ⟨M71, e_M71⟩ : ∃ M71, M71 = hs M63 q71 (aI (G.2.1 0) 6 (fun (_ : Int) => (0 : Int))) := ⟨_, rfl⟩
  have hH := XV_to hH e_M71.symm
  have f71 : M71 q71 = some (aI (G.2.1 0) 6 (fun (_ : Int) => (0 : Int))) := by rw [e_M71]; exact hs_s
  have f72 : M71 y_ = some (oB 2 [.int (iI 0), .int (iI 0), .int (iI 0), .int (iI 0), .int (iI 0), .int (iI 0), .int (iI 0), .long (lI 0), .ref q1, .ref q5, .ref q11, .ref q19, .ref q29, .ref q41, .ref q55, .null, .null, .null, .null, .null, .null, .null]) := by rw [e_M71]; exact (hs_n (fun z => by have h9 := f63; rw [z, hq71] at h9; cases h9)).trans f63
  have f73 : M71 q55 = some (aI (G.2.1 0) 9 (fun (_ : Int) => (0 : Int))) := by rw [e_M71]; exact (hs_n (fun z => by have h9 := f64; rw [z, hq71] at h9; cases h9)).trans f64
  have f74 : M71 q41 = some (aI (G.2.1 0) 9 (fun (_ : Int) => (0 : Int))) := by rw [e_M71]; exact (hs_n (fun z => by have h9 := f65; rw [z, hq71] at h9; cases h9)).trans f65
  have f75 : M71 q29 = some (aQ (G.2.1 9) 12 (fun (_ : Int) => (none : Option Nat))) := by rw [e_M71]; exact (hs_n (fun z => by have h9 := f66; rw [z, hq71] at h9; cases h9)).trans f66
  have f76 : M71 q19 = some (aQ (G.2.1 8) 12 (fun (_ : Int) => (none : Option Nat))) := by rw [e_M71]; exact (hs_n (fun z => by have h9 := f67; rw [z, hq71] at h9; cases h9)).trans f67
  have f77 : M71 q11 = some (aQ (G.2.1 7) 40 (fun (_ : Int) => (none : Option Nat))) := by rw [e_M71]; exact (hs_n (fun z => by have h9 := f68; rw [z, hq71] at h9; cases h9)).trans f68
  have f78 : M71 q5 = some (aQ (G.2.1 6) 40 (fun (_ : Int) => (none : Option Nat))) := by rw [e_M71]; exact (hs_n (fun z => by have h9 := f69; rw [z, hq71] at h9; cases h9)).trans f69
  have f79 : M71 q1 = some (aQ (G.2.1 5) 8 (fun (_ : Int) => (none : Option Nat))) := by rw [e_M71]; exact (hs_n (fun z => by have h9 := f70; rw [z, hq71] at h9; cases h9)).trans f70
  refine x_putF (ty := (.array .int)) hx hb hts in_X1 tyX1 tyX1_ok nmX1 hown hK hH f72 rfl 15 (by decide) q191 (fun _ h9 => h9) rfl hnm rfl (by decide +kernel) rfl rfl (Nat.le_of_ble_eq_true rfl) (by decide) dX1_init_70 (fun H locs hH => ?_)
  obtain ⟨M80, e_M80⟩ : ∃ M80, M80 = hs M71 y_ (oB 2 [.int (iI 0), .int (iI 0), .int (iI 0), .int (iI 0), .int (iI 0), .int (iI 0), .int (iI 0), .long (lI 0), .ref q1, .ref q5, .ref q11, .ref q19, .ref q29, .ref q41, .ref q55, .ref q71, .null, .null, .null, .null, .null, .null]) := ⟨_, rfl⟩
  have hH := XV_to hH e_M80.symm
  have f80 : M80 y_ = some (oB 2 [.int (iI 0), .int (iI 0), .int (iI 0), .int (iI 0), .int (iI 0), .int (iI 0), .int (iI 0), .long (lI 0), .ref q1, .ref q5, .ref q11, .ref q19, .ref q29, .ref q41, .ref q55, .ref q71, .null, .null, .null, .null, .null, .null]) := by rw [e_M80]; exact hs_s
  have f81 : M80 q71 = some (aI (G.2.1 0) 6 (fun (_ : Int) => (0 : Int))) := by rw [e_M80]; exact (hs_n ne_y__q71.symm).trans f71
  have f82 : M80 q55 = some (aI (G.2.1 0) 9 (fun (_ : Int) => (0 : Int))) := by rw [e_M80]; exact (hs_n ne_y__q55.symm).trans f73
  have f83 : M80 q41 = some (aI (G.2.1 0) 9 (fun (_ : Int) => (0 : Int))) := by rw [e_M80]; exact (hs_n ne_y__q41.symm).trans f74
  have f84 : M80 q29 = some (aQ (G.2.1 9) 12 (fun (_ : Int) => (none : Option Nat))) := by rw [e_M80]; exact (hs_n ne_y__q29.symm).trans f75
  have f85 : M80 q19 = some (aQ (G.2.1 8) 12 (fun (_ : Int) => (none : Option Nat))) := by rw [e_M80]; exact (hs_n ne_y__q19.symm).trans f76
  have f86 : M80 q11 = some (aQ (G.2.1 7) 40 (fun (_ : Int) => (none : Option Nat))) := by rw [e_M80]; exact (hs_n ne_y__q11.symm).trans f77
  have f87 : M80 q5 = some (aQ (G.2.1 6) 40 (fun (_ : Int) => (none : Option Nat))) := by rw [e_M80]; exact (hs_n ne_y__q5.symm).trans f78
  have f88 : M80 q1 = some (aQ (G.2.1 5) 8 (fun (_ : Int) => (none : Option Nat))) := by rw [e_M80]; exact (hs_n ne_y__q1.symm).trans f79
  refine lv_aload_n hx hb dX1_init_73 rfl (lv_at hl 0 rfl) ?_
  refine n_bipush (z := 6) hx hb dX1_init_74 (by decide) ?_
  refine x_newa (atype := .int) 0 (6, .inl (fun (j : Nat) => iI ((fun (_ : Int) => (0 : Int)) (j : Int)))) hx hb hts rfl q250 hK hH hA rfl (fun _ => rfl) (by decide) (by decide) (by decide) (Nat.le_of_ble_eq_true rfl) (Nat.le_of_ble_eq_true rfl) dX1_init_76 (fun q89 H hq89 hH => ?_)
  have ne_y__q89 : y_ ≠ q89 := fun z => by have h9 := f80; rw [z, hq89] at h9; cases h9
  have ne_q71_q89 : q71 ≠ q89 := fun z => by have h9 := f81; rw [z, hq89] at h9; cases h9
  have ne_q55_q89 : q55 ≠ q89 := fun z => by have h9 := f82; rw [z, hq89] at h9; cases h9
  have ne_q41_q89 : q41 ≠ q89 := fun z => by have h9 := f83; rw [z, hq89] at h9; cases h9
  have ne_q29_q89 : q29 ≠ q89 := fun z => by have h9 := f84; rw [z, hq89] at h9; cases h9
  have ne_q19_q89 : q19 ≠ q89 := fun z => by have h9 := f85; rw [z, hq89] at h9; cases h9
  have ne_q11_q89 : q11 ≠ q89 := fun z => by have h9 := f86; rw [z, hq89] at h9; cases h9
  have ne_q5_q89 : q5 ≠ q89 := fun z => by have h9 := f87; rw [z, hq89] at h9; cases h9
  have ne_q1_q89 : q1 ≠ q89 := fun z => by have h9 := f88; rw [z, hq89] at h9; cases h9
  obtain ⟨M89, e_M89⟩ : ∃ M89, M89 = hs M80 q89 (aI (G.2.1 0) 6 (fun (_ : Int) => (0 : Int))) := ⟨_, rfl⟩
  have hH := XV_to hH e_M89.symm
  have f89 : M89 q89 = some (aI (G.2.1 0) 6 (fun (_ : Int) => (0 : Int))) := by rw [e_M89]; exact hs_s
  have f90 : M89 y_ = some (oB 2 [.int (iI 0), .int (iI 0), .int (iI 0), .int (iI 0), .int (iI 0), .int (iI 0), .int (iI 0), .long (lI 0), .ref q1, .ref q5, .ref q11, .ref q19, .ref q29, .ref q41, .ref q55, .ref q71, .null, .null, .null, .null, .null, .null]) := by rw [e_M89]; exact (hs_n (fun z => by have h9 := f80; rw [z, hq89] at h9; cases h9)).trans f80
  have f91 : M89 q71 = some (aI (G.2.1 0) 6 (fun (_ : Int) => (0 : Int))) := by rw [e_M89]; exact (hs_n (fun z => by have h9 := f81; rw [z, hq89] at h9; cases h9)).trans f81
  have f92 : M89 q55 = some (aI (G.2.1 0) 9 (fun (_ : Int) => (0 : Int))) := by rw [e_M89]; exact (hs_n (fun z => by have h9 := f82; rw [z, hq89] at h9; cases h9)).trans f82
  have f93 : M89 q41 = some (aI (G.2.1 0) 9 (fun (_ : Int) => (0 : Int))) := by rw [e_M89]; exact (hs_n (fun z => by have h9 := f83; rw [z, hq89] at h9; cases h9)).trans f83
  have f94 : M89 q29 = some (aQ (G.2.1 9) 12 (fun (_ : Int) => (none : Option Nat))) := by rw [e_M89]; exact (hs_n (fun z => by have h9 := f84; rw [z, hq89] at h9; cases h9)).trans f84
  have f95 : M89 q19 = some (aQ (G.2.1 8) 12 (fun (_ : Int) => (none : Option Nat))) := by rw [e_M89]; exact (hs_n (fun z => by have h9 := f85; rw [z, hq89] at h9; cases h9)).trans f85
  have f96 : M89 q11 = some (aQ (G.2.1 7) 40 (fun (_ : Int) => (none : Option Nat))) := by rw [e_M89]; exact (hs_n (fun z => by have h9 := f86; rw [z, hq89] at h9; cases h9)).trans f86
  have f97 : M89 q5 = some (aQ (G.2.1 6) 40 (fun (_ : Int) => (none : Option Nat))) := by rw [e_M89]; exact (hs_n (fun z => by have h9 := f87; rw [z, hq89] at h9; cases h9)).trans f87
  have f98 : M89 q1 = some (aQ (G.2.1 5) 8 (fun (_ : Int) => (none : Option Nat))) := by rw [e_M89]; exact (hs_n (fun z => by have h9 := f88; rw [z, hq89] at h9; cases h9)).trans f88
  refine lv_dup hx hb dX1_init_78 rfl ?_
  refine n_iconst hx hb dX1_init_79 ?_
  refine n_bipush (z := 7) hx hb dX1_init_80 (by decide) ?_
  refine x_iast hx hb hK hH f89 (by omega) (by omega) (Nat.le_of_ble_eq_true rfl) dX1_init_82 (fun H locs hH => ?_)
  obtain ⟨M99, e_M99⟩ : ∃ M99, M99 = hs M89 q89 (aI (G.2.1 0) 6 (up (fun (_ : Int) => (0 : Int)) 0 7)) := ⟨_, rfl⟩
  have hH := XV_to hH e_M99.symm
  have f99 : M99 q89 = some (aI (G.2.1 0) 6 (up (fun (_ : Int) => (0 : Int)) 0 7)) := by rw [e_M99]; exact hs_s
  have f100 : M99 y_ = some (oB 2 [.int (iI 0), .int (iI 0), .int (iI 0), .int (iI 0), .int (iI 0), .int (iI 0), .int (iI 0), .long (lI 0), .ref q1, .ref q5, .ref q11, .ref q19, .ref q29, .ref q41, .ref q55, .ref q71, .null, .null, .null, .null, .null, .null]) := by rw [e_M99]; exact (hs_n ne_y__q89).trans f90
  have f101 : M99 q71 = some (aI (G.2.1 0) 6 (fun (_ : Int) => (0 : Int))) := by rw [e_M99]; exact (hs_n ne_q71_q89).trans f91
  have f102 : M99 q55 = some (aI (G.2.1 0) 9 (fun (_ : Int) => (0 : Int))) := by rw [e_M99]; exact (hs_n ne_q55_q89).trans f92
  have f103 : M99 q41 = some (aI (G.2.1 0) 9 (fun (_ : Int) => (0 : Int))) := by rw [e_M99]; exact (hs_n ne_q41_q89).trans f93
  have f104 : M99 q29 = some (aQ (G.2.1 9) 12 (fun (_ : Int) => (none : Option Nat))) := by rw [e_M99]; exact (hs_n ne_q29_q89).trans f94
  have f105 : M99 q19 = some (aQ (G.2.1 8) 12 (fun (_ : Int) => (none : Option Nat))) := by rw [e_M99]; exact (hs_n ne_q19_q89).trans f95
  have f106 : M99 q11 = some (aQ (G.2.1 7) 40 (fun (_ : Int) => (none : Option Nat))) := by rw [e_M99]; exact (hs_n ne_q11_q89).trans f96
  have f107 : M99 q5 = some (aQ (G.2.1 6) 40 (fun (_ : Int) => (none : Option Nat))) := by rw [e_M99]; exact (hs_n ne_q5_q89).trans f97
  have f108 : M99 q1 = some (aQ (G.2.1 5) 8 (fun (_ : Int) => (none : Option Nat))) := by rw [e_M99]; exact (hs_n ne_q1_q89).trans f98
  refine lv_dup hx hb dX1_init_83 rfl ?_
  refine n_iconst hx hb dX1_init_84 ?_
  refine n_bipush (z := 7) hx hb dX1_init_85 (by decide) ?_
  refine x_iast hx hb hK hH f99 (by omega) (by omega) (Nat.le_of_ble_eq_true rfl) dX1_init_87 (fun H locs hH => ?_)
  obtain ⟨M109, e_M109⟩ : ∃ M109, M109 = hs M99 q89 (aI (G.2.1 0) 6 (up (up (fun (_ : Int) => (0 : Int)) 0 7) 1 7)) := ⟨_, rfl⟩
  have hH := XV_to hH e_M109.symm
  have f109 : M109 q89 = some (aI (G.2.1 0) 6 (up (up (fun (_ : Int) => (0 : Int)) 0 7) 1 7)) := by rw [e_M109]; exact hs_s
  have f110 : M109 y_ = some (oB 2 [.int (iI 0), .int (iI 0), .int (iI 0), .int (iI 0), .int (iI 0), .int (iI 0), .int (iI 0), .long (lI 0), .ref q1, .ref q5, .ref q11, .ref q19, .ref q29, .ref q41, .ref q55, .ref q71, .null, .null, .null, .null, .null, .null]) := by rw [e_M109]; exact (hs_n ne_y__q89).trans f100
  have f111 : M109 q71 = some (aI (G.2.1 0) 6 (fun (_ : Int) => (0 : Int))) := by rw [e_M109]; exact (hs_n ne_q71_q89).trans f101
  have f112 : M109 q55 = some (aI (G.2.1 0) 9 (fun (_ : Int) => (0 : Int))) := by rw [e_M109]; exact (hs_n ne_q55_q89).trans f102
  have f113 : M109 q41 = some (aI (G.2.1 0) 9 (fun (_ : Int) => (0 : Int))) := by rw [e_M109]; exact (hs_n ne_q41_q89).trans f103
  have f114 : M109 q29 = some (aQ (G.2.1 9) 12 (fun (_ : Int) => (none : Option Nat))) := by rw [e_M109]; exact (hs_n ne_q29_q89).trans f104
  have f115 : M109 q19 = some (aQ (G.2.1 8) 12 (fun (_ : Int) => (none : Option Nat))) := by rw [e_M109]; exact (hs_n ne_q19_q89).trans f105
  have f116 : M109 q11 = some (aQ (G.2.1 7) 40 (fun (_ : Int) => (none : Option Nat))) := by rw [e_M109]; exact (hs_n ne_q11_q89).trans f106
  have f117 : M109 q5 = some (aQ (G.2.1 6) 40 (fun (_ : Int) => (none : Option Nat))) := by rw [e_M109]; exact (hs_n ne_q5_q89).trans f107
  have f118 : M109 q1 = some (aQ (G.2.1 5) 8 (fun (_ : Int) => (none : Option Nat))) := by rw [e_M109]; exact (hs_n ne_q1_q89).trans f108
  refine lv_dup hx hb dX1_init_88 rfl ?_
  refine n_iconst hx hb dX1_init_89 ?_
  refine n_bipush (z := 7) hx hb dX1_init_90 (by decide) ?_
  refine x_iast hx hb hK hH f109 (by omega) (by omega) (Nat.le_of_ble_eq_true rfl) dX1_init_92 (fun H locs hH => ?_)
  obtain ⟨M119, e_M119⟩ : ∃ M119, M119 = hs M109 q89 (aI (G.2.1 0) 6 (up (up (up (fun (_ : Int) => (0 : Int)) 0 7) 1 7) 2 7)) := ⟨_, rfl⟩
  have hH := XV_to hH e_M119.symm
  have f119 : M119 q89 = some (aI (G.2.1 0) 6 (up (up (up (fun (_ : Int) => (0 : Int)) 0 7) 1 7) 2 7)) := by rw [e_M119]; exact hs_s
  have f120 : M119 y_ = some (oB 2 [.int (iI 0), .int (iI 0), .int (iI 0), .int (iI 0), .int (iI 0), .int (iI 0), .int (iI 0), .long (lI 0), .ref q1, .ref q5, .ref q11, .ref q19, .ref q29, .ref q41, .ref q55, .ref q71, .null, .null, .null, .null, .null, .null]) := by rw [e_M119]; exact (hs_n ne_y__q89).trans f110
  have f121 : M119 q71 = some (aI (G.2.1 0) 6 (fun (_ : Int) => (0 : Int))) := by rw [e_M119]; exact (hs_n ne_q71_q89).trans f111
  have f122 : M119 q55 = some (aI (G.2.1 0) 9 (fun (_ : Int) => (0 : Int))) := by rw [e_M119]; exact (hs_n ne_q55_q89).trans f112
  have f123 : M119 q41 = some (aI (G.2.1 0) 9 (fun (_ : Int) => (0 : Int))) := by rw [e_M119]; exact (hs_n ne_q41_q89).trans f113
  have f124 : M119 q29 = some (aQ (G.2.1 9) 12 (fun (_ : Int) => (none : Option Nat))) := by rw [e_M119]; exact (hs_n ne_q29_q89).trans f114
  have f125 : M119 q19 = some (aQ (G.2.1 8) 12 (fun (_ : Int) => (none : Option Nat))) := by rw [e_M119]; exact (hs_n ne_q19_q89).trans f115
  have f126 : M119 q11 = some (aQ (G.2.1 7) 40 (fun (_ : Int) => (none : Option Nat))) := by rw [e_M119]; exact (hs_n ne_q11_q89).trans f116
  have f127 : M119 q5 = some (aQ (G.2.1 6) 40 (fun (_ : Int) => (none : Option Nat))) := by rw [e_M119]; exact (hs_n ne_q5_q89).trans f117
  have f128 : M119 q1 = some (aQ (G.2.1 5) 8 (fun (_ : Int) => (none : Option Nat))) := by rw [e_M119]; exact (hs_n ne_q1_q89).trans f118
  refine lv_dup hx hb dX1_init_93 rfl ?_
  refine n_iconst hx hb dX1_init_94 ?_
  refine n_bipush (z := 7) hx hb dX1_init_95 (by decide) ?_
  refine x_iast hx hb hK hH f119 (by omega) (by omega) (Nat.le_of_ble_eq_true rfl) dX1_init_97 (fun H locs hH => ?_)
  obtain ⟨M129, e_M129⟩ : ∃ M129, M129 = hs M119 q89 (aI (G.2.1 0) 6 (up (up (up (up (fun (_ : Int) => (0 : Int)) 0 7) 1 7) 2 7) 3 7)) := ⟨_, rfl⟩
  have hH := XV_to hH e_M129.symm
  have f129 : M129 q89 = some (aI (G.2.1 0) 6 (up (up (up (up (fun (_ : Int) => (0 : Int)) 0 7) 1 7) 2 7) 3 7)) := by rw [e_M129]; exact hs_s
  have f130 : M129 y_ = some (oB 2 [.int (iI 0), .int (iI 0), .int (iI 0), .int (iI 0), .int (iI 0), .int (iI 0), .int (iI 0), .long (lI 0), .ref q1, .ref q5, .ref q11, .ref q19, .ref q29, .ref q41, .ref q55, .ref q71, .null, .null, .null, .null, .null, .null]) := by rw [e_M129]; exact (hs_n ne_y__q89).trans f120
  have f131 : M129 q71 = some (aI (G.2.1 0) 6 (fun (_ : Int) => (0 : Int))) := by rw [e_M129]; exact (hs_n ne_q71_q89).trans f121
  have f132 : M129 q55 = some (aI (G.2.1 0) 9 (fun (_ : Int) => (0 : Int))) := by rw [e_M129]; exact (hs_n ne_q55_q89).trans f122
  have f133 : M129 q41 = some (aI (G.2.1 0) 9 (fun (_ : Int) => (0 : Int))) := by rw [e_M129]; exact (hs_n ne_q41_q89).trans f123
  have f134 : M129 q29 = some (aQ (G.2.1 9) 12 (fun (_ : Int) => (none : Option Nat))) := by rw [e_M129]; exact (hs_n ne_q29_q89).trans f124
  have f135 : M129 q19 = some (aQ (G.2.1 8) 12 (fun (_ : Int) => (none : Option Nat))) := by rw [e_M129]; exact (hs_n ne_q19_q89).trans f125
  have f136 : M129 q11 = some (aQ (G.2.1 7) 40 (fun (_ : Int) => (none : Option Nat))) := by rw [e_M129]; exact (hs_n ne_q11_q89).trans f126
  have f137 : M129 q5 = some (aQ (G.2.1 6) 40 (fun (_ : Int) => (none : Option Nat))) := by rw [e_M129]; exact (hs_n ne_q5_q89).trans f127
  have f138 : M129 q1 = some (aQ (G.2.1 5) 8 (fun (_ : Int) => (none : Option Nat))) := by rw [e_M129]; exact (hs_n ne_q1_q89).trans f128
  refine lv_dup hx hb dX1_init_98 rfl ?_
  refine n_iconst hx hb dX1_init_99 ?_
  refine n_bipush (z := 7) hx hb dX1_init_100 (by decide) ?_
  refine x_iast hx hb hK hH f129 (by omega) (by omega) (Nat.le_of_ble_eq_true rfl) dX1_init_102 (fun H locs hH => ?_)
  obtain ⟨M139, e_M139⟩ : ∃ M139, M139 = hs M129 q89 (aI (G.2.1 0) 6 (up (up (up (up (up (fun (_ : Int) => (0 : Int)) 0 7) 1 7) 2 7) 3 7) 4 7)) := ⟨_, rfl⟩
  have hH := XV_to hH e_M139.symm
  have f139 : M139 q89 = some (aI (G.2.1 0) 6 (up (up (up (up (up (fun (_ : Int) => (0 : Int)) 0 7) 1 7) 2 7) 3 7) 4 7)) := by rw [e_M139]; exact hs_s
  have f140 : M139 y_ = some (oB 2 [.int (iI 0), .int (iI 0), .int (iI 0), .int (iI 0), .int (iI 0), .int (iI 0), .int (iI 0), .long (lI 0), .ref q1, .ref q5, .ref q11, .ref q19, .ref q29, .ref q41, .ref q55, .ref q71, .null, .null, .null, .null, .null, .null]) := by rw [e_M139]; exact (hs_n ne_y__q89).trans f130
  have f141 : M139 q71 = some (aI (G.2.1 0) 6 (fun (_ : Int) => (0 : Int))) := by rw [e_M139]; exact (hs_n ne_q71_q89).trans f131
  have f142 : M139 q55 = some (aI (G.2.1 0) 9 (fun (_ : Int) => (0 : Int))) := by rw [e_M139]; exact (hs_n ne_q55_q89).trans f132
  have f143 : M139 q41 = some (aI (G.2.1 0) 9 (fun (_ : Int) => (0 : Int))) := by rw [e_M139]; exact (hs_n ne_q41_q89).trans f133
  have f144 : M139 q29 = some (aQ (G.2.1 9) 12 (fun (_ : Int) => (none : Option Nat))) := by rw [e_M139]; exact (hs_n ne_q29_q89).trans f134
  have f145 : M139 q19 = some (aQ (G.2.1 8) 12 (fun (_ : Int) => (none : Option Nat))) := by rw [e_M139]; exact (hs_n ne_q19_q89).trans f135
  have f146 : M139 q11 = some (aQ (G.2.1 7) 40 (fun (_ : Int) => (none : Option Nat))) := by rw [e_M139]; exact (hs_n ne_q11_q89).trans f136
  have f147 : M139 q5 = some (aQ (G.2.1 6) 40 (fun (_ : Int) => (none : Option Nat))) := by rw [e_M139]; exact (hs_n ne_q5_q89).trans f137
  have f148 : M139 q1 = some (aQ (G.2.1 5) 8 (fun (_ : Int) => (none : Option Nat))) := by rw [e_M139]; exact (hs_n ne_q1_q89).trans f138
  refine lv_dup hx hb dX1_init_103 rfl ?_
  refine n_iconst hx hb dX1_init_104 ?_
  refine n_bipush (z := 7) hx hb dX1_init_105 (by decide) ?_
  refine x_iast hx hb hK hH f139 (by omega) (by omega) (Nat.le_of_ble_eq_true rfl) dX1_init_107 (fun H locs hH => ?_)
  obtain ⟨M149, e_M149⟩ : ∃ M149, M149 = hs M139 q89 (aI (G.2.1 0) 6 (up (up (up (up (up (up (fun (_ : Int) => (0 : Int)) 0 7) 1 7) 2 7) 3 7) 4 7) 5 7)) := ⟨_, rfl⟩
  have hH := XV_to hH e_M149.symm
  have f149 : M149 q89 = some (aI (G.2.1 0) 6 (up (up (up (up (up (up (fun (_ : Int) => (0 : Int)) 0 7) 1 7) 2 7) 3 7) 4 7) 5 7)) := by rw [e_M149]; exact hs_s
  have f150 : M149 y_ = some (oB 2 [.int (iI 0), .int (iI 0), .int (iI 0), .int (iI 0), .int (iI 0), .int (iI 0), .int (iI 0), .long (lI 0), .ref q1, .ref q5, .ref q11, .ref q19, .ref q29, .ref q41, .ref q55, .ref q71, .null, .null, .null, .null, .null, .null]) := by rw [e_M149]; exact (hs_n ne_y__q89).trans f140
  have f151 : M149 q71 = some (aI (G.2.1 0) 6 (fun (_ : Int) => (0 : Int))) := by rw [e_M149]; exact (hs_n ne_q71_q89).trans f141
  have f152 : M149 q55 = some (aI (G.2.1 0) 9 (fun (_ : Int) => (0 : Int))) := by rw [e_M149]; exact (hs_n ne_q55_q89).trans f142
  have f153 : M149 q41 = some (aI (G.2.1 0) 9 (fun (_ : Int) => (0 : Int))) := by rw [e_M149]; exact (hs_n ne_q41_q89).trans f143
  have f154 : M149 q29 = some (aQ (G.2.1 9) 12 (fun (_ : Int) => (none : Option Nat))) := by rw [e_M149]; exact (hs_n ne_q29_q89).trans f144
  have f155 : M149 q19 = some (aQ (G.2.1 8) 12 (fun (_ : Int) => (none : Option Nat))) := by rw [e_M149]; exact (hs_n ne_q19_q89).trans f145
  have f156 : M149 q11 = some (aQ (G.2.1 7) 40 (fun (_ : Int) => (none : Option Nat))) := by rw [e_M149]; exact (hs_n ne_q11_q89).trans f146
  have f157 : M149 q5 = some (aQ (G.2.1 6) 40 (fun (_ : Int) => (none : Option Nat))) := by rw [e_M149]; exact (hs_n ne_q5_q89).trans f147
  have f158 : M149 q1 = some (aQ (G.2.1 5) 8 (fun (_ : Int) => (none : Option Nat))) := by rw [e_M149]; exact (hs_n ne_q1_q89).trans f148
  refine x_putF (ty := (.array .int)) hx hb hts in_X1 tyX1 tyX1_ok nmX1 hown hK hH f150 rfl 16 (by decide) q193 (fun _ h9 => h9) rfl hnm rfl (by decide +kernel) rfl rfl (Nat.le_of_ble_eq_true rfl) (by decide) dX1_init_108 (fun H locs hH => ?_)
  obtain ⟨M159, e_M159⟩ : ∃ M159, M159 = hs M149 y_ (oB 2 [.int (iI 0), .int (iI 0), .int (iI 0), .int (iI 0), .int (iI 0), .int (iI 0), .int (iI 0), .long (lI 0), .ref q1, .ref q5, .ref q11, .ref q19, .ref q29, .ref q41, .ref q55, .ref q71, .ref q89, .null, .null, .null, .null, .null]) := ⟨_, rfl⟩
  have hH := XV_to hH e_M159.symm
  have f159 : M159 y_ = some (oB 2 [.int (iI 0), .int (iI 0), .int (iI 0), .int (iI 0), .int (iI 0), .int (iI 0), .int (iI 0), .long (lI 0), .ref q1, .ref q5, .ref q11, .ref q19, .ref q29, .ref q41, .ref q55, .ref q71, .ref q89, .null, .null, .null, .null, .null]) := by rw [e_M159]; exact hs_s
  have f160 : M159 q89 = some (aI (G.2.1 0) 6 (up (up (up (up (up (up (fun (_ : Int) => (0 : Int)) 0 7) 1 7) 2 7) 3 7) 4 7) 5 7)) := by rw [e_M159]; exact (hs_n ne_y__q89.symm).trans f149
  have f161 : M159 q71 = some (aI (G.2.1 0) 6 (fun (_ : Int) => (0 : Int))) := by rw [e_M159]; exact (hs_n ne_y__q71.symm).trans f151
  have f162 : M159 q55 = some (aI (G.2.1 0) 9 (fun (_ : Int) => (0 : Int))) := by rw [e_M159]; exact (hs_n ne_y__q55.symm).trans f152
  have f163 : M159 q41 = some (aI (G.2.1 0) 9 (fun (_ : Int) => (0 : Int))) := by rw [e_M159]; exact (hs_n ne_y__q41.symm).trans f153
  have f164 : M159 q29 = some (aQ (G.2.1 9) 12 (fun (_ : Int) => (none : Option Nat))) := by rw [e_M159]; exact (hs_n ne_y__q29.symm).trans f154
  have f165 : M159 q19 = some (aQ (G.2.1 8) 12 (fun (_ : Int) => (none : Option Nat))) := by rw [e_M159]; exact (hs_n ne_y__q19.symm).trans f155
  have f166 : M159 q11 = some (aQ (G.2.1 7) 40 (fun (_ : Int) => (none : Option Nat))) := by rw [e_M159]; exact (hs_n ne_y__q11.symm).trans f156
  have f167 : M159 q5 = some (aQ (G.2.1 6) 40 (fun (_ : Int) => (none : Option Nat))) := by rw [e_M159]; exact (hs_n ne_y__q5.symm).trans f157
  have f168 : M159 q1 = some (aQ (G.2.1 5) 8 (fun (_ : Int) => (none : Option Nat))) := by rw [e_M159]; exact (hs_n ne_y__q1.symm).trans f158
  refine lv_aload_n hx hb dX1_init_111 rfl (lv_at hl 0 rfl) ?_
  refine n_bipush (z := 6) hx hb dX1_init_112 (by decide) ?_
  refine x_newa (atype := .int) 0 (6, .inl (fun (j : Nat) => iI ((fun (_ : Int) => (0 : Int)) (j : Int)))) hx hb hts rfl q250 hK hH hA rfl (fun _ => rfl) (by decide) (by decide) (by decide) (Nat.le_of_ble_eq_true rfl) (Nat.le_of_ble_eq_true rfl) dX1_init_114 (fun q169 H hq169 hH => ?_)
  have ne_y__q169 : y_ ≠ q169 := fun z => by have h9 := f159; rw [z, hq169] at h9; cases h9
  have ne_q89_q169 : q89 ≠ q169 := fun z => by have h9 := f160; rw [z, hq169] at h9; cases h9
  have ne_q71_q169 : q71 ≠ q169 := fun z => by have h9 := f161; rw [z, hq169] at h9; cases h9
  have ne_q55_q169 : q55 ≠ q169 := fun z => by have h9 := f162; rw [z, hq169] at h9; cases h9
  have ne_q41_q169 : q41 ≠ q169 := fun z => by have h9 := f163; rw [z, hq169] at h9; cases h9
  have ne_q29_q169 : q29 ≠ q169 := fun z => by have h9 := f164; rw [z, hq169] at h9; cases h9
  have ne_q19_q169 : q19 ≠ q169 := fun z => by have h9 := f165; rw [z, hq169] at h9; cases h9
  have ne_q11_q169 : q11 ≠ q169 := fun z => by have h9 := f166; rw [z, hq169] at h9; cases h9
  have ne_q5_q169 : q5 ≠ q169 := fun z => by have h9 := f167; rw [z, hq169] at h9; cases h9
  have ne_q1_q169 : q1 ≠ q169 := fun z => by have h9 := f168; rw [z, hq169] at h9; cases h9
  obtain ⟨M169, e_M169⟩ : ∃ M169, M169 = hs M159 q169 (aI (G.2.1 0) 6 (fun (_ : Int) => (0 : Int))) := ⟨_, rfl⟩
  have hH := XV_to hH e_M169.symm
  have f169 : M169 q169 = some (aI (G.2.1 0) 6 (fun (_ : Int) => (0 : Int))) := by rw [e_M169]; exact hs_s
  have f170 : M169 y_ = some (oB 2 [.int (iI 0), .int (iI 0), .int (iI 0), .int (iI 0), .int (iI 0), .int (iI 0), .int (iI 0), .long (lI 0), .ref q1, .ref q5, .ref q11, .ref q19, .ref q29, .ref q41, .ref q55, .ref q71, .ref q89, .null, .null, .null, .null, .null]) := by rw [e_M169]; exact (hs_n (fun z => by have h9 := f159; rw [z, hq169] at h9; cases h9)).trans f159
  have f171 : M169 q89 = some (aI (G.2.1 0) 6 (up (up (up (up (up (up (fun (_ : Int) => (0 : Int)) 0 7) 1 7) 2 7) 3 7) 4 7) 5 7)) := by rw [e_M169]; exact (hs_n (fun z => by have h9 := f160; rw [z, hq169] at h9; cases h9)).trans f160
  have f172 : M169 q71 = some (aI (G.2.1 0) 6 (fun (_ : Int) => (0 : Int))) := by rw [e_M169]; exact (hs_n (fun z => by have h9 := f161; rw [z, hq169] at h9; cases h9)).trans f161
  have f173 : M169 q55 = some (aI (G.2.1 0) 9 (fun (_ : Int) => (0 : Int))) := by rw [e_M169]; exact (hs_n (fun z => by have h9 := f162; rw [z, hq169] at h9; cases h9)).trans f162
  have f174 : M169 q41 = some (aI (G.2.1 0) 9 (fun (_ : Int) => (0 : Int))) := by rw [e_M169]; exact (hs_n (fun z => by have h9 := f163; rw [z, hq169] at h9; cases h9)).trans f163
  have f175 : M169 q29 = some (aQ (G.2.1 9) 12 (fun (_ : Int) => (none : Option Nat))) := by rw [e_M169]; exact (hs_n (fun z => by have h9 := f164; rw [z, hq169] at h9; cases h9)).trans f164
  have f176 : M169 q19 = some (aQ (G.2.1 8) 12 (fun (_ : Int) => (none : Option Nat))) := by rw [e_M169]; exact (hs_n (fun z => by have h9 := f165; rw [z, hq169] at h9; cases h9)).trans f165
  have f177 : M169 q11 = some (aQ (G.2.1 7) 40 (fun (_ : Int) => (none : Option Nat))) := by rw [e_M169]; exact (hs_n (fun z => by have h9 := f166; rw [z, hq169] at h9; cases h9)).trans f166
  have f178 : M169 q5 = some (aQ (G.2.1 6) 40 (fun (_ : Int) => (none : Option Nat))) := by rw [e_M169]; exact (hs_n (fun z => by have h9 := f167; rw [z, hq169] at h9; cases h9)).trans f167
  have f179 : M169 q1 = some (aQ (G.2.1 5) 8 (fun (_ : Int) => (none : Option Nat))) := by rw [e_M169]; exact (hs_n (fun z => by have h9 := f168; rw [z, hq169] at h9; cases h9)).trans f168
  refine x_putF (ty := (.array .int)) hx hb hts in_X1 tyX1 tyX1_ok nmX1 hown hK hH f170 rfl 17 (by decide) q195 (fun _ h9 => h9) rfl hnm rfl (by decide +kernel) rfl rfl (Nat.le_of_ble_eq_true rfl) (by decide) dX1_init_116 (fun H locs hH => ?_)
  obtain ⟨M180, e_M180⟩ : ∃ M180, M180 = hs M169 y_ (oB 2 [.int (iI 0), .int (iI 0), .int (iI 0), .int (iI 0), .int (iI 0), .int (iI 0), .int (iI 0), .long (lI 0), .ref q1, .ref q5, .ref q11, .ref q19, .ref q29, .ref q41, .ref q55, .ref q71, .ref q89, .ref q169, .null, .null, .null, .null]) := ⟨_, rfl⟩
  have hH := XV_to hH e_M180.symm
  have f180 : M180 y_ = some (oB 2 [.int (iI 0), .int (iI 0), .int (iI 0), .int (iI 0), .int (iI 0), .int (iI 0), .int (iI 0), .long (lI 0), .ref q1, .ref q5, .ref q11, .ref q19, .ref q29, .ref q41, .ref q55, .ref q71, .ref q89, .ref q169, .null, .null, .null, .null]) := by rw [e_M180]; exact hs_s
  have f181 : M180 q169 = some (aI (G.2.1 0) 6 (fun (_ : Int) => (0 : Int))) := by rw [e_M180]; exact (hs_n ne_y__q169.symm).trans f169
  have f182 : M180 q89 = some (aI (G.2.1 0) 6 (up (up (up (up (up (up (fun (_ : Int) => (0 : Int)) 0 7) 1 7) 2 7) 3 7) 4 7) 5 7)) := by rw [e_M180]; exact (hs_n ne_y__q89.symm).trans f171
  have f183 : M180 q71 = some (aI (G.2.1 0) 6 (fun (_ : Int) => (0 : Int))) := by rw [e_M180]; exact (hs_n ne_y__q71.symm).trans f172
  have f184 : M180 q55 = some (aI (G.2.1 0) 9 (fun (_ : Int) => (0 : Int))) := by rw [e_M180]; exact (hs_n ne_y__q55.symm).trans f173
  have f185 : M180 q41 = some (aI (G.2.1 0) 9 (fun (_ : Int) => (0 : Int))) := by rw [e_M180]; exact (hs_n ne_y__q41.symm).trans f174
  have f186 : M180 q29 = some (aQ (G.2.1 9) 12 (fun (_ : Int) => (none : Option Nat))) := by rw [e_M180]; exact (hs_n ne_y__q29.symm).trans f175
  have f187 : M180 q19 = some (aQ (G.2.1 8) 12 (fun (_ : Int) => (none : Option Nat))) := by rw [e_M180]; exact (hs_n ne_y__q19.symm).trans f176
  have f188 : M180 q11 = some (aQ (G.2.1 7) 40 (fun (_ : Int) => (none : Option Nat))) := by rw [e_M180]; exact (hs_n ne_y__q11.symm).trans f177
  have f189 : M180 q5 = some (aQ (G.2.1 6) 40 (fun (_ : Int) => (none : Option Nat))) := by rw [e_M180]; exact (hs_n ne_y__q5.symm).trans f178
  have f190 : M180 q1 = some (aQ (G.2.1 5) 8 (fun (_ : Int) => (none : Option Nat))) := by rw [e_M180]; exact (hs_n ne_y__q1.symm).trans f179
  refine lv_aload_n hx hb dX1_init_119 rfl (lv_at hl 0 rfl) ?_
  refine n_bipush (z := 6) hx hb dX1_init_120 (by decide) ?_
  refine x_newa (atype := .int) 0 (6, .inl (fun (j : Nat) => iI ((fun (_ : Int) => (0 : Int)) (j : Int)))) hx hb hts rfl q250 hK hH hA rfl (fun _ => rfl) (by decide) (by decide) (by decide) (Nat.le_of_ble_eq_true rfl) (Nat.le_of_ble_eq_true rfl) dX1_init_122 (fun q191 H hq191 hH => ?_)
  have ne_y__q191 : y_ ≠ q191 := fun z => by have h9 := f180; rw [z, hq191] at h9; cases h9
  have ne_q169_q191 : q169 ≠ q191 := fun z => by have h9 := f181; rw [z, hq191] at h9; cases h9
  have ne_q89_q191 : q89 ≠ q191 := fun z => by have h9 := f182; rw [z, hq191] at h9; cases h9
  have ne_q71_q191 : q71 ≠ q191 := fun z => by have h9 := f183; rw [z, hq191] at h9; cases h9
  have ne_q55_q191 : q55 ≠ q191 := fun z => by have h9 := f184; rw [z, hq191] at h9; cases h9
  have ne_q41_q191 : q41 ≠ q191 := fun z => by have h9 := f185; rw [z, hq191] at h9; cases h9
  have ne_q29_q191 : q29 ≠ q191 := fun z => by have h9 := f186; rw [z, hq191] at h9; cases h9
  have ne_q19_q191 : q19 ≠ q191 := fun z => by have h9 := f187; rw [z, hq191] at h9; cases h9
  have ne_q11_q191 : q11 ≠ q191 := fun z => by have h9 := f188; rw [z, hq191] at h9; cases h9
  have ne_q5_q191 : q5 ≠ q191 := fun z => by have h9 := f189; rw [z, hq191] at h9; cases h9
  have ne_q1_q191 : q1 ≠ q191 := fun z => by have h9 := f190; rw [z, hq191] at h9; cases h9
  obtain ⟨M191, e_M191⟩ : ∃ M191, M191 = hs M180 q191 (aI (G.2.1 0) 6 (fun (_ : Int) => (0 : Int))) := ⟨_, rfl⟩
  have hH := XV_to hH e_M191.symm
  have f191 : M191 q191 = some (aI (G.2.1 0) 6 (fun (_ : Int) => (0 : Int))) := by rw [e_M191]; exact hs_s
  have f192 : M191 y_ = some (oB 2 [.int (iI 0), .int (iI 0), .int (iI 0), .int (iI 0), .int (iI 0), .int (iI 0), .int (iI 0), .long (lI 0), .ref q1, .ref q5, .ref q11, .ref q19, .ref q29, .ref q41, .ref q55, .ref q71, .ref q89, .ref q169, .null, .null, .null, .null]) := by rw [e_M191]; exact (hs_n (fun z => by have h9 := f180; rw [z, hq191] at h9; cases h9)).trans f180
  have f193 : M191 q169 = some (aI (G.2.1 0) 6 (fun (_ : Int) => (0 : Int))) := by rw [e_M191]; exact (hs_n (fun z => by have h9 := f181; rw [z, hq191] at h9; cases h9)).trans f181
  have f194 : M191 q89 = some (aI (G.2.1 0) 6 (up (up (up (up (up (up (fun (_ : Int) => (0 : Int)) 0 7) 1 7) 2 7) 3 7) 4 7) 5 7)) := by rw [e_M191]; exact (hs_n (fun z => by have h9 := f182; rw [z, hq191] at h9; cases h9)).trans f182
  have f195 : M191 q71 = some (aI (G.2.1 0) 6 (fun (_ : Int) => (0 : Int))) := by rw [e_M191]; exact (hs_n (fun z => by have h9 := f183; rw [z, hq191] at h9; cases h9)).trans f183
  have f196 : M191 q55 = some (aI (G.2.1 0) 9 (fun (_ : Int) => (0 : Int))) := by rw [e_M191]; exact (hs_n (fun z => by have h9 := f184; rw [z, hq191] at h9; cases h9)).trans f184
  have f197 : M191 q41 = some (aI (G.2.1 0) 9 (fun (_ : Int) => (0 : Int))) := by rw [e_M191]; exact (hs_n (fun z => by have h9 := f185; rw [z, hq191] at h9; cases h9)).trans f185
  have f198 : M191 q29 = some (aQ (G.2.1 9) 12 (fun (_ : Int) => (none : Option Nat))) := by rw [e_M191]; exact (hs_n (fun z => by have h9 := f186; rw [z, hq191] at h9; cases h9)).trans f186
  have f199 : M191 q19 = some (aQ (G.2.1 8) 12 (fun (_ : Int) => (none : Option Nat))) := by rw [e_M191]; exact (hs_n (fun z => by have h9 := f187; rw [z, hq191] at h9; cases h9)).trans f187
  have f200 : M191 q11 = some (aQ (G.2.1 7) 40 (fun (_ : Int) => (none : Option Nat))) := by rw [e_M191]; exact (hs_n (fun z => by have h9 := f188; rw [z, hq191] at h9; cases h9)).trans f188
  have f201 : M191 q5 = some (aQ (G.2.1 6) 40 (fun (_ : Int) => (none : Option Nat))) := by rw [e_M191]; exact (hs_n (fun z => by have h9 := f189; rw [z, hq191] at h9; cases h9)).trans f189
  have f202 : M191 q1 = some (aQ (G.2.1 5) 8 (fun (_ : Int) => (none : Option Nat))) := by rw [e_M191]; exact (hs_n (fun z => by have h9 := f190; rw [z, hq191] at h9; cases h9)).trans f190
  refine lv_dup hx hb dX1_init_124 rfl ?_
  refine n_iconst hx hb dX1_init_125 ?_
  refine n_bipush (z := 100) hx hb dX1_init_126 (by decide) ?_
  refine x_iast hx hb hK hH f191 (by omega) (by omega) (Nat.le_of_ble_eq_true rfl) dX1_init_128 (fun H locs hH => ?_)
  obtain ⟨M203, e_M203⟩ : ∃ M203, M203 = hs M191 q191 (aI (G.2.1 0) 6 (up (fun (_ : Int) => (0 : Int)) 0 100)) := ⟨_, rfl⟩
  have hH := XV_to hH e_M203.symm
  have f203 : M203 q191 = some (aI (G.2.1 0) 6 (up (fun (_ : Int) => (0 : Int)) 0 100)) := by rw [e_M203]; exact hs_s
  have f204 : M203 y_ = some (oB 2 [.int (iI 0), .int (iI 0), .int (iI 0), .int (iI 0), .int (iI 0), .int (iI 0), .int (iI 0), .long (lI 0), .ref q1, .ref q5, .ref q11, .ref q19, .ref q29, .ref q41, .ref q55, .ref q71, .ref q89, .ref q169, .null, .null, .null, .null]) := by rw [e_M203]; exact (hs_n ne_y__q191).trans f192
  have f205 : M203 q169 = some (aI (G.2.1 0) 6 (fun (_ : Int) => (0 : Int))) := by rw [e_M203]; exact (hs_n ne_q169_q191).trans f193
  have f206 : M203 q89 = some (aI (G.2.1 0) 6 (up (up (up (up (up (up (fun (_ : Int) => (0 : Int)) 0 7) 1 7) 2 7) 3 7) 4 7) 5 7)) := by rw [e_M203]; exact (hs_n ne_q89_q191).trans f194
  have f207 : M203 q71 = some (aI (G.2.1 0) 6 (fun (_ : Int) => (0 : Int))) := by rw [e_M203]; exact (hs_n ne_q71_q191).trans f195
  have f208 : M203 q55 = some (aI (G.2.1 0) 9 (fun (_ : Int) => (0 : Int))) := by rw [e_M203]; exact (hs_n ne_q55_q191).trans f196
  have f209 : M203 q41 = some (aI (G.2.1 0) 9 (fun (_ : Int) => (0 : Int))) := by rw [e_M203]; exact (hs_n ne_q41_q191).trans f197
  have f210 : M203 q29 = some (aQ (G.2.1 9) 12 (fun (_ : Int) => (none : Option Nat))) := by rw [e_M203]; exact (hs_n ne_q29_q191).trans f198
  have f211 : M203 q19 = some (aQ (G.2.1 8) 12 (fun (_ : Int) => (none : Option Nat))) := by rw [e_M203]; exact (hs_n ne_q19_q191).trans f199
  have f212 : M203 q11 = some (aQ (G.2.1 7) 40 (fun (_ : Int) => (none : Option Nat))) := by rw [e_M203]; exact (hs_n ne_q11_q191).trans f200
  have f213 : M203 q5 = some (aQ (G.2.1 6) 40 (fun (_ : Int) => (none : Option Nat))) := by rw [e_M203]; exact (hs_n ne_q5_q191).trans f201
  have f214 : M203 q1 = some (aQ (G.2.1 5) 8 (fun (_ : Int) => (none : Option Nat))) := by rw [e_M203]; exact (hs_n ne_q1_q191).trans f202
  refine lv_dup hx hb dX1_init_129 rfl ?_
  refine n_iconst hx hb dX1_init_130 ?_
  refine n_iconst hx hb dX1_init_131 ?_
  refine x_iast hx hb hK hH f203 (by omega) (by omega) (Nat.le_of_ble_eq_true rfl) dX1_init_132 (fun H locs hH => ?_)
  obtain ⟨M215, e_M215⟩ : ∃ M215, M215 = hs M203 q191 (aI (G.2.1 0) 6 (up (up (fun (_ : Int) => (0 : Int)) 0 100) 1 0)) := ⟨_, rfl⟩
  have hH := XV_to hH e_M215.symm
  have f215 : M215 q191 = some (aI (G.2.1 0) 6 (up (up (fun (_ : Int) => (0 : Int)) 0 100) 1 0)) := by rw [e_M215]; exact hs_s
  have f216 : M215 y_ = some (oB 2 [.int (iI 0), .int (iI 0), .int (iI 0), .int (iI 0), .int (iI 0), .int (iI 0), .int (iI 0), .long (lI 0), .ref q1, .ref q5, .ref q11, .ref q19, .ref q29, .ref q41, .ref q55, .ref q71, .ref q89, .ref q169, .null, .null, .null, .null]) := by rw [e_M215]; exact (hs_n ne_y__q191).trans f204
  have f217 : M215 q169 = some (aI (G.2.1 0) 6 (fun (_ : Int) => (0 : Int))) := by rw [e_M215]; exact (hs_n ne_q169_q191).trans f205
  have f218 : M215 q89 = some (aI (G.2.1 0) 6 (up (up (up (up (up (up (fun (_ : Int) => (0 : Int)) 0 7) 1 7) 2 7) 3 7) 4 7) 5 7)) := by rw [e_M215]; exact (hs_n ne_q89_q191).trans f206
  have f219 : M215 q71 = some (aI (G.2.1 0) 6 (fun (_ : Int) => (0 : Int))) := by rw [e_M215]; exact (hs_n ne_q71_q191).trans f207
  have f220 : M215 q55 = some (aI (G.2.1 0) 9 (fun (_ : Int) => (0 : Int))) := by rw [e_M215]; exact (hs_n ne_q55_q191).trans f208
  have f221 : M215 q41 = some (aI (G.2.1 0) 9 (fun (_ : Int) => (0 : Int))) := by rw [e_M215]; exact (hs_n ne_q41_q191).trans f209
  have f222 : M215 q29 = some (aQ (G.2.1 9) 12 (fun (_ : Int) => (none : Option Nat))) := by rw [e_M215]; exact (hs_n ne_q29_q191).trans f210
  have f223 : M215 q19 = some (aQ (G.2.1 8) 12 (fun (_ : Int) => (none : Option Nat))) := by rw [e_M215]; exact (hs_n ne_q19_q191).trans f211
  have f224 : M215 q11 = some (aQ (G.2.1 7) 40 (fun (_ : Int) => (none : Option Nat))) := by rw [e_M215]; exact (hs_n ne_q11_q191).trans f212
  have f225 : M215 q5 = some (aQ (G.2.1 6) 40 (fun (_ : Int) => (none : Option Nat))) := by rw [e_M215]; exact (hs_n ne_q5_q191).trans f213
  have f226 : M215 q1 = some (aQ (G.2.1 5) 8 (fun (_ : Int) => (none : Option Nat))) := by rw [e_M215]; exact (hs_n ne_q1_q191).trans f214
  refine lv_dup hx hb dX1_init_133 rfl ?_
  refine n_iconst hx hb dX1_init_134 ?_
  refine n_iconst hx hb dX1_init_135 ?_
  refine x_iast hx hb hK hH f215 (by omega) (by omega) (Nat.le_of_ble_eq_true rfl) dX1_init_136 (fun H locs hH => ?_)
  obtain ⟨M227, e_M227⟩ : ∃ M227, M227 = hs M215 q191 (aI (G.2.1 0) 6 (up (up (up (fun (_ : Int) => (0 : Int)) 0 100) 1 0) 2 0)) := ⟨_, rfl⟩
  have hH := XV_to hH e_M227.symm
  have f227 : M227 q191 = some (aI (G.2.1 0) 6 (up (up (up (fun (_ : Int) => (0 : Int)) 0 100) 1 0) 2 0)) := by rw [e_M227]; exact hs_s
  have f228 : M227 y_ = some (oB 2 [.int (iI 0), .int (iI 0), .int (iI 0), .int (iI 0), .int (iI 0), .int (iI 0), .int (iI 0), .long (lI 0), .ref q1, .ref q5, .ref q11, .ref q19, .ref q29, .ref q41, .ref q55, .ref q71, .ref q89, .ref q169, .null, .null, .null, .null]) := by rw [e_M227]; exact (hs_n ne_y__q191).trans f216
  have f229 : M227 q169 = some (aI (G.2.1 0) 6 (fun (_ : Int) => (0 : Int))) := by rw [e_M227]; exact (hs_n ne_q169_q191).trans f217
  have f230 : M227 q89 = some (aI (G.2.1 0) 6 (up (up (up (up (up (up (fun (_ : Int) => (0 : Int)) 0 7) 1 7) 2 7) 3 7) 4 7) 5 7)) := by rw [e_M227]; exact (hs_n ne_q89_q191).trans f218
  have f231 : M227 q71 = some (aI (G.2.1 0) 6 (fun (_ : Int) => (0 : Int))) := by rw [e_M227]; exact (hs_n ne_q71_q191).trans f219
  have f232 : M227 q55 = some (aI (G.2.1 0) 9 (fun (_ : Int) => (0 : Int))) := by rw [e_M227]; exact (hs_n ne_q55_q191).trans f220
  have f233 : M227 q41 = some (aI (G.2.1 0) 9 (fun (_ : Int) => (0 : Int))) := by rw [e_M227]; exact (hs_n ne_q41_q191).trans f221
  have f234 : M227 q29 = some (aQ (G.2.1 9) 12 (fun (_ : Int) => (none : Option Nat))) := by rw [e_M227]; exact (hs_n ne_q29_q191).trans f222
  have f235 : M227 q19 = some (aQ (G.2.1 8) 12 (fun (_ : Int) => (none : Option Nat))) := by rw [e_M227]; exact (hs_n ne_q19_q191).trans f223
  have f236 : M227 q11 = some (aQ (G.2.1 7) 40 (fun (_ : Int) => (none : Option Nat))) := by rw [e_M227]; exact (hs_n ne_q11_q191).trans f224
  have f237 : M227 q5 = some (aQ (G.2.1 6) 40 (fun (_ : Int) => (none : Option Nat))) := by rw [e_M227]; exact (hs_n ne_q5_q191).trans f225
  have f238 : M227 q1 = some (aQ (G.2.1 5) 8 (fun (_ : Int) => (none : Option Nat))) := by rw [e_M227]; exact (hs_n ne_q1_q191).trans f226
  refine lv_dup hx hb dX1_init_137 rfl ?_
  refine n_iconst hx hb dX1_init_138 ?_
  refine n_iconst hx hb dX1_init_139 ?_
  refine x_iast hx hb hK hH f227 (by omega) (by omega) (Nat.le_of_ble_eq_true rfl) dX1_init_140 (fun H locs hH => ?_)
  obtain ⟨M239, e_M239⟩ : ∃ M239, M239 = hs M227 q191 (aI (G.2.1 0) 6 (up (up (up (up (fun (_ : Int) => (0 : Int)) 0 100) 1 0) 2 0) 3 0)) := ⟨_, rfl⟩
  have hH := XV_to hH e_M239.symm
  have f239 : M239 q191 = some (aI (G.2.1 0) 6 (up (up (up (up (fun (_ : Int) => (0 : Int)) 0 100) 1 0) 2 0) 3 0)) := by rw [e_M239]; exact hs_s
  have f240 : M239 y_ = some (oB 2 [.int (iI 0), .int (iI 0), .int (iI 0), .int (iI 0), .int (iI 0), .int (iI 0), .int (iI 0), .long (lI 0), .ref q1, .ref q5, .ref q11, .ref q19, .ref q29, .ref q41, .ref q55, .ref q71, .ref q89, .ref q169, .null, .null, .null, .null]) := by rw [e_M239]; exact (hs_n ne_y__q191).trans f228
  have f241 : M239 q169 = some (aI (G.2.1 0) 6 (fun (_ : Int) => (0 : Int))) := by rw [e_M239]; exact (hs_n ne_q169_q191).trans f229
  have f242 : M239 q89 = some (aI (G.2.1 0) 6 (up (up (up (up (up (up (fun (_ : Int) => (0 : Int)) 0 7) 1 7) 2 7) 3 7) 4 7) 5 7)) := by rw [e_M239]; exact (hs_n ne_q89_q191).trans f230
  have f243 : M239 q71 = some (aI (G.2.1 0) 6 (fun (_ : Int) => (0 : Int))) := by rw [e_M239]; exact (hs_n ne_q71_q191).trans f231
  have f244 : M239 q55 = some (aI (G.2.1 0) 9 (fun (_ : Int) => (0 : Int))) := by rw [e_M239]; exact (hs_n ne_q55_q191).trans f232
  have f245 : M239 q41 = some (aI (G.2.1 0) 9 (fun (_ : Int) => (0 : Int))) := by rw [e_M239]; exact (hs_n ne_q41_q191).trans f233
  have f246 : M239 q29 = some (aQ (G.2.1 9) 12 (fun (_ : Int) => (none : Option Nat))) := by rw [e_M239]; exact (hs_n ne_q29_q191).trans f234
  have f247 : M239 q19 = some (aQ (G.2.1 8) 12 (fun (_ : Int) => (none : Option Nat))) := by rw [e_M239]; exact (hs_n ne_q19_q191).trans f235
  have f248 : M239 q11 = some (aQ (G.2.1 7) 40 (fun (_ : Int) => (none : Option Nat))) := by rw [e_M239]; exact (hs_n ne_q11_q191).trans f236
  have f249 : M239 q5 = some (aQ (G.2.1 6) 40 (fun (_ : Int) => (none : Option Nat))) := by rw [e_M239]; exact (hs_n ne_q5_q191).trans f237
  have f250 : M239 q1 = some (aQ (G.2.1 5) 8 (fun (_ : Int) => (none : Option Nat))) := by rw [e_M239]; exact (hs_n ne_q1_q191).trans f238
  refine lv_dup hx hb dX1_init_141 rfl ?_
  refine n_iconst hx hb dX1_init_142 ?_
  refine n_bipush (z := 20) hx hb dX1_init_143 (by decide) ?_
  refine x_iast hx hb hK hH f239 (by omega) (by omega) (Nat.le_of_ble_eq_true rfl) dX1_init_145 (fun H locs hH => ?_)
  obtain ⟨M251, e_M251⟩ : ∃ M251, M251 = hs M239 q191 (aI (G.2.1 0) 6 (up (up (up (up (up (fun (_ : Int) => (0 : Int)) 0 100) 1 0) 2 0) 3 0) 4 20)) := ⟨_, rfl⟩
  have hH := XV_to hH e_M251.symm
  have f251 : M251 q191 = some (aI (G.2.1 0) 6 (up (up (up (up (up (fun (_ : Int) => (0 : Int)) 0 100) 1 0) 2 0) 3 0) 4 20)) := by rw [e_M251]; exact hs_s
  have f252 : M251 y_ = some (oB 2 [.int (iI 0), .int (iI 0), .int (iI 0), .int (iI 0), .int (iI 0), .int (iI 0), .int (iI 0), .long (lI 0), .ref q1, .ref q5, .ref q11, .ref q19, .ref q29, .ref q41, .ref q55, .ref q71, .ref q89, .ref q169, .null, .null, .null, .null]) := by rw [e_M251]; exact (hs_n ne_y__q191).trans f240
  have f253 : M251 q169 = some (aI (G.2.1 0) 6 (fun (_ : Int) => (0 : Int))) := by rw [e_M251]; exact (hs_n ne_q169_q191).trans f241
  have f254 : M251 q89 = some (aI (G.2.1 0) 6 (up (up (up (up (up (up (fun (_ : Int) => (0 : Int)) 0 7) 1 7) 2 7) 3 7) 4 7) 5 7)) := by rw [e_M251]; exact (hs_n ne_q89_q191).trans f242
  have f255 : M251 q71 = some (aI (G.2.1 0) 6 (fun (_ : Int) => (0 : Int))) := by rw [e_M251]; exact (hs_n ne_q71_q191).trans f243
  have f256 : M251 q55 = some (aI (G.2.1 0) 9 (fun (_ : Int) => (0 : Int))) := by rw [e_M251]; exact (hs_n ne_q55_q191).trans f244
  have f257 : M251 q41 = some (aI (G.2.1 0) 9 (fun (_ : Int) => (0 : Int))) := by rw [e_M251]; exact (hs_n ne_q41_q191).trans f245
  have f258 : M251 q29 = some (aQ (G.2.1 9) 12 (fun (_ : Int) => (none : Option Nat))) := by rw [e_M251]; exact (hs_n ne_q29_q191).trans f246
  have f259 : M251 q19 = some (aQ (G.2.1 8) 12 (fun (_ : Int) => (none : Option Nat))) := by rw [e_M251]; exact (hs_n ne_q19_q191).trans f247
  have f260 : M251 q11 = some (aQ (G.2.1 7) 40 (fun (_ : Int) => (none : Option Nat))) := by rw [e_M251]; exact (hs_n ne_q11_q191).trans f248
  have f261 : M251 q5 = some (aQ (G.2.1 6) 40 (fun (_ : Int) => (none : Option Nat))) := by rw [e_M251]; exact (hs_n ne_q5_q191).trans f249
  have f262 : M251 q1 = some (aQ (G.2.1 5) 8 (fun (_ : Int) => (none : Option Nat))) := by rw [e_M251]; exact (hs_n ne_q1_q191).trans f250
  refine lv_dup hx hb dX1_init_146 rfl ?_
  refine n_iconst hx hb dX1_init_147 ?_
  refine n_iconst hx hb dX1_init_148 ?_
  refine x_iast hx hb hK hH f251 (by omega) (by omega) (Nat.le_of_ble_eq_true rfl) dX1_init_149 (fun H locs hH => ?_)
  obtain ⟨M263, e_M263⟩ : ∃ M263, M263 = hs M251 q191 (aI (G.2.1 0) 6 (up (up (up (up (up (up (fun (_ : Int) => (0 : Int)) 0 100) 1 0) 2 0) 3 0) 4 20) 5 0)) := ⟨_, rfl⟩
  have hH := XV_to hH e_M263.symm
  have f263 : M263 q191 = some (aI (G.2.1 0) 6 (up (up (up (up (up (up (fun (_ : Int) => (0 : Int)) 0 100) 1 0) 2 0) 3 0) 4 20) 5 0)) := by rw [e_M263]; exact hs_s
  have f264 : M263 y_ = some (oB 2 [.int (iI 0), .int (iI 0), .int (iI 0), .int (iI 0), .int (iI 0), .int (iI 0), .int (iI 0), .long (lI 0), .ref q1, .ref q5, .ref q11, .ref q19, .ref q29, .ref q41, .ref q55, .ref q71, .ref q89, .ref q169, .null, .null, .null, .null]) := by rw [e_M263]; exact (hs_n ne_y__q191).trans f252
  have f265 : M263 q169 = some (aI (G.2.1 0) 6 (fun (_ : Int) => (0 : Int))) := by rw [e_M263]; exact (hs_n ne_q169_q191).trans f253
  have f266 : M263 q89 = some (aI (G.2.1 0) 6 (up (up (up (up (up (up (fun (_ : Int) => (0 : Int)) 0 7) 1 7) 2 7) 3 7) 4 7) 5 7)) := by rw [e_M263]; exact (hs_n ne_q89_q191).trans f254
  have f267 : M263 q71 = some (aI (G.2.1 0) 6 (fun (_ : Int) => (0 : Int))) := by rw [e_M263]; exact (hs_n ne_q71_q191).trans f255
  have f268 : M263 q55 = some (aI (G.2.1 0) 9 (fun (_ : Int) => (0 : Int))) := by rw [e_M263]; exact (hs_n ne_q55_q191).trans f256
  have f269 : M263 q41 = some (aI (G.2.1 0) 9 (fun (_ : Int) => (0 : Int))) := by rw [e_M263]; exact (hs_n ne_q41_q191).trans f257
  have f270 : M263 q29 = some (aQ (G.2.1 9) 12 (fun (_ : Int) => (none : Option Nat))) := by rw [e_M263]; exact (hs_n ne_q29_q191).trans f258
  have f271 : M263 q19 = some (aQ (G.2.1 8) 12 (fun (_ : Int) => (none : Option Nat))) := by rw [e_M263]; exact (hs_n ne_q19_q191).trans f259
  have f272 : M263 q11 = some (aQ (G.2.1 7) 40 (fun (_ : Int) => (none : Option Nat))) := by rw [e_M263]; exact (hs_n ne_q11_q191).trans f260
  have f273 : M263 q5 = some (aQ (G.2.1 6) 40 (fun (_ : Int) => (none : Option Nat))) := by rw [e_M263]; exact (hs_n ne_q5_q191).trans f261
  have f274 : M263 q1 = some (aQ (G.2.1 5) 8 (fun (_ : Int) => (none : Option Nat))) := by rw [e_M263]; exact (hs_n ne_q1_q191).trans f262
  refine x_putF (ty := (.array .int)) hx hb hts in_X1 tyX1 tyX1_ok nmX1 hown hK hH f264 rfl 18 (by decide) q197 (fun _ h9 => h9) rfl hnm rfl (by decide +kernel) rfl rfl (Nat.le_of_ble_eq_true rfl) (by decide) dX1_init_150 (fun H locs hH => ?_)
  obtain ⟨M275, e_M275⟩ : ∃ M275, M275 = hs M263 y_ (oB 2 [.int (iI 0), .int (iI 0), .int (iI 0), .int (iI 0), .int (iI 0), .int (iI 0), .int (iI 0), .long (lI 0), .ref q1, .ref q5, .ref q11, .ref q19, .ref q29, .ref q41, .ref q55, .ref q71, .ref q89, .ref q169, .ref q191, .null, .null, .null]) := ⟨_, rfl⟩
  have hH := XV_to hH e_M275.symm
  have f275 : M275 y_ = some (oB 2 [.int (iI 0), .int (iI 0), .int (iI 0), .int (iI 0), .int (iI 0), .int (iI 0), .int (iI 0), .long (lI 0), .ref q1, .ref q5, .ref q11, .ref q19, .ref q29, .ref q41, .ref q55, .ref q71, .ref q89, .ref q169, .ref q191, .null, .null, .null]) := by rw [e_M275]; exact hs_s
  have f276 : M275 q191 = some (aI (G.2.1 0) 6 (up (up (up (up (up (up (fun (_ : Int) => (0 : Int)) 0 100) 1 0) 2 0) 3 0) 4 20) 5 0)) := by rw [e_M275]; exact (hs_n ne_y__q191.symm).trans f263
  have f277 : M275 q169 = some (aI (G.2.1 0) 6 (fun (_ : Int) => (0 : Int))) := by rw [e_M275]; exact (hs_n ne_y__q169.symm).trans f265
  have f278 : M275 q89 = some (aI (G.2.1 0) 6 (up (up (up (up (up (up (fun (_ : Int) => (0 : Int)) 0 7) 1 7) 2 7) 3 7) 4 7) 5 7)) := by rw [e_M275]; exact (hs_n ne_y__q89.symm).trans f266
  have f279 : M275 q71 = some (aI (G.2.1 0) 6 (fun (_ : Int) => (0 : Int))) := by rw [e_M275]; exact (hs_n ne_y__q71.symm).trans f267
  have f280 : M275 q55 = some (aI (G.2.1 0) 9 (fun (_ : Int) => (0 : Int))) := by rw [e_M275]; exact (hs_n ne_y__q55.symm).trans f268
  have f281 : M275 q41 = some (aI (G.2.1 0) 9 (fun (_ : Int) => (0 : Int))) := by rw [e_M275]; exact (hs_n ne_y__q41.symm).trans f269
  have f282 : M275 q29 = some (aQ (G.2.1 9) 12 (fun (_ : Int) => (none : Option Nat))) := by rw [e_M275]; exact (hs_n ne_y__q29.symm).trans f270
  have f283 : M275 q19 = some (aQ (G.2.1 8) 12 (fun (_ : Int) => (none : Option Nat))) := by rw [e_M275]; exact (hs_n ne_y__q19.symm).trans f271
  have f284 : M275 q11 = some (aQ (G.2.1 7) 40 (fun (_ : Int) => (none : Option Nat))) := by rw [e_M275]; exact (hs_n ne_y__q11.symm).trans f272
  have f285 : M275 q5 = some (aQ (G.2.1 6) 40 (fun (_ : Int) => (none : Option Nat))) := by rw [e_M275]; exact (hs_n ne_y__q5.symm).trans f273
  have f286 : M275 q1 = some (aQ (G.2.1 5) 8 (fun (_ : Int) => (none : Option Nat))) := by rw [e_M275]; exact (hs_n ne_y__q1.symm).trans f274
  refine lv_aload_n hx hb dX1_init_153 rfl (lv_at hl 0 rfl) ?_
  refine n_iconst hx hb dX1_init_154 ?_
  refine x_newa (atype := .int) 0 (4, .inl (fun (j : Nat) => iI ((fun (_ : Int) => (0 : Int)) (j : Int)))) hx hb hts rfl q250 hK hH hA rfl (fun _ => rfl) (by decide) (by decide) (by decide) (Nat.le_of_ble_eq_true rfl) (Nat.le_of_ble_eq_true rfl) dX1_init_155 (fun q287 H hq287 hH => ?_)
  have ne_y__q287 : y_ ≠ q287 := fun z => by have h9 := f275; rw [z, hq287] at h9; cases h9
  have ne_q191_q287 : q191 ≠ q287 := fun z => by have h9 := f276; rw [z, hq287] at h9; cases h9
  have ne_q169_q287 : q169 ≠ q287 := fun z => by have h9 := f277; rw [z, hq287] at h9; cases h9
  have ne_q89_q287 : q89 ≠ q287 := fun z => by have h9 := f278; rw [z, hq287] at h9; cases h9
  have ne_q71_q287 : q71 ≠ q287 := fun z => by have h9 := f279; rw [z, hq287] at h9; cases h9
  have ne_q55_q287 : q55 ≠ q287 := fun z => by have h9 := f280; rw [z, hq287] at h9; cases h9
  have ne_q41_q287 : q41 ≠ q287 := fun z => by have h9 := f281; rw [z, hq287] at h9; cases h9
  have ne_q29_q287 : q29 ≠ q287 := fun z => by have h9 := f282; rw [z, hq287] at h9; cases h9
  have ne_q19_q287 : q19 ≠ q287 := fun z => by have h9 := f283; rw [z, hq287] at h9; cases h9
  have ne_q11_q287 : q11 ≠ q287 := fun z => by have h9 := f284; rw [z, hq287] at h9; cases h9
  have ne_q5_q287 : q5 ≠ q287 := fun z => by have h9 := f285; rw [z, hq287] at h9; cases h9
  have ne_q1_q287 : q1 ≠ q287 := fun z => by have h9 := f286; rw [z, hq287] at h9; cases h9
  obtain ⟨M287, e_M287⟩ : ∃ M287, M287 = hs M275 q287 (aI (G.2.1 0) 4 (fun (_ : Int) => (0 : Int))) := ⟨_, rfl⟩
  have hH := XV_to hH e_M287.symm
  have f287 : M287 q287 = some (aI (G.2.1 0) 4 (fun (_ : Int) => (0 : Int))) := by rw [e_M287]; exact hs_s
  have f288 : M287 y_ = some (oB 2 [.int (iI 0), .int (iI 0), .int (iI 0), .int (iI 0), .int (iI 0), .int (iI 0), .int (iI 0), .long (lI 0), .ref q1, .ref q5, .ref q11, .ref q19, .ref q29, .ref q41, .ref q55, .ref q71, .ref q89, .ref q169, .ref q191, .null, .null, .null]) := by rw [e_M287]; exact (hs_n (fun z => by have h9 := f275; rw [z, hq287] at h9; cases h9)).trans f275
  have f289 : M287 q191 = some (aI (G.2.1 0) 6 (up (up (up (up (up (up (fun (_ : Int) => (0 : Int)) 0 100) 1 0) 2 0) 3 0) 4 20) 5 0)) := by rw [e_M287]; exact (hs_n (fun z => by have h9 := f276; rw [z, hq287] at h9; cases h9)).trans f276
  have f290 : M287 q169 = some (aI (G.2.1 0) 6 (fun (_ : Int) => (0 : Int))) := by rw [e_M287]; exact (hs_n (fun z => by have h9 := f277; rw [z, hq287] at h9; cases h9)).trans f277
  have f291 : M287 q89 = some (aI (G.2.1 0) 6 (up (up (up (up (up (up (fun (_ : Int) => (0 : Int)) 0 7) 1 7) 2 7) 3 7) 4 7) 5 7)) := by rw [e_M287]; exact (hs_n (fun z => by have h9 := f278; rw [z, hq287] at h9; cases h9)).trans f278
  have f292 : M287 q71 = some (aI (G.2.1 0) 6 (fun (_ : Int) => (0 : Int))) := by rw [e_M287]; exact (hs_n (fun z => by have h9 := f279; rw [z, hq287] at h9; cases h9)).trans f279
  have f293 : M287 q55 = some (aI (G.2.1 0) 9 (fun (_ : Int) => (0 : Int))) := by rw [e_M287]; exact (hs_n (fun z => by have h9 := f280; rw [z, hq287] at h9; cases h9)).trans f280
  have f294 : M287 q41 = some (aI (G.2.1 0) 9 (fun (_ : Int) => (0 : Int))) := by rw [e_M287]; exact (hs_n (fun z => by have h9 := f281; rw [z, hq287] at h9; cases h9)).trans f281
  have f295 : M287 q29 = some (aQ (G.2.1 9) 12 (fun (_ : Int) => (none : Option Nat))) := by rw [e_M287]; exact (hs_n (fun z => by have h9 := f282; rw [z, hq287] at h9; cases h9)).trans f282
  have f296 : M287 q19 = some (aQ (G.2.1 8) 12 (fun (_ : Int) => (none : Option Nat))) := by rw [e_M287]; exact (hs_n (fun z => by have h9 := f283; rw [z, hq287] at h9; cases h9)).trans f283
  have f297 : M287 q11 = some (aQ (G.2.1 7) 40 (fun (_ : Int) => (none : Option Nat))) := by rw [e_M287]; exact (hs_n (fun z => by have h9 := f284; rw [z, hq287] at h9; cases h9)).trans f284
  have f298 : M287 q5 = some (aQ (G.2.1 6) 40 (fun (_ : Int) => (none : Option Nat))) := by rw [e_M287]; exact (hs_n (fun z => by have h9 := f285; rw [z, hq287] at h9; cases h9)).trans f285
  have f299 : M287 q1 = some (aQ (G.2.1 5) 8 (fun (_ : Int) => (none : Option Nat))) := by rw [e_M287]; exact (hs_n (fun z => by have h9 := f286; rw [z, hq287] at h9; cases h9)).trans f286
  refine x_putF (ty := (.array .int)) hx hb hts in_X1 tyX1 tyX1_ok nmX1 hown hK hH f288 rfl 19 (by decide) q199 (fun _ h9 => h9) rfl hnm rfl (by decide +kernel) rfl rfl (Nat.le_of_ble_eq_true rfl) (by decide) dX1_init_157 (fun H locs hH => ?_)
  obtain ⟨M300, e_M300⟩ : ∃ M300, M300 = hs M287 y_ (oB 2 [.int (iI 0), .int (iI 0), .int (iI 0), .int (iI 0), .int (iI 0), .int (iI 0), .int (iI 0), .long (lI 0), .ref q1, .ref q5, .ref q11, .ref q19, .ref q29, .ref q41, .ref q55, .ref q71, .ref q89, .ref q169, .ref q191, .ref q287, .null, .null]) := ⟨_, rfl⟩
  have hH := XV_to hH e_M300.symm
  have f300 : M300 y_ = some (oB 2 [.int (iI 0), .int (iI 0), .int (iI 0), .int (iI 0), .int (iI 0), .int (iI 0), .int (iI 0), .long (lI 0), .ref q1, .ref q5, .ref q11, .ref q19, .ref q29, .ref q41, .ref q55, .ref q71, .ref q89, .ref q169, .ref q191, .ref q287, .null, .null]) := by rw [e_M300]; exact hs_s
  have f301 : M300 q287 = some (aI (G.2.1 0) 4 (fun (_ : Int) => (0 : Int))) := by rw [e_M300]; exact (hs_n ne_y__q287.symm).trans f287
  have f302 : M300 q191 = some (aI (G.2.1 0) 6 (up (up (up (up (up (up (fun (_ : Int) => (0 : Int)) 0 100) 1 0) 2 0) 3 0) 4 20) 5 0)) := by rw [e_M300]; exact (hs_n ne_y__q191.symm).trans f289
  have f303 : M300 q169 = some (aI (G.2.1 0) 6 (fun (_ : Int) => (0 : Int))) := by rw [e_M300]; exact (hs_n ne_y__q169.symm).trans f290
  have f304 : M300 q89 = some (aI (G.2.1 0) 6 (up (up (up (up (up (up (fun (_ : Int) => (0 : Int)) 0 7) 1 7) 2 7) 3 7) 4 7) 5 7)) := by rw [e_M300]; exact (hs_n ne_y__q89.symm).trans f291
  have f305 : M300 q71 = some (aI (G.2.1 0) 6 (fun (_ : Int) => (0 : Int))) := by rw [e_M300]; exact (hs_n ne_y__q71.symm).trans f292
  have f306 : M300 q55 = some (aI (G.2.1 0) 9 (fun (_ : Int) => (0 : Int))) := by rw [e_M300]; exact (hs_n ne_y__q55.symm).trans f293
  have f307 : M300 q41 = some (aI (G.2.1 0) 9 (fun (_ : Int) => (0 : Int))) := by rw [e_M300]; exact (hs_n ne_y__q41.symm).trans f294
  have f308 : M300 q29 = some (aQ (G.2.1 9) 12 (fun (_ : Int) => (none : Option Nat))) := by rw [e_M300]; exact (hs_n ne_y__q29.symm).trans f295
  have f309 : M300 q19 = some (aQ (G.2.1 8) 12 (fun (_ : Int) => (none : Option Nat))) := by rw [e_M300]; exact (hs_n ne_y__q19.symm).trans f296
  have f310 : M300 q11 = some (aQ (G.2.1 7) 40 (fun (_ : Int) => (none : Option Nat))) := by rw [e_M300]; exact (hs_n ne_y__q11.symm).trans f297
  have f311 : M300 q5 = some (aQ (G.2.1 6) 40 (fun (_ : Int) => (none : Option Nat))) := by rw [e_M300]; exact (hs_n ne_y__q5.symm).trans f298
  have f312 : M300 q1 = some (aQ (G.2.1 5) 8 (fun (_ : Int) => (none : Option Nat))) := by rw [e_M300]; exact (hs_n ne_y__q1.symm).trans f299
  refine lv_aload_n hx hb dX1_init_160 rfl (lv_at hl 0 rfl) ?_
  refine n_bipush (z := 12) hx hb dX1_init_161 (by decide) ?_
  refine x_newa (atype := .int) 0 (12, .inl (fun (j : Nat) => iI ((fun (_ : Int) => (0 : Int)) (j : Int)))) hx hb hts rfl q250 hK hH hA rfl (fun _ => rfl) (by decide) (by decide) (by decide) (Nat.le_of_ble_eq_true rfl) (Nat.le_of_ble_eq_true rfl) dX1_init_163 (fun q313 H hq313 hH => ?_)
  have ne_y__q313 : y_ ≠ q313 := fun z => by have h9 := f300; rw [z, hq313] at h9; cases h9
  have ne_q287_q313 : q287 ≠ q313 := fun z => by have h9 := f301; rw [z, hq313] at h9; cases h9
  have ne_q191_q313 : q191 ≠ q313 := fun z => by have h9 := f302; rw [z, hq313] at h9; cases h9
  have ne_q169_q313 : q169 ≠ q313 := fun z => by have h9 := f303; rw [z, hq313] at h9; cases h9
  have ne_q89_q313 : q89 ≠ q313 := fun z => by have h9 := f304; rw [z, hq313] at h9; cases h9
  have ne_q71_q313 : q71 ≠ q313 := fun z => by have h9 := f305; rw [z, hq313] at h9; cases h9
  have ne_q55_q313 : q55 ≠ q313 := fun z => by have h9 := f306; rw [z, hq313] at h9; cases h9
  have ne_q41_q313 : q41 ≠ q313 := fun z => by have h9 := f307; rw [z, hq313] at h9; cases h9
  have ne_q29_q313 : q29 ≠ q313 := fun z => by have h9 := f308; rw [z, hq313] at h9; cases h9
  have ne_q19_q313 : q19 ≠ q313 := fun z => by have h9 := f309; rw [z, hq313] at h9; cases h9
  have ne_q11_q313 : q11 ≠ q313 := fun z => by have h9 := f310; rw [z, hq313] at h9; cases h9
  have ne_q5_q313 : q5 ≠ q313 := fun z => by have h9 := f311; rw [z, hq313] at h9; cases h9
  have ne_q1_q313 : q1 ≠ q313 := fun z => by have h9 := f312; rw [z, hq313] at h9; cases h9
  obtain ⟨M313, e_M313⟩ : ∃ M313, M313 = hs M300 q313 (aI (G.2.1 0) 12 (fun (_ : Int) => (0 : Int))) := ⟨_, rfl⟩
  have hH := XV_to hH e_M313.symm
  have f313 : M313 q313 = some (aI (G.2.1 0) 12 (fun (_ : Int) => (0 : Int))) := by rw [e_M313]; exact hs_s
  have f314 : M313 y_ = some (oB 2 [.int (iI 0), .int (iI 0), .int (iI 0), .int (iI 0), .int (iI 0), .int (iI 0), .int (iI 0), .long (lI 0), .ref q1, .ref q5, .ref q11, .ref q19, .ref q29, .ref q41, .ref q55, .ref q71, .ref q89, .ref q169, .ref q191, .ref q287, .null, .null]) := by rw [e_M313]; exact (hs_n (fun z => by have h9 := f300; rw [z, hq313] at h9; cases h9)).trans f300
  have f315 : M313 q287 = some (aI (G.2.1 0) 4 (fun (_ : Int) => (0 : Int))) := by rw [e_M313]; exact (hs_n (fun z => by have h9 := f301; rw [z, hq313] at h9; cases h9)).trans f301
  have f316 : M313 q191 = some (aI (G.2.1 0) 6 (up (up (up (up (up (up (fun (_ : Int) => (0 : Int)) 0 100) 1 0) 2 0) 3 0) 4 20) 5 0)) := by rw [e_M313]; exact (hs_n (fun z => by have h9 := f302; rw [z, hq313] at h9; cases h9)).trans f302
  have f317 : M313 q169 = some (aI (G.2.1 0) 6 (fun (_ : Int) => (0 : Int))) := by rw [e_M313]; exact (hs_n (fun z => by have h9 := f303; rw [z, hq313] at h9; cases h9)).trans f303
  have f318 : M313 q89 = some (aI (G.2.1 0) 6 (up (up (up (up (up (up (fun (_ : Int) => (0 : Int)) 0 7) 1 7) 2 7) 3 7) 4 7) 5 7)) := by rw [e_M313]; exact (hs_n (fun z => by have h9 := f304; rw [z, hq313] at h9; cases h9)).trans f304
  have f319 : M313 q71 = some (aI (G.2.1 0) 6 (fun (_ : Int) => (0 : Int))) := by rw [e_M313]; exact (hs_n (fun z => by have h9 := f305; rw [z, hq313] at h9; cases h9)).trans f305
  have f320 : M313 q55 = some (aI (G.2.1 0) 9 (fun (_ : Int) => (0 : Int))) := by rw [e_M313]; exact (hs_n (fun z => by have h9 := f306; rw [z, hq313] at h9; cases h9)).trans f306
  have f321 : M313 q41 = some (aI (G.2.1 0) 9 (fun (_ : Int) => (0 : Int))) := by rw [e_M313]; exact (hs_n (fun z => by have h9 := f307; rw [z, hq313] at h9; cases h9)).trans f307
  have f322 : M313 q29 = some (aQ (G.2.1 9) 12 (fun (_ : Int) => (none : Option Nat))) := by rw [e_M313]; exact (hs_n (fun z => by have h9 := f308; rw [z, hq313] at h9; cases h9)).trans f308
  have f323 : M313 q19 = some (aQ (G.2.1 8) 12 (fun (_ : Int) => (none : Option Nat))) := by rw [e_M313]; exact (hs_n (fun z => by have h9 := f309; rw [z, hq313] at h9; cases h9)).trans f309
  have f324 : M313 q11 = some (aQ (G.2.1 7) 40 (fun (_ : Int) => (none : Option Nat))) := by rw [e_M313]; exact (hs_n (fun z => by have h9 := f310; rw [z, hq313] at h9; cases h9)).trans f310
  have f325 : M313 q5 = some (aQ (G.2.1 6) 40 (fun (_ : Int) => (none : Option Nat))) := by rw [e_M313]; exact (hs_n (fun z => by have h9 := f311; rw [z, hq313] at h9; cases h9)).trans f311
  have f326 : M313 q1 = some (aQ (G.2.1 5) 8 (fun (_ : Int) => (none : Option Nat))) := by rw [e_M313]; exact (hs_n (fun z => by have h9 := f312; rw [z, hq313] at h9; cases h9)).trans f312
  refine x_putF (ty := (.array .int)) hx hb hts in_X1 tyX1 tyX1_ok nmX1 hown hK hH f314 rfl 20 (by decide) q201 (fun _ h9 => h9) rfl hnm rfl (by decide +kernel) rfl rfl (Nat.le_of_ble_eq_true rfl) (by decide) dX1_init_165 (fun H locs hH => ?_)
  obtain ⟨M327, e_M327⟩ : ∃ M327, M327 = hs M313 y_ (oB 2 [.int (iI 0), .int (iI 0), .int (iI 0), .int (iI 0), .int (iI 0), .int (iI 0), .int (iI 0), .long (lI 0), .ref q1, .ref q5, .ref q11, .ref q19, .ref q29, .ref q41, .ref q55, .ref q71, .ref q89, .ref q169, .ref q191, .ref q287, .ref q313, .null]) := ⟨_, rfl⟩
  have hH := XV_to hH e_M327.symm
  have f327 : M327 y_ = some (oB 2 [.int (iI 0), .int (iI 0), .int (iI 0), .int (iI 0), .int (iI 0), .int (iI 0), .int (iI 0), .long (lI 0), .ref q1, .ref q5, .ref q11, .ref q19, .ref q29, .ref q41, .ref q55, .ref q71, .ref q89, .ref q169, .ref q191, .ref q287, .ref q313, .null]) := by rw [e_M327]; exact hs_s
  have f328 : M327 q313 = some (aI (G.2.1 0) 12 (fun (_ : Int) => (0 : Int))) := by rw [e_M327]; exact (hs_n ne_y__q313.symm).trans f313
  have f329 : M327 q287 = some (aI (G.2.1 0) 4 (fun (_ : Int) => (0 : Int))) := by rw [e_M327]; exact (hs_n ne_y__q287.symm).trans f315
  have f330 : M327 q191 = some (aI (G.2.1 0) 6 (up (up (up (up (up (up (fun (_ : Int) => (0 : Int)) 0 100) 1 0) 2 0) 3 0) 4 20) 5 0)) := by rw [e_M327]; exact (hs_n ne_y__q191.symm).trans f316
  have f331 : M327 q169 = some (aI (G.2.1 0) 6 (fun (_ : Int) => (0 : Int))) := by rw [e_M327]; exact (hs_n ne_y__q169.symm).trans f317
  have f332 : M327 q89 = some (aI (G.2.1 0) 6 (up (up (up (up (up (up (fun (_ : Int) => (0 : Int)) 0 7) 1 7) 2 7) 3 7) 4 7) 5 7)) := by rw [e_M327]; exact (hs_n ne_y__q89.symm).trans f318
  have f333 : M327 q71 = some (aI (G.2.1 0) 6 (fun (_ : Int) => (0 : Int))) := by rw [e_M327]; exact (hs_n ne_y__q71.symm).trans f319
  have f334 : M327 q55 = some (aI (G.2.1 0) 9 (fun (_ : Int) => (0 : Int))) := by rw [e_M327]; exact (hs_n ne_y__q55.symm).trans f320
  have f335 : M327 q41 = some (aI (G.2.1 0) 9 (fun (_ : Int) => (0 : Int))) := by rw [e_M327]; exact (hs_n ne_y__q41.symm).trans f321
  have f336 : M327 q29 = some (aQ (G.2.1 9) 12 (fun (_ : Int) => (none : Option Nat))) := by rw [e_M327]; exact (hs_n ne_y__q29.symm).trans f322
  have f337 : M327 q19 = some (aQ (G.2.1 8) 12 (fun (_ : Int) => (none : Option Nat))) := by rw [e_M327]; exact (hs_n ne_y__q19.symm).trans f323
  have f338 : M327 q11 = some (aQ (G.2.1 7) 40 (fun (_ : Int) => (none : Option Nat))) := by rw [e_M327]; exact (hs_n ne_y__q11.symm).trans f324
  have f339 : M327 q5 = some (aQ (G.2.1 6) 40 (fun (_ : Int) => (none : Option Nat))) := by rw [e_M327]; exact (hs_n ne_y__q5.symm).trans f325
  have f340 : M327 q1 = some (aQ (G.2.1 5) 8 (fun (_ : Int) => (none : Option Nat))) := by rw [e_M327]; exact (hs_n ne_y__q1.symm).trans f326
  refine lv_aload_n hx hb dX1_init_168 rfl (lv_at hl 0 rfl) ?_
  refine n_bipush (z := 96) hx hb dX1_init_169 (by decide) ?_
  refine x_newa (atype := .int) 0 (96, .inl (fun (j : Nat) => iI ((fun (_ : Int) => (0 : Int)) (j : Int)))) hx hb hts rfl q250 hK hH hA rfl (fun _ => rfl) (by decide) (by decide) (by decide) (Nat.le_of_ble_eq_true rfl) (Nat.le_of_ble_eq_true rfl) dX1_init_171 (fun q341 H hq341 hH => ?_)
  have ne_y__q341 : y_ ≠ q341 := fun z => by have h9 := f327; rw [z, hq341] at h9; cases h9
  have ne_q313_q341 : q313 ≠ q341 := fun z => by have h9 := f328; rw [z, hq341] at h9; cases h9
  have ne_q287_q341 : q287 ≠ q341 := fun z => by have h9 := f329; rw [z, hq341] at h9; cases h9
  have ne_q191_q341 : q191 ≠ q341 := fun z => by have h9 := f330; rw [z, hq341] at h9; cases h9
  have ne_q169_q341 : q169 ≠ q341 := fun z => by have h9 := f331; rw [z, hq341] at h9; cases h9
  have ne_q89_q341 : q89 ≠ q341 := fun z => by have h9 := f332; rw [z, hq341] at h9; cases h9
  have ne_q71_q341 : q71 ≠ q341 := fun z => by have h9 := f333; rw [z, hq341] at h9; cases h9
  have ne_q55_q341 : q55 ≠ q341 := fun z => by have h9 := f334; rw [z, hq341] at h9; cases h9
  have ne_q41_q341 : q41 ≠ q341 := fun z => by have h9 := f335; rw [z, hq341] at h9; cases h9
  have ne_q29_q341 : q29 ≠ q341 := fun z => by have h9 := f336; rw [z, hq341] at h9; cases h9
  have ne_q19_q341 : q19 ≠ q341 := fun z => by have h9 := f337; rw [z, hq341] at h9; cases h9
  have ne_q11_q341 : q11 ≠ q341 := fun z => by have h9 := f338; rw [z, hq341] at h9; cases h9
  have ne_q5_q341 : q5 ≠ q341 := fun z => by have h9 := f339; rw [z, hq341] at h9; cases h9
  have ne_q1_q341 : q1 ≠ q341 := fun z => by have h9 := f340; rw [z, hq341] at h9; cases h9
  obtain ⟨M341, e_M341⟩ : ∃ M341, M341 = hs M327 q341 (aI (G.2.1 0) 96 (fun (_ : Int) => (0 : Int))) := ⟨_, rfl⟩
  have hH := XV_to hH e_M341.symm
  have f341 : M341 q341 = some (aI (G.2.1 0) 96 (fun (_ : Int) => (0 : Int))) := by rw [e_M341]; exact hs_s
  have f342 : M341 y_ = some (oB 2 [.int (iI 0), .int (iI 0), .int (iI 0), .int (iI 0), .int (iI 0), .int (iI 0), .int (iI 0), .long (lI 0), .ref q1, .ref q5, .ref q11, .ref q19, .ref q29, .ref q41, .ref q55, .ref q71, .ref q89, .ref q169, .ref q191, .ref q287, .ref q313, .null]) := by rw [e_M341]; exact (hs_n (fun z => by have h9 := f327; rw [z, hq341] at h9; cases h9)).trans f327
  have f343 : M341 q313 = some (aI (G.2.1 0) 12 (fun (_ : Int) => (0 : Int))) := by rw [e_M341]; exact (hs_n (fun z => by have h9 := f328; rw [z, hq341] at h9; cases h9)).trans f328
  have f344 : M341 q287 = some (aI (G.2.1 0) 4 (fun (_ : Int) => (0 : Int))) := by rw [e_M341]; exact (hs_n (fun z => by have h9 := f329; rw [z, hq341] at h9; cases h9)).trans f329
  have f345 : M341 q191 = some (aI (G.2.1 0) 6 (up (up (up (up (up (up (fun (_ : Int) => (0 : Int)) 0 100) 1 0) 2 0) 3 0) 4 20) 5 0)) := by rw [e_M341]; exact (hs_n (fun z => by have h9 := f330; rw [z, hq341] at h9; cases h9)).trans f330
  have f346 : M341 q169 = some (aI (G.2.1 0) 6 (fun (_ : Int) => (0 : Int))) := by rw [e_M341]; exact (hs_n (fun z => by have h9 := f331; rw [z, hq341] at h9; cases h9)).trans f331
  have f347 : M341 q89 = some (aI (G.2.1 0) 6 (up (up (up (up (up (up (fun (_ : Int) => (0 : Int)) 0 7) 1 7) 2 7) 3 7) 4 7) 5 7)) := by rw [e_M341]; exact (hs_n (fun z => by have h9 := f332; rw [z, hq341] at h9; cases h9)).trans f332
  have f348 : M341 q71 = some (aI (G.2.1 0) 6 (fun (_ : Int) => (0 : Int))) := by rw [e_M341]; exact (hs_n (fun z => by have h9 := f333; rw [z, hq341] at h9; cases h9)).trans f333
  have f349 : M341 q55 = some (aI (G.2.1 0) 9 (fun (_ : Int) => (0 : Int))) := by rw [e_M341]; exact (hs_n (fun z => by have h9 := f334; rw [z, hq341] at h9; cases h9)).trans f334
  have f350 : M341 q41 = some (aI (G.2.1 0) 9 (fun (_ : Int) => (0 : Int))) := by rw [e_M341]; exact (hs_n (fun z => by have h9 := f335; rw [z, hq341] at h9; cases h9)).trans f335
  have f351 : M341 q29 = some (aQ (G.2.1 9) 12 (fun (_ : Int) => (none : Option Nat))) := by rw [e_M341]; exact (hs_n (fun z => by have h9 := f336; rw [z, hq341] at h9; cases h9)).trans f336
  have f352 : M341 q19 = some (aQ (G.2.1 8) 12 (fun (_ : Int) => (none : Option Nat))) := by rw [e_M341]; exact (hs_n (fun z => by have h9 := f337; rw [z, hq341] at h9; cases h9)).trans f337
  have f353 : M341 q11 = some (aQ (G.2.1 7) 40 (fun (_ : Int) => (none : Option Nat))) := by rw [e_M341]; exact (hs_n (fun z => by have h9 := f338; rw [z, hq341] at h9; cases h9)).trans f338
  have f354 : M341 q5 = some (aQ (G.2.1 6) 40 (fun (_ : Int) => (none : Option Nat))) := by rw [e_M341]; exact (hs_n (fun z => by have h9 := f339; rw [z, hq341] at h9; cases h9)).trans f339
  have f355 : M341 q1 = some (aQ (G.2.1 5) 8 (fun (_ : Int) => (none : Option Nat))) := by rw [e_M341]; exact (hs_n (fun z => by have h9 := f340; rw [z, hq341] at h9; cases h9)).trans f340
  refine x_putF (ty := (.array .int)) hx hb hts in_X1 tyX1 tyX1_ok nmX1 hown hK hH f342 rfl 21 (by decide) q203 (fun _ h9 => h9) rfl hnm rfl (by decide +kernel) rfl rfl (Nat.le_of_ble_eq_true rfl) (by decide) dX1_init_173 (fun H locs hH => ?_)
  obtain ⟨M356, e_M356⟩ : ∃ M356, M356 = hs M341 y_ (oB 2 [.int (iI 0), .int (iI 0), .int (iI 0), .int (iI 0), .int (iI 0), .int (iI 0), .int (iI 0), .long (lI 0), .ref q1, .ref q5, .ref q11, .ref q19, .ref q29, .ref q41, .ref q55, .ref q71, .ref q89, .ref q169, .ref q191, .ref q287, .ref q313, .ref q341]) := ⟨_, rfl⟩
  have hH := XV_to hH e_M356.symm
  have f356 : M356 y_ = some (oB 2 [.int (iI 0), .int (iI 0), .int (iI 0), .int (iI 0), .int (iI 0), .int (iI 0), .int (iI 0), .long (lI 0), .ref q1, .ref q5, .ref q11, .ref q19, .ref q29, .ref q41, .ref q55, .ref q71, .ref q89, .ref q169, .ref q191, .ref q287, .ref q313, .ref q341]) := by rw [e_M356]; exact hs_s
  have f357 : M356 q341 = some (aI (G.2.1 0) 96 (fun (_ : Int) => (0 : Int))) := by rw [e_M356]; exact (hs_n ne_y__q341.symm).trans f341
  have f358 : M356 q313 = some (aI (G.2.1 0) 12 (fun (_ : Int) => (0 : Int))) := by rw [e_M356]; exact (hs_n ne_y__q313.symm).trans f343
  have f359 : M356 q287 = some (aI (G.2.1 0) 4 (fun (_ : Int) => (0 : Int))) := by rw [e_M356]; exact (hs_n ne_y__q287.symm).trans f344
  have f360 : M356 q191 = some (aI (G.2.1 0) 6 (up (up (up (up (up (up (fun (_ : Int) => (0 : Int)) 0 100) 1 0) 2 0) 3 0) 4 20) 5 0)) := by rw [e_M356]; exact (hs_n ne_y__q191.symm).trans f345
  have f361 : M356 q169 = some (aI (G.2.1 0) 6 (fun (_ : Int) => (0 : Int))) := by rw [e_M356]; exact (hs_n ne_y__q169.symm).trans f346
  have f362 : M356 q89 = some (aI (G.2.1 0) 6 (up (up (up (up (up (up (fun (_ : Int) => (0 : Int)) 0 7) 1 7) 2 7) 3 7) 4 7) 5 7)) := by rw [e_M356]; exact (hs_n ne_y__q89.symm).trans f347
  have f363 : M356 q71 = some (aI (G.2.1 0) 6 (fun (_ : Int) => (0 : Int))) := by rw [e_M356]; exact (hs_n ne_y__q71.symm).trans f348
  have f364 : M356 q55 = some (aI (G.2.1 0) 9 (fun (_ : Int) => (0 : Int))) := by rw [e_M356]; exact (hs_n ne_y__q55.symm).trans f349
  have f365 : M356 q41 = some (aI (G.2.1 0) 9 (fun (_ : Int) => (0 : Int))) := by rw [e_M356]; exact (hs_n ne_y__q41.symm).trans f350
  have f366 : M356 q29 = some (aQ (G.2.1 9) 12 (fun (_ : Int) => (none : Option Nat))) := by rw [e_M356]; exact (hs_n ne_y__q29.symm).trans f351
  have f367 : M356 q19 = some (aQ (G.2.1 8) 12 (fun (_ : Int) => (none : Option Nat))) := by rw [e_M356]; exact (hs_n ne_y__q19.symm).trans f352
  have f368 : M356 q11 = some (aQ (G.2.1 7) 40 (fun (_ : Int) => (none : Option Nat))) := by rw [e_M356]; exact (hs_n ne_y__q11.symm).trans f353
  have f369 : M356 q5 = some (aQ (G.2.1 6) 40 (fun (_ : Int) => (none : Option Nat))) := by rw [e_M356]; exact (hs_n ne_y__q5.symm).trans f354
  have f370 : M356 q1 = some (aQ (G.2.1 5) 8 (fun (_ : Int) => (none : Option Nat))) := by rw [e_M356]; exact (hs_n ne_y__q1.symm).trans f355
  refine W.widen (k := 14) (n := 300) (Nat.le_of_ble_eq_true rfl) (Nat.le_of_ble_eq_true rfl) ?_
  refine x_vret hx hb hr hlk hH dX1_init_176 ?_
  have t_q1 := hq1
  have n_q1_y_ : q1 ≠ y_ := fun z => by rw [z, g1] at t_q1; cases t_q1
  have t_q5 := hq5
  rw [e_M3] at t_q5
  obtain ⟨t_q5, n_q5_y_⟩ := hsn t_q5
  rw [e_M1] at t_q5
  obtain ⟨t_q5, n_q5_q1⟩ := hsn t_q5
  have t_q11 := hq11
  rw [e_M8] at t_q11
  obtain ⟨t_q11, n_q11_y_⟩ := hsn t_q11
  rw [e_M5] at t_q11
  obtain ⟨t_q11, n_q11_q5⟩ := hsn t_q11
  rw [e_M3] at t_q11
  obtain ⟨t_q11, m_q11_y__M3⟩ := hsn t_q11
  rw [e_M1] at t_q11
  obtain ⟨t_q11, n_q11_q1⟩ := hsn t_q11
  have t_q19 := hq19
  rw [e_M15] at t_q19
  obtain ⟨t_q19, n_q19_y_⟩ := hsn t_q19
  rw [e_M11] at t_q19
  obtain ⟨t_q19, n_q19_q11⟩ := hsn t_q19
  rw [e_M8] at t_q19
  obtain ⟨t_q19, m_q19_y__M8⟩ := hsn t_q19
  rw [e_M5] at t_q19
  obtain ⟨t_q19, n_q19_q5⟩ := hsn t_q19
  rw [e_M3] at t_q19
  obtain ⟨t_q19, m_q19_y__M3⟩ := hsn t_q19
  rw [e_M1] at t_q19
  obtain ⟨t_q19, n_q19_q1⟩ := hsn t_q19
  have t_q29 := hq29
  rw [e_M24] at t_q29
  obtain ⟨t_q29, n_q29_y_⟩ := hsn t_q29
  rw [e_M19] at t_q29
  obtain ⟨t_q29, n_q29_q19⟩ := hsn t_q29
  rw [e_M15] at t_q29
  obtain ⟨t_q29, m_q29_y__M15⟩ := hsn t_q29
  rw [e_M11] at t_q29
  obtain ⟨t_q29, n_q29_q11⟩ := hsn t_q29
  rw [e_M8] at t_q29
  obtain ⟨t_q29, m_q29_y__M8⟩ := hsn t_q29
  rw [e_M5] at t_q29
  obtain ⟨t_q29, n_q29_q5⟩ := hsn t_q29
  rw [e_M3] at t_q29
  obtain ⟨t_q29, m_q29_y__M3⟩ := hsn t_q29
  rw [e_M1] at t_q29
  obtain ⟨t_q29, n_q29_q1⟩ := hsn t_q29
  have t_q41 := hq41
  rw [e_M35] at t_q41
  obtain ⟨t_q41, n_q41_y_⟩ := hsn t_q41
  rw [e_M29] at t_q41
  obtain ⟨t_q41, n_q41_q29⟩ := hsn t_q41
  rw [e_M24] at t_q41
  obtain ⟨t_q41, m_q41_y__M24⟩ := hsn t_q41
  rw [e_M19] at t_q41
  obtain ⟨t_q41, n_q41_q19⟩ := hsn t_q41
  rw [e_M15] at t_q41
  obtain ⟨t_q41, m_q41_y__M15⟩ := hsn t_q41
  rw [e_M11] at t_q41
  obtain ⟨t_q41, n_q41_q11⟩ := hsn t_q41
  rw [e_M8] at t_q41
  obtain ⟨t_q41, m_q41_y__M8⟩ := hsn t_q41
  rw [e_M5] at t_q41
  obtain ⟨t_q41, n_q41_q5⟩ := hsn t_q41
  rw [e_M3] at t_q41
  obtain ⟨t_q41, m_q41_y__M3⟩ := hsn t_q41
  rw [e_M1] at t_q41
  obtain ⟨t_q41, n_q41_q1⟩ := hsn t_q41
  have t_q55 := hq55
  rw [e_M48] at t_q55
  obtain ⟨t_q55, n_q55_y_⟩ := hsn t_q55
  rw [e_M41] at t_q55
  obtain ⟨t_q55, n_q55_q41⟩ := hsn t_q55
  rw [e_M35] at t_q55
  obtain ⟨t_q55, m_q55_y__M35⟩ := hsn t_q55
  rw [e_M29] at t_q55
  obtain ⟨t_q55, n_q55_q29⟩ := hsn t_q55
  rw [e_M24] at t_q55
  obtain ⟨t_q55, m_q55_y__M24⟩ := hsn t_q55
  rw [e_M19] at t_q55
  obtain ⟨t_q55, n_q55_q19⟩ := hsn t_q55
  rw [e_M15] at t_q55
  obtain ⟨t_q55, m_q55_y__M15⟩ := hsn t_q55
  rw [e_M11] at t_q55
  obtain ⟨t_q55, n_q55_q11⟩ := hsn t_q55
  rw [e_M8] at t_q55
  obtain ⟨t_q55, m_q55_y__M8⟩ := hsn t_q55
  rw [e_M5] at t_q55
  obtain ⟨t_q55, n_q55_q5⟩ := hsn t_q55
  rw [e_M3] at t_q55
  obtain ⟨t_q55, m_q55_y__M3⟩ := hsn t_q55
  rw [e_M1] at t_q55
  obtain ⟨t_q55, n_q55_q1⟩ := hsn t_q55
  have t_q71 := hq71
  rw [e_M63] at t_q71
  obtain ⟨t_q71, n_q71_y_⟩ := hsn t_q71
  rw [e_M55] at t_q71
  obtain ⟨t_q71, n_q71_q55⟩ := hsn t_q71
  rw [e_M48] at t_q71
  obtain ⟨t_q71, m_q71_y__M48⟩ := hsn t_q71
  rw [e_M41] at t_q71
  obtain ⟨t_q71, n_q71_q41⟩ := hsn t_q71
  rw [e_M35] at t_q71
  obtain ⟨t_q71, m_q71_y__M35⟩ := hsn t_q71
  rw [e_M29] at t_q71
  obtain ⟨t_q71, n_q71_q29⟩ := hsn t_q71
  rw [e_M24] at t_q71
  obtain ⟨t_q71, m_q71_y__M24⟩ := hsn t_q71
  rw [e_M19] at t_q71
  obtain ⟨t_q71, n_q71_q19⟩ := hsn t_q71
  rw [e_M15] at t_q71
  obtain ⟨t_q71, m_q71_y__M15⟩ := hsn t_q71
  rw [e_M11] at t_q71
  obtain ⟨t_q71, n_q71_q11⟩ := hsn t_q71
  rw [e_M8] at t_q71
  obtain ⟨t_q71, m_q71_y__M8⟩ := hsn t_q71
  rw [e_M5] at t_q71
  obtain ⟨t_q71, n_q71_q5⟩ := hsn t_q71
  rw [e_M3] at t_q71
  obtain ⟨t_q71, m_q71_y__M3⟩ := hsn t_q71
  rw [e_M1] at t_q71
  obtain ⟨t_q71, n_q71_q1⟩ := hsn t_q71
  have t_q89 := hq89
  rw [e_M80] at t_q89
  obtain ⟨t_q89, n_q89_y_⟩ := hsn t_q89
  rw [e_M71] at t_q89
  obtain ⟨t_q89, n_q89_q71⟩ := hsn t_q89
  rw [e_M63] at t_q89
  obtain ⟨t_q89, m_q89_y__M63⟩ := hsn t_q89
  rw [e_M55] at t_q89
  obtain ⟨t_q89, n_q89_q55⟩ := hsn t_q89
  rw [e_M48] at t_q89
  obtain ⟨t_q89, m_q89_y__M48⟩ := hsn t_q89
  rw [e_M41] at t_q89
  obtain ⟨t_q89, n_q89_q41⟩ := hsn t_q89
  rw [e_M35] at t_q89
  obtain ⟨t_q89, m_q89_y__M35⟩ := hsn t_q89
  rw [e_M29] at t_q89
  obtain ⟨t_q89, n_q89_q29⟩ := hsn t_q89
  rw [e_M24] at t_q89
  obtain ⟨t_q89, m_q89_y__M24⟩ := hsn t_q89
  rw [e_M19] at t_q89
  obtain ⟨t_q89, n_q89_q19⟩ := hsn t_q89
  rw [e_M15] at t_q89
  obtain ⟨t_q89, m_q89_y__M15⟩ := hsn t_q89
  rw [e_M11] at t_q89
  obtain ⟨t_q89, n_q89_q11⟩ := hsn t_q89
  rw [e_M8] at t_q89
  obtain ⟨t_q89, m_q89_y__M8⟩ := hsn t_q89
  rw [e_M5] at t_q89
  obtain ⟨t_q89, n_q89_q5⟩ := hsn t_q89
  rw [e_M3] at t_q89
  obtain ⟨t_q89, m_q89_y__M3⟩ := hsn t_q89
  rw [e_M1] at t_q89
  obtain ⟨t_q89, n_q89_q1⟩ := hsn t_q89
  have t_q169 := hq169
  rw [e_M159] at t_q169
  obtain ⟨t_q169, n_q169_y_⟩ := hsn t_q169
  rw [e_M149] at t_q169
  obtain ⟨t_q169, n_q169_q89⟩ := hsn t_q169
  rw [e_M139] at t_q169
  obtain ⟨t_q169, m_q169_q89_M139⟩ := hsn t_q169
  rw [e_M129] at t_q169
  obtain ⟨t_q169, m_q169_q89_M129⟩ := hsn t_q169
  rw [e_M119] at t_q169
  obtain ⟨t_q169, m_q169_q89_M119⟩ := hsn t_q169
  rw [e_M109] at t_q169
  obtain ⟨t_q169, m_q169_q89_M109⟩ := hsn t_q169
  rw [e_M99] at t_q169
  obtain ⟨t_q169, m_q169_q89_M99⟩ := hsn t_q169
  rw [e_M89] at t_q169
  obtain ⟨t_q169, m_q169_q89_M89⟩ := hsn t_q169
  rw [e_M80] at t_q169
  obtain ⟨t_q169, m_q169_y__M80⟩ := hsn t_q169
  rw [e_M71] at t_q169
  obtain ⟨t_q169, n_q169_q71⟩ := hsn t_q169
  rw [e_M63] at t_q169
  obtain ⟨t_q169, m_q169_y__M63⟩ := hsn t_q169
  rw [e_M55] at t_q169
  obtain ⟨t_q169, n_q169_q55⟩ := hsn t_q169
  rw [e_M48] at t_q169
  obtain ⟨t_q169, m_q169_y__M48⟩ := hsn t_q169
  rw [e_M41] at t_q169
  obtain ⟨t_q169, n_q169_q41⟩ := hsn t_q169
  rw [e_M35] at t_q169
  obtain ⟨t_q169, m_q169_y__M35⟩ := hsn t_q169
  rw [e_M29] at t_q169
  obtain ⟨t_q169, n_q169_q29⟩ := hsn t_q169
  rw [e_M24] at t_q169
  obtain ⟨t_q169, m_q169_y__M24⟩ := hsn t_q169
  rw [e_M19] at t_q169
  obtain ⟨t_q169, n_q169_q19⟩ := hsn t_q169
  rw [e_M15] at t_q169
  obtain ⟨t_q169, m_q169_y__M15⟩ := hsn t_q169
  rw [e_M11] at t_q169
  obtain ⟨t_q169, n_q169_q11⟩ := hsn t_q169
  rw [e_M8] at t_q169
  obtain ⟨t_q169, m_q169_y__M8⟩ := hsn t_q169
  rw [e_M5] at t_q169
  obtain ⟨t_q169, n_q169_q5⟩ := hsn t_q169
  rw [e_M3] at t_q169
  obtain ⟨t_q169, m_q169_y__M3⟩ := hsn t_q169
  rw [e_M1] at t_q169
  obtain ⟨t_q169, n_q169_q1⟩ := hsn t_q169
  have t_q191 := hq191
  rw [e_M180] at t_q191
  obtain ⟨t_q191, n_q191_y_⟩ := hsn t_q191
  rw [e_M169] at t_q191
  obtain ⟨t_q191, n_q191_q169⟩ := hsn t_q191
  rw [e_M159] at t_q191
  obtain ⟨t_q191, m_q191_y__M159⟩ := hsn t_q191
  rw [e_M149] at t_q191
  obtain ⟨t_q191, n_q191_q89⟩ := hsn t_q191
  rw [e_M139] at t_q191
  obtain ⟨t_q191, m_q191_q89_M139⟩ := hsn t_q191
  rw [e_M129] at t_q191
  obtain ⟨t_q191, m_q191_q89_M129⟩ := hsn t_q191
  rw [e_M119] at t_q191
  obtain ⟨t_q191, m_q191_q89_M119⟩ := hsn t_q191
  rw [e_M109] at t_q191
  obtain ⟨t_q191, m_q191_q89_M109⟩ := hsn t_q191
  rw [e_M99] at t_q191
  obtain ⟨t_q191, m_q191_q89_M99⟩ := hsn t_q191
  rw [e_M89] at t_q191
  obtain ⟨t_q191, m_q191_q89_M89⟩ := hsn t_q191
  rw [e_M80] at t_q191
  obtain ⟨t_q191, m_q191_y__M80⟩ := hsn t_q191
  rw [e_M71] at t_q191
  obtain ⟨t_q191, n_q191_q71⟩ := hsn t_q191
  rw [e_M63] at t_q191
  obtain ⟨t_q191, m_q191_y__M63⟩ := hsn t_q191
  rw [e_M55] at t_q191
  obtain ⟨t_q191, n_q191_q55⟩ := hsn t_q191
  rw [e_M48] at t_q191
  obtain ⟨t_q191, m_q191_y__M48⟩ := hsn t_q191
  rw [e_M41] at t_q191
  obtain ⟨t_q191, n_q191_q41⟩ := hsn t_q191
  rw [e_M35] at t_q191
  obtain ⟨t_q191, m_q191_y__M35⟩ := hsn t_q191
  rw [e_M29] at t_q191
  obtain ⟨t_q191, n_q191_q29⟩ := hsn t_q191
  rw [e_M24] at t_q191
  obtain ⟨t_q191, m_q191_y__M24⟩ := hsn t_q191
  rw [e_M19] at t_q191
  obtain ⟨t_q191, n_q191_q19⟩ := hsn t_q191
  rw [e_M15] at t_q191
  obtain ⟨t_q191, m_q191_y__M15⟩ := hsn t_q191
  rw [e_M11] at t_q191
  obtain ⟨t_q191, n_q191_q11⟩ := hsn t_q191
  rw [e_M8] at t_q191
  obtain ⟨t_q191, m_q191_y__M8⟩ := hsn t_q191
  rw [e_M5] at t_q191
  obtain ⟨t_q191, n_q191_q5⟩ := hsn t_q191
  rw [e_M3] at t_q191
  obtain ⟨t_q191, m_q191_y__M3⟩ := hsn t_q191
  rw [e_M1] at t_q191
  obtain ⟨t_q191, n_q191_q1⟩ := hsn t_q191
  have t_q287 := hq287
  rw [e_M275] at t_q287
  obtain ⟨t_q287, n_q287_y_⟩ := hsn t_q287
  rw [e_M263] at t_q287
  obtain ⟨t_q287, n_q287_q191⟩ := hsn t_q287
  rw [e_M251] at t_q287
  obtain ⟨t_q287, m_q287_q191_M251⟩ := hsn t_q287
  rw [e_M239] at t_q287
  obtain ⟨t_q287, m_q287_q191_M239⟩ := hsn t_q287
  rw [e_M227] at t_q287
  obtain ⟨t_q287, m_q287_q191_M227⟩ := hsn t_q287
  rw [e_M215] at t_q287
  obtain ⟨t_q287, m_q287_q191_M215⟩ := hsn t_q287
  rw [e_M203] at t_q287
  obtain ⟨t_q287, m_q287_q191_M203⟩ := hsn t_q287
  rw [e_M191] at t_q287
  obtain ⟨t_q287, m_q287_q191_M191⟩ := hsn t_q287
  rw [e_M180] at t_q287
  obtain ⟨t_q287, m_q287_y__M180⟩ := hsn t_q287
  rw [e_M169] at t_q287
  obtain ⟨t_q287, n_q287_q169⟩ := hsn t_q287
  rw [e_M159] at t_q287
  obtain ⟨t_q287, m_q287_y__M159⟩ := hsn t_q287
  rw [e_M149] at t_q287
  obtain ⟨t_q287, n_q287_q89⟩ := hsn t_q287
  rw [e_M139] at t_q287
  obtain ⟨t_q287, m_q287_q89_M139⟩ := hsn t_q287
  rw [e_M129] at t_q287
  obtain ⟨t_q287, m_q287_q89_M129⟩ := hsn t_q287
  rw [e_M119] at t_q287
  obtain ⟨t_q287, m_q287_q89_M119⟩ := hsn t_q287
  rw [e_M109] at t_q287
  obtain ⟨t_q287, m_q287_q89_M109⟩ := hsn t_q287
  rw [e_M99] at t_q287
  obtain ⟨t_q287, m_q287_q89_M99⟩ := hsn t_q287
  rw [e_M89] at t_q287
  obtain ⟨t_q287, m_q287_q89_M89⟩ := hsn t_q287
  rw [e_M80] at t_q287
  obtain ⟨t_q287, m_q287_y__M80⟩ := hsn t_q287
  rw [e_M71] at t_q287
  obtain ⟨t_q287, n_q287_q71⟩ := hsn t_q287
  rw [e_M63] at t_q287
  obtain ⟨t_q287, m_q287_y__M63⟩ := hsn t_q287
  rw [e_M55] at t_q287
  obtain ⟨t_q287, n_q287_q55⟩ := hsn t_q287
  rw [e_M48] at t_q287
  obtain ⟨t_q287, m_q287_y__M48⟩ := hsn t_q287
  rw [e_M41] at t_q287
  obtain ⟨t_q287, n_q287_q41⟩ := hsn t_q287
  rw [e_M35] at t_q287
  obtain ⟨t_q287, m_q287_y__M35⟩ := hsn t_q287
  rw [e_M29] at t_q287
  obtain ⟨t_q287, n_q287_q29⟩ := hsn t_q287
  rw [e_M24] at t_q287
  obtain ⟨t_q287, m_q287_y__M24⟩ := hsn t_q287
  rw [e_M19] at t_q287
  obtain ⟨t_q287, n_q287_q19⟩ := hsn t_q287
  rw [e_M15] at t_q287
  obtain ⟨t_q287, m_q287_y__M15⟩ := hsn t_q287
  rw [e_M11] at t_q287
  obtain ⟨t_q287, n_q287_q11⟩ := hsn t_q287
  rw [e_M8] at t_q287
  obtain ⟨t_q287, m_q287_y__M8⟩ := hsn t_q287
  rw [e_M5] at t_q287
  obtain ⟨t_q287, n_q287_q5⟩ := hsn t_q287
  rw [e_M3] at t_q287
  obtain ⟨t_q287, m_q287_y__M3⟩ := hsn t_q287
  rw [e_M1] at t_q287
  obtain ⟨t_q287, n_q287_q1⟩ := hsn t_q287
  have t_q313 := hq313
  rw [e_M300] at t_q313
  obtain ⟨t_q313, n_q313_y_⟩ := hsn t_q313
  rw [e_M287] at t_q313
  obtain ⟨t_q313, n_q313_q287⟩ := hsn t_q313
  rw [e_M275] at t_q313
  obtain ⟨t_q313, m_q313_y__M275⟩ := hsn t_q313
  rw [e_M263] at t_q313
  obtain ⟨t_q313, n_q313_q191⟩ := hsn t_q313
  rw [e_M251] at t_q313
  obtain ⟨t_q313, m_q313_q191_M251⟩ := hsn t_q313
  rw [e_M239] at t_q313
  obtain ⟨t_q313, m_q313_q191_M239⟩ := hsn t_q313
  rw [e_M227] at t_q313
  obtain ⟨t_q313, m_q313_q191_M227⟩ := hsn t_q313
  rw [e_M215] at t_q313
  obtain ⟨t_q313, m_q313_q191_M215⟩ := hsn t_q313
  rw [e_M203] at t_q313
  obtain ⟨t_q313, m_q313_q191_M203⟩ := hsn t_q313
  rw [e_M191] at t_q313
  obtain ⟨t_q313, m_q313_q191_M191⟩ := hsn t_q313
  rw [e_M180] at t_q313
  obtain ⟨t_q313, m_q313_y__M180⟩ := hsn t_q313
  rw [e_M169] at t_q313
  obtain ⟨t_q313, n_q313_q169⟩ := hsn t_q313
  rw [e_M159] at t_q313
  obtain ⟨t_q313, m_q313_y__M159⟩ := hsn t_q313
  rw [e_M149] at t_q313
  obtain ⟨t_q313, n_q313_q89⟩ := hsn t_q313
  rw [e_M139] at t_q313
  obtain ⟨t_q313, m_q313_q89_M139⟩ := hsn t_q313
  rw [e_M129] at t_q313
  obtain ⟨t_q313, m_q313_q89_M129⟩ := hsn t_q313
  rw [e_M119] at t_q313
  obtain ⟨t_q313, m_q313_q89_M119⟩ := hsn t_q313
  rw [e_M109] at t_q313
  obtain ⟨t_q313, m_q313_q89_M109⟩ := hsn t_q313
  rw [e_M99] at t_q313
  obtain ⟨t_q313, m_q313_q89_M99⟩ := hsn t_q313
  rw [e_M89] at t_q313
  obtain ⟨t_q313, m_q313_q89_M89⟩ := hsn t_q313
  rw [e_M80] at t_q313
  obtain ⟨t_q313, m_q313_y__M80⟩ := hsn t_q313
  rw [e_M71] at t_q313
  obtain ⟨t_q313, n_q313_q71⟩ := hsn t_q313
  rw [e_M63] at t_q313
  obtain ⟨t_q313, m_q313_y__M63⟩ := hsn t_q313
  rw [e_M55] at t_q313
  obtain ⟨t_q313, n_q313_q55⟩ := hsn t_q313
  rw [e_M48] at t_q313
  obtain ⟨t_q313, m_q313_y__M48⟩ := hsn t_q313
  rw [e_M41] at t_q313
  obtain ⟨t_q313, n_q313_q41⟩ := hsn t_q313
  rw [e_M35] at t_q313
  obtain ⟨t_q313, m_q313_y__M35⟩ := hsn t_q313
  rw [e_M29] at t_q313
  obtain ⟨t_q313, n_q313_q29⟩ := hsn t_q313
  rw [e_M24] at t_q313
  obtain ⟨t_q313, m_q313_y__M24⟩ := hsn t_q313
  rw [e_M19] at t_q313
  obtain ⟨t_q313, n_q313_q19⟩ := hsn t_q313
  rw [e_M15] at t_q313
  obtain ⟨t_q313, m_q313_y__M15⟩ := hsn t_q313
  rw [e_M11] at t_q313
  obtain ⟨t_q313, n_q313_q11⟩ := hsn t_q313
  rw [e_M8] at t_q313
  obtain ⟨t_q313, m_q313_y__M8⟩ := hsn t_q313
  rw [e_M5] at t_q313
  obtain ⟨t_q313, n_q313_q5⟩ := hsn t_q313
  rw [e_M3] at t_q313
  obtain ⟨t_q313, m_q313_y__M3⟩ := hsn t_q313
  rw [e_M1] at t_q313
  obtain ⟨t_q313, n_q313_q1⟩ := hsn t_q313
  have t_q341 := hq341
  rw [e_M327] at t_q341
  obtain ⟨t_q341, n_q341_y_⟩ := hsn t_q341
  rw [e_M313] at t_q341
  obtain ⟨t_q341, n_q341_q313⟩ := hsn t_q341
  rw [e_M300] at t_q341
  obtain ⟨t_q341, m_q341_y__M300⟩ := hsn t_q341
  rw [e_M287] at t_q341
  obtain ⟨t_q341, n_q341_q287⟩ := hsn t_q341
  rw [e_M275] at t_q341
  obtain ⟨t_q341, m_q341_y__M275⟩ := hsn t_q341
  rw [e_M263] at t_q341
  obtain ⟨t_q341, n_q341_q191⟩ := hsn t_q341
  rw [e_M251] at t_q341
  obtain ⟨t_q341, m_q341_q191_M251⟩ := hsn t_q341
  rw [e_M239] at t_q341
  obtain ⟨t_q341, m_q341_q191_M239⟩ := hsn t_q341
  rw [e_M227] at t_q341
  obtain ⟨t_q341, m_q341_q191_M227⟩ := hsn t_q341
  rw [e_M215] at t_q341
  obtain ⟨t_q341, m_q341_q191_M215⟩ := hsn t_q341
  rw [e_M203] at t_q341
  obtain ⟨t_q341, m_q341_q191_M203⟩ := hsn t_q341
  rw [e_M191] at t_q341
  obtain ⟨t_q341, m_q341_q191_M191⟩ := hsn t_q341
  rw [e_M180] at t_q341
  obtain ⟨t_q341, m_q341_y__M180⟩ := hsn t_q341
  rw [e_M169] at t_q341
  obtain ⟨t_q341, n_q341_q169⟩ := hsn t_q341
  rw [e_M159] at t_q341
  obtain ⟨t_q341, m_q341_y__M159⟩ := hsn t_q341
  rw [e_M149] at t_q341
  obtain ⟨t_q341, n_q341_q89⟩ := hsn t_q341
  rw [e_M139] at t_q341
  obtain ⟨t_q341, m_q341_q89_M139⟩ := hsn t_q341
  rw [e_M129] at t_q341
  obtain ⟨t_q341, m_q341_q89_M129⟩ := hsn t_q341
  rw [e_M119] at t_q341
  obtain ⟨t_q341, m_q341_q89_M119⟩ := hsn t_q341
  rw [e_M109] at t_q341
  obtain ⟨t_q341, m_q341_q89_M109⟩ := hsn t_q341
  rw [e_M99] at t_q341
  obtain ⟨t_q341, m_q341_q89_M99⟩ := hsn t_q341
  rw [e_M89] at t_q341
  obtain ⟨t_q341, m_q341_q89_M89⟩ := hsn t_q341
  rw [e_M80] at t_q341
  obtain ⟨t_q341, m_q341_y__M80⟩ := hsn t_q341
  rw [e_M71] at t_q341
  obtain ⟨t_q341, n_q341_q71⟩ := hsn t_q341
  rw [e_M63] at t_q341
  obtain ⟨t_q341, m_q341_y__M63⟩ := hsn t_q341
  rw [e_M55] at t_q341
  obtain ⟨t_q341, n_q341_q55⟩ := hsn t_q341
  rw [e_M48] at t_q341
  obtain ⟨t_q341, m_q341_y__M48⟩ := hsn t_q341
  rw [e_M41] at t_q341
  obtain ⟨t_q341, n_q341_q41⟩ := hsn t_q341
  rw [e_M35] at t_q341
  obtain ⟨t_q341, m_q341_y__M35⟩ := hsn t_q341
  rw [e_M29] at t_q341
  obtain ⟨t_q341, n_q341_q29⟩ := hsn t_q341
  rw [e_M24] at t_q341
  obtain ⟨t_q341, m_q341_y__M24⟩ := hsn t_q341
  rw [e_M19] at t_q341
  obtain ⟨t_q341, n_q341_q19⟩ := hsn t_q341
  rw [e_M15] at t_q341
  obtain ⟨t_q341, m_q341_y__M15⟩ := hsn t_q341
  rw [e_M11] at t_q341
  obtain ⟨t_q341, n_q341_q11⟩ := hsn t_q341
  rw [e_M8] at t_q341
  obtain ⟨t_q341, m_q341_y__M8⟩ := hsn t_q341
  rw [e_M5] at t_q341
  obtain ⟨t_q341, n_q341_q5⟩ := hsn t_q341
  rw [e_M3] at t_q341
  obtain ⟨t_q341, m_q341_y__M3⟩ := hsn t_q341
  rw [e_M1] at t_q341
  obtain ⟨t_q341, n_q341_q1⟩ := hsn t_q341
  have hfr : ∀ v e, M v = some e → v ≠ y_ → M356 v = some e ∧ (if v = y_ then cd_ + 0 else if v = q1 then cd_ + 8 else if v = q5 then cd_ + 9 else if v = q11 then cd_ + 10 else if v = q19 then cd_ + 11 else if v = q29 then cd_ + 12 else if v = q41 then cd_ + 13 else if v = q55 then cd_ + 14 else if v = q71 then cd_ + 15 else if v = q89 then cd_ + 16 else if v = q169 then cd_ + 17 else if v = q191 then cd_ + 18 else if v = q287 then cd_ + 19 else if v = q313 then cd_ + 20 else if v = q341 then cd_ + 21 else w_ v) = w_ v := by
    intro v e hv zy_
    have zq1 : v ≠ q1 := fun u => by rw [u, t_q1] at hv; cases hv
    have zq5 : v ≠ q5 := fun u => by rw [u, t_q5] at hv; cases hv
    have zq11 : v ≠ q11 := fun u => by rw [u, t_q11] at hv; cases hv
    have zq19 : v ≠ q19 := fun u => by rw [u, t_q19] at hv; cases hv
    have zq29 : v ≠ q29 := fun u => by rw [u, t_q29] at hv; cases hv
    have zq41 : v ≠ q41 := fun u => by rw [u, t_q41] at hv; cases hv
    have zq55 : v ≠ q55 := fun u => by rw [u, t_q55] at hv; cases hv
    have zq71 : v ≠ q71 := fun u => by rw [u, t_q71] at hv; cases hv
    have zq89 : v ≠ q89 := fun u => by rw [u, t_q89] at hv; cases hv
    have zq169 : v ≠ q169 := fun u => by rw [u, t_q169] at hv; cases hv
    have zq191 : v ≠ q191 := fun u => by rw [u, t_q191] at hv; cases hv
    have zq287 : v ≠ q287 := fun u => by rw [u, t_q287] at hv; cases hv
    have zq313 : v ≠ q313 := fun u => by rw [u, t_q313] at hv; cases hv
    have zq341 : v ≠ q341 := fun u => by rw [u, t_q341] at hv; cases hv
    refine ⟨?_, ?_⟩
    · rw [e_M356, hs_n zy_, e_M341, hs_n zq341, e_M327, hs_n zy_, e_M313, hs_n zq313, e_M300, hs_n zy_, e_M287, hs_n zq287, e_M275, hs_n zy_, e_M263, hs_n zq191, e_M251, hs_n zq191, e_M239, hs_n zq191, e_M227, hs_n zq191, e_M215, hs_n zq191, e_M203, hs_n zq191, e_M191, hs_n zq191, e_M180, hs_n zy_, e_M169, hs_n zq169, e_M159, hs_n zy_, e_M149, hs_n zq89, e_M139, hs_n zq89, e_M129, hs_n zq89, e_M119, hs_n zq89, e_M109, hs_n zq89, e_M99, hs_n zq89, e_M89, hs_n zq89, e_M80, hs_n zy_, e_M71, hs_n zq71, e_M63, hs_n zy_, e_M55, hs_n zq55, e_M48, hs_n zy_, e_M41, hs_n zq41, e_M35, hs_n zy_, e_M29, hs_n zq29, e_M24, hs_n zy_, e_M19, hs_n zq19, e_M15, hs_n zy_, e_M11, hs_n zq11, e_M8, hs_n zy_, e_M5, hs_n zq5, e_M3, hs_n zy_, e_M1, hs_n zq1]; exact hv
    · rw [if_neg zy_, if_neg zq1, if_neg zq5, if_neg zq11, if_neg zq19, if_neg zq29, if_neg zq41, if_neg zq55, if_neg zq71, if_neg zq89, if_neg zq169, if_neg zq191, if_neg zq287, if_neg zq313, if_neg zq341]
  refine ⟨(fun k => if k = 0 then y_ else if k = 8 then q1 else if k = 9 then q5 else if k = 10 then q11 else if k = 11 then q19 else if k = 12 then q29 else if k = 13 then q41 else if k = 14 then q55 else if k = 15 then q71 else if k = 16 then q89 else if k = 17 then q169 else if k = 18 then q191 else if k = 19 then q287 else if k = 20 then q313 else q341), (fun v => if v = y_ then cd_ + 0 else if v = q1 then cd_ + 8 else if v = q5 then cd_ + 9 else if v = q11 then cd_ + 10 else if v = q19 then cd_ + 11 else if v = q29 then cd_ + 12 else if v = q41 then cd_ + 13 else if v = q55 then cd_ + 14 else if v = q71 then cd_ + 15 else if v = q89 then cd_ + 16 else if v = q169 then cd_ + 17 else if v = q191 then cd_ + 18 else if v = q287 then cd_ + 19 else if v = q313 then cd_ + 20 else if v = q341 then cd_ + 21 else w_ v), (fun k => if k = 13 then (fun (_ : Int) => (0 : Int)) else if k = 14 then (fun (_ : Int) => (0 : Int)) else if k = 15 then (fun (_ : Int) => (0 : Int)) else if k = 16 then up (up (up (up (up (up (fun (_ : Int) => (0 : Int)) 0 7) 1 7) 2 7) 3 7) 4 7) 5 7 else if k = 17 then (fun (_ : Int) => (0 : Int)) else if k = 18 then up (up (up (up (up (up (fun (_ : Int) => (0 : Int)) 0 100) 1 0) 2 0) 3 0) 4 20) 5 0 else if k = 19 then (fun (_ : Int) => (0 : Int)) else if k = 20 then (fun (_ : Int) => (0 : Int)) else (fun (_ : Int) => (0 : Int))), rfl, ?_, ?_, hfr⟩
  · intro k hk
    simp only [bKeys, List.mem_cons, List.not_mem_nil, or_false] at hk
    rcases hk with hk | hk | hk | hk | hk | hk | hk | hk | hk | hk | hk | hk | hk | hk | hk <;> subst hk
    · refine ⟨f356, ?_⟩
      show (if y_ = y_ then cd_ + 0 else if y_ = q1 then cd_ + 8 else if y_ = q5 then cd_ + 9 else if y_ = q11 then cd_ + 10 else if y_ = q19 then cd_ + 11 else if y_ = q29 then cd_ + 12 else if y_ = q41 then cd_ + 13 else if y_ = q55 then cd_ + 14 else if y_ = q71 then cd_ + 15 else if y_ = q89 then cd_ + 16 else if y_ = q169 then cd_ + 17 else if y_ = q191 then cd_ + 18 else if y_ = q287 then cd_ + 19 else if y_ = q313 then cd_ + 20 else if y_ = q341 then cd_ + 21 else w_ y_) = cd_ + 0
      rw [if_pos rfl]
    · refine ⟨f370, ?_⟩
      show (if q1 = y_ then cd_ + 0 else if q1 = q1 then cd_ + 8 else if q1 = q5 then cd_ + 9 else if q1 = q11 then cd_ + 10 else if q1 = q19 then cd_ + 11 else if q1 = q29 then cd_ + 12 else if q1 = q41 then cd_ + 13 else if q1 = q55 then cd_ + 14 else if q1 = q71 then cd_ + 15 else if q1 = q89 then cd_ + 16 else if q1 = q169 then cd_ + 17 else if q1 = q191 then cd_ + 18 else if q1 = q287 then cd_ + 19 else if q1 = q313 then cd_ + 20 else if q1 = q341 then cd_ + 21 else w_ q1) = cd_ + 8
      rw [if_neg n_q1_y_, if_pos rfl]
    · refine ⟨f369, ?_⟩
      show (if q5 = y_ then cd_ + 0 else if q5 = q1 then cd_ + 8 else if q5 = q5 then cd_ + 9 else if q5 = q11 then cd_ + 10 else if q5 = q19 then cd_ + 11 else if q5 = q29 then cd_ + 12 else if q5 = q41 then cd_ + 13 else if q5 = q55 then cd_ + 14 else if q5 = q71 then cd_ + 15 else if q5 = q89 then cd_ + 16 else if q5 = q169 then cd_ + 17 else if q5 = q191 then cd_ + 18 else if q5 = q287 then cd_ + 19 else if q5 = q313 then cd_ + 20 else if q5 = q341 then cd_ + 21 else w_ q5) = cd_ + 9
      rw [if_neg n_q5_y_, if_neg n_q5_q1, if_pos rfl]
    · refine ⟨f368, ?_⟩
      show (if q11 = y_ then cd_ + 0 else if q11 = q1 then cd_ + 8 else if q11 = q5 then cd_ + 9 else if q11 = q11 then cd_ + 10 else if q11 = q19 then cd_ + 11 else if q11 = q29 then cd_ + 12 else if q11 = q41 then cd_ + 13 else if q11 = q55 then cd_ + 14 else if q11 = q71 then cd_ + 15 else if q11 = q89 then cd_ + 16 else if q11 = q169 then cd_ + 17 else if q11 = q191 then cd_ + 18 else if q11 = q287 then cd_ + 19 else if q11 = q313 then cd_ + 20 else if q11 = q341 then cd_ + 21 else w_ q11) = cd_ + 10
      rw [if_neg n_q11_y_, if_neg n_q11_q1, if_neg n_q11_q5, if_pos rfl]
    · refine ⟨f367, ?_⟩
      show (if q19 = y_ then cd_ + 0 else if q19 = q1 then cd_ + 8 else if q19 = q5 then cd_ + 9 else if q19 = q11 then cd_ + 10 else if q19 = q19 then cd_ + 11 else if q19 = q29 then cd_ + 12 else if q19 = q41 then cd_ + 13 else if q19 = q55 then cd_ + 14 else if q19 = q71 then cd_ + 15 else if q19 = q89 then cd_ + 16 else if q19 = q169 then cd_ + 17 else if q19 = q191 then cd_ + 18 else if q19 = q287 then cd_ + 19 else if q19 = q313 then cd_ + 20 else if q19 = q341 then cd_ + 21 else w_ q19) = cd_ + 11
      rw [if_neg n_q19_y_, if_neg n_q19_q1, if_neg n_q19_q5, if_neg n_q19_q11, if_pos rfl]
    · refine ⟨f366, ?_⟩
      show (if q29 = y_ then cd_ + 0 else if q29 = q1 then cd_ + 8 else if q29 = q5 then cd_ + 9 else if q29 = q11 then cd_ + 10 else if q29 = q19 then cd_ + 11 else if q29 = q29 then cd_ + 12 else if q29 = q41 then cd_ + 13 else if q29 = q55 then cd_ + 14 else if q29 = q71 then cd_ + 15 else if q29 = q89 then cd_ + 16 else if q29 = q169 then cd_ + 17 else if q29 = q191 then cd_ + 18 else if q29 = q287 then cd_ + 19 else if q29 = q313 then cd_ + 20 else if q29 = q341 then cd_ + 21 else w_ q29) = cd_ + 12
      rw [if_neg n_q29_y_, if_neg n_q29_q1, if_neg n_q29_q5, if_neg n_q29_q11, if_neg n_q29_q19, if_pos rfl]
    · refine ⟨f365, ?_⟩
      show (if q41 = y_ then cd_ + 0 else if q41 = q1 then cd_ + 8 else if q41 = q5 then cd_ + 9 else if q41 = q11 then cd_ + 10 else if q41 = q19 then cd_ + 11 else if q41 = q29 then cd_ + 12 else if q41 = q41 then cd_ + 13 else if q41 = q55 then cd_ + 14 else if q41 = q71 then cd_ + 15 else if q41 = q89 then cd_ + 16 else if q41 = q169 then cd_ + 17 else if q41 = q191 then cd_ + 18 else if q41 = q287 then cd_ + 19 else if q41 = q313 then cd_ + 20 else if q41 = q341 then cd_ + 21 else w_ q41) = cd_ + 13
      rw [if_neg n_q41_y_, if_neg n_q41_q1, if_neg n_q41_q5, if_neg n_q41_q11, if_neg n_q41_q19, if_neg n_q41_q29, if_pos rfl]
    · refine ⟨f364, ?_⟩
      show (if q55 = y_ then cd_ + 0 else if q55 = q1 then cd_ + 8 else if q55 = q5 then cd_ + 9 else if q55 = q11 then cd_ + 10 else if q55 = q19 then cd_ + 11 else if q55 = q29 then cd_ + 12 else if q55 = q41 then cd_ + 13 else if q55 = q55 then cd_ + 14 else if q55 = q71 then cd_ + 15 else if q55 = q89 then cd_ + 16 else if q55 = q169 then cd_ + 17 else if q55 = q191 then cd_ + 18 else if q55 = q287 then cd_ + 19 else if q55 = q313 then cd_ + 20 else if q55 = q341 then cd_ + 21 else w_ q55) = cd_ + 14
      rw [if_neg n_q55_y_, if_neg n_q55_q1, if_neg n_q55_q5, if_neg n_q55_q11, if_neg n_q55_q19, if_neg n_q55_q29, if_neg n_q55_q41, if_pos rfl]
    · refine ⟨f363, ?_⟩
      show (if q71 = y_ then cd_ + 0 else if q71 = q1 then cd_ + 8 else if q71 = q5 then cd_ + 9 else if q71 = q11 then cd_ + 10 else if q71 = q19 then cd_ + 11 else if q71 = q29 then cd_ + 12 else if q71 = q41 then cd_ + 13 else if q71 = q55 then cd_ + 14 else if q71 = q71 then cd_ + 15 else if q71 = q89 then cd_ + 16 else if q71 = q169 then cd_ + 17 else if q71 = q191 then cd_ + 18 else if q71 = q287 then cd_ + 19 else if q71 = q313 then cd_ + 20 else if q71 = q341 then cd_ + 21 else w_ q71) = cd_ + 15
      rw [if_neg n_q71_y_, if_neg n_q71_q1, if_neg n_q71_q5, if_neg n_q71_q11, if_neg n_q71_q19, if_neg n_q71_q29, if_neg n_q71_q41, if_neg n_q71_q55, if_pos rfl]
    · refine ⟨f362, ?_⟩
      show (if q89 = y_ then cd_ + 0 else if q89 = q1 then cd_ + 8 else if q89 = q5 then cd_ + 9 else if q89 = q11 then cd_ + 10 else if q89 = q19 then cd_ + 11 else if q89 = q29 then cd_ + 12 else if q89 = q41 then cd_ + 13 else if q89 = q55 then cd_ + 14 else if q89 = q71 then cd_ + 15 else if q89 = q89 then cd_ + 16 else if q89 = q169 then cd_ + 17 else if q89 = q191 then cd_ + 18 else if q89 = q287 then cd_ + 19 else if q89 = q313 then cd_ + 20 else if q89 = q341 then cd_ + 21 else w_ q89) = cd_ + 16
      rw [if_neg n_q89_y_, if_neg n_q89_q1, if_neg n_q89_q5, if_neg n_q89_q11, if_neg n_q89_q19, if_neg n_q89_q29, if_neg n_q89_q41, if_neg n_q89_q55, if_neg n_q89_q71, if_pos rfl]
    · refine ⟨f361, ?_⟩
      show (if q169 = y_ then cd_ + 0 else if q169 = q1 then cd_ + 8 else if q169 = q5 then cd_ + 9 else if q169 = q11 then cd_ + 10 else if q169 = q19 then cd_ + 11 else if q169 = q29 then cd_ + 12 else if q169 = q41 then cd_ + 13 else if q169 = q55 then cd_ + 14 else if q169 = q71 then cd_ + 15 else if q169 = q89 then cd_ + 16 else if q169 = q169 then cd_ + 17 else if q169 = q191 then cd_ + 18 else if q169 = q287 then cd_ + 19 else if q169 = q313 then cd_ + 20 else if q169 = q341 then cd_ + 21 else w_ q169) = cd_ + 17
      rw [if_neg n_q169_y_, if_neg n_q169_q1, if_neg n_q169_q5, if_neg n_q169_q11, if_neg n_q169_q19, if_neg n_q169_q29, if_neg n_q169_q41, if_neg n_q169_q55, if_neg n_q169_q71, if_neg n_q169_q89, if_pos rfl]
    · refine ⟨f360, ?_⟩
      show (if q191 = y_ then cd_ + 0 else if q191 = q1 then cd_ + 8 else if q191 = q5 then cd_ + 9 else if q191 = q11 then cd_ + 10 else if q191 = q19 then cd_ + 11 else if q191 = q29 then cd_ + 12 else if q191 = q41 then cd_ + 13 else if q191 = q55 then cd_ + 14 else if q191 = q71 then cd_ + 15 else if q191 = q89 then cd_ + 16 else if q191 = q169 then cd_ + 17 else if q191 = q191 then cd_ + 18 else if q191 = q287 then cd_ + 19 else if q191 = q313 then cd_ + 20 else if q191 = q341 then cd_ + 21 else w_ q191) = cd_ + 18
      rw [if_neg n_q191_y_, if_neg n_q191_q1, if_neg n_q191_q5, if_neg n_q191_q11, if_neg n_q191_q19, if_neg n_q191_q29, if_neg n_q191_q41, if_neg n_q191_q55, if_neg n_q191_q71, if_neg n_q191_q89, if_neg n_q191_q169, if_pos rfl]
    · refine ⟨f359, ?_⟩
      show (if q287 = y_ then cd_ + 0 else if q287 = q1 then cd_ + 8 else if q287 = q5 then cd_ + 9 else if q287 = q11 then cd_ + 10 else if q287 = q19 then cd_ + 11 else if q287 = q29 then cd_ + 12 else if q287 = q41 then cd_ + 13 else if q287 = q55 then cd_ + 14 else if q287 = q71 then cd_ + 15 else if q287 = q89 then cd_ + 16 else if q287 = q169 then cd_ + 17 else if q287 = q191 then cd_ + 18 else if q287 = q287 then cd_ + 19 else if q287 = q313 then cd_ + 20 else if q287 = q341 then cd_ + 21 else w_ q287) = cd_ + 19
      rw [if_neg n_q287_y_, if_neg n_q287_q1, if_neg n_q287_q5, if_neg n_q287_q11, if_neg n_q287_q19, if_neg n_q287_q29, if_neg n_q287_q41, if_neg n_q287_q55, if_neg n_q287_q71, if_neg n_q287_q89, if_neg n_q287_q169, if_neg n_q287_q191, if_pos rfl]
    · refine ⟨f358, ?_⟩
      show (if q313 = y_ then cd_ + 0 else if q313 = q1 then cd_ + 8 else if q313 = q5 then cd_ + 9 else if q313 = q11 then cd_ + 10 else if q313 = q19 then cd_ + 11 else if q313 = q29 then cd_ + 12 else if q313 = q41 then cd_ + 13 else if q313 = q55 then cd_ + 14 else if q313 = q71 then cd_ + 15 else if q313 = q89 then cd_ + 16 else if q313 = q169 then cd_ + 17 else if q313 = q191 then cd_ + 18 else if q313 = q287 then cd_ + 19 else if q313 = q313 then cd_ + 20 else if q313 = q341 then cd_ + 21 else w_ q313) = cd_ + 20
      rw [if_neg n_q313_y_, if_neg n_q313_q1, if_neg n_q313_q5, if_neg n_q313_q11, if_neg n_q313_q19, if_neg n_q313_q29, if_neg n_q313_q41, if_neg n_q313_q55, if_neg n_q313_q71, if_neg n_q313_q89, if_neg n_q313_q169, if_neg n_q313_q191, if_neg n_q313_q287, if_pos rfl]
    · refine ⟨f357, ?_⟩
      show (if q341 = y_ then cd_ + 0 else if q341 = q1 then cd_ + 8 else if q341 = q5 then cd_ + 9 else if q341 = q11 then cd_ + 10 else if q341 = q19 then cd_ + 11 else if q341 = q29 then cd_ + 12 else if q341 = q41 then cd_ + 13 else if q341 = q55 then cd_ + 14 else if q341 = q71 then cd_ + 15 else if q341 = q89 then cd_ + 16 else if q341 = q169 then cd_ + 17 else if q341 = q191 then cd_ + 18 else if q341 = q287 then cd_ + 19 else if q341 = q313 then cd_ + 20 else if q341 = q341 then cd_ + 21 else w_ q341) = cd_ + 21
      rw [if_neg n_q341_y_, if_neg n_q341_q1, if_neg n_q341_q5, if_neg n_q341_q11, if_neg n_q341_q19, if_neg n_q341_q29, if_neg n_q341_q41, if_neg n_q341_q55, if_neg n_q341_q71, if_neg n_q341_q89, if_neg n_q341_q169, if_neg n_q341_q191, if_neg n_q341_q287, if_neg n_q341_q313, if_pos rfl]
  · exact ⟨fun i i0 i1 => ⟨k0_13 i0 i1, k0_14 i0 i1⟩, fun i i0 i1 => ⟨k0_15 i0 i1, k0_16 i0 i1, k0_17 i0 i1, k0_18 i0 i1⟩, fun i i0 i1 => k0_19 i0 i1, fun i i0 i1 => k0_20 i0 i1, fun i i0 i1 => k0_21 i0 i1⟩
