theorem hsn {M : Hp} {a q : Nat} {e : va_E} (h : hs M a e q = none) : M q = none ∧ q ≠ a := by
  by_cases z : q = a
  · rw [z, hs_s] at h
    cases h
  · rw [hs_n z] at h
    exact ⟨h, z⟩
theorem hs3_of {M M' : Hp} {y g1 g2 : Nat} {c z1 z2 : va_E} (f0 : M' y = some c) (f1 : M' g1 = some z1) (f2 : M' g2 = some z2) (hf : ∀ z, z ≠ y → z ≠ g1 → z ≠ g2 → M' z = M z) : M' = hs (hs (hs M g1 z1) g2 z2) y c := by
  funext z
  by_cases h0 : z = y
  · subst h0; rw [f0, hs_s]
  · rw [hs_n h0]
    by_cases h2 : z = g2
    · subst h2; rw [f2, hs_s]
    · rw [hs_n h2]
      by_cases h1 : z = g1
      · subst h1; rw [f1, hs_s]
      · rw [hs_n h1]
        exact hf z h0 h1 h2
theorem kd_X6_init : yX6_init.cls = RX6 ∧ yX6_init.cls ≠ "java/lang/invoke/MethodHandle" ∧ yX6_init.cls ≠ "java/lang/invoke/VarHandle" ∧ (parseMethodDescriptor yX6_init.desc).map (fun d => d.parameters.length) = some 5 := by decide +kernel
theorem xm_X6_init (l : Launch) (G : MG) (M : Hp) (ci : Nat) (y_ : Nat) (b1 : Int) (b2 : Int) (b3 : Int) (b4 : Int) (b5 : Int) (sz : Nat) (hci : ci = 6 ∨ ci = 7 ∨ ci = 8) (g1 : M y_ = some (oB ci [.int (iI 0), .int (iI 0), .int (iI 0), .int (iI 0), .int (iI 0), .int (iI 0), .int (iI 0), .int (iI 0), .int (iI 0), .int (iI 0), .int (iI 0), .int (iI 0), .int (iI 0), .int (iI 0), .int (iI 0), .int (iI 0), .int (iI 0), .null, .null])) : Met l yX6_init (ws_ yX6_init cX6_init 6 none) (rmX 2 2 8) (xP G XN [.ref y_, .int (iI b1), .int (iI b2), .int (iI b3), .int (iI b4), .int (iI b5)] M sz) (xQv G (DA M sz) (fun M' => ∃ g1 g2, M g1 = none ∧ M g2 = none ∧ g1 ≠ g2 ∧ M' = hs (hs (hs M g1 (aI (G.2.1 0) 4 (fun _ => 0))) g2 (aI (G.2.1 0) 4 (fun _ => 0))) y_ (oB ci [.int (iI b1), .int (iI b2), .int (iI b4), .int (iI b5), .int (iI b3), .int (iI 0), .int (iI 0), .int (iI b5), .int (iI (-1)), .int (iI 0), .int (iI 0), .int (iI (-1)), .int (iI (-1)), .int (iI (-1)), .int (iI 0), .int (iI 0), .int (iI 0), .ref g1, .ref g2]))) 2 8 (DA M sz) := by
  refine x_start (by decide) (Nat.le_of_ble_eq_true rfl) ?_
  intro p e s m below meth c ⟨S, hr, hlk, hH, hK, hXN, hsz, hnm⟩ ls hl
  subst hsz
  obtain ⟨hx, hb, hml, hown, hts⟩ := S
  have S : CallFix p m c _ _ s _ lw_all RX6 := ⟨hx, hb, hml, hown, hts⟩
  have hA : ∀ q, s.heap.size ≤ q → DA M s.heap.size q := fun q hq => Or.inr hq
  have hl : lv_has ls 6 [(0, .ref y_), (1, .int (iI b1)), (2, .int (iI b2)), (3, .int (iI b3)), (4, .int (iI b4)), (5, .int (iI b5))] := hl
  refine lv_aload_n hx hb dX6_init_0 rfl (lv_at hl 0 rfl) ?_
  refine W.objInit hx hb hown (hts _ q475) (hts _ q143) (hts _ q144) rfl (by rw [hml]; exact hl.1) rfl dX6_init_1 (Nat.le_of_ble_eq_true rfl) (Nat.le_of_ble_eq_true rfl) ?_
  refine lv_aload_n hx hb dX6_init_4 rfl (lv_at hl 0 rfl) ?_
  refine n_iconst hx hb dX6_init_5 ?_
  refine x_putFl (ty := .int) hx hb hts hown hK hH g1 hci 8 (by decide) q519 rfl rfl rfl rfl (by decide +kernel) rfl rfl (Nat.le_of_ble_eq_true rfl) dX6_init_6 (fun H locs hH => ?_)
  obtain ⟨M1, e_M1⟩ : ∃ M1, M1 = hs M y_ (oB ci [.int (iI 0), .int (iI 0), .int (iI 0), .int (iI 0), .int (iI 0), .int (iI 0), .int (iI 0), .int (iI 0), .int (iI (-1)), .int (iI 0), .int (iI 0), .int (iI 0), .int (iI 0), .int (iI 0), .int (iI 0), .int (iI 0), .int (iI 0), .null, .null]) := ⟨_, rfl⟩
  have hH := XV_to hH e_M1.symm
  have f1 : M1 y_ = some (oB ci [.int (iI 0), .int (iI 0), .int (iI 0), .int (iI 0), .int (iI 0), .int (iI 0), .int (iI 0), .int (iI 0), .int (iI (-1)), .int (iI 0), .int (iI 0), .int (iI 0), .int (iI 0), .int (iI 0), .int (iI 0), .int (iI 0), .int (iI 0), .null, .null]) := by rw [e_M1]; exact hs_s
  refine lv_aload_n hx hb dX6_init_9 rfl (lv_at hl 0 rfl) ?_
  refine n_iconst hx hb dX6_init_10 ?_
  refine x_putFl (ty := .int) hx hb hts hown hK hH f1 hci 11 (by decide) q526 rfl rfl rfl rfl (by decide +kernel) rfl rfl (Nat.le_of_ble_eq_true rfl) dX6_init_11 (fun H locs hH => ?_)
  obtain ⟨M2, e_M2⟩ : ∃ M2, M2 = hs M1 y_ (oB ci [.int (iI 0), .int (iI 0), .int (iI 0), .int (iI 0), .int (iI 0), .int (iI 0), .int (iI 0), .int (iI 0), .int (iI (-1)), .int (iI 0), .int (iI 0), .int (iI (-1)), .int (iI 0), .int (iI 0), .int (iI 0), .int (iI 0), .int (iI 0), .null, .null]) := ⟨_, rfl⟩
  have hH := XV_to hH e_M2.symm
  have f2 : M2 y_ = some (oB ci [.int (iI 0), .int (iI 0), .int (iI 0), .int (iI 0), .int (iI 0), .int (iI 0), .int (iI 0), .int (iI 0), .int (iI (-1)), .int (iI 0), .int (iI 0), .int (iI (-1)), .int (iI 0), .int (iI 0), .int (iI 0), .int (iI 0), .int (iI 0), .null, .null]) := by rw [e_M2]; exact hs_s
  refine lv_aload_n hx hb dX6_init_14 rfl (lv_at hl 0 rfl) ?_
  refine n_iconst hx hb dX6_init_15 ?_
  refine x_putFl (ty := .int) hx hb hts hown hK hH f2 hci 12 (by decide) q529 rfl rfl rfl rfl (by decide +kernel) rfl rfl (Nat.le_of_ble_eq_true rfl) dX6_init_16 (fun H locs hH => ?_)
  obtain ⟨M3, e_M3⟩ : ∃ M3, M3 = hs M2 y_ (oB ci [.int (iI 0), .int (iI 0), .int (iI 0), .int (iI 0), .int (iI 0), .int (iI 0), .int (iI 0), .int (iI 0), .int (iI (-1)), .int (iI 0), .int (iI 0), .int (iI (-1)), .int (iI (-1)), .int (iI 0), .int (iI 0), .int (iI 0), .int (iI 0), .null, .null]) := ⟨_, rfl⟩
  have hH := XV_to hH e_M3.symm
  have f3 : M3 y_ = some (oB ci [.int (iI 0), .int (iI 0), .int (iI 0), .int (iI 0), .int (iI 0), .int (iI 0), .int (iI 0), .int (iI 0), .int (iI (-1)), .int (iI 0), .int (iI 0), .int (iI (-1)), .int (iI (-1)), .int (iI 0), .int (iI 0), .int (iI 0), .int (iI 0), .null, .null]) := by rw [e_M3]; exact hs_s
  refine lv_aload_n hx hb dX6_init_19 rfl (lv_at hl 0 rfl) ?_
  refine n_iconst hx hb dX6_init_20 ?_
  refine x_putFl (ty := .int) hx hb hts hown hK hH f3 hci 13 (by decide) q532 rfl rfl rfl rfl (by decide +kernel) rfl rfl (Nat.le_of_ble_eq_true rfl) dX6_init_21 (fun H locs hH => ?_)
  obtain ⟨M4, e_M4⟩ : ∃ M4, M4 = hs M3 y_ (oB ci [.int (iI 0), .int (iI 0), .int (iI 0), .int (iI 0), .int (iI 0), .int (iI 0), .int (iI 0), .int (iI 0), .int (iI (-1)), .int (iI 0), .int (iI 0), .int (iI (-1)), .int (iI (-1)), .int (iI (-1)), .int (iI 0), .int (iI 0), .int (iI 0), .null, .null]) := ⟨_, rfl⟩
  have hH := XV_to hH e_M4.symm
  have f4 : M4 y_ = some (oB ci [.int (iI 0), .int (iI 0), .int (iI 0), .int (iI 0), .int (iI 0), .int (iI 0), .int (iI 0), .int (iI 0), .int (iI (-1)), .int (iI 0), .int (iI 0), .int (iI (-1)), .int (iI (-1)), .int (iI (-1)), .int (iI 0), .int (iI 0), .int (iI 0), .null, .null]) := by rw [e_M4]; exact hs_s
  refine lv_aload_n hx hb dX6_init_24 rfl (lv_at hl 0 rfl) ?_
  refine n_iconst hx hb dX6_init_25 ?_
  refine x_newa (atype := .int) 0 (4, .inl (fun (j : Nat) => iI ((fun (_ : Int) => (0 : Int)) (j : Int)))) hx hb hts rfl q250 hK hH hA rfl (fun _ => rfl) (by decide) (by decide) (by decide) (Nat.le_of_ble_eq_true rfl) (Nat.le_of_ble_eq_true rfl) dX6_init_26 (fun q5 H hq5 hH => ?_)
  obtain ⟨M5, e_M5⟩ : ∃ M5, M5 = hs M4 q5 (aI (G.2.1 0) 4 (fun (_ : Int) => (0 : Int))) := ⟨_, rfl⟩
  have hH := XV_to hH e_M5.symm
  have f5 : M5 q5 = some (aI (G.2.1 0) 4 (fun (_ : Int) => (0 : Int))) := by rw [e_M5]; exact hs_s
  have f6 : M5 y_ = some (oB ci [.int (iI 0), .int (iI 0), .int (iI 0), .int (iI 0), .int (iI 0), .int (iI 0), .int (iI 0), .int (iI 0), .int (iI (-1)), .int (iI 0), .int (iI 0), .int (iI (-1)), .int (iI (-1)), .int (iI (-1)), .int (iI 0), .int (iI 0), .int (iI 0), .null, .null]) := by rw [e_M5]; exact (hs_n (fun z => by have h9 := f4; rw [z, hq5] at h9; cases h9)).trans f4
  refine x_putFlF (ty := (.array .int)) hx hb hts hown hK hH f6 hci 17 (by decide) q543 rfl rfl rfl rfl hnm rfl (by decide +kernel) rfl rfl (Nat.le_of_ble_eq_true rfl) dX6_init_28 (fun H locs hH => ?_)
  obtain ⟨M7, e_M7⟩ : ∃ M7, M7 = hs M5 y_ (oB ci [.int (iI 0), .int (iI 0), .int (iI 0), .int (iI 0), .int (iI 0), .int (iI 0), .int (iI 0), .int (iI 0), .int (iI (-1)), .int (iI 0), .int (iI 0), .int (iI (-1)), .int (iI (-1)), .int (iI (-1)), .int (iI 0), .int (iI 0), .int (iI 0), .ref q5, .null]) := ⟨_, rfl⟩
  have hH := XV_to hH e_M7.symm
  have f7 : M7 y_ = some (oB ci [.int (iI 0), .int (iI 0), .int (iI 0), .int (iI 0), .int (iI 0), .int (iI 0), .int (iI 0), .int (iI 0), .int (iI (-1)), .int (iI 0), .int (iI 0), .int (iI (-1)), .int (iI (-1)), .int (iI (-1)), .int (iI 0), .int (iI 0), .int (iI 0), .ref q5, .null]) := by rw [e_M7]; exact hs_s
  have f8 : M7 q5 = some (aI (G.2.1 0) 4 (fun (_ : Int) => (0 : Int))) := by rw [e_M7]; exact (hs_n (ne_ao f5 f6)).trans f5
  refine lv_aload_n hx hb dX6_init_31 rfl (lv_at hl 0 rfl) ?_
  refine n_iconst hx hb dX6_init_32 ?_
  refine x_newa (atype := .int) 0 (4, .inl (fun (j : Nat) => iI ((fun (_ : Int) => (0 : Int)) (j : Int)))) hx hb hts rfl q250 hK hH hA rfl (fun _ => rfl) (by decide) (by decide) (by decide) (Nat.le_of_ble_eq_true rfl) (Nat.le_of_ble_eq_true rfl) dX6_init_33 (fun q9 H hq9 hH => ?_)
  obtain ⟨M9, e_M9⟩ : ∃ M9, M9 = hs M7 q9 (aI (G.2.1 0) 4 (fun (_ : Int) => (0 : Int))) := ⟨_, rfl⟩
  have hH := XV_to hH e_M9.symm
  have f9 : M9 q9 = some (aI (G.2.1 0) 4 (fun (_ : Int) => (0 : Int))) := by rw [e_M9]; exact hs_s
  have f10 : M9 y_ = some (oB ci [.int (iI 0), .int (iI 0), .int (iI 0), .int (iI 0), .int (iI 0), .int (iI 0), .int (iI 0), .int (iI 0), .int (iI (-1)), .int (iI 0), .int (iI 0), .int (iI (-1)), .int (iI (-1)), .int (iI (-1)), .int (iI 0), .int (iI 0), .int (iI 0), .ref q5, .null]) := by rw [e_M9]; exact (hs_n (fun z => by have h9 := f7; rw [z, hq9] at h9; cases h9)).trans f7
  have f11 : M9 q5 = some (aI (G.2.1 0) 4 (fun (_ : Int) => (0 : Int))) := by rw [e_M9]; exact (hs_n (fun z => by have h9 := f8; rw [z, hq9] at h9; cases h9)).trans f8
  refine x_putFlF (ty := (.array .int)) hx hb hts hown hK hH f10 hci 18 (by decide) q545 rfl rfl rfl rfl hnm rfl (by decide +kernel) rfl rfl (Nat.le_of_ble_eq_true rfl) dX6_init_35 (fun H locs hH => ?_)
  obtain ⟨M12, e_M12⟩ : ∃ M12, M12 = hs M9 y_ (oB ci [.int (iI 0), .int (iI 0), .int (iI 0), .int (iI 0), .int (iI 0), .int (iI 0), .int (iI 0), .int (iI 0), .int (iI (-1)), .int (iI 0), .int (iI 0), .int (iI (-1)), .int (iI (-1)), .int (iI (-1)), .int (iI 0), .int (iI 0), .int (iI 0), .ref q5, .ref q9]) := ⟨_, rfl⟩
  have hH := XV_to hH e_M12.symm
  have f12 : M12 y_ = some (oB ci [.int (iI 0), .int (iI 0), .int (iI 0), .int (iI 0), .int (iI 0), .int (iI 0), .int (iI 0), .int (iI 0), .int (iI (-1)), .int (iI 0), .int (iI 0), .int (iI (-1)), .int (iI (-1)), .int (iI (-1)), .int (iI 0), .int (iI 0), .int (iI 0), .ref q5, .ref q9]) := by rw [e_M12]; exact hs_s
  have f13 : M12 q9 = some (aI (G.2.1 0) 4 (fun (_ : Int) => (0 : Int))) := by rw [e_M12]; exact (hs_n (ne_ao f9 f10)).trans f9
  have f14 : M12 q5 = some (aI (G.2.1 0) 4 (fun (_ : Int) => (0 : Int))) := by rw [e_M12]; exact (hs_n (ne_ao f11 f10)).trans f11
  refine lv_aload_n hx hb dX6_init_38 rfl (lv_at hl 0 rfl) ?_
  refine lv_iload_n hx hb dX6_init_39 rfl (lv_at hl 1 rfl) ?_
  refine x_putFlF (ty := .int) hx hb hts hown hK hH f12 hci 0 (by decide) q476 rfl rfl rfl rfl hnm rfl (by decide +kernel) rfl rfl (Nat.le_of_ble_eq_true rfl) dX6_init_40 (fun H locs hH => ?_)
  obtain ⟨M15, e_M15⟩ : ∃ M15, M15 = hs M12 y_ (oB ci [.int (iI b1), .int (iI 0), .int (iI 0), .int (iI 0), .int (iI 0), .int (iI 0), .int (iI 0), .int (iI 0), .int (iI (-1)), .int (iI 0), .int (iI 0), .int (iI (-1)), .int (iI (-1)), .int (iI (-1)), .int (iI 0), .int (iI 0), .int (iI 0), .ref q5, .ref q9]) := ⟨_, rfl⟩
  have hH := XV_to hH e_M15.symm
  have f15 : M15 y_ = some (oB ci [.int (iI b1), .int (iI 0), .int (iI 0), .int (iI 0), .int (iI 0), .int (iI 0), .int (iI 0), .int (iI 0), .int (iI (-1)), .int (iI 0), .int (iI 0), .int (iI (-1)), .int (iI (-1)), .int (iI (-1)), .int (iI 0), .int (iI 0), .int (iI 0), .ref q5, .ref q9]) := by rw [e_M15]; exact hs_s
  have f16 : M15 q9 = some (aI (G.2.1 0) 4 (fun (_ : Int) => (0 : Int))) := by rw [e_M15]; exact (hs_n (ne_ao f13 f12)).trans f13
  have f17 : M15 q5 = some (aI (G.2.1 0) 4 (fun (_ : Int) => (0 : Int))) := by rw [e_M15]; exact (hs_n (ne_ao f14 f12)).trans f14
  refine lv_aload_n hx hb dX6_init_43 rfl (lv_at hl 0 rfl) ?_
  refine lv_iload_n hx hb dX6_init_44 rfl (lv_at hl 2 rfl) ?_
  refine x_putFlF (ty := .int) hx hb hts hown hK hH f15 hci 1 (by decide) q484 rfl rfl rfl rfl hnm rfl (by decide +kernel) rfl rfl (Nat.le_of_ble_eq_true rfl) dX6_init_45 (fun H locs hH => ?_)
  obtain ⟨M18, e_M18⟩ : ∃ M18, M18 = hs M15 y_ (oB ci [.int (iI b1), .int (iI b2), .int (iI 0), .int (iI 0), .int (iI 0), .int (iI 0), .int (iI 0), .int (iI 0), .int (iI (-1)), .int (iI 0), .int (iI 0), .int (iI (-1)), .int (iI (-1)), .int (iI (-1)), .int (iI 0), .int (iI 0), .int (iI 0), .ref q5, .ref q9]) := ⟨_, rfl⟩
  have hH := XV_to hH e_M18.symm
  have f18 : M18 y_ = some (oB ci [.int (iI b1), .int (iI b2), .int (iI 0), .int (iI 0), .int (iI 0), .int (iI 0), .int (iI 0), .int (iI 0), .int (iI (-1)), .int (iI 0), .int (iI 0), .int (iI (-1)), .int (iI (-1)), .int (iI (-1)), .int (iI 0), .int (iI 0), .int (iI 0), .ref q5, .ref q9]) := by rw [e_M18]; exact hs_s
  have f19 : M18 q9 = some (aI (G.2.1 0) 4 (fun (_ : Int) => (0 : Int))) := by rw [e_M18]; exact (hs_n (ne_ao f16 f15)).trans f16
  have f20 : M18 q5 = some (aI (G.2.1 0) 4 (fun (_ : Int) => (0 : Int))) := by rw [e_M18]; exact (hs_n (ne_ao f17 f15)).trans f17
  refine lv_aload_n hx hb dX6_init_48 rfl (lv_at hl 0 rfl) ?_
  refine lv_iload_n hx hb dX6_init_49 rfl (lv_at hl 3 rfl) ?_
  refine x_putFl (ty := .int) hx hb hts hown hK hH f18 hci 4 (by decide) q507 rfl rfl rfl rfl (by decide +kernel) rfl rfl (Nat.le_of_ble_eq_true rfl) dX6_init_50 (fun H locs hH => ?_)
  obtain ⟨M21, e_M21⟩ : ∃ M21, M21 = hs M18 y_ (oB ci [.int (iI b1), .int (iI b2), .int (iI 0), .int (iI 0), .int (iI b3), .int (iI 0), .int (iI 0), .int (iI 0), .int (iI (-1)), .int (iI 0), .int (iI 0), .int (iI (-1)), .int (iI (-1)), .int (iI (-1)), .int (iI 0), .int (iI 0), .int (iI 0), .ref q5, .ref q9]) := ⟨_, rfl⟩
  have hH := XV_to hH e_M21.symm
  have f21 : M21 y_ = some (oB ci [.int (iI b1), .int (iI b2), .int (iI 0), .int (iI 0), .int (iI b3), .int (iI 0), .int (iI 0), .int (iI 0), .int (iI (-1)), .int (iI 0), .int (iI 0), .int (iI (-1)), .int (iI (-1)), .int (iI (-1)), .int (iI 0), .int (iI 0), .int (iI 0), .ref q5, .ref q9]) := by rw [e_M21]; exact hs_s
  have f22 : M21 q9 = some (aI (G.2.1 0) 4 (fun (_ : Int) => (0 : Int))) := by rw [e_M21]; exact (hs_n (ne_ao f19 f18)).trans f19
  have f23 : M21 q5 = some (aI (G.2.1 0) 4 (fun (_ : Int) => (0 : Int))) := by rw [e_M21]; exact (hs_n (ne_ao f20 f18)).trans f20
  refine lv_aload_n hx hb dX6_init_53 rfl (lv_at hl 0 rfl) ?_
  refine lv_iload hx hb dX6_init_54 (lv_at hl 4 rfl) ?_
  refine x_putFlF (ty := .int) hx hb hts hown hK hH f21 hci 2 (by decide) q491 rfl rfl rfl rfl hnm rfl (by decide +kernel) rfl rfl (Nat.le_of_ble_eq_true rfl) dX6_init_56 (fun H locs hH => ?_)
  obtain ⟨M24, e_M24⟩ : ∃ M24, M24 = hs M21 y_ (oB ci [.int (iI b1), .int (iI b2), .int (iI b4), .int (iI 0), .int (iI b3), .int (iI 0), .int (iI 0), .int (iI 0), .int (iI (-1)), .int (iI 0), .int (iI 0), .int (iI (-1)), .int (iI (-1)), .int (iI (-1)), .int (iI 0), .int (iI 0), .int (iI 0), .ref q5, .ref q9]) := ⟨_, rfl⟩
  have hH := XV_to hH e_M24.symm
  have f24 : M24 y_ = some (oB ci [.int (iI b1), .int (iI b2), .int (iI b4), .int (iI 0), .int (iI b3), .int (iI 0), .int (iI 0), .int (iI 0), .int (iI (-1)), .int (iI 0), .int (iI 0), .int (iI (-1)), .int (iI (-1)), .int (iI (-1)), .int (iI 0), .int (iI 0), .int (iI 0), .ref q5, .ref q9]) := by rw [e_M24]; exact hs_s
  have f25 : M24 q9 = some (aI (G.2.1 0) 4 (fun (_ : Int) => (0 : Int))) := by rw [e_M24]; exact (hs_n (ne_ao f22 f21)).trans f22
  have f26 : M24 q5 = some (aI (G.2.1 0) 4 (fun (_ : Int) => (0 : Int))) := by rw [e_M24]; exact (hs_n (ne_ao f23 f21)).trans f23
  refine lv_aload_n hx hb dX6_init_59 rfl (lv_at hl 0 rfl) ?_
  refine lv_iload hx hb dX6_init_60 (lv_at hl 5 rfl) ?_
  refine x_putFlF (ty := .int) hx hb hts hown hK hH f24 hci 3 (by decide) q499 rfl rfl rfl rfl hnm rfl (by decide +kernel) rfl rfl (Nat.le_of_ble_eq_true rfl) dX6_init_62 (fun H locs hH => ?_)
  obtain ⟨M27, e_M27⟩ : ∃ M27, M27 = hs M24 y_ (oB ci [.int (iI b1), .int (iI b2), .int (iI b4), .int (iI b5), .int (iI b3), .int (iI 0), .int (iI 0), .int (iI 0), .int (iI (-1)), .int (iI 0), .int (iI 0), .int (iI (-1)), .int (iI (-1)), .int (iI (-1)), .int (iI 0), .int (iI 0), .int (iI 0), .ref q5, .ref q9]) := ⟨_, rfl⟩
  have hH := XV_to hH e_M27.symm
  have f27 : M27 y_ = some (oB ci [.int (iI b1), .int (iI b2), .int (iI b4), .int (iI b5), .int (iI b3), .int (iI 0), .int (iI 0), .int (iI 0), .int (iI (-1)), .int (iI 0), .int (iI 0), .int (iI (-1)), .int (iI (-1)), .int (iI (-1)), .int (iI 0), .int (iI 0), .int (iI 0), .ref q5, .ref q9]) := by rw [e_M27]; exact hs_s
  have f28 : M27 q9 = some (aI (G.2.1 0) 4 (fun (_ : Int) => (0 : Int))) := by rw [e_M27]; exact (hs_n (ne_ao f25 f24)).trans f25
  have f29 : M27 q5 = some (aI (G.2.1 0) 4 (fun (_ : Int) => (0 : Int))) := by rw [e_M27]; exact (hs_n (ne_ao f26 f24)).trans f26
  refine lv_aload_n hx hb dX6_init_65 rfl (lv_at hl 0 rfl) ?_
  refine lv_iload hx hb dX6_init_66 (lv_at hl 5 rfl) ?_
  refine x_putFl (ty := .int) hx hb hts hown hK hH f27 hci 7 (by decide) q518 rfl rfl rfl rfl (by decide +kernel) rfl rfl (Nat.le_of_ble_eq_true rfl) dX6_init_68 (fun H locs hH => ?_)
  obtain ⟨M30, e_M30⟩ : ∃ M30, M30 = hs M27 y_ (oB ci [.int (iI b1), .int (iI b2), .int (iI b4), .int (iI b5), .int (iI b3), .int (iI 0), .int (iI 0), .int (iI b5), .int (iI (-1)), .int (iI 0), .int (iI 0), .int (iI (-1)), .int (iI (-1)), .int (iI (-1)), .int (iI 0), .int (iI 0), .int (iI 0), .ref q5, .ref q9]) := ⟨_, rfl⟩
  have hH := XV_to hH e_M30.symm
  have f30 : M30 y_ = some (oB ci [.int (iI b1), .int (iI b2), .int (iI b4), .int (iI b5), .int (iI b3), .int (iI 0), .int (iI 0), .int (iI b5), .int (iI (-1)), .int (iI 0), .int (iI 0), .int (iI (-1)), .int (iI (-1)), .int (iI (-1)), .int (iI 0), .int (iI 0), .int (iI 0), .ref q5, .ref q9]) := by rw [e_M30]; exact hs_s
  have f31 : M30 q9 = some (aI (G.2.1 0) 4 (fun (_ : Int) => (0 : Int))) := by rw [e_M30]; exact (hs_n (ne_ao f28 f27)).trans f28
  have f32 : M30 q5 = some (aI (G.2.1 0) 4 (fun (_ : Int) => (0 : Int))) := by rw [e_M30]; exact (hs_n (ne_ao f29 f27)).trans f29
  refine W.widen (k := 2) (n := 8) (Nat.le_of_ble_eq_true rfl) (Nat.le_of_ble_eq_true rfl) ?_
  refine x_vret hx hb hr hlk hH dX6_init_71 ?_
  have t_q5 := hq5
  rw [e_M4] at t_q5
  obtain ⟨t_q5, n_q5_y_⟩ := hsn t_q5
  rw [e_M3] at t_q5
  obtain ⟨t_q5, n_q5_y_⟩ := hsn t_q5
  rw [e_M2] at t_q5
  obtain ⟨t_q5, n_q5_y_⟩ := hsn t_q5
  rw [e_M1] at t_q5
  obtain ⟨t_q5, n_q5_y_⟩ := hsn t_q5
  have t_q9 := hq9
  rw [e_M7] at t_q9
  obtain ⟨t_q9, n_q9_y_⟩ := hsn t_q9
  rw [e_M5] at t_q9
  obtain ⟨t_q9, n_q9_q5⟩ := hsn t_q9
  rw [e_M4] at t_q9
  obtain ⟨t_q9, n_q9_y_⟩ := hsn t_q9
  rw [e_M3] at t_q9
  obtain ⟨t_q9, n_q9_y_⟩ := hsn t_q9
  rw [e_M2] at t_q9
  obtain ⟨t_q9, n_q9_y_⟩ := hsn t_q9
  rw [e_M1] at t_q9
  obtain ⟨t_q9, n_q9_y_⟩ := hsn t_q9
  have hfr : ∀ z, z ≠ y_ → z ≠ q5 → z ≠ q9 → M30 z = M z := fun z z0 z1 z2 => by rw [e_M30, hs_n z0, e_M27, hs_n z0, e_M24, hs_n z0, e_M21, hs_n z0, e_M18, hs_n z0, e_M15, hs_n z0, e_M12, hs_n z0, e_M9, hs_n z2, e_M7, hs_n z0, e_M5, hs_n z1, e_M4, hs_n z0, e_M3, hs_n z0, e_M2, hs_n z0, e_M1, hs_n z0]
  exact ⟨q5, q9, t_q5, t_q9, n_q9_q5.symm, hs3_of f30 f32 f31 hfr⟩
theorem kd_X7_init : yX7_init.cls = RX7 ∧ yX7_init.cls ≠ "java/lang/invoke/MethodHandle" ∧ yX7_init.cls ≠ "java/lang/invoke/VarHandle" ∧ (parseMethodDescriptor yX7_init.desc).map (fun d => d.parameters.length) = some 5 := by decide +kernel
theorem xm_X7_init (l : Launch) (G : MG) (M : Hp) (ci : Nat) (y_ : Nat) (b1 : Int) (b2 : Int) (b3 : Int) (b4 : Int) (b5 : Int) (sz : Nat) (hci : ci = 6 ∨ ci = 7 ∨ ci = 8) (g1 : M y_ = some (oB ci [.int (iI 0), .int (iI 0), .int (iI 0), .int (iI 0), .int (iI 0), .int (iI 0), .int (iI 0), .int (iI 0), .int (iI 0), .int (iI 0), .int (iI 0), .int (iI 0), .int (iI 0), .int (iI 0), .int (iI 0), .int (iI 0), .int (iI 0), .null, .null])) : Met l yX7_init (ws_ yX7_init cX7_init 6 none) (rmX 3 2 8) (xP G XN [.ref y_, .int (iI b1), .int (iI b2), .int (iI b3), .int (iI b4), .int (iI b5)] M sz) (xQv G (DA M sz) (fun M' => ∃ g1 g2, M g1 = none ∧ M g2 = none ∧ g1 ≠ g2 ∧ M' = hs (hs (hs M g1 (aI (G.2.1 0) 4 (fun _ => 0))) g2 (aI (G.2.1 0) 4 (fun _ => 0))) y_ (oB ci [.int (iI b1), .int (iI b2), .int (iI b4), .int (iI b5), .int (iI b3), .int (iI 0), .int (iI 0), .int (iI b5), .int (iI (-1)), .int (iI 0), .int (iI 0), .int (iI (-1)), .int (iI (-1)), .int (iI (-1)), .int (iI 0), .int (iI 0), .int (iI 0), .ref g1, .ref g2]))) 2 8 (DA M sz) := by
  refine x_start (by decide) (Nat.le_of_ble_eq_true rfl) ?_
  intro p e s m below meth c ⟨S, hr, hlk, hH, hK, hXN, hsz, hnm⟩ ls hl
  subst hsz
  obtain ⟨hx, hb, hml, hown, hts⟩ := S
  have S : CallFix p m c _ _ s _ lw_all RX7 := ⟨hx, hb, hml, hown, hts⟩
  have hA : ∀ q, s.heap.size ≤ q → DA M s.heap.size q := fun q hq => Or.inr hq
  have hl : lv_has ls 6 [(0, .ref y_), (1, .int (iI b1)), (2, .int (iI b2)), (3, .int (iI b3)), (4, .int (iI b4)), (5, .int (iI b5))] := hl
  refine lv_aload_n hx hb dX7_init_0 rfl (lv_at hl 0 rfl) ?_
  refine lv_iload_n hx hb dX7_init_1 rfl (lv_at hl 1 rfl) ?_
  refine lv_iload_n hx hb dX7_init_2 rfl (lv_at hl 2 rfl) ?_
  refine lv_iload_n hx hb dX7_init_3 rfl (lv_at hl 3 rfl) ?_
  refine lv_iload hx hb dX7_init_4 (lv_at hl 4 rfl) ?_
  refine lv_iload hx hb dX7_init_6 (lv_at hl 5 rfl) ?_
  refine x_callv (x_runI (As := [.int (iI b1), .int (iI b2), .int (iI b3), .int (iI b4), .int (iI b5)]) (rest := []) S hH hK (fun _ _ hW => XN.warm hW hXN) XN_b hl.1 (xm_X6_init l G M ci y_ b1 b2 b3 b4 b5 _ hci g1) (lw_meth q474) q111 q472 q473 kd_X6_init rfl rfl dX7_init_8) hH hA (fun M8_ H locs q_8 hH hz_8 => ?_)
  refine W.widen (k := 2) (n := 8) (Nat.le_of_ble_eq_true rfl) (Nat.le_of_ble_eq_true rfl) ?_
  refine x_vret hx hb hr hlk hH dX7_init_11 ?_
  exact q_8
theorem kd_X8_init : yX8_init.cls = RX8 ∧ yX8_init.cls ≠ "java/lang/invoke/MethodHandle" ∧ yX8_init.cls ≠ "java/lang/invoke/VarHandle" ∧ (parseMethodDescriptor yX8_init.desc).map (fun d => d.parameters.length) = some 4 := by decide +kernel
theorem xm_X8_init (l : Launch) (G : MG) (M : Hp) (ci : Nat) (y_ : Nat) (b1 : Int) (b3 : Int) (b4 : Int) (b5 : Int) (sz : Nat) (hci : ci = 6 ∨ ci = 7 ∨ ci = 8) (g1 : M y_ = some (oB ci [.int (iI 0), .int (iI 0), .int (iI 0), .int (iI 0), .int (iI 0), .int (iI 0), .int (iI 0), .int (iI 0), .int (iI 0), .int (iI 0), .int (iI 0), .int (iI 0), .int (iI 0), .int (iI 0), .int (iI 0), .int (iI 0), .int (iI 0), .null, .null])) : Met l yX8_init (ws_ yX8_init cX8_init 5 none) (rmX 4 2 8) (xP G XN [.ref y_, .int (iI b1), .int (iI b3), .int (iI b4), .int (iI b5)] M sz) (xQv G (DA M sz) (fun M' => ∃ g1 g2, M g1 = none ∧ M g2 = none ∧ g1 ≠ g2 ∧ M' = hs (hs (hs M g1 (aI (G.2.1 0) 4 (fun _ => 0))) g2 (aI (G.2.1 0) 4 (fun _ => 0))) y_ (oB ci [.int (iI b1), .int (iI 1), .int (iI b4), .int (iI b5), .int (iI b3), .int (iI 0), .int (iI 0), .int (iI b5), .int (iI (-1)), .int (iI 0), .int (iI 0), .int (iI (-1)), .int (iI (-1)), .int (iI (-1)), .int (iI 0), .int (iI 0), .int (iI 0), .ref g1, .ref g2]))) 2 8 (DA M sz) := by
  refine x_start (by decide) (Nat.le_of_ble_eq_true rfl) ?_
  intro p e s m below meth c ⟨S, hr, hlk, hH, hK, hXN, hsz, hnm⟩ ls hl
  subst hsz
  obtain ⟨hx, hb, hml, hown, hts⟩ := S
  have S : CallFix p m c _ _ s _ lw_all RX8 := ⟨hx, hb, hml, hown, hts⟩
  have hA : ∀ q, s.heap.size ≤ q → DA M s.heap.size q := fun q hq => Or.inr hq
  have hl : lv_has ls 5 [(0, .ref y_), (1, .int (iI b1)), (2, .int (iI b3)), (3, .int (iI b4)), (4, .int (iI b5))] := hl
  refine lv_aload_n hx hb dX8_init_0 rfl (lv_at hl 0 rfl) ?_
  refine lv_iload_n hx hb dX8_init_1 rfl (lv_at hl 1 rfl) ?_
  refine n_iconst hx hb dX8_init_2 ?_
  refine lv_iload_n hx hb dX8_init_3 rfl (lv_at hl 2 rfl) ?_
  refine lv_iload_n hx hb dX8_init_4 rfl (lv_at hl 3 rfl) ?_
  refine lv_iload hx hb dX8_init_5 (lv_at hl 4 rfl) ?_
  refine x_callv (x_runI (As := [.int (iI b1), .int (iI 1), .int (iI b3), .int (iI b4), .int (iI b5)]) (rest := []) S hH hK (fun _ _ hW => XN.warm hW hXN) XN_b hl.1 (xm_X7_init l G M ci y_ b1 1 b3 b4 b5 _ hci g1) (lw_meth q471) q112 q469 q470 kd_X7_init rfl rfl dX8_init_7) hH hA (fun M7_ H locs q_7 hH hz_7 => ?_)
  refine W.widen (k := 2) (n := 8) (Nat.le_of_ble_eq_true rfl) (Nat.le_of_ble_eq_true rfl) ?_
  refine x_vret hx hb hr hlk hH dX8_init_10 ?_
  exact q_7
theorem kd_X9_init : yX9_init.cls = RX9 ∧ yX9_init.cls ≠ "java/lang/invoke/MethodHandle" ∧ yX9_init.cls ≠ "java/lang/invoke/VarHandle" ∧ (parseMethodDescriptor yX9_init.desc).map (fun d => d.parameters.length) = some 5 := by decide +kernel
theorem xm_X9_init (l : Launch) (G : MG) (M : Hp) (ci : Nat) (y_ : Nat) (b1 : Int) (b2 : Int) (b3 : Int) (b4 : Int) (b5 : Int) (sz : Nat) (hci : ci = 6 ∨ ci = 7 ∨ ci = 8) (g1 : M y_ = some (oB ci [.int (iI 0), .int (iI 0), .int (iI 0), .int (iI 0), .int (iI 0), .int (iI 0), .int (iI 0), .int (iI 0), .int (iI 0), .int (iI 0), .int (iI 0), .int (iI 0), .int (iI 0), .int (iI 0), .int (iI 0), .int (iI 0), .int (iI 0), .null, .null])) : Met l yX9_init (ws_ yX9_init cX9_init 6 none) (rmX 3 2 8) (xP G XN [.ref y_, .int (iI b1), .int (iI b2), .int (iI b3), .int (iI b4), .int (iI b5)] M sz) (xQv G (DA M sz) (fun M' => ∃ g1 g2, M g1 = none ∧ M g2 = none ∧ g1 ≠ g2 ∧ M' = hs (hs (hs M g1 (aI (G.2.1 0) 4 (fun _ => 0))) g2 (aI (G.2.1 0) 4 (fun _ => 0))) y_ (oB ci [.int (iI b1), .int (iI b2), .int (iI b4), .int (iI b5), .int (iI b3), .int (iI 0), .int (iI 0), .int (iI b5), .int (iI (-1)), .int (iI 0), .int (iI 0), .int (iI (-1)), .int (iI (-1)), .int (iI (-1)), .int (iI 0), .int (iI 0), .int (iI 0), .ref g1, .ref g2]))) 2 8 (DA M sz) := by
  refine x_start (by decide) (Nat.le_of_ble_eq_true rfl) ?_
  intro p e s m below meth c ⟨S, hr, hlk, hH, hK, hXN, hsz, hnm⟩ ls hl
  subst hsz
  obtain ⟨hx, hb, hml, hown, hts⟩ := S
  have S : CallFix p m c _ _ s _ lw_all RX9 := ⟨hx, hb, hml, hown, hts⟩
  have hA : ∀ q, s.heap.size ≤ q → DA M s.heap.size q := fun q hq => Or.inr hq
  have hl : lv_has ls 6 [(0, .ref y_), (1, .int (iI b1)), (2, .int (iI b2)), (3, .int (iI b3)), (4, .int (iI b4)), (5, .int (iI b5))] := hl
  refine lv_aload_n hx hb dX9_init_0 rfl (lv_at hl 0 rfl) ?_
  refine lv_iload_n hx hb dX9_init_1 rfl (lv_at hl 1 rfl) ?_
  refine lv_iload_n hx hb dX9_init_2 rfl (lv_at hl 2 rfl) ?_
  refine lv_iload_n hx hb dX9_init_3 rfl (lv_at hl 3 rfl) ?_
  refine lv_iload hx hb dX9_init_4 (lv_at hl 4 rfl) ?_
  refine lv_iload hx hb dX9_init_6 (lv_at hl 5 rfl) ?_
  refine x_callv (x_runI (As := [.int (iI b1), .int (iI b2), .int (iI b3), .int (iI b4), .int (iI b5)]) (rest := []) S hH hK (fun _ _ hW => XN.warm hW hXN) XN_b hl.1 (xm_X6_init l G M ci y_ b1 b2 b3 b4 b5 _ hci g1) (lw_meth q474) q111 q614 q473 kd_X6_init rfl rfl dX9_init_8) hH hA (fun M8_ H locs q_8 hH hz_8 => ?_)
  refine W.widen (k := 2) (n := 8) (Nat.le_of_ble_eq_true rfl) (Nat.le_of_ble_eq_true rfl) ?_
  refine x_vret hx hb hr hlk hH dX9_init_11 ?_
  exact q_8
