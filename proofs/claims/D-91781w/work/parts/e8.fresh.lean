def fGI (κ : Int → Int) (i_ : Int) (ga gc : Nat) : List Value := [.int (iI (κ (184 + 26 * i_ + 0))), .int (iI (κ (184 + 26 * i_ + 1))), .int (iI (κ (184 + 26 * i_ + 8))), .int (iI (κ (184 + 26 * i_ + 9))), .int (iI (κ (184 + 26 * i_ + 5))), .int (iI (κ (184 + 26 * i_ + 2))), .int (iI (κ (184 + 26 * i_ + 3))), .int (iI (κ (184 + 26 * i_ + 4))), .int (iI (κ (184 + 26 * i_ + 10))), .int (iI (κ (184 + 26 * i_ + 6))), .int (iI (κ (184 + 26 * i_ + 11))), .int (iI (κ (184 + 26 * i_ + 12))), .int (iI (κ (184 + 26 * i_ + 14))), .int (iI (κ (184 + 26 * i_ + 15))), .int (iI (κ (184 + 26 * i_ + 16))), .int (iI (κ (184 + 26 * i_ + 7))), .int (iI (κ (184 + 26 * i_ + 13))), .ref ga, .ref gc]
theorem kd_X7_fresh : yX7_fresh.cls = RX7 ∧ yX7_fresh.cls ≠ "java/lang/invoke/MethodHandle" ∧ yX7_fresh.cls ≠ "java/lang/invoke/VarHandle" ∧ (parseMethodDescriptor yX7_fresh.desc).map (fun d => d.parameters.length) = some 0 := by decide +kernel
theorem xm_X7_fresh (l : Launch) (G : MG) (M : Hp) (κ : Int → Int) (i_ : Int) (ga : Nat) (gc : Nat) (y_ : Nat) (sz : Nat) (gk : M y_ = some (oB 6 (fGI κ i_ ga gc))) : Met l yX7_fresh (ws_ yX7_fresh cX7_fresh 1 (some (.object "BrothFlasks$Flask"))) (rmX 6 3 27) (xP G XN [.ref y_] M sz) (xQq G (DA M sz) (fun r M' => ∃ q g1 g2, r = some q ∧ M q = none ∧ M g1 = none ∧ M g2 = none ∧ q ≠ g1 ∧ q ≠ g2 ∧ g1 ≠ g2 ∧ M' = hs (hs (hs M g1 (aI (G.2.1 0) 4 (fun _ => 0))) g2 (aI (G.2.1 0) 4 (fun _ => 0))) q (oB 6 [.int (iI (κ (184 + 26 * i_ + 0))), .int (iI (κ (184 + 26 * i_ + 1))), .int (iI (κ (184 + 26 * i_ + 8))), .int (iI (κ (184 + 26 * i_ + 9))), .int (iI (κ (184 + 26 * i_ + 5))), .int (iI 0), .int (iI 0), .int (iI (κ (184 + 26 * i_ + 9))), .int (iI (-1)), .int (iI 0), .int (iI 0), .int (iI (-1)), .int (iI (-1)), .int (iI (-1)), .int (iI 0), .int (iI 0), .int (iI 0), .ref g1, .ref g2]))) 3 27 (DA M sz) := by
  refine x_start (by decide) (Nat.le_of_ble_eq_true rfl) ?_
  intro p e s m below meth c ⟨S, hr, hlk, hH, hK, hXN, hsz, hnm⟩ ls hl
  subst hsz
  obtain ⟨hx, hb, hml, hown, hts⟩ := S
  have S : CallFix p m c _ _ s _ lw_all RX7 := ⟨hx, hb, hml, hown, hts⟩
  have hA : ∀ q, s.heap.size ≤ q → DA M s.heap.size q := fun q hq => Or.inr hq
  have hl : lv_has ls 1 [(0, .ref y_)] := hl
  refine x_new (ci := 6) hx hb hts in_X7 tyX7 tyX7_ok hown q1442 q587 q112 hK hH hA rfl [.int (iI 0), .int (iI 0), .int (iI 0), .int (iI 0), .int (iI 0), .int (iI 0), .int (iI 0), .int (iI 0), .int (iI 0), .int (iI 0), .int (iI 0), .int (iI 0), .int (iI 0), .int (iI 0), .int (iI 0), .int (iI 0), .int (iI 0), .null, .null] (fun j hj => by rcases (show j = 0 ∨ j = 1 ∨ j = 2 ∨ j = 3 ∨ j = 4 ∨ j = 5 ∨ j = 6 ∨ j = 7 ∨ j = 8 ∨ j = 9 ∨ j = 10 ∨ j = 11 ∨ j = 12 ∨ j = 13 ∨ j = 14 ∨ j = 15 ∨ j = 16 ∨ j = 17 ∨ j = 18 by omega) with rfl | rfl | rfl | rfl | rfl | rfl | rfl | rfl | rfl | rfl | rfl | rfl | rfl | rfl | rfl | rfl | rfl | rfl | rfl <;> rfl) (eN_id (by decide)) (Nat.le_of_ble_eq_true rfl) (Nat.le_of_ble_eq_true rfl) dX7_fresh_0 (fun q1 H hq1 hH => ?_)
  obtain ⟨M1, e_M1⟩ : ∃ M1, M1 = hs M q1 (oB 6 [.int (iI 0), .int (iI 0), .int (iI 0), .int (iI 0), .int (iI 0), .int (iI 0), .int (iI 0), .int (iI 0), .int (iI 0), .int (iI 0), .int (iI 0), .int (iI 0), .int (iI 0), .int (iI 0), .int (iI 0), .int (iI 0), .int (iI 0), .null, .null]) := ⟨_, rfl⟩
  have hH := XV_to hH e_M1.symm
  have f1 : M1 q1 = some (oB 6 [.int (iI 0), .int (iI 0), .int (iI 0), .int (iI 0), .int (iI 0), .int (iI 0), .int (iI 0), .int (iI 0), .int (iI 0), .int (iI 0), .int (iI 0), .int (iI 0), .int (iI 0), .int (iI 0), .int (iI 0), .int (iI 0), .int (iI 0), .null, .null]) := by rw [e_M1]; exact hs_s
  have f2 : M1 y_ = some (oB 6 [.int (iI (κ (184 + 26 * i_ + 0))), .int (iI (κ (184 + 26 * i_ + 1))), .int (iI (κ (184 + 26 * i_ + 8))), .int (iI (κ (184 + 26 * i_ + 9))), .int (iI (κ (184 + 26 * i_ + 5))), .int (iI (κ (184 + 26 * i_ + 2))), .int (iI (κ (184 + 26 * i_ + 3))), .int (iI (κ (184 + 26 * i_ + 4))), .int (iI (κ (184 + 26 * i_ + 10))), .int (iI (κ (184 + 26 * i_ + 6))), .int (iI (κ (184 + 26 * i_ + 11))), .int (iI (κ (184 + 26 * i_ + 12))), .int (iI (κ (184 + 26 * i_ + 14))), .int (iI (κ (184 + 26 * i_ + 15))), .int (iI (κ (184 + 26 * i_ + 16))), .int (iI (κ (184 + 26 * i_ + 7))), .int (iI (κ (184 + 26 * i_ + 13))), .ref ga, .ref gc]) := by rw [e_M1]; exact (hs_n (fun z => by have h9 := gk; rw [z, hq1] at h9; cases h9)).trans gk
  refine lv_dup hx hb dX7_fresh_3 rfl ?_
  refine lv_aload_n hx hb dX7_fresh_4 rfl (lv_at hl 0 rfl) ?_
  refine x_get hx hb hts in_X7 hown hK hH f2 rfl 0 (by decide) q477 (u_same (hts _ q478)) rfl (by decide) dX7_fresh_5 ?_
  refine lv_aload_n hx hb dX7_fresh_8 rfl (lv_at hl 0 rfl) ?_
  refine x_get hx hb hts in_X7 hown hK hH f2 rfl 1 (by decide) q485 (u_same (hts _ q486)) rfl (by decide) dX7_fresh_9 ?_
  refine lv_aload_n hx hb dX7_fresh_12 rfl (lv_at hl 0 rfl) ?_
  refine x_get hx hb hts in_X7 hown hK hH f2 rfl 4 (by decide) q510 (u_same (hts _ q511)) rfl (by decide) dX7_fresh_13 ?_
  refine lv_aload_n hx hb dX7_fresh_16 rfl (lv_at hl 0 rfl) ?_
  refine x_get hx hb hts in_X7 hown hK hH f2 rfl 2 (by decide) q494 (u_same (hts _ q495)) rfl (by decide) dX7_fresh_17 ?_
  refine lv_aload_n hx hb dX7_fresh_20 rfl (lv_at hl 0 rfl) ?_
  refine x_get hx hb hts in_X7 hown hK hH f2 rfl 3 (by decide) q502 (u_same (hts _ q503)) rfl (by decide) dX7_fresh_21 ?_
  refine x_callv (x_runI (As := [.int (iI (κ (184 + 26 * i_ + 0))), .int (iI (κ (184 + 26 * i_ + 1))), .int (iI (κ (184 + 26 * i_ + 5))), .int (iI (κ (184 + 26 * i_ + 8))), .int (iI (κ (184 + 26 * i_ + 9)))]) (rest := [.ref q1]) S hH hK (fun _ _ hW => XN.warm hW hXN) XN_b hl.1 (xm_X7_init l G M1 6 q1 (κ (184 + 26 * i_ + 0)) (κ (184 + 26 * i_ + 1)) (κ (184 + 26 * i_ + 5)) (κ (184 + 26 * i_ + 8)) (κ (184 + 26 * i_ + 9)) _ (by decide) f1) (lw_meth q471) q112 q1443 q470 kd_X7_init rfl rfl dX7_fresh_24) hH hA (fun M24_ H locs q_24 hH hz_24 => ?_)
  obtain ⟨q3a, q3b, hq3a, h0q3b, ne0_3, e0_3⟩ := q_24
  obtain ⟨M3, e_M3⟩ : ∃ M3, M3 = hs M1 q3a (aI (G.2.1 0) 4 (fun (_ : Int) => (0 : Int))) := ⟨_, rfl⟩
  have f3 : M3 q3a = some (aI (G.2.1 0) 4 (fun (_ : Int) => (0 : Int))) := by rw [e_M3]; exact hs_s
  have f4 : M3 q1 = some (oB 6 [.int (iI 0), .int (iI 0), .int (iI 0), .int (iI 0), .int (iI 0), .int (iI 0), .int (iI 0), .int (iI 0), .int (iI 0), .int (iI 0), .int (iI 0), .int (iI 0), .int (iI 0), .int (iI 0), .int (iI 0), .int (iI 0), .int (iI 0), .null, .null]) := by rw [e_M3]; exact (hs_n (fun z => by have h9 := f1; rw [z, hq3a] at h9; cases h9)).trans f1
  have f5 : M3 y_ = some (oB 6 [.int (iI (κ (184 + 26 * i_ + 0))), .int (iI (κ (184 + 26 * i_ + 1))), .int (iI (κ (184 + 26 * i_ + 8))), .int (iI (κ (184 + 26 * i_ + 9))), .int (iI (κ (184 + 26 * i_ + 5))), .int (iI (κ (184 + 26 * i_ + 2))), .int (iI (κ (184 + 26 * i_ + 3))), .int (iI (κ (184 + 26 * i_ + 4))), .int (iI (κ (184 + 26 * i_ + 10))), .int (iI (κ (184 + 26 * i_ + 6))), .int (iI (κ (184 + 26 * i_ + 11))), .int (iI (κ (184 + 26 * i_ + 12))), .int (iI (κ (184 + 26 * i_ + 14))), .int (iI (κ (184 + 26 * i_ + 15))), .int (iI (κ (184 + 26 * i_ + 16))), .int (iI (κ (184 + 26 * i_ + 7))), .int (iI (κ (184 + 26 * i_ + 13))), .ref ga, .ref gc]) := by rw [e_M3]; exact (hs_n (fun z => by have h9 := f2; rw [z, hq3a] at h9; cases h9)).trans f2
  have hq3b : M3 q3b = none := by rw [e_M3]; exact (hs_n ne0_3.symm).trans h0q3b
  obtain ⟨M6, e_M6⟩ : ∃ M6, M6 = hs M3 q3b (aI (G.2.1 0) 4 (fun (_ : Int) => (0 : Int))) := ⟨_, rfl⟩
  have f6 : M6 q3b = some (aI (G.2.1 0) 4 (fun (_ : Int) => (0 : Int))) := by rw [e_M6]; exact hs_s
  have f7 : M6 q3a = some (aI (G.2.1 0) 4 (fun (_ : Int) => (0 : Int))) := by rw [e_M6]; exact (hs_n (fun z => by have h9 := f3; rw [z, hq3b] at h9; cases h9)).trans f3
  have f8 : M6 q1 = some (oB 6 [.int (iI 0), .int (iI 0), .int (iI 0), .int (iI 0), .int (iI 0), .int (iI 0), .int (iI 0), .int (iI 0), .int (iI 0), .int (iI 0), .int (iI 0), .int (iI 0), .int (iI 0), .int (iI 0), .int (iI 0), .int (iI 0), .int (iI 0), .null, .null]) := by rw [e_M6]; exact (hs_n (fun z => by have h9 := f4; rw [z, hq3b] at h9; cases h9)).trans f4
  have f9 : M6 y_ = some (oB 6 [.int (iI (κ (184 + 26 * i_ + 0))), .int (iI (κ (184 + 26 * i_ + 1))), .int (iI (κ (184 + 26 * i_ + 8))), .int (iI (κ (184 + 26 * i_ + 9))), .int (iI (κ (184 + 26 * i_ + 5))), .int (iI (κ (184 + 26 * i_ + 2))), .int (iI (κ (184 + 26 * i_ + 3))), .int (iI (κ (184 + 26 * i_ + 4))), .int (iI (κ (184 + 26 * i_ + 10))), .int (iI (κ (184 + 26 * i_ + 6))), .int (iI (κ (184 + 26 * i_ + 11))), .int (iI (κ (184 + 26 * i_ + 12))), .int (iI (κ (184 + 26 * i_ + 14))), .int (iI (κ (184 + 26 * i_ + 15))), .int (iI (κ (184 + 26 * i_ + 16))), .int (iI (κ (184 + 26 * i_ + 7))), .int (iI (κ (184 + 26 * i_ + 13))), .ref ga, .ref gc]) := by rw [e_M6]; exact (hs_n (fun z => by have h9 := f5; rw [z, hq3b] at h9; cases h9)).trans f5
  have q_24 : M24_ = hs M6 q1 (oB 6 [.int (iI (κ (184 + 26 * i_ + 0))), .int (iI (κ (184 + 26 * i_ + 1))), .int (iI (κ (184 + 26 * i_ + 8))), .int (iI (κ (184 + 26 * i_ + 9))), .int (iI (κ (184 + 26 * i_ + 5))), .int (iI 0), .int (iI 0), .int (iI (κ (184 + 26 * i_ + 9))), .int (iI (-1)), .int (iI 0), .int (iI 0), .int (iI (-1)), .int (iI (-1)), .int (iI (-1)), .int (iI 0), .int (iI 0), .int (iI 0), .ref q3a, .ref q3b]) := by rw [e_M6, e_M3]; exact e0_3
  have e_M24_ := q_24
  have f10 : M24_ q1 = some (oB 6 [.int (iI (κ (184 + 26 * i_ + 0))), .int (iI (κ (184 + 26 * i_ + 1))), .int (iI (κ (184 + 26 * i_ + 8))), .int (iI (κ (184 + 26 * i_ + 9))), .int (iI (κ (184 + 26 * i_ + 5))), .int (iI 0), .int (iI 0), .int (iI (κ (184 + 26 * i_ + 9))), .int (iI (-1)), .int (iI 0), .int (iI 0), .int (iI (-1)), .int (iI (-1)), .int (iI (-1)), .int (iI 0), .int (iI 0), .int (iI 0), .ref q3a, .ref q3b]) := by rw [e_M24_]; exact hs_s
  have f11 : M24_ q3b = some (aI (G.2.1 0) 4 (fun (_ : Int) => (0 : Int))) := by rw [e_M24_]; exact (hs_n (ne_ao f6 f8)).trans f6
  have f12 : M24_ q3a = some (aI (G.2.1 0) 4 (fun (_ : Int) => (0 : Int))) := by rw [e_M24_]; exact (hs_n (ne_ao f7 f8)).trans f7
  refine W.widen (k := 3) (n := 27) (Nat.le_of_ble_eq_true rfl) (Nat.le_of_ble_eq_true rfl) ?_
  refine x_aret (r := some q1) hx hb hr (Or.inl ⟨_, rfl⟩) hlk hH dX7_fresh_27 ?_
  have t_q1 := hq1
  have t_q3a := hq3a
  rw [e_M1] at t_q3a
  obtain ⟨t_q3a, n_q3a_q1⟩ := hsn t_q3a
  have t_q3b := hq3b
  rw [e_M3] at t_q3b
  obtain ⟨t_q3b, n_q3b_q3a⟩ := hsn t_q3b
  rw [e_M1] at t_q3b
  obtain ⟨t_q3b, n_q3b_q1⟩ := hsn t_q3b
  have hfr : ∀ z, z ≠ q1 → z ≠ q3a → z ≠ q3b → M24_ z = M z := fun z z0 z1 z2 => by rw [e_M24_, hs_n z0, e_M6, hs_n z2, e_M3, hs_n z1, e_M1, hs_n z0]
  exact ⟨q1, q3a, q3b, rfl, t_q1, t_q3a, t_q3b, n_q3a_q1.symm, n_q3b_q1.symm, n_q3b_q3a.symm, hs3_of f10 f12 f11 hfr⟩
theorem kd_X8_fresh : yX8_fresh.cls = RX8 ∧ yX8_fresh.cls ≠ "java/lang/invoke/MethodHandle" ∧ yX8_fresh.cls ≠ "java/lang/invoke/VarHandle" ∧ (parseMethodDescriptor yX8_fresh.desc).map (fun d => d.parameters.length) = some 0 := by decide +kernel
theorem xm_X8_fresh (l : Launch) (G : MG) (M : Hp) (κ : Int → Int) (i_ : Int) (ga : Nat) (gc : Nat) (y_ : Nat) (sz : Nat) (gk : M y_ = some (oB 7 (fGI κ i_ ga gc))) (hso : κ (184 + 26 * i_ + 1) = 1) : Met l yX8_fresh (ws_ yX8_fresh cX8_fresh 1 (some (.object "BrothFlasks$Flask"))) (rmX 6 3 27) (xP G XN [.ref y_] M sz) (xQq G (DA M sz) (fun r M' => ∃ q g1 g2, r = some q ∧ M q = none ∧ M g1 = none ∧ M g2 = none ∧ q ≠ g1 ∧ q ≠ g2 ∧ g1 ≠ g2 ∧ M' = hs (hs (hs M g1 (aI (G.2.1 0) 4 (fun _ => 0))) g2 (aI (G.2.1 0) 4 (fun _ => 0))) q (oB 7 [.int (iI (κ (184 + 26 * i_ + 0))), .int (iI (κ (184 + 26 * i_ + 1))), .int (iI (κ (184 + 26 * i_ + 8))), .int (iI (κ (184 + 26 * i_ + 9))), .int (iI (κ (184 + 26 * i_ + 5))), .int (iI 0), .int (iI 0), .int (iI (κ (184 + 26 * i_ + 9))), .int (iI (-1)), .int (iI 0), .int (iI 0), .int (iI (-1)), .int (iI (-1)), .int (iI (-1)), .int (iI 0), .int (iI 0), .int (iI 0), .ref g1, .ref g2]))) 3 27 (DA M sz) := by
  refine x_start (by decide) (Nat.le_of_ble_eq_true rfl) ?_
  intro p e s m below meth c ⟨S, hr, hlk, hH, hK, hXN, hsz, hnm⟩ ls hl
  subst hsz
  obtain ⟨hx, hb, hml, hown, hts⟩ := S
  have S : CallFix p m c _ _ s _ lw_all RX8 := ⟨hx, hb, hml, hown, hts⟩
  have hA : ∀ q, s.heap.size ≤ q → DA M s.heap.size q := fun q hq => Or.inr hq
  have hl : lv_has ls 1 [(0, .ref y_)] := hl
  refine x_new (ci := 7) hx hb hts in_X8 tyX8 tyX8_ok hown q1452 q465 q113 hK hH hA rfl [.int (iI 0), .int (iI 0), .int (iI 0), .int (iI 0), .int (iI 0), .int (iI 0), .int (iI 0), .int (iI 0), .int (iI 0), .int (iI 0), .int (iI 0), .int (iI 0), .int (iI 0), .int (iI 0), .int (iI 0), .int (iI 0), .int (iI 0), .null, .null] (fun j hj => by rcases (show j = 0 ∨ j = 1 ∨ j = 2 ∨ j = 3 ∨ j = 4 ∨ j = 5 ∨ j = 6 ∨ j = 7 ∨ j = 8 ∨ j = 9 ∨ j = 10 ∨ j = 11 ∨ j = 12 ∨ j = 13 ∨ j = 14 ∨ j = 15 ∨ j = 16 ∨ j = 17 ∨ j = 18 by omega) with rfl | rfl | rfl | rfl | rfl | rfl | rfl | rfl | rfl | rfl | rfl | rfl | rfl | rfl | rfl | rfl | rfl | rfl | rfl <;> rfl) (eN_id (by decide)) (Nat.le_of_ble_eq_true rfl) (Nat.le_of_ble_eq_true rfl) dX8_fresh_0 (fun q1 H hq1 hH => ?_)
  obtain ⟨M1, e_M1⟩ : ∃ M1, M1 = hs M q1 (oB 7 [.int (iI 0), .int (iI 0), .int (iI 0), .int (iI 0), .int (iI 0), .int (iI 0), .int (iI 0), .int (iI 0), .int (iI 0), .int (iI 0), .int (iI 0), .int (iI 0), .int (iI 0), .int (iI 0), .int (iI 0), .int (iI 0), .int (iI 0), .null, .null]) := ⟨_, rfl⟩
  have hH := XV_to hH e_M1.symm
  have f1 : M1 q1 = some (oB 7 [.int (iI 0), .int (iI 0), .int (iI 0), .int (iI 0), .int (iI 0), .int (iI 0), .int (iI 0), .int (iI 0), .int (iI 0), .int (iI 0), .int (iI 0), .int (iI 0), .int (iI 0), .int (iI 0), .int (iI 0), .int (iI 0), .int (iI 0), .null, .null]) := by rw [e_M1]; exact hs_s
  have f2 : M1 y_ = some (oB 7 [.int (iI (κ (184 + 26 * i_ + 0))), .int (iI (κ (184 + 26 * i_ + 1))), .int (iI (κ (184 + 26 * i_ + 8))), .int (iI (κ (184 + 26 * i_ + 9))), .int (iI (κ (184 + 26 * i_ + 5))), .int (iI (κ (184 + 26 * i_ + 2))), .int (iI (κ (184 + 26 * i_ + 3))), .int (iI (κ (184 + 26 * i_ + 4))), .int (iI (κ (184 + 26 * i_ + 10))), .int (iI (κ (184 + 26 * i_ + 6))), .int (iI (κ (184 + 26 * i_ + 11))), .int (iI (κ (184 + 26 * i_ + 12))), .int (iI (κ (184 + 26 * i_ + 14))), .int (iI (κ (184 + 26 * i_ + 15))), .int (iI (κ (184 + 26 * i_ + 16))), .int (iI (κ (184 + 26 * i_ + 7))), .int (iI (κ (184 + 26 * i_ + 13))), .ref ga, .ref gc]) := by rw [e_M1]; exact (hs_n (fun z => by have h9 := gk; rw [z, hq1] at h9; cases h9)).trans gk
  refine lv_dup hx hb dX8_fresh_3 rfl ?_
  refine lv_aload_n hx hb dX8_fresh_4 rfl (lv_at hl 0 rfl) ?_
  refine x_get hx hb hts in_X8 hown hK hH f2 rfl 0 (by decide) q481 (u_same (hts _ q482)) rfl (by decide) dX8_fresh_5 ?_
  refine lv_aload_n hx hb dX8_fresh_8 rfl (lv_at hl 0 rfl) ?_
  refine x_get hx hb hts in_X8 hown hK hH f2 rfl 4 (by decide) q508 (u_same (hts _ q509)) rfl (by decide) dX8_fresh_9 ?_
  refine lv_aload_n hx hb dX8_fresh_12 rfl (lv_at hl 0 rfl) ?_
  refine x_get hx hb hts in_X8 hown hK hH f2 rfl 2 (by decide) q492 (u_same (hts _ q493)) rfl (by decide) dX8_fresh_13 ?_
  refine lv_aload_n hx hb dX8_fresh_16 rfl (lv_at hl 0 rfl) ?_
  refine x_get hx hb hts in_X8 hown hK hH f2 rfl 3 (by decide) q500 (u_same (hts _ q501)) rfl (by decide) dX8_fresh_17 ?_
  refine x_callv (x_runI (As := [.int (iI (κ (184 + 26 * i_ + 0))), .int (iI (κ (184 + 26 * i_ + 5))), .int (iI (κ (184 + 26 * i_ + 8))), .int (iI (κ (184 + 26 * i_ + 9)))]) (rest := [.ref q1]) S hH hK (fun _ _ hW => XN.warm hW hXN) XN_b hl.1 (xm_X8_init l G M1 7 q1 (κ (184 + 26 * i_ + 0)) (κ (184 + 26 * i_ + 5)) (κ (184 + 26 * i_ + 8)) (κ (184 + 26 * i_ + 9)) _ (by decide) f1) (lw_meth q468) q113 q1453 q467 kd_X8_init rfl rfl dX8_fresh_20) hH hA (fun M20_ H locs q_20 hH hz_20 => ?_)
  obtain ⟨q3a, q3b, hq3a, h0q3b, ne0_3, e0_3⟩ := q_20
  obtain ⟨M3, e_M3⟩ : ∃ M3, M3 = hs M1 q3a (aI (G.2.1 0) 4 (fun (_ : Int) => (0 : Int))) := ⟨_, rfl⟩
  have f3 : M3 q3a = some (aI (G.2.1 0) 4 (fun (_ : Int) => (0 : Int))) := by rw [e_M3]; exact hs_s
  have f4 : M3 q1 = some (oB 7 [.int (iI 0), .int (iI 0), .int (iI 0), .int (iI 0), .int (iI 0), .int (iI 0), .int (iI 0), .int (iI 0), .int (iI 0), .int (iI 0), .int (iI 0), .int (iI 0), .int (iI 0), .int (iI 0), .int (iI 0), .int (iI 0), .int (iI 0), .null, .null]) := by rw [e_M3]; exact (hs_n (fun z => by have h9 := f1; rw [z, hq3a] at h9; cases h9)).trans f1
  have f5 : M3 y_ = some (oB 7 [.int (iI (κ (184 + 26 * i_ + 0))), .int (iI (κ (184 + 26 * i_ + 1))), .int (iI (κ (184 + 26 * i_ + 8))), .int (iI (κ (184 + 26 * i_ + 9))), .int (iI (κ (184 + 26 * i_ + 5))), .int (iI (κ (184 + 26 * i_ + 2))), .int (iI (κ (184 + 26 * i_ + 3))), .int (iI (κ (184 + 26 * i_ + 4))), .int (iI (κ (184 + 26 * i_ + 10))), .int (iI (κ (184 + 26 * i_ + 6))), .int (iI (κ (184 + 26 * i_ + 11))), .int (iI (κ (184 + 26 * i_ + 12))), .int (iI (κ (184 + 26 * i_ + 14))), .int (iI (κ (184 + 26 * i_ + 15))), .int (iI (κ (184 + 26 * i_ + 16))), .int (iI (κ (184 + 26 * i_ + 7))), .int (iI (κ (184 + 26 * i_ + 13))), .ref ga, .ref gc]) := by rw [e_M3]; exact (hs_n (fun z => by have h9 := f2; rw [z, hq3a] at h9; cases h9)).trans f2
  have hq3b : M3 q3b = none := by rw [e_M3]; exact (hs_n ne0_3.symm).trans h0q3b
  obtain ⟨M6, e_M6⟩ : ∃ M6, M6 = hs M3 q3b (aI (G.2.1 0) 4 (fun (_ : Int) => (0 : Int))) := ⟨_, rfl⟩
  have f6 : M6 q3b = some (aI (G.2.1 0) 4 (fun (_ : Int) => (0 : Int))) := by rw [e_M6]; exact hs_s
  have f7 : M6 q3a = some (aI (G.2.1 0) 4 (fun (_ : Int) => (0 : Int))) := by rw [e_M6]; exact (hs_n (fun z => by have h9 := f3; rw [z, hq3b] at h9; cases h9)).trans f3
  have f8 : M6 q1 = some (oB 7 [.int (iI 0), .int (iI 0), .int (iI 0), .int (iI 0), .int (iI 0), .int (iI 0), .int (iI 0), .int (iI 0), .int (iI 0), .int (iI 0), .int (iI 0), .int (iI 0), .int (iI 0), .int (iI 0), .int (iI 0), .int (iI 0), .int (iI 0), .null, .null]) := by rw [e_M6]; exact (hs_n (fun z => by have h9 := f4; rw [z, hq3b] at h9; cases h9)).trans f4
  have f9 : M6 y_ = some (oB 7 [.int (iI (κ (184 + 26 * i_ + 0))), .int (iI (κ (184 + 26 * i_ + 1))), .int (iI (κ (184 + 26 * i_ + 8))), .int (iI (κ (184 + 26 * i_ + 9))), .int (iI (κ (184 + 26 * i_ + 5))), .int (iI (κ (184 + 26 * i_ + 2))), .int (iI (κ (184 + 26 * i_ + 3))), .int (iI (κ (184 + 26 * i_ + 4))), .int (iI (κ (184 + 26 * i_ + 10))), .int (iI (κ (184 + 26 * i_ + 6))), .int (iI (κ (184 + 26 * i_ + 11))), .int (iI (κ (184 + 26 * i_ + 12))), .int (iI (κ (184 + 26 * i_ + 14))), .int (iI (κ (184 + 26 * i_ + 15))), .int (iI (κ (184 + 26 * i_ + 16))), .int (iI (κ (184 + 26 * i_ + 7))), .int (iI (κ (184 + 26 * i_ + 13))), .ref ga, .ref gc]) := by rw [e_M6]; exact (hs_n (fun z => by have h9 := f5; rw [z, hq3b] at h9; cases h9)).trans f5
  have q_20 : M20_ = hs M6 q1 (oB 7 [.int (iI (κ (184 + 26 * i_ + 0))), .int (iI 1), .int (iI (κ (184 + 26 * i_ + 8))), .int (iI (κ (184 + 26 * i_ + 9))), .int (iI (κ (184 + 26 * i_ + 5))), .int (iI 0), .int (iI 0), .int (iI (κ (184 + 26 * i_ + 9))), .int (iI (-1)), .int (iI 0), .int (iI 0), .int (iI (-1)), .int (iI (-1)), .int (iI (-1)), .int (iI 0), .int (iI 0), .int (iI 0), .ref q3a, .ref q3b]) := by rw [e_M6, e_M3]; exact e0_3
  have e_M20_ := q_20
  have f10 : M20_ q1 = some (oB 7 [.int (iI (κ (184 + 26 * i_ + 0))), .int (iI 1), .int (iI (κ (184 + 26 * i_ + 8))), .int (iI (κ (184 + 26 * i_ + 9))), .int (iI (κ (184 + 26 * i_ + 5))), .int (iI 0), .int (iI 0), .int (iI (κ (184 + 26 * i_ + 9))), .int (iI (-1)), .int (iI 0), .int (iI 0), .int (iI (-1)), .int (iI (-1)), .int (iI (-1)), .int (iI 0), .int (iI 0), .int (iI 0), .ref q3a, .ref q3b]) := by rw [e_M20_]; exact hs_s
  have f11 : M20_ q3b = some (aI (G.2.1 0) 4 (fun (_ : Int) => (0 : Int))) := by rw [e_M20_]; exact (hs_n (ne_ao f6 f8)).trans f6
  have f12 : M20_ q3a = some (aI (G.2.1 0) 4 (fun (_ : Int) => (0 : Int))) := by rw [e_M20_]; exact (hs_n (ne_ao f7 f8)).trans f7
  refine W.widen (k := 3) (n := 27) (Nat.le_of_ble_eq_true rfl) (Nat.le_of_ble_eq_true rfl) ?_
  refine x_aret (r := some q1) hx hb hr (Or.inl ⟨_, rfl⟩) hlk hH dX8_fresh_23 ?_
  have t_q1 := hq1
  have t_q3a := hq3a
  rw [e_M1] at t_q3a
  obtain ⟨t_q3a, n_q3a_q1⟩ := hsn t_q3a
  have t_q3b := hq3b
  rw [e_M3] at t_q3b
  obtain ⟨t_q3b, n_q3b_q3a⟩ := hsn t_q3b
  rw [e_M1] at t_q3b
  obtain ⟨t_q3b, n_q3b_q1⟩ := hsn t_q3b
  have hfr : ∀ z, z ≠ q1 → z ≠ q3a → z ≠ q3b → M20_ z = M z := fun z z0 z1 z2 => by rw [e_M20_, hs_n z0, e_M6, hs_n z2, e_M3, hs_n z1, e_M1, hs_n z0]
  have fq9 : M20_ q1 = some (oB 7 [.int (iI (κ (184 + 26 * i_ + 0))), .int (iI (κ (184 + 26 * i_ + 1))), .int (iI (κ (184 + 26 * i_ + 8))), .int (iI (κ (184 + 26 * i_ + 9))), .int (iI (κ (184 + 26 * i_ + 5))), .int (iI 0), .int (iI 0), .int (iI (κ (184 + 26 * i_ + 9))), .int (iI (-1)), .int (iI 0), .int (iI 0), .int (iI (-1)), .int (iI (-1)), .int (iI (-1)), .int (iI 0), .int (iI 0), .int (iI 0), .ref q3a, .ref q3b]) := by rw [hso]; exact f10
  exact ⟨q1, q3a, q3b, rfl, t_q1, t_q3a, t_q3b, n_q3a_q1.symm, n_q3b_q1.symm, n_q3b_q3a.symm, hs3_of fq9 f12 f11 hfr⟩
theorem kd_X9_fresh : yX9_fresh.cls = RX9 ∧ yX9_fresh.cls ≠ "java/lang/invoke/MethodHandle" ∧ yX9_fresh.cls ≠ "java/lang/invoke/VarHandle" ∧ (parseMethodDescriptor yX9_fresh.desc).map (fun d => d.parameters.length) = some 0 := by decide +kernel
theorem xm_X9_fresh (l : Launch) (G : MG) (M : Hp) (κ : Int → Int) (i_ : Int) (ga : Nat) (gc : Nat) (y_ : Nat) (sz : Nat) (gk : M y_ = some (oB 8 (fGI κ i_ ga gc))) : Met l yX9_fresh (ws_ yX9_fresh cX9_fresh 1 (some (.object "BrothFlasks$Flask"))) (rmX 6 3 27) (xP G XN [.ref y_] M sz) (xQq G (DA M sz) (fun r M' => ∃ q g1 g2, r = some q ∧ M q = none ∧ M g1 = none ∧ M g2 = none ∧ q ≠ g1 ∧ q ≠ g2 ∧ g1 ≠ g2 ∧ M' = hs (hs (hs M g1 (aI (G.2.1 0) 4 (fun _ => 0))) g2 (aI (G.2.1 0) 4 (fun _ => 0))) q (oB 8 [.int (iI (κ (184 + 26 * i_ + 0))), .int (iI (κ (184 + 26 * i_ + 1))), .int (iI (κ (184 + 26 * i_ + 8))), .int (iI (κ (184 + 26 * i_ + 9))), .int (iI (κ (184 + 26 * i_ + 5))), .int (iI 0), .int (iI 0), .int (iI (κ (184 + 26 * i_ + 9))), .int (iI (-1)), .int (iI 0), .int (iI 0), .int (iI (-1)), .int (iI (-1)), .int (iI (-1)), .int (iI 0), .int (iI 0), .int (iI 0), .ref g1, .ref g2]))) 3 27 (DA M sz) := by
  refine x_start (by decide) (Nat.le_of_ble_eq_true rfl) ?_
  intro p e s m below meth c ⟨S, hr, hlk, hH, hK, hXN, hsz, hnm⟩ ls hl
  subst hsz
  obtain ⟨hx, hb, hml, hown, hts⟩ := S
  have S : CallFix p m c _ _ s _ lw_all RX9 := ⟨hx, hb, hml, hown, hts⟩
  have hA : ∀ q, s.heap.size ≤ q → DA M s.heap.size q := fun q hq => Or.inr hq
  have hl : lv_has ls 1 [(0, .ref y_)] := hl
  refine x_new (ci := 8) hx hb hts in_X9 tyX9 tyX9_ok hown q1447 q610 q114 hK hH hA rfl [.int (iI 0), .int (iI 0), .int (iI 0), .int (iI 0), .int (iI 0), .int (iI 0), .int (iI 0), .int (iI 0), .int (iI 0), .int (iI 0), .int (iI 0), .int (iI 0), .int (iI 0), .int (iI 0), .int (iI 0), .int (iI 0), .int (iI 0), .null, .null] (fun j hj => by rcases (show j = 0 ∨ j = 1 ∨ j = 2 ∨ j = 3 ∨ j = 4 ∨ j = 5 ∨ j = 6 ∨ j = 7 ∨ j = 8 ∨ j = 9 ∨ j = 10 ∨ j = 11 ∨ j = 12 ∨ j = 13 ∨ j = 14 ∨ j = 15 ∨ j = 16 ∨ j = 17 ∨ j = 18 by omega) with rfl | rfl | rfl | rfl | rfl | rfl | rfl | rfl | rfl | rfl | rfl | rfl | rfl | rfl | rfl | rfl | rfl | rfl | rfl <;> rfl) (eN_id (by decide)) (Nat.le_of_ble_eq_true rfl) (Nat.le_of_ble_eq_true rfl) dX9_fresh_0 (fun q1 H hq1 hH => ?_)
  obtain ⟨M1, e_M1⟩ : ∃ M1, M1 = hs M q1 (oB 8 [.int (iI 0), .int (iI 0), .int (iI 0), .int (iI 0), .int (iI 0), .int (iI 0), .int (iI 0), .int (iI 0), .int (iI 0), .int (iI 0), .int (iI 0), .int (iI 0), .int (iI 0), .int (iI 0), .int (iI 0), .int (iI 0), .int (iI 0), .null, .null]) := ⟨_, rfl⟩
  have hH := XV_to hH e_M1.symm
  have f1 : M1 q1 = some (oB 8 [.int (iI 0), .int (iI 0), .int (iI 0), .int (iI 0), .int (iI 0), .int (iI 0), .int (iI 0), .int (iI 0), .int (iI 0), .int (iI 0), .int (iI 0), .int (iI 0), .int (iI 0), .int (iI 0), .int (iI 0), .int (iI 0), .int (iI 0), .null, .null]) := by rw [e_M1]; exact hs_s
  have f2 : M1 y_ = some (oB 8 [.int (iI (κ (184 + 26 * i_ + 0))), .int (iI (κ (184 + 26 * i_ + 1))), .int (iI (κ (184 + 26 * i_ + 8))), .int (iI (κ (184 + 26 * i_ + 9))), .int (iI (κ (184 + 26 * i_ + 5))), .int (iI (κ (184 + 26 * i_ + 2))), .int (iI (κ (184 + 26 * i_ + 3))), .int (iI (κ (184 + 26 * i_ + 4))), .int (iI (κ (184 + 26 * i_ + 10))), .int (iI (κ (184 + 26 * i_ + 6))), .int (iI (κ (184 + 26 * i_ + 11))), .int (iI (κ (184 + 26 * i_ + 12))), .int (iI (κ (184 + 26 * i_ + 14))), .int (iI (κ (184 + 26 * i_ + 15))), .int (iI (κ (184 + 26 * i_ + 16))), .int (iI (κ (184 + 26 * i_ + 7))), .int (iI (κ (184 + 26 * i_ + 13))), .ref ga, .ref gc]) := by rw [e_M1]; exact (hs_n (fun z => by have h9 := gk; rw [z, hq1] at h9; cases h9)).trans gk
  refine lv_dup hx hb dX9_fresh_3 rfl ?_
  refine lv_aload_n hx hb dX9_fresh_4 rfl (lv_at hl 0 rfl) ?_
  refine x_get hx hb hts in_X9 hown hK hH f2 rfl 0 (by decide) q479 (u_same (hts _ q480)) rfl (by decide) dX9_fresh_5 ?_
  refine lv_aload_n hx hb dX9_fresh_8 rfl (lv_at hl 0 rfl) ?_
  refine x_get hx hb hts in_X9 hown hK hH f2 rfl 1 (by decide) q487 (u_same (hts _ q488)) rfl (by decide) dX9_fresh_9 ?_
  refine lv_aload_n hx hb dX9_fresh_12 rfl (lv_at hl 0 rfl) ?_
  refine x_get hx hb hts in_X9 hown hK hH f2 rfl 4 (by decide) q512 (u_same (hts _ q513)) rfl (by decide) dX9_fresh_13 ?_
  refine lv_aload_n hx hb dX9_fresh_16 rfl (lv_at hl 0 rfl) ?_
  refine x_get hx hb hts in_X9 hown hK hH f2 rfl 2 (by decide) q496 (u_same (hts _ q497)) rfl (by decide) dX9_fresh_17 ?_
  refine lv_aload_n hx hb dX9_fresh_20 rfl (lv_at hl 0 rfl) ?_
  refine x_get hx hb hts in_X9 hown hK hH f2 rfl 3 (by decide) q504 (u_same (hts _ q505)) rfl (by decide) dX9_fresh_21 ?_
  refine x_callv (x_runI (As := [.int (iI (κ (184 + 26 * i_ + 0))), .int (iI (κ (184 + 26 * i_ + 1))), .int (iI (κ (184 + 26 * i_ + 5))), .int (iI (κ (184 + 26 * i_ + 8))), .int (iI (κ (184 + 26 * i_ + 9)))]) (rest := [.ref q1]) S hH hK (fun _ _ hW => XN.warm hW hXN) XN_b hl.1 (xm_X9_init l G M1 8 q1 (κ (184 + 26 * i_ + 0)) (κ (184 + 26 * i_ + 1)) (κ (184 + 26 * i_ + 5)) (κ (184 + 26 * i_ + 8)) (κ (184 + 26 * i_ + 9)) _ (by decide) f1) (lw_meth q613) q114 q1448 q612 kd_X9_init rfl rfl dX9_fresh_24) hH hA (fun M24_ H locs q_24 hH hz_24 => ?_)
  obtain ⟨q3a, q3b, hq3a, h0q3b, ne0_3, e0_3⟩ := q_24
  obtain ⟨M3, e_M3⟩ : ∃ M3, M3 = hs M1 q3a (aI (G.2.1 0) 4 (fun (_ : Int) => (0 : Int))) := ⟨_, rfl⟩
  have f3 : M3 q3a = some (aI (G.2.1 0) 4 (fun (_ : Int) => (0 : Int))) := by rw [e_M3]; exact hs_s
  have f4 : M3 q1 = some (oB 8 [.int (iI 0), .int (iI 0), .int (iI 0), .int (iI 0), .int (iI 0), .int (iI 0), .int (iI 0), .int (iI 0), .int (iI 0), .int (iI 0), .int (iI 0), .int (iI 0), .int (iI 0), .int (iI 0), .int (iI 0), .int (iI 0), .int (iI 0), .null, .null]) := by rw [e_M3]; exact (hs_n (fun z => by have h9 := f1; rw [z, hq3a] at h9; cases h9)).trans f1
  have f5 : M3 y_ = some (oB 8 [.int (iI (κ (184 + 26 * i_ + 0))), .int (iI (κ (184 + 26 * i_ + 1))), .int (iI (κ (184 + 26 * i_ + 8))), .int (iI (κ (184 + 26 * i_ + 9))), .int (iI (κ (184 + 26 * i_ + 5))), .int (iI (κ (184 + 26 * i_ + 2))), .int (iI (κ (184 + 26 * i_ + 3))), .int (iI (κ (184 + 26 * i_ + 4))), .int (iI (κ (184 + 26 * i_ + 10))), .int (iI (κ (184 + 26 * i_ + 6))), .int (iI (κ (184 + 26 * i_ + 11))), .int (iI (κ (184 + 26 * i_ + 12))), .int (iI (κ (184 + 26 * i_ + 14))), .int (iI (κ (184 + 26 * i_ + 15))), .int (iI (κ (184 + 26 * i_ + 16))), .int (iI (κ (184 + 26 * i_ + 7))), .int (iI (κ (184 + 26 * i_ + 13))), .ref ga, .ref gc]) := by rw [e_M3]; exact (hs_n (fun z => by have h9 := f2; rw [z, hq3a] at h9; cases h9)).trans f2
  have hq3b : M3 q3b = none := by rw [e_M3]; exact (hs_n ne0_3.symm).trans h0q3b
  obtain ⟨M6, e_M6⟩ : ∃ M6, M6 = hs M3 q3b (aI (G.2.1 0) 4 (fun (_ : Int) => (0 : Int))) := ⟨_, rfl⟩
  have f6 : M6 q3b = some (aI (G.2.1 0) 4 (fun (_ : Int) => (0 : Int))) := by rw [e_M6]; exact hs_s
  have f7 : M6 q3a = some (aI (G.2.1 0) 4 (fun (_ : Int) => (0 : Int))) := by rw [e_M6]; exact (hs_n (fun z => by have h9 := f3; rw [z, hq3b] at h9; cases h9)).trans f3
  have f8 : M6 q1 = some (oB 8 [.int (iI 0), .int (iI 0), .int (iI 0), .int (iI 0), .int (iI 0), .int (iI 0), .int (iI 0), .int (iI 0), .int (iI 0), .int (iI 0), .int (iI 0), .int (iI 0), .int (iI 0), .int (iI 0), .int (iI 0), .int (iI 0), .int (iI 0), .null, .null]) := by rw [e_M6]; exact (hs_n (fun z => by have h9 := f4; rw [z, hq3b] at h9; cases h9)).trans f4
  have f9 : M6 y_ = some (oB 8 [.int (iI (κ (184 + 26 * i_ + 0))), .int (iI (κ (184 + 26 * i_ + 1))), .int (iI (κ (184 + 26 * i_ + 8))), .int (iI (κ (184 + 26 * i_ + 9))), .int (iI (κ (184 + 26 * i_ + 5))), .int (iI (κ (184 + 26 * i_ + 2))), .int (iI (κ (184 + 26 * i_ + 3))), .int (iI (κ (184 + 26 * i_ + 4))), .int (iI (κ (184 + 26 * i_ + 10))), .int (iI (κ (184 + 26 * i_ + 6))), .int (iI (κ (184 + 26 * i_ + 11))), .int (iI (κ (184 + 26 * i_ + 12))), .int (iI (κ (184 + 26 * i_ + 14))), .int (iI (κ (184 + 26 * i_ + 15))), .int (iI (κ (184 + 26 * i_ + 16))), .int (iI (κ (184 + 26 * i_ + 7))), .int (iI (κ (184 + 26 * i_ + 13))), .ref ga, .ref gc]) := by rw [e_M6]; exact (hs_n (fun z => by have h9 := f5; rw [z, hq3b] at h9; cases h9)).trans f5
  have q_24 : M24_ = hs M6 q1 (oB 8 [.int (iI (κ (184 + 26 * i_ + 0))), .int (iI (κ (184 + 26 * i_ + 1))), .int (iI (κ (184 + 26 * i_ + 8))), .int (iI (κ (184 + 26 * i_ + 9))), .int (iI (κ (184 + 26 * i_ + 5))), .int (iI 0), .int (iI 0), .int (iI (κ (184 + 26 * i_ + 9))), .int (iI (-1)), .int (iI 0), .int (iI 0), .int (iI (-1)), .int (iI (-1)), .int (iI (-1)), .int (iI 0), .int (iI 0), .int (iI 0), .ref q3a, .ref q3b]) := by rw [e_M6, e_M3]; exact e0_3
  have e_M24_ := q_24
  have f10 : M24_ q1 = some (oB 8 [.int (iI (κ (184 + 26 * i_ + 0))), .int (iI (κ (184 + 26 * i_ + 1))), .int (iI (κ (184 + 26 * i_ + 8))), .int (iI (κ (184 + 26 * i_ + 9))), .int (iI (κ (184 + 26 * i_ + 5))), .int (iI 0), .int (iI 0), .int (iI (κ (184 + 26 * i_ + 9))), .int (iI (-1)), .int (iI 0), .int (iI 0), .int (iI (-1)), .int (iI (-1)), .int (iI (-1)), .int (iI 0), .int (iI 0), .int (iI 0), .ref q3a, .ref q3b]) := by rw [e_M24_]; exact hs_s
  have f11 : M24_ q3b = some (aI (G.2.1 0) 4 (fun (_ : Int) => (0 : Int))) := by rw [e_M24_]; exact (hs_n (ne_ao f6 f8)).trans f6
  have f12 : M24_ q3a = some (aI (G.2.1 0) 4 (fun (_ : Int) => (0 : Int))) := by rw [e_M24_]; exact (hs_n (ne_ao f7 f8)).trans f7
  refine W.widen (k := 3) (n := 27) (Nat.le_of_ble_eq_true rfl) (Nat.le_of_ble_eq_true rfl) ?_
  refine x_aret (r := some q1) hx hb hr (Or.inl ⟨_, rfl⟩) hlk hH dX9_fresh_27 ?_
  have t_q1 := hq1
  have t_q3a := hq3a
  rw [e_M1] at t_q3a
  obtain ⟨t_q3a, n_q3a_q1⟩ := hsn t_q3a
  have t_q3b := hq3b
  rw [e_M3] at t_q3b
  obtain ⟨t_q3b, n_q3b_q3a⟩ := hsn t_q3b
  rw [e_M1] at t_q3b
  obtain ⟨t_q3b, n_q3b_q1⟩ := hsn t_q3b
  have hfr : ∀ z, z ≠ q1 → z ≠ q3a → z ≠ q3b → M24_ z = M z := fun z z0 z1 z2 => by rw [e_M24_, hs_n z0, e_M6, hs_n z2, e_M3, hs_n z1, e_M1, hs_n z0]
  exact ⟨q1, q3a, q3b, rfl, t_q1, t_q3a, t_q3b, n_q3a_q1.symm, n_q3b_q1.symm, n_q3b_q3a.symm, hs3_of f10 f12 f11 hfr⟩
section FRR
variable {p : Program} {l : Launch} {e : Env} {R : Room} {s : State} {m : MethodId} {args : Array Value} {below : List Frame} {meth : Method} {c : Code} {H : Heap} {locs : List Loc} {cells slots : Nat} {Q : State → Prop}
variable {cc : ByteArray} {pc : Nat} {ls : Array Slot} {rest : List Value} {G : MG} {A : Nat → Prop} {M : Hp} {H0 : Heap} {index nL : Nat} {own : String} {b : Nat} {κ : Int → Int} {i_ : Int} {ga gc : Nat}
theorem kd_fresh : "BrothFlasks$Flask" ≠ "java/lang/invoke/MethodHandle" ∧ "BrothFlasks$Flask" ≠ "java/lang/invoke/VarHandle" ∧ (parseMethodDescriptor "()LBrothFlasks$Flask;").map (fun d => d.parameters.length) = some 0 := by decide +kernel
theorem fr_run (S : CallFix p m c cc nL s args lw_all own) (hH : XV G A M H0 H locs) (hK : va_K G.1 clA (tyA G.2.1) s) (hXN : XN s) (hsz : ls.size = nL) (hr : M b = some (oB (fci (κ (184 + 26 * i_ + 1))) (fGI κ i_ ga gc))) (hq : (Cond.methodLink own index ⟨"BrothFlasks$Flask", "fresh", "()LBrothFlasks$Flask;"⟩) ∈ lw_all) (d : decode cc pc = .ok (.invokevirtual index, 3)) (hR : (rmX 6 3 27).frames + 1 ≤ R.frames ∧ 8 + (1 + 11) + (rmX 6 3 27).locals ≤ R.locals) (hf : cells + 3 ≤ R.cells ∧ slots + 27 ≤ R.slots) (hW : (rest.map fun v => v.category).sum ≤ 8) :
    va_Run p l e R s m args below meth c H locs cells slots 3 27 (F0 m pc ls (.ref b :: rest)) rest (xQq G (DA M H.size) (fun r M' => ∃ q g1 g2, r = some q ∧ M q = none ∧ M g1 = none ∧ M g2 = none ∧ q ≠ g1 ∧ q ≠ g2 ∧ g1 ≠ g2 ∧ M' = hs (hs (hs M g1 (aI (G.2.1 0) 4 (fun _ => 0))) g2 (aI (G.2.1 0) 4 (fun _ => 0))) q (oB (fci (κ (184 + 26 * i_ + 1))) [.int (iI (κ (184 + 26 * i_ + 0))), .int (iI (κ (184 + 26 * i_ + 1))), .int (iI (κ (184 + 26 * i_ + 8))), .int (iI (κ (184 + 26 * i_ + 9))), .int (iI (κ (184 + 26 * i_ + 5))), .int (iI 0), .int (iI 0), .int (iI (κ (184 + 26 * i_ + 9))), .int (iI (-1)), .int (iI 0), .int (iI 0), .int (iI (-1)), .int (iI (-1)), .int (iI (-1)), .int (iI 0), .int (iI 0), .int (iI 0), .ref g1, .ref g2])) [.ref b].toArray) (DA M H.size) := by
  by_cases h1 : κ (184 + 26 * i_ + 1) = 1
  · have e1 : fci (κ (184 + 26 * i_ + 1)) = 7 := if_pos h1
    rw [e1] at hr
    rw [e1]
    exact x_runA (As := []) (n := 0) S hH hK hXN hsz hr rfl (xm_X8_fresh l G M κ i_ ga gc b H.size hr h1) (lw_U hq q1438 q1449 q1450 q113 q1451) q1437 kd_fresh rfl rfl d rfl rfl rfl hR hW hf
  · by_cases h2 : κ (184 + 26 * i_ + 1) = 0 ∨ κ (184 + 26 * i_ + 1) = 3
    · have e1 : fci (κ (184 + 26 * i_ + 1)) = 6 := by unfold fci; rw [if_neg h1, if_pos h2]
      rw [e1] at hr
      rw [e1]
      exact x_runA (As := []) (n := 0) S hH hK hXN hsz hr rfl (xm_X7_fresh l G M κ i_ ga gc b H.size hr) (lw_U hq q1438 q1439 q1440 q112 q1441) q1437 kd_fresh rfl rfl d rfl rfl rfl hR hW hf
    · have e1 : fci (κ (184 + 26 * i_ + 1)) = 8 := by unfold fci; rw [if_neg h1, if_neg h2]
      rw [e1] at hr
      rw [e1]
      exact x_runA (As := []) (n := 0) S hH hK hXN hsz hr rfl (xm_X9_fresh l G M κ i_ ga gc b H.size hr) (lw_U hq q1438 q1444 q1445 q114 q1446) q1437 kd_fresh rfl rfl d rfl rfl rfl hR hW hf
end FRR
