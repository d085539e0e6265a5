/-! the cells by their places -/
section RXC
variable {G : MG} {M : Hp} {a : Nat} {σ : St} {x : XGh} {ω : XCt}
theorem RX.b8 (h : RX G M a σ x ω) : M (gb x 0 8) = some (aQ (G.2.1 5) 8 (gq ω 0 8)) := h.b 8 (by decide)
theorem RX.b9 (h : RX G M a σ x ω) : M (gb x 0 9) = some (aQ (G.2.1 6) 40 (gq ω 0 9)) := h.b 9 (by decide)
theorem RX.b10 (h : RX G M a σ x ω) : M (gb x 0 10) = some (aQ (G.2.1 7) 40 (gq ω 0 10)) := h.b 10 (by decide)
theorem RX.b11 (h : RX G M a σ x ω) : M (gb x 0 11) = some (aQ (G.2.1 8) 12 (gq ω 0 11)) := h.b 11 (by decide)
theorem RX.b12 (h : RX G M a σ x ω) : M (gb x 0 12) = some (aQ (G.2.1 9) 12 (gq ω 0 12)) := h.b 12 (by decide)
theorem RX.b13 (h : RX G M a σ x ω) : M (gb x 0 13) = some (aI (G.2.1 0) 9 (gz ω 0 13)) := h.b 13 (by decide)
theorem RX.b14 (h : RX G M a σ x ω) : M (gb x 0 14) = some (aI (G.2.1 0) 9 (gz ω 0 14)) := h.b 14 (by decide)
theorem RX.b15 (h : RX G M a σ x ω) : M (gb x 0 15) = some (aI (G.2.1 0) 6 (gz ω 0 15)) := h.b 15 (by decide)
theorem RX.b16 (h : RX G M a σ x ω) : M (gb x 0 16) = some (aI (G.2.1 0) 6 (gz ω 0 16)) := h.b 16 (by decide)
theorem RX.b17 (h : RX G M a σ x ω) : M (gb x 0 17) = some (aI (G.2.1 0) 6 (gz ω 0 17)) := h.b 17 (by decide)
theorem RX.b18 (h : RX G M a σ x ω) : M (gb x 0 18) = some (aI (G.2.1 0) 6 (gz ω 0 18)) := h.b 18 (by decide)
theorem RX.b19 (h : RX G M a σ x ω) : M (gb x 0 19) = some (aI (G.2.1 0) 4 (gz ω 0 19)) := h.b 19 (by decide)
theorem RX.b20 (h : RX G M a σ x ω) : M (gb x 0 20) = some (aI (G.2.1 0) 12 (gz ω 0 20)) := h.b 20 (by decide)
theorem RX.b21 (h : RX G M a σ x ω) : M (gb x 0 21) = some (aI (G.2.1 0) 96 (gz ω 0 21)) := h.b 21 (by decide)
theorem RX.p2 (h : RX G M a σ x ω) : M (gp x 2) = some (aI (G.2.1 0) 7 (gy ω 2)) := h.p 2 (by decide)
theorem RX.p5 (h : RX G M a σ x ω) : M (gp x 5) = some (aI (G.2.1 1) 400 (gy ω 5)) := h.p 5 (by decide)
theorem RX.p9 (h : RX G M a σ x ω) : M (gp x 9) = some (aI (G.2.1 0) 12 (gy ω 9)) := h.p 9 (by decide)
theorem RX.p10 (h : RX G M a σ x ω) : M (gp x 10) = some (aI (G.2.1 0) 4096 (gy ω 10)) := h.p 10 (by decide)
theorem RX.p22 (h : RX G M a σ x ω) : M (gp x 22) = some (aI (G.2.1 0) 9 (gy ω 22)) := h.p 22 (by decide)
theorem RX.p23 (h : RX G M a σ x ω) : M (gp x 23) = some (aI (G.2.1 0) 9 (gy ω 23)) := h.p 23 (by decide)
theorem RX.p1 (h : RX G M a σ x ω) : M (gp x 1) = some (aQ (G.2.1 4) 2 (gn ω 1)) := h.p 1 (by decide)
theorem RX.p24 (h : RX G M a σ x ω) : M (gp x 24) = some (aQ (G.2.1 10) 50 (gn ω 24)) := h.p 24 (by decide)
theorem RX.p25 (h : RX G M a σ x ω) : M (gp x 25) = some (aQ (G.2.1 12) 9 (wdF G 0)) := h.p 25 (by decide)
theorem RX.p26 (h : RX G M a σ x ω) : M (gp x 26) = some (aQ (G.2.1 12) 7 (wdF G 9)) := h.p 26 (by decide)
theorem RX.p27 (h : RX G M a σ x ω) : M (gp x 27) = some (aQ (G.2.1 12) 5 (wdF G 16)) := h.p 27 (by decide)
theorem RX.p4 (h : RX G M a σ x ω) : M (gp x 4) = some (oB 3 [.ref (gp x 22), .int (iI 0)]) := h.p 4 (by decide)
theorem RX.p11 (h : RX G M a σ x ω) : M (gp x 11) = some (oB 3 [.ref (gp x 23), .int (iI 0)]) := h.p 11 (by decide)
end RXC
theorem kd_X0_in : yX0_in.cls = RX0 ∧ yX0_in.cls ≠ "java/lang/invoke/MethodHandle" ∧ yX0_in.cls ≠ "java/lang/invoke/VarHandle" ∧ (parseMethodDescriptor yX0_in.desc).map (fun d => d.parameters.length) = some 3 := by decide +kernel
theorem xm_X0_in (l : Launch) (G : MG) (M : Hp) (v : Int) (low : Int) (high : Int) (sz : Nat) (h_v : R64 v) (h_low : R64 low) (h_high : R64 high) : Met l yX0_in (ws_ yX0_in cX0_in 6 (some .boolean)) (rmD 1) (xP G XN [.long (lI v), .long (lI low), .long (lI high)] M sz) (xQi G (DA M sz) (fun z M' => z = zb (low ≤ v ∧ v ≤ high) ∧ M' = M)) 0 0 (DA M sz) := by
  refine x_start (by decide) (Nat.le_of_ble_eq_true rfl) ?_
  intro p e s m below meth c ⟨S, hr, hlk, hH, hK, hXN, hsz, hnm⟩ ls hl
  subst hsz
  obtain ⟨hx, hb, hml, hown, hts⟩ := S
  have S : CallFix p m c _ _ s _ lw_all RX0 := ⟨hx, hb, hml, hown, hts⟩
  have hA : ∀ q, s.heap.size ≤ q → DA M s.heap.size q := fun q hq => Or.inr hq
  have hl : lv_has ls 6 [(0, .long (lI v)), (2, .long (lI low)), (4, .long (lI high))] := hl
  unfold R64 at h_v h_low h_high
  refine lv_lload_n hx hb dX0_in_0 rfl (lv_at hl 0 rfl) ?_
  refine lv_lload_n hx hb dX0_in_1 rfl (lv_at hl 1 rfl) ?_
  refine n_lcmp_lt (tgt := 17) hx hb (r64 (by omega)) (r64 (by omega)) dX0_in_2 dX0_in_3 (by decide) (fun c_2 => ?_) (fun c_2 => ?_)
  · -- 2T
    refine n_iconst hx hb dX0_in_17 ?_
    refine x_zret hx hb hr hlk hH dX0_in_18 (Or.inl rfl) ?_
    refine ⟨?_, rfl⟩
    first | exact (zb_t (by omega)).symm | exact (zb_f (by omega)).symm
  · -- 2F
    refine lv_lload_n hx hb dX0_in_6 rfl (lv_at hl 0 rfl) ?_
    refine lv_lload hx hb dX0_in_7 (lv_at hl 2 rfl) ?_
    refine n_lcmp_gt (tgt := 17) hx hb (r64 (by omega)) (r64 (by omega)) dX0_in_9 dX0_in_10 (by decide) (fun c_9 => ?_) (fun c_9 => ?_)
    · -- 9T
      refine n_iconst hx hb dX0_in_17 ?_
      refine x_zret hx hb hr hlk hH dX0_in_18 (Or.inl rfl) ?_
      refine ⟨?_, rfl⟩
      first | exact (zb_t (by omega)).symm | exact (zb_f (by omega)).symm
    · -- 9F
      refine n_iconst hx hb dX0_in_13 ?_
      refine lv_goto (tgt := 18) hx hb dX0_in_14 (by decide) ?_
      refine x_zret hx hb hr hlk hH dX0_in_18 (Or.inr rfl) ?_
      refine ⟨?_, rfl⟩
      first | exact (zb_t (by omega)).symm | exact (zb_f (by omega)).symm
theorem kd_X0_isKind : yX0_isKind.cls = RX0 ∧ yX0_isKind.cls ≠ "java/lang/invoke/MethodHandle" ∧ yX0_isKind.cls ≠ "java/lang/invoke/VarHandle" ∧ (parseMethodDescriptor yX0_isKind.desc).map (fun d => d.parameters.length) = some 1 := by decide +kernel
theorem xm_X0_isKind (l : Launch) (G : MG) (M : Hp) (σ : St) (x : XGh) (ω : XCt) (a : Nat) (k : Int) (sz : Nat) (hR : RX G M a σ x ω) (h_k : R32 k) (h0 : 0 ≤ σ 2 1752) (h1 : σ 2 1752 ≤ 1000) : Met l yX0_isKind (ws_ yX0_isKind cX0_isKind 2 (some .boolean)) (rmD 2) (xP G XN [.ref a, .int (iI k)] M sz) (xQi G (DA M sz) (fun z M' => z = zb (0 ≤ k ∧ k ≤ σ 2 1752 - 1) ∧ M' = M)) 0 0 (DA M sz) := by
  refine x_start (by decide) (Nat.le_of_ble_eq_true rfl) ?_
  intro p e s m below meth c ⟨S, hr, hlk, hH, hK, hXN, hsz, hnm⟩ ls hl
  subst hsz
  obtain ⟨hx, hb, hml, hown, hts⟩ := S
  have S : CallFix p m c _ _ s _ lw_all RX0 := ⟨hx, hb, hml, hown, hts⟩
  have hA : ∀ q, s.heap.size ≤ q → DA M s.heap.size q := fun q hq => Or.inr hq
  have hl : lv_has ls 2 [(0, .ref a), (1, .int (iI k))] := hl
  have h_k := R32.n h_k
  refine lv_iload_n hx hb dX0_isKind_0 rfl (lv_at hl 1 rfl) ?_
  refine n_i2l hx hb (r32 (by omega)) dX0_isKind_1 ?_
  refine n_lconst (z := 0) hx hb dX0_isKind_2 (by decide) ?_
  refine lv_aload_n hx hb dX0_isKind_3 rfl (lv_at hl 0 rfl) ?_
  refine x_get hx hb hts in_X0 hown hK hH hR.o rfl 0 (by decide) q339 (fun _ h9 => h9) rfl (by decide) dX0_isKind_4 ?_
  refine x_getN hx hb hts in_X1 hown hK hH hR.b0 rfl 1 (by decide) hXN q164 (fun _ h9 => h9) rfl (by decide) dX0_isKind_7 ?_
  refine n_iconst hx hb dX0_isKind_10 ?_
  refine n_isub hx hb dX0_isKind_11 ?_
  refine n_i2l hx hb (r32 (by omega)) dX0_isKind_12 ?_
  refine x_calliF (x_runS (As := [.long (lI k), .long (lI 0), .long (lI ((σ 2 1752) - 1))]) (rest := []) S hH hK (fun _ _ hW => XN.warm hW hXN) XN_b hl.1 (xm_X0_in l G M k 0 ((σ 2 1752) - 1) _ (r64 (by omega)) (r64 (by omega)) (r64 (by omega))) (lw_S q386 q387 q105 q388) kd_X0_in rfl rfl dX0_isKind_13) hH hA (fun H locs hH => ?_)
  refine x_zret hx hb hr hlk hH dX0_isKind_16 zb_01 ?_
  exact ⟨rfl, rfl⟩
theorem kd_X0_isFlask : yX0_isFlask.cls = RX0 ∧ yX0_isFlask.cls ≠ "java/lang/invoke/MethodHandle" ∧ yX0_isFlask.cls ≠ "java/lang/invoke/VarHandle" ∧ (parseMethodDescriptor yX0_isFlask.desc).map (fun d => d.parameters.length) = some 1 := by decide +kernel
theorem xm_X0_isFlask (l : Launch) (G : MG) (M : Hp) (σ : St) (x : XGh) (ω : XCt) (a : Nat) (k : Int) (sz : Nat) (hR : RX G M a σ x ω) (h_k : R32 k) (h0 : 0 ≤ σ 2 1753) (h1 : σ 2 1753 ≤ 1000) : Met l yX0_isFlask (ws_ yX0_isFlask cX0_isFlask 2 (some .boolean)) (rmD 2) (xP G XN [.ref a, .int (iI k)] M sz) (xQi G (DA M sz) (fun z M' => z = zb (0 ≤ k ∧ k ≤ σ 2 1753 - 1) ∧ M' = M)) 0 0 (DA M sz) := by
  refine x_start (by decide) (Nat.le_of_ble_eq_true rfl) ?_
  intro p e s m below meth c ⟨S, hr, hlk, hH, hK, hXN, hsz, hnm⟩ ls hl
  subst hsz
  obtain ⟨hx, hb, hml, hown, hts⟩ := S
  have S : CallFix p m c _ _ s _ lw_all RX0 := ⟨hx, hb, hml, hown, hts⟩
  have hA : ∀ q, s.heap.size ≤ q → DA M s.heap.size q := fun q hq => Or.inr hq
  have hl : lv_has ls 2 [(0, .ref a), (1, .int (iI k))] := hl
  have h_k := R32.n h_k
  refine lv_iload_n hx hb dX0_isFlask_0 rfl (lv_at hl 1 rfl) ?_
  refine n_i2l hx hb (r32 (by omega)) dX0_isFlask_1 ?_
  refine n_lconst (z := 0) hx hb dX0_isFlask_2 (by decide) ?_
  refine lv_aload_n hx hb dX0_isFlask_3 rfl (lv_at hl 0 rfl) ?_
  refine x_get hx hb hts in_X0 hown hK hH hR.o rfl 0 (by decide) q339 (fun _ h9 => h9) rfl (by decide) dX0_isFlask_4 ?_
  refine x_getN hx hb hts in_X1 hown hK hH hR.b0 rfl 2 (by decide) hXN q166 (fun _ h9 => h9) rfl (by decide) dX0_isFlask_7 ?_
  refine n_iconst hx hb dX0_isFlask_10 ?_
  refine n_isub hx hb dX0_isFlask_11 ?_
  refine n_i2l hx hb (r32 (by omega)) dX0_isFlask_12 ?_
  refine x_calliF (x_runS (As := [.long (lI k), .long (lI 0), .long (lI ((σ 2 1753) - 1))]) (rest := []) S hH hK (fun _ _ hW => XN.warm hW hXN) XN_b hl.1 (xm_X0_in l G M k 0 ((σ 2 1753) - 1) _ (r64 (by omega)) (r64 (by omega)) (r64 (by omega))) (lw_S q386 q387 q105 q388) kd_X0_in rfl rfl dX0_isFlask_13) hH hA (fun H locs hH => ?_)
  refine x_zret hx hb hr hlk hH dX0_isFlask_16 zb_01 ?_
  exact ⟨rfl, rfl⟩
theorem kd_X0_isLook : yX0_isLook.cls = RX0 ∧ yX0_isLook.cls ≠ "java/lang/invoke/MethodHandle" ∧ yX0_isLook.cls ≠ "java/lang/invoke/VarHandle" ∧ (parseMethodDescriptor yX0_isLook.desc).map (fun d => d.parameters.length) = some 1 := by decide +kernel
theorem xm_X0_isLook (l : Launch) (G : MG) (M : Hp) (σ : St) (x : XGh) (ω : XCt) (a : Nat) (k : Int) (sz : Nat) (hR : RX G M a σ x ω) (h_k : R32 k) (h0 : 0 ≤ σ 2 1754) (h1 : σ 2 1754 ≤ 1000) : Met l yX0_isLook (ws_ yX0_isLook cX0_isLook 2 (some .boolean)) (rmD 2) (xP G XN [.ref a, .int (iI k)] M sz) (xQi G (DA M sz) (fun z M' => z = zb (0 ≤ k ∧ k ≤ σ 2 1754 - 1) ∧ M' = M)) 0 0 (DA M sz) := by
  refine x_start (by decide) (Nat.le_of_ble_eq_true rfl) ?_
  intro p e s m below meth c ⟨S, hr, hlk, hH, hK, hXN, hsz, hnm⟩ ls hl
  subst hsz
  obtain ⟨hx, hb, hml, hown, hts⟩ := S
  have S : CallFix p m c _ _ s _ lw_all RX0 := ⟨hx, hb, hml, hown, hts⟩
  have hA : ∀ q, s.heap.size ≤ q → DA M s.heap.size q := fun q hq => Or.inr hq
  have hl : lv_has ls 2 [(0, .ref a), (1, .int (iI k))] := hl
  have h_k := R32.n h_k
  refine lv_iload_n hx hb dX0_isLook_0 rfl (lv_at hl 1 rfl) ?_
  refine n_i2l hx hb (r32 (by omega)) dX0_isLook_1 ?_
  refine n_lconst (z := 0) hx hb dX0_isLook_2 (by decide) ?_
  refine lv_aload_n hx hb dX0_isLook_3 rfl (lv_at hl 0 rfl) ?_
  refine x_get hx hb hts in_X0 hown hK hH hR.o rfl 0 (by decide) q339 (fun _ h9 => h9) rfl (by decide) dX0_isLook_4 ?_
  refine x_getN hx hb hts in_X1 hown hK hH hR.b0 rfl 3 (by decide) hXN q168 (fun _ h9 => h9) rfl (by decide) dX0_isLook_7 ?_
  refine n_iconst hx hb dX0_isLook_10 ?_
  refine n_isub hx hb dX0_isLook_11 ?_
  refine n_i2l hx hb (r32 (by omega)) dX0_isLook_12 ?_
  refine x_calliF (x_runS (As := [.long (lI k), .long (lI 0), .long (lI ((σ 2 1754) - 1))]) (rest := []) S hH hK (fun _ _ hW => XN.warm hW hXN) XN_b hl.1 (xm_X0_in l G M k 0 ((σ 2 1754) - 1) _ (r64 (by omega)) (r64 (by omega)) (r64 (by omega))) (lw_S q386 q387 q105 q388) kd_X0_in rfl rfl dX0_isLook_13) hH hA (fun H locs hH => ?_)
  refine x_zret hx hb hr hlk hH dX0_isLook_16 zb_01 ?_
  exact ⟨rfl, rfl⟩
theorem kd_X0_isTrial : yX0_isTrial.cls = RX0 ∧ yX0_isTrial.cls ≠ "java/lang/invoke/MethodHandle" ∧ yX0_isTrial.cls ≠ "java/lang/invoke/VarHandle" ∧ (parseMethodDescriptor yX0_isTrial.desc).map (fun d => d.parameters.length) = some 1 := by decide +kernel
theorem xm_X0_isTrial (l : Launch) (G : MG) (M : Hp) (σ : St) (x : XGh) (ω : XCt) (a : Nat) (k : Int) (sz : Nat) (hR : RX G M a σ x ω) (h_k : R32 k) (h0 : 0 ≤ σ 2 1755) (h1 : σ 2 1755 ≤ 1000) : Met l yX0_isTrial (ws_ yX0_isTrial cX0_isTrial 2 (some .boolean)) (rmD 2) (xP G XN [.ref a, .int (iI k)] M sz) (xQi G (DA M sz) (fun z M' => z = zb (0 ≤ k ∧ k ≤ σ 2 1755 - 1) ∧ M' = M)) 0 0 (DA M sz) := by
  refine x_start (by decide) (Nat.le_of_ble_eq_true rfl) ?_
  intro p e s m below meth c ⟨S, hr, hlk, hH, hK, hXN, hsz, hnm⟩ ls hl
  subst hsz
  obtain ⟨hx, hb, hml, hown, hts⟩ := S
  have S : CallFix p m c _ _ s _ lw_all RX0 := ⟨hx, hb, hml, hown, hts⟩
  have hA : ∀ q, s.heap.size ≤ q → DA M s.heap.size q := fun q hq => Or.inr hq
  have hl : lv_has ls 2 [(0, .ref a), (1, .int (iI k))] := hl
  have h_k := R32.n h_k
  refine lv_iload_n hx hb dX0_isTrial_0 rfl (lv_at hl 1 rfl) ?_
  refine n_i2l hx hb (r32 (by omega)) dX0_isTrial_1 ?_
  refine n_lconst (z := 0) hx hb dX0_isTrial_2 (by decide) ?_
  refine lv_aload_n hx hb dX0_isTrial_3 rfl (lv_at hl 0 rfl) ?_
  refine x_get hx hb hts in_X0 hown hK hH hR.o rfl 0 (by decide) q339 (fun _ h9 => h9) rfl (by decide) dX0_isTrial_4 ?_
  refine x_getN hx hb hts in_X1 hown hK hH hR.b0 rfl 4 (by decide) hXN q170 (fun _ h9 => h9) rfl (by decide) dX0_isTrial_7 ?_
  refine n_iconst hx hb dX0_isTrial_10 ?_
  refine n_isub hx hb dX0_isTrial_11 ?_
  refine n_i2l hx hb (r32 (by omega)) dX0_isTrial_12 ?_
  refine x_calliF (x_runS (As := [.long (lI k), .long (lI 0), .long (lI ((σ 2 1755) - 1))]) (rest := []) S hH hK (fun _ _ hW => XN.warm hW hXN) XN_b hl.1 (xm_X0_in l G M k 0 ((σ 2 1755) - 1) _ (r64 (by omega)) (r64 (by omega)) (r64 (by omega))) (lw_S q386 q387 q105 q388) kd_X0_in rfl rfl dX0_isTrial_13) hH hA (fun H locs hH => ?_)
  refine x_zret hx hb hr hlk hH dX0_isTrial_16 zb_01 ?_
  exact ⟨rfl, rfl⟩
theorem kd_X0_isText : yX0_isText.cls = RX0 ∧ yX0_isText.cls ≠ "java/lang/invoke/MethodHandle" ∧ yX0_isText.cls ≠ "java/lang/invoke/VarHandle" ∧ (parseMethodDescriptor yX0_isText.desc).map (fun d => d.parameters.length) = some 1 := by decide +kernel
theorem xm_X0_isText (l : Launch) (G : MG) (M : Hp) (σ : St) (x : XGh) (ω : XCt) (a : Nat) (k : Int) (sz : Nat) (hR : RX G M a σ x ω) (h_k : R32 k) (h0 : 0 ≤ σ 2 1756) (h1 : σ 2 1756 ≤ 1000) : Met l yX0_isText (ws_ yX0_isText cX0_isText 2 (some .boolean)) (rmD 2) (xP G XN [.ref a, .int (iI k)] M sz) (xQi G (DA M sz) (fun z M' => z = zb (0 ≤ k ∧ k ≤ σ 2 1756 - 1) ∧ M' = M)) 0 0 (DA M sz) := by
  refine x_start (by decide) (Nat.le_of_ble_eq_true rfl) ?_
  intro p e s m below meth c ⟨S, hr, hlk, hH, hK, hXN, hsz, hnm⟩ ls hl
  subst hsz
  obtain ⟨hx, hb, hml, hown, hts⟩ := S
  have S : CallFix p m c _ _ s _ lw_all RX0 := ⟨hx, hb, hml, hown, hts⟩
  have hA : ∀ q, s.heap.size ≤ q → DA M s.heap.size q := fun q hq => Or.inr hq
  have hl : lv_has ls 2 [(0, .ref a), (1, .int (iI k))] := hl
  have h_k := R32.n h_k
  refine lv_iload_n hx hb dX0_isText_0 rfl (lv_at hl 1 rfl) ?_
  refine n_i2l hx hb (r32 (by omega)) dX0_isText_1 ?_
  refine n_lconst (z := 0) hx hb dX0_isText_2 (by decide) ?_
  refine lv_aload_n hx hb dX0_isText_3 rfl (lv_at hl 0 rfl) ?_
  refine x_get hx hb hts in_X0 hown hK hH hR.o rfl 0 (by decide) q339 (fun _ h9 => h9) rfl (by decide) dX0_isText_4 ?_
  refine x_getN hx hb hts in_X1 hown hK hH hR.b0 rfl 5 (by decide) hXN q172 (fun _ h9 => h9) rfl (by decide) dX0_isText_7 ?_
  refine n_iconst hx hb dX0_isText_10 ?_
  refine n_isub hx hb dX0_isText_11 ?_
  refine n_i2l hx hb (r32 (by omega)) dX0_isText_12 ?_
  refine x_calliF (x_runS (As := [.long (lI k), .long (lI 0), .long (lI ((σ 2 1756) - 1))]) (rest := []) S hH hK (fun _ _ hW => XN.warm hW hXN) XN_b hl.1 (xm_X0_in l G M k 0 ((σ 2 1756) - 1) _ (r64 (by omega)) (r64 (by omega)) (r64 (by omega))) (lw_S q386 q387 q105 q388) kd_X0_in rfl rfl dX0_isText_13) hH hA (fun H locs hH => ?_)
  refine x_zret hx hb hr hlk hH dX0_isText_16 zb_01 ?_
  exact ⟨rfl, rfl⟩
theorem kd_X0_isCommission : yX0_isCommission.cls = RX0 ∧ yX0_isCommission.cls ≠ "java/lang/invoke/MethodHandle" ∧ yX0_isCommission.cls ≠ "java/lang/invoke/VarHandle" ∧ (parseMethodDescriptor yX0_isCommission.desc).map (fun d => d.parameters.length) = some 1 := by decide +kernel
theorem xm_X0_isCommission (l : Launch) (G : MG) (M : Hp) (σ : St) (x : XGh) (ω : XCt) (a : Nat) (k : Int) (sz : Nat) (hR : RX G M a σ x ω) (h_k : R32 k) (h0 : 0 ≤ σ 2 1757) (h1 : σ 2 1757 ≤ 1000) : Met l yX0_isCommission (ws_ yX0_isCommission cX0_isCommission 2 (some .boolean)) (rmD 2) (xP G XN [.ref a, .int (iI k)] M sz) (xQi G (DA M sz) (fun z M' => z = zb (0 ≤ k ∧ k ≤ σ 2 1757 - 1) ∧ M' = M)) 0 0 (DA M sz) := by
  refine x_start (by decide) (Nat.le_of_ble_eq_true rfl) ?_
  intro p e s m below meth c ⟨S, hr, hlk, hH, hK, hXN, hsz, hnm⟩ ls hl
  subst hsz
  obtain ⟨hx, hb, hml, hown, hts⟩ := S
  have S : CallFix p m c _ _ s _ lw_all RX0 := ⟨hx, hb, hml, hown, hts⟩
  have hA : ∀ q, s.heap.size ≤ q → DA M s.heap.size q := fun q hq => Or.inr hq
  have hl : lv_has ls 2 [(0, .ref a), (1, .int (iI k))] := hl
  have h_k := R32.n h_k
  refine lv_iload_n hx hb dX0_isCommission_0 rfl (lv_at hl 1 rfl) ?_
  refine n_i2l hx hb (r32 (by omega)) dX0_isCommission_1 ?_
  refine n_lconst (z := 0) hx hb dX0_isCommission_2 (by decide) ?_
  refine lv_aload_n hx hb dX0_isCommission_3 rfl (lv_at hl 0 rfl) ?_
  refine x_get hx hb hts in_X0 hown hK hH hR.o rfl 0 (by decide) q339 (fun _ h9 => h9) rfl (by decide) dX0_isCommission_4 ?_
  refine x_getN hx hb hts in_X1 hown hK hH hR.b0 rfl 6 (by decide) hXN q174 (fun _ h9 => h9) rfl (by decide) dX0_isCommission_7 ?_
  refine n_iconst hx hb dX0_isCommission_10 ?_
  refine n_isub hx hb dX0_isCommission_11 ?_
  refine n_i2l hx hb (r32 (by omega)) dX0_isCommission_12 ?_
  refine x_calliF (x_runS (As := [.long (lI k), .long (lI 0), .long (lI ((σ 2 1757) - 1))]) (rest := []) S hH hK (fun _ _ hW => XN.warm hW hXN) XN_b hl.1 (xm_X0_in l G M k 0 ((σ 2 1757) - 1) _ (r64 (by omega)) (r64 (by omega)) (r64 (by omega))) (lw_S q386 q387 q105 q388) kd_X0_in rfl rfl dX0_isCommission_13) hH hA (fun H locs hH => ?_)
  refine x_zret hx hb hr hlk hH dX0_isCommission_16 zb_01 ?_
  exact ⟨rfl, rfl⟩
theorem kd_X0_isPlace : yX0_isPlace.cls = RX0 ∧ yX0_isPlace.cls ≠ "java/lang/invoke/MethodHandle" ∧ yX0_isPlace.cls ≠ "java/lang/invoke/VarHandle" ∧ (parseMethodDescriptor yX0_isPlace.desc).map (fun d => d.parameters.length) = some 1 := by decide +kernel
theorem xm_X0_isPlace (l : Launch) (G : MG) (M : Hp) (k : Int) (sz : Nat) (h_k : R32 k) : Met l yX0_isPlace (ws_ yX0_isPlace cX0_isPlace 1 (some .boolean)) (rmD 2) (xP G XN [.int (iI k)] M sz) (xQi G (DA M sz) (fun z M' => z = zb (0 ≤ k ∧ k ≤ 11) ∧ M' = M)) 0 0 (DA M sz) := by
  refine x_start (by decide) (Nat.le_of_ble_eq_true rfl) ?_
  intro p e s m below meth c ⟨S, hr, hlk, hH, hK, hXN, hsz, hnm⟩ ls hl
  subst hsz
  obtain ⟨hx, hb, hml, hown, hts⟩ := S
  have S : CallFix p m c _ _ s _ lw_all RX0 := ⟨hx, hb, hml, hown, hts⟩
  have hA : ∀ q, s.heap.size ≤ q → DA M s.heap.size q := fun q hq => Or.inr hq
  have hl : lv_has ls 1 [(0, .int (iI k))] := hl
  have h_k := R32.n h_k
  refine lv_iload_n hx hb dX0_isPlace_0 rfl (lv_at hl 0 rfl) ?_
  refine n_i2l hx hb (r32 (by omega)) dX0_isPlace_1 ?_
  refine n_lconst (z := 0) hx hb dX0_isPlace_2 (by decide) ?_
  refine lv_ldc2 (v := lI 11) hx hb hown (hts _ q439) dX0_isPlace_3 ?_
  refine x_calliF (x_runS (As := [.long (lI k), .long (lI 0), .long (lI 11)]) (rest := []) S hH hK (fun _ _ hW => XN.warm hW hXN) XN_b hl.1 (xm_X0_in l G M k 0 11 _ (r64 (by omega)) (r64 (by omega)) (r64 (by omega))) (lw_S q386 q387 q105 q388) kd_X0_in rfl rfl dX0_isPlace_6) hH hA (fun H locs hH => ?_)
  refine x_zret hx hb hr hlk hH dX0_isPlace_9 zb_01 ?_
  exact ⟨rfl, rfl⟩
theorem kd_X0_isHand : yX0_isHand.cls = RX0 ∧ yX0_isHand.cls ≠ "java/lang/invoke/MethodHandle" ∧ yX0_isHand.cls ≠ "java/lang/invoke/VarHandle" ∧ (parseMethodDescriptor yX0_isHand.desc).map (fun d => d.parameters.length) = some 1 := by decide +kernel
theorem xm_X0_isHand (l : Launch) (G : MG) (M : Hp) (k : Int) (sz : Nat) (h_k : R32 k) : Met l yX0_isHand (ws_ yX0_isHand cX0_isHand 1 (some .boolean)) (rmD 2) (xP G XN [.int (iI k)] M sz) (xQi G (DA M sz) (fun z M' => z = zb (0 ≤ k ∧ k ≤ 3) ∧ M' = M)) 0 0 (DA M sz) := by
  refine x_start (by decide) (Nat.le_of_ble_eq_true rfl) ?_
  intro p e s m below meth c ⟨S, hr, hlk, hH, hK, hXN, hsz, hnm⟩ ls hl
  subst hsz
  obtain ⟨hx, hb, hml, hown, hts⟩ := S
  have S : CallFix p m c _ _ s _ lw_all RX0 := ⟨hx, hb, hml, hown, hts⟩
  have hA : ∀ q, s.heap.size ≤ q → DA M s.heap.size q := fun q hq => Or.inr hq
  have hl : lv_has ls 1 [(0, .int (iI k))] := hl
  have h_k := R32.n h_k
  refine lv_iload_n hx hb dX0_isHand_0 rfl (lv_at hl 0 rfl) ?_
  refine n_i2l hx hb (r32 (by omega)) dX0_isHand_1 ?_
  refine n_lconst (z := 0) hx hb dX0_isHand_2 (by decide) ?_
  refine lv_ldc2 (v := lI 3) hx hb hown (hts _ q392) dX0_isHand_3 ?_
  refine x_calliF (x_runS (As := [.long (lI k), .long (lI 0), .long (lI 3)]) (rest := []) S hH hK (fun _ _ hW => XN.warm hW hXN) XN_b hl.1 (xm_X0_in l G M k 0 3 _ (r64 (by omega)) (r64 (by omega)) (r64 (by omega))) (lw_S q386 q387 q105 q388) kd_X0_in rfl rfl dX0_isHand_6) hH hA (fun H locs hH => ?_)
  refine x_zret hx hb hr hlk hH dX0_isHand_9 zb_01 ?_
  exact ⟨rfl, rfl⟩
theorem kd_X0_isPart : yX0_isPart.cls = RX0 ∧ yX0_isPart.cls ≠ "java/lang/invoke/MethodHandle" ∧ yX0_isPart.cls ≠ "java/lang/invoke/VarHandle" ∧ (parseMethodDescriptor yX0_isPart.desc).map (fun d => d.parameters.length) = some 1 := by decide +kernel
theorem xm_X0_isPart (l : Launch) (G : MG) (M : Hp) (k : Int) (sz : Nat) (h_k : R32 k) : Met l yX0_isPart (ws_ yX0_isPart cX0_isPart 1 (some .boolean)) (rmD 2) (xP G XN [.int (iI k)] M sz) (xQi G (DA M sz) (fun z M' => z = zb (0 ≤ k ∧ k ≤ 1) ∧ M' = M)) 0 0 (DA M sz) := by
  refine x_start (by decide) (Nat.le_of_ble_eq_true rfl) ?_
  intro p e s m below meth c ⟨S, hr, hlk, hH, hK, hXN, hsz, hnm⟩ ls hl
  subst hsz
  obtain ⟨hx, hb, hml, hown, hts⟩ := S
  have S : CallFix p m c _ _ s _ lw_all RX0 := ⟨hx, hb, hml, hown, hts⟩
  have hA : ∀ q, s.heap.size ≤ q → DA M s.heap.size q := fun q hq => Or.inr hq
  have hl : lv_has ls 1 [(0, .int (iI k))] := hl
  have h_k := R32.n h_k
  refine lv_iload_n hx hb dX0_isPart_0 rfl (lv_at hl 0 rfl) ?_
  refine n_i2l hx hb (r32 (by omega)) dX0_isPart_1 ?_
  refine n_lconst (z := 0) hx hb dX0_isPart_2 (by decide) ?_
  refine n_lconst (z := 1) hx hb dX0_isPart_3 (by decide) ?_
  refine x_calliF (x_runS (As := [.long (lI k), .long (lI 0), .long (lI 1)]) (rest := []) S hH hK (fun _ _ hW => XN.warm hW hXN) XN_b hl.1 (xm_X0_in l G M k 0 1 _ (r64 (by omega)) (r64 (by omega)) (r64 (by omega))) (lw_S q386 q387 q105 q388) kd_X0_in rfl rfl dX0_isPart_4) hH hA (fun H locs hH => ?_)
  refine x_zret hx hb hr hlk hH dX0_isPart_7 zb_01 ?_
  exact ⟨rfl, rfl⟩
theorem kd_X0_isCaseNumber : yX0_isCaseNumber.cls = RX0 ∧ yX0_isCaseNumber.cls ≠ "java/lang/invoke/MethodHandle" ∧ yX0_isCaseNumber.cls ≠ "java/lang/invoke/VarHandle" ∧ (parseMethodDescriptor yX0_isCaseNumber.desc).map (fun d => d.parameters.length) = some 2 := by decide +kernel
theorem xm_X0_isCaseNumber (l : Launch) (G : MG) (M : Hp) (k : Int) (v : Int) (sz : Nat) (h_k : R32 k) (h_v : R32 v) (h0 : 0 ≤ v) (hk : 0 ≤ k ∧ k < 9) : Met l yX0_isCaseNumber (ws_ yX0_isCaseNumber cX0_isCaseNumber 2 (some .boolean)) (rmD 2) (xP G XN [.int (iI k), .int (iI v)] M sz) (xQi G (DA M sz) (fun z M' => z = zb (isCaseP k v) ∧ M' = M)) 0 0 (DA M sz) := by
  refine x_start (by decide) (Nat.le_of_ble_eq_true rfl) ?_
  intro p e s m below meth c ⟨S, hr, hlk, hH, hK, hXN, hsz, hnm⟩ ls hl
  subst hsz
  obtain ⟨hx, hb, hml, hown, hts⟩ := S
  have S : CallFix p m c _ _ s _ lw_all RX0 := ⟨hx, hb, hml, hown, hts⟩
  have hA : ∀ q, s.heap.size ≤ q → DA M s.heap.size q := fun q hq => Or.inr hq
  have hl : lv_has ls 2 [(0, .int (iI k)), (1, .int (iI v))] := hl
  have h_k := R32.n h_k
  have h_v := R32.n h_v
  refine lv_iload_n hx hb dX0_isCaseNumber_0 rfl (lv_at hl 0 rfl) ?_
  rcases sw_cases (z := k) 0 8 (by decide) with c_1 | c_1
  · refine lv_tableOut (tgt := 110) hx hb dX0_isCaseNumber_1 (by rw [iI_ti (r32 (by omega))]; exact c_1) (by decide) ?_
    refine lv_iload_n hx hb dX0_isCaseNumber_110 rfl (lv_at hl 1 rfl) ?_
    refine n_i2l hx hb (r32 (by omega)) dX0_isCaseNumber_111 ?_
    refine n_lconst (z := 0) hx hb dX0_isCaseNumber_112 (by decide) ?_
    refine lv_ldc2 (v := lI 255) hx hb hown (hts _ q389) dX0_isCaseNumber_113 ?_
    refine x_calliF (x_runS (As := [.long (lI v), .long (lI 0), .long (lI 255)]) (rest := []) S hH hK (fun _ _ hW => XN.warm hW hXN) XN_b hl.1 (xm_X0_in l G M v 0 255 _ (r64 (by omega)) (r64 (by omega)) (r64 (by omega))) (lw_S q386 q387 q105 q388) kd_X0_in rfl rfl dX0_isCaseNumber_116) hH hA (fun H locs hH => ?_)
    refine x_zret hx hb hr hlk hH dX0_isCaseNumber_119 zb_01 ?_
    refine ⟨?_, rfl⟩
    congr 1
    apply propext
    unfold isCaseP
    (repeat' split) <;> omega
  · have c_1 : k = 0 ∨ k = 1 ∨ k = 2 ∨ k = 3 ∨ k = 4 ∨ k = 5 ∨ k = 6 ∨ k = 7 ∨ k = 8 := by omega
    rcases c_1 with c_1 | c_1 | c_1 | c_1 | c_1 | c_1 | c_1 | c_1 | c_1
    · refine lv_tableIn (off := 51) (tgt := 52) hx hb dX0_isCaseNumber_1 (by rw [c_1]; decide) (by rw [c_1]; decide) (by rw [c_1]; decide) (by decide) ?_
      refine lv_iload_n hx hb dX0_isCaseNumber_52 rfl (lv_at hl 1 rfl) ?_
      refine n_i2l hx hb (r32 (by omega)) dX0_isCaseNumber_53 ?_
      refine n_lconst (z := 0) hx hb dX0_isCaseNumber_54 (by decide) ?_
      refine lv_ldc2 (v := lI 5) hx hb hown (hts _ q433) dX0_isCaseNumber_55 ?_
      refine x_calliF (x_runS (As := [.long (lI v), .long (lI 0), .long (lI 5)]) (rest := []) S hH hK (fun _ _ hW => XN.warm hW hXN) XN_b hl.1 (xm_X0_in l G M v 0 5 _ (r64 (by omega)) (r64 (by omega)) (r64 (by omega))) (lw_S q386 q387 q105 q388) kd_X0_in rfl rfl dX0_isCaseNumber_58) hH hA (fun H locs hH => ?_)
      refine x_zret hx hb hr hlk hH dX0_isCaseNumber_61 zb_01 ?_
      refine ⟨?_, rfl⟩
      congr 1
      apply propext
      unfold isCaseP
      (repeat' split) <;> omega
    · refine lv_tableIn (off := 61) (tgt := 62) hx hb dX0_isCaseNumber_1 (by rw [c_1]; decide) (by rw [c_1]; decide) (by rw [c_1]; decide) (by decide) ?_
      refine lv_iload_n hx hb dX0_isCaseNumber_62 rfl (lv_at hl 1 rfl) ?_
      refine n_i2l hx hb (r32 (by omega)) dX0_isCaseNumber_63 ?_
      refine n_lconst (z := 0) hx hb dX0_isCaseNumber_64 (by decide) ?_
      refine lv_ldc2 (v := lI 5) hx hb hown (hts _ q433) dX0_isCaseNumber_65 ?_
      refine x_calliF (x_runS (As := [.long (lI v), .long (lI 0), .long (lI 5)]) (rest := []) S hH hK (fun _ _ hW => XN.warm hW hXN) XN_b hl.1 (xm_X0_in l G M v 0 5 _ (r64 (by omega)) (r64 (by omega)) (r64 (by omega))) (lw_S q386 q387 q105 q388) kd_X0_in rfl rfl dX0_isCaseNumber_68) hH hA (fun H locs hH => ?_)
      refine x_zret hx hb hr hlk hH dX0_isCaseNumber_71 zb_01 ?_
      refine ⟨?_, rfl⟩
      congr 1
      apply propext
      unfold isCaseP
      (repeat' split) <;> omega
    · refine lv_tableIn (off := 71) (tgt := 72) hx hb dX0_isCaseNumber_1 (by rw [c_1]; decide) (by rw [c_1]; decide) (by rw [c_1]; decide) (by decide) ?_
      refine lv_iload_n hx hb dX0_isCaseNumber_72 rfl (lv_at hl 1 rfl) ?_
      refine n_i2l hx hb (r32 (by omega)) dX0_isCaseNumber_73 ?_
      refine n_lconst (z := 0) hx hb dX0_isCaseNumber_74 (by decide) ?_
      refine lv_ldc2 (v := lI 7) hx hb hown (hts _ q385) dX0_isCaseNumber_75 ?_
      refine x_calliF (x_runS (As := [.long (lI v), .long (lI 0), .long (lI 7)]) (rest := []) S hH hK (fun _ _ hW => XN.warm hW hXN) XN_b hl.1 (xm_X0_in l G M v 0 7 _ (r64 (by omega)) (r64 (by omega)) (r64 (by omega))) (lw_S q386 q387 q105 q388) kd_X0_in rfl rfl dX0_isCaseNumber_78) hH hA (fun H locs hH => ?_)
      refine x_zret hx hb hr hlk hH dX0_isCaseNumber_81 zb_01 ?_
      refine ⟨?_, rfl⟩
      congr 1
      apply propext
      unfold isCaseP
      (repeat' split) <;> omega
    · refine lv_tableIn (off := 109) (tgt := 110) hx hb dX0_isCaseNumber_1 (by rw [c_1]; decide) (by rw [c_1]; decide) (by rw [c_1]; decide) (by decide) ?_
      refine lv_iload_n hx hb dX0_isCaseNumber_110 rfl (lv_at hl 1 rfl) ?_
      refine n_i2l hx hb (r32 (by omega)) dX0_isCaseNumber_111 ?_
      refine n_lconst (z := 0) hx hb dX0_isCaseNumber_112 (by decide) ?_
      refine lv_ldc2 (v := lI 255) hx hb hown (hts _ q389) dX0_isCaseNumber_113 ?_
      refine x_calliF (x_runS (As := [.long (lI v), .long (lI 0), .long (lI 255)]) (rest := []) S hH hK (fun _ _ hW => XN.warm hW hXN) XN_b hl.1 (xm_X0_in l G M v 0 255 _ (r64 (by omega)) (r64 (by omega)) (r64 (by omega))) (lw_S q386 q387 q105 q388) kd_X0_in rfl rfl dX0_isCaseNumber_116) hH hA (fun H locs hH => ?_)
      refine x_zret hx hb hr hlk hH dX0_isCaseNumber_119 zb_01 ?_
      refine ⟨?_, rfl⟩
      congr 1
      apply propext
      unfold isCaseP
      (repeat' split) <;> omega
    · refine lv_tableIn (off := 109) (tgt := 110) hx hb dX0_isCaseNumber_1 (by rw [c_1]; decide) (by rw [c_1]; decide) (by rw [c_1]; decide) (by decide) ?_
      refine lv_iload_n hx hb dX0_isCaseNumber_110 rfl (lv_at hl 1 rfl) ?_
      refine n_i2l hx hb (r32 (by omega)) dX0_isCaseNumber_111 ?_
      refine n_lconst (z := 0) hx hb dX0_isCaseNumber_112 (by decide) ?_
      refine lv_ldc2 (v := lI 255) hx hb hown (hts _ q389) dX0_isCaseNumber_113 ?_
      refine x_calliF (x_runS (As := [.long (lI v), .long (lI 0), .long (lI 255)]) (rest := []) S hH hK (fun _ _ hW => XN.warm hW hXN) XN_b hl.1 (xm_X0_in l G M v 0 255 _ (r64 (by omega)) (r64 (by omega)) (r64 (by omega))) (lw_S q386 q387 q105 q388) kd_X0_in rfl rfl dX0_isCaseNumber_116) hH hA (fun H locs hH => ?_)
      refine x_zret hx hb hr hlk hH dX0_isCaseNumber_119 zb_01 ?_
      refine ⟨?_, rfl⟩
      congr 1
      apply propext
      unfold isCaseP
      (repeat' split) <;> omega
    · refine lv_tableIn (off := 81) (tgt := 82) hx hb dX0_isCaseNumber_1 (by rw [c_1]; decide) (by rw [c_1]; decide) (by rw [c_1]; decide) (by decide) ?_
      refine lv_iload_n hx hb dX0_isCaseNumber_82 rfl (lv_at hl 1 rfl) ?_
      refine n_i2l hx hb (r32 (by omega)) dX0_isCaseNumber_83 ?_
      refine n_lconst (z := 0) hx hb dX0_isCaseNumber_84 (by decide) ?_
      refine lv_ldc2 (v := lI 11) hx hb hown (hts _ q439) dX0_isCaseNumber_85 ?_
      refine x_calliF (x_runS (As := [.long (lI v), .long (lI 0), .long (lI 11)]) (rest := []) S hH hK (fun _ _ hW => XN.warm hW hXN) XN_b hl.1 (xm_X0_in l G M v 0 11 _ (r64 (by omega)) (r64 (by omega)) (r64 (by omega))) (lw_S q386 q387 q105 q388) kd_X0_in rfl rfl dX0_isCaseNumber_88) hH hA (fun H locs hH => ?_)
      refine x_zret hx hb hr hlk hH dX0_isCaseNumber_91 zb_01 ?_
      refine ⟨?_, rfl⟩
      congr 1
      apply propext
      unfold isCaseP
      (repeat' split) <;> omega
    · refine lv_tableIn (off := 109) (tgt := 110) hx hb dX0_isCaseNumber_1 (by rw [c_1]; decide) (by rw [c_1]; decide) (by rw [c_1]; decide) (by decide) ?_
      refine lv_iload_n hx hb dX0_isCaseNumber_110 rfl (lv_at hl 1 rfl) ?_
      refine n_i2l hx hb (r32 (by omega)) dX0_isCaseNumber_111 ?_
      refine n_lconst (z := 0) hx hb dX0_isCaseNumber_112 (by decide) ?_
      refine lv_ldc2 (v := lI 255) hx hb hown (hts _ q389) dX0_isCaseNumber_113 ?_
      refine x_calliF (x_runS (As := [.long (lI v), .long (lI 0), .long (lI 255)]) (rest := []) S hH hK (fun _ _ hW => XN.warm hW hXN) XN_b hl.1 (xm_X0_in l G M v 0 255 _ (r64 (by omega)) (r64 (by omega)) (r64 (by omega))) (lw_S q386 q387 q105 q388) kd_X0_in rfl rfl dX0_isCaseNumber_116) hH hA (fun H locs hH => ?_)
      refine x_zret hx hb hr hlk hH dX0_isCaseNumber_119 zb_01 ?_
      refine ⟨?_, rfl⟩
      congr 1
      apply propext
      unfold isCaseP
      (repeat' split) <;> omega
    · refine lv_tableIn (off := 91) (tgt := 92) hx hb dX0_isCaseNumber_1 (by rw [c_1]; decide) (by rw [c_1]; decide) (by rw [c_1]; decide) (by decide) ?_
      refine lv_iload_n hx hb dX0_isCaseNumber_92 rfl (lv_at hl 1 rfl) ?_
      refine n_i2l hx hb (r32 (by omega)) dX0_isCaseNumber_93 ?_
      refine n_lconst (z := 0) hx hb dX0_isCaseNumber_94 (by decide) ?_
      refine n_lconst (z := 1) hx hb dX0_isCaseNumber_95 (by decide) ?_
      refine x_calliF (x_runS (As := [.long (lI v), .long (lI 0), .long (lI 1)]) (rest := []) S hH hK (fun _ _ hW => XN.warm hW hXN) XN_b hl.1 (xm_X0_in l G M v 0 1 _ (r64 (by omega)) (r64 (by omega)) (r64 (by omega))) (lw_S q386 q387 q105 q388) kd_X0_in rfl rfl dX0_isCaseNumber_96) hH hA (fun H locs hH => ?_)
      refine x_zret hx hb hr hlk hH dX0_isCaseNumber_99 zb_01 ?_
      refine ⟨?_, rfl⟩
      congr 1
      apply propext
      unfold isCaseP
      (repeat' split) <;> omega
    · refine lv_tableIn (off := 99) (tgt := 100) hx hb dX0_isCaseNumber_1 (by rw [c_1]; decide) (by rw [c_1]; decide) (by rw [c_1]; decide) (by decide) ?_
      refine lv_iload_n hx hb dX0_isCaseNumber_100 rfl (lv_at hl 1 rfl) ?_
      refine n_i2l hx hb (r32 (by omega)) dX0_isCaseNumber_101 ?_
      refine n_lconst (z := 0) hx hb dX0_isCaseNumber_102 (by decide) ?_
      refine lv_ldc2 (v := lI 3) hx hb hown (hts _ q392) dX0_isCaseNumber_103 ?_
      refine x_calliF (x_runS (As := [.long (lI v), .long (lI 0), .long (lI 3)]) (rest := []) S hH hK (fun _ _ hW => XN.warm hW hXN) XN_b hl.1 (xm_X0_in l G M v 0 3 _ (r64 (by omega)) (r64 (by omega)) (r64 (by omega))) (lw_S q386 q387 q105 q388) kd_X0_in rfl rfl dX0_isCaseNumber_106) hH hA (fun H locs hH => ?_)
      refine x_zret hx hb hr hlk hH dX0_isCaseNumber_109 zb_01 ?_
      refine ⟨?_, rfl⟩
      congr 1
      apply propext
      unfold isCaseP
      (repeat' split) <;> omega
theorem kd_X0_isLetter : yX0_isLetter.cls = RX0 ∧ yX0_isLetter.cls ≠ "java/lang/invoke/MethodHandle" ∧ yX0_isLetter.cls ≠ "java/lang/invoke/VarHandle" ∧ (parseMethodDescriptor yX0_isLetter.desc).map (fun d => d.parameters.length) = some 1 := by decide +kernel
theorem xm_X0_isLetter (l : Launch) (G : MG) (M : Hp) (k : Int) (sz : Nat) (h_k : R32 k) : Met l yX0_isLetter (ws_ yX0_isLetter cX0_isLetter 1 (some .boolean)) (rmD 1) (xP G XN [.int (iI k)] M sz) (xQi G (DA M sz) (fun z M' => z = zb (97 ≤ k ∧ k ≤ 122) ∧ M' = M)) 0 0 (DA M sz) := by
  refine x_start (by decide) (Nat.le_of_ble_eq_true rfl) ?_
  intro p e s m below meth c ⟨S, hr, hlk, hH, hK, hXN, hsz, hnm⟩ ls hl
  subst hsz
  obtain ⟨hx, hb, hml, hown, hts⟩ := S
  have S : CallFix p m c _ _ s _ lw_all RX0 := ⟨hx, hb, hml, hown, hts⟩
  have hA : ∀ q, s.heap.size ≤ q → DA M s.heap.size q := fun q hq => Or.inr hq
  have hl : lv_has ls 1 [(0, .int (iI k))] := hl
  have h_k := R32.n h_k
  refine lv_iload_n hx hb dX0_isLetter_0 rfl (lv_at hl 0 rfl) ?_
  refine n_bipush (z := 97) hx hb dX0_isLetter_1 (by decide) ?_
  refine n_icmp_lt (tgt := 16) hx hb (r32 (by omega)) (r32 (by omega)) dX0_isLetter_3 (by decide) (fun c_3 => ?_) (fun c_3 => ?_)
  · -- 3T
    refine n_iconst hx hb dX0_isLetter_16 ?_
    refine x_zret hx hb hr hlk hH dX0_isLetter_17 (Or.inl rfl) ?_
    refine ⟨?_, rfl⟩
    first | exact (zb_t (by omega)).symm | exact (zb_f (by omega)).symm
  · -- 3F
    refine lv_iload_n hx hb dX0_isLetter_6 rfl (lv_at hl 0 rfl) ?_
    refine n_bipush (z := 122) hx hb dX0_isLetter_7 (by decide) ?_
    refine n_icmp_gt (tgt := 16) hx hb (r32 (by omega)) (r32 (by omega)) dX0_isLetter_9 (by decide) (fun c_9 => ?_) (fun c_9 => ?_)
    · -- 9T
      refine n_iconst hx hb dX0_isLetter_16 ?_
      refine x_zret hx hb hr hlk hH dX0_isLetter_17 (Or.inl rfl) ?_
      refine ⟨?_, rfl⟩
      first | exact (zb_t (by omega)).symm | exact (zb_f (by omega)).symm
    · -- 9F
      refine n_iconst hx hb dX0_isLetter_12 ?_
      refine lv_goto (tgt := 17) hx hb dX0_isLetter_13 (by decide) ?_
      refine x_zret hx hb hr hlk hH dX0_isLetter_17 (Or.inr rfl) ?_
      refine ⟨?_, rfl⟩
      first | exact (zb_t (by omega)).symm | exact (zb_f (by omega)).symm
theorem kd_X0_isDigit : yX0_isDigit.cls = RX0 ∧ yX0_isDigit.cls ≠ "java/lang/invoke/MethodHandle" ∧ yX0_isDigit.cls ≠ "java/lang/invoke/VarHandle" ∧ (parseMethodDescriptor yX0_isDigit.desc).map (fun d => d.parameters.length) = some 1 := by decide +kernel
theorem xm_X0_isDigit (l : Launch) (G : MG) (M : Hp) (k : Int) (sz : Nat) (h_k : R32 k) : Met l yX0_isDigit (ws_ yX0_isDigit cX0_isDigit 1 (some .boolean)) (rmD 1) (xP G XN [.int (iI k)] M sz) (xQi G (DA M sz) (fun z M' => z = zb (48 ≤ k ∧ k ≤ 57) ∧ M' = M)) 0 0 (DA M sz) := by
  refine x_start (by decide) (Nat.le_of_ble_eq_true rfl) ?_
  intro p e s m below meth c ⟨S, hr, hlk, hH, hK, hXN, hsz, hnm⟩ ls hl
  subst hsz
  obtain ⟨hx, hb, hml, hown, hts⟩ := S
  have S : CallFix p m c _ _ s _ lw_all RX0 := ⟨hx, hb, hml, hown, hts⟩
  have hA : ∀ q, s.heap.size ≤ q → DA M s.heap.size q := fun q hq => Or.inr hq
  have hl : lv_has ls 1 [(0, .int (iI k))] := hl
  have h_k := R32.n h_k
  refine lv_iload_n hx hb dX0_isDigit_0 rfl (lv_at hl 0 rfl) ?_
  refine n_bipush (z := 48) hx hb dX0_isDigit_1 (by decide) ?_
  refine n_icmp_lt (tgt := 16) hx hb (r32 (by omega)) (r32 (by omega)) dX0_isDigit_3 (by decide) (fun c_3 => ?_) (fun c_3 => ?_)
  · -- 3T
    refine n_iconst hx hb dX0_isDigit_16 ?_
    refine x_zret hx hb hr hlk hH dX0_isDigit_17 (Or.inl rfl) ?_
    refine ⟨?_, rfl⟩
    first | exact (zb_t (by omega)).symm | exact (zb_f (by omega)).symm
  · -- 3F
    refine lv_iload_n hx hb dX0_isDigit_6 rfl (lv_at hl 0 rfl) ?_
    refine n_bipush (z := 57) hx hb dX0_isDigit_7 (by decide) ?_
    refine n_icmp_gt (tgt := 16) hx hb (r32 (by omega)) (r32 (by omega)) dX0_isDigit_9 (by decide) (fun c_9 => ?_) (fun c_9 => ?_)
    · -- 9T
      refine n_iconst hx hb dX0_isDigit_16 ?_
      refine x_zret hx hb hr hlk hH dX0_isDigit_17 (Or.inl rfl) ?_
      refine ⟨?_, rfl⟩
      first | exact (zb_t (by omega)).symm | exact (zb_f (by omega)).symm
    · -- 9F
      refine n_iconst hx hb dX0_isDigit_12 ?_
      refine lv_goto (tgt := 17) hx hb dX0_isDigit_13 (by decide) ?_
      refine x_zret hx hb hr hlk hH dX0_isDigit_17 (Or.inr rfl) ?_
      refine ⟨?_, rfl⟩
      first | exact (zb_t (by omega)).symm | exact (zb_f (by omega)).symm
theorem kd_X0_status : yX0_status.cls = RX0 ∧ yX0_status.cls ≠ "java/lang/invoke/MethodHandle" ∧ yX0_status.cls ≠ "java/lang/invoke/VarHandle" ∧ (parseMethodDescriptor yX0_status.desc).map (fun d => d.parameters.length) = some 0 := by decide +kernel
theorem xm_X0_status (l : Launch) (G : MG) (M : Hp) (σ : St) (x : XGh) (ω : XCt) (a : Nat) (sz : Nat) (hR : RX G M a σ x ω) : Met l yX0_status (ws_ yX0_status cX0_status 1 (some .int)) (rmD 1) (xP G XN [.ref a] M sz) (xQi G (DA M sz) (fun z M' => z = σ 0 0 ∧ M' = M)) 0 0 (DA M sz) := by
  refine x_start (by decide) (Nat.le_of_ble_eq_true rfl) ?_
  intro p e s m below meth c ⟨S, hr, hlk, hH, hK, hXN, hsz, hnm⟩ ls hl
  subst hsz
  obtain ⟨hx, hb, hml, hown, hts⟩ := S
  have S : CallFix p m c _ _ s _ lw_all RX0 := ⟨hx, hb, hml, hown, hts⟩
  have hA : ∀ q, s.heap.size ≤ q → DA M s.heap.size q := fun q hq => Or.inr hq
  have hl : lv_has ls 1 [(0, .ref a)] := hl
  refine lv_aload_n hx hb dX0_status_0 rfl (lv_at hl 0 rfl) ?_
  refine x_get hx hb hts in_X0 hown hK hH hR.o rfl 3 (by decide) q342 (fun _ h9 => h9) rfl (by decide) dX0_status_1 ?_
  refine x_iret hx hb hr hlk hH dX0_status_4 ?_
  exact ⟨rfl, rfl⟩
theorem kd_X0_fault : yX0_fault.cls = RX0 ∧ yX0_fault.cls ≠ "java/lang/invoke/MethodHandle" ∧ yX0_fault.cls ≠ "java/lang/invoke/VarHandle" ∧ (parseMethodDescriptor yX0_fault.desc).map (fun d => d.parameters.length) = some 0 := by decide +kernel
theorem xm_X0_fault (l : Launch) (G : MG) (M : Hp) (σ : St) (x : XGh) (ω : XCt) (a : Nat) (sz : Nat) (hR : RX G M a σ x ω) : Met l yX0_fault (ws_ yX0_fault cX0_fault 1 (some .int)) (rmD 1) (xP G XN [.ref a] M sz) (xQi G (DA M sz) (fun z M' => z = σ 10 0 ∧ M' = M)) 0 0 (DA M sz) := by
  refine x_start (by decide) (Nat.le_of_ble_eq_true rfl) ?_
  intro p e s m below meth c ⟨S, hr, hlk, hH, hK, hXN, hsz, hnm⟩ ls hl
  subst hsz
  obtain ⟨hx, hb, hml, hown, hts⟩ := S
  have S : CallFix p m c _ _ s _ lw_all RX0 := ⟨hx, hb, hml, hown, hts⟩
  have hA : ∀ q, s.heap.size ≤ q → DA M s.heap.size q := fun q hq => Or.inr hq
  have hl : lv_has ls 1 [(0, .ref a)] := hl
  refine lv_aload_n hx hb dX0_fault_0 rfl (lv_at hl 0 rfl) ?_
  refine x_get hx hb hts in_X0 hown hK hH hR.o rfl 8 (by decide) q349 (fun _ h9 => h9) rfl (by decide) dX0_fault_1 ?_
  refine x_iret hx hb hr hlk hH dX0_fault_4 ?_
  exact ⟨rfl, rfl⟩
theorem kd_X0_count : yX0_count.cls = RX0 ∧ yX0_count.cls ≠ "java/lang/invoke/MethodHandle" ∧ yX0_count.cls ≠ "java/lang/invoke/VarHandle" ∧ (parseMethodDescriptor yX0_count.desc).map (fun d => d.parameters.length) = some 1 := by decide +kernel
theorem xm_X0_count (l : Launch) (G : MG) (M : Hp) (σ : St) (x : XGh) (ω : XCt) (a : Nat) (w : Int) (sz : Nat) (hR : RX G M a σ x ω) (h_w : R32 w) : Met l yX0_count (ws_ yX0_count cX0_count 2 (some .int)) (rmD 1) (xP G XN [.ref a, .int (iI w)] M sz) (xQi G (DA M sz) (fun z M' => z = countF σ w ∧ M' = M)) 0 0 (DA M sz) := by
  refine x_start (by decide) (Nat.le_of_ble_eq_true rfl) ?_
  intro p e s m below meth c ⟨S, hr, hlk, hH, hK, hXN, hsz, hnm⟩ ls hl
  subst hsz
  obtain ⟨hx, hb, hml, hown, hts⟩ := S
  have S : CallFix p m c _ _ s _ lw_all RX0 := ⟨hx, hb, hml, hown, hts⟩
  have hA : ∀ q, s.heap.size ≤ q → DA M s.heap.size q := fun q hq => Or.inr hq
  have hl : lv_has ls 2 [(0, .ref a), (1, .int (iI w))] := hl
  have h_w := R32.n h_w
  refine lv_iload_n hx hb dX0_count_0 rfl (lv_at hl 1 rfl) ?_
  rcases sw_cases (z := w) 0 12 (by decide) with c_1 | c_1
  · refine lv_tableOut (tgt := 165) hx hb dX0_count_1 (by rw [iI_ti (r32 (by omega))]; exact c_1) (by decide) ?_
    refine n_iconst hx hb dX0_count_165 ?_
    refine x_iret hx hb hr hlk hH dX0_count_166 ?_
    refine ⟨?_, rfl⟩
    unfold countF
    first | (rw [c_1]; rfl) | (repeat rw [if_neg (by omega)])
  · have c_1 : w = 0 ∨ w = 1 ∨ w = 2 ∨ w = 3 ∨ w = 4 ∨ w = 5 ∨ w = 6 ∨ w = 7 ∨ w = 8 ∨ w = 9 ∨ w = 10 ∨ w = 11 ∨ w = 12 := by omega
    rcases c_1 with c_1 | c_1 | c_1 | c_1 | c_1 | c_1 | c_1 | c_1 | c_1 | c_1 | c_1 | c_1 | c_1
    · refine lv_tableIn (off := 67) (tgt := 68) hx hb dX0_count_1 (by rw [c_1]; decide) (by rw [c_1]; decide) (by rw [c_1]; decide) (by decide) ?_
      refine lv_aload_n hx hb dX0_count_68 rfl (lv_at hl 0 rfl) ?_
      refine x_get hx hb hts in_X0 hown hK hH hR.o rfl 0 (by decide) q339 (fun _ h9 => h9) rfl (by decide) dX0_count_69 ?_
      refine x_getN hx hb hts in_X1 hown hK hH hR.b0 rfl 0 (by decide) hXN q162 (fun _ h9 => h9) rfl (by decide) dX0_count_72 ?_
      refine x_iret hx hb hr hlk hH dX0_count_75 ?_
      refine ⟨?_, rfl⟩
      unfold countF
      first | (rw [c_1]; rfl) | (repeat rw [if_neg (by omega)])
    · refine lv_tableIn (off := 75) (tgt := 76) hx hb dX0_count_1 (by rw [c_1]; decide) (by rw [c_1]; decide) (by rw [c_1]; decide) (by decide) ?_
      refine lv_aload_n hx hb dX0_count_76 rfl (lv_at hl 0 rfl) ?_
      refine x_get hx hb hts in_X0 hown hK hH hR.o rfl 0 (by decide) q339 (fun _ h9 => h9) rfl (by decide) dX0_count_77 ?_
      refine x_getN hx hb hts in_X1 hown hK hH hR.b0 rfl 1 (by decide) hXN q164 (fun _ h9 => h9) rfl (by decide) dX0_count_80 ?_
      refine x_iret hx hb hr hlk hH dX0_count_83 ?_
      refine ⟨?_, rfl⟩
      unfold countF
      first | (rw [c_1]; rfl) | (repeat rw [if_neg (by omega)])
    · refine lv_tableIn (off := 83) (tgt := 84) hx hb dX0_count_1 (by rw [c_1]; decide) (by rw [c_1]; decide) (by rw [c_1]; decide) (by decide) ?_
      refine lv_aload_n hx hb dX0_count_84 rfl (lv_at hl 0 rfl) ?_
      refine x_get hx hb hts in_X0 hown hK hH hR.o rfl 0 (by decide) q339 (fun _ h9 => h9) rfl (by decide) dX0_count_85 ?_
      refine x_getN hx hb hts in_X1 hown hK hH hR.b0 rfl 2 (by decide) hXN q166 (fun _ h9 => h9) rfl (by decide) dX0_count_88 ?_
      refine x_iret hx hb hr hlk hH dX0_count_91 ?_
      refine ⟨?_, rfl⟩
      unfold countF
      first | (rw [c_1]; rfl) | (repeat rw [if_neg (by omega)])
    · refine lv_tableIn (off := 91) (tgt := 92) hx hb dX0_count_1 (by rw [c_1]; decide) (by rw [c_1]; decide) (by rw [c_1]; decide) (by decide) ?_
      refine lv_aload_n hx hb dX0_count_92 rfl (lv_at hl 0 rfl) ?_
      refine x_get hx hb hts in_X0 hown hK hH hR.o rfl 0 (by decide) q339 (fun _ h9 => h9) rfl (by decide) dX0_count_93 ?_
      refine x_getN hx hb hts in_X1 hown hK hH hR.b0 rfl 3 (by decide) hXN q168 (fun _ h9 => h9) rfl (by decide) dX0_count_96 ?_
      refine x_iret hx hb hr hlk hH dX0_count_99 ?_
      refine ⟨?_, rfl⟩
      unfold countF
      first | (rw [c_1]; rfl) | (repeat rw [if_neg (by omega)])
    · refine lv_tableIn (off := 99) (tgt := 100) hx hb dX0_count_1 (by rw [c_1]; decide) (by rw [c_1]; decide) (by rw [c_1]; decide) (by decide) ?_
      refine lv_aload_n hx hb dX0_count_100 rfl (lv_at hl 0 rfl) ?_
      refine x_get hx hb hts in_X0 hown hK hH hR.o rfl 0 (by decide) q339 (fun _ h9 => h9) rfl (by decide) dX0_count_101 ?_
      refine x_getN hx hb hts in_X1 hown hK hH hR.b0 rfl 4 (by decide) hXN q170 (fun _ h9 => h9) rfl (by decide) dX0_count_104 ?_
      refine x_iret hx hb hr hlk hH dX0_count_107 ?_
      refine ⟨?_, rfl⟩
      unfold countF
      first | (rw [c_1]; rfl) | (repeat rw [if_neg (by omega)])
    · refine lv_tableIn (off := 107) (tgt := 108) hx hb dX0_count_1 (by rw [c_1]; decide) (by rw [c_1]; decide) (by rw [c_1]; decide) (by decide) ?_
      refine lv_aload_n hx hb dX0_count_108 rfl (lv_at hl 0 rfl) ?_
      refine x_get hx hb hts in_X0 hown hK hH hR.o rfl 0 (by decide) q339 (fun _ h9 => h9) rfl (by decide) dX0_count_109 ?_
      refine x_getN hx hb hts in_X1 hown hK hH hR.b0 rfl 5 (by decide) hXN q172 (fun _ h9 => h9) rfl (by decide) dX0_count_112 ?_
      refine x_iret hx hb hr hlk hH dX0_count_115 ?_
      refine ⟨?_, rfl⟩
      unfold countF
      first | (rw [c_1]; rfl) | (repeat rw [if_neg (by omega)])
    · refine lv_tableIn (off := 115) (tgt := 116) hx hb dX0_count_1 (by rw [c_1]; decide) (by rw [c_1]; decide) (by rw [c_1]; decide) (by decide) ?_
      refine lv_aload_n hx hb dX0_count_116 rfl (lv_at hl 0 rfl) ?_
      refine x_get hx hb hts in_X0 hown hK hH hR.o rfl 0 (by decide) q339 (fun _ h9 => h9) rfl (by decide) dX0_count_117 ?_
      refine x_getN hx hb hts in_X1 hown hK hH hR.b0 rfl 6 (by decide) hXN q174 (fun _ h9 => h9) rfl (by decide) dX0_count_120 ?_
      refine x_iret hx hb hr hlk hH dX0_count_123 ?_
      refine ⟨?_, rfl⟩
      unfold countF
      first | (rw [c_1]; rfl) | (repeat rw [if_neg (by omega)])
    · refine lv_tableIn (off := 123) (tgt := 124) hx hb dX0_count_1 (by rw [c_1]; decide) (by rw [c_1]; decide) (by rw [c_1]; decide) (by decide) ?_
      refine lv_aload_n hx hb dX0_count_124 rfl (lv_at hl 0 rfl) ?_
      refine x_get hx hb hts in_X0 hown hK hH hR.o rfl 6 (by decide) q347 (fun _ h9 => h9) rfl (by decide) dX0_count_125 ?_
      refine x_iret hx hb hr hlk hH dX0_count_128 ?_
      refine ⟨?_, rfl⟩
      unfold countF
      first | (rw [c_1]; rfl) | (repeat rw [if_neg (by omega)])
    · refine lv_tableIn (off := 128) (tgt := 129) hx hb dX0_count_1 (by rw [c_1]; decide) (by rw [c_1]; decide) (by rw [c_1]; decide) (by decide) ?_
      refine lv_aload_n hx hb dX0_count_129 rfl (lv_at hl 0 rfl) ?_
      refine x_get hx hb hts in_X0 hown hK hH hR.o rfl 2 (by decide) q341 (fun _ h9 => h9) rfl (by decide) dX0_count_130 ?_
      refine n_iconst hx hb dX0_count_133 ?_
      refine x_iald hx hb hK hH hR.p2 (by omega) (by omega) (Nat.le_of_ble_eq_true rfl) dX0_count_134 ?_
      refine W.eq (g2 := F0 m 135 ls (.int (iI (σ 1 1)) :: [])) (by first | (rw [hR.ref (by omega) (by omega)]; done) | (rw [hR.ref (by omega) (by omega)]; rfl)) ?_
      refine x_iret hx hb hr hlk hH dX0_count_135 ?_
      refine ⟨?_, rfl⟩
      unfold countF
      first | (rw [c_1]; rfl) | (repeat rw [if_neg (by omega)])
    · refine lv_tableIn (off := 135) (tgt := 136) hx hb dX0_count_1 (by rw [c_1]; decide) (by rw [c_1]; decide) (by rw [c_1]; decide) (by decide) ?_
      refine lv_aload_n hx hb dX0_count_136 rfl (lv_at hl 0 rfl) ?_
      refine x_get hx hb hts in_X0 hown hK hH hR.o rfl 2 (by decide) q341 (fun _ h9 => h9) rfl (by decide) dX0_count_137 ?_
      refine n_iconst hx hb dX0_count_140 ?_
      refine x_iald hx hb hK hH hR.p2 (by omega) (by omega) (Nat.le_of_ble_eq_true rfl) dX0_count_141 ?_
      refine W.eq (g2 := F0 m 142 ls (.int (iI (σ 1 2)) :: [])) (by first | (rw [hR.ref (by omega) (by omega)]; done) | (rw [hR.ref (by omega) (by omega)]; rfl)) ?_
      refine x_iret hx hb hr hlk hH dX0_count_142 ?_
      refine ⟨?_, rfl⟩
      unfold countF
      first | (rw [c_1]; rfl) | (repeat rw [if_neg (by omega)])
    · refine lv_tableIn (off := 142) (tgt := 143) hx hb dX0_count_1 (by rw [c_1]; decide) (by rw [c_1]; decide) (by rw [c_1]; decide) (by decide) ?_
      refine lv_aload_n hx hb dX0_count_143 rfl (lv_at hl 0 rfl) ?_
      refine x_get hx hb hts in_X0 hown hK hH hR.o rfl 2 (by decide) q341 (fun _ h9 => h9) rfl (by decide) dX0_count_144 ?_
      refine n_iconst hx hb dX0_count_147 ?_
      refine x_iald hx hb hK hH hR.p2 (by omega) (by omega) (Nat.le_of_ble_eq_true rfl) dX0_count_148 ?_
      refine W.eq (g2 := F0 m 149 ls (.int (iI (σ 1 3)) :: [])) (by first | (rw [hR.ref (by omega) (by omega)]; done) | (rw [hR.ref (by omega) (by omega)]; rfl)) ?_
      refine x_iret hx hb hr hlk hH dX0_count_149 ?_
      refine ⟨?_, rfl⟩
      unfold countF
      first | (rw [c_1]; rfl) | (repeat rw [if_neg (by omega)])
    · refine lv_tableIn (off := 149) (tgt := 150) hx hb dX0_count_1 (by rw [c_1]; decide) (by rw [c_1]; decide) (by rw [c_1]; decide) (by decide) ?_
      refine lv_aload_n hx hb dX0_count_150 rfl (lv_at hl 0 rfl) ?_
      refine x_get hx hb hts in_X0 hown hK hH hR.o rfl 2 (by decide) q341 (fun _ h9 => h9) rfl (by decide) dX0_count_151 ?_
      refine n_iconst hx hb dX0_count_154 ?_
      refine x_iald hx hb hK hH hR.p2 (by omega) (by omega) (Nat.le_of_ble_eq_true rfl) dX0_count_155 ?_
      refine W.eq (g2 := F0 m 156 ls (.int (iI (σ 1 5)) :: [])) (by first | (rw [hR.ref (by omega) (by omega)]; done) | (rw [hR.ref (by omega) (by omega)]; rfl)) ?_
      refine x_iret hx hb hr hlk hH dX0_count_156 ?_
      refine ⟨?_, rfl⟩
      unfold countF
      first | (rw [c_1]; rfl) | (repeat rw [if_neg (by omega)])
    · refine lv_tableIn (off := 156) (tgt := 157) hx hb dX0_count_1 (by rw [c_1]; decide) (by rw [c_1]; decide) (by rw [c_1]; decide) (by decide) ?_
      refine lv_aload_n hx hb dX0_count_157 rfl (lv_at hl 0 rfl) ?_
      refine x_get hx hb hts in_X0 hown hK hH hR.o rfl 2 (by decide) q341 (fun _ h9 => h9) rfl (by decide) dX0_count_158 ?_
      refine n_bipush (z := 6) hx hb dX0_count_161 (by decide) ?_
      refine x_iald hx hb hK hH hR.p2 (by omega) (by omega) (Nat.le_of_ble_eq_true rfl) dX0_count_163 ?_
      refine W.eq (g2 := F0 m 164 ls (.int (iI (σ 1 6)) :: [])) (by first | (rw [hR.ref (by omega) (by omega)]; done) | (rw [hR.ref (by omega) (by omega)]; rfl)) ?_
      refine x_iret hx hb hr hlk hH dX0_count_164 ?_
      refine ⟨?_, rfl⟩
      unfold countF
      first | (rw [c_1]; rfl) | (repeat rw [if_neg (by omega)])
theorem kd_X0_areTexts : yX0_areTexts.cls = RX0 ∧ yX0_areTexts.cls ≠ "java/lang/invoke/MethodHandle" ∧ yX0_areTexts.cls ≠ "java/lang/invoke/VarHandle" ∧ (parseMethodDescriptor yX0_areTexts.desc).map (fun d => d.parameters.length) = some 1 := by decide +kernel
theorem xm_X0_areTexts (l : Launch) (G : MG) (M : Hp) (σ : St) (x : XGh) (ω : XCt) (a : Nat) (s_ : Int) (sz : Nat) (hR : RX G M a σ x ω) (h_s_ : R32 s_) (h0 : 0 ≤ σ 2 1756) (h1 : σ 2 1756 ≤ 12) : Met l yX0_areTexts (ws_ yX0_areTexts cX0_areTexts 2 (some .boolean)) (rmD 2) (xP G XN [.ref a, .int (iI s_)] M sz) (xQi G (DA M sz) (fun z M' => z = zb (0 ≤ s_ ∧ s_ < 2 ^ (σ 2 1756).toNat) ∧ M' = M)) 0 0 (DA M sz) := by
  refine x_start (by decide) (Nat.le_of_ble_eq_true rfl) ?_
  intro p e s m below meth c ⟨S, hr, hlk, hH, hK, hXN, hsz, hnm⟩ ls hl
  subst hsz
  obtain ⟨hx, hb, hml, hown, hts⟩ := S
  have S : CallFix p m c _ _ s _ lw_all RX0 := ⟨hx, hb, hml, hown, hts⟩
  have hA : ∀ q, s.heap.size ≤ q → DA M s.heap.size q := fun q hq => Or.inr hq
  have hl : lv_has ls 2 [(0, .ref a), (1, .int (iI s_))] := hl
  have h_s_ := R32.n h_s_
  have hp := pow_r h0 h1
  refine lv_iload_n hx hb dX0_areTexts_0 rfl (lv_at hl 1 rfl) ?_
  refine n_i2l hx hb (r32 (by omega)) dX0_areTexts_1 ?_
  refine n_lconst (z := 0) hx hb dX0_areTexts_2 (by decide) ?_
  refine n_iconst hx hb dX0_areTexts_3 ?_
  refine lv_aload_n hx hb dX0_areTexts_4 rfl (lv_at hl 0 rfl) ?_
  refine x_get hx hb hts in_X0 hown hK hH hR.o rfl 0 (by decide) q339 (fun _ h9 => h9) rfl (by decide) dX0_areTexts_5 ?_
  refine x_getN hx hb hts in_X1 hown hK hH hR.b0 rfl 5 (by decide) hXN q172 (fun _ h9 => h9) rfl (by decide) dX0_areTexts_8 ?_
  refine n_ishl hx hb (by omega) (by omega) dX0_areTexts_11 ?_
  refine W.eq (g2 := F0 m 12 ls (.int (iI (2 ^ (σ 2 1756).toNat)) :: .long (lI 0) :: .long (lI s_) :: [])) (by rw [Int.one_mul]) ?_
  refine n_iconst hx hb dX0_areTexts_12 ?_
  refine n_isub hx hb dX0_areTexts_13 ?_
  refine n_i2l hx hb (r32 (by omega)) dX0_areTexts_14 ?_
  refine x_calliF (x_runS (As := [.long (lI s_), .long (lI 0), .long (lI ((2 ^ (σ 2 1756).toNat) - 1))]) (rest := []) S hH hK (fun _ _ hW => XN.warm hW hXN) XN_b hl.1 (xm_X0_in l G M s_ 0 ((2 ^ (σ 2 1756).toNat) - 1) _ (r64 (by omega)) (r64 (by omega)) (r64 (by omega))) (lw_S q386 q387 q105 q388) kd_X0_in rfl rfl dX0_areTexts_15) hH hA (fun H locs hH => ?_)
  refine x_zret hx hb hr hlk hH dX0_areTexts_18 zb_01 ?_
  refine ⟨?_, rfl⟩
  congr 1
  apply propext
  omega
