theorem WK_n {σ : St} (h : WK (σ 2)) {p v : Int} (hp : (p = 1750 ∧ 0 ≤ v ∧ v ≤ 399) ∨ (p = 1751 ∧ 0 ≤ v ∧ v ≤ 1000002)) : WK (st σ 2 p v 2) := by
  rw [st_f]
  obtain ⟨h1, h2, h3⟩ := h
  refine ⟨?_, ?_, fun g hg => ?_⟩
  · unfold kCnt at *
    rw [up_n (show (1752 : Int) ≠ p by omega), up_n (show (1753 : Int) ≠ p by omega), up_n (show (1754 : Int) ≠ p by omega), up_n (show (1755 : Int) ≠ p by omega), up_n (show (1756 : Int) ≠ p by omega), up_n (show (1757 : Int) ≠ p by omega)]
    unfold up
    refine ⟨?_, ?_, h1.2.2⟩ <;> split <;> omega
  · exact ⟨fun k a b => by rw [up_n (by omega)]; exact h2.1 k a b, fun k a b => by rw [up_n (by omega)]; exact h2.2.1 k a b, fun k a b => by rw [up_n (by omega)]; exact h2.2.2 k a b⟩
  · unfold kCnt at h1
    rw [up_n (by omega)] at hg
    rw [up_n (by omega)]
    exact h3 g hg
theorem F40_o {σ : St} (h : F40 σ) {f : Nat} {j v : Int} (hf : f ≠ 2 ∧ f ≠ 3 ∧ f ≠ 4) : F40 (st σ f j v) := by
  unfold F40 imK
  rw [st_n (by omega), st_n (by omega), st_n (by omega)]
  exact h
theorem kd_X0_refuse : yX0_refuse.cls = RX0 ∧ yX0_refuse.cls ≠ "java/lang/invoke/MethodHandle" ∧ yX0_refuse.cls ≠ "java/lang/invoke/VarHandle" ∧ (parseMethodDescriptor yX0_refuse.desc).map (fun d => d.parameters.length) = some 1 := by decide +kernel
theorem xm_X0_refuse (l : Launch) (G : MG) (M : Hp) (σ : St) (x : XGh) (ω : XCt) (a : Nat) (k : Int) (sz : Nat) (hR : RX G M a σ x ω) (h1 : -6 ≤ k) (h2 : k ≤ -1) : Met l yX0_refuse (ws_ yX0_refuse cX0_refuse 2 (some .int)) (rmD 1) (xP G XN [.ref a, .int (iI k)] M sz) (xQi G (DA M sz) (fun z M' => z = k ∧ ∃ ω', RX G M' a (refS σ k) x ω')) 0 0 (DA M sz) := by
  refine x_start (by decide) (Nat.le_of_ble_eq_true rfl) ?_
  intro p e s m below meth c ⟨S, hr, hlk, hH, hK, hXN, hsz, hnm⟩ ls hl
  subst hsz
  obtain ⟨hx, hb, hml, hown, hts⟩ := S
  have S : CallFix p m c _ _ s _ lw_all RX0 := ⟨hx, hb, hml, hown, hts⟩
  have hA : ∀ q, s.heap.size ≤ q → DA M s.heap.size q := fun q hq => Or.inr hq
  have hl : lv_has ls 2 [(0, .ref a), (1, .int (iI k))] := hl
  refine lv_aload_n hx hb dX0_refuse_0 rfl (lv_at hl 0 rfl) ?_
  refine lv_iload_n hx hb dX0_refuse_1 rfl (lv_at hl 1 rfl) ?_
  refine x_put (ty := .int) hx hb hts in_X0 tyX0 tyX0_ok nmX0 hown hK hH hR.o rfl 3 (by decide) q342 (fun _ h9 => h9) rfl (by decide +kernel) rfl rfl (Nat.le_of_ble_eq_true rfl) (by decide) dX0_refuse_2 (fun H locs hH => ?_)
  obtain ⟨M1, e_M1⟩ : ∃ M1, M1 = hs M a (oB 1 [.ref (gb x 0 0), .ref (gp x 1), .ref (gp x 2), .int (iI k), .ref (gp x 4), .ref (gp x 5), .int (iI (σ 9 0)), .ref (gp x 7), .int (iI (σ 10 0)), .ref (gp x 9), .ref (gp x 10), .ref (gp x 11), .long (lI (gl ω))]) := ⟨_, rfl⟩
  have hH := XV_to hH e_M1.symm
  have f1 : M1 a = some (oB 1 [.ref (gb x 0 0), .ref (gp x 1), .ref (gp x 2), .int (iI k), .ref (gp x 4), .ref (gp x 5), .int (iI (σ 9 0)), .ref (gp x 7), .int (iI (σ 10 0)), .ref (gp x 9), .ref (gp x 10), .ref (gp x 11), .long (lI (gl ω))]) := by rw [e_M1]; exact hs_s
  obtain ⟨ω2, hR2⟩ : ∃ ω2, RX G M1 a (st σ 0 0 k) x ω2 := ⟨_, by rw [e_M1]; exact hR.x0 (f := 0) (v := k) (by decide)⟩
  refine lv_aload_n hx hb dX0_refuse_5 rfl (lv_at hl 0 rfl) ?_
  refine x_get hx hb hts in_X0 hown hK hH hR2.o rfl 2 (by decide) q341 (fun _ h9 => h9) rfl (by decide) dX0_refuse_6 ?_
  refine lv_iload_n hx hb dX0_refuse_9 rfl (lv_at hl 1 rfl) ?_
  refine n_ineg hx hb dX0_refuse_10 ?_
  refine lv_dup2_11 hx hb dX0_refuse_11 rfl rfl ?_
  refine x_iald hx hb hK hH hR2.p2 (by omega) (by omega) (Nat.le_of_ble_eq_true rfl) dX0_refuse_12 ?_
  refine W.eq (g2 := F0 m 13 ls (.int (iI ((st σ 0 0 k) 1 (-k))) :: .int (iI (-k)) :: .ref (gp x 2) :: [])) (by first | (rw [hR2.ref (by omega) (by omega)]; done) | (rw [hR2.ref (by omega) (by omega)]; rfl)) ?_
  refine n_iconst hx hb dX0_refuse_13 ?_
  refine n_iadd hx hb dX0_refuse_14 ?_
  refine x_iast hx hb hK hH hR2.p2 (by omega) (by omega) (Nat.le_of_ble_eq_true rfl) dX0_refuse_15 (fun H locs hH => ?_)
  obtain ⟨M3, e_M3⟩ : ∃ M3, M3 = hs M1 (gp x 2) (aI (G.2.1 0) 7 (up (gy ω2 2) (-k) (((st σ 0 0 k) 1 (-k)) + 1))) := ⟨_, rfl⟩
  have hH := XV_to hH e_M3.symm
  have f3 : M3 (gp x 2) = some (aI (G.2.1 0) 7 (up (gy ω2 2) (-k) (((st σ 0 0 k) 1 (-k)) + 1))) := by rw [e_M3]; exact hs_s
  obtain ⟨ω4, hR4⟩ : ∃ ω4, RX G M3 a (st (st σ 0 0 k) 1 (-k) (((st σ 0 0 k) 1 (-k)) + 1)) x ω4 := ⟨_, by rw [e_M3]; exact hR2.refs (i := (-k)) (v := (((st σ 0 0 k) 1 (-k)) + 1))⟩
  refine lv_iload_n hx hb dX0_refuse_16 rfl (lv_at hl 1 rfl) ?_
  refine x_iret hx hb hr hlk hH dX0_refuse_17 ?_
  exact ⟨rfl, _, hR4⟩
theorem kd_X0_done : yX0_done.cls = RX0 ∧ yX0_done.cls ≠ "java/lang/invoke/MethodHandle" ∧ yX0_done.cls ≠ "java/lang/invoke/VarHandle" ∧ (parseMethodDescriptor yX0_done.desc).map (fun d => d.parameters.length) = some 1 := by decide +kernel
theorem xm_X0_done (l : Launch) (G : MG) (M : Hp) (σ : St) (x : XGh) (ω : XCt) (a : Nat) (v : Int) (sz : Nat) (hR : RX G M a σ x ω) : Met l yX0_done (ws_ yX0_done cX0_done 2 (some .int)) (rmD 1) (xP G XN [.ref a, .int (iI v)] M sz) (xQi G (DA M sz) (fun z M' => z = v ∧ ∃ ω', RX G M' a (goodS σ) x ω')) 0 0 (DA M sz) := by
  refine x_start (by decide) (Nat.le_of_ble_eq_true rfl) ?_
  intro p e s m below meth c ⟨S, hr, hlk, hH, hK, hXN, hsz, hnm⟩ ls hl
  subst hsz
  obtain ⟨hx, hb, hml, hown, hts⟩ := S
  have S : CallFix p m c _ _ s _ lw_all RX0 := ⟨hx, hb, hml, hown, hts⟩
  have hA : ∀ q, s.heap.size ≤ q → DA M s.heap.size q := fun q hq => Or.inr hq
  have hl : lv_has ls 2 [(0, .ref a), (1, .int (iI v))] := hl
  refine lv_aload_n hx hb dX0_done_0 rfl (lv_at hl 0 rfl) ?_
  refine n_iconst hx hb dX0_done_1 ?_
  refine x_put (ty := .int) hx hb hts in_X0 tyX0 tyX0_ok nmX0 hown hK hH hR.o rfl 3 (by decide) q342 (fun _ h9 => h9) rfl (by decide +kernel) rfl rfl (Nat.le_of_ble_eq_true rfl) (by decide) dX0_done_2 (fun H locs hH => ?_)
  obtain ⟨M1, e_M1⟩ : ∃ M1, M1 = hs M a (oB 1 [.ref (gb x 0 0), .ref (gp x 1), .ref (gp x 2), .int (iI 0), .ref (gp x 4), .ref (gp x 5), .int (iI (σ 9 0)), .ref (gp x 7), .int (iI (σ 10 0)), .ref (gp x 9), .ref (gp x 10), .ref (gp x 11), .long (lI (gl ω))]) := ⟨_, rfl⟩
  have hH := XV_to hH e_M1.symm
  have f1 : M1 a = some (oB 1 [.ref (gb x 0 0), .ref (gp x 1), .ref (gp x 2), .int (iI 0), .ref (gp x 4), .ref (gp x 5), .int (iI (σ 9 0)), .ref (gp x 7), .int (iI (σ 10 0)), .ref (gp x 9), .ref (gp x 10), .ref (gp x 11), .long (lI (gl ω))]) := by rw [e_M1]; exact hs_s
  obtain ⟨ω2, hR2⟩ : ∃ ω2, RX G M1 a (st σ 0 0 0) x ω2 := ⟨_, by rw [e_M1]; exact hR.x0 (f := 0) (v := 0) (by decide)⟩
  refine lv_iload_n hx hb dX0_done_5 rfl (lv_at hl 1 rfl) ?_
  refine x_iret hx hb hr hlk hH dX0_done_6 ?_
  exact ⟨rfl, _, hR2⟩
theorem kd_X0_broth : yX0_broth.cls = RX0 ∧ yX0_broth.cls ≠ "java/lang/invoke/MethodHandle" ∧ yX0_broth.cls ≠ "java/lang/invoke/VarHandle" ∧ (parseMethodDescriptor yX0_broth.desc).map (fun d => d.parameters.length) = some 4 := by decide +kernel
theorem xm_X0_broth (l : Launch) (G : MG) (M : Hp) (σ : St) (x : XGh) (ω : XCt) (a : Nat) (b : Int) (g : Int) (sp : Int) (nd : Int) (sz : Nat) (hR : RX G M a σ x ω) (h_b : R32 b) (h_g : R32 g) (h_sp : R32 sp) (h_nd : R32 nd) (hI : KI (σ 2)) (hT : TT (σ 2)) (h40 : F40 σ) : Met l yX0_broth (ws_ yX0_broth cX0_broth 5 (some .int)) (rmD 3) (xP G XN [.ref a, .int (iI b), .int (iI g), .int (iI sp), .int (iI nd)] M sz) (xQi G (DA M sz) (fun z M' => z = (brothF σ b g sp nd).1 ∧ ∃ ω', RX G M' a (brothF σ b g sp nd).2 x ω')) 0 0 (DA M sz) := by
  refine x_start (by decide) (Nat.le_of_ble_eq_true rfl) ?_
  intro p e s m below meth c ⟨S, hr, hlk, hH, hK, hXN, hsz, hnm⟩ ls hl
  subst hsz
  obtain ⟨hx, hb, hml, hown, hts⟩ := S
  have S : CallFix p m c _ _ s _ lw_all RX0 := ⟨hx, hb, hml, hown, hts⟩
  have hA : ∀ q, s.heap.size ≤ q → DA M s.heap.size q := fun q hq => Or.inr hq
  have hl : lv_has ls 5 [(0, .ref a), (1, .int (iI b)), (2, .int (iI g)), (3, .int (iI sp)), (4, .int (iI nd))] := hl
  have h_b := R32.n h_b
  have h_g := R32.n h_g
  have h_sp := R32.n h_sp
  have h_nd := R32.n h_nd
  have hW := WK_of hI hT
  refine lv_iload_n hx hb dX0_broth_0 rfl (lv_at hl 1 rfl) ?_
  refine n_i2l hx hb (r32 (by omega)) dX0_broth_1 ?_
  refine n_lconst (z := 0) hx hb dX0_broth_2 (by decide) ?_
  refine lv_ldc2 (v := lI 5) hx hb hown (hts _ q433) dX0_broth_3 ?_
  refine x_calliF (x_runS (As := [.long (lI b), .long (lI 0), .long (lI 5)]) (rest := []) S hH hK (fun _ _ hW => XN.warm hW hXN) XN_b hl.1 (xm_X0_in l G M b 0 5 _ (r64 (by omega)) (r64 (by omega)) (r64 (by omega))) (lw_S q386 q387 q105 q388) kd_X0_in rfl rfl dX0_broth_6) hH hA (fun H locs hH => ?_)
  refine z_if_eq (tgt := 47) hx hb dX0_broth_9 (by decide) (fun c_9 => ?_) (fun c_9 => ?_)
  · -- 9T
    refine lv_aload_n hx hb dX0_broth_47 rfl (lv_at hl 0 rfl) ?_
    refine n_iconst hx hb dX0_broth_48 ?_
    refine x_calli (x_runV (As := [.int (iI (-1))]) (rest := []) S hH hK (fun _ _ hW => XN.warm hW hXN) XN_b hl.1 hR.o rfl (xm_X0_refuse l G M σ x ω a (-1) _ hR (by omega) (by omega)) (lw_V q393 q395 qs0 q105 q396) kd_X0_refuse rfl rfl dX0_broth_49) hH hA (fun z49 M49_ H locs q_49 hH hz_49 => ?_)
    obtain ⟨e_49, ω49x, hR49x⟩ := q_49
    subst e_49
    refine x_iret hx hb hr hlk hH dX0_broth_52 ?_
    exact cmd_ret (F := brothF σ b g sp nd) (by unfold brothF; (repeat' split) <;> first | rfl | (exfalso; omega)) hR49x
  · -- 9F
    refine lv_iload_n hx hb dX0_broth_12 rfl (lv_at hl 2 rfl) ?_
    refine n_i2l hx hb (r32 (by omega)) dX0_broth_13 ?_
    refine n_lconst (z := 0) hx hb dX0_broth_14 (by decide) ?_
    refine lv_ldc2 (v := lI 100) hx hb hown (hts _ q391) dX0_broth_15 ?_
    refine x_calliF (x_runS (As := [.long (lI g), .long (lI 0), .long (lI 100)]) (rest := []) S hH hK (fun _ _ hW => XN.warm hW hXN) XN_b hl.1 (xm_X0_in l G M g 0 100 _ (r64 (by omega)) (r64 (by omega)) (r64 (by omega))) (lw_S q386 q387 q105 q388) kd_X0_in rfl rfl dX0_broth_18) hH hA (fun H locs hH => ?_)
    refine z_if_eq (tgt := 47) hx hb dX0_broth_21 (by decide) (fun c_21 => ?_) (fun c_21 => ?_)
    · -- 21T
      refine lv_aload_n hx hb dX0_broth_47 rfl (lv_at hl 0 rfl) ?_
      refine n_iconst hx hb dX0_broth_48 ?_
      refine x_calli (x_runV (As := [.int (iI (-1))]) (rest := []) S hH hK (fun _ _ hW => XN.warm hW hXN) XN_b hl.1 hR.o rfl (xm_X0_refuse l G M σ x ω a (-1) _ hR (by omega) (by omega)) (lw_V q393 q395 qs0 q105 q396) kd_X0_refuse rfl rfl dX0_broth_49) hH hA (fun z49 M49_ H locs q_49 hH hz_49 => ?_)
      obtain ⟨e_49, ω49x, hR49x⟩ := q_49
      subst e_49
      refine x_iret hx hb hr hlk hH dX0_broth_52 ?_
      exact cmd_ret (F := brothF σ b g sp nd) (by unfold brothF; (repeat' split) <;> first | rfl | (exfalso; omega)) hR49x
    · -- 21F
      refine lv_iload_n hx hb dX0_broth_24 rfl (lv_at hl 3 rfl) ?_
      refine n_i2l hx hb (r32 (by omega)) dX0_broth_25 ?_
      refine n_lconst (z := 0) hx hb dX0_broth_26 (by decide) ?_
      refine lv_ldc2 (v := lI 7) hx hb hown (hts _ q385) dX0_broth_27 ?_
      refine x_calliF (x_runS (As := [.long (lI sp), .long (lI 0), .long (lI 7)]) (rest := []) S hH hK (fun _ _ hW => XN.warm hW hXN) XN_b hl.1 (xm_X0_in l G M sp 0 7 _ (r64 (by omega)) (r64 (by omega)) (r64 (by omega))) (lw_S q386 q387 q105 q388) kd_X0_in rfl rfl dX0_broth_30) hH hA (fun H locs hH => ?_)
      refine z_if_eq (tgt := 47) hx hb dX0_broth_33 (by decide) (fun c_33 => ?_) (fun c_33 => ?_)
      · -- 33T
        refine lv_aload_n hx hb dX0_broth_47 rfl (lv_at hl 0 rfl) ?_
        refine n_iconst hx hb dX0_broth_48 ?_
        refine x_calli (x_runV (As := [.int (iI (-1))]) (rest := []) S hH hK (fun _ _ hW => XN.warm hW hXN) XN_b hl.1 hR.o rfl (xm_X0_refuse l G M σ x ω a (-1) _ hR (by omega) (by omega)) (lw_V q393 q395 qs0 q105 q396) kd_X0_refuse rfl rfl dX0_broth_49) hH hA (fun z49 M49_ H locs q_49 hH hz_49 => ?_)
        obtain ⟨e_49, ω49x, hR49x⟩ := q_49
        subst e_49
        refine x_iret hx hb hr hlk hH dX0_broth_52 ?_
        exact cmd_ret (F := brothF σ b g sp nd) (by unfold brothF; (repeat' split) <;> first | rfl | (exfalso; omega)) hR49x
      · -- 33F
        refine lv_iload hx hb dX0_broth_36 (lv_at hl 4 rfl) ?_
        refine n_i2l hx hb (r32 (by omega)) dX0_broth_38 ?_
        refine n_lconst (z := 0) hx hb dX0_broth_39 (by decide) ?_
        refine n_lconst (z := 1) hx hb dX0_broth_40 (by decide) ?_
        refine x_calliF (x_runS (As := [.long (lI nd), .long (lI 0), .long (lI 1)]) (rest := []) S hH hK (fun _ _ hW => XN.warm hW hXN) XN_b hl.1 (xm_X0_in l G M nd 0 1 _ (r64 (by omega)) (r64 (by omega)) (r64 (by omega))) (lw_S q386 q387 q105 q388) kd_X0_in rfl rfl dX0_broth_41) hH hA (fun H locs hH => ?_)
        refine z_if_ne (tgt := 53) hx hb dX0_broth_44 (by decide) (fun c_44 => ?_) (fun c_44 => ?_)
        · -- 44T
          refine lv_aload_n hx hb dX0_broth_53 rfl (lv_at hl 0 rfl) ?_
          refine x_get hx hb hts in_X0 hown hK hH hR.o rfl 0 (by decide) q339 (fun _ h9 => h9) rfl (by decide) dX0_broth_54 ?_
          refine x_getN hx hb hts in_X1 hown hK hH hR.b0 rfl 15 (by decide) hXN q192 (fun _ h9 => h9) rfl (by decide) dX0_broth_57 ?_
          refine lv_iload_n hx hb dX0_broth_60 rfl (lv_at hl 1 rfl) ?_
          refine lv_iload_n hx hb dX0_broth_61 rfl (lv_at hl 2 rfl) ?_
          refine x_iast hx hb hK hH hR.b15 (by omega) (by omega) (Nat.le_of_ble_eq_true rfl) dX0_broth_62 (fun H locs hH => ?_)
          obtain ⟨M1, e_M1⟩ : ∃ M1, M1 = hs M (gb x 0 15) (aI (G.2.1 0) 6 (up (gz ω 0 15) b g)) := ⟨_, rfl⟩
          have hH := XV_to hH e_M1.symm
          have f1 : M1 (gb x 0 15) = some (aI (G.2.1 0) 6 (up (gz ω 0 15) b g)) := by rw [e_M1]; exact hs_s
          obtain ⟨ω2, hR2⟩ : ∃ ω2, RX G M1 a (st σ 2 (0 + 3 * b) g) x ω2 := ⟨_, by rw [e_M1]; exact hR.bz hW h40 (k := 15) (p := 0 + 3 * b) (v := g) (by decide) (by omega) (Zok_15 (v := g) hR.z (i := b) (by omega) (by omega)) rfl⟩
          have hW2 : WK ((st σ 2 (0 + 3 * b) g) 2) := WK_st hW (by omega)
          have hF2 : F40 (st σ 2 (0 + 3 * b) g) := F40_st h40 (by omega)
          have hC2_1750 : (st σ 2 (0 + 3 * b) g) 2 1750 = σ 2 1750 := st_i (by omega)
          have hC2_1752 : (st σ 2 (0 + 3 * b) g) 2 1752 = σ 2 1752 := st_i (by omega)
          have hC2_1753 : (st σ 2 (0 + 3 * b) g) 2 1753 = σ 2 1753 := st_i (by omega)
          refine lv_aload_n hx hb dX0_broth_63 rfl (lv_at hl 0 rfl) ?_
          refine x_get hx hb hts in_X0 hown hK hH hR2.o rfl 0 (by decide) q339 (fun _ h9 => h9) rfl (by decide) dX0_broth_64 ?_
          refine x_getN hx hb hts in_X1 hown hK hH hR2.b0 rfl 16 (by decide) hXN q194 (fun _ h9 => h9) rfl (by decide) dX0_broth_67 ?_
          refine lv_iload_n hx hb dX0_broth_70 rfl (lv_at hl 1 rfl) ?_
          refine lv_iload_n hx hb dX0_broth_71 rfl (lv_at hl 3 rfl) ?_
          refine x_iast hx hb hK hH hR2.b16 (by omega) (by omega) (Nat.le_of_ble_eq_true rfl) dX0_broth_72 (fun H locs hH => ?_)
          obtain ⟨M3, e_M3⟩ : ∃ M3, M3 = hs M1 (gb x 0 16) (aI (G.2.1 0) 6 (up (gz ω2 0 16) b sp)) := ⟨_, rfl⟩
          have hH := XV_to hH e_M3.symm
          have f3 : M3 (gb x 0 16) = some (aI (G.2.1 0) 6 (up (gz ω2 0 16) b sp)) := by rw [e_M3]; exact hs_s
          obtain ⟨ω4, hR4⟩ : ∃ ω4, RX G M3 a (st (st σ 2 (0 + 3 * b) g) 2 (0 + 3 * b + 1) sp) x ω4 := ⟨_, by rw [e_M3]; exact hR2.bz hW2 hF2 (k := 16) (p := 0 + 3 * b + 1) (v := sp) (by decide) (by omega) (Zok_16 (v := sp) hR2.z (i := b) (by omega) (by omega)) rfl⟩
          have hW4 : WK ((st (st σ 2 (0 + 3 * b) g) 2 (0 + 3 * b + 1) sp) 2) := WK_st hW2 (by omega)
          have hF4 : F40 (st (st σ 2 (0 + 3 * b) g) 2 (0 + 3 * b + 1) sp) := F40_st hF2 (by omega)
          have hC4_1750 : (st (st σ 2 (0 + 3 * b) g) 2 (0 + 3 * b + 1) sp) 2 1750 = (st σ 2 (0 + 3 * b) g) 2 1750 := st_i (by omega)
          have hC4_1752 : (st (st σ 2 (0 + 3 * b) g) 2 (0 + 3 * b + 1) sp) 2 1752 = (st σ 2 (0 + 3 * b) g) 2 1752 := st_i (by omega)
          have hC4_1753 : (st (st σ 2 (0 + 3 * b) g) 2 (0 + 3 * b + 1) sp) 2 1753 = (st σ 2 (0 + 3 * b) g) 2 1753 := st_i (by omega)
          refine lv_aload_n hx hb dX0_broth_73 rfl (lv_at hl 0 rfl) ?_
          refine x_get hx hb hts in_X0 hown hK hH hR4.o rfl 0 (by decide) q339 (fun _ h9 => h9) rfl (by decide) dX0_broth_74 ?_
          refine x_getN hx hb hts in_X1 hown hK hH hR4.b0 rfl 17 (by decide) hXN q196 (fun _ h9 => h9) rfl (by decide) dX0_broth_77 ?_
          refine lv_iload_n hx hb dX0_broth_80 rfl (lv_at hl 1 rfl) ?_
          refine lv_iload hx hb dX0_broth_81 (lv_at hl 4 rfl) ?_
          refine x_iast hx hb hK hH hR4.b17 (by omega) (by omega) (Nat.le_of_ble_eq_true rfl) dX0_broth_83 (fun H locs hH => ?_)
          obtain ⟨M5, e_M5⟩ : ∃ M5, M5 = hs M3 (gb x 0 17) (aI (G.2.1 0) 6 (up (gz ω4 0 17) b nd)) := ⟨_, rfl⟩
          have hH := XV_to hH e_M5.symm
          have f5 : M5 (gb x 0 17) = some (aI (G.2.1 0) 6 (up (gz ω4 0 17) b nd)) := by rw [e_M5]; exact hs_s
          obtain ⟨ω6, hR6⟩ : ∃ ω6, RX G M5 a (st (st (st σ 2 (0 + 3 * b) g) 2 (0 + 3 * b + 1) sp) 2 (0 + 3 * b + 2) nd) x ω6 := ⟨_, by rw [e_M5]; exact hR4.bz hW4 hF4 (k := 17) (p := 0 + 3 * b + 2) (v := nd) (by decide) (by omega) (Zok_17 (v := nd) hR4.z (i := b) (by omega) (by omega)) rfl⟩
          have hW6 : WK ((st (st (st σ 2 (0 + 3 * b) g) 2 (0 + 3 * b + 1) sp) 2 (0 + 3 * b + 2) nd) 2) := WK_st hW4 (by omega)
          have hF6 : F40 (st (st (st σ 2 (0 + 3 * b) g) 2 (0 + 3 * b + 1) sp) 2 (0 + 3 * b + 2) nd) := F40_st hF4 (by omega)
          have hC6_1750 : (st (st (st σ 2 (0 + 3 * b) g) 2 (0 + 3 * b + 1) sp) 2 (0 + 3 * b + 2) nd) 2 1750 = (st (st σ 2 (0 + 3 * b) g) 2 (0 + 3 * b + 1) sp) 2 1750 := st_i (by omega)
          have hC6_1752 : (st (st (st σ 2 (0 + 3 * b) g) 2 (0 + 3 * b + 1) sp) 2 (0 + 3 * b + 2) nd) 2 1752 = (st (st σ 2 (0 + 3 * b) g) 2 (0 + 3 * b + 1) sp) 2 1752 := st_i (by omega)
          have hC6_1753 : (st (st (st σ 2 (0 + 3 * b) g) 2 (0 + 3 * b + 1) sp) 2 (0 + 3 * b + 2) nd) 2 1753 = (st (st σ 2 (0 + 3 * b) g) 2 (0 + 3 * b + 1) sp) 2 1753 := st_i (by omega)
          refine lv_aload_n hx hb dX0_broth_84 rfl (lv_at hl 0 rfl) ?_
          refine n_iconst hx hb dX0_broth_85 ?_
          refine x_calli (x_runV (As := [.int (iI 0)]) (rest := []) S hH hK (fun _ _ hW => XN.warm hW hXN) XN_b hl.1 hR6.o rfl (xm_X0_done l G M5 (st (st (st σ 2 (0 + 3 * b) g) 2 (0 + 3 * b + 1) sp) 2 (0 + 3 * b + 2) nd) x ω6 a 0 _ hR6) (lw_V q425 q427 qs1 q105 q428) kd_X0_done rfl rfl dX0_broth_86) hH hA (fun z86 M86_ H locs q_86 hH hz_86 => ?_)
          obtain ⟨e_86, ω86x, hR86x⟩ := q_86
          subst e_86
          refine x_iret hx hb hr hlk hH dX0_broth_89 ?_
          exact cmd_ret (F := brothF σ b g sp nd) (by unfold brothF; (repeat' split) <;> first | rfl | (exfalso; omega)) hR86x
        · -- 44F
          refine lv_aload_n hx hb dX0_broth_47 rfl (lv_at hl 0 rfl) ?_
          refine n_iconst hx hb dX0_broth_48 ?_
          refine x_calli (x_runV (As := [.int (iI (-1))]) (rest := []) S hH hK (fun _ _ hW => XN.warm hW hXN) XN_b hl.1 hR.o rfl (xm_X0_refuse l G M σ x ω a (-1) _ hR (by omega) (by omega)) (lw_V q393 q395 qs0 q105 q396) kd_X0_refuse rfl rfl dX0_broth_49) hH hA (fun z49 M49_ H locs q_49 hH hz_49 => ?_)
          obtain ⟨e_49, ω49x, hR49x⟩ := q_49
          subst e_49
          refine x_iret hx hb hr hlk hH dX0_broth_52 ?_
          exact cmd_ret (F := brothF σ b g sp nd) (by unfold brothF; (repeat' split) <;> first | rfl | (exfalso; omega)) hR49x
theorem kd_X0_lets : yX0_lets.cls = RX0 ∧ yX0_lets.cls ≠ "java/lang/invoke/MethodHandle" ∧ yX0_lets.cls ≠ "java/lang/invoke/VarHandle" ∧ (parseMethodDescriptor yX0_lets.desc).map (fun d => d.parameters.length) = some 3 := by decide +kernel
theorem xm_X0_lets (l : Launch) (G : MG) (M : Hp) (σ : St) (x : XGh) (ω : XCt) (a : Nat) (w : Int) (n : Int) (v : Int) (sz : Nat) (hR : RX G M a σ x ω) (h_w : R32 w) (h_n : R32 n) (h_v : R32 v) (hI : KI (σ 2)) (hT : TT (σ 2)) (h40 : F40 σ) : Met l yX0_lets (ws_ yX0_lets cX0_lets 6 (some .int)) (rmD 3) (xP G XN [.ref a, .int (iI w), .int (iI n), .int (iI v)] M sz) (xQi G (DA M sz) (fun z M' => z = (letsF σ w n v).1 ∧ ∃ ω', RX G M' a (letsF σ w n v).2 x ω')) 0 0 (DA M sz) := by
  refine x_start (by decide) (Nat.le_of_ble_eq_true rfl) ?_
  intro p e s m below meth c ⟨S, hr, hlk, hH, hK, hXN, hsz, hnm⟩ ls hl
  subst hsz
  obtain ⟨hx, hb, hml, hown, hts⟩ := S
  have S : CallFix p m c _ _ s _ lw_all RX0 := ⟨hx, hb, hml, hown, hts⟩
  have hA : ∀ q, s.heap.size ≤ q → DA M s.heap.size q := fun q hq => Or.inr hq
  have hl : lv_has ls 6 [(0, .ref a), (1, .int (iI w)), (2, .int (iI n)), (3, .int (iI v))] := hl
  have h_w := R32.n h_w
  have h_n := R32.n h_n
  have h_v := R32.n h_v
  have hW := WK_of hI hT
  refine lv_iload_n hx hb dX0_lets_0 rfl (lv_at hl 1 rfl) ?_
  refine n_i2l hx hb (r32 (by omega)) dX0_lets_1 ?_
  refine n_lconst (z := 0) hx hb dX0_lets_2 (by decide) ?_
  refine lv_ldc2 (v := lI 2) hx hb hown (hts _ q438) dX0_lets_3 ?_
  refine x_calliF (x_runS (As := [.long (lI w), .long (lI 0), .long (lI 2)]) (rest := []) S hH hK (fun _ _ hW => XN.warm hW hXN) XN_b hl.1 (xm_X0_in l G M w 0 2 _ (r64 (by omega)) (r64 (by omega)) (r64 (by omega))) (lw_S q386 q387 q105 q388) kd_X0_in rfl rfl dX0_lets_6) hH hA (fun H locs hH => ?_)
  refine z_if_eq (tgt := 57) hx hb dX0_lets_9 (by decide) (fun c_9 => ?_) (fun c_9 => ?_)
  · -- 9T
    refine lv_aload_n hx hb dX0_lets_57 rfl (lv_at hl 0 rfl) ?_
    refine n_iconst hx hb dX0_lets_58 ?_
    refine x_calli (x_runV (As := [.int (iI (-1))]) (rest := []) S hH hK (fun _ _ hW => XN.warm hW hXN) XN_b hl.1 hR.o rfl (xm_X0_refuse l G M σ x ω a (-1) _ hR (by omega) (by omega)) (lw_V q393 q395 qs0 q105 q396) kd_X0_refuse rfl rfl dX0_lets_59) hH hA (fun z59 M59_ H locs q_59 hH hz_59 => ?_)
    obtain ⟨e_59, ω59x, hR59x⟩ := q_59
    subst e_59
    refine x_iret hx hb hr hlk hH dX0_lets_62 ?_
    exact cmd_ret (F := letsF σ w n v) (by unfold letsF letAt; (repeat' split) <;> first | rfl | (exfalso; omega)) hR59x
  · -- 9F
    refine lv_iload_n hx hb dX0_lets_12 rfl (lv_at hl 2 rfl) ?_
    refine n_i2l hx hb (r32 (by omega)) dX0_lets_13 ?_
    refine n_lconst (z := 0) hx hb dX0_lets_14 (by decide) ?_
    refine lv_iload_n hx hb dX0_lets_15 rfl (lv_at hl 1 rfl) ?_
    refine n_if_ne (tgt := 25) hx hb (r32 (by omega)) dX0_lets_16 (by decide) (fun c_16 => ?_) (fun c_16 => ?_)
    · -- 16T
      refine lv_iload_n hx hb dX0_lets_25 rfl (lv_at hl 1 rfl) ?_
      refine n_iconst hx hb dX0_lets_26 ?_
      refine n_icmp_ne (tgt := 36) hx hb (r32 (by omega)) (r32 (by omega)) dX0_lets_27 (by decide) (fun c_27 => ?_) (fun c_27 => ?_)
      · -- 27T
        refine lv_ldc2 (v := lI 11) hx hb hown (hts _ q439) dX0_lets_36 ?_
        refine x_calliF (x_runS (As := [.long (lI n), .long (lI 0), .long (lI 11)]) (rest := []) S hH hK (fun _ _ hW => XN.warm hW hXN) XN_b hl.1 (xm_X0_in l G M n 0 11 _ (r64 (by omega)) (r64 (by omega)) (r64 (by omega))) (lw_S q386 q387 q105 q388) kd_X0_in rfl rfl dX0_lets_39) hH hA (fun H locs hH => ?_)
        refine z_if_eq (tgt := 57) hx hb dX0_lets_42 (by decide) (fun c_42 => ?_) (fun c_42 => ?_)
        · -- 42T
          refine lv_aload_n hx hb dX0_lets_57 rfl (lv_at hl 0 rfl) ?_
          refine n_iconst hx hb dX0_lets_58 ?_
          refine x_calli (x_runV (As := [.int (iI (-1))]) (rest := []) S hH hK (fun _ _ hW => XN.warm hW hXN) XN_b hl.1 hR.o rfl (xm_X0_refuse l G M σ x ω a (-1) _ hR (by omega) (by omega)) (lw_V q393 q395 qs0 q105 q396) kd_X0_refuse rfl rfl dX0_lets_59) hH hA (fun z59 M59_ H locs q_59 hH hz_59 => ?_)
          obtain ⟨e_59, ω59x, hR59x⟩ := q_59
          subst e_59
          refine x_iret hx hb hr hlk hH dX0_lets_62 ?_
          exact cmd_ret (F := letsF σ w n v) (by unfold letsF letAt; (repeat' split) <;> first | rfl | (exfalso; omega)) hR59x
        · -- 42F
          refine lv_iload_n hx hb dX0_lets_45 rfl (lv_at hl 3 rfl) ?_
          refine n_i2l hx hb (r32 (by omega)) dX0_lets_46 ?_
          refine n_lconst (z := 0) hx hb dX0_lets_47 (by decide) ?_
          refine lv_ldc2 (v := lI 100) hx hb hown (hts _ q391) dX0_lets_48 ?_
          refine x_calliF (x_runS (As := [.long (lI v), .long (lI 0), .long (lI 100)]) (rest := []) S hH hK (fun _ _ hW => XN.warm hW hXN) XN_b hl.1 (xm_X0_in l G M v 0 100 _ (r64 (by omega)) (r64 (by omega)) (r64 (by omega))) (lw_S q386 q387 q105 q388) kd_X0_in rfl rfl dX0_lets_51) hH hA (fun H locs hH => ?_)
          refine z_if_ne (tgt := 63) hx hb dX0_lets_54 (by decide) (fun c_54 => ?_) (fun c_54 => ?_)
          · -- 54T
            refine lv_iload_n hx hb dX0_lets_63 rfl (lv_at hl 1 rfl) ?_
            refine n_if_ne (tgt := 77) hx hb (r32 (by omega)) dX0_lets_64 (by decide) (fun c_64 => ?_) (fun c_64 => ?_)
            · -- 64T
              refine lv_iload_n hx hb dX0_lets_77 rfl (lv_at hl 1 rfl) ?_
              refine n_iconst hx hb dX0_lets_78 ?_
              refine n_icmp_ne (tgt := 92) hx hb (r32 (by omega)) (r32 (by omega)) dX0_lets_79 (by decide) (fun c_79 => ?_) (fun c_79 => ?_)
              · -- 79T
                refine lv_aload_n hx hb dX0_lets_92 rfl (lv_at hl 0 rfl) ?_
                refine x_get hx hb hts in_X0 hown hK hH hR.o rfl 0 (by decide) q339 (fun _ h9 => h9) rfl (by decide) dX0_lets_93 ?_
                refine x_getN hx hb hts in_X1 hown hK hH hR.b0 rfl 20 (by decide) hXN q202 (fun _ h9 => h9) rfl (by decide) dX0_lets_96 ?_
                refine lv_astore hx hb dX0_lets_99 hl (Nat.le_of_ble_eq_true rfl) (lv' := [(4, .ref (gb x 0 20)), (0, .ref a), (1, .int (iI w)), (2, .int (iI n)), (3, .int (iI v))]) rfl (fun ls hl => ?_)
                refine lv_aload hx hb dX0_lets_101 (lv_at hl 0 rfl) ?_
                refine lv_iload_n hx hb dX0_lets_103 rfl (lv_at hl 3 rfl) ?_
                refine x_iald hx hb hK hH hR.b20 (by omega) (by omega) (Nat.le_of_ble_eq_true rfl) dX0_lets_104 ?_
                refine W.eq (g2 := F0 m 105 ls (.int (iI (σ 2 (28 + n))) :: [])) (by first | (rw [hR.z.2.2.2.1 _ (by omega) (by omega)]; done) | (rw [hR.z.2.2.2.1 _ (by omega) (by omega)]; rfl)) ?_
                refine lv_istore hx hb dX0_lets_105 hl (Nat.le_of_ble_eq_true rfl) (lv' := [(5, .int (iI (σ 2 (28 + n)))), (4, .ref (gb x 0 20)), (0, .ref a), (1, .int (iI w)), (2, .int (iI n)), (3, .int (iI v))]) rfl (fun ls hl => ?_)
                refine lv_aload hx hb dX0_lets_107 (lv_at hl 1 rfl) ?_
                refine lv_iload_n hx hb dX0_lets_109 rfl (lv_at hl 4 rfl) ?_
                refine lv_iload_n hx hb dX0_lets_110 rfl (lv_at hl 5 rfl) ?_
                refine x_iast hx hb hK hH hR.b20 (by omega) (by omega) (Nat.le_of_ble_eq_true rfl) dX0_lets_111 (fun H locs hH => ?_)
                obtain ⟨M1, e_M1⟩ : ∃ M1, M1 = hs M (gb x 0 20) (aI (G.2.1 0) 12 (up (gz ω 0 20) n v)) := ⟨_, rfl⟩
                have hH := XV_to hH e_M1.symm
                have f1 : M1 (gb x 0 20) = some (aI (G.2.1 0) 12 (up (gz ω 0 20) n v)) := by rw [e_M1]; exact hs_s
                obtain ⟨ω2, hR2⟩ : ∃ ω2, RX G M1 a (st σ 2 (28 + n) v) x ω2 := ⟨_, by rw [e_M1]; exact hR.bz hW h40 (k := 20) (p := 28 + n) (v := v) (by decide) (by omega) (Zok_20 (v := v) hR.z (i := n) (by omega) (by omega)) rfl⟩
                have hW2 : WK ((st σ 2 (28 + n) v) 2) := WK_st hW (by omega)
                have hF2 : F40 (st σ 2 (28 + n) v) := F40_st h40 (by omega)
                have hC2_1750 : (st σ 2 (28 + n) v) 2 1750 = σ 2 1750 := st_i (by omega)
                have hC2_1752 : (st σ 2 (28 + n) v) 2 1752 = σ 2 1752 := st_i (by omega)
                have hC2_1753 : (st σ 2 (28 + n) v) 2 1753 = σ 2 1753 := st_i (by omega)
                refine lv_aload_n hx hb dX0_lets_112 rfl (lv_at hl 2 rfl) ?_
                refine lv_iload hx hb dX0_lets_113 (lv_at hl 0 rfl) ?_
                refine x_calli (x_runV (As := [.int (iI (σ 2 (28 + n)))]) (rest := []) S hH hK (fun _ _ hW => XN.warm hW hXN) XN_b hl.1 hR2.o rfl (xm_X0_done l G M1 (st σ 2 (28 + n) v) x ω2 a (σ 2 (28 + n)) _ hR2) (lw_V q425 q427 qs1 q105 q428) kd_X0_done rfl rfl dX0_lets_115) hH hA (fun z115 M115_ H locs q_115 hH hz_115 => ?_)
                obtain ⟨e_115, ω115x, hR115x⟩ := q_115
                subst e_115
                refine x_iret hx hb hr hlk hH dX0_lets_118 ?_
                exact cmd_ret (F := letsF σ w n v) (by unfold letsF letAt; (repeat' split) <;> first | rfl | (exfalso; omega)) hR115x
              · exact absurd c_79 c_27
            · exact absurd c_64 c_16
          · -- 54F
            refine lv_aload_n hx hb dX0_lets_57 rfl (lv_at hl 0 rfl) ?_
            refine n_iconst hx hb dX0_lets_58 ?_
            refine x_calli (x_runV (As := [.int (iI (-1))]) (rest := []) S hH hK (fun _ _ hW => XN.warm hW hXN) XN_b hl.1 hR.o rfl (xm_X0_refuse l G M σ x ω a (-1) _ hR (by omega) (by omega)) (lw_V q393 q395 qs0 q105 q396) kd_X0_refuse rfl rfl dX0_lets_59) hH hA (fun z59 M59_ H locs q_59 hH hz_59 => ?_)
            obtain ⟨e_59, ω59x, hR59x⟩ := q_59
            subst e_59
            refine x_iret hx hb hr hlk hH dX0_lets_62 ?_
            exact cmd_ret (F := letsF σ w n v) (by unfold letsF letAt; (repeat' split) <;> first | rfl | (exfalso; omega)) hR59x
      · -- 27F
        refine lv_ldc2 (v := lI 3) hx hb hown (hts _ q392) dX0_lets_30 ?_
        refine lv_goto (tgt := 39) hx hb dX0_lets_33 (by decide) ?_
        refine x_calliF (x_runS (As := [.long (lI n), .long (lI 0), .long (lI 3)]) (rest := []) S hH hK (fun _ _ hW => XN.warm hW hXN) XN_b hl.1 (xm_X0_in l G M n 0 3 _ (r64 (by omega)) (r64 (by omega)) (r64 (by omega))) (lw_S q386 q387 q105 q388) kd_X0_in rfl rfl dX0_lets_39) hH hA (fun H locs hH => ?_)
        refine z_if_eq (tgt := 57) hx hb dX0_lets_42 (by decide) (fun c_42 => ?_) (fun c_42 => ?_)
        · -- 42T
          refine lv_aload_n hx hb dX0_lets_57 rfl (lv_at hl 0 rfl) ?_
          refine n_iconst hx hb dX0_lets_58 ?_
          refine x_calli (x_runV (As := [.int (iI (-1))]) (rest := []) S hH hK (fun _ _ hW => XN.warm hW hXN) XN_b hl.1 hR.o rfl (xm_X0_refuse l G M σ x ω a (-1) _ hR (by omega) (by omega)) (lw_V q393 q395 qs0 q105 q396) kd_X0_refuse rfl rfl dX0_lets_59) hH hA (fun z59 M59_ H locs q_59 hH hz_59 => ?_)
          obtain ⟨e_59, ω59x, hR59x⟩ := q_59
          subst e_59
          refine x_iret hx hb hr hlk hH dX0_lets_62 ?_
          exact cmd_ret (F := letsF σ w n v) (by unfold letsF letAt; (repeat' split) <;> first | rfl | (exfalso; omega)) hR59x
        · -- 42F
          refine lv_iload_n hx hb dX0_lets_45 rfl (lv_at hl 3 rfl) ?_
          refine n_i2l hx hb (r32 (by omega)) dX0_lets_46 ?_
          refine n_lconst (z := 0) hx hb dX0_lets_47 (by decide) ?_
          refine lv_ldc2 (v := lI 100) hx hb hown (hts _ q391) dX0_lets_48 ?_
          refine x_calliF (x_runS (As := [.long (lI v), .long (lI 0), .long (lI 100)]) (rest := []) S hH hK (fun _ _ hW => XN.warm hW hXN) XN_b hl.1 (xm_X0_in l G M v 0 100 _ (r64 (by omega)) (r64 (by omega)) (r64 (by omega))) (lw_S q386 q387 q105 q388) kd_X0_in rfl rfl dX0_lets_51) hH hA (fun H locs hH => ?_)
          refine z_if_ne (tgt := 63) hx hb dX0_lets_54 (by decide) (fun c_54 => ?_) (fun c_54 => ?_)
          · -- 54T
            refine lv_iload_n hx hb dX0_lets_63 rfl (lv_at hl 1 rfl) ?_
            refine n_if_ne (tgt := 77) hx hb (r32 (by omega)) dX0_lets_64 (by decide) (fun c_64 => ?_) (fun c_64 => ?_)
            · -- 64T
              refine lv_iload_n hx hb dX0_lets_77 rfl (lv_at hl 1 rfl) ?_
              refine n_iconst hx hb dX0_lets_78 ?_
              refine n_icmp_ne (tgt := 92) hx hb (r32 (by omega)) (r32 (by omega)) dX0_lets_79 (by decide) (fun c_79 => ?_) (fun c_79 => ?_)
              · exact absurd c_27 c_79
              · -- 79F
                refine lv_aload_n hx hb dX0_lets_82 rfl (lv_at hl 0 rfl) ?_
                refine x_get hx hb hts in_X0 hown hK hH hR.o rfl 0 (by decide) q339 (fun _ h9 => h9) rfl (by decide) dX0_lets_83 ?_
                refine x_getN hx hb hts in_X1 hown hK hH hR.b0 rfl 19 (by decide) hXN q200 (fun _ h9 => h9) rfl (by decide) dX0_lets_86 ?_
                refine lv_goto (tgt := 99) hx hb dX0_lets_89 (by decide) ?_
                refine lv_astore hx hb dX0_lets_99 hl (Nat.le_of_ble_eq_true rfl) (lv' := [(4, .ref (gb x 0 19)), (0, .ref a), (1, .int (iI w)), (2, .int (iI n)), (3, .int (iI v))]) rfl (fun ls hl => ?_)
                refine lv_aload hx hb dX0_lets_101 (lv_at hl 0 rfl) ?_
                refine lv_iload_n hx hb dX0_lets_103 rfl (lv_at hl 3 rfl) ?_
                refine x_iald hx hb hK hH hR.b19 (by omega) (by omega) (Nat.le_of_ble_eq_true rfl) dX0_lets_104 ?_
                refine W.eq (g2 := F0 m 105 ls (.int (iI (σ 2 (24 + n))) :: [])) (by first | (rw [hR.z.2.2.1 _ (by omega) (by omega)]; done) | (rw [hR.z.2.2.1 _ (by omega) (by omega)]; rfl)) ?_
                refine lv_istore hx hb dX0_lets_105 hl (Nat.le_of_ble_eq_true rfl) (lv' := [(5, .int (iI (σ 2 (24 + n)))), (4, .ref (gb x 0 19)), (0, .ref a), (1, .int (iI w)), (2, .int (iI n)), (3, .int (iI v))]) rfl (fun ls hl => ?_)
                refine lv_aload hx hb dX0_lets_107 (lv_at hl 1 rfl) ?_
                refine lv_iload_n hx hb dX0_lets_109 rfl (lv_at hl 4 rfl) ?_
                refine lv_iload_n hx hb dX0_lets_110 rfl (lv_at hl 5 rfl) ?_
                refine x_iast hx hb hK hH hR.b19 (by omega) (by omega) (Nat.le_of_ble_eq_true rfl) dX0_lets_111 (fun H locs hH => ?_)
                obtain ⟨M3, e_M3⟩ : ∃ M3, M3 = hs M (gb x 0 19) (aI (G.2.1 0) 4 (up (gz ω 0 19) n v)) := ⟨_, rfl⟩
                have hH := XV_to hH e_M3.symm
                have f3 : M3 (gb x 0 19) = some (aI (G.2.1 0) 4 (up (gz ω 0 19) n v)) := by rw [e_M3]; exact hs_s
                obtain ⟨ω4, hR4⟩ : ∃ ω4, RX G M3 a (st σ 2 (24 + n) v) x ω4 := ⟨_, by rw [e_M3]; exact hR.bz hW h40 (k := 19) (p := 24 + n) (v := v) (by decide) (by omega) (Zok_19 (v := v) hR.z (i := n) (by omega) (by omega)) rfl⟩
                have hW4 : WK ((st σ 2 (24 + n) v) 2) := WK_st hW (by omega)
                have hF4 : F40 (st σ 2 (24 + n) v) := F40_st h40 (by omega)
                have hC4_1750 : (st σ 2 (24 + n) v) 2 1750 = σ 2 1750 := st_i (by omega)
                have hC4_1752 : (st σ 2 (24 + n) v) 2 1752 = σ 2 1752 := st_i (by omega)
                have hC4_1753 : (st σ 2 (24 + n) v) 2 1753 = σ 2 1753 := st_i (by omega)
                refine lv_aload_n hx hb dX0_lets_112 rfl (lv_at hl 2 rfl) ?_
                refine lv_iload hx hb dX0_lets_113 (lv_at hl 0 rfl) ?_
                refine x_calli (x_runV (As := [.int (iI (σ 2 (24 + n)))]) (rest := []) S hH hK (fun _ _ hW => XN.warm hW hXN) XN_b hl.1 hR4.o rfl (xm_X0_done l G M3 (st σ 2 (24 + n) v) x ω4 a (σ 2 (24 + n)) _ hR4) (lw_V q425 q427 qs1 q105 q428) kd_X0_done rfl rfl dX0_lets_115) hH hA (fun z115 M115_ H locs q_115 hH hz_115 => ?_)
                obtain ⟨e_115, ω115x, hR115x⟩ := q_115
                subst e_115
                refine x_iret hx hb hr hlk hH dX0_lets_118 ?_
                exact cmd_ret (F := letsF σ w n v) (by unfold letsF letAt; (repeat' split) <;> first | rfl | (exfalso; omega)) hR115x
            · exact absurd c_64 c_16
          · -- 54F
            refine lv_aload_n hx hb dX0_lets_57 rfl (lv_at hl 0 rfl) ?_
            refine n_iconst hx hb dX0_lets_58 ?_
            refine x_calli (x_runV (As := [.int (iI (-1))]) (rest := []) S hH hK (fun _ _ hW => XN.warm hW hXN) XN_b hl.1 hR.o rfl (xm_X0_refuse l G M σ x ω a (-1) _ hR (by omega) (by omega)) (lw_V q393 q395 qs0 q105 q396) kd_X0_refuse rfl rfl dX0_lets_59) hH hA (fun z59 M59_ H locs q_59 hH hz_59 => ?_)
            obtain ⟨e_59, ω59x, hR59x⟩ := q_59
            subst e_59
            refine x_iret hx hb hr hlk hH dX0_lets_62 ?_
            exact cmd_ret (F := letsF σ w n v) (by unfold letsF letAt; (repeat' split) <;> first | rfl | (exfalso; omega)) hR59x
    · -- 16F
      refine lv_ldc2 (v := lI 5) hx hb hown (hts _ q433) dX0_lets_19 ?_
      refine lv_goto (tgt := 39) hx hb dX0_lets_22 (by decide) ?_
      refine x_calliF (x_runS (As := [.long (lI n), .long (lI 0), .long (lI 5)]) (rest := []) S hH hK (fun _ _ hW => XN.warm hW hXN) XN_b hl.1 (xm_X0_in l G M n 0 5 _ (r64 (by omega)) (r64 (by omega)) (r64 (by omega))) (lw_S q386 q387 q105 q388) kd_X0_in rfl rfl dX0_lets_39) hH hA (fun H locs hH => ?_)
      refine z_if_eq (tgt := 57) hx hb dX0_lets_42 (by decide) (fun c_42 => ?_) (fun c_42 => ?_)
      · -- 42T
        refine lv_aload_n hx hb dX0_lets_57 rfl (lv_at hl 0 rfl) ?_
        refine n_iconst hx hb dX0_lets_58 ?_
        refine x_calli (x_runV (As := [.int (iI (-1))]) (rest := []) S hH hK (fun _ _ hW => XN.warm hW hXN) XN_b hl.1 hR.o rfl (xm_X0_refuse l G M σ x ω a (-1) _ hR (by omega) (by omega)) (lw_V q393 q395 qs0 q105 q396) kd_X0_refuse rfl rfl dX0_lets_59) hH hA (fun z59 M59_ H locs q_59 hH hz_59 => ?_)
        obtain ⟨e_59, ω59x, hR59x⟩ := q_59
        subst e_59
        refine x_iret hx hb hr hlk hH dX0_lets_62 ?_
        exact cmd_ret (F := letsF σ w n v) (by unfold letsF letAt; (repeat' split) <;> first | rfl | (exfalso; omega)) hR59x
      · -- 42F
        refine lv_iload_n hx hb dX0_lets_45 rfl (lv_at hl 3 rfl) ?_
        refine n_i2l hx hb (r32 (by omega)) dX0_lets_46 ?_
        refine n_lconst (z := 0) hx hb dX0_lets_47 (by decide) ?_
        refine lv_ldc2 (v := lI 100) hx hb hown (hts _ q391) dX0_lets_48 ?_
        refine x_calliF (x_runS (As := [.long (lI v), .long (lI 0), .long (lI 100)]) (rest := []) S hH hK (fun _ _ hW => XN.warm hW hXN) XN_b hl.1 (xm_X0_in l G M v 0 100 _ (r64 (by omega)) (r64 (by omega)) (r64 (by omega))) (lw_S q386 q387 q105 q388) kd_X0_in rfl rfl dX0_lets_51) hH hA (fun H locs hH => ?_)
        refine z_if_ne (tgt := 63) hx hb dX0_lets_54 (by decide) (fun c_54 => ?_) (fun c_54 => ?_)
        · -- 54T
          refine lv_iload_n hx hb dX0_lets_63 rfl (lv_at hl 1 rfl) ?_
          refine n_if_ne (tgt := 77) hx hb (r32 (by omega)) dX0_lets_64 (by decide) (fun c_64 => ?_) (fun c_64 => ?_)
          · exact absurd c_16 c_64
          · -- 64F
            refine lv_aload_n hx hb dX0_lets_67 rfl (lv_at hl 0 rfl) ?_
            refine x_get hx hb hts in_X0 hown hK hH hR.o rfl 0 (by decide) q339 (fun _ h9 => h9) rfl (by decide) dX0_lets_68 ?_
            refine x_getN hx hb hts in_X1 hown hK hH hR.b0 rfl 18 (by decide) hXN q198 (fun _ h9 => h9) rfl (by decide) dX0_lets_71 ?_
            refine lv_goto (tgt := 99) hx hb dX0_lets_74 (by decide) ?_
            refine lv_astore hx hb dX0_lets_99 hl (Nat.le_of_ble_eq_true rfl) (lv' := [(4, .ref (gb x 0 18)), (0, .ref a), (1, .int (iI w)), (2, .int (iI n)), (3, .int (iI v))]) rfl (fun ls hl => ?_)
            refine lv_aload hx hb dX0_lets_101 (lv_at hl 0 rfl) ?_
            refine lv_iload_n hx hb dX0_lets_103 rfl (lv_at hl 3 rfl) ?_
            refine x_iald hx hb hK hH hR.b18 (by omega) (by omega) (Nat.le_of_ble_eq_true rfl) dX0_lets_104 ?_
            refine W.eq (g2 := F0 m 105 ls (.int (iI (σ 2 (18 + n))) :: [])) (by first | (rw [(hR.z.2.1 _ (by omega) (by omega)).2.2.2]; done) | (rw [(hR.z.2.1 _ (by omega) (by omega)).2.2.2]; rfl)) ?_
            refine lv_istore hx hb dX0_lets_105 hl (Nat.le_of_ble_eq_true rfl) (lv' := [(5, .int (iI (σ 2 (18 + n)))), (4, .ref (gb x 0 18)), (0, .ref a), (1, .int (iI w)), (2, .int (iI n)), (3, .int (iI v))]) rfl (fun ls hl => ?_)
            refine lv_aload hx hb dX0_lets_107 (lv_at hl 1 rfl) ?_
            refine lv_iload_n hx hb dX0_lets_109 rfl (lv_at hl 4 rfl) ?_
            refine lv_iload_n hx hb dX0_lets_110 rfl (lv_at hl 5 rfl) ?_
            refine x_iast hx hb hK hH hR.b18 (by omega) (by omega) (Nat.le_of_ble_eq_true rfl) dX0_lets_111 (fun H locs hH => ?_)
            obtain ⟨M5, e_M5⟩ : ∃ M5, M5 = hs M (gb x 0 18) (aI (G.2.1 0) 6 (up (gz ω 0 18) n v)) := ⟨_, rfl⟩
            have hH := XV_to hH e_M5.symm
            have f5 : M5 (gb x 0 18) = some (aI (G.2.1 0) 6 (up (gz ω 0 18) n v)) := by rw [e_M5]; exact hs_s
            obtain ⟨ω6, hR6⟩ : ∃ ω6, RX G M5 a (st σ 2 (18 + n) v) x ω6 := ⟨_, by rw [e_M5]; exact hR.bz hW h40 (k := 18) (p := 18 + n) (v := v) (by decide) (by omega) (Zok_18 (v := v) hR.z (i := n) (by omega) (by omega)) rfl⟩
            have hW6 : WK ((st σ 2 (18 + n) v) 2) := WK_st hW (by omega)
            have hF6 : F40 (st σ 2 (18 + n) v) := F40_st h40 (by omega)
            have hC6_1750 : (st σ 2 (18 + n) v) 2 1750 = σ 2 1750 := st_i (by omega)
            have hC6_1752 : (st σ 2 (18 + n) v) 2 1752 = σ 2 1752 := st_i (by omega)
            have hC6_1753 : (st σ 2 (18 + n) v) 2 1753 = σ 2 1753 := st_i (by omega)
            refine lv_aload_n hx hb dX0_lets_112 rfl (lv_at hl 2 rfl) ?_
            refine lv_iload hx hb dX0_lets_113 (lv_at hl 0 rfl) ?_
            refine x_calli (x_runV (As := [.int (iI (σ 2 (18 + n)))]) (rest := []) S hH hK (fun _ _ hW => XN.warm hW hXN) XN_b hl.1 hR6.o rfl (xm_X0_done l G M5 (st σ 2 (18 + n) v) x ω6 a (σ 2 (18 + n)) _ hR6) (lw_V q425 q427 qs1 q105 q428) kd_X0_done rfl rfl dX0_lets_115) hH hA (fun z115 M115_ H locs q_115 hH hz_115 => ?_)
            obtain ⟨e_115, ω115x, hR115x⟩ := q_115
            subst e_115
            refine x_iret hx hb hr hlk hH dX0_lets_118 ?_
            exact cmd_ret (F := letsF σ w n v) (by unfold letsF letAt; (repeat' split) <;> first | rfl | (exfalso; omega)) hR115x
        · -- 54F
          refine lv_aload_n hx hb dX0_lets_57 rfl (lv_at hl 0 rfl) ?_
          refine n_iconst hx hb dX0_lets_58 ?_
          refine x_calli (x_runV (As := [.int (iI (-1))]) (rest := []) S hH hK (fun _ _ hW => XN.warm hW hXN) XN_b hl.1 hR.o rfl (xm_X0_refuse l G M σ x ω a (-1) _ hR (by omega) (by omega)) (lw_V q393 q395 qs0 q105 q396) kd_X0_refuse rfl rfl dX0_lets_59) hH hA (fun z59 M59_ H locs q_59 hH hz_59 => ?_)
          obtain ⟨e_59, ω59x, hR59x⟩ := q_59
          subst e_59
          refine x_iret hx hb hr hlk hH dX0_lets_62 ?_
          exact cmd_ret (F := letsF σ w n v) (by unfold letsF letAt; (repeat' split) <;> first | rfl | (exfalso; omega)) hR59x
theorem kd_X0_weigh : yX0_weigh.cls = RX0 ∧ yX0_weigh.cls ≠ "java/lang/invoke/MethodHandle" ∧ yX0_weigh.cls ≠ "java/lang/invoke/VarHandle" ∧ (parseMethodDescriptor yX0_weigh.desc).map (fun d => d.parameters.length) = some 3 := by decide +kernel
theorem xm_X0_weigh (l : Launch) (G : MG) (M : Hp) (σ : St) (x : XGh) (ω : XCt) (a : Nat) (q : Int) (k : Int) (v : Int) (sz : Nat) (hR : RX G M a σ x ω) (h_q : R32 q) (h_k : R32 k) (h_v : R32 v) (hI : KI (σ 2)) (hT : TT (σ 2)) (h40 : F40 σ) : Met l yX0_weigh (ws_ yX0_weigh cX0_weigh 5 (some .int)) (rmD 3) (xP G XN [.ref a, .int (iI q), .int (iI k), .int (iI v)] M sz) (xQi G (DA M sz) (fun z M' => z = (weighF σ q k v).1 ∧ ∃ ω', RX G M' a (weighF σ q k v).2 x ω')) 0 0 (DA M sz) := by
  refine x_start (by decide) (Nat.le_of_ble_eq_true rfl) ?_
  intro p e s m below meth c ⟨S, hr, hlk, hH, hK, hXN, hsz, hnm⟩ ls hl
  subst hsz
  obtain ⟨hx, hb, hml, hown, hts⟩ := S
  have S : CallFix p m c _ _ s _ lw_all RX0 := ⟨hx, hb, hml, hown, hts⟩
  have hA : ∀ q, s.heap.size ≤ q → DA M s.heap.size q := fun q hq => Or.inr hq
  have hl : lv_has ls 5 [(0, .ref a), (1, .int (iI q)), (2, .int (iI k)), (3, .int (iI v))] := hl
  have b0 := hI.c
  unfold kCnt at b0
  have h_q := R32.n h_q
  have h_k := R32.n h_k
  have h_v := R32.n h_v
  have hW := WK_of hI hT
  refine lv_iload_n hx hb dX0_weigh_0 rfl (lv_at hl 1 rfl) ?_
  refine x_calliF (x_runS (As := [.int (iI q)]) (rest := []) S hH hK (fun _ _ hW => XN.warm hW hXN) XN_b hl.1 (xm_X0_isPlace l G M q _ (r32 (by omega))) (lw_S q444 q445 q105 q446) kd_X0_isPlace rfl rfl dX0_weigh_1) hH hA (fun H locs hH => ?_)
  refine z_if_eq (tgt := 19) hx hb dX0_weigh_4 (by decide) (fun c_4 => ?_) (fun c_4 => ?_)
  · -- 4T
    refine lv_aload_n hx hb dX0_weigh_19 rfl (lv_at hl 0 rfl) ?_
    refine n_iconst hx hb dX0_weigh_20 ?_
    refine x_calli (x_runV (As := [.int (iI (-1))]) (rest := []) S hH hK (fun _ _ hW => XN.warm hW hXN) XN_b hl.1 hR.o rfl (xm_X0_refuse l G M σ x ω a (-1) _ hR (by omega) (by omega)) (lw_V q393 q395 qs0 q105 q396) kd_X0_refuse rfl rfl dX0_weigh_21) hH hA (fun z21 M21_ H locs q_21 hH hz_21 => ?_)
    obtain ⟨e_21, ω21x, hR21x⟩ := q_21
    subst e_21
    refine x_iret hx hb hr hlk hH dX0_weigh_24 ?_
    exact cmd_ret (F := weighF σ q k v) (by unfold weighF; (repeat' split) <;> first | rfl | (exfalso; omega)) hR21x
  · -- 4F
    refine lv_iload_n hx hb dX0_weigh_7 rfl (lv_at hl 3 rfl) ?_
    refine n_i2l hx hb (r32 (by omega)) dX0_weigh_8 ?_
    refine n_lconst (z := 0) hx hb dX0_weigh_9 (by decide) ?_
    refine lv_ldc2 (v := lI 1000) hx hb hown (hts _ q447) dX0_weigh_10 ?_
    refine x_calliF (x_runS (As := [.long (lI v), .long (lI 0), .long (lI 1000)]) (rest := []) S hH hK (fun _ _ hW => XN.warm hW hXN) XN_b hl.1 (xm_X0_in l G M v 0 1000 _ (r64 (by omega)) (r64 (by omega)) (r64 (by omega))) (lw_S q386 q387 q105 q388) kd_X0_in rfl rfl dX0_weigh_13) hH hA (fun H locs hH => ?_)
    refine z_if_ne (tgt := 25) hx hb dX0_weigh_16 (by decide) (fun c_16 => ?_) (fun c_16 => ?_)
    · -- 16T
      refine lv_aload_n hx hb dX0_weigh_25 rfl (lv_at hl 0 rfl) ?_
      refine lv_iload_n hx hb dX0_weigh_26 rfl (lv_at hl 2 rfl) ?_
      refine x_calliF (x_runV (As := [.int (iI k)]) (rest := []) S hH hK (fun _ _ hW => XN.warm hW hXN) XN_b hl.1 hR.o rfl (xm_X0_isKind l G M σ x ω a k _ hR (r32 (by omega)) (by omega) (by omega)) (lw_V q448 q450 qs2 q105 q451) kd_X0_isKind rfl rfl dX0_weigh_27) hH hA (fun H locs hH => ?_)
      refine z_if_ne (tgt := 40) hx hb dX0_weigh_30 (by decide) (fun c_30 => ?_) (fun c_30 => ?_)
      · -- 30T
        refine lv_aload_n hx hb dX0_weigh_40 rfl (lv_at hl 0 rfl) ?_
        refine x_get hx hb hts in_X0 hown hK hH hR.o rfl 0 (by decide) q339 (fun _ h9 => h9) rfl (by decide) dX0_weigh_41 ?_
        refine x_getN hx hb hts in_X1 hown hK hH hR.b0 rfl 21 (by decide) hXN q204 (fun _ h9 => h9) rfl (by decide) dX0_weigh_44 ?_
        refine n_bipush (z := 8) hx hb dX0_weigh_47 (by decide) ?_
        refine lv_iload_n hx hb dX0_weigh_49 rfl (lv_at hl 1 rfl) ?_
        refine n_imul hx hb dX0_weigh_50 ?_
        refine lv_iload_n hx hb dX0_weigh_51 rfl (lv_at hl 2 rfl) ?_
        refine n_iadd hx hb dX0_weigh_52 ?_
        refine x_iald hx hb hK hH hR.b21 (by omega) (by omega) (Nat.le_of_ble_eq_true rfl) dX0_weigh_53 ?_
        refine W.eq (g2 := F0 m 54 ls (.int (iI (σ 2 (40 + ((8 * q) + k)))) :: [])) (by first | (rw [hR.z.2.2.2.2 _ (by omega) (by omega)]; done) | (rw [hR.z.2.2.2.2 _ (by omega) (by omega)]; rfl)) ?_
        refine W.eq (g2 := F0 m 54 ls (.int (iI (σ 2 (40 + 8 * q + k))) :: [])) (by rw [show (40 : Int) + (8 * q + k) = 40 + 8 * q + k by omega]) ?_
        refine lv_istore hx hb dX0_weigh_54 hl (Nat.le_of_ble_eq_true rfl) (lv' := [(4, .int (iI (σ 2 (40 + 8 * q + k)))), (0, .ref a), (1, .int (iI q)), (2, .int (iI k)), (3, .int (iI v))]) rfl (fun ls hl => ?_)
        refine lv_aload_n hx hb dX0_weigh_56 rfl (lv_at hl 1 rfl) ?_
        refine x_get hx hb hts in_X0 hown hK hH hR.o rfl 0 (by decide) q339 (fun _ h9 => h9) rfl (by decide) dX0_weigh_57 ?_
        refine x_getN hx hb hts in_X1 hown hK hH hR.b0 rfl 21 (by decide) hXN q204 (fun _ h9 => h9) rfl (by decide) dX0_weigh_60 ?_
        refine n_bipush (z := 8) hx hb dX0_weigh_63 (by decide) ?_
        refine lv_iload_n hx hb dX0_weigh_65 rfl (lv_at hl 2 rfl) ?_
        refine n_imul hx hb dX0_weigh_66 ?_
        refine lv_iload_n hx hb dX0_weigh_67 rfl (lv_at hl 3 rfl) ?_
        refine n_iadd hx hb dX0_weigh_68 ?_
        refine lv_iload_n hx hb dX0_weigh_69 rfl (lv_at hl 4 rfl) ?_
        refine x_iast hx hb hK hH hR.b21 (by omega) (by omega) (Nat.le_of_ble_eq_true rfl) dX0_weigh_70 (fun H locs hH => ?_)
        obtain ⟨M1, e_M1⟩ : ∃ M1, M1 = hs M (gb x 0 21) (aI (G.2.1 0) 96 (up (gz ω 0 21) ((8 * q) + k) v)) := ⟨_, rfl⟩
        have hH := XV_to hH e_M1.symm
        have f1 : M1 (gb x 0 21) = some (aI (G.2.1 0) 96 (up (gz ω 0 21) ((8 * q) + k) v)) := by rw [e_M1]; exact hs_s
        obtain ⟨ω2, hR2⟩ : ∃ ω2, RX G M1 a (st σ 2 (40 + 8 * q + k) v) x ω2 := ⟨_, by rw [e_M1]; exact hR.bz hW h40 (k := 21) (p := 40 + 8 * q + k) (v := v) (by decide) (by omega) (show Zok (up _ (40 + 8 * q + k) _) _ from by rw [show (40 + 8 * q + k : Int) = 40 + ((8 * q) + k) by omega]; exact (Zok_21 (v := v) hR.z (i := ((8 * q) + k)) (by omega) (by omega))) rfl⟩
        have hW2 : WK ((st σ 2 (40 + 8 * q + k) v) 2) := WK_st hW (by omega)
        have hF2 : F40 (st σ 2 (40 + 8 * q + k) v) := F40_st h40 (by omega)
        have hC2_1750 : (st σ 2 (40 + 8 * q + k) v) 2 1750 = σ 2 1750 := st_i (by omega)
        have hC2_1752 : (st σ 2 (40 + 8 * q + k) v) 2 1752 = σ 2 1752 := st_i (by omega)
        have hC2_1753 : (st σ 2 (40 + 8 * q + k) v) 2 1753 = σ 2 1753 := st_i (by omega)
        refine lv_aload_n hx hb dX0_weigh_71 rfl (lv_at hl 1 rfl) ?_
        refine lv_iload hx hb dX0_weigh_72 (lv_at hl 0 rfl) ?_
        refine x_calli (x_runV (As := [.int (iI (σ 2 (40 + 8 * q + k)))]) (rest := []) S hH hK (fun _ _ hW => XN.warm hW hXN) XN_b hl.1 hR2.o rfl (xm_X0_done l G M1 (st σ 2 (40 + 8 * q + k) v) x ω2 a (σ 2 (40 + 8 * q + k)) _ hR2) (lw_V q425 q427 qs1 q105 q428) kd_X0_done rfl rfl dX0_weigh_74) hH hA (fun z74 M74_ H locs q_74 hH hz_74 => ?_)
        obtain ⟨e_74, ω74x, hR74x⟩ := q_74
        subst e_74
        refine x_iret hx hb hr hlk hH dX0_weigh_77 ?_
        exact cmd_ret (F := weighF σ q k v) (by unfold weighF; (repeat' split) <;> first | rfl | (exfalso; omega)) hR74x
      · -- 30F
        refine lv_aload_n hx hb dX0_weigh_33 rfl (lv_at hl 0 rfl) ?_
        refine n_bipush (z := -2) hx hb dX0_weigh_34 (by decide) ?_
        refine x_calli (x_runV (As := [.int (iI (-2))]) (rest := []) S hH hK (fun _ _ hW => XN.warm hW hXN) XN_b hl.1 hR.o rfl (xm_X0_refuse l G M σ x ω a (-2) _ hR (by omega) (by omega)) (lw_V q393 q395 qs0 q105 q396) kd_X0_refuse rfl rfl dX0_weigh_36) hH hA (fun z36 M36_ H locs q_36 hH hz_36 => ?_)
        obtain ⟨e_36, ω36x, hR36x⟩ := q_36
        subst e_36
        refine x_iret hx hb hr hlk hH dX0_weigh_39 ?_
        exact cmd_ret (F := weighF σ q k v) (by unfold weighF; (repeat' split) <;> first | rfl | (exfalso; omega)) hR36x
    · -- 16F
      refine lv_aload_n hx hb dX0_weigh_19 rfl (lv_at hl 0 rfl) ?_
      refine n_iconst hx hb dX0_weigh_20 ?_
      refine x_calli (x_runV (As := [.int (iI (-1))]) (rest := []) S hH hK (fun _ _ hW => XN.warm hW hXN) XN_b hl.1 hR.o rfl (xm_X0_refuse l G M σ x ω a (-1) _ hR (by omega) (by omega)) (lw_V q393 q395 qs0 q105 q396) kd_X0_refuse rfl rfl dX0_weigh_21) hH hA (fun z21 M21_ H locs q_21 hH hz_21 => ?_)
      obtain ⟨e_21, ω21x, hR21x⟩ := q_21
      subst e_21
      refine x_iret hx hb hr hlk hH dX0_weigh_24 ?_
      exact cmd_ret (F := weighF σ q k v) (by unfold weighF; (repeat' split) <;> first | rfl | (exfalso; omega)) hR21x
theorem kd_X0_seed : yX0_seed.cls = RX0 ∧ yX0_seed.cls ≠ "java/lang/invoke/MethodHandle" ∧ yX0_seed.cls ≠ "java/lang/invoke/VarHandle" ∧ (parseMethodDescriptor yX0_seed.desc).map (fun d => d.parameters.length) = some 1 := by decide +kernel
theorem xm_X0_seed (l : Launch) (G : MG) (M : Hp) (σ : St) (x : XGh) (ω : XCt) (a : Nat) (v : Int) (sz : Nat) (hR : RX G M a σ x ω) (h_v : R32 v) (hI : KI (σ 2)) (hT : TT (σ 2)) (h40 : F40 σ) : Met l yX0_seed (ws_ yX0_seed cX0_seed 2 (some .int)) (rmD 3) (xP G XN [.ref a, .int (iI v)] M sz) (xQi G (DA M sz) (fun z M' => z = (seedF σ v).1 ∧ ∃ ω', RX G M' a (seedF σ v).2 x ω')) 0 0 (DA M sz) := by
  refine x_start (by decide) (Nat.le_of_ble_eq_true rfl) ?_
  intro p e s m below meth c ⟨S, hr, hlk, hH, hK, hXN, hsz, hnm⟩ ls hl
  subst hsz
  obtain ⟨hx, hb, hml, hown, hts⟩ := S
  have S : CallFix p m c _ _ s _ lw_all RX0 := ⟨hx, hb, hml, hown, hts⟩
  have hA : ∀ q, s.heap.size ≤ q → DA M s.heap.size q := fun q hq => Or.inr hq
  have hl : lv_has ls 2 [(0, .ref a), (1, .int (iI v))] := hl
  have h_v := R32.n h_v
  have hW := WK_of hI hT
  refine lv_iload_n hx hb dX0_seed_0 rfl (lv_at hl 1 rfl) ?_
  refine n_i2l hx hb (r32 (by omega)) dX0_seed_1 ?_
  refine n_lconst (z := 0) hx hb dX0_seed_2 (by decide) ?_
  refine lv_ldc2 (v := lI 1000000) hx hb hown (hts _ q456) dX0_seed_3 ?_
  refine x_calliF (x_runS (As := [.long (lI v), .long (lI 0), .long (lI 1000000)]) (rest := []) S hH hK (fun _ _ hW => XN.warm hW hXN) XN_b hl.1 (xm_X0_in l G M v 0 1000000 _ (r64 (by omega)) (r64 (by omega)) (r64 (by omega))) (lw_S q386 q387 q105 q388) kd_X0_in rfl rfl dX0_seed_6) hH hA (fun H locs hH => ?_)
  refine z_if_ne (tgt := 18) hx hb dX0_seed_9 (by decide) (fun c_9 => ?_) (fun c_9 => ?_)
  · -- 9T
    refine lv_aload_n hx hb dX0_seed_18 rfl (lv_at hl 0 rfl) ?_
    refine x_get hx hb hts in_X0 hown hK hH hR.o rfl 0 (by decide) q339 (fun _ h9 => h9) rfl (by decide) dX0_seed_19 ?_
    refine lv_iload_n hx hb dX0_seed_22 rfl (lv_at hl 1 rfl) ?_
    refine n_i2l hx hb (r32 (by omega)) dX0_seed_23 ?_
    refine x_putN (ty := .long) hx hb hts in_X1 tyX1 tyX1_ok nmX1 hown hK hH hR.b0 rfl 7 (by decide) hXN q176 (fun _ h9 => h9) rfl (by decide +kernel) rfl rfl (Nat.le_of_ble_eq_true rfl) (by decide) dX0_seed_24 (fun H locs hH => ?_)
    obtain ⟨M1, e_M1⟩ : ∃ M1, M1 = hs M (gb x 0 0) (oB 2 [.int (iI (σ 2 1750)), .int (iI (σ 2 1752)), .int (iI (σ 2 1753)), .int (iI (σ 2 1754)), .int (iI (σ 2 1755)), .int (iI (σ 2 1756)), .int (iI (σ 2 1757)), .long (lI v), .ref (gb x 0 8), .ref (gb x 0 9), .ref (gb x 0 10), .ref (gb x 0 11), .ref (gb x 0 12), .ref (gb x 0 13), .ref (gb x 0 14), .ref (gb x 0 15), .ref (gb x 0 16), .ref (gb x 0 17), .ref (gb x 0 18), .ref (gb x 0 19), .ref (gb x 0 20), .ref (gb x 0 21)]) := ⟨_, rfl⟩
    have hH := XV_to hH e_M1.symm
    have f1 : M1 (gb x 0 0) = some (oB 2 [.int (iI (σ 2 1750)), .int (iI (σ 2 1752)), .int (iI (σ 2 1753)), .int (iI (σ 2 1754)), .int (iI (σ 2 1755)), .int (iI (σ 2 1756)), .int (iI (σ 2 1757)), .long (lI v), .ref (gb x 0 8), .ref (gb x 0 9), .ref (gb x 0 10), .ref (gb x 0 11), .ref (gb x 0 12), .ref (gb x 0 13), .ref (gb x 0 14), .ref (gb x 0 15), .ref (gb x 0 16), .ref (gb x 0 17), .ref (gb x 0 18), .ref (gb x 0 19), .ref (gb x 0 20), .ref (gb x 0 21)]) := by rw [e_M1]; exact hs_s
    obtain ⟨ω2, hR2⟩ : ∃ ω2, RX G M1 a (st σ 2 (1751) v) x ω2 := ⟨_, by rw [e_M1]; exact hR.bf hW h40 (p := 1751) (v := v) (by decide)⟩
    have hW2 : WK ((st σ 2 (1751) v) 2) := WK_n hW (by omega)
    have hF2 : F40 (st σ 2 (1751) v) := F40_st h40 (by omega)
    have hC2_1750 : (st σ 2 (1751) v) 2 1750 = σ 2 1750 := st_i (by omega)
    have hC2_1752 : (st σ 2 (1751) v) 2 1752 = σ 2 1752 := st_i (by omega)
    have hC2_1753 : (st σ 2 (1751) v) 2 1753 = σ 2 1753 := st_i (by omega)
    refine lv_aload_n hx hb dX0_seed_27 rfl (lv_at hl 0 rfl) ?_
    refine n_iconst hx hb dX0_seed_28 ?_
    refine x_calli (x_runV (As := [.int (iI 0)]) (rest := []) S hH hK (fun _ _ hW => XN.warm hW hXN) XN_b hl.1 hR2.o rfl (xm_X0_done l G M1 (st σ 2 (1751) v) x ω2 a 0 _ hR2) (lw_V q425 q427 qs1 q105 q428) kd_X0_done rfl rfl dX0_seed_29) hH hA (fun z29 M29_ H locs q_29 hH hz_29 => ?_)
    obtain ⟨e_29, ω29x, hR29x⟩ := q_29
    subst e_29
    refine x_iret hx hb hr hlk hH dX0_seed_32 ?_
    exact cmd_ret (F := seedF σ v) (by unfold seedF; (repeat' split) <;> first | rfl | (exfalso; omega)) hR29x
  · -- 9F
    refine lv_aload_n hx hb dX0_seed_12 rfl (lv_at hl 0 rfl) ?_
    refine n_iconst hx hb dX0_seed_13 ?_
    refine x_calli (x_runV (As := [.int (iI (-1))]) (rest := []) S hH hK (fun _ _ hW => XN.warm hW hXN) XN_b hl.1 hR.o rfl (xm_X0_refuse l G M σ x ω a (-1) _ hR (by omega) (by omega)) (lw_V q393 q395 qs0 q105 q396) kd_X0_refuse rfl rfl dX0_seed_14) hH hA (fun z14 M14_ H locs q_14 hH hz_14 => ?_)
    obtain ⟨e_14, ω14x, hR14x⟩ := q_14
    subst e_14
    refine x_iret hx hb hr hlk hH dX0_seed_17 ?_
    exact cmd_ret (F := seedF σ v) (by unfold seedF; (repeat' split) <;> first | rfl | (exfalso; omega)) hR14x
theorem kd_X0_move : yX0_move.cls = RX0 ∧ yX0_move.cls ≠ "java/lang/invoke/MethodHandle" ∧ yX0_move.cls ≠ "java/lang/invoke/VarHandle" ∧ (parseMethodDescriptor yX0_move.desc).map (fun d => d.parameters.length) = some 2 := by decide +kernel
theorem xm_X0_move (l : Launch) (G : MG) (M : Hp) (σ : St) (x : XGh) (ω : XCt) (a : Nat) (f : Int) (q : Int) (sz : Nat) (hR : RX G M a σ x ω) (h_f : R32 f) (h_q : R32 q) (hI : KI (σ 2)) (hT : TT (σ 2)) (h40 : F40 σ) : Met l yX0_move (ws_ yX0_move cX0_move 3 (some .int)) (rmD 3) (xP G XN [.ref a, .int (iI f), .int (iI q)] M sz) (xQi G (DA M sz) (fun z M' => z = (moveF σ f q).1 ∧ ∃ ω', RX G M' a (moveF σ f q).2 x ω')) 0 0 (DA M sz) := by
  refine x_start (by decide) (Nat.le_of_ble_eq_true rfl) ?_
  intro p e s m below meth c ⟨S, hr, hlk, hH, hK, hXN, hsz, hnm⟩ ls hl
  subst hsz
  obtain ⟨hx, hb, hml, hown, hts⟩ := S
  have S : CallFix p m c _ _ s _ lw_all RX0 := ⟨hx, hb, hml, hown, hts⟩
  have hA : ∀ q, s.heap.size ≤ q → DA M s.heap.size q := fun q hq => Or.inr hq
  have hl : lv_has ls 3 [(0, .ref a), (1, .int (iI f)), (2, .int (iI q))] := hl
  have b0 := hI.c
  unfold kCnt at b0
  have h_f := R32.n h_f
  have h_q := R32.n h_q
  have hW := WK_of hI hT
  refine lv_iload_n hx hb dX0_move_0 rfl (lv_at hl 2 rfl) ?_
  refine x_calliF (x_runS (As := [.int (iI q)]) (rest := []) S hH hK (fun _ _ hW => XN.warm hW hXN) XN_b hl.1 (xm_X0_isPlace l G M q _ (r32 (by omega))) (lw_S q444 q445 q105 q446) kd_X0_isPlace rfl rfl dX0_move_1) hH hA (fun H locs hH => ?_)
  refine z_if_ne (tgt := 13) hx hb dX0_move_4 (by decide) (fun c_4 => ?_) (fun c_4 => ?_)
  · -- 4T
    refine lv_aload_n hx hb dX0_move_13 rfl (lv_at hl 0 rfl) ?_
    refine lv_iload_n hx hb dX0_move_14 rfl (lv_at hl 1 rfl) ?_
    refine x_calliF (x_runV (As := [.int (iI f)]) (rest := []) S hH hK (fun _ _ hW => XN.warm hW hXN) XN_b hl.1 hR.o rfl (xm_X0_isFlask l G M σ x ω a f _ hR (r32 (by omega)) (by omega) (by omega)) (lw_V q639 q641 qs3 q105 q642) kd_X0_isFlask rfl rfl dX0_move_15) hH hA (fun H locs hH => ?_)
    refine z_if_ne (tgt := 28) hx hb dX0_move_18 (by decide) (fun c_18 => ?_) (fun c_18 => ?_)
    · -- 18T
      refine lv_aload_n hx hb dX0_move_28 rfl (lv_at hl 0 rfl) ?_
      refine x_get hx hb hts in_X0 hown hK hH hR.o rfl 0 (by decide) q339 (fun _ h9 => h9) rfl (by decide) dX0_move_29 ?_
      refine x_getN hx hb hts in_X1 hown hK hH hR.b0 rfl 9 (by decide) hXN q180 (fun _ h9 => h9) rfl (by decide) dX0_move_32 ?_
      refine lv_iload_n hx hb dX0_move_35 rfl (lv_at hl 1 rfl) ?_
      obtain ⟨f1, ef1, u1, g1, ga1, gb1⟩ := hR.flaskI (i := f) (by omega) (by omega)
      refine x_aald hx hb hK hH 6 hR.b9 rfl (by omega) (by omega) (Nat.le_of_ble_eq_true rfl) (v := some (gf x 0 f1 0)) u1 dX0_move_36 ?_
      refine lv_iload_n hx hb dX0_move_37 rfl (lv_at hl 2 rfl) ?_
      refine x_putFl (ty := .int) hx hb hts hown hK hH g1 (fci_c _) 4 (by decide) q515 rfl rfl rfl rfl (by decide +kernel) rfl rfl (Nat.le_of_ble_eq_true rfl) dX0_move_38 (fun H locs hH => ?_)
      obtain ⟨M2, e_M2⟩ : ∃ M2, M2 = hs M (gf x 0 f1 0) (oB (fci (σ 2 (184 + 26 * f + 1))) [.int (iI (σ 2 (184 + 26 * f + 0))), .int (iI (σ 2 (184 + 26 * f + 1))), .int (iI (σ 2 (184 + 26 * f + 8))), .int (iI (σ 2 (184 + 26 * f + 9))), .int (iI q), .int (iI (σ 2 (184 + 26 * f + 2))), .int (iI (σ 2 (184 + 26 * f + 3))), .int (iI (σ 2 (184 + 26 * f + 4))), .int (iI (σ 2 (184 + 26 * f + 10))), .int (iI (σ 2 (184 + 26 * f + 6))), .int (iI (σ 2 (184 + 26 * f + 11))), .int (iI (σ 2 (184 + 26 * f + 12))), .int (iI (σ 2 (184 + 26 * f + 14))), .int (iI (σ 2 (184 + 26 * f + 15))), .int (iI (σ 2 (184 + 26 * f + 16))), .int (iI (σ 2 (184 + 26 * f + 7))), .int (iI (σ 2 (184 + 26 * f + 13))), .ref (gf x 0 f1 1), .ref (gf x 0 f1 2)]) := ⟨_, rfl⟩
      have hH := XV_to hH e_M2.symm
      have f2 : M2 (gf x 0 f1 0) = some (oB (fci (σ 2 (184 + 26 * f + 1))) [.int (iI (σ 2 (184 + 26 * f + 0))), .int (iI (σ 2 (184 + 26 * f + 1))), .int (iI (σ 2 (184 + 26 * f + 8))), .int (iI (σ 2 (184 + 26 * f + 9))), .int (iI q), .int (iI (σ 2 (184 + 26 * f + 2))), .int (iI (σ 2 (184 + 26 * f + 3))), .int (iI (σ 2 (184 + 26 * f + 4))), .int (iI (σ 2 (184 + 26 * f + 10))), .int (iI (σ 2 (184 + 26 * f + 6))), .int (iI (σ 2 (184 + 26 * f + 11))), .int (iI (σ 2 (184 + 26 * f + 12))), .int (iI (σ 2 (184 + 26 * f + 14))), .int (iI (σ 2 (184 + 26 * f + 15))), .int (iI (σ 2 (184 + 26 * f + 16))), .int (iI (σ 2 (184 + 26 * f + 7))), .int (iI (σ 2 (184 + 26 * f + 13))), .ref (gf x 0 f1 1), .ref (gf x 0 f1 2)]) := by rw [e_M2]; exact hs_s
      obtain ⟨ω3, hR3⟩ : ∃ ω3, RX G M2 a (st σ 2 (184 + 26 * f + 5) q) x ω3 := ⟨_, by rw [e_M2]; exact hR.ffI hW h40 ef1 (by omega) (j := 5) (by decide) fF_5⟩
      have hW3 : WK ((st σ 2 (184 + 26 * f + 5) q) 2) := WK_st hW (by omega)
      have hF3 : F40 (st σ 2 (184 + 26 * f + 5) q) := F40_st h40 (by omega)
      have hC3_1750 : (st σ 2 (184 + 26 * f + 5) q) 2 1750 = σ 2 1750 := st_i (by omega)
      have hC3_1752 : (st σ 2 (184 + 26 * f + 5) q) 2 1752 = σ 2 1752 := st_i (by omega)
      have hC3_1753 : (st σ 2 (184 + 26 * f + 5) q) 2 1753 = σ 2 1753 := st_i (by omega)
      refine lv_aload_n hx hb dX0_move_41 rfl (lv_at hl 0 rfl) ?_
      refine n_iconst hx hb dX0_move_42 ?_
      refine x_calli (x_runV (As := [.int (iI 0)]) (rest := []) S hH hK (fun _ _ hW => XN.warm hW hXN) XN_b hl.1 hR3.o rfl (xm_X0_done l G M2 (st σ 2 (184 + 26 * f + 5) q) x ω3 a 0 _ hR3) (lw_V q425 q427 qs1 q105 q428) kd_X0_done rfl rfl dX0_move_43) hH hA (fun z43 M43_ H locs q_43 hH hz_43 => ?_)
      obtain ⟨e_43, ω43x, hR43x⟩ := q_43
      subst e_43
      refine x_iret hx hb hr hlk hH dX0_move_46 ?_
      exact cmd_ret (F := moveF σ f q) (by unfold moveF; (repeat' split) <;> first | rfl | (exfalso; omega)) hR43x
    · -- 18F
      refine lv_aload_n hx hb dX0_move_21 rfl (lv_at hl 0 rfl) ?_
      refine n_bipush (z := -2) hx hb dX0_move_22 (by decide) ?_
      refine x_calli (x_runV (As := [.int (iI (-2))]) (rest := []) S hH hK (fun _ _ hW => XN.warm hW hXN) XN_b hl.1 hR.o rfl (xm_X0_refuse l G M σ x ω a (-2) _ hR (by omega) (by omega)) (lw_V q393 q395 qs0 q105 q396) kd_X0_refuse rfl rfl dX0_move_24) hH hA (fun z24 M24_ H locs q_24 hH hz_24 => ?_)
      obtain ⟨e_24, ω24x, hR24x⟩ := q_24
      subst e_24
      refine x_iret hx hb hr hlk hH dX0_move_27 ?_
      exact cmd_ret (F := moveF σ f q) (by unfold moveF; (repeat' split) <;> first | rfl | (exfalso; omega)) hR24x
  · -- 4F
    refine lv_aload_n hx hb dX0_move_7 rfl (lv_at hl 0 rfl) ?_
    refine n_iconst hx hb dX0_move_8 ?_
    refine x_calli (x_runV (As := [.int (iI (-1))]) (rest := []) S hH hK (fun _ _ hW => XN.warm hW hXN) XN_b hl.1 hR.o rfl (xm_X0_refuse l G M σ x ω a (-1) _ hR (by omega) (by omega)) (lw_V q393 q395 qs0 q105 q396) kd_X0_refuse rfl rfl dX0_move_9) hH hA (fun z9 M9_ H locs q_9 hH hz_9 => ?_)
    obtain ⟨e_9, ω9x, hR9x⟩ := q_9
    subst e_9
    refine x_iret hx hb hr hlk hH dX0_move_12 ?_
    exact cmd_ret (F := moveF σ f q) (by unfold moveF; (repeat' split) <;> first | rfl | (exfalso; omega)) hR9x
theorem kd_X0_open : yX0_open.cls = RX0 ∧ yX0_open.cls ≠ "java/lang/invoke/MethodHandle" ∧ yX0_open.cls ≠ "java/lang/invoke/VarHandle" ∧ (parseMethodDescriptor yX0_open.desc).map (fun d => d.parameters.length) = some 2 := by decide +kernel
theorem xm_X0_open (l : Launch) (G : MG) (M : Hp) (σ : St) (x : XGh) (ω : XCt) (a : Nat) (f : Int) (dd : Int) (sz : Nat) (hR : RX G M a σ x ω) (h_f : R32 f) (h_dd : R32 dd) (hI : KI (σ 2)) (hT : TT (σ 2)) (h40 : F40 σ) : Met l yX0_open (ws_ yX0_open cX0_open 3 (some .int)) (rmD 3) (xP G XN [.ref a, .int (iI f), .int (iI dd)] M sz) (xQi G (DA M sz) (fun z M' => z = (openF σ f dd).1 ∧ ∃ ω', RX G M' a (openF σ f dd).2 x ω')) 0 0 (DA M sz) := by
  refine x_start (by decide) (Nat.le_of_ble_eq_true rfl) ?_
  intro p e s m below meth c ⟨S, hr, hlk, hH, hK, hXN, hsz, hnm⟩ ls hl
  subst hsz
  obtain ⟨hx, hb, hml, hown, hts⟩ := S
  have S : CallFix p m c _ _ s _ lw_all RX0 := ⟨hx, hb, hml, hown, hts⟩
  have hA : ∀ q, s.heap.size ≤ q → DA M s.heap.size q := fun q hq => Or.inr hq
  have hl : lv_has ls 3 [(0, .ref a), (1, .int (iI f)), (2, .int (iI dd))] := hl
  have b0 := hI.c
  unfold kCnt at b0
  have h_f := R32.n h_f
  have h_dd := R32.n h_dd
  have hW := WK_of hI hT
  refine lv_iload_n hx hb dX0_open_0 rfl (lv_at hl 2 rfl) ?_
  refine n_i2l hx hb (r32 (by omega)) dX0_open_1 ?_
  refine n_lconst (z := 1) hx hb dX0_open_2 (by decide) ?_
  refine lv_ldc2 (v := lI 100) hx hb hown (hts _ q391) dX0_open_3 ?_
  refine x_calliF (x_runS (As := [.long (lI dd), .long (lI 1), .long (lI 100)]) (rest := []) S hH hK (fun _ _ hW => XN.warm hW hXN) XN_b hl.1 (xm_X0_in l G M dd 1 100 _ (r64 (by omega)) (r64 (by omega)) (r64 (by omega))) (lw_S q386 q387 q105 q388) kd_X0_in rfl rfl dX0_open_6) hH hA (fun H locs hH => ?_)
  refine z_if_ne (tgt := 18) hx hb dX0_open_9 (by decide) (fun c_9 => ?_) (fun c_9 => ?_)
  · -- 9T
    refine lv_aload_n hx hb dX0_open_18 rfl (lv_at hl 0 rfl) ?_
    refine lv_iload_n hx hb dX0_open_19 rfl (lv_at hl 1 rfl) ?_
    refine x_calliF (x_runV (As := [.int (iI f)]) (rest := []) S hH hK (fun _ _ hW => XN.warm hW hXN) XN_b hl.1 hR.o rfl (xm_X0_isFlask l G M σ x ω a f _ hR (r32 (by omega)) (by omega) (by omega)) (lw_V q639 q641 qs3 q105 q642) kd_X0_isFlask rfl rfl dX0_open_20) hH hA (fun H locs hH => ?_)
    refine z_if_ne (tgt := 33) hx hb dX0_open_23 (by decide) (fun c_23 => ?_) (fun c_23 => ?_)
    · -- 23T
      have b1 := hI.f f (by omega) (by omega)
      unfold kFlask fl at b1
      refine lv_aload_n hx hb dX0_open_33 rfl (lv_at hl 0 rfl) ?_
      refine x_get hx hb hts in_X0 hown hK hH hR.o rfl 0 (by decide) q339 (fun _ h9 => h9) rfl (by decide) dX0_open_34 ?_
      refine x_getN hx hb hts in_X1 hown hK hH hR.b0 rfl 9 (by decide) hXN q180 (fun _ h9 => h9) rfl (by decide) dX0_open_37 ?_
      refine lv_iload_n hx hb dX0_open_40 rfl (lv_at hl 1 rfl) ?_
      obtain ⟨f1, ef1, u1, g1, ga1, gb1⟩ := hR.flaskI (i := f) (by omega) (by omega)
      refine x_aald hx hb hK hH 6 hR.b9 rfl (by omega) (by omega) (Nat.le_of_ble_eq_true rfl) (v := some (gf x 0 f1 0)) u1 dX0_open_41 ?_
      refine x_getFl hx hb hts hown hK hH g1 (fci_c _) 1 (by decide) q490 rfl rfl rfl rfl dX0_open_42 ?_
      refine n_if_ne (tgt := 55) hx hb (r32 (by omega)) dX0_open_45 (by decide) (fun c_45 => ?_) (fun c_45 => ?_)
      · -- 45T
        refine lv_aload_n hx hb dX0_open_55 rfl (lv_at hl 0 rfl) ?_
        refine x_get hx hb hts in_X0 hown hK hH hR.o rfl 0 (by decide) q339 (fun _ h9 => h9) rfl (by decide) dX0_open_56 ?_
        refine x_getN hx hb hts in_X1 hown hK hH hR.b0 rfl 9 (by decide) hXN q180 (fun _ h9 => h9) rfl (by decide) dX0_open_59 ?_
        refine lv_iload_n hx hb dX0_open_62 rfl (lv_at hl 1 rfl) ?_
        obtain ⟨f2, ef2, u2, g2, ga2, gb2⟩ := hR.flaskI (i := f) (by omega) (by omega)
        refine x_aald hx hb hK hH 6 hR.b9 rfl (by omega) (by omega) (Nat.le_of_ble_eq_true rfl) (v := some (gf x 0 f2 0)) u2 dX0_open_63 ?_
        refine lv_aload_n hx hb dX0_open_64 rfl (lv_at hl 0 rfl) ?_
        refine x_get hx hb hts in_X0 hown hK hH hR.o rfl 0 (by decide) q339 (fun _ h9 => h9) rfl (by decide) dX0_open_65 ?_
        refine x_getN hx hb hts in_X1 hown hK hH hR.b0 rfl 0 (by decide) hXN q162 (fun _ h9 => h9) rfl (by decide) dX0_open_68 ?_
        refine lv_iload_n hx hb dX0_open_71 rfl (lv_at hl 2 rfl) ?_
        refine n_iadd hx hb dX0_open_72 ?_
        refine n_iconst hx hb dX0_open_73 ?_
        refine n_isub hx hb dX0_open_74 ?_
        refine x_putFl (ty := .int) hx hb hts hown hK hH g2 (fci_c _) 8 (by decide) q521 rfl rfl rfl rfl (by decide +kernel) rfl rfl (Nat.le_of_ble_eq_true rfl) dX0_open_75 (fun H locs hH => ?_)
        obtain ⟨M3, e_M3⟩ : ∃ M3, M3 = hs M (gf x 0 f2 0) (oB (fci (σ 2 (184 + 26 * f + 1))) [.int (iI (σ 2 (184 + 26 * f + 0))), .int (iI (σ 2 (184 + 26 * f + 1))), .int (iI (σ 2 (184 + 26 * f + 8))), .int (iI (σ 2 (184 + 26 * f + 9))), .int (iI (σ 2 (184 + 26 * f + 5))), .int (iI (σ 2 (184 + 26 * f + 2))), .int (iI (σ 2 (184 + 26 * f + 3))), .int (iI (σ 2 (184 + 26 * f + 4))), .int (iI (((σ 2 1750) + dd) - 1)), .int (iI (σ 2 (184 + 26 * f + 6))), .int (iI (σ 2 (184 + 26 * f + 11))), .int (iI (σ 2 (184 + 26 * f + 12))), .int (iI (σ 2 (184 + 26 * f + 14))), .int (iI (σ 2 (184 + 26 * f + 15))), .int (iI (σ 2 (184 + 26 * f + 16))), .int (iI (σ 2 (184 + 26 * f + 7))), .int (iI (σ 2 (184 + 26 * f + 13))), .ref (gf x 0 f2 1), .ref (gf x 0 f2 2)]) := ⟨_, rfl⟩
        have hH := XV_to hH e_M3.symm
        have f3 : M3 (gf x 0 f2 0) = some (oB (fci (σ 2 (184 + 26 * f + 1))) [.int (iI (σ 2 (184 + 26 * f + 0))), .int (iI (σ 2 (184 + 26 * f + 1))), .int (iI (σ 2 (184 + 26 * f + 8))), .int (iI (σ 2 (184 + 26 * f + 9))), .int (iI (σ 2 (184 + 26 * f + 5))), .int (iI (σ 2 (184 + 26 * f + 2))), .int (iI (σ 2 (184 + 26 * f + 3))), .int (iI (σ 2 (184 + 26 * f + 4))), .int (iI (((σ 2 1750) + dd) - 1)), .int (iI (σ 2 (184 + 26 * f + 6))), .int (iI (σ 2 (184 + 26 * f + 11))), .int (iI (σ 2 (184 + 26 * f + 12))), .int (iI (σ 2 (184 + 26 * f + 14))), .int (iI (σ 2 (184 + 26 * f + 15))), .int (iI (σ 2 (184 + 26 * f + 16))), .int (iI (σ 2 (184 + 26 * f + 7))), .int (iI (σ 2 (184 + 26 * f + 13))), .ref (gf x 0 f2 1), .ref (gf x 0 f2 2)]) := by rw [e_M3]; exact hs_s
        obtain ⟨ω4, hR4⟩ : ∃ ω4, RX G M3 a (st σ 2 (184 + 26 * f + 10) (((σ 2 1750) + dd) - 1)) x ω4 := ⟨_, by rw [e_M3]; exact hR.ffI hW h40 ef2 (by omega) (j := 10) (by decide) fF_10⟩
        have hW4 : WK ((st σ 2 (184 + 26 * f + 10) (((σ 2 1750) + dd) - 1)) 2) := WK_st hW (by omega)
        have hF4 : F40 (st σ 2 (184 + 26 * f + 10) (((σ 2 1750) + dd) - 1)) := F40_st h40 (by omega)
        have hC4_1750 : (st σ 2 (184 + 26 * f + 10) (((σ 2 1750) + dd) - 1)) 2 1750 = σ 2 1750 := st_i (by omega)
        have hC4_1752 : (st σ 2 (184 + 26 * f + 10) (((σ 2 1750) + dd) - 1)) 2 1752 = σ 2 1752 := st_i (by omega)
        have hC4_1753 : (st σ 2 (184 + 26 * f + 10) (((σ 2 1750) + dd) - 1)) 2 1753 = σ 2 1753 := st_i (by omega)
        refine lv_aload_n hx hb dX0_open_78 rfl (lv_at hl 0 rfl) ?_
        refine n_iconst hx hb dX0_open_79 ?_
        refine x_calli (x_runV (As := [.int (iI 0)]) (rest := []) S hH hK (fun _ _ hW => XN.warm hW hXN) XN_b hl.1 hR4.o rfl (xm_X0_done l G M3 (st σ 2 (184 + 26 * f + 10) (((σ 2 1750) + dd) - 1)) x ω4 a 0 _ hR4) (lw_V q425 q427 qs1 q105 q428) kd_X0_done rfl rfl dX0_open_80) hH hA (fun z80 M80_ H locs q_80 hH hz_80 => ?_)
        obtain ⟨e_80, ω80x, hR80x⟩ := q_80
        subst e_80
        refine x_iret hx hb hr hlk hH dX0_open_83 ?_
        exact cmd_ret (F := openF σ f dd) (by unfold openF; (repeat' split) <;> first | rfl | (exfalso; omega)) hR80x
      · -- 45F
        refine lv_aload_n hx hb dX0_open_48 rfl (lv_at hl 0 rfl) ?_
        refine n_bipush (z := -3) hx hb dX0_open_49 (by decide) ?_
        refine x_calli (x_runV (As := [.int (iI (-3))]) (rest := []) S hH hK (fun _ _ hW => XN.warm hW hXN) XN_b hl.1 hR.o rfl (xm_X0_refuse l G M σ x ω a (-3) _ hR (by omega) (by omega)) (lw_V q393 q395 qs0 q105 q396) kd_X0_refuse rfl rfl dX0_open_51) hH hA (fun z51 M51_ H locs q_51 hH hz_51 => ?_)
        obtain ⟨e_51, ω51x, hR51x⟩ := q_51
        subst e_51
        refine x_iret hx hb hr hlk hH dX0_open_54 ?_
        exact cmd_ret (F := openF σ f dd) (by unfold openF; (repeat' split) <;> first | rfl | (exfalso; omega)) hR51x
    · -- 23F
      refine lv_aload_n hx hb dX0_open_26 rfl (lv_at hl 0 rfl) ?_
      refine n_bipush (z := -2) hx hb dX0_open_27 (by decide) ?_
      refine x_calli (x_runV (As := [.int (iI (-2))]) (rest := []) S hH hK (fun _ _ hW => XN.warm hW hXN) XN_b hl.1 hR.o rfl (xm_X0_refuse l G M σ x ω a (-2) _ hR (by omega) (by omega)) (lw_V q393 q395 qs0 q105 q396) kd_X0_refuse rfl rfl dX0_open_29) hH hA (fun z29 M29_ H locs q_29 hH hz_29 => ?_)
      obtain ⟨e_29, ω29x, hR29x⟩ := q_29
      subst e_29
      refine x_iret hx hb hr hlk hH dX0_open_32 ?_
      exact cmd_ret (F := openF σ f dd) (by unfold openF; (repeat' split) <;> first | rfl | (exfalso; omega)) hR29x
  · -- 9F
    refine lv_aload_n hx hb dX0_open_12 rfl (lv_at hl 0 rfl) ?_
    refine n_iconst hx hb dX0_open_13 ?_
    refine x_calli (x_runV (As := [.int (iI (-1))]) (rest := []) S hH hK (fun _ _ hW => XN.warm hW hXN) XN_b hl.1 hR.o rfl (xm_X0_refuse l G M σ x ω a (-1) _ hR (by omega) (by omega)) (lw_V q393 q395 qs0 q105 q396) kd_X0_refuse rfl rfl dX0_open_14) hH hA (fun z14 M14_ H locs q_14 hH hz_14 => ?_)
    obtain ⟨e_14, ω14x, hR14x⟩ := q_14
    subst e_14
    refine x_iret hx hb hr hlk hH dX0_open_17 ?_
    exact cmd_ret (F := openF σ f dd) (by unfold openF; (repeat' split) <;> first | rfl | (exfalso; omega)) hR14x
theorem kd_X0_end : yX0_end.cls = RX0 ∧ yX0_end.cls ≠ "java/lang/invoke/MethodHandle" ∧ yX0_end.cls ≠ "java/lang/invoke/VarHandle" ∧ (parseMethodDescriptor yX0_end.desc).map (fun d => d.parameters.length) = some 1 := by decide +kernel
theorem xm_X0_end (l : Launch) (G : MG) (M : Hp) (σ : St) (x : XGh) (ω : XCt) (a : Nat) (n : Int) (sz : Nat) (hR : RX G M a σ x ω) (h_n : R32 n) (h0 : 0 ≤ σ 9 0) (h1 : σ 9 0 ≤ 400) : Met l yX0_end (ws_ yX0_end cX0_end 2 (some .int)) (rmD 3) (xP G XN [.ref a, .int (iI n)] M sz) (xQi G (DA M sz) (fun z M' => z = (endF σ n).1 ∧ ∃ ω', RX G M' a (endF σ n).2 x ω')) 0 0 (DA M sz) := by
  refine x_start (by decide) (Nat.le_of_ble_eq_true rfl) ?_
  intro p e s m below meth c ⟨S, hr, hlk, hH, hK, hXN, hsz, hnm⟩ ls hl
  subst hsz
  obtain ⟨hx, hb, hml, hown, hts⟩ := S
  have S : CallFix p m c _ _ s _ lw_all RX0 := ⟨hx, hb, hml, hown, hts⟩
  have hA : ∀ q, s.heap.size ≤ q → DA M s.heap.size q := fun q hq => Or.inr hq
  have hl : lv_has ls 2 [(0, .ref a), (1, .int (iI n))] := hl
  have h_n := R32.n h_n
  refine lv_iload_n hx hb dX0_end_0 rfl (lv_at hl 1 rfl) ?_
  refine n_i2l hx hb (r32 (by omega)) dX0_end_1 ?_
  refine n_lconst (z := 0) hx hb dX0_end_2 (by decide) ?_
  refine lv_aload_n hx hb dX0_end_3 rfl (lv_at hl 0 rfl) ?_
  refine x_get hx hb hts in_X0 hown hK hH hR.o rfl 6 (by decide) q347 (fun _ h9 => h9) rfl (by decide) dX0_end_4 ?_
  refine n_i2l hx hb (r32 (by omega)) dX0_end_7 ?_
  refine x_calliF (x_runS (As := [.long (lI n), .long (lI 0), .long (lI (σ 9 0))]) (rest := []) S hH hK (fun _ _ hW => XN.warm hW hXN) XN_b hl.1 (xm_X0_in l G M n 0 (σ 9 0) _ (r64 (by omega)) (r64 (by omega)) (r64 (by omega))) (lw_S q386 q387 q105 q388) kd_X0_in rfl rfl dX0_end_8) hH hA (fun H locs hH => ?_)
  refine z_if_ne (tgt := 16) hx hb dX0_end_11 (by decide) (fun c_11 => ?_) (fun c_11 => ?_)
  · -- 11T
    refine lv_aload_n hx hb dX0_end_16 rfl (lv_at hl 0 rfl) ?_
    refine lv_iload_n hx hb dX0_end_17 rfl (lv_at hl 1 rfl) ?_
    refine x_put (ty := .int) hx hb hts in_X0 tyX0 tyX0_ok nmX0 hown hK hH hR.o rfl 6 (by decide) q347 (fun _ h9 => h9) rfl (by decide +kernel) rfl rfl (Nat.le_of_ble_eq_true rfl) (by decide) dX0_end_18 (fun H locs hH => ?_)
    obtain ⟨M1, e_M1⟩ : ∃ M1, M1 = hs M a (oB 1 [.ref (gb x 0 0), .ref (gp x 1), .ref (gp x 2), .int (iI (σ 0 0)), .ref (gp x 4), .ref (gp x 5), .int (iI n), .ref (gp x 7), .int (iI (σ 10 0)), .ref (gp x 9), .ref (gp x 10), .ref (gp x 11), .long (lI (gl ω))]) := ⟨_, rfl⟩
    have hH := XV_to hH e_M1.symm
    have f1 : M1 a = some (oB 1 [.ref (gb x 0 0), .ref (gp x 1), .ref (gp x 2), .int (iI (σ 0 0)), .ref (gp x 4), .ref (gp x 5), .int (iI n), .ref (gp x 7), .int (iI (σ 10 0)), .ref (gp x 9), .ref (gp x 10), .ref (gp x 11), .long (lI (gl ω))]) := by rw [e_M1]; exact hs_s
    obtain ⟨ω2, hR2⟩ : ∃ ω2, RX G M1 a (st σ 9 0 n) x ω2 := ⟨_, by rw [e_M1]; exact hR.x0 (f := 9) (v := n) (by decide)⟩
    refine lv_iload_n hx hb dX0_end_21 rfl (lv_at hl 1 rfl) ?_
    refine x_iret hx hb hr hlk hH dX0_end_22 ?_
    exact cmd_ret (F := endF σ n) (by unfold endF; (repeat' split) <;> first | rfl | (exfalso; omega)) hR2
  · -- 11F
    refine n_iconst hx hb dX0_end_14 ?_
    refine x_iret hx hb hr hlk hH dX0_end_15 ?_
    exact cmd_ret (F := endF σ n) (by unfold endF; (repeat' split) <;> first | rfl | (exfalso; omega)) hR
