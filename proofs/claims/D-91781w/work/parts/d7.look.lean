theorem look_ret {G : MG} {M : Hp} {a : Nat} {σ : St} {x : XGh} {ω : XCt} {f : Int} (h : RX G M a (goodS (addL σ (caseF σ f) (σ 2 (184 + 26 * f + 13)))) x ω) : RX G M a (goodS (lookW (sa σ 5 (caseF σ f)) (σ 2 1754) f)) x ω := h.sg rfl (fun _ _ _ => rfl) rfl rfl rfl (fun _ _ _ => rfl) rfl rfl
theorem trial_ret {G : MG} {M : Hp} {a : Nat} {σ : St} {x : XGh} {ω : XCt} {f : Int} (h : RX G M a (goodS (addT σ (caseF σ f))) x ω) : RX G M a (goodS (trialW (sa σ 5 (caseF σ f)) (σ 2 1755))) x ω := h.sg rfl (fun _ _ _ => rfl) rfl rfl rfl (fun _ _ _ => rfl) rfl rfl
theorem rwB_L {τ : St} {w b : Int} (hw : w = 0) (h0 : 0 ≤ τ 2 1754) : rwB τ w b = addL τ (fun k => τ 7 (b + k) % 256) (τ 7 (b + 9) % 256) := by
  unfold rwB rwA addL
  rw [rct_0 hw, rto_0e hw, rwd_0 hw, st_cp (n := 9) (by omega) rfl]
  rfl
theorem rwB_T {τ : St} {w b : Int} (hw : ¬ w = 0) : rwB τ w b = addT τ (fun k => τ 7 (b + k) % 256) := by
  unfold rwB rwA addT
  rw [rct_1 hw, rto_1e hw, rwd_1 hw]
theorem pg_s {T : Int → Int} {b g0 j : Int} {P : Prop} [Decidable P] (j0 : 0 ≤ j) : (if rgN T b g0 (j + 1).toNat ≠ 0 ∧ P then (1 : Int) else 0) = if (if rgN T b g0 j.toNat ≠ 0 ∧ P then (1 : Int) else 0) ≠ 0 ∧ isCaseP j (T (b + j) % 256) then 1 else 0 := by
  rw [rgN_e j0]
  by_cases h1 : rgN T b g0 j.toNat = 0 <;> by_cases h2 : P <;> by_cases h3 : isCaseP j (T (b + j) % 256) <;> simp [h1, h2, h3]
theorem kd_X0_look : yX0_look.cls = RX0 ∧ yX0_look.cls ≠ "java/lang/invoke/MethodHandle" ∧ yX0_look.cls ≠ "java/lang/invoke/VarHandle" ∧ (parseMethodDescriptor yX0_look.desc).map (fun d => d.parameters.length) = some 1 := by decide +kernel
theorem xm_X0_look (l : Launch) (G : MG) (M : Hp) (σ : St) (x : XGh) (ω : XCt) (a : Nat) (f : Int) (sz : Nat) (hR : RX G M a σ x ω) (h_f : R32 f) (hI : KI (σ 2)) (hT : TT (σ 2)) (h40 : F40 σ) : Met l yX0_look (ws_ yX0_look cX0_look 2 (some .int)) (rmX 5 2 12) (xP G XN [.ref a, .int (iI f)] M sz) (xQi G (DA M sz) (fun z M' => z = (lookF σ f).1 ∧ ∃ x' ω', RX G M' a (lookF σ f).2 x' ω')) 2 12 (DA M sz) := by
  refine x_start (by decide) (Nat.le_of_ble_eq_true rfl) ?_
  intro p e s m below meth c ⟨S, hr, hlk, hH, hK, hXN, hsz, hnm⟩ ls hl
  subst hsz
  obtain ⟨hx, hb, hml, hown, hts⟩ := S
  have S : CallFix p m c _ _ s _ lw_all RX0 := ⟨hx, hb, hml, hown, hts⟩
  have hA : ∀ q, s.heap.size ≤ q → DA M s.heap.size q := fun q hq => Or.inr hq
  have hl : lv_has ls 2 [(0, .ref a), (1, .int (iI f))] := hl
  have b0 := hI.c
  unfold kCnt at b0
  have h_f := R32.n h_f
  have hW := WK_of hI hT
  refine lv_aload_n hx hb dX0_look_0 rfl (lv_at hl 0 rfl) ?_
  refine lv_iload_n hx hb dX0_look_1 rfl (lv_at hl 1 rfl) ?_
  refine x_calliF (x_runV (As := [.int (iI f)]) (rest := []) S hH hK (fun _ _ hW => XN.warm hW hXN) XN_b hl.1 hR.o rfl (xm_X0_isFlask l G M σ x ω a f _ hR (r32 (by omega)) (by omega) (by omega)) (lw_V q639 q641 qs3 q105 q642) kd_X0_isFlask rfl rfl dX0_look_2) hH hA (fun H locs hH => ?_)
  refine z_if_ne (tgt := 15) hx hb dX0_look_5 (by decide) (fun c_5 => ?_) (fun c_5 => ?_)
  · -- 5T
    have b1 := hI.f f (by omega) (by omega)
    unfold kFlask fl at b1
    refine lv_aload_n hx hb dX0_look_15 rfl (lv_at hl 0 rfl) ?_
    refine x_get hx hb hts in_X0 hown hK hH hR.o rfl 0 (by decide) q339 (fun _ h9 => h9) rfl (by decide) dX0_look_16 ?_
    refine x_getN hx hb hts in_X1 hown hK hH hR.b0 rfl 3 (by decide) hXN q168 (fun _ h9 => h9) rfl (by decide) dX0_look_19 ?_
    refine n_bipush (z := 40) hx hb dX0_look_22 (by decide) ?_
    refine n_icmp_ne (tgt := 34) hx hb (r32 (by omega)) (r32 (by omega)) dX0_look_24 (by decide) (fun c_24 => ?_) (fun c_24 => ?_)
    · -- 24T
      refine lv_aload_n hx hb dX0_look_34 rfl (lv_at hl 0 rfl) ?_
      refine x_get hx hb hts in_X0 hown hK hH hR.o rfl 0 (by decide) q339 (fun _ h9 => h9) rfl (by decide) dX0_look_35 ?_
      refine x_getN hx hb hts in_X1 hown hK hH hR.b0 rfl 9 (by decide) hXN q180 (fun _ h9 => h9) rfl (by decide) dX0_look_38 ?_
      refine lv_iload_n hx hb dX0_look_41 rfl (lv_at hl 1 rfl) ?_
      obtain ⟨f1, ef1, u1, g1, ga1, gb1⟩ := hR.flaskI (i := f) (by omega) (by omega)
      refine x_aald hx hb hK hH 6 hR.b9 rfl (by omega) (by omega) (Nat.le_of_ble_eq_true rfl) (v := some (gf x 0 f1 0)) u1 dX0_look_42 ?_
      refine lv_aload_n hx hb dX0_look_43 rfl (lv_at hl 0 rfl) ?_
      refine x_get hx hb hts in_X0 hown hK hH hR.o rfl 4 (by decide) q343 (fun _ h9 => h9) rfl (by decide) dX0_look_44 ?_
      refine lv_aload_n hx hb dX0_look_47 rfl (lv_at hl 0 rfl) ?_
      refine x_get hx hb hts in_X0 hown hK hH hR.o rfl 0 (by decide) q339 (fun _ h9 => h9) rfl (by decide) dX0_look_48 ?_
      refine x_getN hx hb hts in_X1 hown hK hH hR.b0 rfl 0 (by decide) hXN q162 (fun _ h9 => h9) rfl (by decide) dX0_look_51 ?_
      refine x_callv (fl_run (As := [.ref (gp x 4), .int (iI (σ 2 1750))]) (rest := []) (n := 2) S hH hK hXN hl.1 g1 (xm_X6_fill l G M σ x f f1 (gp x 22) (gy ω 22) (gf x 0 f1 0) (gp x 4) (σ 2 1750) _ g1 hR.p4 hR.p22 ⟨by omega, by omega⟩ ⟨by omega, by omega⟩ ⟨by omega, by omega⟩ (by omega)) rfl q731 q733 q736 q734 q735 q732 q111 q737 kd_X6_fill.2 rfl rfl dX0_look_54 rfl rfl ⟨Nat.le_of_ble_eq_true rfl, Nat.le_of_ble_eq_true rfl⟩ (Nat.le_of_ble_eq_true rfl) ⟨Nat.le_of_ble_eq_true rfl, Nat.le_of_ble_eq_true rfl⟩) hH hA (fun M54_ H locs q_54 hH hz_54 => ?_)
      obtain ⟨g9, e9, hg9⟩ := q_54
      obtain ⟨ω2, hR2, hY2⟩ : ∃ ω2, RX G M54_ a σ x ω2 ∧ gy ω2 22 = g9 := ⟨_, by rw [e9]; exact hR.scr (k := 22) (by decide) rfl (fun q => absurd q (by decide)), yS_s⟩
      refine lv_aload_n hx hb dX0_look_57 rfl (lv_at hl 0 rfl) ?_
      refine lv_aload_n hx hb dX0_look_58 rfl (lv_at hl 0 rfl) ?_
      refine lv_aload_n hx hb dX0_look_59 rfl (lv_at hl 0 rfl) ?_
      refine x_get hx hb hts in_X0 hown hK hH hR2.o rfl 4 (by decide) q343 (fun _ h9 => h9) rfl (by decide) dX0_look_60 ?_
      refine lv_aload_n hx hb dX0_look_63 rfl (lv_at hl 0 rfl) ?_
      refine x_get hx hb hts in_X0 hown hK hH hR2.o rfl 0 (by decide) q339 (fun _ h9 => h9) rfl (by decide) dX0_look_64 ?_
      refine x_getN hx hb hts in_X1 hown hK hH hR2.b0 rfl 9 (by decide) hXN q180 (fun _ h9 => h9) rfl (by decide) dX0_look_67 ?_
      refine lv_iload_n hx hb dX0_look_70 rfl (lv_at hl 1 rfl) ?_
      obtain ⟨f2, ef2, u2, g2, ga2, gb2⟩ := hR2.flaskI (i := f) (by omega) (by omega)
      refine x_aald hx hb hK hH 6 hR2.b9 rfl (by omega) (by omega) (Nat.le_of_ble_eq_true rfl) (v := some (gf x 0 f2 0)) u2 dX0_look_71 ?_
      refine x_getFl hx hb hts hown hK hH g2 (fci_c _) 16 (by decide) q542 rfl rfl rfl rfl dX0_look_72 ?_
      refine x_calli (x_runV (As := [.ref (gp x 4), .int (iI (σ 2 (184 + 26 * f + 13)))]) (rest := [.ref a]) S hH hK (fun _ _ hW => XN.warm hW hXN) XN_b hl.1 hR2.o rfl (xm_X0_addLook l G M54_ σ x ω2 (caseF σ f) a (σ 2 (184 + 26 * f + 13)) _ hR2 hW h40 (by omega) (fun j j0 j1 => by rw [hY2, hg9 j j0 j1]; unfold caseF; dsimp only; (repeat' split) <;> first | rfl | omega | (exfalso; omega)) (by omega)) (lw_V q744 q746 qs8 q105 q747) kd_X0_addLook rfl rfl dX0_look_75) hH hA (fun z75 M75_ H locs q_75 hH hz_75 => ?_)
      obtain ⟨e_75, x75x, ω75x, hR75x, hW75x, hF75x⟩ := q_75
      subst e_75
      refine x_calli (x_runV (As := [.int (iI (σ 2 1754))]) (rest := []) S hH hK (fun _ _ hW => XN.warm hW hXN) XN_b hl.1 hR75x.o rfl (xm_X0_done l G M75_ (addL σ (caseF σ f) (σ 2 (184 + 26 * f + 13))) x75x ω75x a (σ 2 1754) _ hR75x) (lw_V q425 q427 qs1 q105 q428) kd_X0_done rfl rfl dX0_look_78) hH hA (fun z78 M78_ H locs q_78 hH hz_78 => ?_)
      obtain ⟨e_78, ω78x, hR78x⟩ := q_78
      subst e_78
      refine W.widen (k := 2) (n := 12) (Nat.le_of_ble_eq_true rfl) (Nat.le_of_ble_eq_true rfl) ?_
      refine x_iret hx hb hr hlk hH dX0_look_81 ?_
      exact cmd_ret2 (F := lookF σ f) (by rw [lookF, if_pos (by omega), if_neg (by omega)]) (look_ret hR78x)
    · -- 24F
      refine lv_aload_n hx hb dX0_look_27 rfl (lv_at hl 0 rfl) ?_
      refine n_bipush (z := -5) hx hb dX0_look_28 (by decide) ?_
      refine x_calli (x_runV (As := [.int (iI (-5))]) (rest := []) S hH hK (fun _ _ hW => XN.warm hW hXN) XN_b hl.1 hR.o rfl (xm_X0_refuse l G M σ x ω a (-5) _ hR (by omega) (by omega)) (lw_V q393 q395 qs0 q105 q396) kd_X0_refuse rfl rfl dX0_look_30) hH hA (fun z30 M30_ H locs q_30 hH hz_30 => ?_)
      obtain ⟨e_30, ω30x, hR30x⟩ := q_30
      subst e_30
      refine W.widen (k := 2) (n := 12) (Nat.le_of_ble_eq_true rfl) (Nat.le_of_ble_eq_true rfl) ?_
      refine x_iret hx hb hr hlk hH dX0_look_33 ?_
      exact cmd_ret2 (F := lookF σ f) (by unfold lookF; (repeat' split) <;> first | rfl | (exfalso; omega)) hR30x
  · -- 5F
    refine lv_aload_n hx hb dX0_look_8 rfl (lv_at hl 0 rfl) ?_
    refine n_bipush (z := -2) hx hb dX0_look_9 (by decide) ?_
    refine x_calli (x_runV (As := [.int (iI (-2))]) (rest := []) S hH hK (fun _ _ hW => XN.warm hW hXN) XN_b hl.1 hR.o rfl (xm_X0_refuse l G M σ x ω a (-2) _ hR (by omega) (by omega)) (lw_V q393 q395 qs0 q105 q396) kd_X0_refuse rfl rfl dX0_look_11) hH hA (fun z11 M11_ H locs q_11 hH hz_11 => ?_)
    obtain ⟨e_11, ω11x, hR11x⟩ := q_11
    subst e_11
    refine W.widen (k := 2) (n := 12) (Nat.le_of_ble_eq_true rfl) (Nat.le_of_ble_eq_true rfl) ?_
    refine x_iret hx hb hr hlk hH dX0_look_14 ?_
    exact cmd_ret2 (F := lookF σ f) (by unfold lookF; (repeat' split) <;> first | rfl | (exfalso; omega)) hR11x
theorem kd_X0_trial : yX0_trial.cls = RX0 ∧ yX0_trial.cls ≠ "java/lang/invoke/MethodHandle" ∧ yX0_trial.cls ≠ "java/lang/invoke/VarHandle" ∧ (parseMethodDescriptor yX0_trial.desc).map (fun d => d.parameters.length) = some 1 := by decide +kernel
theorem xm_X0_trial (l : Launch) (G : MG) (M : Hp) (σ : St) (x : XGh) (ω : XCt) (a : Nat) (f : Int) (sz : Nat) (hR : RX G M a σ x ω) (h_f : R32 f) (hI : KI (σ 2)) (hT : TT (σ 2)) (h40 : F40 σ) : Met l yX0_trial (ws_ yX0_trial cX0_trial 2 (some .int)) (rmX 5 2 11) (xP G XN [.ref a, .int (iI f)] M sz) (xQi G (DA M sz) (fun z M' => z = (trialF σ f).1 ∧ ∃ x' ω', RX G M' a (trialF σ f).2 x' ω')) 2 11 (DA M sz) := by
  refine x_start (by decide) (Nat.le_of_ble_eq_true rfl) ?_
  intro p e s m below meth c ⟨S, hr, hlk, hH, hK, hXN, hsz, hnm⟩ ls hl
  subst hsz
  obtain ⟨hx, hb, hml, hown, hts⟩ := S
  have S : CallFix p m c _ _ s _ lw_all RX0 := ⟨hx, hb, hml, hown, hts⟩
  have hA : ∀ q, s.heap.size ≤ q → DA M s.heap.size q := fun q hq => Or.inr hq
  have hl : lv_has ls 2 [(0, .ref a), (1, .int (iI f))] := hl
  have b0 := hI.c
  unfold kCnt at b0
  have h_f := R32.n h_f
  have hW := WK_of hI hT
  refine lv_aload_n hx hb dX0_trial_0 rfl (lv_at hl 0 rfl) ?_
  refine lv_iload_n hx hb dX0_trial_1 rfl (lv_at hl 1 rfl) ?_
  refine x_calliF (x_runV (As := [.int (iI f)]) (rest := []) S hH hK (fun _ _ hW => XN.warm hW hXN) XN_b hl.1 hR.o rfl (xm_X0_isFlask l G M σ x ω a f _ hR (r32 (by omega)) (by omega) (by omega)) (lw_V q639 q641 qs3 q105 q642) kd_X0_isFlask rfl rfl dX0_trial_2) hH hA (fun H locs hH => ?_)
  refine z_if_ne (tgt := 15) hx hb dX0_trial_5 (by decide) (fun c_5 => ?_) (fun c_5 => ?_)
  · -- 5T
    have b1 := hI.f f (by omega) (by omega)
    unfold kFlask fl at b1
    refine lv_aload_n hx hb dX0_trial_15 rfl (lv_at hl 0 rfl) ?_
    refine x_get hx hb hts in_X0 hown hK hH hR.o rfl 0 (by decide) q339 (fun _ h9 => h9) rfl (by decide) dX0_trial_16 ?_
    refine x_getN hx hb hts in_X1 hown hK hH hR.b0 rfl 4 (by decide) hXN q170 (fun _ h9 => h9) rfl (by decide) dX0_trial_19 ?_
    refine n_bipush (z := 12) hx hb dX0_trial_22 (by decide) ?_
    refine n_icmp_ne (tgt := 34) hx hb (r32 (by omega)) (r32 (by omega)) dX0_trial_24 (by decide) (fun c_24 => ?_) (fun c_24 => ?_)
    · -- 24T
      refine lv_aload_n hx hb dX0_trial_34 rfl (lv_at hl 0 rfl) ?_
      refine x_get hx hb hts in_X0 hown hK hH hR.o rfl 0 (by decide) q339 (fun _ h9 => h9) rfl (by decide) dX0_trial_35 ?_
      refine x_getN hx hb hts in_X1 hown hK hH hR.b0 rfl 9 (by decide) hXN q180 (fun _ h9 => h9) rfl (by decide) dX0_trial_38 ?_
      refine lv_iload_n hx hb dX0_trial_41 rfl (lv_at hl 1 rfl) ?_
      obtain ⟨f1, ef1, u1, g1, ga1, gb1⟩ := hR.flaskI (i := f) (by omega) (by omega)
      refine x_aald hx hb hK hH 6 hR.b9 rfl (by omega) (by omega) (Nat.le_of_ble_eq_true rfl) (v := some (gf x 0 f1 0)) u1 dX0_trial_42 ?_
      refine lv_aload_n hx hb dX0_trial_43 rfl (lv_at hl 0 rfl) ?_
      refine x_get hx hb hts in_X0 hown hK hH hR.o rfl 4 (by decide) q343 (fun _ h9 => h9) rfl (by decide) dX0_trial_44 ?_
      refine lv_aload_n hx hb dX0_trial_47 rfl (lv_at hl 0 rfl) ?_
      refine x_get hx hb hts in_X0 hown hK hH hR.o rfl 0 (by decide) q339 (fun _ h9 => h9) rfl (by decide) dX0_trial_48 ?_
      refine x_getN hx hb hts in_X1 hown hK hH hR.b0 rfl 0 (by decide) hXN q162 (fun _ h9 => h9) rfl (by decide) dX0_trial_51 ?_
      refine x_callv (fl_run (As := [.ref (gp x 4), .int (iI (σ 2 1750))]) (rest := []) (n := 2) S hH hK hXN hl.1 g1 (xm_X6_fill l G M σ x f f1 (gp x 22) (gy ω 22) (gf x 0 f1 0) (gp x 4) (σ 2 1750) _ g1 hR.p4 hR.p22 ⟨by omega, by omega⟩ ⟨by omega, by omega⟩ ⟨by omega, by omega⟩ (by omega)) rfl q731 q733 q736 q734 q735 q732 q111 q737 kd_X6_fill.2 rfl rfl dX0_trial_54 rfl rfl ⟨Nat.le_of_ble_eq_true rfl, Nat.le_of_ble_eq_true rfl⟩ (Nat.le_of_ble_eq_true rfl) ⟨Nat.le_of_ble_eq_true rfl, Nat.le_of_ble_eq_true rfl⟩) hH hA (fun M54_ H locs q_54 hH hz_54 => ?_)
      obtain ⟨g9, e9, hg9⟩ := q_54
      obtain ⟨ω2, hR2, hY2⟩ : ∃ ω2, RX G M54_ a σ x ω2 ∧ gy ω2 22 = g9 := ⟨_, by rw [e9]; exact hR.scr (k := 22) (by decide) rfl (fun q => absurd q (by decide)), yS_s⟩
      refine lv_aload_n hx hb dX0_trial_57 rfl (lv_at hl 0 rfl) ?_
      refine lv_aload_n hx hb dX0_trial_58 rfl (lv_at hl 0 rfl) ?_
      refine lv_aload_n hx hb dX0_trial_59 rfl (lv_at hl 0 rfl) ?_
      refine x_get hx hb hts in_X0 hown hK hH hR2.o rfl 4 (by decide) q343 (fun _ h9 => h9) rfl (by decide) dX0_trial_60 ?_
      refine x_calli (x_runV (As := [.ref (gp x 4)]) (rest := [.ref a]) S hH hK (fun _ _ hW => XN.warm hW hXN) XN_b hl.1 hR2.o rfl (xm_X0_addTrial l G M54_ σ x ω2 (caseF σ f) a _ hR2 hW h40 (by omega) (fun j j0 j1 => by rw [hY2, hg9 j j0 j1]; unfold caseF; dsimp only; (repeat' split) <;> first | rfl | omega | (exfalso; omega))) (lw_V q774 q776 qs9 q105 q777) kd_X0_addTrial rfl rfl dX0_trial_63) hH hA (fun z63 M63_ H locs q_63 hH hz_63 => ?_)
      obtain ⟨e_63, x63x, ω63x, hR63x, hW63x, hF63x⟩ := q_63
      subst e_63
      refine x_calli (x_runV (As := [.int (iI (σ 2 1755))]) (rest := []) S hH hK (fun _ _ hW => XN.warm hW hXN) XN_b hl.1 hR63x.o rfl (xm_X0_done l G M63_ (addT σ (caseF σ f)) x63x ω63x a (σ 2 1755) _ hR63x) (lw_V q425 q427 qs1 q105 q428) kd_X0_done rfl rfl dX0_trial_66) hH hA (fun z66 M66_ H locs q_66 hH hz_66 => ?_)
      obtain ⟨e_66, ω66x, hR66x⟩ := q_66
      subst e_66
      refine W.widen (k := 2) (n := 11) (Nat.le_of_ble_eq_true rfl) (Nat.le_of_ble_eq_true rfl) ?_
      refine x_iret hx hb hr hlk hH dX0_trial_69 ?_
      exact cmd_ret2 (F := trialF σ f) (by rw [trialF, if_pos (by omega), if_neg (by omega)]) (trial_ret hR66x)
    · -- 24F
      refine lv_aload_n hx hb dX0_trial_27 rfl (lv_at hl 0 rfl) ?_
      refine n_bipush (z := -5) hx hb dX0_trial_28 (by decide) ?_
      refine x_calli (x_runV (As := [.int (iI (-5))]) (rest := []) S hH hK (fun _ _ hW => XN.warm hW hXN) XN_b hl.1 hR.o rfl (xm_X0_refuse l G M σ x ω a (-5) _ hR (by omega) (by omega)) (lw_V q393 q395 qs0 q105 q396) kd_X0_refuse rfl rfl dX0_trial_30) hH hA (fun z30 M30_ H locs q_30 hH hz_30 => ?_)
      obtain ⟨e_30, ω30x, hR30x⟩ := q_30
      subst e_30
      refine W.widen (k := 2) (n := 11) (Nat.le_of_ble_eq_true rfl) (Nat.le_of_ble_eq_true rfl) ?_
      refine x_iret hx hb hr hlk hH dX0_trial_33 ?_
      exact cmd_ret2 (F := trialF σ f) (by unfold trialF; (repeat' split) <;> first | rfl | (exfalso; omega)) hR30x
  · -- 5F
    refine lv_aload_n hx hb dX0_trial_8 rfl (lv_at hl 0 rfl) ?_
    refine n_bipush (z := -2) hx hb dX0_trial_9 (by decide) ?_
    refine x_calli (x_runV (As := [.int (iI (-2))]) (rest := []) S hH hK (fun _ _ hW => XN.warm hW hXN) XN_b hl.1 hR.o rfl (xm_X0_refuse l G M σ x ω a (-2) _ hR (by omega) (by omega)) (lw_V q393 q395 qs0 q105 q396) kd_X0_refuse rfl rfl dX0_trial_11) hH hA (fun z11 M11_ H locs q_11 hH hz_11 => ?_)
    obtain ⟨e_11, ω11x, hR11x⟩ := q_11
    subst e_11
    refine W.widen (k := 2) (n := 11) (Nat.le_of_ble_eq_true rfl) (Nat.le_of_ble_eq_true rfl) ?_
    refine x_iret hx hb hr hlk hH dX0_trial_14 ?_
    exact cmd_ret2 (F := trialF σ f) (by unfold trialF; (repeat' split) <;> first | rfl | (exfalso; omega)) hR11x
