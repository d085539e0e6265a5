set_option maxHeartbeats 1000000 in
theorem xp_X3_term (l : Launch) (G : MG) (M : Hp) (K : (Nat → Nat) × (Nat → Nat)) (n : Nat) (a : Nat) (σ : St) (tn : Nat) (P : Nat → Nat) (τ : Int → Int) (bo : Nat) (lo : Int) (x : XGh) (u : PS) (d_ : Int) (p_ : Int) (pf : Int → Option Nat) (r : PS × Mean) (sz : Nat) (IH : VPS l G K yX3_part cX3_part 2 0 n) (hTE : TE σ tn) (hD : RD G M a σ P τ bo lo x (rL σ tn u.1) (rE σ tn u.1) u.2.1 d_ p_ pf) (hB : BS tn u) (hf : u.2.2 = -1) (hd0 : 0 ≤ d_) (hd8 : d_ ≤ 8) (hp0 : 0 ≤ p_) (hpl : p_ ≤ u.2.1) (hKG : ∀ i, i < 21 → G.2.2 (100 + i) = K.1 i) (he : rm (rC σ tn) (rV σ tn) (rL σ tn) (n + 1) 1 d_ u = some r) : vx_Met l yX3_term (ws_ yX3_term cX3_term 3 (some (.object "BrothFlasks$Sum"))) (rmX (n + 1 + 12) ((4 * (r.1.1 - u.1)).toNat + 2 * bd r.1) ((16 * (r.1.1 - u.1)).toNat + 8 * bd r.1)) (xP G (XRd K M) [.ref (P 7)] M sz) (xQq G (DA M sz) (fun r' M' => r.1.2.2 = -1 ∧ ∃ (x' : XGh) (q : Nat) (pf' : Int → Option Nat), r' = some q ∧ RD G M' a σ P τ bo lo x' (rL σ tn r.1.1) (rE σ tn r.1.1) r.1.2.1 d_ p_ pf' ∧ (∀ i, 0 ≤ i → i < p_ → pf' i = pf i) ∧ Ext M M' x x' ∧ SumAt (r.1.2.1 - u.2.1).toNat (gI x') q r.2)) (rXc G (DA M sz) (fun pl M' => PXp G a σ P r.1 pl M')) ((4 * (r.1.1 - u.1)).toNat + 2 * bd r.1) ((16 * (r.1.1 - u.1)).toNat + 8 * bd r.1) (DA M sz) := by
  refine r_start (by decide) (Nat.le_of_ble_eq_true rfl) ?_
  intro p e s m below meth c ⟨S, hr, hlk, hH, hK, hX, hsz, hnm⟩ hto ls hl
  have hXN : XN s := hX.1
  subst hsz
  obtain ⟨hx, hb, hml, hown, hts⟩ := S
  have S : CallFix p m c _ _ s _ lw_all RX3 := ⟨hx, hb, hml, hown, hts⟩
  have hA : ∀ q, s.heap.size ≤ q → DA M s.heap.size q := fun q hq => Or.inr hq
  have hl : lv_has ls 3 [(0, .ref (P 7))] := hl
  have hTK := hTE.tk
  have hB8 := hTE.2.2
  have hn4 := hTE.2.1
  have hgo := rm_go hTK (n + 1) 1 d_ u r hB hf he
  have hgo1 := hgo.2.1
  have hgo3 := GoB_bd hgo
  have hbd1 := bd_le r.1
  have b_u := hB
  unfold BS at b_u
  have hr_u := tok_r hTE b_u.1.1 b_u.1.2
  have hL_u : rL σ tn u.1 ≠ -1 := by omega
  have hC_u := (hTK.2.2 u.1 b_u.1.1 b_u.1.2).1.1
  simp only [rm] at he
  have L5 : ∀ (q : Nat) (N1 : Hp) (x1 : XGh) (u1 : PS) (pf1 : Int → Option Nat) (f1 : Mean) (s1 : Nat), (hD1 : RD G N1 a σ P τ bo lo x1 (rL σ tn u1.1) (rE σ tn u1.1) u1.2.1 d_ p_ pf1) → (hE1 : Ext M N1 x x1) → (hB1 : BS tn u1) → (hf1 : u1.2.2 = -1) → (hpp1 : ∀ i, 0 ≤ i → i < p_ → pf1 i = pf i) → (hT1 : SumAt (u1.2.1 - u.2.1).toNat (gI x1) s1 f1) → (hl1 : lpX (rC σ tn) 142 147 joinF (rm (rC σ tn) (rV σ tn) (rL σ tn) n 0 d_) q u1 f1 = some r) → (h1 : u.1 ≤ u1.1) → (h2 : u.2.1 + 1 ≤ u1.2.1) → ∀ (H : Heap) (locs : List Loc) (ls : Array Slot), XV G (DA M s.heap.size) N1 s.heap H locs → lv_has ls 3 [(0, .ref (P 7)), (1, .ref s1)] → W p l e (rmX (n + 1 + 12) ((4 * (r.1.1 - u.1)).toNat + 2 * bd r.1) ((16 * (r.1.1 - u.1)).toNat + 8 * bd r.1)) s m ([.ref (P 7)] : List Value).toArray below meth c H locs ((4 * (u1.1 - u.1)).toNat) ((16 * (u1.1 - u.1)).toNat) (vx_MQ below (xQq G (DA M s.heap.size) (fun r' M' => r.1.2.2 = -1 ∧ ∃ (x' : XGh) (q : Nat) (pf' : Int → Option Nat), r' = some q ∧ RD G M' a σ P τ bo lo x' (rL σ tn r.1.1) (rE σ tn r.1.1) r.1.2.1 d_ p_ pf' ∧ (∀ i, 0 ≤ i → i < p_ → pf' i = pf i) ∧ Ext M M' x x' ∧ SumAt (r.1.2.1 - u.2.1).toNat (gI x') q r.2)) (rXc G (DA M s.heap.size) (fun pl M' => PXp G a σ P r.1 pl M')) ([.ref (P 7)] : List Value).toArray s ((4 * (r.1.1 - u.1)).toNat + 2 * bd r.1) ((16 * (r.1.1 - u.1)).toNat + 8 * bd r.1) (DA M s.heap.size)) (F0 m 5 ls []) := by
    intro q
    induction q with
    | zero => intro N1 x1 u1 pf1 f1 s1 hD1 hE1 hB1 hf1 hpp1 hT1 hl1 h1 h2; rw [lpX] at hl1; cases hl1
    | succ q ih_5 =>
      intro N1 x1 u1 pf1 f1 s1 hD1 hE1 hB1 hf1 hpp1 hT1 hl1 h1 h2 H locs ls hH hl
      have b_u1 := hB1
      unfold BS at b_u1
      have hr_u1 := tok_r hTE b_u1.1.1 b_u1.1.2
      have hL_u1 : rL σ tn u1.1 ≠ -1 := by omega
      have hC_u1 := (hTK.2.2 u1.1 b_u1.1.1 b_u1.1.2).1.1
      have hgl := (lpX_go hTK (by decide) (by decide) (fun a b => rm_go hTK n 0 d_ a b) _ _ _ _ hB1 hl1).2.1
      rw [lpX] at hl1
      refine lv_aload_n hx hb dX3_term_5 rfl (lv_at hl 0 rfl) ?_
      refine va_ldcS (tx := "*") (q := K.1 33) hx hb hown (hX.2.1 33 (by decide)) dX3_term_6 ?_
      refine x_calliF (x_runV (As := [.ref (K.1 33)]) (rest := []) S hH hK (hX.at hH) XRd_b hl.1 hD1.c rfl (xm_X3_isWord l G N1 K a σ P τ bo lo x1 (rL σ tn u1.1) (rE σ tn u1.1) u1.2.1 d_ p_ pf1 33 _ hD1 (by decide) (by omega) (by omega) (by omega) hB8) (lw_V q908 q910 qs18 q108 q911) kd_X3_isWord rfl rfl dX3_term_8 (hR := ⟨by dsimp only [rmX, rmD]; omega, by dsimp only [rmX, rmD]; omega⟩) (hf := ⟨by dsimp only [rmX]; omega, by dsimp only [rmX]; omega⟩)) hH hA (fun H locs hH => ?_)
      refine W.eq (g2 := F0 m 11 ls (.int (iI (zb (rC σ tn u1.1 = 142))) :: [])) (by rw [tok_zb hTE b_u1.1.1 b_u1.1.2 (k := 33) (by decide) (z := 142) rfl]) ?_
      refine z_if_ne (tgt := 23) hx hb dX3_term_11 (by decide) (fun c_11 => ?_) (fun c_11 => ?_)
      · -- 11T
        have hts9 := tok_s hTE b_u1.1.1 b_u1.1.2 (by omega)
        rw [if_pos (Or.inl ⟨hf1, c_11⟩)] at hl1
        obtain ⟨r2, e3, e4⟩ := Option.bind_eq_some_iff.mp hl1
        refine lv_aload_n hx hb dX3_term_23 rfl (lv_at hl 0 rfl) ?_
        refine x_get hx hb hts in_X3 hown hK hH hD1.c rfl 9 (by decide) q316 (fun _ h9 => h9) rfl (by decide) dX3_term_24 ?_
        refine x_getN hx hb hts in_X0 hown hK hH hD1.o rfl 5 (by decide) hXN q344 (fun _ h9 => h9) rfl (by decide) dX3_term_27 ?_
        refine lv_aload_n hx hb dX3_term_30 rfl (lv_at hl 0 rfl) ?_
        refine x_get hx hb hts in_X3 hown hK hH hD1.c rfl 0 (by decide) q307 (fun _ h9 => h9) rfl (by decide) dX3_term_31 ?_
        refine x_bald hx hb hK hH hD1.tp (by omega) (by omega) (Nat.le_of_ble_eq_true rfl) dX3_term_34 ?_
        have hb_34 := hB8 (rL σ tn u1.1)
        refine W.eq (g2 := F0 m 35 ls (.int (iI (σ 7 (rL σ tn u1.1))) :: [])) (by first | (rw [hD1.ht (i := rL σ tn u1.1) (by omega) (by omega)]; done) | (rw [hD1.ht (i := rL σ tn u1.1) (by omega) (by omega)]; rfl)) ?_
        refine W.eq (g2 := F0 m 35 ls (.int (iI 42) :: [])) (by rw [show σ 7 (rL σ tn u1.1) = 42 by omega]) ?_
        refine lv_istore_n hx hb dX3_term_35 rfl hl (Nat.le_of_ble_eq_true rfl) (lv' := [(2, .int (iI 42)), (0, .ref (P 7)), (1, .ref s1)]) rfl (fun ls hl => ?_)
        refine lv_aload_n hx hb dX3_term_36 rfl (lv_at hl 1 rfl) ?_
        refine x_callv (x_runV (As := []) (rest := []) S hH hK (hX.at hH) XRd_b hl.1 hD1.c rfl (xm_X3_next l G N1 K a σ P τ bo lo x1 (rL σ tn u1.1) (rE σ tn u1.1) u1.2.1 d_ p_ pf1 _ hD1 hB8 (by omega) (by omega) (by omega)) (lw_V q823 q825 qs13 q108 q826) kd_X3_next rfl rfl dX3_term_37 (hR := ⟨by dsimp only [rmX, rmD]; omega, by dsimp only [rmX, rmD]; omega⟩) (hf := ⟨by dsimp only [rmX]; omega, by dsimp only [rmX]; omega⟩)) hH hA (fun M37_ H locs q_37 hH hz_37 => ?_)
        obtain ⟨hD1, hX1⟩ := q_37
        have hE1 := hE1.tr hX1
        obtain ⟨v2, ev2⟩ : ∃ v, v = advP u1 := ⟨_, rfl⟩
        have ew2 : v2 = (u1.1 + 1, u1.2.1, u1.2.2) := ev2
        have e1v2 : v2.1 = u1.1 + 1 := by rw [ew2]
        have e2v2 : v2.2.1 = u1.2.1 := by rw [ew2]
        have fv2 : v2.2.2 = -1 := by rw [ew2]; exact hf1
        have hBv2 : BS tn v2 := by rw [ev2]; exact BS_adv hTK hB1 (by omega)
        have b_v2 := hBv2
        unfold BS at b_v2
        have hr_v2 := tok_r hTE b_v2.1.1 b_v2.1.2
        have hL_v2 : rL σ tn v2.1 ≠ -1 := by omega
        have hC_v2 := (hTK.2.2 v2.1 b_v2.1.1 b_v2.1.2).1.1
        have en2 := tok_nx hTE b_u1.1.1 (tok_z hTE b_u1.1.1 b_u1.1.2 (by omega))
        have hDv2 := hD1
        rw [en2.1, en2.2, ← e1v2, ← e2v2] at hDv2
        rw [← ev2] at e3
        have hg3 := rm_go hTK n 0 d_ _ _ hBv2 fv2 e3
        have hg4 := lpX_go hTK (by decide) (by decide) (fun a b => rm_go hTK n 0 d_ a b) _ _ _ _ hg3.1 e4
        have hm3 := hg3.2.1
        have hm4 := hg4.2.1
        have hbx2 : r2.1.2.2 ≠ -1 → r.1 = r2.1 := fun z => lpX_b z _ e4
        have hbd3 := bd_go hbx2
        refine x_new (ci := 13) hx hb hts in_X15 tyX15 tyX15_ok hown q1020 q1021 q128 hK hH hA rfl [.null, .null, .int (iI 0)] (fun j hj => by rcases (show j = 0 ∨ j = 1 ∨ j = 2 by omega) with rfl | rfl | rfl <;> rfl) (eN_id (by decide)) (by dsimp only [rmX]; omega) (by dsimp only [rmX]; omega) dX3_term_40 (fun q3 H hq3 hH => ?_)
        obtain ⟨M3, e_M3⟩ : ∃ M3, M3 = hs M37_ q3 (oB 13 [.null, .null, .int (iI 0)]) := ⟨_, rfl⟩
        have hH := XV_to hH e_M3.symm
        have f3 : M3 q3 = some (oB 13 [.null, .null, .int (iI 0)]) := by rw [e_M3]; exact hs_s
        obtain ⟨x4, hD4, hX4, hw4_q3⟩ := hDv2.nw (e := oB 13 [.null, .null, .int (iI 0)]) hq3
        rw [← e_M3] at hD4 hX4
        have hno_q3 := Ext.no hE1 hq3
        have hE4 := hE1.tr hX4
        have hT4_s1 := SumAt_up hX4.2.1 hT1
        refine lv_dup hx hb dX3_term_43 rfl ?_
        refine lv_aload_n hx hb dX3_term_44 rfl (lv_at hl 2 rfl) ?_
        refine lv_iload_n hx hb dX3_term_45 rfl (lv_at hl 0 rfl) ?_
        refine lv_aload_n hx hb dX3_term_46 rfl (lv_at hl 1 rfl) ?_
        refine r_callq (r_runV (As := []) (rest := [.int (iI 42), .ref s1, .ref q3, .ref q3]) S hH hK (hX.at hH) XRd_b hl.1 hD4.c rfl (IH M3 a σ tn P τ bo lo x4 v2 d_ p_ pf1 r2 _ hTE hD4 hBv2 fv2 (by omega) (by omega) (by omega) (by omega) hKG e3) (lw_V q968 q970 qs21 q108 q971) kd_X3_part rfl rfl dX3_term_47 (hR := ⟨by dsimp only [rmX, rmD]; omega, by dsimp only [rmX, rmD]; omega⟩) (hf := ⟨by dsimp only [rmX]; omega, by dsimp only [rmX]; omega⟩)) hH hA (fun q9_47 pl_47 M9_47 H locs hT_47 => r_out hto hlk hT_47 (sub_px hbx2 hT_47.1) (by omega) (by omega)) (fun r9_47 M47_ H locs q_47 hH hz_47 => ?_)
        obtain ⟨f5, x5, q5, pf5, er5, hD5, hp5, hX5, hT5⟩ := q_47
        subst er5
        have hb5 := bd_f f5
        have hE5 := hE4.tr hX5
        obtain ⟨f5_q3, hw5_q3⟩ := hX5.2.2 _ _ f3 hw4_q3
        have hT5_s1 := SumAt_up hX5.2.1 hT4_s1
        have hBB5 := hg3.1
        have b_r2_1 := hBB5
        unfold BS at b_r2_1
        have hr_r2_1 := tok_r hTE b_r2_1.1.1 b_r2_1.1.2
        have hL_r2_1 : rL σ tn r2.1.1 ≠ -1 := by omega
        have hC_r2_1 := (hTK.2.2 r2.1.1 b_r2_1.1.1 b_r2_1.1.2).1.1
        have h50_r2_1 := b_r2_1.2.2.2 f5
        have hlf := (hg3.2.2 (by assumption)).2.2
        refine x_callv (x_runI (As := [.ref s1, .int (iI 42), .ref q5]) (rest := [.ref q3]) S hH hK (fun _ _ hW => XN.warm hW hXN) XN_b hl.1 (xm_X15_init l G M47_ q3 s1 42 q5 _ f5_q3) (lw_meth q1024) q128 q1022 q1023 kd_X15_init rfl rfl dX3_term_50 (hR := ⟨by dsimp only [rmX, rmD]; omega, by dsimp only [rmX, rmD]; omega⟩) (hf := ⟨by dsimp only [rmX]; omega, by dsimp only [rmX]; omega⟩)) hH hA (fun M50_ H locs q_50 hH hz_50 => ?_)
        obtain ⟨x6, hD6, hE6, hI6, hu6, hO6⟩ := RD.node (e := oB 13 [.ref s1, .ref q5, .int (iI 42)]) hD5 hE5 hw5_q3 hno_q3
        rw [← q_50] at hD6 hE6 hO6
        have hT6_s1 := SumAt_up hu6 hT5_s1
        have hT6_q5 := SumAt_up hu6 hT5
        have hN6 : SumAt (r2.1.2.1 - u.2.1).toNat (gI x6) q3 (joinF (rC σ tn u1.1) f1 r2.2) := by
          rw [show (r2.1.2.1 - u.2.1).toNat = (r2.1.2.1 - u.2.1).toNat - 1 + 1 by omega]
          exact Or.inr (Or.inr ⟨s1, q5, 42, f1, r2.2, hI6, by decide, SumAt_mono (by omega) hT6_s1, SumAt_mono (by omega) hT6_q5, by rw [c_11]; rfl⟩)
        refine lv_astore_n hx hb dX3_term_53 rfl hl (Nat.le_of_ble_eq_true rfl) (lv' := [(1, .ref q3), (2, .int (iI 42)), (0, .ref (P 7))]) rfl (fun ls hl => ?_)
        refine lv_goto (tgt := 5) hx hb dX3_term_54 (by decide) ?_
        have hl : lv_has ls 3 [(0, .ref (P 7)), (1, .ref q3)] := lv_sub hl [2, 0] rfl
        refine W.widen (k := (4 * (r2.1.1 - u.1)).toNat) (n := (16 * (r2.1.1 - u.1)).toNat) (by omega) (by omega) ?_
        refine ih_5 M50_ x6 r2.1 pf5 (joinF (rC σ tn u1.1) f1 r2.2) q3 ?_ ?_ ?_ ?_ ?_ ?_ ?_ ?_ ?_ _ _ _ hH hl
        · exact hD6
        · exact hE6
        · exact hBB5
        · exact f5
        · exact fun i i0 i1 => (hp5 i i0 (by omega)).trans ((hpp1 i i0 (by omega)))
        · exact hN6
        · exact e4
        · omega
        · omega
      · -- 11F
        refine lv_aload_n hx hb dX3_term_14 rfl (lv_at hl 0 rfl) ?_
        refine va_ldcS (tx := "/") (q := K.1 34) hx hb hown (hX.2.1 34 (by decide)) dX3_term_15 ?_
        refine x_calliF (x_runV (As := [.ref (K.1 34)]) (rest := []) S hH hK (hX.at hH) XRd_b hl.1 hD1.c rfl (xm_X3_isWord l G N1 K a σ P τ bo lo x1 (rL σ tn u1.1) (rE σ tn u1.1) u1.2.1 d_ p_ pf1 34 _ hD1 (by decide) (by omega) (by omega) (by omega) hB8) (lw_V q908 q910 qs18 q108 q911) kd_X3_isWord rfl rfl dX3_term_17 (hR := ⟨by dsimp only [rmX, rmD]; omega, by dsimp only [rmX, rmD]; omega⟩) (hf := ⟨by dsimp only [rmX]; omega, by dsimp only [rmX]; omega⟩)) hH hA (fun H locs hH => ?_)
        refine W.eq (g2 := F0 m 20 ls (.int (iI (zb (rC σ tn u1.1 = 147))) :: [])) (by rw [tok_zb hTE b_u1.1.1 b_u1.1.2 (k := 34) (by decide) (z := 147) rfl]) ?_
        refine z_if_eq (tgt := 57) hx hb dX3_term_20 (by decide) (fun c_20 => ?_) (fun c_20 => ?_)
        · -- 20T
          rw [if_neg (fun z => z.elim (fun y => c_11 y.2) (fun y => c_20 y.2))] at hl1
          have er9 := Option.some.inj hl1
          have er1 : r.1 = u1 := by rw [← er9]
          have er11 : r.1.1 = u1.1 := by rw [er1]
          have er12 : r.1.2.1 = u1.2.1 := by rw [er1]
          have hbd9 : bd r.1 = 0 := by rw [er1]; exact bd_f hf1
          refine lv_aload_n hx hb dX3_term_57 rfl (lv_at hl 1 rfl) ?_
          refine W.widen (k := ((4 * (r.1.1 - u.1)).toNat + 2 * bd r.1)) (n := ((16 * (r.1.1 - u.1)).toNat + 8 * bd r.1)) (by omega) (by omega) ?_
          refine vx_ret ?_
          refine x_aret (r := some s1) hx hb hr (Or.inl ⟨_, rfl⟩) hlk hH dX3_term_58 ?_
          subst er9
          exact ⟨hf1, x1, s1, pf1, rfl, hD1, fun i i0 i1 => (hpp1 i i0 (by omega)), hE1, hT1⟩
        · -- 20F
          have hts9 := tok_s hTE b_u1.1.1 b_u1.1.2 (by omega)
          rw [if_pos (Or.inr ⟨hf1, c_20⟩)] at hl1
          obtain ⟨r2, e3, e4⟩ := Option.bind_eq_some_iff.mp hl1
          refine lv_aload_n hx hb dX3_term_23 rfl (lv_at hl 0 rfl) ?_
          refine x_get hx hb hts in_X3 hown hK hH hD1.c rfl 9 (by decide) q316 (fun _ h9 => h9) rfl (by decide) dX3_term_24 ?_
          refine x_getN hx hb hts in_X0 hown hK hH hD1.o rfl 5 (by decide) hXN q344 (fun _ h9 => h9) rfl (by decide) dX3_term_27 ?_
          refine lv_aload_n hx hb dX3_term_30 rfl (lv_at hl 0 rfl) ?_
          refine x_get hx hb hts in_X3 hown hK hH hD1.c rfl 0 (by decide) q307 (fun _ h9 => h9) rfl (by decide) dX3_term_31 ?_
          refine x_bald hx hb hK hH hD1.tp (by omega) (by omega) (Nat.le_of_ble_eq_true rfl) dX3_term_34 ?_
          have hb_34 := hB8 (rL σ tn u1.1)
          refine W.eq (g2 := F0 m 35 ls (.int (iI (σ 7 (rL σ tn u1.1))) :: [])) (by first | (rw [hD1.ht (i := rL σ tn u1.1) (by omega) (by omega)]; done) | (rw [hD1.ht (i := rL σ tn u1.1) (by omega) (by omega)]; rfl)) ?_
          refine W.eq (g2 := F0 m 35 ls (.int (iI 47) :: [])) (by rw [show σ 7 (rL σ tn u1.1) = 47 by omega]) ?_
          refine lv_istore_n hx hb dX3_term_35 rfl hl (Nat.le_of_ble_eq_true rfl) (lv' := [(2, .int (iI 47)), (0, .ref (P 7)), (1, .ref s1)]) rfl (fun ls hl => ?_)
          refine lv_aload_n hx hb dX3_term_36 rfl (lv_at hl 1 rfl) ?_
          refine x_callv (x_runV (As := []) (rest := []) S hH hK (hX.at hH) XRd_b hl.1 hD1.c rfl (xm_X3_next l G N1 K a σ P τ bo lo x1 (rL σ tn u1.1) (rE σ tn u1.1) u1.2.1 d_ p_ pf1 _ hD1 hB8 (by omega) (by omega) (by omega)) (lw_V q823 q825 qs13 q108 q826) kd_X3_next rfl rfl dX3_term_37 (hR := ⟨by dsimp only [rmX, rmD]; omega, by dsimp only [rmX, rmD]; omega⟩) (hf := ⟨by dsimp only [rmX]; omega, by dsimp only [rmX]; omega⟩)) hH hA (fun M37_ H locs q_37 hH hz_37 => ?_)
          obtain ⟨hD7, hX7⟩ := q_37
          have hE7 := hE1.tr hX7
          obtain ⟨v8, ev8⟩ : ∃ v, v = advP u1 := ⟨_, rfl⟩
          have ew8 : v8 = (u1.1 + 1, u1.2.1, u1.2.2) := ev8
          have e1v8 : v8.1 = u1.1 + 1 := by rw [ew8]
          have e2v8 : v8.2.1 = u1.2.1 := by rw [ew8]
          have fv8 : v8.2.2 = -1 := by rw [ew8]; exact hf1
          have hBv8 : BS tn v8 := by rw [ev8]; exact BS_adv hTK hB1 (by omega)
          have b_v8 := hBv8
          unfold BS at b_v8
          have hr_v8 := tok_r hTE b_v8.1.1 b_v8.1.2
          have hL_v8 : rL σ tn v8.1 ≠ -1 := by omega
          have hC_v8 := (hTK.2.2 v8.1 b_v8.1.1 b_v8.1.2).1.1
          have en8 := tok_nx hTE b_u1.1.1 (tok_z hTE b_u1.1.1 b_u1.1.2 (by omega))
          have hDv8 := hD7
          rw [en8.1, en8.2, ← e1v8, ← e2v8] at hDv8
          rw [← ev8] at e3
          have hg3 := rm_go hTK n 0 d_ _ _ hBv8 fv8 e3
          have hg4 := lpX_go hTK (by decide) (by decide) (fun a b => rm_go hTK n 0 d_ a b) _ _ _ _ hg3.1 e4
          have hm3 := hg3.2.1
          have hm4 := hg4.2.1
          have hbx2 : r2.1.2.2 ≠ -1 → r.1 = r2.1 := fun z => lpX_b z _ e4
          have hbd3 := bd_go hbx2
          refine x_new (ci := 13) hx hb hts in_X15 tyX15 tyX15_ok hown q1020 q1021 q128 hK hH hA rfl [.null, .null, .int (iI 0)] (fun j hj => by rcases (show j = 0 ∨ j = 1 ∨ j = 2 by omega) with rfl | rfl | rfl <;> rfl) (eN_id (by decide)) (by dsimp only [rmX]; omega) (by dsimp only [rmX]; omega) dX3_term_40 (fun q9 H hq9 hH => ?_)
          obtain ⟨M9, e_M9⟩ : ∃ M9, M9 = hs M37_ q9 (oB 13 [.null, .null, .int (iI 0)]) := ⟨_, rfl⟩
          have hH := XV_to hH e_M9.symm
          have f9 : M9 q9 = some (oB 13 [.null, .null, .int (iI 0)]) := by rw [e_M9]; exact hs_s
          obtain ⟨x10, hD10, hX10, hw10_q9⟩ := hDv8.nw (e := oB 13 [.null, .null, .int (iI 0)]) hq9
          rw [← e_M9] at hD10 hX10
          have hno_q9 := Ext.no hE7 hq9
          have hE10 := hE7.tr hX10
          have hT10_s1 := SumAt_up hX10.2.1 hT1
          refine lv_dup hx hb dX3_term_43 rfl ?_
          refine lv_aload_n hx hb dX3_term_44 rfl (lv_at hl 2 rfl) ?_
          refine lv_iload_n hx hb dX3_term_45 rfl (lv_at hl 0 rfl) ?_
          refine lv_aload_n hx hb dX3_term_46 rfl (lv_at hl 1 rfl) ?_
          refine r_callq (r_runV (As := []) (rest := [.int (iI 47), .ref s1, .ref q9, .ref q9]) S hH hK (hX.at hH) XRd_b hl.1 hD10.c rfl (IH M9 a σ tn P τ bo lo x10 v8 d_ p_ pf1 r2 _ hTE hD10 hBv8 fv8 (by omega) (by omega) (by omega) (by omega) hKG e3) (lw_V q968 q970 qs21 q108 q971) kd_X3_part rfl rfl dX3_term_47 (hR := ⟨by dsimp only [rmX, rmD]; omega, by dsimp only [rmX, rmD]; omega⟩) (hf := ⟨by dsimp only [rmX]; omega, by dsimp only [rmX]; omega⟩)) hH hA (fun q9_47 pl_47 M9_47 H locs hT_47 => r_out hto hlk hT_47 (sub_px hbx2 hT_47.1) (by omega) (by omega)) (fun r9_47 M47_ H locs q_47 hH hz_47 => ?_)
          obtain ⟨f11, x11, q11, pf11, er11, hD11, hp11, hX11, hT11⟩ := q_47
          subst er11
          have hb11 := bd_f f11
          have hE11 := hE10.tr hX11
          obtain ⟨f11_q9, hw11_q9⟩ := hX11.2.2 _ _ f9 hw10_q9
          have hT11_s1 := SumAt_up hX11.2.1 hT10_s1
          have hBB11 := hg3.1
          have b_r2_1 := hBB11
          unfold BS at b_r2_1
          have hr_r2_1 := tok_r hTE b_r2_1.1.1 b_r2_1.1.2
          have hL_r2_1 : rL σ tn r2.1.1 ≠ -1 := by omega
          have hC_r2_1 := (hTK.2.2 r2.1.1 b_r2_1.1.1 b_r2_1.1.2).1.1
          have h50_r2_1 := b_r2_1.2.2.2 f11
          have hlf := (hg3.2.2 (by assumption)).2.2
          refine x_callv (x_runI (As := [.ref s1, .int (iI 47), .ref q11]) (rest := [.ref q9]) S hH hK (fun _ _ hW => XN.warm hW hXN) XN_b hl.1 (xm_X15_init l G M47_ q9 s1 47 q11 _ f11_q9) (lw_meth q1024) q128 q1022 q1023 kd_X15_init rfl rfl dX3_term_50 (hR := ⟨by dsimp only [rmX, rmD]; omega, by dsimp only [rmX, rmD]; omega⟩) (hf := ⟨by dsimp only [rmX]; omega, by dsimp only [rmX]; omega⟩)) hH hA (fun M50_ H locs q_50 hH hz_50 => ?_)
          obtain ⟨x12, hD12, hE12, hI12, hu12, hO12⟩ := RD.node (e := oB 13 [.ref s1, .ref q11, .int (iI 47)]) hD11 hE11 hw11_q9 hno_q9
          rw [← q_50] at hD12 hE12 hO12
          have hT12_s1 := SumAt_up hu12 hT11_s1
          have hT12_q11 := SumAt_up hu12 hT11
          have hN12 : SumAt (r2.1.2.1 - u.2.1).toNat (gI x12) q9 (joinF (rC σ tn u1.1) f1 r2.2) := by
            rw [show (r2.1.2.1 - u.2.1).toNat = (r2.1.2.1 - u.2.1).toNat - 1 + 1 by omega]
            exact Or.inr (Or.inr ⟨s1, q11, 47, f1, r2.2, hI12, by decide, SumAt_mono (by omega) hT12_s1, SumAt_mono (by omega) hT12_q11, by rw [c_20]; rfl⟩)
          refine lv_astore_n hx hb dX3_term_53 rfl hl (Nat.le_of_ble_eq_true rfl) (lv' := [(1, .ref q9), (2, .int (iI 47)), (0, .ref (P 7))]) rfl (fun ls hl => ?_)
          refine lv_goto (tgt := 5) hx hb dX3_term_54 (by decide) ?_
          have hl : lv_has ls 3 [(0, .ref (P 7)), (1, .ref q9)] := lv_sub hl [2, 0] rfl
          refine W.widen (k := (4 * (r2.1.1 - u.1)).toNat) (n := (16 * (r2.1.1 - u.1)).toNat) (by omega) (by omega) ?_
          refine ih_5 M50_ x12 r2.1 pf11 (joinF (rC σ tn u1.1) f1 r2.2) q9 ?_ ?_ ?_ ?_ ?_ ?_ ?_ ?_ ?_ _ _ _ hH hl
          · exact hD12
          · exact hE12
          · exact hBB11
          · exact f11
          · exact fun i i0 i1 => (hp11 i i0 (by omega)).trans ((hpp1 i i0 (by omega)))
          · exact hN12
          · exact e4
          · omega
          · omega
  obtain ⟨r1, e1, e2⟩ := Option.bind_eq_some_iff.mp he
  have hg1 := rm_go hTK n 0 d_ _ _ hB hf e1
  have hg2 := lpX_go hTK (by decide) (by decide) (fun a b => rm_go hTK n 0 d_ a b) _ _ _ _ hg1.1 e2
  have hm1 := hg1.2.1
  have hm2 := hg2.2.1
  have hbx : r1.1.2.2 ≠ -1 → r.1 = r1.1 := fun z => lpX_b z _ e2
  have hbd2 := bd_go hbx
  refine lv_aload_n hx hb dX3_term_0 rfl (lv_at hl 0 rfl) ?_
  refine r_callq (r_runV (As := []) (rest := []) S hH hK (hX.at hH) XRd_b hl.1 hD.c rfl (IH M a σ tn P τ bo lo x u d_ p_ pf r1 _ hTE hD hB hf (by omega) (by omega) (by omega) (by omega) hKG e1) (lw_V q968 q970 qs21 q108 q971) kd_X3_part rfl rfl dX3_term_1 (hR := ⟨by dsimp only [rmX, rmD]; omega, by dsimp only [rmX, rmD]; omega⟩) (hf := ⟨by dsimp only [rmX]; omega, by dsimp only [rmX]; omega⟩)) hH hA (fun q9_1 pl_1 M9_1 H locs hT_1 => r_out hto hlk hT_1 (sub_px hbx hT_1.1) (by omega) (by omega)) (fun r9_1 M1_ H locs q_1 hH hz_1 => ?_)
  obtain ⟨f13, x13, q13, pf13, er13, hD13, hp13, hX13, hT13⟩ := q_1
  subst er13
  have hb13 := bd_f f13
  have hBB13 := hg1.1
  have b_r1_1 := hBB13
  unfold BS at b_r1_1
  have hr_r1_1 := tok_r hTE b_r1_1.1.1 b_r1_1.1.2
  have hL_r1_1 : rL σ tn r1.1.1 ≠ -1 := by omega
  have hC_r1_1 := (hTK.2.2 r1.1.1 b_r1_1.1.1 b_r1_1.1.2).1.1
  have h50_r1_1 := b_r1_1.2.2.2 f13
  have hlf := (hg1.2.2 (by assumption)).2.2
  refine lv_astore_n hx hb dX3_term_4 rfl hl (Nat.le_of_ble_eq_true rfl) (lv' := [(1, .ref q13), (0, .ref (P 7))]) rfl (fun ls hl => ?_)
  have hl : lv_has ls 3 [(0, .ref (P 7)), (1, .ref q13)] := lv_sub hl [1, 0] rfl
  refine W.widen (k := (4 * (r1.1.1 - u.1)).toNat) (n := (16 * (r1.1.1 - u.1)).toNat) (by omega) (by omega) ?_
  refine L5 402 M1_ x13 r1.1 pf13 r1.2 q13 ?_ ?_ ?_ ?_ ?_ ?_ ?_ ?_ ?_ _ _ _ hH hl
  · exact hD13
  · exact hX13
  · exact hBB13
  · exact f13
  · exact fun i i0 i1 => (hp13 i i0 (by omega))
  · exact hT13
  · exact e2
  · omega
  · omega
