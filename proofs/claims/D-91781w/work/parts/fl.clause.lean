set_option maxHeartbeats 2000000 in
theorem xp_X3_clause (l : Launch) (G : MG) (M : Hp) (K : (Nat → Nat) × (Nat → Nat)) (a : Nat) (σ : St) (tn : Nat) (P : Nat → Nat) (τ : Int → Int) (bo : Nat) (lo : Int) (x : XGh) (u : PS) (pf : Int → Option Nat) (r : PS × Cl) (sz : Nat) (hTE : TE σ tn) (hD : RD G M a σ P τ bo lo x (rL σ tn u.1) (rE σ tn u.1) u.2.1 0 0 pf) (hB : BS tn u) (hf : u.2.2 = -1) (hKG : ∀ i, i < 21 → G.2.2 (100 + i) = K.1 i) (he : clZ (rC σ tn) (rV σ tn) (rL σ tn) 60 u = some r) : vx_Met l yX3_clause (ws_ yX3_clause cX3_clause 4 (some (.object "BrothFlasks$Clause"))) (rmX 80 ((4 * (r.1.1 - u.1)).toNat + 2 * bd r.1) ((16 * (r.1.1 - u.1)).toNat + 8 * bd r.1)) (xP G (XRd K M) [.ref (P 7)] M sz) (xQq G (DA M sz) (fun r' M' => r.1.2.2 = -1 ∧ ∃ (x' : XGh) (q : Nat) (pf' : Int → Option Nat), r' = some q ∧ RD G M' a σ P τ bo lo x' (rL σ tn r.1.1) (rE σ tn r.1.1) r.1.2.1 0 0 pf' ∧ (∀ i, 0 ≤ i → i < (0 : Int) → pf' i = pf i) ∧ Ext M M' x x' ∧ ClauseAt G 200 (gI x') q r.2)) (rXc G (DA M sz) (fun pl M' => PXp G a σ P r.1 pl M')) ((4 * (r.1.1 - u.1)).toNat + 2 * bd r.1) ((16 * (r.1.1 - u.1)).toNat + 8 * bd r.1) (DA M sz) := by
  refine r_start (by decide) (Nat.le_of_ble_eq_true rfl) ?_
  intro p e s m below meth c ⟨S, hr, hlk, hH, hK, hX, hsz, hnm⟩ hto ls hl
  have hXN : XN s := hX.1
  subst hsz
  obtain ⟨hx, hb, hml, hown, hts⟩ := S
  have S : CallFix p m c _ _ s _ lw_all RX3 := ⟨hx, hb, hml, hown, hts⟩
  have hA : ∀ q, s.heap.size ≤ q → DA M s.heap.size q := fun q hq => Or.inr hq
  have hl : lv_has ls 4 [(0, .ref (P 7))] := hl
  have hTK := hTE.tk
  have hB8 := hTE.2.2
  have hn4 := hTE.2.1
  have hgo := clZ_go hTK hB hf he
  have hgo1 := hgo.2.1
  have hbd1 := bd_le r.1
  have hgo3 : bd r.1 = 1 ∨ u.1 + 1 ≤ r.1.1 := by
    by_cases z : r.1.2.2 = -1
    · exact Or.inr (hgo.2.2 z)
    · exact Or.inl (bd_b z)
  have b_u := hB
  unfold BS at b_u
  have hr_u := tok_r hTE b_u.1.1 b_u.1.2
  have hL_u : rL σ tn u.1 ≠ -1 := by omega
  have hC_u := (hTK.2.2 u.1 b_u.1.1 b_u.1.2).1.1
  unfold clZ at he
  refine lv_aload_n hx hb dX3_clause_0 rfl (lv_at hl 0 rfl) ?_
  refine lv_aload_n hx hb dX3_clause_1 rfl (lv_at hl 0 rfl) ?_
  refine x_get hx hb hts in_X3 hown hK hH hD.c rfl 8 (by decide) q315 (fun _ h9 => h9) rfl (by decide) dX3_clause_2 ?_
  refine x_calliF (x_runV (As := [.ref (P 27)]) (rest := []) S hH hK (hX.at hH) XRd_b hl.1 hD.c rfl (xm_X3_which l G M K a σ P τ bo lo x (rL σ tn u.1) (rE σ tn u.1) u.2.1 0 0 pf 27 16 5 _ hD hD.w27 (by decide) hKG (by omega) (by omega) (by omega) hB8) (lw_V q904 q906 qs17 q108 q907) kd_X3_which rfl rfl dX3_clause_5 (hR := ⟨by dsimp only [rmX, rmD]; omega, by dsimp only [rmX, rmD]; omega⟩) (hf := ⟨by dsimp only [rmX]; omega, by dsimp only [rmX]; omega⟩)) hH hA (fun H locs hH => ?_)
  refine n_name (fun w5 e_w5 => ?_)
  rw [wh_h hTE b_u.1.1 b_u.1.2] at e_w5
  have h_w5 : (1 ≤ rC σ tn u.1 ∧ rC σ tn u.1 ≤ 5 ∧ w5 = rC σ tn u.1 - 1) ∨ (¬ (1 ≤ rC σ tn u.1 ∧ rC σ tn u.1 ≤ 5) ∧ w5 = -1) := by (repeat' split at e_w5) <;> omega
  clear e_w5
  refine lv_istore_n hx hb dX3_clause_8 rfl hl (Nat.le_of_ble_eq_true rfl) (lv' := [(1, .int (iI w5)), (0, .ref (P 7))]) rfl (fun ls hl => ?_)
  refine lv_aload_n hx hb dX3_clause_9 rfl (lv_at hl 1 rfl) ?_
  refine lv_iload_n hx hb dX3_clause_10 rfl (lv_at hl 0 rfl) ?_
  refine n_iconst hx hb dX3_clause_11 ?_
  refine n_icmp_eq (tgt := 19) hx hb (r32 (by omega)) (r32 (by omega)) dX3_clause_12 (by decide) (fun c_12 => ?_) (fun c_12 => ?_)
  · -- 12T
    refine n_iconst hx hb dX3_clause_19 ?_
    rw [if_neg (show ¬ (1 ≤ rC σ tn u.1 ∧ rC σ tn u.1 ≤ 5) by omega)] at he
    have hr9 : r.1 = fauP (rL σ tn) u := by cases he; rfl
    have hbad : r.1.2.2 = rL σ tn u.1 := by rw [hr9]; exact (fau_3 hf).2.2
    have hr11 : r.1.1 = u.1 := by rw [hr9]; exact (fau_3 hf).1
    have hbd9 := bd_b (s := r.1) (by rw [hbad]; exact hL_u)
    refine r_callv (r_runV (As := [.int (iI 0)]) (rest := []) S hH hK (hX.at hH) XRd_b hl.1 hD.c rfl (xm_X3_mustN l G M K a σ P τ bo lo x (rL σ tn u.1) (rE σ tn u.1) u.2.1 0 0 pf 0 _ hD (by omega)) (lw_V q833 q835 qs14 q108 q836) kd_X3_must rfl rfl dX3_clause_20 (hR := ⟨by dsimp only [rmX, rmD]; omega, by dsimp only [rmX, rmD]; omega⟩) (hf := ⟨by dsimp only [rmX]; omega, by dsimp only [rmX]; omega⟩)) hH hA (fun q9_20 pl_20 M9_20 H locs hT_20 => r_out hto hlk hT_20 (leaf_px hbad hL_u (hT_20.1)) (by omega) (by omega)) (fun M20_ H locs q_20 hH hz_20 => ?_)
    exact q_20.elim
  · -- 12F
    rw [if_pos (show 1 ≤ rC σ tn u.1 ∧ rC σ tn u.1 ≤ 5 by omega)] at he
    refine n_iconst hx hb dX3_clause_15 ?_
    refine lv_goto (tgt := 20) hx hb dX3_clause_16 (by decide) ?_
    refine x_callv (x_runV (As := [.int (iI 1)]) (rest := []) S hH hK (hX.at hH) XRd_b hl.1 hD.c rfl (xm_X3_mustY l G M K a σ P τ bo lo x (rL σ tn u.1) (rE σ tn u.1) u.2.1 0 0 pf 1 _ hD (by omega)) (lw_V q833 q835 qs14 q108 q836) kd_X3_must rfl rfl dX3_clause_20 (hR := ⟨by dsimp only [rmX, rmD]; omega, by dsimp only [rmX, rmD]; omega⟩) (hf := ⟨by dsimp only [rmX]; omega, by dsimp only [rmX]; omega⟩)) hH hA (fun M20_ H locs q_20 hH hz_20 => ?_)
    have hH := XV_to hH q_20
    refine lv_aload_n hx hb dX3_clause_23 rfl (lv_at hl 1 rfl) ?_
    refine x_callv (x_runV (As := []) (rest := []) S hH hK (hX.at hH) XRd_b hl.1 hD.c rfl (xm_X3_next l G M K a σ P τ bo lo x (rL σ tn u.1) (rE σ tn u.1) u.2.1 0 0 pf _ hD hB8 (by omega) (by omega) (by omega)) (lw_V q823 q825 qs13 q108 q826) kd_X3_next rfl rfl dX3_clause_24 (hR := ⟨by dsimp only [rmX, rmD]; omega, by dsimp only [rmX, rmD]; omega⟩) (hf := ⟨by dsimp only [rmX]; omega, by dsimp only [rmX]; omega⟩)) hH hA (fun M24_ H locs q_24 hH hz_24 => ?_)
    obtain ⟨hD1, hX1⟩ := q_24
    obtain ⟨v2, ev2⟩ : ∃ v, v = advP u := ⟨_, rfl⟩
    have ew2 : v2 = (u.1 + 1, u.2.1, u.2.2) := ev2
    have e1v2 : v2.1 = u.1 + 1 := by rw [ew2]
    have e2v2 : v2.2.1 = u.2.1 := by rw [ew2]
    have fv2 : v2.2.2 = -1 := by rw [ew2]; exact hf
    have hBv2 : BS tn v2 := by rw [ev2]; exact BS_adv hTK hB (by omega)
    have b_v2 := hBv2
    unfold BS at b_v2
    have hr_v2 := tok_r hTE b_v2.1.1 b_v2.1.2
    have hL_v2 : rL σ tn v2.1 ≠ -1 := by omega
    have hC_v2 := (hTK.2.2 v2.1 b_v2.1.1 b_v2.1.2).1.1
    have en2 := tok_nx hTE b_u.1.1 (tok_z hTE b_u.1.1 b_u.1.2 (by omega))
    have hDv2 := hD1
    rw [en2.1, en2.2, ← e1v2, ← e2v2] at hDv2
    refine lv_iload_n hx hb dX3_clause_27 rfl (lv_at hl 0 rfl) ?_
    refine n_iconst hx hb dX3_clause_28 ?_
    refine n_icmp_eq (tgt := 37) hx hb (r32 (by omega)) (r32 (by omega)) dX3_clause_29 (by decide) (fun c_29 => ?_) (fun c_29 => ?_)
    · -- 29T
      rw [if_pos (show rC σ tn u.1 = 3 ∨ rC σ tn u.1 = 4 by omega)] at he
      obtain ⟨r1, e1, hY⟩ := Option.bind_eq_some_iff.mp he
      refine lv_aload_n hx hb dX3_clause_37 rfl (lv_at hl 1 rfl) ?_
      rw [← ev2] at e1
      have hg1 := rm_go hTK 60 2 _ _ _ hBv2 fv2 e1
      have hg2 := clY_go hTK (q := (r1.1, some r1.2)) hg1.1 hY
      have hm1 : r1.1.1 ≤ r.1.1 := hg2.2.1
      have hm2 := hg1.2.1
      have hbx : r1.1.2.2 ≠ -1 → r.1 = r1.1 := fun z => clY_b (q := (r1.1, some r1.2)) hY z
      have hbd2 := bd_go hbx
      refine r_callq (r_runV (As := []) (rest := []) S hH hK (hX.at hH) XRd_b hl.1 hDv2.c rfl ((vp_all l G K 60).2.2.1 M24_ a σ tn P τ bo lo x v2 0 0 pf r1 _ hTE hDv2 hBv2 fv2 (by omega) (by omega) (by omega) (by omega) hKG e1) (lw_V q960 q962 qs19 q108 q963) kd_X3_sum rfl rfl dX3_clause_38 (hR := ⟨by dsimp only [rmX, rmD]; omega, by dsimp only [rmX, rmD]; omega⟩) (hf := ⟨by dsimp only [rmX]; omega, by dsimp only [rmX]; omega⟩)) hH hA (fun q9_38 pl_38 M9_38 H locs hT_38 => r_out hto hlk hT_38 (sub_px hbx hT_38.1) (by omega) (by omega)) (fun r9_38 M38_ H locs q_38 hH hz_38 => ?_)
      obtain ⟨f3, x3, q3, pf3, er3, hD3, hp3, hX3, hT3⟩ := q_38
      subst er3
      have hb3 := bd_f f3
      have hE3 := hX1.tr hX3
      have hBB3 := hg1.1
      have b_r1_1 := hBB3
      unfold BS at b_r1_1
      have hr_r1_1 := tok_r hTE b_r1_1.1.1 b_r1_1.1.2
      have hL_r1_1 : rL σ tn r1.1.1 ≠ -1 := by omega
      have hC_r1_1 := (hTK.2.2 r1.1.1 b_r1_1.1.1 b_r1_1.1.2).1.1
      have h50_r1_1 := b_r1_1.2.2.2 f3
      have hlf := hg1.2.2 (by assumption)
      refine lv_goto (tgt := 45) hx hb dX3_clause_41 (by decide) ?_
      refine lv_astore_n hx hb dX3_clause_45 rfl hl (Nat.le_of_ble_eq_true rfl) (lv' := [(2, .ref q3), (1, .int (iI w5)), (0, .ref (P 7))]) rfl (fun ls hl => ?_)
      refine lv_aload_n hx hb dX3_clause_46 rfl (lv_at hl 2 rfl) ?_
      refine va_ldcS (tx := "if") (q := K.1 22) hx hb hown (hX.2.1 22 (by decide)) dX3_clause_47 ?_
      by_cases a_49 : rC σ tn r1.1.1 = 6
      · -- 49Y
        unfold clY at hY
        try dsimp only at hY
        rw [if_pos (show r1.1.2.2 = -1 by assumption), if_pos a_49] at hY
        obtain ⟨r2, e3, er9⟩ := Option.map_eq_some_iff.mp hY
        refine x_calli (x_runV (As := [.ref (K.1 22)]) (rest := []) S hH hK (hX.at hH) XRd_b hl.1 hD3.c rfl (xm_X3_acceptY l G M38_ K a σ P τ bo lo x3 (rL σ tn r1.1.1) (rE σ tn r1.1.1) r1.1.2.1 0 0 pf3 22 _ hD3 (by decide) (tok_y hTE b_r1_1.1.1 b_r1_1.1.2 (k := 22) (by decide) (z := 6) rfl a_49) (by omega) (by omega) (by omega) hB8 (by omega) (by omega) (by omega)) (lw_V q982 q984 qs24 q108 q985) kd_X3_accept rfl rfl dX3_clause_49 (hR := ⟨by dsimp only [rmX, rmD]; omega, by dsimp only [rmX, rmD]; omega⟩) (hf := ⟨by dsimp only [rmX]; omega, by dsimp only [rmX]; omega⟩)) hH hA (fun z49 M49_ H locs q_49 hH hz_49 => ?_)
        obtain ⟨ez_49, hD4, hX4⟩ := q_49
        subst ez_49
        have hE4 := hE3.tr hX4
        obtain ⟨v5, ev5⟩ : ∃ v, v = advP r1.1 := ⟨_, rfl⟩
        have ew5 : v5 = (r1.1.1 + 1, r1.1.2.1, r1.1.2.2) := ev5
        have e1v5 : v5.1 = r1.1.1 + 1 := by rw [ew5]
        have e2v5 : v5.2.1 = r1.1.2.1 := by rw [ew5]
        have fv5 : v5.2.2 = -1 := by rw [ew5]; exact f3
        have hBv5 : BS tn v5 := by rw [ev5]; exact BS_adv hTK hBB3 (by omega)
        have b_v5 := hBv5
        unfold BS at b_v5
        have hr_v5 := tok_r hTE b_v5.1.1 b_v5.1.2
        have hL_v5 : rL σ tn v5.1 ≠ -1 := by omega
        have hC_v5 := (hTK.2.2 v5.1 b_v5.1.1 b_v5.1.2).1.1
        have en5 := tok_nx hTE b_r1_1.1.1 (tok_z hTE b_r1_1.1.1 b_r1_1.1.2 (by omega))
        have hDv5 := hD4
        rw [en5.1, en5.2, ← e1v5, ← e2v5] at hDv5
        refine n_if_eq (tgt := 62) hx hb (r32 (by omega)) dX3_clause_52 (by decide) (fun h => absurd h (by decide)) (fun _ => ?_)
        refine lv_aload_n hx hb dX3_clause_55 rfl (lv_at hl 2 rfl) ?_
        rw [← ev5] at e3
        have hg3 := rm_go hTK 60 5 _ _ _ hBv5 fv5 e3
        have er10 : r.1 = r2.1 := by rw [← er9]
        have hbx2 : r2.1.2.2 ≠ -1 → r.1 = r2.1 := fun _ => er10
        have hbd3 := bd_go hbx2
        have hm3 := hg3.2.1
        have hm4 : r.1.1 = r2.1.1 := by rw [er10]
        refine r_callq (r_runV (As := []) (rest := []) S hH hK (hX.at hH) XRd_b hl.1 hDv5.c rfl ((vp_all l G K 60).2.2.2.2.2 M49_ a σ tn P τ bo lo x3 v5 0 0 pf3 r2 _ hTE hDv5 hBv5 fv5 (by omega) (by omega) (by omega) (by omega) hKG e3) (lw_V q1039 q1041 qs27 q108 q1042) kd_X3_test rfl rfl dX3_clause_56 (hR := ⟨by dsimp only [rmX, rmD]; omega, by dsimp only [rmX, rmD]; omega⟩) (hf := ⟨by dsimp only [rmX]; omega, by dsimp only [rmX]; omega⟩)) hH hA (fun q9_56 pl_56 M9_56 H locs hT_56 => r_out hto hlk hT_56 (sub_px hbx2 hT_56.1) (by omega) (by omega)) (fun r9_56 M56_ H locs q_56 hH hz_56 => ?_)
        obtain ⟨f6, x6, q6, pf6, er6, hD6, hp6, hX6, hT6⟩ := q_56
        subst er6
        have hb6 := bd_f f6
        have hE6 := hE4.tr hX6
        have hT6_q3 := SumAt_up hX6.2.1 hT3
        have hBB6 := hg3.1
        have b_r2_1 := hBB6
        unfold BS at b_r2_1
        have hr_r2_1 := tok_r hTE b_r2_1.1.1 b_r2_1.1.2
        have hL_r2_1 : rL σ tn r2.1.1 ≠ -1 := by omega
        have hC_r2_1 := (hTK.2.2 r2.1.1 b_r2_1.1.1 b_r2_1.1.2).1.1
        have h50_r2_1 := b_r2_1.2.2.2 f6
        have hlf2 := hg3.2.2 (by assumption)
        refine lv_goto (tgt := 63) hx hb dX3_clause_59 (by decide) ?_
        refine lv_astore_n hx hb dX3_clause_63 rfl hl (Nat.le_of_ble_eq_true rfl) (lv' := [(3, .ref q6), (2, .ref q3), (1, .int (iI w5)), (0, .ref (P 7))]) rfl (fun ls hl => ?_)
        have er1 : r.1 = r2.1 := by rw [← er9]
        have er11 : r.1.1 = r2.1.1 := by rw [er1]
        have er12 : r.1.2.1 = r2.1.2.1 := by rw [er1]
        have hbd9 : bd r.1 = 0 := by rw [er1]; exact bd_f (by assumption)
        refine x_new (ci := 18) hx hb hts in_X21 tyX21 tyX21_ok hown q821 q1120 q134 hK hH hA rfl [.int (iI 0), .null, .null, .long (lI 0)] (fun j hj => by rcases (show j = 0 ∨ j = 1 ∨ j = 2 ∨ j = 3 by omega) with rfl | rfl | rfl | rfl <;> rfl) eN_z18 (by dsimp only [rmX]; omega) (by dsimp only [rmX]; omega) dX3_clause_64 (fun q7 H hq7 hH => ?_)
        obtain ⟨M7, e_M7⟩ : ∃ M7, M7 = hs M56_ q7 (oB 18 [.int (iI 0), .null, .null, .long (lI 0)]) := ⟨_, rfl⟩
        have hH := XV_to hH e_M7.symm
        have f7 : M7 q7 = some (oB 18 [.int (iI 0), .null, .null, .long (lI 0)]) := by rw [e_M7]; exact hs_s
        obtain ⟨x8, hD8, hX8, hw8_q7⟩ := hD6.nw (e := oB 18 [.int (iI 0), .null, .null, .long (lI 0)]) hq7
        rw [← e_M7] at hD8 hX8
        have hno_q7 := Ext.no hE6 hq7
        have hE8 := hE6.tr hX8
        have hT8_q3 := SumAt_up hX8.2.1 hT6_q3
        have hT8_q6 := TestAt_up hX8.2.1 hT6
        refine lv_dup hx hb dX3_clause_67 rfl ?_
        refine lv_iload_n hx hb dX3_clause_68 rfl (lv_at hl 2 rfl) ?_
        refine lv_aload_n hx hb dX3_clause_69 rfl (lv_at hl 1 rfl) ?_
        refine lv_aload_n hx hb dX3_clause_70 rfl (lv_at hl 0 rfl) ?_
        refine x_callv (x_runI (As := [.int (iI w5), .ref q3, .ref q6]) (rest := [.ref q7]) S hH hK (fun _ _ hW => XN.warm hW hXN) XN_b hl.1 (xm_X21_initRR l G M7 q7 w5 q3 q6 _ f7) (lw_meth q1123) q134 q1121 q1122 kd_X21_init rfl rfl dX3_clause_71 (hR := ⟨by dsimp only [rmX, rmD]; omega, by dsimp only [rmX, rmD]; omega⟩) (hf := ⟨by dsimp only [rmX]; omega, by dsimp only [rmX]; omega⟩)) hH hA (fun M71_ H locs q_71 hH hz_71 => ?_)
        obtain ⟨x9, hD9, hE9, hI9, hu9, hO9⟩ := RD.node (e := oB 18 [.int (iI w5), .ref q3, .ref q6, .long (lI 0)]) hD8 hE8 hw8_q7 hno_q7
        rw [← q_71] at hD9 hE9 hO9
        have hT9_q3 := SumAt_up hu9 hT8_q3
        have hT9_q6 := TestAt_up hu9 hT8_q6
        have hN9 : ClauseAt G 200 (gI x9) q7 (rC σ tn u.1, some r1.2, some r2.2) := ⟨some q3, some q6, by rw [show rC σ tn u.1 - 1 = w5 by omega]; exact hI9, ⟨by show 1 ≤ rC σ tn u.1; omega, by show rC σ tn u.1 ≤ 5; omega⟩, Or.inr ⟨q3, r1.2, rfl, rfl, SumAt_mono (by omega) hT9_q3⟩, Or.inr ⟨q6, r2.2, rfl, rfl, TestAt_mono (by omega) hT9_q6⟩⟩
        refine W.widen (k := ((4 * (r.1.1 - u.1)).toNat + 2 * bd r.1)) (n := ((16 * (r.1.1 - u.1)).toNat + 8 * bd r.1)) (by omega) (by omega) ?_
        refine vx_ret ?_
        refine x_aret (r := some q7) hx hb hr (Or.inl ⟨_, rfl⟩) hlk hH dX3_clause_74 ?_
        subst er9
        exact ⟨f6, x9, q7, pf6, rfl, hD9, fun i i0 i1 => absurd i1 (by omega), hE9, hN9⟩
      · -- 49N
        unfold clY at hY
        try dsimp only at hY
        rw [if_pos (show r1.1.2.2 = -1 by assumption), if_neg a_49] at hY
        have er9 := Option.some.inj hY
        refine x_calliF (x_runV (As := [.ref (K.1 22)]) (rest := []) S hH hK (hX.at hH) XRd_b hl.1 hD3.c rfl (xm_X3_acceptN l G M38_ K a σ P τ bo lo x3 (rL σ tn r1.1.1) (rE σ tn r1.1.1) r1.1.2.1 0 0 pf3 22 _ hD3 (by decide) (tok_n hTE b_r1_1.1.1 b_r1_1.1.2 (k := 22) (by decide) (z := 6) rfl a_49) (by omega) (by omega) (by omega) hB8) (lw_V q982 q984 qs24 q108 q985) kd_X3_accept rfl rfl dX3_clause_49 (hR := ⟨by dsimp only [rmX, rmD]; omega, by dsimp only [rmX, rmD]; omega⟩) (hf := ⟨by dsimp only [rmX]; omega, by dsimp only [rmX]; omega⟩)) hH hA (fun H locs hH => ?_)
        refine n_if_eq (tgt := 62) hx hb (r32 (by omega)) dX3_clause_52 (by decide) (fun _ => ?_) (fun h => absurd h (by decide))
        refine lv_null hx hb dX3_clause_62 ?_
        refine lv_astore_nN hx hb dX3_clause_63 rfl hl (Nat.le_of_ble_eq_true rfl) (lv' := [(3, .null), (2, .ref q3), (1, .int (iI w5)), (0, .ref (P 7))]) rfl (fun ls hl => ?_)
        have er1 : r.1 = r1.1 := by rw [← er9]
        have er11 : r.1.1 = r1.1.1 := by rw [er1]
        have er12 : r.1.2.1 = r1.1.2.1 := by rw [er1]
        have hbd9 : bd r.1 = 0 := by rw [er1]; exact bd_f (by assumption)
        refine x_new (ci := 18) hx hb hts in_X21 tyX21 tyX21_ok hown q821 q1120 q134 hK hH hA rfl [.int (iI 0), .null, .null, .long (lI 0)] (fun j hj => by rcases (show j = 0 ∨ j = 1 ∨ j = 2 ∨ j = 3 by omega) with rfl | rfl | rfl | rfl <;> rfl) eN_z18 (by dsimp only [rmX]; omega) (by dsimp only [rmX]; omega) dX3_clause_64 (fun q10 H hq10 hH => ?_)
        obtain ⟨M10, e_M10⟩ : ∃ M10, M10 = hs M38_ q10 (oB 18 [.int (iI 0), .null, .null, .long (lI 0)]) := ⟨_, rfl⟩
        have hH := XV_to hH e_M10.symm
        have f10 : M10 q10 = some (oB 18 [.int (iI 0), .null, .null, .long (lI 0)]) := by rw [e_M10]; exact hs_s
        obtain ⟨x11, hD11, hX11, hw11_q10⟩ := hD3.nw (e := oB 18 [.int (iI 0), .null, .null, .long (lI 0)]) hq10
        rw [← e_M10] at hD11 hX11
        have hno_q10 := Ext.no hE3 hq10
        have hE11 := hE3.tr hX11
        have hT11_q3 := SumAt_up hX11.2.1 hT3
        refine lv_dup hx hb dX3_clause_67 rfl ?_
        refine lv_iload_n hx hb dX3_clause_68 rfl (lv_at hl 2 rfl) ?_
        refine lv_aload_n hx hb dX3_clause_69 rfl (lv_at hl 1 rfl) ?_
        refine lv_aload_nN hx hb dX3_clause_70 rfl (lv_at hl 0 rfl) ?_
        refine x_callv (x_runI (As := [.int (iI w5), .ref q3, .null]) (rest := [.ref q10]) S hH hK (fun _ _ hW => XN.warm hW hXN) XN_b hl.1 (xm_X21_initRN l G M10 q10 w5 q3 _ f10) (lw_meth q1123) q134 q1121 q1122 kd_X21_init rfl rfl dX3_clause_71 (hR := ⟨by dsimp only [rmX, rmD]; omega, by dsimp only [rmX, rmD]; omega⟩) (hf := ⟨by dsimp only [rmX]; omega, by dsimp only [rmX]; omega⟩)) hH hA (fun M71_ H locs q_71 hH hz_71 => ?_)
        obtain ⟨x12, hD12, hE12, hI12, hu12, hO12⟩ := RD.node (e := oB 18 [.int (iI w5), .ref q3, .null, .long (lI 0)]) hD11 hE11 hw11_q10 hno_q10
        rw [← q_71] at hD12 hE12 hO12
        have hT12_q3 := SumAt_up hu12 hT11_q3
        have hN12 : ClauseAt G 200 (gI x12) q10 (rC σ tn u.1, some r1.2, none) := ⟨some q3, none, by rw [show rC σ tn u.1 - 1 = w5 by omega]; exact hI12, ⟨by show 1 ≤ rC σ tn u.1; omega, by show rC σ tn u.1 ≤ 5; omega⟩, Or.inr ⟨q3, r1.2, rfl, rfl, SumAt_mono (by omega) hT12_q3⟩, Or.inl ⟨rfl, rfl⟩⟩
        refine W.widen (k := ((4 * (r.1.1 - u.1)).toNat + 2 * bd r.1)) (n := ((16 * (r.1.1 - u.1)).toNat + 8 * bd r.1)) (by omega) (by omega) ?_
        refine vx_ret ?_
        refine x_aret (r := some q10) hx hb hr (Or.inl ⟨_, rfl⟩) hlk hH dX3_clause_74 ?_
        subst er9
        exact ⟨f3, x12, q10, pf3, rfl, hD12, fun i i0 i1 => absurd i1 (by omega), hE12, hN12⟩
    · -- 29F
      refine lv_iload_n hx hb dX3_clause_32 rfl (lv_at hl 0 rfl) ?_
      refine n_iconst hx hb dX3_clause_33 ?_
      refine n_icmp_ne (tgt := 44) hx hb (r32 (by omega)) (r32 (by omega)) dX3_clause_34 (by decide) (fun c_34 => ?_) (fun c_34 => ?_)
      · -- 34T
        rw [if_neg (show ¬ (rC σ tn u.1 = 3 ∨ rC σ tn u.1 = 4) by omega), ← ev2] at he
        have hY := he
        refine lv_null hx hb dX3_clause_44 ?_
        refine lv_astore_nN hx hb dX3_clause_45 rfl hl (Nat.le_of_ble_eq_true rfl) (lv' := [(2, .null), (1, .int (iI w5)), (0, .ref (P 7))]) rfl (fun ls hl => ?_)
        refine lv_aload_n hx hb dX3_clause_46 rfl (lv_at hl 2 rfl) ?_
        refine va_ldcS (tx := "if") (q := K.1 22) hx hb hown (hX.2.1 22 (by decide)) dX3_clause_47 ?_
        by_cases a_49 : rC σ tn v2.1 = 6
        · -- 49Y
          unfold clY at hY
          try dsimp only at hY
          rw [if_pos (show v2.2.2 = -1 by assumption), if_pos a_49] at hY
          obtain ⟨r2, e3, er9⟩ := Option.map_eq_some_iff.mp hY
          refine x_calli (x_runV (As := [.ref (K.1 22)]) (rest := []) S hH hK (hX.at hH) XRd_b hl.1 hDv2.c rfl (xm_X3_acceptY l G M24_ K a σ P τ bo lo x (rL σ tn v2.1) (rE σ tn v2.1) v2.2.1 0 0 pf 22 _ hDv2 (by decide) (tok_y hTE b_v2.1.1 b_v2.1.2 (k := 22) (by decide) (z := 6) rfl a_49) (by omega) (by omega) (by omega) hB8 (by omega) (by omega) (by omega)) (lw_V q982 q984 qs24 q108 q985) kd_X3_accept rfl rfl dX3_clause_49 (hR := ⟨by dsimp only [rmX, rmD]; omega, by dsimp only [rmX, rmD]; omega⟩) (hf := ⟨by dsimp only [rmX]; omega, by dsimp only [rmX]; omega⟩)) hH hA (fun z49 M49_ H locs q_49 hH hz_49 => ?_)
          obtain ⟨ez_49, hD13, hX13⟩ := q_49
          subst ez_49
          have hE13 := hX1.tr hX13
          obtain ⟨v14, ev14⟩ : ∃ v, v = advP v2 := ⟨_, rfl⟩
          have ew14 : v14 = (v2.1 + 1, v2.2.1, v2.2.2) := ev14
          have e1v14 : v14.1 = v2.1 + 1 := by rw [ew14]
          have e2v14 : v14.2.1 = v2.2.1 := by rw [ew14]
          have fv14 : v14.2.2 = -1 := by rw [ew14]; exact fv2
          have hBv14 : BS tn v14 := by rw [ev14]; exact BS_adv hTK hBv2 (by omega)
          have b_v14 := hBv14
          unfold BS at b_v14
          have hr_v14 := tok_r hTE b_v14.1.1 b_v14.1.2
          have hL_v14 : rL σ tn v14.1 ≠ -1 := by omega
          have hC_v14 := (hTK.2.2 v14.1 b_v14.1.1 b_v14.1.2).1.1
          have en14 := tok_nx hTE b_v2.1.1 (tok_z hTE b_v2.1.1 b_v2.1.2 (by omega))
          have hDv14 := hD13
          rw [en14.1, en14.2, ← e1v14, ← e2v14] at hDv14
          refine n_if_eq (tgt := 62) hx hb (r32 (by omega)) dX3_clause_52 (by decide) (fun h => absurd h (by decide)) (fun _ => ?_)
          refine lv_aload_n hx hb dX3_clause_55 rfl (lv_at hl 2 rfl) ?_
          rw [← ev14] at e3
          have hg3 := rm_go hTK 60 5 _ _ _ hBv14 fv14 e3
          have er10 : r.1 = r2.1 := by rw [← er9]
          have hbx2 : r2.1.2.2 ≠ -1 → r.1 = r2.1 := fun _ => er10
          have hbd3 := bd_go hbx2
          have hm3 := hg3.2.1
          have hm4 : r.1.1 = r2.1.1 := by rw [er10]
          refine r_callq (r_runV (As := []) (rest := []) S hH hK (hX.at hH) XRd_b hl.1 hDv14.c rfl ((vp_all l G K 60).2.2.2.2.2 M49_ a σ tn P τ bo lo x v14 0 0 pf r2 _ hTE hDv14 hBv14 fv14 (by omega) (by omega) (by omega) (by omega) hKG e3) (lw_V q1039 q1041 qs27 q108 q1042) kd_X3_test rfl rfl dX3_clause_56 (hR := ⟨by dsimp only [rmX, rmD]; omega, by dsimp only [rmX, rmD]; omega⟩) (hf := ⟨by dsimp only [rmX]; omega, by dsimp only [rmX]; omega⟩)) hH hA (fun q9_56 pl_56 M9_56 H locs hT_56 => r_out hto hlk hT_56 (sub_px hbx2 hT_56.1) (by omega) (by omega)) (fun r9_56 M56_ H locs q_56 hH hz_56 => ?_)
          obtain ⟨f15, x15, q15, pf15, er15, hD15, hp15, hX15, hT15⟩ := q_56
          subst er15
          have hb15 := bd_f f15
          have hE15 := hE13.tr hX15
          have hBB15 := hg3.1
          have b_r2_1 := hBB15
          unfold BS at b_r2_1
          have hr_r2_1 := tok_r hTE b_r2_1.1.1 b_r2_1.1.2
          have hL_r2_1 : rL σ tn r2.1.1 ≠ -1 := by omega
          have hC_r2_1 := (hTK.2.2 r2.1.1 b_r2_1.1.1 b_r2_1.1.2).1.1
          have h50_r2_1 := b_r2_1.2.2.2 f15
          have hlf2 := hg3.2.2 (by assumption)
          refine lv_goto (tgt := 63) hx hb dX3_clause_59 (by decide) ?_
          refine lv_astore_n hx hb dX3_clause_63 rfl hl (Nat.le_of_ble_eq_true rfl) (lv' := [(3, .ref q15), (2, .null), (1, .int (iI w5)), (0, .ref (P 7))]) rfl (fun ls hl => ?_)
          have er1 : r.1 = r2.1 := by rw [← er9]
          have er11 : r.1.1 = r2.1.1 := by rw [er1]
          have er12 : r.1.2.1 = r2.1.2.1 := by rw [er1]
          have hbd9 : bd r.1 = 0 := by rw [er1]; exact bd_f (by assumption)
          refine x_new (ci := 18) hx hb hts in_X21 tyX21 tyX21_ok hown q821 q1120 q134 hK hH hA rfl [.int (iI 0), .null, .null, .long (lI 0)] (fun j hj => by rcases (show j = 0 ∨ j = 1 ∨ j = 2 ∨ j = 3 by omega) with rfl | rfl | rfl | rfl <;> rfl) eN_z18 (by dsimp only [rmX]; omega) (by dsimp only [rmX]; omega) dX3_clause_64 (fun q16 H hq16 hH => ?_)
          obtain ⟨M16, e_M16⟩ : ∃ M16, M16 = hs M56_ q16 (oB 18 [.int (iI 0), .null, .null, .long (lI 0)]) := ⟨_, rfl⟩
          have hH := XV_to hH e_M16.symm
          have f16 : M16 q16 = some (oB 18 [.int (iI 0), .null, .null, .long (lI 0)]) := by rw [e_M16]; exact hs_s
          obtain ⟨x17, hD17, hX17, hw17_q16⟩ := hD15.nw (e := oB 18 [.int (iI 0), .null, .null, .long (lI 0)]) hq16
          rw [← e_M16] at hD17 hX17
          have hno_q16 := Ext.no hE15 hq16
          have hE17 := hE15.tr hX17
          have hT17_q15 := TestAt_up hX17.2.1 hT15
          refine lv_dup hx hb dX3_clause_67 rfl ?_
          refine lv_iload_n hx hb dX3_clause_68 rfl (lv_at hl 2 rfl) ?_
          refine lv_aload_nN hx hb dX3_clause_69 rfl (lv_at hl 1 rfl) ?_
          refine lv_aload_n hx hb dX3_clause_70 rfl (lv_at hl 0 rfl) ?_
          refine x_callv (x_runI (As := [.int (iI w5), .null, .ref q15]) (rest := [.ref q16]) S hH hK (fun _ _ hW => XN.warm hW hXN) XN_b hl.1 (xm_X21_initNR l G M16 q16 w5 q15 _ f16) (lw_meth q1123) q134 q1121 q1122 kd_X21_init rfl rfl dX3_clause_71 (hR := ⟨by dsimp only [rmX, rmD]; omega, by dsimp only [rmX, rmD]; omega⟩) (hf := ⟨by dsimp only [rmX]; omega, by dsimp only [rmX]; omega⟩)) hH hA (fun M71_ H locs q_71 hH hz_71 => ?_)
          obtain ⟨x18, hD18, hE18, hI18, hu18, hO18⟩ := RD.node (e := oB 18 [.int (iI w5), .null, .ref q15, .long (lI 0)]) hD17 hE17 hw17_q16 hno_q16
          rw [← q_71] at hD18 hE18 hO18
          have hT18_q15 := TestAt_up hu18 hT17_q15
          have hN18 : ClauseAt G 200 (gI x18) q16 (rC σ tn u.1, none, some r2.2) := ⟨none, some q15, by rw [show rC σ tn u.1 - 1 = w5 by omega]; exact hI18, ⟨by show 1 ≤ rC σ tn u.1; omega, by show rC σ tn u.1 ≤ 5; omega⟩, Or.inl ⟨rfl, rfl⟩, Or.inr ⟨q15, r2.2, rfl, rfl, TestAt_mono (by omega) hT18_q15⟩⟩
          refine W.widen (k := ((4 * (r.1.1 - u.1)).toNat + 2 * bd r.1)) (n := ((16 * (r.1.1 - u.1)).toNat + 8 * bd r.1)) (by omega) (by omega) ?_
          refine vx_ret ?_
          refine x_aret (r := some q16) hx hb hr (Or.inl ⟨_, rfl⟩) hlk hH dX3_clause_74 ?_
          subst er9
          exact ⟨f15, x18, q16, pf15, rfl, hD18, fun i i0 i1 => absurd i1 (by omega), hE18, hN18⟩
        · -- 49N
          unfold clY at hY
          try dsimp only at hY
          rw [if_pos (show v2.2.2 = -1 by assumption), if_neg a_49] at hY
          have er9 := Option.some.inj hY
          refine x_calliF (x_runV (As := [.ref (K.1 22)]) (rest := []) S hH hK (hX.at hH) XRd_b hl.1 hDv2.c rfl (xm_X3_acceptN l G M24_ K a σ P τ bo lo x (rL σ tn v2.1) (rE σ tn v2.1) v2.2.1 0 0 pf 22 _ hDv2 (by decide) (tok_n hTE b_v2.1.1 b_v2.1.2 (k := 22) (by decide) (z := 6) rfl a_49) (by omega) (by omega) (by omega) hB8) (lw_V q982 q984 qs24 q108 q985) kd_X3_accept rfl rfl dX3_clause_49 (hR := ⟨by dsimp only [rmX, rmD]; omega, by dsimp only [rmX, rmD]; omega⟩) (hf := ⟨by dsimp only [rmX]; omega, by dsimp only [rmX]; omega⟩)) hH hA (fun H locs hH => ?_)
          refine n_if_eq (tgt := 62) hx hb (r32 (by omega)) dX3_clause_52 (by decide) (fun _ => ?_) (fun h => absurd h (by decide))
          refine lv_null hx hb dX3_clause_62 ?_
          refine lv_astore_nN hx hb dX3_clause_63 rfl hl (Nat.le_of_ble_eq_true rfl) (lv' := [(3, .null), (2, .null), (1, .int (iI w5)), (0, .ref (P 7))]) rfl (fun ls hl => ?_)
          have er1 : r.1 = v2 := by rw [← er9]
          have er11 : r.1.1 = v2.1 := by rw [er1]
          have er12 : r.1.2.1 = v2.2.1 := by rw [er1]
          have hbd9 : bd r.1 = 0 := by rw [er1]; exact bd_f (by assumption)
          refine x_new (ci := 18) hx hb hts in_X21 tyX21 tyX21_ok hown q821 q1120 q134 hK hH hA rfl [.int (iI 0), .null, .null, .long (lI 0)] (fun j hj => by rcases (show j = 0 ∨ j = 1 ∨ j = 2 ∨ j = 3 by omega) with rfl | rfl | rfl | rfl <;> rfl) eN_z18 (by dsimp only [rmX]; omega) (by dsimp only [rmX]; omega) dX3_clause_64 (fun q19 H hq19 hH => ?_)
          obtain ⟨M19, e_M19⟩ : ∃ M19, M19 = hs M24_ q19 (oB 18 [.int (iI 0), .null, .null, .long (lI 0)]) := ⟨_, rfl⟩
          have hH := XV_to hH e_M19.symm
          have f19 : M19 q19 = some (oB 18 [.int (iI 0), .null, .null, .long (lI 0)]) := by rw [e_M19]; exact hs_s
          obtain ⟨x20, hD20, hX20, hw20_q19⟩ := hDv2.nw (e := oB 18 [.int (iI 0), .null, .null, .long (lI 0)]) hq19
          rw [← e_M19] at hD20 hX20
          have hno_q19 := Ext.no hX1 hq19
          have hE20 := hX1.tr hX20
          refine lv_dup hx hb dX3_clause_67 rfl ?_
          refine lv_iload_n hx hb dX3_clause_68 rfl (lv_at hl 2 rfl) ?_
          refine lv_aload_nN hx hb dX3_clause_69 rfl (lv_at hl 1 rfl) ?_
          refine lv_aload_nN hx hb dX3_clause_70 rfl (lv_at hl 0 rfl) ?_
          refine x_callv (x_runI (As := [.int (iI w5), .null, .null]) (rest := [.ref q19]) S hH hK (fun _ _ hW => XN.warm hW hXN) XN_b hl.1 (xm_X21_initNN l G M19 q19 w5 _ f19) (lw_meth q1123) q134 q1121 q1122 kd_X21_init rfl rfl dX3_clause_71 (hR := ⟨by dsimp only [rmX, rmD]; omega, by dsimp only [rmX, rmD]; omega⟩) (hf := ⟨by dsimp only [rmX]; omega, by dsimp only [rmX]; omega⟩)) hH hA (fun M71_ H locs q_71 hH hz_71 => ?_)
          obtain ⟨x21, hD21, hE21, hI21, hu21, hO21⟩ := RD.node (e := oB 18 [.int (iI w5), .null, .null, .long (lI 0)]) hD20 hE20 hw20_q19 hno_q19
          rw [← q_71] at hD21 hE21 hO21
          have hN21 : ClauseAt G 200 (gI x21) q19 (rC σ tn u.1, none, none) := ⟨none, none, by rw [show rC σ tn u.1 - 1 = w5 by omega]; exact hI21, ⟨by show 1 ≤ rC σ tn u.1; omega, by show rC σ tn u.1 ≤ 5; omega⟩, Or.inl ⟨rfl, rfl⟩, Or.inl ⟨rfl, rfl⟩⟩
          refine W.widen (k := ((4 * (r.1.1 - u.1)).toNat + 2 * bd r.1)) (n := ((16 * (r.1.1 - u.1)).toNat + 8 * bd r.1)) (by omega) (by omega) ?_
          refine vx_ret ?_
          refine x_aret (r := some q19) hx hb hr (Or.inl ⟨_, rfl⟩) hlk hH dX3_clause_74 ?_
          subst er9
          exact ⟨fv2, x21, q19, pf, rfl, hD21, fun i i0 i1 => absurd i1 (by omega), hE21, hN21⟩
      · -- 34F
        rw [if_pos (show rC σ tn u.1 = 3 ∨ rC σ tn u.1 = 4 by omega)] at he
        obtain ⟨r1, e1, hY⟩ := Option.bind_eq_some_iff.mp he
        refine lv_aload_n hx hb dX3_clause_37 rfl (lv_at hl 1 rfl) ?_
        rw [← ev2] at e1
        have hg1 := rm_go hTK 60 2 _ _ _ hBv2 fv2 e1
        have hg2 := clY_go hTK (q := (r1.1, some r1.2)) hg1.1 hY
        have hm1 : r1.1.1 ≤ r.1.1 := hg2.2.1
        have hm2 := hg1.2.1
        have hbx : r1.1.2.2 ≠ -1 → r.1 = r1.1 := fun z => clY_b (q := (r1.1, some r1.2)) hY z
        have hbd2 := bd_go hbx
        refine r_callq (r_runV (As := []) (rest := []) S hH hK (hX.at hH) XRd_b hl.1 hDv2.c rfl ((vp_all l G K 60).2.2.1 M24_ a σ tn P τ bo lo x v2 0 0 pf r1 _ hTE hDv2 hBv2 fv2 (by omega) (by omega) (by omega) (by omega) hKG e1) (lw_V q960 q962 qs19 q108 q963) kd_X3_sum rfl rfl dX3_clause_38 (hR := ⟨by dsimp only [rmX, rmD]; omega, by dsimp only [rmX, rmD]; omega⟩) (hf := ⟨by dsimp only [rmX]; omega, by dsimp only [rmX]; omega⟩)) hH hA (fun q9_38 pl_38 M9_38 H locs hT_38 => r_out hto hlk hT_38 (sub_px hbx hT_38.1) (by omega) (by omega)) (fun r9_38 M38_ H locs q_38 hH hz_38 => ?_)
        obtain ⟨f22, x22, q22, pf22, er22, hD22, hp22, hX22, hT22⟩ := q_38
        subst er22
        have hb22 := bd_f f22
        have hE22 := hX1.tr hX22
        have hBB22 := hg1.1
        have b_r1_1 := hBB22
        unfold BS at b_r1_1
        have hr_r1_1 := tok_r hTE b_r1_1.1.1 b_r1_1.1.2
        have hL_r1_1 : rL σ tn r1.1.1 ≠ -1 := by omega
        have hC_r1_1 := (hTK.2.2 r1.1.1 b_r1_1.1.1 b_r1_1.1.2).1.1
        have h50_r1_1 := b_r1_1.2.2.2 f22
        have hlf := hg1.2.2 (by assumption)
        refine lv_goto (tgt := 45) hx hb dX3_clause_41 (by decide) ?_
        refine lv_astore_n hx hb dX3_clause_45 rfl hl (Nat.le_of_ble_eq_true rfl) (lv' := [(2, .ref q22), (1, .int (iI w5)), (0, .ref (P 7))]) rfl (fun ls hl => ?_)
        refine lv_aload_n hx hb dX3_clause_46 rfl (lv_at hl 2 rfl) ?_
        refine va_ldcS (tx := "if") (q := K.1 22) hx hb hown (hX.2.1 22 (by decide)) dX3_clause_47 ?_
        by_cases a_49 : rC σ tn r1.1.1 = 6
        · -- 49Y
          unfold clY at hY
          try dsimp only at hY
          rw [if_pos (show r1.1.2.2 = -1 by assumption), if_pos a_49] at hY
          obtain ⟨r2, e3, er9⟩ := Option.map_eq_some_iff.mp hY
          refine x_calli (x_runV (As := [.ref (K.1 22)]) (rest := []) S hH hK (hX.at hH) XRd_b hl.1 hD22.c rfl (xm_X3_acceptY l G M38_ K a σ P τ bo lo x22 (rL σ tn r1.1.1) (rE σ tn r1.1.1) r1.1.2.1 0 0 pf22 22 _ hD22 (by decide) (tok_y hTE b_r1_1.1.1 b_r1_1.1.2 (k := 22) (by decide) (z := 6) rfl a_49) (by omega) (by omega) (by omega) hB8 (by omega) (by omega) (by omega)) (lw_V q982 q984 qs24 q108 q985) kd_X3_accept rfl rfl dX3_clause_49 (hR := ⟨by dsimp only [rmX, rmD]; omega, by dsimp only [rmX, rmD]; omega⟩) (hf := ⟨by dsimp only [rmX]; omega, by dsimp only [rmX]; omega⟩)) hH hA (fun z49 M49_ H locs q_49 hH hz_49 => ?_)
          obtain ⟨ez_49, hD23, hX23⟩ := q_49
          subst ez_49
          have hE23 := hE22.tr hX23
          obtain ⟨v24, ev24⟩ : ∃ v, v = advP r1.1 := ⟨_, rfl⟩
          have ew24 : v24 = (r1.1.1 + 1, r1.1.2.1, r1.1.2.2) := ev24
          have e1v24 : v24.1 = r1.1.1 + 1 := by rw [ew24]
          have e2v24 : v24.2.1 = r1.1.2.1 := by rw [ew24]
          have fv24 : v24.2.2 = -1 := by rw [ew24]; exact f22
          have hBv24 : BS tn v24 := by rw [ev24]; exact BS_adv hTK hBB22 (by omega)
          have b_v24 := hBv24
          unfold BS at b_v24
          have hr_v24 := tok_r hTE b_v24.1.1 b_v24.1.2
          have hL_v24 : rL σ tn v24.1 ≠ -1 := by omega
          have hC_v24 := (hTK.2.2 v24.1 b_v24.1.1 b_v24.1.2).1.1
          have en24 := tok_nx hTE b_r1_1.1.1 (tok_z hTE b_r1_1.1.1 b_r1_1.1.2 (by omega))
          have hDv24 := hD23
          rw [en24.1, en24.2, ← e1v24, ← e2v24] at hDv24
          refine n_if_eq (tgt := 62) hx hb (r32 (by omega)) dX3_clause_52 (by decide) (fun h => absurd h (by decide)) (fun _ => ?_)
          refine lv_aload_n hx hb dX3_clause_55 rfl (lv_at hl 2 rfl) ?_
          rw [← ev24] at e3
          have hg3 := rm_go hTK 60 5 _ _ _ hBv24 fv24 e3
          have er10 : r.1 = r2.1 := by rw [← er9]
          have hbx2 : r2.1.2.2 ≠ -1 → r.1 = r2.1 := fun _ => er10
          have hbd3 := bd_go hbx2
          have hm3 := hg3.2.1
          have hm4 : r.1.1 = r2.1.1 := by rw [er10]
          refine r_callq (r_runV (As := []) (rest := []) S hH hK (hX.at hH) XRd_b hl.1 hDv24.c rfl ((vp_all l G K 60).2.2.2.2.2 M49_ a σ tn P τ bo lo x22 v24 0 0 pf22 r2 _ hTE hDv24 hBv24 fv24 (by omega) (by omega) (by omega) (by omega) hKG e3) (lw_V q1039 q1041 qs27 q108 q1042) kd_X3_test rfl rfl dX3_clause_56 (hR := ⟨by dsimp only [rmX, rmD]; omega, by dsimp only [rmX, rmD]; omega⟩) (hf := ⟨by dsimp only [rmX]; omega, by dsimp only [rmX]; omega⟩)) hH hA (fun q9_56 pl_56 M9_56 H locs hT_56 => r_out hto hlk hT_56 (sub_px hbx2 hT_56.1) (by omega) (by omega)) (fun r9_56 M56_ H locs q_56 hH hz_56 => ?_)
          obtain ⟨f25, x25, q25, pf25, er25, hD25, hp25, hX25, hT25⟩ := q_56
          subst er25
          have hb25 := bd_f f25
          have hE25 := hE23.tr hX25
          have hT25_q22 := SumAt_up hX25.2.1 hT22
          have hBB25 := hg3.1
          have b_r2_1 := hBB25
          unfold BS at b_r2_1
          have hr_r2_1 := tok_r hTE b_r2_1.1.1 b_r2_1.1.2
          have hL_r2_1 : rL σ tn r2.1.1 ≠ -1 := by omega
          have hC_r2_1 := (hTK.2.2 r2.1.1 b_r2_1.1.1 b_r2_1.1.2).1.1
          have h50_r2_1 := b_r2_1.2.2.2 f25
          have hlf2 := hg3.2.2 (by assumption)
          refine lv_goto (tgt := 63) hx hb dX3_clause_59 (by decide) ?_
          refine lv_astore_n hx hb dX3_clause_63 rfl hl (Nat.le_of_ble_eq_true rfl) (lv' := [(3, .ref q25), (2, .ref q22), (1, .int (iI w5)), (0, .ref (P 7))]) rfl (fun ls hl => ?_)
          have er1 : r.1 = r2.1 := by rw [← er9]
          have er11 : r.1.1 = r2.1.1 := by rw [er1]
          have er12 : r.1.2.1 = r2.1.2.1 := by rw [er1]
          have hbd9 : bd r.1 = 0 := by rw [er1]; exact bd_f (by assumption)
          refine x_new (ci := 18) hx hb hts in_X21 tyX21 tyX21_ok hown q821 q1120 q134 hK hH hA rfl [.int (iI 0), .null, .null, .long (lI 0)] (fun j hj => by rcases (show j = 0 ∨ j = 1 ∨ j = 2 ∨ j = 3 by omega) with rfl | rfl | rfl | rfl <;> rfl) eN_z18 (by dsimp only [rmX]; omega) (by dsimp only [rmX]; omega) dX3_clause_64 (fun q26 H hq26 hH => ?_)
          obtain ⟨M26, e_M26⟩ : ∃ M26, M26 = hs M56_ q26 (oB 18 [.int (iI 0), .null, .null, .long (lI 0)]) := ⟨_, rfl⟩
          have hH := XV_to hH e_M26.symm
          have f26 : M26 q26 = some (oB 18 [.int (iI 0), .null, .null, .long (lI 0)]) := by rw [e_M26]; exact hs_s
          obtain ⟨x27, hD27, hX27, hw27_q26⟩ := hD25.nw (e := oB 18 [.int (iI 0), .null, .null, .long (lI 0)]) hq26
          rw [← e_M26] at hD27 hX27
          have hno_q26 := Ext.no hE25 hq26
          have hE27 := hE25.tr hX27
          have hT27_q22 := SumAt_up hX27.2.1 hT25_q22
          have hT27_q25 := TestAt_up hX27.2.1 hT25
          refine lv_dup hx hb dX3_clause_67 rfl ?_
          refine lv_iload_n hx hb dX3_clause_68 rfl (lv_at hl 2 rfl) ?_
          refine lv_aload_n hx hb dX3_clause_69 rfl (lv_at hl 1 rfl) ?_
          refine lv_aload_n hx hb dX3_clause_70 rfl (lv_at hl 0 rfl) ?_
          refine x_callv (x_runI (As := [.int (iI w5), .ref q22, .ref q25]) (rest := [.ref q26]) S hH hK (fun _ _ hW => XN.warm hW hXN) XN_b hl.1 (xm_X21_initRR l G M26 q26 w5 q22 q25 _ f26) (lw_meth q1123) q134 q1121 q1122 kd_X21_init rfl rfl dX3_clause_71 (hR := ⟨by dsimp only [rmX, rmD]; omega, by dsimp only [rmX, rmD]; omega⟩) (hf := ⟨by dsimp only [rmX]; omega, by dsimp only [rmX]; omega⟩)) hH hA (fun M71_ H locs q_71 hH hz_71 => ?_)
          obtain ⟨x28, hD28, hE28, hI28, hu28, hO28⟩ := RD.node (e := oB 18 [.int (iI w5), .ref q22, .ref q25, .long (lI 0)]) hD27 hE27 hw27_q26 hno_q26
          rw [← q_71] at hD28 hE28 hO28
          have hT28_q22 := SumAt_up hu28 hT27_q22
          have hT28_q25 := TestAt_up hu28 hT27_q25
          have hN28 : ClauseAt G 200 (gI x28) q26 (rC σ tn u.1, some r1.2, some r2.2) := ⟨some q22, some q25, by rw [show rC σ tn u.1 - 1 = w5 by omega]; exact hI28, ⟨by show 1 ≤ rC σ tn u.1; omega, by show rC σ tn u.1 ≤ 5; omega⟩, Or.inr ⟨q22, r1.2, rfl, rfl, SumAt_mono (by omega) hT28_q22⟩, Or.inr ⟨q25, r2.2, rfl, rfl, TestAt_mono (by omega) hT28_q25⟩⟩
          refine W.widen (k := ((4 * (r.1.1 - u.1)).toNat + 2 * bd r.1)) (n := ((16 * (r.1.1 - u.1)).toNat + 8 * bd r.1)) (by omega) (by omega) ?_
          refine vx_ret ?_
          refine x_aret (r := some q26) hx hb hr (Or.inl ⟨_, rfl⟩) hlk hH dX3_clause_74 ?_
          subst er9
          exact ⟨f25, x28, q26, pf25, rfl, hD28, fun i i0 i1 => absurd i1 (by omega), hE28, hN28⟩
        · -- 49N
          unfold clY at hY
          try dsimp only at hY
          rw [if_pos (show r1.1.2.2 = -1 by assumption), if_neg a_49] at hY
          have er9 := Option.some.inj hY
          refine x_calliF (x_runV (As := [.ref (K.1 22)]) (rest := []) S hH hK (hX.at hH) XRd_b hl.1 hD22.c rfl (xm_X3_acceptN l G M38_ K a σ P τ bo lo x22 (rL σ tn r1.1.1) (rE σ tn r1.1.1) r1.1.2.1 0 0 pf22 22 _ hD22 (by decide) (tok_n hTE b_r1_1.1.1 b_r1_1.1.2 (k := 22) (by decide) (z := 6) rfl a_49) (by omega) (by omega) (by omega) hB8) (lw_V q982 q984 qs24 q108 q985) kd_X3_accept rfl rfl dX3_clause_49 (hR := ⟨by dsimp only [rmX, rmD]; omega, by dsimp only [rmX, rmD]; omega⟩) (hf := ⟨by dsimp only [rmX]; omega, by dsimp only [rmX]; omega⟩)) hH hA (fun H locs hH => ?_)
          refine n_if_eq (tgt := 62) hx hb (r32 (by omega)) dX3_clause_52 (by decide) (fun _ => ?_) (fun h => absurd h (by decide))
          refine lv_null hx hb dX3_clause_62 ?_
          refine lv_astore_nN hx hb dX3_clause_63 rfl hl (Nat.le_of_ble_eq_true rfl) (lv' := [(3, .null), (2, .ref q22), (1, .int (iI w5)), (0, .ref (P 7))]) rfl (fun ls hl => ?_)
          have er1 : r.1 = r1.1 := by rw [← er9]
          have er11 : r.1.1 = r1.1.1 := by rw [er1]
          have er12 : r.1.2.1 = r1.1.2.1 := by rw [er1]
          have hbd9 : bd r.1 = 0 := by rw [er1]; exact bd_f (by assumption)
          refine x_new (ci := 18) hx hb hts in_X21 tyX21 tyX21_ok hown q821 q1120 q134 hK hH hA rfl [.int (iI 0), .null, .null, .long (lI 0)] (fun j hj => by rcases (show j = 0 ∨ j = 1 ∨ j = 2 ∨ j = 3 by omega) with rfl | rfl | rfl | rfl <;> rfl) eN_z18 (by dsimp only [rmX]; omega) (by dsimp only [rmX]; omega) dX3_clause_64 (fun q29 H hq29 hH => ?_)
          obtain ⟨M29, e_M29⟩ : ∃ M29, M29 = hs M38_ q29 (oB 18 [.int (iI 0), .null, .null, .long (lI 0)]) := ⟨_, rfl⟩
          have hH := XV_to hH e_M29.symm
          have f29 : M29 q29 = some (oB 18 [.int (iI 0), .null, .null, .long (lI 0)]) := by rw [e_M29]; exact hs_s
          obtain ⟨x30, hD30, hX30, hw30_q29⟩ := hD22.nw (e := oB 18 [.int (iI 0), .null, .null, .long (lI 0)]) hq29
          rw [← e_M29] at hD30 hX30
          have hno_q29 := Ext.no hE22 hq29
          have hE30 := hE22.tr hX30
          have hT30_q22 := SumAt_up hX30.2.1 hT22
          refine lv_dup hx hb dX3_clause_67 rfl ?_
          refine lv_iload_n hx hb dX3_clause_68 rfl (lv_at hl 2 rfl) ?_
          refine lv_aload_n hx hb dX3_clause_69 rfl (lv_at hl 1 rfl) ?_
          refine lv_aload_nN hx hb dX3_clause_70 rfl (lv_at hl 0 rfl) ?_
          refine x_callv (x_runI (As := [.int (iI w5), .ref q22, .null]) (rest := [.ref q29]) S hH hK (fun _ _ hW => XN.warm hW hXN) XN_b hl.1 (xm_X21_initRN l G M29 q29 w5 q22 _ f29) (lw_meth q1123) q134 q1121 q1122 kd_X21_init rfl rfl dX3_clause_71 (hR := ⟨by dsimp only [rmX, rmD]; omega, by dsimp only [rmX, rmD]; omega⟩) (hf := ⟨by dsimp only [rmX]; omega, by dsimp only [rmX]; omega⟩)) hH hA (fun M71_ H locs q_71 hH hz_71 => ?_)
          obtain ⟨x31, hD31, hE31, hI31, hu31, hO31⟩ := RD.node (e := oB 18 [.int (iI w5), .ref q22, .null, .long (lI 0)]) hD30 hE30 hw30_q29 hno_q29
          rw [← q_71] at hD31 hE31 hO31
          have hT31_q22 := SumAt_up hu31 hT30_q22
          have hN31 : ClauseAt G 200 (gI x31) q29 (rC σ tn u.1, some r1.2, none) := ⟨some q22, none, by rw [show rC σ tn u.1 - 1 = w5 by omega]; exact hI31, ⟨by show 1 ≤ rC σ tn u.1; omega, by show rC σ tn u.1 ≤ 5; omega⟩, Or.inr ⟨q22, r1.2, rfl, rfl, SumAt_mono (by omega) hT31_q22⟩, Or.inl ⟨rfl, rfl⟩⟩
          refine W.widen (k := ((4 * (r.1.1 - u.1)).toNat + 2 * bd r.1)) (n := ((16 * (r.1.1 - u.1)).toNat + 8 * bd r.1)) (by omega) (by omega) ?_
          refine vx_ret ?_
          refine x_aret (r := some q29) hx hb hr (Or.inl ⟨_, rfl⟩) hlk hH dX3_clause_74 ?_
          subst er9
          exact ⟨f22, x31, q29, pf22, rfl, hD31, fun i i0 i1 => absurd i1 (by omega), hE31, hN31⟩
