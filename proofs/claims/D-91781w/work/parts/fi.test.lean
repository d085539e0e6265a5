set_option maxHeartbeats 1000000 in
theorem xp_X3_test (l : Launch) (G : MG) (M : Hp) (K : (Nat → Nat) × (Nat → Nat)) (n : Nat) (a : Nat) (σ : St) (tn : Nat) (P : Nat → Nat) (τ : Int → Int) (bo : Nat) (lo : Int) (x : XGh) (u : PS) (d_ : Int) (p_ : Int) (pf : Int → Option Nat) (r : PS × Mean) (sz : Nat) (IH : VPT l G K yX3_both cX3_both 2 4 n) (hTE : TE σ tn) (hD : RD G M a σ P τ bo lo x (rL σ tn u.1) (rE σ tn u.1) u.2.1 d_ p_ pf) (hB : BS tn u) (hf : u.2.2 = -1) (hd0 : 0 ≤ d_) (hd8 : d_ ≤ 8) (hp0 : 0 ≤ p_) (hpl : p_ ≤ u.2.1) (hKG : ∀ i, i < 21 → G.2.2 (100 + i) = K.1 i) (he : rm (rC σ tn) (rV σ tn) (rL σ tn) (n + 1) 5 d_ u = some r) : vx_Met l yX3_test (ws_ yX3_test cX3_test 2 (some (.object "BrothFlasks$Test"))) (rmX (n + 1 + 12) ((4 * (r.1.1 - u.1)).toNat + 2 * bd r.1) ((16 * (r.1.1 - u.1)).toNat + 8 * bd r.1)) (xP G (XRd K M) [.ref (P 7)] M sz) (xQq G (DA M sz) (fun r' M' => r.1.2.2 = -1 ∧ ∃ (x' : XGh) (q : Nat) (pf' : Int → Option Nat), r' = some q ∧ RD G M' a σ P τ bo lo x' (rL σ tn r.1.1) (rE σ tn r.1.1) r.1.2.1 d_ p_ pf' ∧ (∀ i, 0 ≤ i → i < p_ → pf' i = pf i) ∧ Ext M M' x x' ∧ TestAt G (r.1.2.1 - u.2.1 + 9 - d_).toNat (gI x') q r.2)) (rXc G (DA M sz) (fun pl M' => PXp G a σ P r.1 pl M')) ((4 * (r.1.1 - u.1)).toNat + 2 * bd r.1) ((16 * (r.1.1 - u.1)).toNat + 8 * bd r.1) (DA M sz) := by
  refine r_start (by decide) (Nat.le_of_ble_eq_true rfl) ?_
  intro p e s m below meth c ⟨S, hr, hlk, hH, hK, hX, hsz, hnm⟩ hto ls hl
  have hXN : XN s := hX.1
  subst hsz
  obtain ⟨hx, hb, hml, hown, hts⟩ := S
  have S : CallFix p m c _ _ s _ lw_all RX3 := ⟨hx, hb, hml, hown, hts⟩
  have hA : ∀ q, s.heap.size ≤ q → DA M s.heap.size q := fun q hq => Or.inr hq
  have hl : lv_has ls 2 [(0, .ref (P 7))] := hl
  have hTK := hTE.tk
  have hB8 := hTE.2.2
  have hn4 := hTE.2.1
  have hgo := rm_go hTK (n + 1) 5 d_ u r hB hf he
  have hgo1 := hgo.2.1
  have hgo3 := GoB_bd hgo
  have hbd1 := bd_le r.1
  have b_u := hB
  unfold BS at b_u
  have hr_u := tok_r hTE b_u.1.1 b_u.1.2
  have hL_u : rL σ tn u.1 ≠ -1 := by omega
  have hC_u := (hTK.2.2 u.1 b_u.1.1 b_u.1.2).1.1
  simp only [rm] at he
  have L13 : ∀ (q : Nat) (N1 : Hp) (x1 : XGh) (u1 : PS) (pf1 : Int → Option Nat) (m1 : Int) (f0 : Mean) (fl : List Mean), (hD1 : RD G N1 a σ P τ bo lo x1 (rL σ tn u1.1) (rE σ tn u1.1) u1.2.1 d_ (p_ + m1) pf1) → (hE1 : Ext M N1 x x1) → (hB1 : BS tn u1) → (hf1 : u1.2.2 = -1) → (hpp1 : ∀ i, 0 ≤ i → i < p_ → pf1 i = pf i) → (hPl : PlAt G (u1.2.1 - u.2.1 + 9 - d_ - fl.length).toNat (gI x1) pf1 p_ (f0 :: fl) f0) → (hl1 : lpX (rC σ tn) 7 7 (fun _ => orF) (rm (rC σ tn) (rV σ tn) (rL σ tn) n 4 d_) q u1 (foldF 0 f0 fl) = some r) → (hm1 : m1 = fl.length + 1) → (h1 : u.1 + m1 ≤ u1.1) → (h2 : u.2.1 + m1 ≤ u1.2.1) → ∀ (H : Heap) (locs : List Loc) (ls : Array Slot), XV G (DA M s.heap.size) N1 s.heap H locs → lv_has ls 2 [(0, .ref (P 7)), (1, .int (iI p_))] → W p l e (rmX (n + 1 + 12) ((4 * (r.1.1 - u.1)).toNat + 2 * bd r.1) ((16 * (r.1.1 - u.1)).toNat + 8 * bd r.1)) s m ([.ref (P 7)] : List Value).toArray below meth c H locs ((4 * (u1.1 - u.1 - (m1 - 1))).toNat) ((16 * (u1.1 - u.1 - (m1 - 1))).toNat) (vx_MQ below (xQq G (DA M s.heap.size) (fun r' M' => r.1.2.2 = -1 ∧ ∃ (x' : XGh) (q : Nat) (pf' : Int → Option Nat), r' = some q ∧ RD G M' a σ P τ bo lo x' (rL σ tn r.1.1) (rE σ tn r.1.1) r.1.2.1 d_ p_ pf' ∧ (∀ i, 0 ≤ i → i < p_ → pf' i = pf i) ∧ Ext M M' x x' ∧ TestAt G (r.1.2.1 - u.2.1 + 9 - d_).toNat (gI x') q r.2)) (rXc G (DA M s.heap.size) (fun pl M' => PXp G a σ P r.1 pl M')) ([.ref (P 7)] : List Value).toArray s ((4 * (r.1.1 - u.1)).toNat + 2 * bd r.1) ((16 * (r.1.1 - u.1)).toNat + 8 * bd r.1) (DA M s.heap.size)) (F0 m 13 ls []) := by
    intro q
    induction q with
    | zero => intro N1 x1 u1 pf1 m1 f0 fl hD1 hE1 hB1 hf1 hpp1 hPl hl1 hm1 h1 h2; rw [lpX] at hl1; cases hl1
    | succ q ih_13 =>
      intro N1 x1 u1 pf1 m1 f0 fl hD1 hE1 hB1 hf1 hpp1 hPl hl1 hm1 h1 h2 H locs ls hH hl
      have b_u1 := hB1
      unfold BS at b_u1
      have hr_u1 := tok_r hTE b_u1.1.1 b_u1.1.2
      have hL_u1 : rL σ tn u1.1 ≠ -1 := by omega
      have hC_u1 := (hTK.2.2 u1.1 b_u1.1.1 b_u1.1.2).1.1
      have h50_u1 := b_u1.2.2.2 hf1
      have hgl := (lpX_go hTK (by decide) (by decide) (fun a b => rm_go hTK n 4 d_ a b) _ _ _ _ hB1 hl1).2.1
      rw [lpX] at hl1
      refine lv_aload_n hx hb dX3_test_13 rfl (lv_at hl 0 rfl) ?_
      refine va_ldcS (tx := "or") (q := K.1 23) hx hb hown (hX.2.1 23 (by decide)) dX3_test_14 ?_
      by_cases a_16 : rC σ tn u1.1 = 7
      · -- 16Y
        rw [if_pos (Or.inl ⟨hf1, a_16⟩)] at hl1
        obtain ⟨r2, e3, e4⟩ := Option.bind_eq_some_iff.mp hl1
        refine x_calli (x_runV (As := [.ref (K.1 23)]) (rest := []) S hH hK (hX.at hH) XRd_b hl.1 hD1.c rfl (xm_X3_acceptY l G N1 K a σ P τ bo lo x1 (rL σ tn u1.1) (rE σ tn u1.1) u1.2.1 d_ (p_ + m1) pf1 23 _ hD1 (by decide) (tok_y hTE b_u1.1.1 b_u1.1.2 (k := 23) (by decide) (z := 7) rfl a_16) (by omega) (by omega) (by omega) hB8 (by omega) (by omega) (by omega)) (lw_V q982 q984 qs24 q108 q985) kd_X3_accept rfl rfl dX3_test_16 (hR := ⟨by dsimp only [rmX, rmD]; omega, by dsimp only [rmX, rmD]; omega⟩) (hf := ⟨by dsimp only [rmX]; omega, by dsimp only [rmX]; omega⟩)) hH hA (fun z16 M16_ H locs q_16 hH hz_16 => ?_)
        obtain ⟨ez_16, hD1, hX1⟩ := q_16
        subst ez_16
        have hE1 := hE1.tr hX1
        obtain ⟨v2, ev2⟩ : ∃ v, v = advP u1 := ⟨_, rfl⟩
        have ew2 : v2 = (u1.1 + 1, u1.2.1, u1.2.2) := ev2
        have e1v2 : v2.1 = u1.1 + 1 := by rw [ew2]
        have e2v2 : v2.2.1 = u1.2.1 := by rw [ew2]
        have fv2 : v2.2.2 = -1 := by rw [ew2]; exact hf1
        have hBv2 : BS tn v2 := by rw [ev2]; exact BS_adv hTK hB1 (by omega)
        have b_v2 := hBv2
        unfold BS at b_v2
        have hr_v2 := tok_r hTE b_v2.1.1 b_v2.1.2
        have hL_v2 : rL σ tn v2.1 ≠ -1 := by omega
        have hC_v2 := (hTK.2.2 v2.1 b_v2.1.1 b_v2.1.2).1.1
        have en2 := tok_nx hTE b_u1.1.1 (tok_z hTE b_u1.1.1 b_u1.1.2 (by omega))
        have hDv2 := hD1
        rw [en2.1, en2.2, ← e1v2, ← e2v2] at hDv2
        refine n_if_eq (tgt := 33) hx hb (r32 (by omega)) dX3_test_19 (by decide) (fun h => absurd h (by decide)) (fun _ => ?_)
        refine lv_aload_n hx hb dX3_test_22 rfl (lv_at hl 0 rfl) ?_
        refine lv_aload_n hx hb dX3_test_23 rfl (lv_at hl 0 rfl) ?_
        rw [← ev2] at e3
        have hg3 := rm_go hTK n 4 d_ _ _ hBv2 fv2 e3
        have hg4 := lpX_go hTK (by decide) (by decide) (fun a b => rm_go hTK n 4 d_ a b) _ _ _ _ hg3.1 e4
        have hm3 := hg3.2.1
        have hm4 := hg4.2.1
        have hbx2 : r2.1.2.2 ≠ -1 → r.1 = r2.1 := fun z => lpX_b z _ e4
        have hbd3 := bd_go hbx2
        refine r_callq (r_runV (As := []) (rest := [.ref (P 7)]) S hH hK (hX.at hH) XRd_b hl.1 hDv2.c rfl (IH M16_ a σ tn P τ bo lo x1 v2 d_ (p_ + m1) pf1 r2 _ hTE hDv2 hBv2 fv2 (by omega) (by omega) (by omega) (by omega) hKG e3) (lw_V q1043 q1045 qs28 q108 q1046) kd_X3_both rfl rfl dX3_test_24 (hR := ⟨by dsimp only [rmX, rmD]; omega, by dsimp only [rmX, rmD]; omega⟩) (hf := ⟨by dsimp only [rmX]; omega, by dsimp only [rmX]; omega⟩)) hH hA (fun q9_24 pl_24 M9_24 H locs hT_24 => r_out hto hlk hT_24 (sub_px hbx2 hT_24.1) (by omega) (by omega)) (fun r9_24 M24_ H locs q_24 hH hz_24 => ?_)
        obtain ⟨f3, x3, q3, pf3, er3, hD3, hp3, hX3, hT3⟩ := q_24
        subst er3
        have hb3 := bd_f f3
        have hE3 := hE1.tr hX3
        have hT3_pl := PlAt_up hX3.2.1 hPl
        have hBB3 := hg3.1
        have b_r2_1 := hBB3
        unfold BS at b_r2_1
        have hr_r2_1 := tok_r hTE b_r2_1.1.1 b_r2_1.1.2
        have hL_r2_1 : rL σ tn r2.1.1 ≠ -1 := by omega
        have hC_r2_1 := (hTK.2.2 r2.1.1 b_r2_1.1.1 b_r2_1.1.2).1.1
        have h50_r2_1 := b_r2_1.2.2.2 f3
        have hG3 := PlAt_cg hT3_pl (by omega) (by show p_ + ((fl.length + 1 : Nat) : Int) ≤ _; omega) hp3
        have hlf := (hg3.2.2 (by assumption)).2
        refine x_callv (x_runV (As := [.ref q3]) (rest := []) S hH hK (hX.at hH) XRd_b hl.1 hD3.c rfl (xm_X3_add l G M24_ K a σ P τ bo lo x3 (rL σ tn r2.1.1) (rE σ tn r2.1.1) r2.1.2.1 d_ (p_ + m1) pf3 q3 _ hD3 (by omega) (by omega) (TestAt_cl hT3)) (lw_V q1096 q1098 qs30 q108 q1099) kd_X3_add rfl rfl dX3_test_27 (hR := ⟨by dsimp only [rmX, rmD]; omega, by dsimp only [rmX, rmD]; omega⟩) (hf := ⟨by dsimp only [rmX]; omega, by dsimp only [rmX]; omega⟩)) hH hA (fun M27_ H locs q_27 hH hz_27 => ?_)
        obtain ⟨hD4, hX4⟩ := q_27
        have hE4 := hE3.tr hX4
        refine lv_goto (tgt := 13) hx hb dX3_test_30 (by decide) ?_
        have hl : lv_has ls 2 [(0, .ref (P 7)), (1, .int (iI p_))] := lv_sub hl [0, 1] rfl
        refine W.widen (k := (4 * (r2.1.1 - u.1 - ((m1 + 1) - 1))).toNat) (n := (16 * (r2.1.1 - u.1 - ((m1 + 1) - 1))).toNat) (by omega) (by omega) ?_
        refine ih_13 M27_ x3 r2.1 (upq pf3 (p_ + m1) (some q3)) (m1 + 1) f0 (fl ++ [r2.2]) ?_ ?_ ?_ ?_ ?_ ?_ ?_ ?_ ?_ ?_ _ _ _ hH hl
        · rw [show p_ + (m1 + 1) = p_ + m1 + 1 by omega]
          exact hD4
        · exact hE4
        · exact hBB3
        · exact f3
        · exact fun i i0 i1 => (upq_n (by omega)).trans ((hp3 i i0 (by omega)).trans ((hpp1 i i0 (by omega))))
        · refine PlAt_push (L := f0 :: fl) (n := (r2.1.2.1 - u.2.1 + 9 - d_ - (fl ++ [r2.2]).length).toNat) (fun j hj => by
              obtain ⟨y9, g9, g8⟩ := hG3 j hj
              exact ⟨y9, g9, TestAt_mono (by rw [List.length_append]; show _ ≤ (r2.1.2.1 - u.2.1 + 9 - d_ - ((fl.length + 1 : Nat) : Int)).toNat; omega) g8⟩) (Nat.le_refl _) (by show p_ + ((fl.length + 1 : Nat) : Int) = _; omega) (TestAt_mono (by rw [List.length_append]; show _ ≤ (r2.1.2.1 - u.2.1 + 9 - d_ - ((fl.length + 1 : Nat) : Int)).toNat; omega) hT3)
        · rw [foldF_ap, if_pos (by decide)]
          exact e4
        · rw [List.length_append]
          show _ = ((fl.length + 1 : Nat) : Int) + 1
          omega
        · omega
        · omega
      · -- 16N
        rw [if_neg (fun z => z.elim (fun y => a_16 y.2) (fun y => a_16 y.2))] at hl1
        have er9 := Option.some.inj hl1
        have er1 : r.1 = u1 := by rw [← er9]
        have er11 : r.1.1 = u1.1 := by rw [er1]
        have er12 : r.1.2.1 = u1.2.1 := by rw [er1]
        have hbd9 : bd r.1 = 0 := by rw [er1]; exact bd_f hf1
        refine x_calliF (x_runV (As := [.ref (K.1 23)]) (rest := []) S hH hK (hX.at hH) XRd_b hl.1 hD1.c rfl (xm_X3_acceptN l G N1 K a σ P τ bo lo x1 (rL σ tn u1.1) (rE σ tn u1.1) u1.2.1 d_ (p_ + m1) pf1 23 _ hD1 (by decide) (tok_n hTE b_u1.1.1 b_u1.1.2 (k := 23) (by decide) (z := 7) rfl a_16) (by omega) (by omega) (by omega) hB8) (lw_V q982 q984 qs24 q108 q985) kd_X3_accept rfl rfl dX3_test_16 (hR := ⟨by dsimp only [rmX, rmD]; omega, by dsimp only [rmX, rmD]; omega⟩) (hf := ⟨by dsimp only [rmX]; omega, by dsimp only [rmX]; omega⟩)) hH hA (fun H locs hH => ?_)
        refine n_if_eq (tgt := 33) hx hb (r32 (by omega)) dX3_test_19 (by decide) (fun _ => ?_) (fun h => absurd h (by decide))
        refine lv_aload_n hx hb dX3_test_33 rfl (lv_at hl 0 rfl) ?_
        refine n_iconst hx hb dX3_test_34 ?_
        refine lv_iload_n hx hb dX3_test_35 rfl (lv_at hl 1 rfl) ?_
        obtain ⟨q0_, hq0, hT0⟩ := hPl 0 (Nat.zero_lt_succ _)
        rw [show p_ + ((0 : Nat) : Int) = p_ by omega] at hq0
        by_cases a_36 : m1 = 1
        · -- 36Y
          obtain rfl : fl = [] := List.length_eq_zero_iff.mp (by omega)
          refine x_callq (x_runV (As := [.int (iI 0), .int (iI p_)]) (rest := []) S hH hK (hX.at hH) XRd_b hl.1 hD1.c rfl (xm_X3_row1 l G N1 K a σ P τ bo lo x1 (rL σ tn u1.1) (rE σ tn u1.1) u1.2.1 d_ (p_ + m1) pf1 q0_ 0 p_ _ hD1 (by omega) (by omega) (by omega) hq0) (lw_V q1101 q1103 qs31 q108 q1104) kd_X3_row rfl rfl dX3_test_36 (hR := ⟨by dsimp only [rmX, rmD]; omega, by dsimp only [rmX, rmD]; omega⟩) (hf := ⟨by dsimp only [rmX]; omega, by dsimp only [rmX]; omega⟩)) hH hA (fun r36 M36_ H locs q_36 hH hz_36 => ?_)
          obtain ⟨er5, hD5, hX5⟩ := q_36
          subst er5
          have hE5 := hE1.tr hX5
          refine W.widen (k := ((4 * (r.1.1 - u.1)).toNat + 2 * bd r.1)) (n := ((16 * (r.1.1 - u.1)).toNat + 8 * bd r.1)) (by omega) (by omega) ?_
          refine vx_ret ?_
          refine x_aret (r := some q0_) hx hb hr (Or.inl ⟨_, rfl⟩) hlk hH dX3_test_39 ?_
          subst er9
          exact ⟨hf1, x1, q0_, pf1, rfl, hD5, fun i i0 i1 => (hpp1 i i0 (by omega)), hE5, (TestAt_mono (by first | omega | (dsimp only; omega)) hT0)⟩
        · -- 36N
          refine x_callq (x_runV (As := [.int (iI 0), .int (iI p_)]) (rest := []) S hH hK (hX.at hH) XRd_b hl.1 hD1.c rfl (xm_X3_row2 l G N1 K a σ P τ bo lo x1 (rL σ tn u1.1) (rE σ tn u1.1) u1.2.1 d_ (p_ + m1) pf1 m1 q0_ 0 p_ _ hD1 (by decide) (by omega) (by omega) (by omega) (by omega) hq0 (PlAt_cl hPl (by show m1 = ((fl.length + 1 : Nat) : Int); omega))) (lw_V q1101 q1103 qs31 q108 q1104) kd_X3_row rfl rfl dX3_test_36 (hR := ⟨by dsimp only [rmX, rmD]; omega, by dsimp only [rmX, rmD]; omega⟩) (hf := ⟨by dsimp only [rmX]; omega, by dsimp only [rmX]; omega⟩)) hH hA (fun r36 M36_ H locs q_36 hH hz_36 => ?_)
          obtain ⟨x6, q6, ar6, er6, hD6, hX6, hI6, hJ6⟩ := q_36
          subst er6
          have hE6 := hE1.tr hX6
          have hT6_pl := PlAt_up hX6.2.1 hPl
          have hN6 : TestAt G (u1.2.1 - u.2.1 + 9 - d_).toNat (gI x6) q6 (foldF 0 f0 fl) := PlAt_row hT6_pl hm1 (by omega) (by decide) hI6 hJ6 (by omega)
          refine W.widen (k := ((4 * (r.1.1 - u.1)).toNat + 2 * bd r.1)) (n := ((16 * (r.1.1 - u.1)).toNat + 8 * bd r.1)) (by omega) (by omega) ?_
          refine vx_ret ?_
          refine x_aret (r := some q6) hx hb hr (Or.inl ⟨_, rfl⟩) hlk hH dX3_test_39 ?_
          subst er9
          exact ⟨hf1, x6, q6, pf1, rfl, hD6, fun i i0 i1 => (hpp1 i i0 (by omega)), hE6, (TestAt_mono (by first | omega | (dsimp only; omega)) hN6)⟩
  obtain ⟨r1, e1, e2⟩ := Option.bind_eq_some_iff.mp he
  have hg1 := rm_go hTK n 4 d_ _ _ hB hf e1
  have hg2 := lpX_go hTK (by decide) (by decide) (fun a b => rm_go hTK n 4 d_ a b) _ _ _ _ hg1.1 e2
  have hm1 := hg1.2.1
  have hm2 := hg2.2.1
  have hbx : r1.1.2.2 ≠ -1 → r.1 = r1.1 := fun z => lpX_b z _ e2
  have hbd2 := bd_go hbx
  refine lv_aload_n hx hb dX3_test_0 rfl (lv_at hl 0 rfl) ?_
  refine x_get hx hb hts in_X3 hown hK hH hD.c rfl 4 (by decide) q311 (fun _ h9 => h9) rfl (by decide) dX3_test_1 ?_
  refine lv_istore_n hx hb dX3_test_4 rfl hl (Nat.le_of_ble_eq_true rfl) (lv' := [(1, .int (iI p_)), (0, .ref (P 7))]) rfl (fun ls hl => ?_)
  refine lv_aload_n hx hb dX3_test_5 rfl (lv_at hl 1 rfl) ?_
  refine lv_aload_n hx hb dX3_test_6 rfl (lv_at hl 1 rfl) ?_
  refine r_callq (r_runV (As := []) (rest := [.ref (P 7)]) S hH hK (hX.at hH) XRd_b hl.1 hD.c rfl (IH M a σ tn P τ bo lo x u d_ p_ pf r1 _ hTE hD hB hf (by omega) (by omega) (by omega) (by omega) hKG e1) (lw_V q1043 q1045 qs28 q108 q1046) kd_X3_both rfl rfl dX3_test_7 (hR := ⟨by dsimp only [rmX, rmD]; omega, by dsimp only [rmX, rmD]; omega⟩) (hf := ⟨by dsimp only [rmX]; omega, by dsimp only [rmX]; omega⟩)) hH hA (fun q9_7 pl_7 M9_7 H locs hT_7 => r_out hto hlk hT_7 (sub_px hbx hT_7.1) (by omega) (by omega)) (fun r9_7 M7_ H locs q_7 hH hz_7 => ?_)
  obtain ⟨f7, x7, q7, pf7, er7, hD7, hp7, hX7, hT7⟩ := q_7
  subst er7
  have hb7 := bd_f f7
  have hBB7 := hg1.1
  have b_r1_1 := hBB7
  unfold BS at b_r1_1
  have hr_r1_1 := tok_r hTE b_r1_1.1.1 b_r1_1.1.2
  have hL_r1_1 : rL σ tn r1.1.1 ≠ -1 := by omega
  have hC_r1_1 := (hTK.2.2 r1.1.1 b_r1_1.1.1 b_r1_1.1.2).1.1
  have h50_r1_1 := b_r1_1.2.2.2 f7
  have hlf := (hg1.2.2 (by assumption)).2
  refine x_callv (x_runV (As := [.ref q7]) (rest := []) S hH hK (hX.at hH) XRd_b hl.1 hD7.c rfl (xm_X3_add l G M7_ K a σ P τ bo lo x7 (rL σ tn r1.1.1) (rE σ tn r1.1.1) r1.1.2.1 d_ p_ pf7 q7 _ hD7 (by omega) (by omega) (TestAt_cl hT7)) (lw_V q1096 q1098 qs30 q108 q1099) kd_X3_add rfl rfl dX3_test_10 (hR := ⟨by dsimp only [rmX, rmD]; omega, by dsimp only [rmX, rmD]; omega⟩) (hf := ⟨by dsimp only [rmX]; omega, by dsimp only [rmX]; omega⟩)) hH hA (fun M10_ H locs q_10 hH hz_10 => ?_)
  obtain ⟨hD8, hX8⟩ := q_10
  have hE8 := hX7.tr hX8
  have hl : lv_has ls 2 [(0, .ref (P 7)), (1, .int (iI p_))] := lv_sub hl [1, 0] rfl
  refine W.widen (k := (4 * (r1.1.1 - u.1 - (1 - 1))).toNat) (n := (16 * (r1.1.1 - u.1 - (1 - 1))).toNat) (by omega) (by omega) ?_
  refine L13 402 M10_ x7 r1.1 (upq pf7 p_ (some q7)) 1 r1.2 ([] : List Mean) ?_ ?_ ?_ ?_ ?_ ?_ ?_ ?_ ?_ ?_ _ _ _ hH hl
  · exact hD8
  · exact hE8
  · exact hBB7
  · exact f7
  · exact fun i i0 i1 => (upq_n (by omega)).trans ((hp7 i i0 (by omega)))
  · exact PlAt_1 (TestAt_mono (by show _ ≤ (r1.1.2.1 - u.2.1 + 9 - d_ - ((0 : Nat) : Int)).toNat; omega) hT7)
  · exact e2
  · rfl
  · omega
  · omega
