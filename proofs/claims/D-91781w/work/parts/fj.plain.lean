set_option maxHeartbeats 2000000 in
theorem xp_X3_plain (l : Launch) (G : MG) (M : Hp) (K : (Nat → Nat) × (Nat → Nat)) (n : Nat) (a : Nat) (σ : St) (tn : Nat) (P : Nat → Nat) (τ : Int → Int) (bo : Nat) (lo : Int) (x : XGh) (u : PS) (d_ : Int) (p_ : Int) (pf : Int → Option Nat) (r : PS × Mean) (sz : Nat) (IHT : VPT l G K yX3_test cX3_test 2 5 n) (IHS : VPS l G K yX3_sum cX3_sum 3 2 n) (hTE : TE σ tn) (hD : RD G M a σ P τ bo lo x (rL σ tn u.1) (rE σ tn u.1) u.2.1 d_ p_ pf) (hB : BS tn u) (hf : u.2.2 = -1) (hd0 : 0 ≤ d_) (hd8 : d_ ≤ 8) (hp0 : 0 ≤ p_) (hpl : p_ ≤ u.2.1) (hKG : ∀ i, i < 21 → G.2.2 (100 + i) = K.1 i) (he : rm (rC σ tn) (rV σ tn) (rL σ tn) (n + 1) 3 d_ u = some r) : vx_Met l yX3_plain (ws_ yX3_plain cX3_plain 6 (some (.object "BrothFlasks$Test"))) (rmX (n + 1 + 12) ((4 * (r.1.1 - u.1)).toNat + 2 * bd r.1) ((16 * (r.1.1 - u.1)).toNat + 8 * bd r.1)) (xP G (XRd K M) [.ref (P 7)] M sz) (xQq G (DA M sz) (fun r' M' => r.1.2.2 = -1 ∧ ∃ (x' : XGh) (q : Nat) (pf' : Int → Option Nat), r' = some q ∧ RD G M' a σ P τ bo lo x' (rL σ tn r.1.1) (rE σ tn r.1.1) r.1.2.1 d_ p_ pf' ∧ (∀ i, 0 ≤ i → i < p_ → pf' i = pf i) ∧ Ext M M' x x' ∧ TestAt G (r.1.2.1 - u.2.1 + 9 - d_).toNat (gI x') q r.2)) (rXc G (DA M sz) (fun pl M' => PXp G a σ P r.1 pl M')) ((4 * (r.1.1 - u.1)).toNat + 2 * bd r.1) ((16 * (r.1.1 - u.1)).toNat + 8 * bd r.1) (DA M sz) := by
  refine r_start (by decide) (Nat.le_of_ble_eq_true rfl) ?_
  intro p e s m below meth c ⟨S, hr, hlk, hH, hK, hX, hsz, hnm⟩ hto ls hl
  have hXN : XN s := hX.1
  subst hsz
  obtain ⟨hx, hb, hml, hown, hts⟩ := S
  have S : CallFix p m c _ _ s _ lw_all RX3 := ⟨hx, hb, hml, hown, hts⟩
  have hA : ∀ q, s.heap.size ≤ q → DA M s.heap.size q := fun q hq => Or.inr hq
  have hl : lv_has ls 6 [(0, .ref (P 7))] := hl
  have hTK := hTE.tk
  have hB8 := hTE.2.2
  have hn4 := hTE.2.1
  have hgo := rm_go hTK (n + 1) 3 d_ u r hB hf he
  have hgo1 := hgo.2.1
  have hgo3 := GoB_bd hgo
  have hbd1 := bd_le r.1
  have b_u := hB
  unfold BS at b_u
  have hr_u := tok_r hTE b_u.1.1 b_u.1.2
  have hL_u : rL σ tn u.1 ≠ -1 := by omega
  have hC_u := (hTK.2.2 u.1 b_u.1.1 b_u.1.2).1.1
  simp only [rm] at he
  obtain ⟨z_, ez, er0⟩ := Option.bind_eq_some_iff.mp he
  obtain ⟨r3, e3, er9⟩ := Option.map_eq_some_iff.mp er0
  have L2 : ∀ (q : Nat) (N1 : Hp) (u1 : PS) (no : Int), (hD1 : RD G N1 a σ P τ bo lo x (rL σ tn u1.1) (rE σ tn u1.1) u1.2.1 d_ p_ pf) → (hE1 : Ext M N1 x x) → (hB1 : BS tn u1) → (hf1 : u1.2.2 = -1) → (hn1 : ntX (rC σ tn) q no u1 = some z_) → (hno : no = 0 ∨ no = 1) → (h1 : u.1 ≤ u1.1) → (h2 : u1.2.1 = u.2.1) → (h3 : no = 1 → u.1 + 1 ≤ u1.1) → ∀ (H : Heap) (locs : List Loc) (ls : Array Slot), XV G (DA M s.heap.size) N1 s.heap H locs → lv_has ls 6 [(0, .ref (P 7)), (1, .int (iI no))] → W p l e (rmX (n + 1 + 12) ((4 * (r.1.1 - u.1)).toNat + 2 * bd r.1) ((16 * (r.1.1 - u.1)).toNat + 8 * bd r.1)) s m ([.ref (P 7)] : List Value).toArray below meth c H locs 0 0 (vx_MQ below (xQq G (DA M s.heap.size) (fun r' M' => r.1.2.2 = -1 ∧ ∃ (x' : XGh) (q : Nat) (pf' : Int → Option Nat), r' = some q ∧ RD G M' a σ P τ bo lo x' (rL σ tn r.1.1) (rE σ tn r.1.1) r.1.2.1 d_ p_ pf' ∧ (∀ i, 0 ≤ i → i < p_ → pf' i = pf i) ∧ Ext M M' x x' ∧ TestAt G (r.1.2.1 - u.2.1 + 9 - d_).toNat (gI x') q r.2)) (rXc G (DA M s.heap.size) (fun pl M' => PXp G a σ P r.1 pl M')) ([.ref (P 7)] : List Value).toArray s ((4 * (r.1.1 - u.1)).toNat + 2 * bd r.1) ((16 * (r.1.1 - u.1)).toNat + 8 * bd r.1) (DA M s.heap.size)) (F0 m 2 ls []) := by
    intro q
    induction q with
    | zero => intro N1 u1 no hD1 hE1 hB1 hf1 hn1 hno h1 h2 h3; rw [ntX] at hn1; cases hn1
    | succ q ih_2 =>
      intro N1 u1 no hD1 hE1 hB1 hf1 hn1 hno h1 h2 h3 H locs ls hH hl
      have b_u1 := hB1
      unfold BS at b_u1
      have hr_u1 := tok_r hTE b_u1.1.1 b_u1.1.2
      have hL_u1 : rL σ tn u1.1 ≠ -1 := by omega
      have hC_u1 := (hTK.2.2 u1.1 b_u1.1.1 b_u1.1.2).1.1
      have h50_u1 := b_u1.2.2.2 hf1
      rw [ntX] at hn1
      refine lv_aload_n hx hb dX3_plain_2 rfl (lv_at hl 0 rfl) ?_
      refine va_ldcS (tx := "not") (q := K.1 25) hx hb hown (hX.2.1 25 (by decide)) dX3_plain_3 ?_
      by_cases a_5 : rC σ tn u1.1 = 9
      · -- 5Y
        rw [if_pos ⟨hf1, a_5⟩] at hn1
        refine x_calli (x_runV (As := [.ref (K.1 25)]) (rest := []) S hH hK (hX.at hH) XRd_b hl.1 hD1.c rfl (xm_X3_acceptY l G N1 K a σ P τ bo lo x (rL σ tn u1.1) (rE σ tn u1.1) u1.2.1 d_ p_ pf 25 _ hD1 (by decide) (tok_y hTE b_u1.1.1 b_u1.1.2 (k := 25) (by decide) (z := 9) rfl a_5) (by omega) (by omega) (by omega) hB8 (by omega) (by omega) (by omega)) (lw_V q982 q984 qs24 q108 q985) kd_X3_accept rfl rfl dX3_plain_5 (hR := ⟨by dsimp only [rmX, rmD]; omega, by dsimp only [rmX, rmD]; omega⟩) (hf := ⟨by dsimp only [rmX]; omega, by dsimp only [rmX]; omega⟩)) hH hA (fun z5 M5_ H locs q_5 hH hz_5 => ?_)
        obtain ⟨ez_5, hD1, hX1⟩ := q_5
        subst ez_5
        have hE1 := hE1.tr hX1
        obtain ⟨v2, ev2⟩ : ∃ v, v = advP u1 := ⟨_, rfl⟩
        have ew2 : v2 = (u1.1 + 1, u1.2.1, u1.2.2) := ev2
        have e1v2 : v2.1 = u1.1 + 1 := by rw [ew2]
        have e2v2 : v2.2.1 = u1.2.1 := by rw [ew2]
        have fv2 : v2.2.2 = -1 := by rw [ew2]; exact hf1
        have hBv2 : BS tn v2 := by rw [ev2]; exact BS_adv hTK hB1 (by omega)
        have b_v2 := hBv2
        unfold BS at b_v2
        have hr_v2 := tok_r hTE b_v2.1.1 b_v2.1.2
        have hL_v2 : rL σ tn v2.1 ≠ -1 := by omega
        have hC_v2 := (hTK.2.2 v2.1 b_v2.1.1 b_v2.1.2).1.1
        have en2 := tok_nx hTE b_u1.1.1 (tok_z hTE b_u1.1.1 b_u1.1.2 (by omega))
        have hDv2 := hD1
        rw [en2.1, en2.2, ← e1v2, ← e2v2] at hDv2
        refine n_if_eq (tgt := 24) hx hb (r32 (by omega)) dX3_plain_8 (by decide) (fun h => absurd h (by decide)) (fun _ => ?_)
        refine lv_iload_n hx hb dX3_plain_11 rfl (lv_at hl 1 rfl) ?_
        refine n_if_ne (tgt := 19) hx hb (r32 (by omega)) dX3_plain_12 (by decide) (fun c_12 => ?_) (fun c_12 => ?_)
        · -- 12T
          refine n_iconst hx hb dX3_plain_19 ?_
          refine lv_istore_n hx hb dX3_plain_20 rfl hl (Nat.le_of_ble_eq_true rfl) (lv' := [(1, .int (iI 0)), (0, .ref (P 7))]) rfl (fun ls hl => ?_)
          refine lv_goto (tgt := 2) hx hb dX3_plain_21 (by decide) ?_
          have hl : lv_has ls 6 [(0, .ref (P 7)), (1, .int (iI 0))] := lv_sub hl [1, 0] rfl
          refine ih_2 M5_ v2 0 ?_ ?_ ?_ ?_ ?_ ?_ ?_ ?_ ?_ _ _ _ hH hl
          · exact hDv2
          · exact hE1
          · exact hBv2
          · exact fv2
          · first | (rw [if_neg c_12, ← ev2] at hn1; exact hn1) | (rw [if_pos c_12, ← ev2] at hn1; exact hn1)
          · omega
          · omega
          · omega
          · omega
        · -- 12F
          refine n_iconst hx hb dX3_plain_15 ?_
          refine lv_goto (tgt := 20) hx hb dX3_plain_16 (by decide) ?_
          refine lv_istore_n hx hb dX3_plain_20 rfl hl (Nat.le_of_ble_eq_true rfl) (lv' := [(1, .int (iI 1)), (0, .ref (P 7))]) rfl (fun ls hl => ?_)
          refine lv_goto (tgt := 2) hx hb dX3_plain_21 (by decide) ?_
          have hl : lv_has ls 6 [(0, .ref (P 7)), (1, .int (iI 1))] := lv_sub hl [1, 0] rfl
          refine ih_2 M5_ v2 1 ?_ ?_ ?_ ?_ ?_ ?_ ?_ ?_ ?_ _ _ _ hH hl
          · exact hDv2
          · exact hE1
          · exact hBv2
          · exact fv2
          · first | (rw [if_neg c_12, ← ev2] at hn1; exact hn1) | (rw [if_pos c_12, ← ev2] at hn1; exact hn1)
          · omega
          · omega
          · omega
          · omega
      · -- 5N
        rw [if_neg (fun w => a_5 w.2)] at hn1
        have hz : z_ = (no, u1) := (Option.some.inj hn1).symm
        rw [hz] at e3 er9
        dsimp only at e3 er9
        have er2 : r.1 = r3.1 := by rw [← er9]
        refine x_calliF (x_runV (As := [.ref (K.1 25)]) (rest := []) S hH hK (hX.at hH) XRd_b hl.1 hD1.c rfl (xm_X3_acceptN l G N1 K a σ P τ bo lo x (rL σ tn u1.1) (rE σ tn u1.1) u1.2.1 d_ p_ pf 25 _ hD1 (by decide) (tok_n hTE b_u1.1.1 b_u1.1.2 (k := 25) (by decide) (z := 9) rfl a_5) (by omega) (by omega) (by omega) hB8) (lw_V q982 q984 qs24 q108 q985) kd_X3_accept rfl rfl dX3_plain_5 (hR := ⟨by dsimp only [rmX, rmD]; omega, by dsimp only [rmX, rmD]; omega⟩) (hf := ⟨by dsimp only [rmX]; omega, by dsimp only [rmX]; omega⟩)) hH hA (fun H locs hH => ?_)
        refine n_if_eq (tgt := 24) hx hb (r32 (by omega)) dX3_plain_8 (by decide) (fun _ => ?_) (fun h => absurd h (by decide))
        refine lv_aload_n hx hb dX3_plain_24 rfl (lv_at hl 0 rfl) ?_
        refine lv_aload_n hx hb dX3_plain_25 rfl (lv_at hl 0 rfl) ?_
        refine x_get hx hb hts in_X3 hown hK hH hD1.c rfl 7 (by decide) q314 (fun _ h9 => h9) rfl (by decide) dX3_plain_26 ?_
        refine x_calliF (x_runV (As := [.ref (P 26)]) (rest := []) S hH hK (hX.at hH) XRd_b hl.1 hD1.c rfl (xm_X3_which l G N1 K a σ P τ bo lo x (rL σ tn u1.1) (rE σ tn u1.1) u1.2.1 d_ p_ pf 26 9 7 _ hD1 hD1.w26 (by decide) hKG (by omega) (by omega) (by omega) hB8) (lw_V q904 q906 qs17 q108 q907) kd_X3_which rfl rfl dX3_plain_29 (hR := ⟨by dsimp only [rmX, rmD]; omega, by dsimp only [rmX, rmD]; omega⟩) (hf := ⟨by dsimp only [rmX]; omega, by dsimp only [rmX]; omega⟩)) hH hA (fun H locs hH => ?_)
        refine n_name (fun w29 e_w29 => ?_)
        rw [wh_f hTE b_u1.1.1 b_u1.1.2] at e_w29
        have h_w29 : (10 ≤ rC σ tn u1.1 ∧ rC σ tn u1.1 ≤ 16 ∧ w29 = rC σ tn u1.1 - 10) ∨ (¬ (10 ≤ rC σ tn u1.1 ∧ rC σ tn u1.1 ≤ 16) ∧ w29 = -1) := by (repeat' split at e_w29) <;> omega
        clear e_w29
        refine lv_istore_n hx hb dX3_plain_32 rfl hl (Nat.le_of_ble_eq_true rfl) (lv' := [(3, .int (iI w29)), (0, .ref (P 7)), (1, .int (iI no))]) rfl (fun ls hl => ?_)
        refine lv_aload_n hx hb dX3_plain_33 rfl (lv_at hl 1 rfl) ?_
        refine va_ldcS (tx := "(") (q := K.1 26) hx hb hown (hX.2.1 26 (by decide)) dX3_plain_34 ?_
        refine x_calliF (x_runV (As := [.ref (K.1 26)]) (rest := []) S hH hK (hX.at hH) XRd_b hl.1 hD1.c rfl (xm_X3_isWord l G N1 K a σ P τ bo lo x (rL σ tn u1.1) (rE σ tn u1.1) u1.2.1 d_ p_ pf 26 _ hD1 (by decide) (by omega) (by omega) (by omega) hB8) (lw_V q908 q910 qs18 q108 q911) kd_X3_isWord rfl rfl dX3_plain_36 (hR := ⟨by dsimp only [rmX, rmD]; omega, by dsimp only [rmX, rmD]; omega⟩) (hf := ⟨by dsimp only [rmX]; omega, by dsimp only [rmX]; omega⟩)) hH hA (fun H locs hH => ?_)
        refine W.eq (g2 := F0 m 39 ls (.int (iI (zb (rC σ tn u1.1 = 140))) :: [])) (by rw [tok_zb hTE b_u1.1.1 b_u1.1.2 (k := 26) (by decide) (z := 140) rfl]) ?_
        refine z_if_eq (tgt := 60) hx hb dX3_plain_39 (by decide) (fun c_39 => ?_) (fun c_39 => ?_)
        · -- 39T
          rw [if_neg c_39] at e3
          refine lv_iload_n hx hb dX3_plain_60 rfl (lv_at hl 0 rfl) ?_
          refine n_iconst hx hb dX3_plain_61 ?_
          refine n_icmp_eq (tgt := 85) hx hb (r32 (by omega)) (r32 (by omega)) dX3_plain_62 (by decide) (fun c_62 => ?_) (fun c_62 => ?_)
          · -- 62T
            rw [if_neg (by omega)] at e3
            obtain ⟨r5, e5, e6⟩ := Option.bind_eq_some_iff.mp e3
            refine lv_aload_n hx hb dX3_plain_85 rfl (lv_at hl 1 rfl) ?_
            have hg5 := rm_go hTK n 2 _ _ _ hB1 hf1 e5
            have hbx : r5.1.2.2 ≠ -1 → r.1 = r5.1 := fun z => er2.trans (cpX_b e6 z)
            have hbd2 := bd_go hbx
            have hm1 := cpX_go hTK hg5.1 e6
            have hm2 := hg5.2.1
            rw [← er2] at hm1
            refine r_callq (r_runV (As := []) (rest := []) S hH hK (hX.at hH) XRd_b hl.1 hD1.c rfl (IHS N1 a σ tn P τ bo lo x u1 d_ p_ pf r5 _ hTE hD1 hB1 hf1 (by omega) (by omega) (by omega) (by omega) hKG e5) (lw_V q960 q962 qs19 q108 q963) kd_X3_sum rfl rfl dX3_plain_86 (hR := ⟨by dsimp only [rmX, rmD]; omega, by dsimp only [rmX, rmD]; omega⟩) (hf := ⟨by dsimp only [rmX]; omega, by dsimp only [rmX]; omega⟩)) hH hA (fun q9_86 pl_86 M9_86 H locs hT_86 => r_out hto hlk hT_86 (sub_px hbx hT_86.1) (by omega) (by omega)) (fun r9_86 M86_ H locs q_86 hH hz_86 => ?_)
            obtain ⟨f3, x3, q3, pf3, er3, hD3, hp3, hX3, hT3⟩ := q_86
            subst er3
            have hb3 := bd_f f3
            have hE3 := hE1.tr hX3
            have hBB3 := hg5.1
            have b_r5_1 := hBB3
            unfold BS at b_r5_1
            have hr_r5_1 := tok_r hTE b_r5_1.1.1 b_r5_1.1.2
            have hL_r5_1 : rL σ tn r5.1.1 ≠ -1 := by omega
            have hC_r5_1 := (hTK.2.2 r5.1.1 b_r5_1.1.1 b_r5_1.1.2).1.1
            have h50_r5_1 := b_r5_1.2.2.2 f3
            have hlf := hg5.2.2 (by assumption)
            refine lv_astore hx hb dX3_plain_89 hl (Nat.le_of_ble_eq_true rfl) (lv' := [(4, .ref q3), (3, .int (iI w29)), (0, .ref (P 7)), (1, .int (iI no))]) rfl (fun ls hl => ?_)
            refine lv_aload_n hx hb dX3_plain_91 rfl (lv_at hl 2 rfl) ?_
            refine lv_aload_n hx hb dX3_plain_92 rfl (lv_at hl 2 rfl) ?_
            refine va_ldcS (tx := "<") (q := K.1 28) hx hb hown (hX.2.1 28 (by decide)) dX3_plain_93 ?_
            refine x_calliF (x_runV (As := [.ref (K.1 28)]) (rest := [.ref (P 7)]) S hH hK (hX.at hH) XRd_b hl.1 hD3.c rfl (xm_X3_isWord l G M86_ K a σ P τ bo lo x3 (rL σ tn r5.1.1) (rE σ tn r5.1.1) r5.1.2.1 d_ p_ pf3 28 _ hD3 (by decide) (by omega) (by omega) (by omega) hB8) (lw_V q908 q910 qs18 q108 q911) kd_X3_isWord rfl rfl dX3_plain_95 (hR := ⟨by dsimp only [rmX, rmD]; omega, by dsimp only [rmX, rmD]; omega⟩) (hf := ⟨by dsimp only [rmX]; omega, by dsimp only [rmX]; omega⟩)) hH hA (fun H locs hH => ?_)
            refine W.eq (g2 := F0 m 98 ls (.int (iI (zb (rC σ tn r5.1.1 = 160))) :: .ref (P 7) :: [])) (by rw [tok_zb hTE b_r5_1.1.1 b_r5_1.1.2 (k := 28) (by decide) (z := 160) rfl]) ?_
            refine z_if_ne (tgt := 119) hx hb dX3_plain_98 (by decide) (fun c_98 => ?_) (fun c_98 => ?_)
            · -- 98T
              have htsg := tok_s hTE b_r5_1.1.1 b_r5_1.1.2 (by omega)
              have e8 := e6
              unfold cpX at e8
              rw [if_pos (show r5.1.2.2 = -1 by assumption), if_pos (by omega)] at e8
              obtain ⟨r6, e7, er7⟩ := Option.map_eq_some_iff.mp e8
              have er10 : r.1 = r6.1 := by rw [er2, ← er7]
              have er6 : r3.2 = cmpF (rC σ tn r5.1.1) r5.2 r6.2 := by rw [← er7]
              refine n_iconst hx hb dX3_plain_119 ?_
              refine lv_goto (tgt := 124) hx hb dX3_plain_120 (by decide) ?_
              refine x_callv (x_runV (As := [.int (iI 1)]) (rest := []) S hH hK (hX.at hH) XRd_b hl.1 hD3.c rfl (xm_X3_mustY l G M86_ K a σ P τ bo lo x3 (rL σ tn r5.1.1) (rE σ tn r5.1.1) r5.1.2.1 d_ p_ pf3 1 _ hD3 (by omega)) (lw_V q833 q835 qs14 q108 q836) kd_X3_must rfl rfl dX3_plain_124 (hR := ⟨by dsimp only [rmX, rmD]; omega, by dsimp only [rmX, rmD]; omega⟩) (hf := ⟨by dsimp only [rmX]; omega, by dsimp only [rmX]; omega⟩)) hH hA (fun M124_ H locs q_124 hH hz_124 => ?_)
              have hH := XV_to hH q_124
              refine lv_aload_n hx hb dX3_plain_127 rfl (lv_at hl 2 rfl) ?_
              refine x_get hx hb hts in_X3 hown hK hH hD3.c rfl 9 (by decide) q316 (fun _ h9 => h9) rfl (by decide) dX3_plain_128 ?_
              refine x_getN hx hb hts in_X0 hown hK hH hD3.o rfl 5 (by decide) hXN q344 (fun _ h9 => h9) rfl (by decide) dX3_plain_131 ?_
              refine lv_aload_n hx hb dX3_plain_134 rfl (lv_at hl 2 rfl) ?_
              refine x_get hx hb hts in_X3 hown hK hH hD3.c rfl 0 (by decide) q307 (fun _ h9 => h9) rfl (by decide) dX3_plain_135 ?_
              refine x_bald hx hb hK hH hD3.tp (by omega) (by omega) (Nat.le_of_ble_eq_true rfl) dX3_plain_138 ?_
              have hb_138 := hB8 (rL σ tn r5.1.1)
              refine W.eq (g2 := F0 m 139 ls (.int (iI (σ 7 (rL σ tn r5.1.1))) :: [])) (by first | (rw [hD3.ht (i := rL σ tn r5.1.1) (by omega) (by omega)]; done) | (rw [hD3.ht (i := rL σ tn r5.1.1) (by omega) (by omega)]; rfl)) ?_
              refine W.eq (g2 := F0 m 139 ls (.int (iI 60) :: [])) (by rw [show σ 7 (rL σ tn r5.1.1) = 60 by omega]) ?_
              refine lv_istore hx hb dX3_plain_139 hl (Nat.le_of_ble_eq_true rfl) (lv' := [(5, .int (iI 60)), (4, .ref q3), (3, .int (iI w29)), (0, .ref (P 7)), (1, .int (iI no))]) rfl (fun ls hl => ?_)
              refine lv_aload_n hx hb dX3_plain_141 rfl (lv_at hl 3 rfl) ?_
              refine x_callv (x_runV (As := []) (rest := []) S hH hK (hX.at hH) XRd_b hl.1 hD3.c rfl (xm_X3_next l G M86_ K a σ P τ bo lo x3 (rL σ tn r5.1.1) (rE σ tn r5.1.1) r5.1.2.1 d_ p_ pf3 _ hD3 hB8 (by omega) (by omega) (by omega)) (lw_V q823 q825 qs13 q108 q826) kd_X3_next rfl rfl dX3_plain_142 (hR := ⟨by dsimp only [rmX, rmD]; omega, by dsimp only [rmX, rmD]; omega⟩) (hf := ⟨by dsimp only [rmX]; omega, by dsimp only [rmX]; omega⟩)) hH hA (fun M142_ H locs q_142 hH hz_142 => ?_)
              obtain ⟨hD4, hX4⟩ := q_142
              have hE4 := hE3.tr hX4
              obtain ⟨v5, ev5⟩ : ∃ v, v = advP r5.1 := ⟨_, rfl⟩
              have ew5 : v5 = (r5.1.1 + 1, r5.1.2.1, r5.1.2.2) := ev5
              have e1v5 : v5.1 = r5.1.1 + 1 := by rw [ew5]
              have e2v5 : v5.2.1 = r5.1.2.1 := by rw [ew5]
              have fv5 : v5.2.2 = -1 := by rw [ew5]; exact f3
              have hBv5 : BS tn v5 := by rw [ev5]; exact BS_adv hTK hBB3 (by omega)
              have b_v5 := hBv5
              unfold BS at b_v5
              have hr_v5 := tok_r hTE b_v5.1.1 b_v5.1.2
              have hL_v5 : rL σ tn v5.1 ≠ -1 := by omega
              have hC_v5 := (hTK.2.2 v5.1 b_v5.1.1 b_v5.1.2).1.1
              have en5 := tok_nx hTE b_r5_1.1.1 (tok_z hTE b_r5_1.1.1 b_r5_1.1.2 (by omega))
              have hDv5 := hD4
              rw [en5.1, en5.2, ← e1v5, ← e2v5] at hDv5
              rw [← ev5] at e7
              have hg6 := rm_go hTK n 2 _ _ _ hBv5 fv5 e7
              have hbx2 : r6.1.2.2 ≠ -1 → r.1 = r6.1 := fun _ => er10
              have hbd3 := bd_go hbx2
              have hm3 := hg6.2.1
              have hm4 : r6.1.1 = r.1.1 := by rw [er10]
              refine x_new (ci := 15) hx hb hts in_X18 tyX18 tyX18_ok hown q1070 q1071 q131 hK hH hA rfl [.null, .null, .int (iI 0)] (fun j hj => by rcases (show j = 0 ∨ j = 1 ∨ j = 2 by omega) with rfl | rfl | rfl <;> rfl) (eN_id (by decide)) (by dsimp only [rmX]; omega) (by dsimp only [rmX]; omega) dX3_plain_145 (fun q6 H hq6 hH => ?_)
              obtain ⟨M6, e_M6⟩ : ∃ M6, M6 = hs M142_ q6 (oB 15 [.null, .null, .int (iI 0)]) := ⟨_, rfl⟩
              have hH := XV_to hH e_M6.symm
              have f6 : M6 q6 = some (oB 15 [.null, .null, .int (iI 0)]) := by rw [e_M6]; exact hs_s
              obtain ⟨x7, hD7, hX7, hw7_q6⟩ := hDv5.nw (e := oB 15 [.null, .null, .int (iI 0)]) hq6
              rw [← e_M6] at hD7 hX7
              have hno_q6 := Ext.no hE4 hq6
              have hE7 := hE4.tr hX7
              have hT7_q3 := SumAt_up hX7.2.1 hT3
              refine lv_dup hx hb dX3_plain_148 rfl ?_
              refine lv_aload hx hb dX3_plain_149 (lv_at hl 1 rfl) ?_
              refine lv_iload hx hb dX3_plain_151 (lv_at hl 0 rfl) ?_
              refine lv_aload_n hx hb dX3_plain_153 rfl (lv_at hl 3 rfl) ?_
              refine r_callq (r_runV (As := []) (rest := [.int (iI 60), .ref q3, .ref q6, .ref q6]) S hH hK (hX.at hH) XRd_b hl.1 hD7.c rfl (IHS M6 a σ tn P τ bo lo x7 v5 d_ p_ pf3 r6 _ hTE hD7 hBv5 fv5 (by omega) (by omega) (by omega) (by omega) hKG e7) (lw_V q960 q962 qs19 q108 q963) kd_X3_sum rfl rfl dX3_plain_154 (hR := ⟨by dsimp only [rmX, rmD]; omega, by dsimp only [rmX, rmD]; omega⟩) (hf := ⟨by dsimp only [rmX]; omega, by dsimp only [rmX]; omega⟩)) hH hA (fun q9_154 pl_154 M9_154 H locs hT_154 => r_out hto hlk hT_154 (sub_px hbx2 hT_154.1) (by omega) (by omega)) (fun r9_154 M154_ H locs q_154 hH hz_154 => ?_)
              obtain ⟨f8, x8, q8, pf8, er8, hD8, hp8, hX8, hT8⟩ := q_154
              subst er8
              have hb8 := bd_f f8
              have hE8 := hE7.tr hX8
              obtain ⟨f8_q6, hw8_q6⟩ := hX8.2.2 _ _ f6 hw7_q6
              have hT8_q3 := SumAt_up hX8.2.1 hT7_q3
              have hBB8 := hg6.1
              have b_r6_1 := hBB8
              unfold BS at b_r6_1
              have hr_r6_1 := tok_r hTE b_r6_1.1.1 b_r6_1.1.2
              have hL_r6_1 : rL σ tn r6.1.1 ≠ -1 := by omega
              have hC_r6_1 := (hTK.2.2 r6.1.1 b_r6_1.1.1 b_r6_1.1.2).1.1
              have h50_r6_1 := b_r6_1.2.2.2 f8
              have hlf2 := hg6.2.2 (by assumption)
              have hm5 : r.1.2.1 = r6.1.2.1 := by rw [er10]
              refine x_callv (x_runI (As := [.ref q3, .int (iI 60), .ref q8]) (rest := [.ref q6]) S hH hK (fun _ _ hW => XN.warm hW hXN) XN_b hl.1 (xm_X18_init l G M154_ q6 q3 60 q8 _ f8_q6) (lw_meth q1074) q131 q1072 q1073 kd_X18_init rfl rfl dX3_plain_157 (hR := ⟨by dsimp only [rmX, rmD]; omega, by dsimp only [rmX, rmD]; omega⟩) (hf := ⟨by dsimp only [rmX]; omega, by dsimp only [rmX]; omega⟩)) hH hA (fun M157_ H locs q_157 hH hz_157 => ?_)
              obtain ⟨x9, hD9, hE9, hI9, hu9, hO9⟩ := RD.node (e := oB 15 [.ref q3, .ref q8, .int (iI 60)]) hD8 hE8 hw8_q6 hno_q6
              rw [← q_157] at hD9 hE9 hO9
              have hT9_q3 := SumAt_up hu9 hT8_q3
              have hT9_q8 := SumAt_up hu9 hT8
              have hN9 : TestAt G (r.1.2.1 - u.2.1 + 8 - d_).toNat (gI x9) q6 r3.2 := by
                rw [show (r.1.2.1 - u.2.1 + 8 - d_).toNat = (r.1.2.1 - u.2.1 + 8 - d_).toNat - 1 + 1 by omega, er6]
                exact Or.inr (Or.inl ⟨q3, q8, 60, r5.2, r6.2, hI9, by decide, SumAt_mono (by omega) hT9_q3, SumAt_mono (by omega) hT9_q8, by rw [show rC σ tn r5.1.1 = 100 + 60 by omega]⟩)
              refine lv_astore_n hx hb dX3_plain_160 rfl hl (Nat.le_of_ble_eq_true rfl) (lv' := [(2, .ref q6), (5, .int (iI 60)), (4, .ref q3), (3, .int (iI w29)), (0, .ref (P 7)), (1, .int (iI no))]) rfl (fun ls hl => ?_)
              have er10v : r.1 = r6.1 := er10
              have er11 : r.1.1 = r6.1.1 := by rw [er10v]
              have er12 : r.1.2.1 = r6.1.2.1 := by rw [er10v]
              have hbd9 : bd r.1 = 0 := by rw [er10v]; exact bd_f (by assumption)
              refine lv_iload_n hx hb dX3_plain_161 rfl (lv_at hl 5 rfl) ?_
              refine n_if_eq (tgt := 176) hx hb (r32 (by omega)) dX3_plain_162 (by decide) (fun c_162 => ?_) (fun c_162 => ?_)
              · -- 162T
                refine lv_aload_n hx hb dX3_plain_176 rfl (lv_at hl 0 rfl) ?_
                refine W.widen (k := ((4 * (r.1.1 - u.1)).toNat + 2 * bd r.1)) (n := ((16 * (r.1.1 - u.1)).toNat + 8 * bd r.1)) (by omega) (by omega) ?_
                refine vx_ret ?_
                refine x_aret (r := some q6) hx hb hr (Or.inl ⟨_, rfl⟩) hlk hH dX3_plain_177 ?_
                have er99 : (r6.1, r3.2) = r := by rw [← er9, er2.symm.trans er10v, if_pos (by omega)]
                clear er9 er2
                subst er99
                exact ⟨f8, x9, q6, pf8, rfl, hD9, fun i i0 i1 => (hp8 i i0 (by omega)).trans ((hp3 i i0 (by omega))), hE9, (TestAt_mono (by first | omega | (dsimp only; omega)) hN9)⟩
              · -- 162F
                refine x_new (ci := 16) hx hb hts in_X19 tyX19 tyX19_ok hown q1086 q1087 q132 hK hH hA rfl [.null] (fun j hj => by rcases (show j = 0 by omega) with rfl <;> rfl) (eN_id (by decide)) (by dsimp only [rmX]; omega) (by dsimp only [rmX]; omega) dX3_plain_165 (fun q10 H hq10 hH => ?_)
                obtain ⟨M10, e_M10⟩ : ∃ M10, M10 = hs M157_ q10 (oB 16 [.null]) := ⟨_, rfl⟩
                have hH := XV_to hH e_M10.symm
                have f10 : M10 q10 = some (oB 16 [.null]) := by rw [e_M10]; exact hs_s
                obtain ⟨x11, hD11, hX11, hw11_q10⟩ := hD9.nw (e := oB 16 [.null]) hq10
                rw [← e_M10] at hD11 hX11
                have hno_q10 := Ext.no hE9 hq10
                have hE11 := hE9.tr hX11
                have hT11_q3 := SumAt_up hX11.2.1 hT9_q3
                have hT11_q8 := SumAt_up hX11.2.1 hT9_q8
                have hT11_q6 := TestAt_up hX11.2.1 hN9
                refine lv_dup hx hb dX3_plain_168 rfl ?_
                refine lv_aload_n hx hb dX3_plain_169 rfl (lv_at hl 0 rfl) ?_
                refine x_callv (x_runI (As := [.ref q6]) (rest := [.ref q10]) S hH hK (fun _ _ hW => XN.warm hW hXN) XN_b hl.1 (xm_X19_init l G M10 q10 q6 _ f10) (lw_meth q1090) q132 q1088 q1089 kd_X19_init rfl rfl dX3_plain_170 (hR := ⟨by dsimp only [rmX, rmD]; omega, by dsimp only [rmX, rmD]; omega⟩) (hf := ⟨by dsimp only [rmX]; omega, by dsimp only [rmX]; omega⟩)) hH hA (fun M170_ H locs q_170 hH hz_170 => ?_)
                obtain ⟨x12, hD12, hE12, hI12, hu12, hO12⟩ := RD.node (e := oB 16 [.ref q6]) hD11 hE11 hw11_q10 hno_q10
                rw [← q_170] at hD12 hE12 hO12
                have hT12_q3 := SumAt_up hu12 hT11_q3
                have hT12_q8 := SumAt_up hu12 hT11_q8
                have hT12_q6 := TestAt_up hu12 hT11_q6
                have hN12 : TestAt G (r.1.2.1 - u.2.1 + 9 - d_).toNat (gI x12) q10 (notF r3.2) := by
                  rw [show (r.1.2.1 - u.2.1 + 9 - d_).toNat = (r.1.2.1 - u.2.1 + 8 - d_).toNat + 1 by omega]
                  exact Or.inr (Or.inr (Or.inl ⟨q6, r3.2, hI12, hT12_q6, rfl⟩))
                refine lv_goto (tgt := 177) hx hb dX3_plain_173 (by decide) ?_
                refine W.widen (k := ((4 * (r.1.1 - u.1)).toNat + 2 * bd r.1)) (n := ((16 * (r.1.1 - u.1)).toNat + 8 * bd r.1)) (by omega) (by omega) ?_
                refine vx_ret ?_
                refine x_aret (r := some q10) hx hb hr (Or.inl ⟨_, rfl⟩) hlk hH dX3_plain_177 ?_
                have er99 : (r6.1, notF r3.2) = r := by rw [← er9, er2.symm.trans er10v, if_neg (by omega)]
                clear er9 er2
                subst er99
                exact ⟨f8, x12, q10, pf8, rfl, hD12, fun i i0 i1 => (hp8 i i0 (by omega)).trans ((hp3 i i0 (by omega))), hE12, hN12⟩
            · -- 98F
              refine lv_aload_n hx hb dX3_plain_101 rfl (lv_at hl 2 rfl) ?_
              refine va_ldcS (tx := ">") (q := K.1 29) hx hb hown (hX.2.1 29 (by decide)) dX3_plain_102 ?_
              refine x_calliF (x_runV (As := [.ref (K.1 29)]) (rest := [.ref (P 7)]) S hH hK (hX.at hH) XRd_b hl.1 hD3.c rfl (xm_X3_isWord l G M86_ K a σ P τ bo lo x3 (rL σ tn r5.1.1) (rE σ tn r5.1.1) r5.1.2.1 d_ p_ pf3 29 _ hD3 (by decide) (by omega) (by omega) (by omega) hB8) (lw_V q908 q910 qs18 q108 q911) kd_X3_isWord rfl rfl dX3_plain_104 (hR := ⟨by dsimp only [rmX, rmD]; omega, by dsimp only [rmX, rmD]; omega⟩) (hf := ⟨by dsimp only [rmX]; omega, by dsimp only [rmX]; omega⟩)) hH hA (fun H locs hH => ?_)
              refine W.eq (g2 := F0 m 107 ls (.int (iI (zb (rC σ tn r5.1.1 = 162))) :: .ref (P 7) :: [])) (by rw [tok_zb hTE b_r5_1.1.1 b_r5_1.1.2 (k := 29) (by decide) (z := 162) rfl]) ?_
              refine z_if_ne (tgt := 119) hx hb dX3_plain_107 (by decide) (fun c_107 => ?_) (fun c_107 => ?_)
              · -- 107T
                have htsg := tok_s hTE b_r5_1.1.1 b_r5_1.1.2 (by omega)
                have e8 := e6
                unfold cpX at e8
                rw [if_pos (show r5.1.2.2 = -1 by assumption), if_pos (by omega)] at e8
                obtain ⟨r6, e7, er7⟩ := Option.map_eq_some_iff.mp e8
                have er10 : r.1 = r6.1 := by rw [er2, ← er7]
                have er6 : r3.2 = cmpF (rC σ tn r5.1.1) r5.2 r6.2 := by rw [← er7]
                refine n_iconst hx hb dX3_plain_119 ?_
                refine lv_goto (tgt := 124) hx hb dX3_plain_120 (by decide) ?_
                refine x_callv (x_runV (As := [.int (iI 1)]) (rest := []) S hH hK (hX.at hH) XRd_b hl.1 hD3.c rfl (xm_X3_mustY l G M86_ K a σ P τ bo lo x3 (rL σ tn r5.1.1) (rE σ tn r5.1.1) r5.1.2.1 d_ p_ pf3 1 _ hD3 (by omega)) (lw_V q833 q835 qs14 q108 q836) kd_X3_must rfl rfl dX3_plain_124 (hR := ⟨by dsimp only [rmX, rmD]; omega, by dsimp only [rmX, rmD]; omega⟩) (hf := ⟨by dsimp only [rmX]; omega, by dsimp only [rmX]; omega⟩)) hH hA (fun M124_ H locs q_124 hH hz_124 => ?_)
                have hH := XV_to hH q_124
                refine lv_aload_n hx hb dX3_plain_127 rfl (lv_at hl 2 rfl) ?_
                refine x_get hx hb hts in_X3 hown hK hH hD3.c rfl 9 (by decide) q316 (fun _ h9 => h9) rfl (by decide) dX3_plain_128 ?_
                refine x_getN hx hb hts in_X0 hown hK hH hD3.o rfl 5 (by decide) hXN q344 (fun _ h9 => h9) rfl (by decide) dX3_plain_131 ?_
                refine lv_aload_n hx hb dX3_plain_134 rfl (lv_at hl 2 rfl) ?_
                refine x_get hx hb hts in_X3 hown hK hH hD3.c rfl 0 (by decide) q307 (fun _ h9 => h9) rfl (by decide) dX3_plain_135 ?_
                refine x_bald hx hb hK hH hD3.tp (by omega) (by omega) (Nat.le_of_ble_eq_true rfl) dX3_plain_138 ?_
                have hb_138 := hB8 (rL σ tn r5.1.1)
                refine W.eq (g2 := F0 m 139 ls (.int (iI (σ 7 (rL σ tn r5.1.1))) :: [])) (by first | (rw [hD3.ht (i := rL σ tn r5.1.1) (by omega) (by omega)]; done) | (rw [hD3.ht (i := rL σ tn r5.1.1) (by omega) (by omega)]; rfl)) ?_
                refine W.eq (g2 := F0 m 139 ls (.int (iI 62) :: [])) (by rw [show σ 7 (rL σ tn r5.1.1) = 62 by omega]) ?_
                refine lv_istore hx hb dX3_plain_139 hl (Nat.le_of_ble_eq_true rfl) (lv' := [(5, .int (iI 62)), (4, .ref q3), (3, .int (iI w29)), (0, .ref (P 7)), (1, .int (iI no))]) rfl (fun ls hl => ?_)
                refine lv_aload_n hx hb dX3_plain_141 rfl (lv_at hl 3 rfl) ?_
                refine x_callv (x_runV (As := []) (rest := []) S hH hK (hX.at hH) XRd_b hl.1 hD3.c rfl (xm_X3_next l G M86_ K a σ P τ bo lo x3 (rL σ tn r5.1.1) (rE σ tn r5.1.1) r5.1.2.1 d_ p_ pf3 _ hD3 hB8 (by omega) (by omega) (by omega)) (lw_V q823 q825 qs13 q108 q826) kd_X3_next rfl rfl dX3_plain_142 (hR := ⟨by dsimp only [rmX, rmD]; omega, by dsimp only [rmX, rmD]; omega⟩) (hf := ⟨by dsimp only [rmX]; omega, by dsimp only [rmX]; omega⟩)) hH hA (fun M142_ H locs q_142 hH hz_142 => ?_)
                obtain ⟨hD13, hX13⟩ := q_142
                have hE13 := hE3.tr hX13
                obtain ⟨v14, ev14⟩ : ∃ v, v = advP r5.1 := ⟨_, rfl⟩
                have ew14 : v14 = (r5.1.1 + 1, r5.1.2.1, r5.1.2.2) := ev14
                have e1v14 : v14.1 = r5.1.1 + 1 := by rw [ew14]
                have e2v14 : v14.2.1 = r5.1.2.1 := by rw [ew14]
                have fv14 : v14.2.2 = -1 := by rw [ew14]; exact f3
                have hBv14 : BS tn v14 := by rw [ev14]; exact BS_adv hTK hBB3 (by omega)
                have b_v14 := hBv14
                unfold BS at b_v14
                have hr_v14 := tok_r hTE b_v14.1.1 b_v14.1.2
                have hL_v14 : rL σ tn v14.1 ≠ -1 := by omega
                have hC_v14 := (hTK.2.2 v14.1 b_v14.1.1 b_v14.1.2).1.1
                have en14 := tok_nx hTE b_r5_1.1.1 (tok_z hTE b_r5_1.1.1 b_r5_1.1.2 (by omega))
                have hDv14 := hD13
                rw [en14.1, en14.2, ← e1v14, ← e2v14] at hDv14
                rw [← ev14] at e7
                have hg6 := rm_go hTK n 2 _ _ _ hBv14 fv14 e7
                have hbx2 : r6.1.2.2 ≠ -1 → r.1 = r6.1 := fun _ => er10
                have hbd3 := bd_go hbx2
                have hm3 := hg6.2.1
                have hm4 : r6.1.1 = r.1.1 := by rw [er10]
                refine x_new (ci := 15) hx hb hts in_X18 tyX18 tyX18_ok hown q1070 q1071 q131 hK hH hA rfl [.null, .null, .int (iI 0)] (fun j hj => by rcases (show j = 0 ∨ j = 1 ∨ j = 2 by omega) with rfl | rfl | rfl <;> rfl) (eN_id (by decide)) (by dsimp only [rmX]; omega) (by dsimp only [rmX]; omega) dX3_plain_145 (fun q15 H hq15 hH => ?_)
                obtain ⟨M15, e_M15⟩ : ∃ M15, M15 = hs M142_ q15 (oB 15 [.null, .null, .int (iI 0)]) := ⟨_, rfl⟩
                have hH := XV_to hH e_M15.symm
                have f15 : M15 q15 = some (oB 15 [.null, .null, .int (iI 0)]) := by rw [e_M15]; exact hs_s
                obtain ⟨x16, hD16, hX16, hw16_q15⟩ := hDv14.nw (e := oB 15 [.null, .null, .int (iI 0)]) hq15
                rw [← e_M15] at hD16 hX16
                have hno_q15 := Ext.no hE13 hq15
                have hE16 := hE13.tr hX16
                have hT16_q3 := SumAt_up hX16.2.1 hT3
                refine lv_dup hx hb dX3_plain_148 rfl ?_
                refine lv_aload hx hb dX3_plain_149 (lv_at hl 1 rfl) ?_
                refine lv_iload hx hb dX3_plain_151 (lv_at hl 0 rfl) ?_
                refine lv_aload_n hx hb dX3_plain_153 rfl (lv_at hl 3 rfl) ?_
                refine r_callq (r_runV (As := []) (rest := [.int (iI 62), .ref q3, .ref q15, .ref q15]) S hH hK (hX.at hH) XRd_b hl.1 hD16.c rfl (IHS M15 a σ tn P τ bo lo x16 v14 d_ p_ pf3 r6 _ hTE hD16 hBv14 fv14 (by omega) (by omega) (by omega) (by omega) hKG e7) (lw_V q960 q962 qs19 q108 q963) kd_X3_sum rfl rfl dX3_plain_154 (hR := ⟨by dsimp only [rmX, rmD]; omega, by dsimp only [rmX, rmD]; omega⟩) (hf := ⟨by dsimp only [rmX]; omega, by dsimp only [rmX]; omega⟩)) hH hA (fun q9_154 pl_154 M9_154 H locs hT_154 => r_out hto hlk hT_154 (sub_px hbx2 hT_154.1) (by omega) (by omega)) (fun r9_154 M154_ H locs q_154 hH hz_154 => ?_)
                obtain ⟨f17, x17, q17, pf17, er17, hD17, hp17, hX17, hT17⟩ := q_154
                subst er17
                have hb17 := bd_f f17
                have hE17 := hE16.tr hX17
                obtain ⟨f17_q15, hw17_q15⟩ := hX17.2.2 _ _ f15 hw16_q15
                have hT17_q3 := SumAt_up hX17.2.1 hT16_q3
                have hBB17 := hg6.1
                have b_r6_1 := hBB17
                unfold BS at b_r6_1
                have hr_r6_1 := tok_r hTE b_r6_1.1.1 b_r6_1.1.2
                have hL_r6_1 : rL σ tn r6.1.1 ≠ -1 := by omega
                have hC_r6_1 := (hTK.2.2 r6.1.1 b_r6_1.1.1 b_r6_1.1.2).1.1
                have h50_r6_1 := b_r6_1.2.2.2 f17
                have hlf2 := hg6.2.2 (by assumption)
                have hm5 : r.1.2.1 = r6.1.2.1 := by rw [er10]
                refine x_callv (x_runI (As := [.ref q3, .int (iI 62), .ref q17]) (rest := [.ref q15]) S hH hK (fun _ _ hW => XN.warm hW hXN) XN_b hl.1 (xm_X18_init l G M154_ q15 q3 62 q17 _ f17_q15) (lw_meth q1074) q131 q1072 q1073 kd_X18_init rfl rfl dX3_plain_157 (hR := ⟨by dsimp only [rmX, rmD]; omega, by dsimp only [rmX, rmD]; omega⟩) (hf := ⟨by dsimp only [rmX]; omega, by dsimp only [rmX]; omega⟩)) hH hA (fun M157_ H locs q_157 hH hz_157 => ?_)
                obtain ⟨x18, hD18, hE18, hI18, hu18, hO18⟩ := RD.node (e := oB 15 [.ref q3, .ref q17, .int (iI 62)]) hD17 hE17 hw17_q15 hno_q15
                rw [← q_157] at hD18 hE18 hO18
                have hT18_q3 := SumAt_up hu18 hT17_q3
                have hT18_q17 := SumAt_up hu18 hT17
                have hN18 : TestAt G (r.1.2.1 - u.2.1 + 8 - d_).toNat (gI x18) q15 r3.2 := by
                  rw [show (r.1.2.1 - u.2.1 + 8 - d_).toNat = (r.1.2.1 - u.2.1 + 8 - d_).toNat - 1 + 1 by omega, er6]
                  exact Or.inr (Or.inl ⟨q3, q17, 62, r5.2, r6.2, hI18, by decide, SumAt_mono (by omega) hT18_q3, SumAt_mono (by omega) hT18_q17, by rw [show rC σ tn r5.1.1 = 100 + 62 by omega]⟩)
                refine lv_astore_n hx hb dX3_plain_160 rfl hl (Nat.le_of_ble_eq_true rfl) (lv' := [(2, .ref q15), (5, .int (iI 62)), (4, .ref q3), (3, .int (iI w29)), (0, .ref (P 7)), (1, .int (iI no))]) rfl (fun ls hl => ?_)
                have er10v : r.1 = r6.1 := er10
                have er11 : r.1.1 = r6.1.1 := by rw [er10v]
                have er12 : r.1.2.1 = r6.1.2.1 := by rw [er10v]
                have hbd9 : bd r.1 = 0 := by rw [er10v]; exact bd_f (by assumption)
                refine lv_iload_n hx hb dX3_plain_161 rfl (lv_at hl 5 rfl) ?_
                refine n_if_eq (tgt := 176) hx hb (r32 (by omega)) dX3_plain_162 (by decide) (fun c_162 => ?_) (fun c_162 => ?_)
                · -- 162T
                  refine lv_aload_n hx hb dX3_plain_176 rfl (lv_at hl 0 rfl) ?_
                  refine W.widen (k := ((4 * (r.1.1 - u.1)).toNat + 2 * bd r.1)) (n := ((16 * (r.1.1 - u.1)).toNat + 8 * bd r.1)) (by omega) (by omega) ?_
                  refine vx_ret ?_
                  refine x_aret (r := some q15) hx hb hr (Or.inl ⟨_, rfl⟩) hlk hH dX3_plain_177 ?_
                  have er99 : (r6.1, r3.2) = r := by rw [← er9, er2.symm.trans er10v, if_pos (by omega)]
                  clear er9 er2
                  subst er99
                  exact ⟨f17, x18, q15, pf17, rfl, hD18, fun i i0 i1 => (hp17 i i0 (by omega)).trans ((hp3 i i0 (by omega))), hE18, (TestAt_mono (by first | omega | (dsimp only; omega)) hN18)⟩
                · -- 162F
                  refine x_new (ci := 16) hx hb hts in_X19 tyX19 tyX19_ok hown q1086 q1087 q132 hK hH hA rfl [.null] (fun j hj => by rcases (show j = 0 by omega) with rfl <;> rfl) (eN_id (by decide)) (by dsimp only [rmX]; omega) (by dsimp only [rmX]; omega) dX3_plain_165 (fun q19 H hq19 hH => ?_)
                  obtain ⟨M19, e_M19⟩ : ∃ M19, M19 = hs M157_ q19 (oB 16 [.null]) := ⟨_, rfl⟩
                  have hH := XV_to hH e_M19.symm
                  have f19 : M19 q19 = some (oB 16 [.null]) := by rw [e_M19]; exact hs_s
                  obtain ⟨x20, hD20, hX20, hw20_q19⟩ := hD18.nw (e := oB 16 [.null]) hq19
                  rw [← e_M19] at hD20 hX20
                  have hno_q19 := Ext.no hE18 hq19
                  have hE20 := hE18.tr hX20
                  have hT20_q3 := SumAt_up hX20.2.1 hT18_q3
                  have hT20_q17 := SumAt_up hX20.2.1 hT18_q17
                  have hT20_q15 := TestAt_up hX20.2.1 hN18
                  refine lv_dup hx hb dX3_plain_168 rfl ?_
                  refine lv_aload_n hx hb dX3_plain_169 rfl (lv_at hl 0 rfl) ?_
                  refine x_callv (x_runI (As := [.ref q15]) (rest := [.ref q19]) S hH hK (fun _ _ hW => XN.warm hW hXN) XN_b hl.1 (xm_X19_init l G M19 q19 q15 _ f19) (lw_meth q1090) q132 q1088 q1089 kd_X19_init rfl rfl dX3_plain_170 (hR := ⟨by dsimp only [rmX, rmD]; omega, by dsimp only [rmX, rmD]; omega⟩) (hf := ⟨by dsimp only [rmX]; omega, by dsimp only [rmX]; omega⟩)) hH hA (fun M170_ H locs q_170 hH hz_170 => ?_)
                  obtain ⟨x21, hD21, hE21, hI21, hu21, hO21⟩ := RD.node (e := oB 16 [.ref q15]) hD20 hE20 hw20_q19 hno_q19
                  rw [← q_170] at hD21 hE21 hO21
                  have hT21_q3 := SumAt_up hu21 hT20_q3
                  have hT21_q17 := SumAt_up hu21 hT20_q17
                  have hT21_q15 := TestAt_up hu21 hT20_q15
                  have hN21 : TestAt G (r.1.2.1 - u.2.1 + 9 - d_).toNat (gI x21) q19 (notF r3.2) := by
                    rw [show (r.1.2.1 - u.2.1 + 9 - d_).toNat = (r.1.2.1 - u.2.1 + 8 - d_).toNat + 1 by omega]
                    exact Or.inr (Or.inr (Or.inl ⟨q15, r3.2, hI21, hT21_q15, rfl⟩))
                  refine lv_goto (tgt := 177) hx hb dX3_plain_173 (by decide) ?_
                  refine W.widen (k := ((4 * (r.1.1 - u.1)).toNat + 2 * bd r.1)) (n := ((16 * (r.1.1 - u.1)).toNat + 8 * bd r.1)) (by omega) (by omega) ?_
                  refine vx_ret ?_
                  refine x_aret (r := some q19) hx hb hr (Or.inl ⟨_, rfl⟩) hlk hH dX3_plain_177 ?_
                  have er99 : (r6.1, notF r3.2) = r := by rw [← er9, er2.symm.trans er10v, if_neg (by omega)]
                  clear er9 er2
                  subst er99
                  exact ⟨f17, x21, q19, pf17, rfl, hD21, fun i i0 i1 => (hp17 i i0 (by omega)).trans ((hp3 i i0 (by omega))), hE21, hN21⟩
              · -- 107F
                refine lv_aload_n hx hb dX3_plain_110 rfl (lv_at hl 2 rfl) ?_
                refine va_ldcS (tx := "=") (q := K.1 30) hx hb hown (hX.2.1 30 (by decide)) dX3_plain_111 ?_
                refine x_calliF (x_runV (As := [.ref (K.1 30)]) (rest := [.ref (P 7)]) S hH hK (hX.at hH) XRd_b hl.1 hD3.c rfl (xm_X3_isWord l G M86_ K a σ P τ bo lo x3 (rL σ tn r5.1.1) (rE σ tn r5.1.1) r5.1.2.1 d_ p_ pf3 30 _ hD3 (by decide) (by omega) (by omega) (by omega) hB8) (lw_V q908 q910 qs18 q108 q911) kd_X3_isWord rfl rfl dX3_plain_113 (hR := ⟨by dsimp only [rmX, rmD]; omega, by dsimp only [rmX, rmD]; omega⟩) (hf := ⟨by dsimp only [rmX]; omega, by dsimp only [rmX]; omega⟩)) hH hA (fun H locs hH => ?_)
                refine W.eq (g2 := F0 m 116 ls (.int (iI (zb (rC σ tn r5.1.1 = 161))) :: .ref (P 7) :: [])) (by rw [tok_zb hTE b_r5_1.1.1 b_r5_1.1.2 (k := 30) (by decide) (z := 161) rfl]) ?_
                refine z_if_eq (tgt := 123) hx hb dX3_plain_116 (by decide) (fun c_116 => ?_) (fun c_116 => ?_)
                · -- 116T
                  refine n_iconst hx hb dX3_plain_123 ?_
                  have hr9 : r.1 = fauP (rL σ tn) r5.1 := by rw [er2]; unfold cpX at e6; rw [if_pos (show r5.1.2.2 = -1 by assumption), if_neg (by omega)] at e6; cases e6; rfl
                  have hbad : r.1.2.2 = rL σ tn r5.1.1 := by rw [hr9]; exact (fau_3 (by assumption)).2.2
                  have hr11 : r.1.1 = r5.1.1 := by rw [hr9]; exact (fau_3 (by assumption)).1
                  have hbd9 := bd_b (s := r.1) (by rw [hbad]; exact hL_r5_1)
                  refine r_callv (r_runV (As := [.int (iI 0)]) (rest := []) S hH hK (hX.at hH) XRd_b hl.1 hD3.c rfl (xm_X3_mustN l G M86_ K a σ P τ bo lo x3 (rL σ tn r5.1.1) (rE σ tn r5.1.1) r5.1.2.1 d_ p_ pf3 0 _ hD3 (by omega)) (lw_V q833 q835 qs14 q108 q836) kd_X3_must rfl rfl dX3_plain_124 (hR := ⟨by dsimp only [rmX, rmD]; omega, by dsimp only [rmX, rmD]; omega⟩) (hf := ⟨by dsimp only [rmX]; omega, by dsimp only [rmX]; omega⟩)) hH hA (fun q9_124 pl_124 M9_124 H locs hT_124 => r_out hto hlk hT_124 (leaf_px hbad hL_r5_1 (hT_124.1)) (by omega) (by omega)) (fun M124_ H locs q_124 hH hz_124 => ?_)
                  exact q_124.elim
                · -- 116F
                  have htsg := tok_s hTE b_r5_1.1.1 b_r5_1.1.2 (by omega)
                  have e8 := e6
                  unfold cpX at e8
                  rw [if_pos (show r5.1.2.2 = -1 by assumption), if_pos (by omega)] at e8
                  obtain ⟨r6, e7, er7⟩ := Option.map_eq_some_iff.mp e8
                  have er10 : r.1 = r6.1 := by rw [er2, ← er7]
                  have er6 : r3.2 = cmpF (rC σ tn r5.1.1) r5.2 r6.2 := by rw [← er7]
                  refine n_iconst hx hb dX3_plain_119 ?_
                  refine lv_goto (tgt := 124) hx hb dX3_plain_120 (by decide) ?_
                  refine x_callv (x_runV (As := [.int (iI 1)]) (rest := []) S hH hK (hX.at hH) XRd_b hl.1 hD3.c rfl (xm_X3_mustY l G M86_ K a σ P τ bo lo x3 (rL σ tn r5.1.1) (rE σ tn r5.1.1) r5.1.2.1 d_ p_ pf3 1 _ hD3 (by omega)) (lw_V q833 q835 qs14 q108 q836) kd_X3_must rfl rfl dX3_plain_124 (hR := ⟨by dsimp only [rmX, rmD]; omega, by dsimp only [rmX, rmD]; omega⟩) (hf := ⟨by dsimp only [rmX]; omega, by dsimp only [rmX]; omega⟩)) hH hA (fun M124_ H locs q_124 hH hz_124 => ?_)
                  have hH := XV_to hH q_124
                  refine lv_aload_n hx hb dX3_plain_127 rfl (lv_at hl 2 rfl) ?_
                  refine x_get hx hb hts in_X3 hown hK hH hD3.c rfl 9 (by decide) q316 (fun _ h9 => h9) rfl (by decide) dX3_plain_128 ?_
                  refine x_getN hx hb hts in_X0 hown hK hH hD3.o rfl 5 (by decide) hXN q344 (fun _ h9 => h9) rfl (by decide) dX3_plain_131 ?_
                  refine lv_aload_n hx hb dX3_plain_134 rfl (lv_at hl 2 rfl) ?_
                  refine x_get hx hb hts in_X3 hown hK hH hD3.c rfl 0 (by decide) q307 (fun _ h9 => h9) rfl (by decide) dX3_plain_135 ?_
                  refine x_bald hx hb hK hH hD3.tp (by omega) (by omega) (Nat.le_of_ble_eq_true rfl) dX3_plain_138 ?_
                  have hb_138 := hB8 (rL σ tn r5.1.1)
                  refine W.eq (g2 := F0 m 139 ls (.int (iI (σ 7 (rL σ tn r5.1.1))) :: [])) (by first | (rw [hD3.ht (i := rL σ tn r5.1.1) (by omega) (by omega)]; done) | (rw [hD3.ht (i := rL σ tn r5.1.1) (by omega) (by omega)]; rfl)) ?_
                  refine W.eq (g2 := F0 m 139 ls (.int (iI 61) :: [])) (by rw [show σ 7 (rL σ tn r5.1.1) = 61 by omega]) ?_
                  refine lv_istore hx hb dX3_plain_139 hl (Nat.le_of_ble_eq_true rfl) (lv' := [(5, .int (iI 61)), (4, .ref q3), (3, .int (iI w29)), (0, .ref (P 7)), (1, .int (iI no))]) rfl (fun ls hl => ?_)
                  refine lv_aload_n hx hb dX3_plain_141 rfl (lv_at hl 3 rfl) ?_
                  refine x_callv (x_runV (As := []) (rest := []) S hH hK (hX.at hH) XRd_b hl.1 hD3.c rfl (xm_X3_next l G M86_ K a σ P τ bo lo x3 (rL σ tn r5.1.1) (rE σ tn r5.1.1) r5.1.2.1 d_ p_ pf3 _ hD3 hB8 (by omega) (by omega) (by omega)) (lw_V q823 q825 qs13 q108 q826) kd_X3_next rfl rfl dX3_plain_142 (hR := ⟨by dsimp only [rmX, rmD]; omega, by dsimp only [rmX, rmD]; omega⟩) (hf := ⟨by dsimp only [rmX]; omega, by dsimp only [rmX]; omega⟩)) hH hA (fun M142_ H locs q_142 hH hz_142 => ?_)
                  obtain ⟨hD22, hX22⟩ := q_142
                  have hE22 := hE3.tr hX22
                  obtain ⟨v23, ev23⟩ : ∃ v, v = advP r5.1 := ⟨_, rfl⟩
                  have ew23 : v23 = (r5.1.1 + 1, r5.1.2.1, r5.1.2.2) := ev23
                  have e1v23 : v23.1 = r5.1.1 + 1 := by rw [ew23]
                  have e2v23 : v23.2.1 = r5.1.2.1 := by rw [ew23]
                  have fv23 : v23.2.2 = -1 := by rw [ew23]; exact f3
                  have hBv23 : BS tn v23 := by rw [ev23]; exact BS_adv hTK hBB3 (by omega)
                  have b_v23 := hBv23
                  unfold BS at b_v23
                  have hr_v23 := tok_r hTE b_v23.1.1 b_v23.1.2
                  have hL_v23 : rL σ tn v23.1 ≠ -1 := by omega
                  have hC_v23 := (hTK.2.2 v23.1 b_v23.1.1 b_v23.1.2).1.1
                  have en23 := tok_nx hTE b_r5_1.1.1 (tok_z hTE b_r5_1.1.1 b_r5_1.1.2 (by omega))
                  have hDv23 := hD22
                  rw [en23.1, en23.2, ← e1v23, ← e2v23] at hDv23
                  rw [← ev23] at e7
                  have hg6 := rm_go hTK n 2 _ _ _ hBv23 fv23 e7
                  have hbx2 : r6.1.2.2 ≠ -1 → r.1 = r6.1 := fun _ => er10
                  have hbd3 := bd_go hbx2
                  have hm3 := hg6.2.1
                  have hm4 : r6.1.1 = r.1.1 := by rw [er10]
                  refine x_new (ci := 15) hx hb hts in_X18 tyX18 tyX18_ok hown q1070 q1071 q131 hK hH hA rfl [.null, .null, .int (iI 0)] (fun j hj => by rcases (show j = 0 ∨ j = 1 ∨ j = 2 by omega) with rfl | rfl | rfl <;> rfl) (eN_id (by decide)) (by dsimp only [rmX]; omega) (by dsimp only [rmX]; omega) dX3_plain_145 (fun q24 H hq24 hH => ?_)
                  obtain ⟨M24, e_M24⟩ : ∃ M24, M24 = hs M142_ q24 (oB 15 [.null, .null, .int (iI 0)]) := ⟨_, rfl⟩
                  have hH := XV_to hH e_M24.symm
                  have f24 : M24 q24 = some (oB 15 [.null, .null, .int (iI 0)]) := by rw [e_M24]; exact hs_s
                  obtain ⟨x25, hD25, hX25, hw25_q24⟩ := hDv23.nw (e := oB 15 [.null, .null, .int (iI 0)]) hq24
                  rw [← e_M24] at hD25 hX25
                  have hno_q24 := Ext.no hE22 hq24
                  have hE25 := hE22.tr hX25
                  have hT25_q3 := SumAt_up hX25.2.1 hT3
                  refine lv_dup hx hb dX3_plain_148 rfl ?_
                  refine lv_aload hx hb dX3_plain_149 (lv_at hl 1 rfl) ?_
                  refine lv_iload hx hb dX3_plain_151 (lv_at hl 0 rfl) ?_
                  refine lv_aload_n hx hb dX3_plain_153 rfl (lv_at hl 3 rfl) ?_
                  refine r_callq (r_runV (As := []) (rest := [.int (iI 61), .ref q3, .ref q24, .ref q24]) S hH hK (hX.at hH) XRd_b hl.1 hD25.c rfl (IHS M24 a σ tn P τ bo lo x25 v23 d_ p_ pf3 r6 _ hTE hD25 hBv23 fv23 (by omega) (by omega) (by omega) (by omega) hKG e7) (lw_V q960 q962 qs19 q108 q963) kd_X3_sum rfl rfl dX3_plain_154 (hR := ⟨by dsimp only [rmX, rmD]; omega, by dsimp only [rmX, rmD]; omega⟩) (hf := ⟨by dsimp only [rmX]; omega, by dsimp only [rmX]; omega⟩)) hH hA (fun q9_154 pl_154 M9_154 H locs hT_154 => r_out hto hlk hT_154 (sub_px hbx2 hT_154.1) (by omega) (by omega)) (fun r9_154 M154_ H locs q_154 hH hz_154 => ?_)
                  obtain ⟨f26, x26, q26, pf26, er26, hD26, hp26, hX26, hT26⟩ := q_154
                  subst er26
                  have hb26 := bd_f f26
                  have hE26 := hE25.tr hX26
                  obtain ⟨f26_q24, hw26_q24⟩ := hX26.2.2 _ _ f24 hw25_q24
                  have hT26_q3 := SumAt_up hX26.2.1 hT25_q3
                  have hBB26 := hg6.1
                  have b_r6_1 := hBB26
                  unfold BS at b_r6_1
                  have hr_r6_1 := tok_r hTE b_r6_1.1.1 b_r6_1.1.2
                  have hL_r6_1 : rL σ tn r6.1.1 ≠ -1 := by omega
                  have hC_r6_1 := (hTK.2.2 r6.1.1 b_r6_1.1.1 b_r6_1.1.2).1.1
                  have h50_r6_1 := b_r6_1.2.2.2 f26
                  have hlf2 := hg6.2.2 (by assumption)
                  have hm5 : r.1.2.1 = r6.1.2.1 := by rw [er10]
                  refine x_callv (x_runI (As := [.ref q3, .int (iI 61), .ref q26]) (rest := [.ref q24]) S hH hK (fun _ _ hW => XN.warm hW hXN) XN_b hl.1 (xm_X18_init l G M154_ q24 q3 61 q26 _ f26_q24) (lw_meth q1074) q131 q1072 q1073 kd_X18_init rfl rfl dX3_plain_157 (hR := ⟨by dsimp only [rmX, rmD]; omega, by dsimp only [rmX, rmD]; omega⟩) (hf := ⟨by dsimp only [rmX]; omega, by dsimp only [rmX]; omega⟩)) hH hA (fun M157_ H locs q_157 hH hz_157 => ?_)
                  obtain ⟨x27, hD27, hE27, hI27, hu27, hO27⟩ := RD.node (e := oB 15 [.ref q3, .ref q26, .int (iI 61)]) hD26 hE26 hw26_q24 hno_q24
                  rw [← q_157] at hD27 hE27 hO27
                  have hT27_q3 := SumAt_up hu27 hT26_q3
                  have hT27_q26 := SumAt_up hu27 hT26
                  have hN27 : TestAt G (r.1.2.1 - u.2.1 + 8 - d_).toNat (gI x27) q24 r3.2 := by
                    rw [show (r.1.2.1 - u.2.1 + 8 - d_).toNat = (r.1.2.1 - u.2.1 + 8 - d_).toNat - 1 + 1 by omega, er6]
                    exact Or.inr (Or.inl ⟨q3, q26, 61, r5.2, r6.2, hI27, by decide, SumAt_mono (by omega) hT27_q3, SumAt_mono (by omega) hT27_q26, by rw [show rC σ tn r5.1.1 = 100 + 61 by omega]⟩)
                  refine lv_astore_n hx hb dX3_plain_160 rfl hl (Nat.le_of_ble_eq_true rfl) (lv' := [(2, .ref q24), (5, .int (iI 61)), (4, .ref q3), (3, .int (iI w29)), (0, .ref (P 7)), (1, .int (iI no))]) rfl (fun ls hl => ?_)
                  have er10v : r.1 = r6.1 := er10
                  have er11 : r.1.1 = r6.1.1 := by rw [er10v]
                  have er12 : r.1.2.1 = r6.1.2.1 := by rw [er10v]
                  have hbd9 : bd r.1 = 0 := by rw [er10v]; exact bd_f (by assumption)
                  refine lv_iload_n hx hb dX3_plain_161 rfl (lv_at hl 5 rfl) ?_
                  refine n_if_eq (tgt := 176) hx hb (r32 (by omega)) dX3_plain_162 (by decide) (fun c_162 => ?_) (fun c_162 => ?_)
                  · -- 162T
                    refine lv_aload_n hx hb dX3_plain_176 rfl (lv_at hl 0 rfl) ?_
                    refine W.widen (k := ((4 * (r.1.1 - u.1)).toNat + 2 * bd r.1)) (n := ((16 * (r.1.1 - u.1)).toNat + 8 * bd r.1)) (by omega) (by omega) ?_
                    refine vx_ret ?_
                    refine x_aret (r := some q24) hx hb hr (Or.inl ⟨_, rfl⟩) hlk hH dX3_plain_177 ?_
                    have er99 : (r6.1, r3.2) = r := by rw [← er9, er2.symm.trans er10v, if_pos (by omega)]
                    clear er9 er2
                    subst er99
                    exact ⟨f26, x27, q24, pf26, rfl, hD27, fun i i0 i1 => (hp26 i i0 (by omega)).trans ((hp3 i i0 (by omega))), hE27, (TestAt_mono (by first | omega | (dsimp only; omega)) hN27)⟩
                  · -- 162F
                    refine x_new (ci := 16) hx hb hts in_X19 tyX19 tyX19_ok hown q1086 q1087 q132 hK hH hA rfl [.null] (fun j hj => by rcases (show j = 0 by omega) with rfl <;> rfl) (eN_id (by decide)) (by dsimp only [rmX]; omega) (by dsimp only [rmX]; omega) dX3_plain_165 (fun q28 H hq28 hH => ?_)
                    obtain ⟨M28, e_M28⟩ : ∃ M28, M28 = hs M157_ q28 (oB 16 [.null]) := ⟨_, rfl⟩
                    have hH := XV_to hH e_M28.symm
                    have f28 : M28 q28 = some (oB 16 [.null]) := by rw [e_M28]; exact hs_s
                    obtain ⟨x29, hD29, hX29, hw29_q28⟩ := hD27.nw (e := oB 16 [.null]) hq28
                    rw [← e_M28] at hD29 hX29
                    have hno_q28 := Ext.no hE27 hq28
                    have hE29 := hE27.tr hX29
                    have hT29_q3 := SumAt_up hX29.2.1 hT27_q3
                    have hT29_q26 := SumAt_up hX29.2.1 hT27_q26
                    have hT29_q24 := TestAt_up hX29.2.1 hN27
                    refine lv_dup hx hb dX3_plain_168 rfl ?_
                    refine lv_aload_n hx hb dX3_plain_169 rfl (lv_at hl 0 rfl) ?_
                    refine x_callv (x_runI (As := [.ref q24]) (rest := [.ref q28]) S hH hK (fun _ _ hW => XN.warm hW hXN) XN_b hl.1 (xm_X19_init l G M28 q28 q24 _ f28) (lw_meth q1090) q132 q1088 q1089 kd_X19_init rfl rfl dX3_plain_170 (hR := ⟨by dsimp only [rmX, rmD]; omega, by dsimp only [rmX, rmD]; omega⟩) (hf := ⟨by dsimp only [rmX]; omega, by dsimp only [rmX]; omega⟩)) hH hA (fun M170_ H locs q_170 hH hz_170 => ?_)
                    obtain ⟨x30, hD30, hE30, hI30, hu30, hO30⟩ := RD.node (e := oB 16 [.ref q24]) hD29 hE29 hw29_q28 hno_q28
                    rw [← q_170] at hD30 hE30 hO30
                    have hT30_q3 := SumAt_up hu30 hT29_q3
                    have hT30_q26 := SumAt_up hu30 hT29_q26
                    have hT30_q24 := TestAt_up hu30 hT29_q24
                    have hN30 : TestAt G (r.1.2.1 - u.2.1 + 9 - d_).toNat (gI x30) q28 (notF r3.2) := by
                      rw [show (r.1.2.1 - u.2.1 + 9 - d_).toNat = (r.1.2.1 - u.2.1 + 8 - d_).toNat + 1 by omega]
                      exact Or.inr (Or.inr (Or.inl ⟨q24, r3.2, hI30, hT30_q24, rfl⟩))
                    refine lv_goto (tgt := 177) hx hb dX3_plain_173 (by decide) ?_
                    refine W.widen (k := ((4 * (r.1.1 - u.1)).toNat + 2 * bd r.1)) (n := ((16 * (r.1.1 - u.1)).toNat + 8 * bd r.1)) (by omega) (by omega) ?_
                    refine vx_ret ?_
                    refine x_aret (r := some q28) hx hb hr (Or.inl ⟨_, rfl⟩) hlk hH dX3_plain_177 ?_
                    have er99 : (r6.1, notF r3.2) = r := by rw [← er9, er2.symm.trans er10v, if_neg (by omega)]
                    clear er9 er2
                    subst er99
                    exact ⟨f26, x30, q28, pf26, rfl, hD30, fun i i0 i1 => (hp26 i i0 (by omega)).trans ((hp3 i i0 (by omega))), hE30, hN30⟩
          · -- 62F
            rw [if_pos (by omega)] at e3
            have er10 : r.1 = leaP (rL σ tn) u1 := by rw [er2]; cases e3; rfl
            have er6 : r3.2 = factF (rC σ tn u1.1) := by cases e3; rfl
            refine lv_aload_n hx hb dX3_plain_65 rfl (lv_at hl 1 rfl) ?_
            by_cases a_66 : u1.2.1 < 50
            · -- 66Y
              refine x_callv (x_runV (As := []) (rest := []) S hH hK (hX.at hH) XRd_b hl.1 hD1.c rfl (xm_X3_leafY l G N1 K a σ P τ bo lo x (rL σ tn u1.1) (rE σ tn u1.1) u1.2.1 d_ p_ pf _ hD1 (by omega) (by omega)) (lw_V q986 q988 qs25 q108 q989) kd_X3_leaf rfl rfl dX3_plain_66 (hR := ⟨by dsimp only [rmX, rmD]; omega, by dsimp only [rmX, rmD]; omega⟩) (hf := ⟨by dsimp only [rmX]; omega, by dsimp only [rmX]; omega⟩)) hH hA (fun M66_ H locs q_66 hH hz_66 => ?_)
              obtain ⟨hD31, hX31⟩ := q_66
              have hE31 := hE1.tr hX31
              refine lv_aload_n hx hb dX3_plain_69 rfl (lv_at hl 1 rfl) ?_
              refine x_callv (x_runV (As := []) (rest := []) S hH hK (hX.at hH) XRd_b hl.1 hD31.c rfl (xm_X3_next l G M66_ K a σ P τ bo lo x (rL σ tn u1.1) (rE σ tn u1.1) (u1.2.1 + 1) d_ p_ pf _ hD31 hB8 (by omega) (by omega) (by omega)) (lw_V q823 q825 qs13 q108 q826) kd_X3_next rfl rfl dX3_plain_70 (hR := ⟨by dsimp only [rmX, rmD]; omega, by dsimp only [rmX, rmD]; omega⟩) (hf := ⟨by dsimp only [rmX]; omega, by dsimp only [rmX]; omega⟩)) hH hA (fun M70_ H locs q_70 hH hz_70 => ?_)
              obtain ⟨hD33, hX33⟩ := q_70
              have hE33 := hE31.tr hX33
              obtain ⟨v34, ev34⟩ : ∃ v, v = leaP (rL σ tn) u1 := ⟨_, rfl⟩
              have ew34 := ev34.trans (lea_n hf1 (by omega))
              have e1v34 : v34.1 = u1.1 + 1 := by rw [ew34]
              have e2v34 : v34.2.1 = u1.2.1 + 1 := by rw [ew34]
              have fv34 : v34.2.2 = -1 := by rw [ew34]
              have hBv34 : BS tn v34 := by rw [ev34]; exact BS_lea hTK hB1 hf1 (by omega)
              have b_v34 := hBv34
              unfold BS at b_v34
              have hr_v34 := tok_r hTE b_v34.1.1 b_v34.1.2
              have hL_v34 : rL σ tn v34.1 ≠ -1 := by omega
              have hC_v34 := (hTK.2.2 v34.1 b_v34.1.1 b_v34.1.2).1.1
              have en34 := tok_nx hTE b_u1.1.1 (tok_z hTE b_u1.1.1 b_u1.1.2 (by omega))
              have hDv34 := hD33
              rw [en34.1, en34.2, ← e1v34, ← e2v34] at hDv34
              have er11a : r.1.1 = v34.1 := by rw [er10, ← ev34]
              refine x_new (ci := 14) hx hb hts in_X17 tyX17 tyX17_ok hown q1054 q1055 q130 hK hH hA rfl [.int (iI 0)] (fun j hj => by rcases (show j = 0 by omega) with rfl <;> rfl) (eN_id (by decide)) (by dsimp only [rmX]; omega) (by dsimp only [rmX]; omega) dX3_plain_73 (fun q35 H hq35 hH => ?_)
              obtain ⟨M35, e_M35⟩ : ∃ M35, M35 = hs M70_ q35 (oB 14 [.int (iI 0)]) := ⟨_, rfl⟩
              have hH := XV_to hH e_M35.symm
              have f35 : M35 q35 = some (oB 14 [.int (iI 0)]) := by rw [e_M35]; exact hs_s
              obtain ⟨x36, hD36, hX36, hw36_q35⟩ := hDv34.nw (e := oB 14 [.int (iI 0)]) hq35
              rw [← e_M35] at hD36 hX36
              have hno_q35 := Ext.no hE33 hq35
              have hE36 := hE33.tr hX36
              refine lv_dup hx hb dX3_plain_76 rfl ?_
              refine lv_iload_n hx hb dX3_plain_77 rfl (lv_at hl 0 rfl) ?_
              have er12a : r.1.2.1 = v34.2.1 := by rw [er10, ← ev34]
              refine x_callv (x_runI (As := [.int (iI w29)]) (rest := [.ref q35]) S hH hK (fun _ _ hW => XN.warm hW hXN) XN_b hl.1 (xm_X17_init l G M35 q35 w29 _ f35) (lw_meth q1058) q130 q1056 q1057 kd_X17_init rfl rfl dX3_plain_78 (hR := ⟨by dsimp only [rmX, rmD]; omega, by dsimp only [rmX, rmD]; omega⟩) (hf := ⟨by dsimp only [rmX]; omega, by dsimp only [rmX]; omega⟩)) hH hA (fun M78_ H locs q_78 hH hz_78 => ?_)
              obtain ⟨x37, hD37, hE37, hI37, hu37, hO37⟩ := RD.node (e := oB 14 [.int (iI w29)]) hD36 hE36 hw36_q35 hno_q35
              rw [← q_78] at hD37 hE37 hO37
              have hN37 : TestAt G (r.1.2.1 - u.2.1 + 8 - d_).toNat (gI x37) q35 r3.2 := by
                rw [show (r.1.2.1 - u.2.1 + 8 - d_).toNat = (r.1.2.1 - u.2.1 + 8 - d_).toNat - 1 + 1 by omega, er6]
                exact Or.inl ⟨w29, hI37, by omega, by rw [show w29 + 10 = rC σ tn u1.1 by omega]⟩
              refine lv_astore_n hx hb dX3_plain_81 rfl hl (Nat.le_of_ble_eq_true rfl) (lv' := [(2, .ref q35), (3, .int (iI w29)), (0, .ref (P 7)), (1, .int (iI no))]) rfl (fun ls hl => ?_)
              refine lv_goto (tgt := 161) hx hb dX3_plain_82 (by decide) ?_
              have er10v : r.1 = v34 := er10.trans ev34.symm
              have er11 : r.1.1 = v34.1 := by rw [er10v]
              have er12 : r.1.2.1 = v34.2.1 := by rw [er10v]
              have hbd9 : bd r.1 = 0 := by rw [er10v]; exact bd_f (by assumption)
              refine lv_iload_n hx hb dX3_plain_161 rfl (lv_at hl 3 rfl) ?_
              refine n_if_eq (tgt := 176) hx hb (r32 (by omega)) dX3_plain_162 (by decide) (fun c_162 => ?_) (fun c_162 => ?_)
              · -- 162T
                refine lv_aload_n hx hb dX3_plain_176 rfl (lv_at hl 0 rfl) ?_
                refine W.widen (k := ((4 * (r.1.1 - u.1)).toNat + 2 * bd r.1)) (n := ((16 * (r.1.1 - u.1)).toNat + 8 * bd r.1)) (by omega) (by omega) ?_
                refine vx_ret ?_
                refine x_aret (r := some q35) hx hb hr (Or.inl ⟨_, rfl⟩) hlk hH dX3_plain_177 ?_
                have er99 : (v34, r3.2) = r := by rw [← er9, er2.symm.trans er10v, if_pos (by omega)]
                clear er9 er2
                subst er99
                exact ⟨fv34, x37, q35, pf, rfl, hD37, fun i _ _ => rfl, hE37, (TestAt_mono (by first | omega | (dsimp only; omega)) hN37)⟩
              · -- 162F
                refine x_new (ci := 16) hx hb hts in_X19 tyX19 tyX19_ok hown q1086 q1087 q132 hK hH hA rfl [.null] (fun j hj => by rcases (show j = 0 by omega) with rfl <;> rfl) (eN_id (by decide)) (by dsimp only [rmX]; omega) (by dsimp only [rmX]; omega) dX3_plain_165 (fun q38 H hq38 hH => ?_)
                obtain ⟨M38, e_M38⟩ : ∃ M38, M38 = hs M78_ q38 (oB 16 [.null]) := ⟨_, rfl⟩
                have hH := XV_to hH e_M38.symm
                have f38 : M38 q38 = some (oB 16 [.null]) := by rw [e_M38]; exact hs_s
                obtain ⟨x39, hD39, hX39, hw39_q38⟩ := hD37.nw (e := oB 16 [.null]) hq38
                rw [← e_M38] at hD39 hX39
                have hno_q38 := Ext.no hE37 hq38
                have hE39 := hE37.tr hX39
                have hT39_q35 := TestAt_up hX39.2.1 hN37
                refine lv_dup hx hb dX3_plain_168 rfl ?_
                refine lv_aload_n hx hb dX3_plain_169 rfl (lv_at hl 0 rfl) ?_
                refine x_callv (x_runI (As := [.ref q35]) (rest := [.ref q38]) S hH hK (fun _ _ hW => XN.warm hW hXN) XN_b hl.1 (xm_X19_init l G M38 q38 q35 _ f38) (lw_meth q1090) q132 q1088 q1089 kd_X19_init rfl rfl dX3_plain_170 (hR := ⟨by dsimp only [rmX, rmD]; omega, by dsimp only [rmX, rmD]; omega⟩) (hf := ⟨by dsimp only [rmX]; omega, by dsimp only [rmX]; omega⟩)) hH hA (fun M170_ H locs q_170 hH hz_170 => ?_)
                obtain ⟨x40, hD40, hE40, hI40, hu40, hO40⟩ := RD.node (e := oB 16 [.ref q35]) hD39 hE39 hw39_q38 hno_q38
                rw [← q_170] at hD40 hE40 hO40
                have hT40_q35 := TestAt_up hu40 hT39_q35
                have hN40 : TestAt G (r.1.2.1 - u.2.1 + 9 - d_).toNat (gI x40) q38 (notF r3.2) := by
                  rw [show (r.1.2.1 - u.2.1 + 9 - d_).toNat = (r.1.2.1 - u.2.1 + 8 - d_).toNat + 1 by omega]
                  exact Or.inr (Or.inr (Or.inl ⟨q35, r3.2, hI40, hT40_q35, rfl⟩))
                refine lv_goto (tgt := 177) hx hb dX3_plain_173 (by decide) ?_
                refine W.widen (k := ((4 * (r.1.1 - u.1)).toNat + 2 * bd r.1)) (n := ((16 * (r.1.1 - u.1)).toNat + 8 * bd r.1)) (by omega) (by omega) ?_
                refine vx_ret ?_
                refine x_aret (r := some q38) hx hb hr (Or.inl ⟨_, rfl⟩) hlk hH dX3_plain_177 ?_
                have er99 : (v34, notF r3.2) = r := by rw [← er9, er2.symm.trans er10v, if_neg (by omega)]
                clear er9 er2
                subst er99
                exact ⟨fv34, x40, q38, pf, rfl, hD40, fun i _ _ => rfl, hE40, hN40⟩
            · -- 66N
              have hr9 : r.1 = leaP (rL σ tn) u1 := er10
              have hbad : r.1.2.2 = rL σ tn u1.1 := by rw [hr9, lea_50 hf1 (by omega) hL_u1]
              have hr11 : r.1.1 = u1.1 := by rw [hr9, lea_50 hf1 (by omega) hL_u1]
              have hbd9 := bd_b (s := r.1) (by rw [hbad]; exact hL_u1)
              refine r_callv (r_runV (As := []) (rest := []) S hH hK (hX.at hH) XRd_b hl.1 hD1.c rfl (xm_X3_leafN l G N1 K a σ P τ bo lo x (rL σ tn u1.1) (rE σ tn u1.1) u1.2.1 d_ p_ pf _ hD1 (by omega) (by omega) (by omega)) (lw_V q986 q988 qs25 q108 q989) kd_X3_leaf rfl rfl dX3_plain_66 (hR := ⟨by dsimp only [rmX, rmD]; omega, by dsimp only [rmX, rmD]; omega⟩) (hf := ⟨by dsimp only [rmX]; omega, by dsimp only [rmX]; omega⟩)) hH hA (fun q9_66 pl_66 M9_66 H locs hT_66 => r_out hto hlk hT_66 (leaf_px hbad hL_u1 (hT_66.1)) (by omega) (by omega)) (fun M66_ H locs q_66 hH hz_66 => ?_)
              exact q_66.elim
        · -- 39F
          rw [if_pos c_39] at e3
          refine lv_aload_n hx hb dX3_plain_42 rfl (lv_at hl 1 rfl) ?_
          by_cases a_43 : d_ < 8
          · -- 43Y
            rw [if_neg (show ¬ d_ = 8 by omega)] at e3
            obtain ⟨r4, e4, er8⟩ := Option.map_eq_some_iff.mp e3
            refine x_callv (x_runV (As := []) (rest := []) S hH hK (hX.at hH) XRd_b hl.1 hD1.c rfl (xm_X3_openY l G N1 K a σ P τ bo lo x (rL σ tn u1.1) (rE σ tn u1.1) u1.2.1 d_ p_ pf _ hD1 (by omega) (by omega) hB8 (by omega) (by omega) (by omega)) (lw_V q973 q975 qs22 q108 q976) kd_X3_open rfl rfl dX3_plain_43 (hR := ⟨by dsimp only [rmX, rmD]; omega, by dsimp only [rmX, rmD]; omega⟩) (hf := ⟨by dsimp only [rmX]; omega, by dsimp only [rmX]; omega⟩)) hH hA (fun M43_ H locs q_43 hH hz_43 => ?_)
            obtain ⟨hD41, hX41⟩ := q_43
            have hE41 := hE1.tr hX41
            obtain ⟨v42, ev42⟩ : ∃ v, v = advP u1 := ⟨_, rfl⟩
            have ew42 : v42 = (u1.1 + 1, u1.2.1, u1.2.2) := ev42
            have e1v42 : v42.1 = u1.1 + 1 := by rw [ew42]
            have e2v42 : v42.2.1 = u1.2.1 := by rw [ew42]
            have fv42 : v42.2.2 = -1 := by rw [ew42]; exact hf1
            have hBv42 : BS tn v42 := by rw [ev42]; exact BS_adv hTK hB1 (by omega)
            have b_v42 := hBv42
            unfold BS at b_v42
            have hr_v42 := tok_r hTE b_v42.1.1 b_v42.1.2
            have hL_v42 : rL σ tn v42.1 ≠ -1 := by omega
            have hC_v42 := (hTK.2.2 v42.1 b_v42.1.1 b_v42.1.2).1.1
            have en42 := tok_nx hTE b_u1.1.1 (tok_z hTE b_u1.1.1 b_u1.1.2 (by omega))
            have hDv42 := hD41
            rw [en42.1, en42.2, ← e1v42, ← e2v42] at hDv42
            refine lv_aload_n hx hb dX3_plain_46 rfl (lv_at hl 1 rfl) ?_
            rw [← ev42] at e4
            have hg4 := rm_go hTK n 5 _ _ _ hBv42 fv42 e4
            have hmm := mus_m (C := rC σ tn) (L := rL σ tn) (c := 141) (s := r4.1)
            have er83 : r3.1 = musP (rC σ tn) (rL σ tn) 141 r4.1 := by rw [← er8]
            rw [← er83, ← er2] at hmm
            have hm1 := hmm.1
            have hm2 := hmm.2.1
            have hbx := hmm.2.2
            have hm3 := hg4.2.1
            refine r_callq (r_runV (As := []) (rest := []) S hH hK (hX.at hH) XRd_b hl.1 hDv42.c rfl (IHT M43_ a σ tn P τ bo lo x v42 (d_ + 1) p_ pf r4 _ hTE hDv42 hBv42 fv42 (by omega) (by omega) (by omega) (by omega) hKG e4) (lw_V q1039 q1041 qs27 q108 q1042) kd_X3_test rfl rfl dX3_plain_47 (hR := ⟨by dsimp only [rmX, rmD]; omega, by dsimp only [rmX, rmD]; omega⟩) (hf := ⟨by dsimp only [rmX]; omega, by dsimp only [rmX]; omega⟩)) hH hA (fun q9_47 pl_47 M9_47 H locs hT_47 => r_out hto hlk hT_47 (sub_px hbx hT_47.1) (by omega) (by omega)) (fun r9_47 M47_ H locs q_47 hH hz_47 => ?_)
            obtain ⟨f43, x43, q43, pf43, er43, hD43, hp43, hX43, hT43⟩ := q_47
            subst er43
            have hb43 := bd_f f43
            have hE43 := hE41.tr hX43
            have hBB43 := hg4.1
            have b_r4_1 := hBB43
            unfold BS at b_r4_1
            have hr_r4_1 := tok_r hTE b_r4_1.1.1 b_r4_1.1.2
            have hL_r4_1 : rL σ tn r4.1.1 ≠ -1 := by omega
            have hC_r4_1 := (hTK.2.2 r4.1.1 b_r4_1.1.1 b_r4_1.1.2).1.1
            have h50_r4_1 := b_r4_1.2.2.2 f43
            have hlf := hg4.2.2 (by assumption)
            refine lv_astore_n hx hb dX3_plain_50 rfl hl (Nat.le_of_ble_eq_true rfl) (lv' := [(2, .ref q43), (3, .int (iI w29)), (0, .ref (P 7)), (1, .int (iI no))]) rfl (fun ls hl => ?_)
            refine lv_aload_n hx hb dX3_plain_51 rfl (lv_at hl 2 rfl) ?_
            refine va_ldcS (tx := ")") (q := K.1 27) hx hb hown (hX.2.1 27 (by decide)) dX3_plain_52 ?_
            by_cases a_54 : rC σ tn r4.1.1 = 141
            · -- 54Y
              have er10 : r.1 = advP r4.1 := by rw [er2, ← er8]; exact mus_y (by assumption) a_54
              have er6 : r3.2 = r4.2 := by rw [← er8]
              refine x_callv (x_runV (As := [.ref (K.1 27)]) (rest := []) S hH hK (hX.at hH) XRd_b hl.1 hD43.c rfl (xm_X3_closeY l G M47_ K a σ P τ bo lo x43 (rL σ tn r4.1.1) (rE σ tn r4.1.1) r4.1.2.1 (d_ + 1) p_ pf43 27 _ hD43 (by decide) (tok_y hTE b_r4_1.1.1 b_r4_1.1.2 (k := 27) (by decide) (z := 141) rfl a_54) (by omega) (by omega) (by omega) (by omega) (by omega) hB8 (by omega) (by omega) (by omega)) (lw_V q978 q980 qs23 q108 q981) kd_X3_close rfl rfl dX3_plain_54 (hR := ⟨by dsimp only [rmX, rmD]; omega, by dsimp only [rmX, rmD]; omega⟩) (hf := ⟨by dsimp only [rmX]; omega, by dsimp only [rmX]; omega⟩)) hH hA (fun M54_ H locs q_54 hH hz_54 => ?_)
              obtain ⟨hD44, hX44⟩ := q_54
              have hE44 := hE43.tr hX44
              obtain ⟨v45, ev45⟩ : ∃ v, v = advP r4.1 := ⟨_, rfl⟩
              have ew45 : v45 = (r4.1.1 + 1, r4.1.2.1, r4.1.2.2) := ev45
              have e1v45 : v45.1 = r4.1.1 + 1 := by rw [ew45]
              have e2v45 : v45.2.1 = r4.1.2.1 := by rw [ew45]
              have fv45 : v45.2.2 = -1 := by rw [ew45]; exact f43
              have hBv45 : BS tn v45 := by rw [ev45]; exact BS_adv hTK hBB43 (by omega)
              have b_v45 := hBv45
              unfold BS at b_v45
              have hr_v45 := tok_r hTE b_v45.1.1 b_v45.1.2
              have hL_v45 : rL σ tn v45.1 ≠ -1 := by omega
              have hC_v45 := (hTK.2.2 v45.1 b_v45.1.1 b_v45.1.2).1.1
              have en45 := tok_nx hTE b_r4_1.1.1 (tok_z hTE b_r4_1.1.1 b_r4_1.1.2 (by omega))
              have hDv45 := hD44
              rw [en45.1, en45.2, ← e1v45, ← e2v45] at hDv45
              have hDc45 := hDv45
              rw [show d_ + 1 - 1 = d_ by omega] at hDc45
              refine lv_goto (tgt := 161) hx hb dX3_plain_57 (by decide) ?_
              have er10v : r.1 = v45 := er10.trans ev45.symm
              have er11 : r.1.1 = v45.1 := by rw [er10v]
              have er12 : r.1.2.1 = v45.2.1 := by rw [er10v]
              have hbd9 : bd r.1 = 0 := by rw [er10v]; exact bd_f (by assumption)
              have hTN : TestAt G (r.1.2.1 - u.2.1 + 8 - d_).toNat (gI x43) q43 r3.2 := by rw [er6]; exact TestAt_mono (by omega) hT43
              refine lv_iload_n hx hb dX3_plain_161 rfl (lv_at hl 3 rfl) ?_
              refine n_if_eq (tgt := 176) hx hb (r32 (by omega)) dX3_plain_162 (by decide) (fun c_162 => ?_) (fun c_162 => ?_)
              · -- 162T
                refine lv_aload_n hx hb dX3_plain_176 rfl (lv_at hl 0 rfl) ?_
                refine W.widen (k := ((4 * (r.1.1 - u.1)).toNat + 2 * bd r.1)) (n := ((16 * (r.1.1 - u.1)).toNat + 8 * bd r.1)) (by omega) (by omega) ?_
                refine vx_ret ?_
                refine x_aret (r := some q43) hx hb hr (Or.inl ⟨_, rfl⟩) hlk hH dX3_plain_177 ?_
                have er99 : (v45, r3.2) = r := by rw [← er9, er2.symm.trans er10v, if_pos (by omega)]
                clear er9 er2
                subst er99
                exact ⟨fv45, x43, q43, pf43, rfl, hDc45, fun i i0 i1 => (hp43 i i0 (by omega)), hE44, (TestAt_mono (by first | omega | (dsimp only; omega)) hTN)⟩
              · -- 162F
                refine x_new (ci := 16) hx hb hts in_X19 tyX19 tyX19_ok hown q1086 q1087 q132 hK hH hA rfl [.null] (fun j hj => by rcases (show j = 0 by omega) with rfl <;> rfl) (eN_id (by decide)) (by dsimp only [rmX]; omega) (by dsimp only [rmX]; omega) dX3_plain_165 (fun q46 H hq46 hH => ?_)
                obtain ⟨M46, e_M46⟩ : ∃ M46, M46 = hs M54_ q46 (oB 16 [.null]) := ⟨_, rfl⟩
                have hH := XV_to hH e_M46.symm
                have f46 : M46 q46 = some (oB 16 [.null]) := by rw [e_M46]; exact hs_s
                obtain ⟨x47, hD47, hX47, hw47_q46⟩ := hDc45.nw (e := oB 16 [.null]) hq46
                rw [← e_M46] at hD47 hX47
                have hno_q46 := Ext.no hE44 hq46
                have hE47 := hE44.tr hX47
                have hT47_q43 := TestAt_up hX47.2.1 hTN
                refine lv_dup hx hb dX3_plain_168 rfl ?_
                refine lv_aload_n hx hb dX3_plain_169 rfl (lv_at hl 0 rfl) ?_
                refine x_callv (x_runI (As := [.ref q43]) (rest := [.ref q46]) S hH hK (fun _ _ hW => XN.warm hW hXN) XN_b hl.1 (xm_X19_init l G M46 q46 q43 _ f46) (lw_meth q1090) q132 q1088 q1089 kd_X19_init rfl rfl dX3_plain_170 (hR := ⟨by dsimp only [rmX, rmD]; omega, by dsimp only [rmX, rmD]; omega⟩) (hf := ⟨by dsimp only [rmX]; omega, by dsimp only [rmX]; omega⟩)) hH hA (fun M170_ H locs q_170 hH hz_170 => ?_)
                obtain ⟨x48, hD48, hE48, hI48, hu48, hO48⟩ := RD.node (e := oB 16 [.ref q43]) hD47 hE47 hw47_q46 hno_q46
                rw [← q_170] at hD48 hE48 hO48
                have hT48_q43 := TestAt_up hu48 hT47_q43
                have hN48 : TestAt G (r.1.2.1 - u.2.1 + 9 - d_).toNat (gI x48) q46 (notF r3.2) := by
                  rw [show (r.1.2.1 - u.2.1 + 9 - d_).toNat = (r.1.2.1 - u.2.1 + 8 - d_).toNat + 1 by omega]
                  exact Or.inr (Or.inr (Or.inl ⟨q43, r3.2, hI48, hT48_q43, rfl⟩))
                refine lv_goto (tgt := 177) hx hb dX3_plain_173 (by decide) ?_
                refine W.widen (k := ((4 * (r.1.1 - u.1)).toNat + 2 * bd r.1)) (n := ((16 * (r.1.1 - u.1)).toNat + 8 * bd r.1)) (by omega) (by omega) ?_
                refine vx_ret ?_
                refine x_aret (r := some q46) hx hb hr (Or.inl ⟨_, rfl⟩) hlk hH dX3_plain_177 ?_
                have er99 : (v45, notF r3.2) = r := by rw [← er9, er2.symm.trans er10v, if_neg (by omega)]
                clear er9 er2
                subst er99
                exact ⟨fv45, x48, q46, pf43, rfl, hD48, fun i i0 i1 => (hp43 i i0 (by omega)), hE48, hN48⟩
            · -- 54N
              have hr9 : r.1 = fauP (rL σ tn) r4.1 := by rw [er2]; rw [← er8]; exact (mus_n (by assumption) a_54).trans (fauP_f (by assumption)).symm
              have hbad : r.1.2.2 = rL σ tn r4.1.1 := by rw [hr9]; exact (fau_3 (by assumption)).2.2
              have hr11 : r.1.1 = r4.1.1 := by rw [hr9]; exact (fau_3 (by assumption)).1
              have hbd9 := bd_b (s := r.1) (by rw [hbad]; exact hL_r4_1)
              refine r_callv (r_runV (As := [.ref (K.1 27)]) (rest := []) S hH hK (hX.at hH) XRd_b hl.1 hD43.c rfl (xm_X3_closeN l G M47_ K a σ P τ bo lo x43 (rL σ tn r4.1.1) (rE σ tn r4.1.1) r4.1.2.1 (d_ + 1) p_ pf43 27 _ hD43 (by decide) (tok_n hTE b_r4_1.1.1 b_r4_1.1.2 (k := 27) (by decide) (z := 141) rfl a_54) (by omega) (by omega) (by omega) hB8) (lw_V q978 q980 qs23 q108 q981) kd_X3_close rfl rfl dX3_plain_54 (hR := ⟨by dsimp only [rmX, rmD]; omega, by dsimp only [rmX, rmD]; omega⟩) (hf := ⟨by dsimp only [rmX]; omega, by dsimp only [rmX]; omega⟩)) hH hA (fun q9_54 pl_54 M9_54 H locs hT_54 => r_out hto hlk hT_54 (leaf_px hbad hL_r4_1 (hT_54.1)) (by omega) (by omega)) (fun M54_ H locs q_54 hH hz_54 => ?_)
              exact q_54.elim
          · -- 43N
            have hr9 : r.1 = fauP (rL σ tn) u1 := by rw [er2]; rw [if_pos (show d_ = 8 by omega)] at e3; cases e3; rfl
            have hbad : r.1.2.2 = rL σ tn u1.1 := by rw [hr9]; exact (fau_3 hf1).2.2
            have hr11 : r.1.1 = u1.1 := by rw [hr9]; exact (fau_3 hf1).1
            have hbd9 := bd_b (s := r.1) (by rw [hbad]; exact hL_u1)
            refine r_callv (r_runV (As := []) (rest := []) S hH hK (hX.at hH) XRd_b hl.1 hD1.c rfl (xm_X3_openN l G N1 K a σ P τ bo lo x (rL σ tn u1.1) (rE σ tn u1.1) u1.2.1 d_ p_ pf _ hD1 (by omega) (by omega) (by omega)) (lw_V q973 q975 qs22 q108 q976) kd_X3_open rfl rfl dX3_plain_43 (hR := ⟨by dsimp only [rmX, rmD]; omega, by dsimp only [rmX, rmD]; omega⟩) (hf := ⟨by dsimp only [rmX]; omega, by dsimp only [rmX]; omega⟩)) hH hA (fun q9_43 pl_43 M9_43 H locs hT_43 => r_out hto hlk hT_43 (leaf_px hbad hL_u1 (hT_43.1)) (by omega) (by omega)) (fun M43_ H locs q_43 hH hz_43 => ?_)
            exact q_43.elim
  refine n_iconst hx hb dX3_plain_0 ?_
  refine lv_istore_n hx hb dX3_plain_1 rfl hl (Nat.le_of_ble_eq_true rfl) (lv' := [(1, .int (iI 0)), (0, .ref (P 7))]) rfl (fun ls hl => ?_)
  have hl : lv_has ls 6 [(0, .ref (P 7)), (1, .int (iI 0))] := lv_sub hl [1, 0] rfl
  refine L2 402 M u 0 ?_ ?_ ?_ ?_ ?_ ?_ ?_ ?_ ?_ _ _ _ hH hl
  · exact hD
  · exact Ext.rf
  · exact hB
  · exact hf
  · exact ez
  · omega
  · omega
  · omega
  · omega
