set_option maxHeartbeats 1000000 in
theorem xp_X3_part (l : Launch) (G : MG) (M : Hp) (K : (Nat → Nat) × (Nat → Nat)) (n : Nat) (a : Nat) (σ : St) (tn : Nat) (P : Nat → Nat) (τ : Int → Int) (bo : Nat) (lo : Int) (x : XGh) (u : PS) (d_ : Int) (p_ : Int) (pf : Int → Option Nat) (r : PS × Mean) (sz : Nat) (IH : VPS l G K yX3_sum cX3_sum 3 2 n) (hTE : TE σ tn) (hD : RD G M a σ P τ bo lo x (rL σ tn u.1) (rE σ tn u.1) u.2.1 d_ p_ pf) (hB : BS tn u) (hf : u.2.2 = -1) (hd0 : 0 ≤ d_) (hd8 : d_ ≤ 8) (hp0 : 0 ≤ p_) (hpl : p_ ≤ u.2.1) (hKG : ∀ i, i < 21 → G.2.2 (100 + i) = K.1 i) (he : rm (rC σ tn) (rV σ tn) (rL σ tn) (n + 1) 0 d_ u = some r) : vx_Met l yX3_part (ws_ yX3_part cX3_part 2 (some (.object "BrothFlasks$Sum"))) (rmX (n + 1 + 12) ((4 * (r.1.1 - u.1)).toNat + 2 * bd r.1) ((16 * (r.1.1 - u.1)).toNat + 8 * bd r.1)) (xP G (XRd K M) [.ref (P 7)] M sz) (xQq G (DA M sz) (fun r' M' => r.1.2.2 = -1 ∧ ∃ (x' : XGh) (q : Nat) (pf' : Int → Option Nat), r' = some q ∧ RD G M' a σ P τ bo lo x' (rL σ tn r.1.1) (rE σ tn r.1.1) r.1.2.1 d_ p_ pf' ∧ (∀ i, 0 ≤ i → i < p_ → pf' i = pf i) ∧ Ext M M' x x' ∧ SumAt (r.1.2.1 - u.2.1).toNat (gI x') q r.2)) (rXc G (DA M sz) (fun pl M' => PXp G a σ P r.1 pl M')) ((4 * (r.1.1 - u.1)).toNat + 2 * bd r.1) ((16 * (r.1.1 - u.1)).toNat + 8 * bd r.1) (DA M sz) := by
  refine r_start (by decide) (Nat.le_of_ble_eq_true rfl) ?_
  intro p e s m below meth c ⟨S, hr, hlk, hH, hK, hX, hsz, hnm⟩ hto ls hl
  have hXN : XN s := hX.1
  subst hsz
  obtain ⟨hx, hb, hml, hown, hts⟩ := S
  have S : CallFix p m c _ _ s _ lw_all RX3 := ⟨hx, hb, hml, hown, hts⟩
  have hA : ∀ q, s.heap.size ≤ q → DA M s.heap.size q := fun q hq => Or.inr hq
  have hl : lv_has ls 2 [(0, .ref (P 7))] := hl
  have hTK := hTE.tk
  have hB8 := hTE.2.2
  have hn4 := hTE.2.1
  have hgo := rm_go hTK (n + 1) 0 d_ u r hB hf he
  have hgo1 := hgo.2.1
  have hgo3 := GoB_bd hgo
  have hbd1 := bd_le r.1
  have b_u := hB
  unfold BS at b_u
  have hr_u := tok_r hTE b_u.1.1 b_u.1.2
  have hL_u : rL σ tn u.1 ≠ -1 := by omega
  have hC_u := (hTK.2.2 u.1 b_u.1.1 b_u.1.2).1.1
  simp only [rm] at he
  refine lv_aload_n hx hb dX3_part_0 rfl (lv_at hl 0 rfl) ?_
  refine va_ldcS (tx := "[") (q := K.1 35) hx hb hown (hX.2.1 35 (by decide)) dX3_part_1 ?_
  refine x_calliF (x_runV (As := [.ref (K.1 35)]) (rest := []) S hH hK (hX.at hH) XRd_b hl.1 hD.c rfl (xm_X3_isWord l G M K a σ P τ bo lo x (rL σ tn u.1) (rE σ tn u.1) u.2.1 d_ p_ pf 35 _ hD (by decide) (by omega) (by omega) (by omega) hB8) (lw_V q908 q910 qs18 q108 q911) kd_X3_isWord rfl rfl dX3_part_3 (hR := ⟨by dsimp only [rmX, rmD]; omega, by dsimp only [rmX, rmD]; omega⟩) (hf := ⟨by dsimp only [rmX]; omega, by dsimp only [rmX]; omega⟩)) hH hA (fun H locs hH => ?_)
  refine W.eq (g2 := F0 m 6 ls (.int (iI (zb (rC σ tn u.1 = 191))) :: [])) (by rw [tok_zb hTE b_u.1.1 b_u.1.2 (k := 35) (by decide) (z := 191) rfl]) ?_
  refine z_if_eq (tgt := 26) hx hb dX3_part_6 (by decide) (fun c_6 => ?_) (fun c_6 => ?_)
  · -- 6T
    rw [if_neg c_6] at he
    refine lv_aload_n hx hb dX3_part_26 rfl (lv_at hl 0 rfl) ?_
    refine lv_aload_n hx hb dX3_part_27 rfl (lv_at hl 0 rfl) ?_
    refine x_get hx hb hts in_X3 hown hK hH hD.c rfl 6 (by decide) q313 (fun _ h9 => h9) rfl (by decide) dX3_part_28 ?_
    refine x_calliF (x_runV (As := [.ref (P 25)]) (rest := []) S hH hK (hX.at hH) XRd_b hl.1 hD.c rfl (xm_X3_which l G M K a σ P τ bo lo x (rL σ tn u.1) (rE σ tn u.1) u.2.1 d_ p_ pf 25 0 9 _ hD hD.w25 (by decide) hKG (by omega) (by omega) (by omega) hB8) (lw_V q904 q906 qs17 q108 q907) kd_X3_which rfl rfl dX3_part_31 (hR := ⟨by dsimp only [rmX, rmD]; omega, by dsimp only [rmX, rmD]; omega⟩) (hf := ⟨by dsimp only [rmX]; omega, by dsimp only [rmX]; omega⟩)) hH hA (fun H locs hH => ?_)
    refine n_name (fun w31 e_w31 => ?_)
    rw [wh_w hTE b_u.1.1 b_u.1.2] at e_w31
    have h_w31 : (17 ≤ rC σ tn u.1 ∧ rC σ tn u.1 ≤ 23 ∧ w31 = rC σ tn u.1 - 17) ∨ (rC σ tn u.1 = 24 ∧ w31 = 8) ∨ (¬ (17 ≤ rC σ tn u.1 ∧ rC σ tn u.1 ≤ 24) ∧ w31 = -1) := by (repeat' split at e_w31) <;> omega
    clear e_w31
    refine lv_istore_n hx hb dX3_part_34 rfl hl (Nat.le_of_ble_eq_true rfl) (lv' := [(1, .int (iI w31)), (0, .ref (P 7))]) rfl (fun ls hl => ?_)
    refine lv_aload_n hx hb dX3_part_35 rfl (lv_at hl 1 rfl) ?_
    refine lv_iload_n hx hb dX3_part_36 rfl (lv_at hl 0 rfl) ?_
    refine n_iconst hx hb dX3_part_37 ?_
    refine n_icmp_ne (tgt := 73) hx hb (r32 (by omega)) (r32 (by omega)) dX3_part_38 (by decide) (fun c_38 => ?_) (fun c_38 => ?_)
    · -- 38T
      refine n_iconst hx hb dX3_part_73 ?_
      refine lv_goto (tgt := 78) hx hb dX3_part_74 (by decide) ?_
      refine x_callv (x_runV (As := [.int (iI 1)]) (rest := []) S hH hK (hX.at hH) XRd_b hl.1 hD.c rfl (xm_X3_mustY l G M K a σ P τ bo lo x (rL σ tn u.1) (rE σ tn u.1) u.2.1 d_ p_ pf 1 _ hD (by omega)) (lw_V q833 q835 qs14 q108 q836) kd_X3_must rfl rfl dX3_part_78 (hR := ⟨by dsimp only [rmX, rmD]; omega, by dsimp only [rmX, rmD]; omega⟩) (hf := ⟨by dsimp only [rmX]; omega, by dsimp only [rmX]; omega⟩)) hH hA (fun M78_ H locs q_78 hH hz_78 => ?_)
      have hH := XV_to hH q_78
      refine lv_iload_n hx hb dX3_part_81 rfl (lv_at hl 0 rfl) ?_
      refine n_iconst hx hb dX3_part_82 ?_
      refine n_icmp_ne (tgt := 104) hx hb (r32 (by omega)) (r32 (by omega)) dX3_part_83 (by decide) (fun c_83 => ?_) (fun c_83 => ?_)
      · -- 83T
        refine lv_aload_n hx hb dX3_part_104 rfl (lv_at hl 1 rfl) ?_
        by_cases a_105 : u.2.1 < 50
        · -- 105Y
          have er0 : r = (leaP (rL σ tn) u, partF (rC σ tn u.1) (rV σ tn u.1)) := by
            split at he
            · cases he; rfl
            · exfalso; omega
          refine x_callv (x_runV (As := []) (rest := []) S hH hK (hX.at hH) XRd_b hl.1 hD.c rfl (xm_X3_leafY l G M K a σ P τ bo lo x (rL σ tn u.1) (rE σ tn u.1) u.2.1 d_ p_ pf _ hD (by omega) (by omega)) (lw_V q986 q988 qs25 q108 q989) kd_X3_leaf rfl rfl dX3_part_105 (hR := ⟨by dsimp only [rmX, rmD]; omega, by dsimp only [rmX, rmD]; omega⟩) (hf := ⟨by dsimp only [rmX]; omega, by dsimp only [rmX]; omega⟩)) hH hA (fun M105_ H locs q_105 hH hz_105 => ?_)
          obtain ⟨hD1, hX1⟩ := q_105
          refine lv_aload_n hx hb dX3_part_108 rfl (lv_at hl 1 rfl) ?_
          refine x_callv (x_runV (As := []) (rest := []) S hH hK (hX.at hH) XRd_b hl.1 hD1.c rfl (xm_X3_next l G M105_ K a σ P τ bo lo x (rL σ tn u.1) (rE σ tn u.1) (u.2.1 + 1) d_ p_ pf _ hD1 hB8 (by omega) (by omega) (by omega)) (lw_V q823 q825 qs13 q108 q826) kd_X3_next rfl rfl dX3_part_109 (hR := ⟨by dsimp only [rmX, rmD]; omega, by dsimp only [rmX, rmD]; omega⟩) (hf := ⟨by dsimp only [rmX]; omega, by dsimp only [rmX]; omega⟩)) hH hA (fun M109_ H locs q_109 hH hz_109 => ?_)
          obtain ⟨hD3, hX3⟩ := q_109
          have hE3 := hX1.tr hX3
          obtain ⟨v4, ev4⟩ : ∃ v, v = leaP (rL σ tn) u := ⟨_, rfl⟩
          have ew4 := ev4.trans (lea_n hf (by omega))
          have e1v4 : v4.1 = u.1 + 1 := by rw [ew4]
          have e2v4 : v4.2.1 = u.2.1 + 1 := by rw [ew4]
          have fv4 : v4.2.2 = -1 := by rw [ew4]
          have hBv4 : BS tn v4 := by rw [ev4]; exact BS_lea hTK hB hf (by omega)
          have b_v4 := hBv4
          unfold BS at b_v4
          have hr_v4 := tok_r hTE b_v4.1.1 b_v4.1.2
          have hL_v4 : rL σ tn v4.1 ≠ -1 := by omega
          have hC_v4 := (hTK.2.2 v4.1 b_v4.1.1 b_v4.1.2).1.1
          have en4 := tok_nx hTE b_u.1.1 (tok_z hTE b_u.1.1 b_u.1.2 (by omega))
          have hDv4 := hD3
          rw [en4.1, en4.2, ← e1v4, ← e2v4] at hDv4
          refine x_new (ci := 12) hx hb hts in_X14 tyX14 tyX14_ok hown q1008 q1009 q127 hK hH hA rfl [.int (iI 0)] (fun j hj => by rcases (show j = 0 by omega) with rfl <;> rfl) (eN_id (by decide)) (by dsimp only [rmX]; omega) (by dsimp only [rmX]; omega) dX3_part_112 (fun q5 H hq5 hH => ?_)
          obtain ⟨M5, e_M5⟩ : ∃ M5, M5 = hs M109_ q5 (oB 12 [.int (iI 0)]) := ⟨_, rfl⟩
          have hH := XV_to hH e_M5.symm
          have f5 : M5 q5 = some (oB 12 [.int (iI 0)]) := by rw [e_M5]; exact hs_s
          obtain ⟨x6, hD6, hX6, hw6_q5⟩ := hDv4.nw (e := oB 12 [.int (iI 0)]) hq5
          rw [← e_M5] at hD6 hX6
          have hno_q5 := Ext.no hE3 hq5
          have hE6 := hE3.tr hX6
          refine lv_dup hx hb dX3_part_115 rfl ?_
          refine lv_iload_n hx hb dX3_part_116 rfl (lv_at hl 0 rfl) ?_
          refine x_callv (x_runI (As := [.int (iI w31)]) (rest := [.ref q5]) S hH hK (fun _ _ hW => XN.warm hW hXN) XN_b hl.1 (xm_X14_init l G M5 q5 w31 _ f5) (lw_meth q1012) q127 q1010 q1011 kd_X14_init rfl rfl dX3_part_117 (hR := ⟨by dsimp only [rmX, rmD]; omega, by dsimp only [rmX, rmD]; omega⟩) (hf := ⟨by dsimp only [rmX]; omega, by dsimp only [rmX]; omega⟩)) hH hA (fun M117_ H locs q_117 hH hz_117 => ?_)
          obtain ⟨x7, hD7, hE7, hI7, hu7, hO7⟩ := RD.node (e := oB 12 [.int (iI w31)]) hD6 hE6 hw6_q5 hno_q5
          rw [← q_117] at hD7 hE7 hO7
          have hN7 : SumAt 1 (gI x7) q5 (partF (rC σ tn u.1) (rV σ tn u.1)) := Or.inr (Or.inl ⟨w31, hI7, by omega, partF_w (by omega)⟩)
          have er9 : (v4, partF (rC σ tn u.1) (rV σ tn u.1)) = r := by rw [er0, ev4]
          have er1 : r.1 = v4 := by rw [← er9]
          have er11 : r.1.1 = v4.1 := by rw [er1]
          have er12 : r.1.2.1 = v4.2.1 := by rw [er1]
          have hbd9 : bd r.1 = 0 := by rw [er1]; exact bd_f fv4
          refine W.widen (k := ((4 * (r.1.1 - u.1)).toNat + 2 * bd r.1)) (n := ((16 * (r.1.1 - u.1)).toNat + 8 * bd r.1)) (by omega) (by omega) ?_
          refine vx_ret ?_
          refine x_aret (r := some q5) hx hb hr (Or.inl ⟨_, rfl⟩) hlk hH dX3_part_120 ?_
          subst er9
          exact ⟨fv4, x7, q5, pf, rfl, hD7, fun i _ _ => rfl, hE7, (SumAt_mono (by first | omega | (dsimp only; omega)) hN7)⟩
        · -- 105N
          have hr9 : r.1 = leaP (rL σ tn) u := by
            split at he
            · cases he; rfl
            · exfalso; omega
          have hbad : r.1.2.2 = rL σ tn u.1 := by rw [hr9, lea_50 hf (by omega) hL_u]
          have hr11 : r.1.1 = u.1 := by rw [hr9, lea_50 hf (by omega) hL_u]
          have hbd9 := bd_b (s := r.1) (by rw [hbad]; exact hL_u)
          refine r_callv (r_runV (As := []) (rest := []) S hH hK (hX.at hH) XRd_b hl.1 hD.c rfl (xm_X3_leafN l G M K a σ P τ bo lo x (rL σ tn u.1) (rE σ tn u.1) u.2.1 d_ p_ pf _ hD (by omega) (by omega) (by omega)) (lw_V q986 q988 qs25 q108 q989) kd_X3_leaf rfl rfl dX3_part_105 (hR := ⟨by dsimp only [rmX, rmD]; omega, by dsimp only [rmX, rmD]; omega⟩) (hf := ⟨by dsimp only [rmX]; omega, by dsimp only [rmX]; omega⟩)) hH hA (fun q9_105 pl_105 M9_105 H locs hT_105 => r_out hto hlk hT_105 (leaf_px hbad hL_u (hT_105.1)) (by omega) (by omega)) (fun M105_ H locs q_105 hH hz_105 => ?_)
          exact q_105.elim
      · exact absurd c_83 c_38
    · -- 38F
      refine lv_aload_n hx hb dX3_part_41 rfl (lv_at hl 1 rfl) ?_
      refine x_get hx hb hts in_X3 hown hK hH hD.c rfl 0 (by decide) q307 (fun _ h9 => h9) rfl (by decide) dX3_part_42 ?_
      refine lv_aload_n hx hb dX3_part_45 rfl (lv_at hl 1 rfl) ?_
      refine x_get hx hb hts in_X3 hown hK hH hD.c rfl 9 (by decide) q316 (fun _ h9 => h9) rfl (by decide) dX3_part_46 ?_
      refine x_getN hx hb hts in_X0 hown hK hH hD.o rfl 6 (by decide) hXN q346 (fun _ h9 => h9) rfl (by decide) dX3_part_49 ?_
      refine n_icmp_ge (tgt := 77) hx hb (r32 (by omega)) (r32 (by omega)) dX3_part_52 (by decide) (fun c_52 => ?_) (fun c_52 => ?_)
      · -- 52T
        have hc50 : ¬ rC σ tn u.1 = 50 := fun z => by have z9 := (tok_d hTE b_u.1.1 b_u.1.2).mp z; omega
        refine n_iconst hx hb dX3_part_77 ?_
        have hr9 : r.1 = fauP (rL σ tn) u := by
          split at he
          · exfalso; omega
          · cases he; rfl
        have hbad : r.1.2.2 = rL σ tn u.1 := by rw [hr9]; exact (fau_3 hf).2.2
        have hr11 : r.1.1 = u.1 := by rw [hr9]; exact (fau_3 hf).1
        have hbd9 := bd_b (s := r.1) (by rw [hbad]; exact hL_u)
        refine r_callv (r_runV (As := [.int (iI 0)]) (rest := []) S hH hK (hX.at hH) XRd_b hl.1 hD.c rfl (xm_X3_mustN l G M K a σ P τ bo lo x (rL σ tn u.1) (rE σ tn u.1) u.2.1 d_ p_ pf 0 _ hD (by omega)) (lw_V q833 q835 qs14 q108 q836) kd_X3_must rfl rfl dX3_part_78 (hR := ⟨by dsimp only [rmX, rmD]; omega, by dsimp only [rmX, rmD]; omega⟩) (hf := ⟨by dsimp only [rmX]; omega, by dsimp only [rmX]; omega⟩)) hH hA (fun q9_78 pl_78 M9_78 H locs hT_78 => r_out hto hlk hT_78 (leaf_px hbad hL_u (hT_78.1)) (by omega) (by omega)) (fun M78_ H locs q_78 hH hz_78 => ?_)
        exact q_78.elim
      · -- 52F
        refine lv_aload_n hx hb dX3_part_55 rfl (lv_at hl 1 rfl) ?_
        refine x_get hx hb hts in_X3 hown hK hH hD.c rfl 9 (by decide) q316 (fun _ h9 => h9) rfl (by decide) dX3_part_56 ?_
        refine x_getN hx hb hts in_X0 hown hK hH hD.o rfl 5 (by decide) hXN q344 (fun _ h9 => h9) rfl (by decide) dX3_part_59 ?_
        refine lv_aload_n hx hb dX3_part_62 rfl (lv_at hl 1 rfl) ?_
        refine x_get hx hb hts in_X3 hown hK hH hD.c rfl 0 (by decide) q307 (fun _ h9 => h9) rfl (by decide) dX3_part_63 ?_
        refine x_bald hx hb hK hH hD.tp (by omega) (by omega) (Nat.le_of_ble_eq_true rfl) dX3_part_66 ?_
        have hb_66 := hB8 (rL σ tn u.1)
        refine W.eq (g2 := F0 m 67 ls (.int (iI (σ 7 (rL σ tn u.1))) :: .ref (P 7) :: [])) (by first | (rw [hD.ht (i := rL σ tn u.1) (by omega) (by omega)]; done) | (rw [hD.ht (i := rL σ tn u.1) (by omega) (by omega)]; rfl)) ?_
        refine x_calliF (x_runSN (As := [.int (iI (σ 7 (rL σ tn u.1)))]) (rest := [.ref (P 7)]) S hH hK hXN hl.1 (xm_X0_isDigit l G M (σ 7 (rL σ tn u.1)) _ (r32 (by omega))) (lw_meth q832) q831 q105 q830 kd_X0_isDigit rfl rfl dX3_part_67 (hR := ⟨by dsimp only [rmX, rmD]; omega, by dsimp only [rmX, rmD]; omega⟩) (hf := ⟨by dsimp only [rmX]; omega, by dsimp only [rmX]; omega⟩)) hH hA (fun H locs hH => ?_)
        refine z_if_eq (tgt := 77) hx hb dX3_part_70 (by decide) (fun c_70 => ?_) (fun c_70 => ?_)
        · -- 70T
          have hc50 : ¬ rC σ tn u.1 = 50 := fun z => c_70 ((tok_d hTE b_u.1.1 b_u.1.2).mp z).2
          refine n_iconst hx hb dX3_part_77 ?_
          have hr9 : r.1 = fauP (rL σ tn) u := by
            split at he
            · exfalso; omega
            · cases he; rfl
          have hbad : r.1.2.2 = rL σ tn u.1 := by rw [hr9]; exact (fau_3 hf).2.2
          have hr11 : r.1.1 = u.1 := by rw [hr9]; exact (fau_3 hf).1
          have hbd9 := bd_b (s := r.1) (by rw [hbad]; exact hL_u)
          refine r_callv (r_runV (As := [.int (iI 0)]) (rest := []) S hH hK (hX.at hH) XRd_b hl.1 hD.c rfl (xm_X3_mustN l G M K a σ P τ bo lo x (rL σ tn u.1) (rE σ tn u.1) u.2.1 d_ p_ pf 0 _ hD (by omega)) (lw_V q833 q835 qs14 q108 q836) kd_X3_must rfl rfl dX3_part_78 (hR := ⟨by dsimp only [rmX, rmD]; omega, by dsimp only [rmX, rmD]; omega⟩) (hf := ⟨by dsimp only [rmX]; omega, by dsimp only [rmX]; omega⟩)) hH hA (fun q9_78 pl_78 M9_78 H locs hT_78 => r_out hto hlk hT_78 (leaf_px hbad hL_u (hT_78.1)) (by omega) (by omega)) (fun M78_ H locs q_78 hH hz_78 => ?_)
          exact q_78.elim
        · -- 70F
          have hc50 : rC σ tn u.1 = 50 := (tok_d hTE b_u.1.1 b_u.1.2).mpr ⟨by omega, c_70⟩
          have htz := hr_u.2.2.2 (tok_z hTE b_u.1.1 b_u.1.2 (by omega))
          refine n_iconst hx hb dX3_part_73 ?_
          refine lv_goto (tgt := 78) hx hb dX3_part_74 (by decide) ?_
          refine x_callv (x_runV (As := [.int (iI 1)]) (rest := []) S hH hK (hX.at hH) XRd_b hl.1 hD.c rfl (xm_X3_mustY l G M K a σ P τ bo lo x (rL σ tn u.1) (rE σ tn u.1) u.2.1 d_ p_ pf 1 _ hD (by omega)) (lw_V q833 q835 qs14 q108 q836) kd_X3_must rfl rfl dX3_part_78 (hR := ⟨by dsimp only [rmX, rmD]; omega, by dsimp only [rmX, rmD]; omega⟩) (hf := ⟨by dsimp only [rmX]; omega, by dsimp only [rmX]; omega⟩)) hH hA (fun M78_ H locs q_78 hH hz_78 => ?_)
          have hH := XV_to hH q_78
          refine lv_iload_n hx hb dX3_part_81 rfl (lv_at hl 0 rfl) ?_
          refine n_iconst hx hb dX3_part_82 ?_
          refine n_icmp_ne (tgt := 104) hx hb (r32 (by omega)) (r32 (by omega)) dX3_part_83 (by decide) (fun c_83 => ?_) (fun c_83 => ?_)
          · exact absurd c_38 c_83
          · -- 83F
            refine lv_aload_n hx hb dX3_part_86 rfl (lv_at hl 1 rfl) ?_
            by_cases a_87 : u.2.1 < 50
            · -- 87Y
              refine x_callv (x_runV (As := []) (rest := []) S hH hK (hX.at hH) XRd_b hl.1 hD.c rfl (xm_X3_leafY l G M K a σ P τ bo lo x (rL σ tn u.1) (rE σ tn u.1) u.2.1 d_ p_ pf _ hD (by omega) (by omega)) (lw_V q986 q988 qs25 q108 q989) kd_X3_leaf rfl rfl dX3_part_87 (hR := ⟨by dsimp only [rmX, rmD]; omega, by dsimp only [rmX, rmD]; omega⟩) (hf := ⟨by dsimp only [rmX]; omega, by dsimp only [rmX]; omega⟩)) hH hA (fun M87_ H locs q_87 hH hz_87 => ?_)
              obtain ⟨hD8, hX8⟩ := q_87
              refine x_new (ci := 11) hx hb hts in_X13 tyX13 tyX13_ok hown q990 q991 q126 hK hH hA rfl [.int (iI 0)] (fun j hj => by rcases (show j = 0 by omega) with rfl <;> rfl) (eN_id (by decide)) (by dsimp only [rmX]; omega) (by dsimp only [rmX]; omega) dX3_part_90 (fun q10 H hq10 hH => ?_)
              obtain ⟨M10, e_M10⟩ : ∃ M10, M10 = hs M87_ q10 (oB 11 [.int (iI 0)]) := ⟨_, rfl⟩
              have hH := XV_to hH e_M10.symm
              have f10 : M10 q10 = some (oB 11 [.int (iI 0)]) := by rw [e_M10]; exact hs_s
              obtain ⟨x11, hD11, hX11, hw11_q10⟩ := hD8.nw (e := oB 11 [.int (iI 0)]) hq10
              rw [← e_M10] at hD11 hX11
              have hno_q10 := Ext.no hX8 hq10
              have hE11 := hX8.tr hX11
              refine lv_dup hx hb dX3_part_93 rfl ?_
              refine lv_aload_n hx hb dX3_part_94 rfl (lv_at hl 1 rfl) ?_
              refine lv_ldc (v := iI 100000) hx hb hown (hts _ q992) dX3_part_95 ?_
              by_cases a_97 : rV σ tn u.1 ≤ 100000
              · -- 97Y
                have er0 : r = (leaP (rL σ tn) u, partF (rC σ tn u.1) (rV σ tn u.1)) := by
                  split at he
                  · cases he; rfl
                  · exfalso; omega
                have hvv := tok_v hTE b_u.1.1 b_u.1.2 (by omega)
                refine x_calli (x_runV (As := [.int (iI 100000)]) (rest := [.ref q10, .ref q10]) S hH hK (hX.at hH) XRd_b hl.1 hD11.c rfl (xm_X3_numberY l G M10 K a σ P τ bo lo x11 (rL σ tn u.1) (rE σ tn u.1) (u.2.1 + 1) d_ p_ pf 100000 _ hD11 rfl hvv.2 (by omega) (by omega) hB8 (by omega) (by omega) (by omega) (by rw [← hvv.1]; exact a_97)) (lw_V q993 q995 qs26 q108 q996) kd_X3_number rfl rfl dX3_part_97 (hR := ⟨by dsimp only [rmX, rmD]; omega, by dsimp only [rmX, rmD]; omega⟩) (hf := ⟨by dsimp only [rmX]; omega, by dsimp only [rmX]; omega⟩)) hH hA (fun z97 M97_ H locs q_97 hH hz_97 => ?_)
                obtain ⟨ez_97, hD12, hX12⟩ := q_97
                subst ez_97
                have hE12 := hE11.tr hX12
                obtain ⟨f12_q10, hw12_q10⟩ := hX12.2.2 _ _ f10 hw11_q10
                obtain ⟨v13, ev13⟩ : ∃ v, v = leaP (rL σ tn) u := ⟨_, rfl⟩
                have ew13 := ev13.trans (lea_n hf (by omega))
                have e1v13 : v13.1 = u.1 + 1 := by rw [ew13]
                have e2v13 : v13.2.1 = u.2.1 + 1 := by rw [ew13]
                have fv13 : v13.2.2 = -1 := by rw [ew13]
                have hBv13 : BS tn v13 := by rw [ev13]; exact BS_lea hTK hB hf (by omega)
                have b_v13 := hBv13
                unfold BS at b_v13
                have hr_v13 := tok_r hTE b_v13.1.1 b_v13.1.2
                have hL_v13 : rL σ tn v13.1 ≠ -1 := by omega
                have hC_v13 := (hTK.2.2 v13.1 b_v13.1.1 b_v13.1.2).1.1
                have en13 := tok_nx hTE b_u.1.1 (tok_z hTE b_u.1.1 b_u.1.2 (by omega))
                have hDv13 := hD12
                rw [en13.1, en13.2, ← e1v13, ← e2v13] at hDv13
                have hvn13 : vlN (σ 7) (rL σ tn u.1) (rE σ tn u.1 - rL σ tn u.1).toNat = rV σ tn u.1 := hvv.1.symm
                refine W.eq (g2 := F0 m 100 ls (.int (iI (rV σ tn u.1)) :: .ref q10 :: .ref q10 :: [])) (by rw [hvv.1]) ?_
                refine x_callv (x_runI (As := [.int (iI (rV σ tn u.1))]) (rest := [.ref q10]) S hH hK (fun _ _ hW => XN.warm hW hXN) XN_b hl.1 (xm_X13_init l G M97_ q10 (rV σ tn u.1) _ f12_q10) (lw_meth q999) q126 q997 q998 kd_X13_init rfl rfl dX3_part_100 (hR := ⟨by dsimp only [rmX, rmD]; omega, by dsimp only [rmX, rmD]; omega⟩) (hf := ⟨by dsimp only [rmX]; omega, by dsimp only [rmX]; omega⟩)) hH hA (fun M100_ H locs q_100 hH hz_100 => ?_)
                obtain ⟨x14, hD14, hE14, hI14, hu14, hO14⟩ := RD.node (e := oB 11 [.int (iI (rV σ tn u.1))]) hDv13 hE12 hw12_q10 hno_q10
                rw [← q_100] at hD14 hE14 hO14
                have hN14 : SumAt 1 (gI x14) q10 (partF (rC σ tn u.1) (rV σ tn u.1)) := Or.inl ⟨rV σ tn u.1, hI14, ⟨(hTK.2.2 u.1 b_u.1.1 b_u.1.2).2.1.1, a_97⟩, partF_n (by omega)⟩
                have er9 : (v13, partF (rC σ tn u.1) (rV σ tn u.1)) = r := by rw [er0, ev13]
                have er1 : r.1 = v13 := by rw [← er9]
                have er11 : r.1.1 = v13.1 := by rw [er1]
                have er12 : r.1.2.1 = v13.2.1 := by rw [er1]
                have hbd9 : bd r.1 = 0 := by rw [er1]; exact bd_f fv13
                refine W.widen (k := ((4 * (r.1.1 - u.1)).toNat + 2 * bd r.1)) (n := ((16 * (r.1.1 - u.1)).toNat + 8 * bd r.1)) (by omega) (by omega) ?_
                refine vx_ret ?_
                refine x_aret (r := some q10) hx hb hr (Or.inl ⟨_, rfl⟩) hlk hH dX3_part_103 ?_
                subst er9
                exact ⟨fv13, x14, q10, pf, rfl, hD14, fun i _ _ => rfl, hE14, (SumAt_mono (by first | omega | (dsimp only; omega)) hN14)⟩
              · -- 97N
                have hvv := tok_v hTE b_u.1.1 b_u.1.2 (by omega)
                have hr9 : r.1 = fauP (rL σ tn) u := by
                  split at he
                  · exfalso; omega
                  · cases he; rfl
                have hbad : r.1.2.2 = rL σ tn u.1 := by rw [hr9]; exact (fau_3 hf).2.2
                have hr11 : r.1.1 = u.1 := by rw [hr9]; exact (fau_3 hf).1
                have hbd9 := bd_b (s := r.1) (by rw [hbad]; exact hL_u)
                refine r_calli (r_runV (As := [.int (iI 100000)]) (rest := [.ref q10, .ref q10]) S hH hK (hX.at hH) XRd_b hl.1 hD11.c rfl (xm_X3_numberN l G M10 K a σ P τ bo lo x11 (rL σ tn u.1) (rE σ tn u.1) (u.2.1 + 1) d_ p_ pf 100000 _ hD11 rfl hvv.2 (by omega) (by omega) hB8 (by omega) (by omega) (by omega) (by rw [← hvv.1]; exact a_97)) (lw_V q993 q995 qs26 q108 q996) kd_X3_number rfl rfl dX3_part_97 (hR := ⟨by dsimp only [rmX, rmD]; omega, by dsimp only [rmX, rmD]; omega⟩) (hf := ⟨by dsimp only [rmX]; omega, by dsimp only [rmX]; omega⟩)) hH hA (fun q9_97 pl_97 M9_97 H locs hT_97 => r_out hto hlk hT_97 (leaf_px hbad hL_u (hT_97.1)) (by omega) (by omega)) (fun z97 M97_ H locs q_97 hH hz_97 => ?_)
                exact q_97.elim
            · -- 87N
              have hx9 : r.1 = leaP (rL σ tn) u ∨ r.1 = fauP (rL σ tn) u := by
                split at he
                · cases he; exact Or.inl rfl
                · cases he; exact Or.inr rfl
              have hr9 : r.1.2.2 = rL σ tn u.1 ∧ r.1.1 = u.1 := by
                rcases hx9 with z | z
                · rw [z, lea_50 hf (by omega) hL_u]; exact ⟨rfl, rfl⟩
                · rw [z]; exact ⟨(fau_3 hf).2.2, (fau_3 hf).1⟩
              have hbad := hr9.1
              have hr11 := hr9.2
              have hbd9 := bd_b (s := r.1) (by rw [hbad]; exact hL_u)
              refine r_callv (r_runV (As := []) (rest := []) S hH hK (hX.at hH) XRd_b hl.1 hD.c rfl (xm_X3_leafN l G M K a σ P τ bo lo x (rL σ tn u.1) (rE σ tn u.1) u.2.1 d_ p_ pf _ hD (by omega) (by omega) (by omega)) (lw_V q986 q988 qs25 q108 q989) kd_X3_leaf rfl rfl dX3_part_87 (hR := ⟨by dsimp only [rmX, rmD]; omega, by dsimp only [rmX, rmD]; omega⟩) (hf := ⟨by dsimp only [rmX]; omega, by dsimp only [rmX]; omega⟩)) hH hA (fun q9_87 pl_87 M9_87 H locs hT_87 => r_out hto hlk hT_87 (leaf_px hbad hL_u (hT_87.1)) (by omega) (by omega)) (fun M87_ H locs q_87 hH hz_87 => ?_)
              exact q_87.elim
  · -- 6F
    rw [if_pos c_6] at he
    refine lv_aload_n hx hb dX3_part_9 rfl (lv_at hl 0 rfl) ?_
    by_cases a_10 : d_ < 8
    · -- 10Y
      rw [if_neg (show ¬ d_ = 8 by omega)] at he
      obtain ⟨r1, e1, er9⟩ := Option.map_eq_some_iff.mp he
      refine x_callv (x_runV (As := []) (rest := []) S hH hK (hX.at hH) XRd_b hl.1 hD.c rfl (xm_X3_openY l G M K a σ P τ bo lo x (rL σ tn u.1) (rE σ tn u.1) u.2.1 d_ p_ pf _ hD (by omega) (by omega) hB8 (by omega) (by omega) (by omega)) (lw_V q973 q975 qs22 q108 q976) kd_X3_open rfl rfl dX3_part_10 (hR := ⟨by dsimp only [rmX, rmD]; omega, by dsimp only [rmX, rmD]; omega⟩) (hf := ⟨by dsimp only [rmX]; omega, by dsimp only [rmX]; omega⟩)) hH hA (fun M10_ H locs q_10 hH hz_10 => ?_)
      obtain ⟨hD15, hX15⟩ := q_10
      obtain ⟨v16, ev16⟩ : ∃ v, v = advP u := ⟨_, rfl⟩
      have ew16 : v16 = (u.1 + 1, u.2.1, u.2.2) := ev16
      have e1v16 : v16.1 = u.1 + 1 := by rw [ew16]
      have e2v16 : v16.2.1 = u.2.1 := by rw [ew16]
      have fv16 : v16.2.2 = -1 := by rw [ew16]; exact hf
      have hBv16 : BS tn v16 := by rw [ev16]; exact BS_adv hTK hB (by omega)
      have b_v16 := hBv16
      unfold BS at b_v16
      have hr_v16 := tok_r hTE b_v16.1.1 b_v16.1.2
      have hL_v16 : rL σ tn v16.1 ≠ -1 := by omega
      have hC_v16 := (hTK.2.2 v16.1 b_v16.1.1 b_v16.1.2).1.1
      have en16 := tok_nx hTE b_u.1.1 (tok_z hTE b_u.1.1 b_u.1.2 (by omega))
      have hDv16 := hD15
      rw [en16.1, en16.2, ← e1v16, ← e2v16] at hDv16
      refine lv_aload_n hx hb dX3_part_13 rfl (lv_at hl 0 rfl) ?_
      rw [← ev16] at e1
      have hg1 := rm_go hTK n 2 _ _ _ hBv16 fv16 e1
      have er8 : r.1 = musP (rC σ tn) (rL σ tn) 193 r1.1 := by rw [← er9]
      have hmm := mus_m (C := rC σ tn) (L := rL σ tn) (c := 193) (s := r1.1)
      rw [← er8] at hmm
      have hm2 := hg1.2.1
      have hm3 := hmm.1
      have hm4 := hmm.2.1
      have hbd2 := bd_le r1.1
      refine r_callq (r_runV (As := []) (rest := []) S hH hK (hX.at hH) XRd_b hl.1 hDv16.c rfl (IH M10_ a σ tn P τ bo lo x v16 (d_ + 1) p_ pf r1 _ hTE hDv16 hBv16 fv16 (by omega) (by omega) (by omega) (by omega) hKG e1) (lw_V q960 q962 qs19 q108 q963) kd_X3_sum rfl rfl dX3_part_14 (hR := ⟨by dsimp only [rmX, rmD]; omega, by dsimp only [rmX, rmD]; omega⟩) (hf := ⟨by dsimp only [rmX]; omega, by dsimp only [rmX]; omega⟩)) hH hA (fun q9_14 pl_14 M9_14 H locs hT_14 => r_out hto hlk hT_14 (sub_px hmm.2.2 hT_14.1) (by omega) (by omega)) (fun r9_14 M14_ H locs q_14 hH hz_14 => ?_)
      obtain ⟨f17, x17, q17, pf17, er17, hD17, hp17, hX17, hT17⟩ := q_14
      subst er17
      have hb17 := bd_f f17
      have hE17 := hX15.tr hX17
      have hBB17 := hg1.1
      have b_r1_1 := hBB17
      unfold BS at b_r1_1
      have hr_r1_1 := tok_r hTE b_r1_1.1.1 b_r1_1.1.2
      have hL_r1_1 : rL σ tn r1.1.1 ≠ -1 := by omega
      have hC_r1_1 := (hTK.2.2 r1.1.1 b_r1_1.1.1 b_r1_1.1.2).1.1
      have h50_r1_1 := b_r1_1.2.2.2 f17
      refine lv_astore_n hx hb dX3_part_17 rfl hl (Nat.le_of_ble_eq_true rfl) (lv' := [(1, .ref q17), (0, .ref (P 7))]) rfl (fun ls hl => ?_)
      refine lv_aload_n hx hb dX3_part_18 rfl (lv_at hl 1 rfl) ?_
      refine va_ldcS (tx := "]") (q := K.1 36) hx hb hown (hX.2.1 36 (by decide)) dX3_part_19 ?_
      by_cases a_21 : rC σ tn r1.1.1 = 193
      · -- 21Y
        refine x_callv (x_runV (As := [.ref (K.1 36)]) (rest := []) S hH hK (hX.at hH) XRd_b hl.1 hD17.c rfl (xm_X3_closeY l G M14_ K a σ P τ bo lo x17 (rL σ tn r1.1.1) (rE σ tn r1.1.1) r1.1.2.1 (d_ + 1) p_ pf17 36 _ hD17 (by decide) (tok_y hTE b_r1_1.1.1 b_r1_1.1.2 (k := 36) (by decide) (z := 193) rfl a_21) (by omega) (by omega) (by omega) (by omega) (by omega) hB8 (by omega) (by omega) (by omega)) (lw_V q978 q980 qs23 q108 q981) kd_X3_close rfl rfl dX3_part_21 (hR := ⟨by dsimp only [rmX, rmD]; omega, by dsimp only [rmX, rmD]; omega⟩) (hf := ⟨by dsimp only [rmX]; omega, by dsimp only [rmX]; omega⟩)) hH hA (fun M21_ H locs q_21 hH hz_21 => ?_)
        obtain ⟨hD18, hX18⟩ := q_21
        have hE18 := hE17.tr hX18
        obtain ⟨v19, ev19⟩ : ∃ v, v = advP r1.1 := ⟨_, rfl⟩
        have ew19 : v19 = (r1.1.1 + 1, r1.1.2.1, r1.1.2.2) := ev19
        have e1v19 : v19.1 = r1.1.1 + 1 := by rw [ew19]
        have e2v19 : v19.2.1 = r1.1.2.1 := by rw [ew19]
        have fv19 : v19.2.2 = -1 := by rw [ew19]; exact f17
        have hBv19 : BS tn v19 := by rw [ev19]; exact BS_adv hTK hBB17 (by omega)
        have b_v19 := hBv19
        unfold BS at b_v19
        have hr_v19 := tok_r hTE b_v19.1.1 b_v19.1.2
        have hL_v19 : rL σ tn v19.1 ≠ -1 := by omega
        have hC_v19 := (hTK.2.2 v19.1 b_v19.1.1 b_v19.1.2).1.1
        have en19 := tok_nx hTE b_r1_1.1.1 (tok_z hTE b_r1_1.1.1 b_r1_1.1.2 (by omega))
        have hDv19 := hD18
        rw [en19.1, en19.2, ← e1v19, ← e2v19] at hDv19
        have hDc19 := hDv19
        rw [show d_ + 1 - 1 = d_ by omega] at hDc19
        rw [mus_y (show r1.1.2.2 = -1 by assumption) a_21, ← ev19] at er9
        have er1 : r.1 = v19 := by rw [← er9]
        have er11 : r.1.1 = v19.1 := by rw [er1]
        have er12 : r.1.2.1 = v19.2.1 := by rw [er1]
        have hbd9 : bd r.1 = 0 := by rw [er1]; exact bd_f fv19
        refine lv_aload_n hx hb dX3_part_24 rfl (lv_at hl 0 rfl) ?_
        refine W.widen (k := ((4 * (r.1.1 - u.1)).toNat + 2 * bd r.1)) (n := ((16 * (r.1.1 - u.1)).toNat + 8 * bd r.1)) (by omega) (by omega) ?_
        refine vx_ret ?_
        refine x_aret (r := some q17) hx hb hr (Or.inl ⟨_, rfl⟩) hlk hH dX3_part_25 ?_
        subst er9
        exact ⟨fv19, x17, q17, pf17, rfl, hDc19, fun i i0 i1 => (hp17 i i0 (by omega)), hE18, (SumAt_mono (by first | omega | (dsimp only; omega)) hT17)⟩
      · -- 21N
        have hr9 : r.1 = fauP (rL σ tn) r1.1 := by rw [er8]; exact (mus_n (by assumption) a_21).trans (fauP_f (by assumption)).symm
        have hbad : r.1.2.2 = rL σ tn r1.1.1 := by rw [hr9]; exact (fau_3 (by assumption)).2.2
        have hr11 : r.1.1 = r1.1.1 := by rw [hr9]; exact (fau_3 (by assumption)).1
        have hbd9 := bd_b (s := r.1) (by rw [hbad]; exact hL_r1_1)
        refine r_callv (r_runV (As := [.ref (K.1 36)]) (rest := []) S hH hK (hX.at hH) XRd_b hl.1 hD17.c rfl (xm_X3_closeN l G M14_ K a σ P τ bo lo x17 (rL σ tn r1.1.1) (rE σ tn r1.1.1) r1.1.2.1 (d_ + 1) p_ pf17 36 _ hD17 (by decide) (tok_n hTE b_r1_1.1.1 b_r1_1.1.2 (k := 36) (by decide) (z := 193) rfl a_21) (by omega) (by omega) (by omega) hB8) (lw_V q978 q980 qs23 q108 q981) kd_X3_close rfl rfl dX3_part_21 (hR := ⟨by dsimp only [rmX, rmD]; omega, by dsimp only [rmX, rmD]; omega⟩) (hf := ⟨by dsimp only [rmX]; omega, by dsimp only [rmX]; omega⟩)) hH hA (fun q9_21 pl_21 M9_21 H locs hT_21 => r_out hto hlk hT_21 (leaf_px hbad hL_r1_1 (hT_21.1)) (by omega) (by omega)) (fun M21_ H locs q_21 hH hz_21 => ?_)
        exact q_21.elim
    · -- 10N
      rw [if_pos (show d_ = 8 by omega)] at he
      have hr9 : r.1 = fauP (rL σ tn) u := by cases he; rfl
      have hbad : r.1.2.2 = rL σ tn u.1 := by rw [hr9]; exact (fau_3 hf).2.2
      have hr11 : r.1.1 = u.1 := by rw [hr9]; exact (fau_3 hf).1
      have hbd9 := bd_b (s := r.1) (by rw [hbad]; exact hL_u)
      refine r_callv (r_runV (As := []) (rest := []) S hH hK (hX.at hH) XRd_b hl.1 hD.c rfl (xm_X3_openN l G M K a σ P τ bo lo x (rL σ tn u.1) (rE σ tn u.1) u.2.1 d_ p_ pf _ hD (by omega) (by omega) (by omega)) (lw_V q973 q975 qs22 q108 q976) kd_X3_open rfl rfl dX3_part_10 (hR := ⟨by dsimp only [rmX, rmD]; omega, by dsimp only [rmX, rmD]; omega⟩) (hf := ⟨by dsimp only [rmX]; omega, by dsimp only [rmX]; omega⟩)) hH hA (fun q9_10 pl_10 M9_10 H locs hT_10 => r_out hto hlk hT_10 (leaf_px hbad hL_u (hT_10.1)) (by omega) (by omega)) (fun M10_ H locs q_10 hH hz_10 => ?_)
      exact q_10.elim
