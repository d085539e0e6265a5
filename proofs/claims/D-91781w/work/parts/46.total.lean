/-! reading comes to an end -/
section TOT
variable {C V L : Int → Int} {t : Int}
theorem fauP_1 {s : PS} : (fauP L s).1 = s.1 := by
  unfold fauP
  split <;> rfl
theorem musP_1 {c : Int} {s : PS} : s.1 ≤ (musP C L c s).1 := by
  unfold musP
  split
  · show s.1 ≤ s.1 + 1
    omega
  · rw [fauP_1]
    exact Int.le_refl _
theorem leaP_1 {s : PS} : s.1 ≤ (leaP L s).1 := by
  unfold leaP
  split
  · show s.1 ≤ (leaQ L s).1 + 1
    rw [leaQ_1]
    omega
  · rw [leaQ_1]
    exact Int.le_refl _
theorem lp_mono {c1 c2 : Int} {b : PS → Option PS} (hb : ∀ s s', b s = some s' → s.1 ≤ s'.1) : ∀ (k : Nat) (s s' : PS), lpR C c1 c2 b k s = some s' → s.1 ≤ s'.1
  | 0, s, s', e => by rw [lpR] at e; cases e
  | k + 1, s, s', e => by
    rw [lpR] at e
    split at e
    · obtain ⟨s1, e1, e2⟩ := Option.bind_eq_some_iff.mp e
      have h1 : s.1 + 1 ≤ s1.1 := hb _ _ e1
      have h2 := lp_mono hb k s1 s' e2
      omega
    · cases e; exact Int.le_refl _
theorem rd_mono : ∀ (n mode : Nat) (deep : Int) (s s' : PS), rd C V L n mode deep s = some s' → s.1 ≤ s'.1
  | 0, _, _, _, _, e => by rw [rd] at e; cases e
  | n + 1, mode, deep, s, s', e => by
    have ih := rd_mono n
    match mode, e with
    | 0, e =>
      simp only [rd] at e
      split at e
      · split at e
        · split at e
          · obtain ⟨s1, e1, e2⟩ := Option.map_eq_some_iff.mp e
            rw [← e2]
            have h1 : (opnP L deep s).1 + 1 ≤ s1.1 := ih 2 _ _ _ e1
            have h2 := musP_1 (C := C) (L := L) (c := 193) (s := s1)
            rw [opnP_1] at h1
            omega
          · cases e; rw [opnP_1]; exact Int.le_refl _
        · split at e
          · cases e; exact leaP_1
          · cases e; rw [fauP_1]; exact Int.le_refl _
      · cases e; exact Int.le_refl _
    | 1, e =>
      simp only [rd] at e
      obtain ⟨s1, e1, e2⟩ := Option.bind_eq_some_iff.mp e
      exact Int.le_trans (ih 0 deep _ _ e1) (lp_mono (fun a b => ih 0 deep a b) _ _ _ e2)
    | 2, e =>
      simp only [rd] at e
      obtain ⟨s1, e1, e2⟩ := Option.bind_eq_some_iff.mp e
      exact Int.le_trans (ih 1 deep _ _ e1) (lp_mono (fun a b => ih 1 deep a b) _ _ _ e2)
    | 3, e =>
      simp only [rd] at e
      obtain ⟨s1, e1, e2⟩ := Option.bind_eq_some_iff.mp e
      have h1 := lp_mono (b := some) (fun a b hb => by cases hb; exact Int.le_refl _) _ _ _ e1
      split at e2
      · split at e2
        · split at e2
          · obtain ⟨s2, e3, e4⟩ := Option.map_eq_some_iff.mp e2
            rw [← e4]
            have h3 : (opnP L deep s1).1 + 1 ≤ s2.1 := ih 5 _ _ _ e3
            have h4 := musP_1 (C := C) (L := L) (c := 141) (s := s2)
            rw [opnP_1] at h3
            omega
          · cases e2; rw [opnP_1]; exact h1
        · split at e2
          · cases e2; exact Int.le_trans h1 leaP_1
          · obtain ⟨s2, e3, e4⟩ := Option.bind_eq_some_iff.mp e2
            have h3 := ih 2 deep _ _ e3
            have h4 := ih 2 deep _ _ e4
            have h5 : s2.1 ≤ (if takP C 160 s2 ∨ takP C 162 s2 then advP s2 else musP C L 161 s2).1 := by
              split
              · show s2.1 ≤ s2.1 + 1
                omega
              · exact musP_1
            omega
      · cases e2; exact h1
    | 4, e =>
      simp only [rd] at e
      obtain ⟨s1, e1, e2⟩ := Option.bind_eq_some_iff.mp e
      exact Int.le_trans (ih 3 deep _ _ e1) (lp_mono (fun a b => ih 3 deep a b) _ _ _ e2)
    | m + 5, e =>
      simp only [rd] at e
      obtain ⟨s1, e1, e2⟩ := Option.bind_eq_some_iff.mp e
      exact Int.le_trans (ih 4 deep _ _ e1) (lp_mono (fun a b => ih 4 deep a b) _ _ _ e2)
theorem lp_some {c1 c2 : Int} {b : PS → Option PS} (hT : TK C V L t) (h1 : c1 ≠ 0) (h2 : c2 ≠ 0) (hb : ∀ s, BS t s → ∃ s', b s = some s') (hB : ∀ s s', BS t s → b s = some s' → BS t s') (hm : ∀ s s', b s = some s' → s.1 ≤ s'.1) : ∀ (k : Nat) (s : PS), BS t s → t - s.1 < k → ∃ s', lpR C c1 c2 b k s = some s'
  | 0, s, h, hk => by
    unfold BS at h
    omega
  | k + 1, s, h, hk => by
    rw [lpR]
    split
    · rename_i q
      have ha : BS t (advP s) := BS_adv hT h (by rcases q with q | q <;> rw [q.2] <;> assumption)
      obtain ⟨s1, e1⟩ := hb _ ha
      have hmm : s.1 + 1 ≤ s1.1 := hm _ _ e1
      obtain ⟨s2, e2⟩ := lp_some hT h1 h2 hb hB hm k s1 (hB _ _ ha e1) (by omega)
      exact ⟨s2, by rw [e1]; exact e2⟩
    · exact ⟨s, rfl⟩
theorem rd_some (hT : TK C V L t) : ∀ (n mode : Nat) (deep : Int) (s : PS), BS t s → 0 ≤ deep → deep ≤ 8 → mode ≤ 5 → 6 * (8 - deep) + mode + 1 ≤ n → ∃ s', rd C V L n mode deep s = some s'
  | 0, mode, deep, s, _, h0, h8, _, hn => by omega
  | n + 1, mode, deep, s, h, h0, h8, hm, hn => by
    have ih := rd_some hT n
    have t0 := hT
    unfold TK at t0
    have b0 := h
    unfold BS at b0
    have dd : ∀ u : PS, BS t u → (opnP L deep u).2.2 = -1 → deep ≤ 7 := fun u hu c => by
      rcases Int.lt_or_le deep 8 with q | q
      · omega
      · exact absurd c (by unfold opnP; rw [if_pos (by omega)]; exact fauP_bad hT hu)
    match mode, hm, hn with
    | 0, hm, hn =>
      simp only [rd]
      split
      · split
        · rename_i hc
          split
          · rename_i ho
            have hd := dd s h ho
            obtain ⟨s1, e1⟩ := ih 2 (deep + 1) _ (BS_adv hT (BS_opn (deep := deep) hT h) (by rw [opnP_1, hc]; omega)) (by omega) (by omega) (by omega) (by omega)
            exact ⟨_, by rw [e1]; rfl⟩
          · exact ⟨_, rfl⟩
        · split <;> exact ⟨_, rfl⟩
      · exact ⟨_, rfl⟩
    | 1, hm, hn =>
      simp only [rd]
      obtain ⟨s1, e1⟩ := ih 0 deep s h h0 h8 (by omega) (by omega)
      have b1 := BS_rd hT _ _ _ _ _ h e1
      have b2 := b1
      unfold BS at b2
      obtain ⟨s2, e2⟩ := lp_some (c1 := 142) (c2 := 147) hT (by omega) (by omega) (fun u hu => ih 0 deep u hu h0 h8 (by omega) (by omega)) (fun a b ha hb => BS_rd hT _ _ _ _ _ ha hb) (fun a b hb => rd_mono _ _ _ _ _ hb) 402 s1 b1 (by omega)
      exact ⟨s2, by rw [e1]; exact e2⟩
    | 2, hm, hn =>
      simp only [rd]
      obtain ⟨s1, e1⟩ := ih 1 deep s h h0 h8 (by omega) (by omega)
      have b1 := BS_rd hT _ _ _ _ _ h e1
      have b2 := b1
      unfold BS at b2
      obtain ⟨s2, e2⟩ := lp_some (c1 := 143) (c2 := 145) hT (by omega) (by omega) (fun u hu => ih 1 deep u hu h0 h8 (by omega) (by omega)) (fun a b ha hb => BS_rd hT _ _ _ _ _ ha hb) (fun a b hb => rd_mono _ _ _ _ _ hb) 402 s1 b1 (by omega)
      exact ⟨s2, by rw [e1]; exact e2⟩
    | 3, hm, hn =>
      simp only [rd]
      obtain ⟨s1, e1⟩ := lp_some (b := some) (c1 := 9) (c2 := 9) hT (by omega) (by omega) (fun u _ => ⟨u, rfl⟩) (fun a b ha hb => by cases hb; exact ha) (fun a b hb => by cases hb; exact Int.le_refl _) 402 s h (by omega)
      have b1 : BS t s1 := BS_lp (c1 := 9) (c2 := 9) hT (by omega) (by omega) (fun a b ha hb => by cases hb; exact ha) _ _ _ h e1
      rw [e1]
      show ∃ s', (if s1.2.2 = -1 then _ else _) = some s'
      split
      · split
        · rename_i hc
          split
          · rename_i ho
            have hd := dd s1 b1 ho
            obtain ⟨s2, e2⟩ := ih 5 (deep + 1) _ (BS_adv hT (BS_opn (deep := deep) hT b1) (by rw [opnP_1, hc]; omega)) (by omega) (by omega) (by omega) (by omega)
            exact ⟨_, by rw [e2]; rfl⟩
          · exact ⟨_, rfl⟩
        · split
          · exact ⟨_, rfl⟩
          · obtain ⟨s2, e2⟩ := ih 2 deep s1 b1 h0 h8 (by omega) (by omega)
            have b2 := BS_rd hT _ _ _ _ _ b1 e2
            have b3 : BS t (if takP C 160 s2 ∨ takP C 162 s2 then advP s2 else musP C L 161 s2) := by
              split
              · rename_i q
                refine BS_adv hT b2 ?_
                rcases q with q | q <;> rw [q.2] <;> omega
              · exact BS_mus hT b2 (by omega)
            obtain ⟨s3, e3⟩ := ih 2 deep _ b3 h0 h8 (by omega) (by omega)
            exact ⟨s3, by rw [e2]; exact e3⟩
      · exact ⟨_, rfl⟩
    | 4, hm, hn =>
      simp only [rd]
      obtain ⟨s1, e1⟩ := ih 3 deep s h h0 h8 (by omega) (by omega)
      have b1 := BS_rd hT _ _ _ _ _ h e1
      have b2 := b1
      unfold BS at b2
      obtain ⟨s2, e2⟩ := lp_some (c1 := 8) (c2 := 8) hT (by omega) (by omega) (fun u hu => ih 3 deep u hu h0 h8 (by omega) (by omega)) (fun a b ha hb => BS_rd hT _ _ _ _ _ ha hb) (fun a b hb => rd_mono _ _ _ _ _ hb) 402 s1 b1 (by omega)
      exact ⟨s2, by rw [e1]; exact e2⟩
    | 5, hm, hn =>
      simp only [rd]
      obtain ⟨s1, e1⟩ := ih 4 deep s h h0 h8 (by omega) (by omega)
      have b1 := BS_rd hT _ _ _ _ _ h e1
      have b2 := b1
      unfold BS at b2
      obtain ⟨s2, e2⟩ := lp_some (c1 := 7) (c2 := 7) hT (by omega) (by omega) (fun u hu => ih 4 deep u hu h0 h8 (by omega) (by omega)) (fun a b ha hb => BS_rd hT _ _ _ _ _ ha hb) (fun a b hb => rd_mono _ _ _ _ _ hb) 402 s1 b1 (by omega)
      exact ⟨s2, by rw [e1]; exact e2⟩
    | m + 6, hm, hn => omega
theorem clR_some (hT : TK C V L t) {s : PS} (h : BS t s) : ∃ s', clR C V L 60 s = some s' := by
  have h1 : ∃ s1, clRa C V L 60 s = some s1 := by
    unfold clRa
    split
    · rename_i q
      exact rd_some hT 60 2 0 _ (BS_adv hT h (by rcases q with q | q <;> rw [q.2] <;> omega)) (by omega) (by omega) (by omega) (by omega)
    · exact ⟨_, rfl⟩
  obtain ⟨s1, e1⟩ := h1
  have b1 : BS t s1 := by
    unfold clRa at e1
    split at e1
    · rename_i q
      exact BS_rd hT _ _ _ _ _ (BS_adv hT h (by rcases q with q | q <;> rw [q.2] <;> omega)) e1
    · cases e1
      split
      · rename_i q
        exact BS_adv hT h (by rcases q with q | q <;> rw [q.2] <;> omega)
      · exact BS_mus hT h (by omega)
  unfold clR
  rw [e1]
  show ∃ s', (if takP C 6 s1 then _ else _) = some s'
  split
  · rename_i q
    exact rd_some hT 60 5 0 _ (BS_adv hT b1 (by rw [q.2]; omega)) (by omega) (by omega) (by omega) (by omega)
  · exact ⟨_, rfl⟩
theorem clR_mono {n : Nat} {s s' : PS} (e : clR C V L n s = some s') : s.1 ≤ s'.1 := by
  unfold clR at e
  obtain ⟨s1, e1, e2⟩ := Option.bind_eq_some_iff.mp e
  have h1 : s.1 ≤ s1.1 := by
    unfold clRa at e1
    split at e1
    · have : s.1 + 1 ≤ s1.1 := rd_mono _ _ _ _ _ e1
      omega
    · cases e1
      split
      · show s.1 ≤ s.1 + 1
        omega
      · exact musP_1
  split at e2
  · have : s1.1 + 1 ≤ s'.1 := rd_mono _ _ _ _ _ e2
    omega
  · cases e2; exact h1
theorem clLp_some (hT : TK C V L t) : ∀ (m : Nat) (k : Int) (s : PS), BS t s → t - s.1 < m → ∃ s', clLp C V L 60 m k s = some s' ∧ BS t s'
  | 0, k, s, h, hm => by
    unfold BS at h
    omega
  | m + 1, k, s, h, hm => by
    rw [clLp]
    split
    · rename_i q
      have ha : BS t (advP s) := BS_adv hT h (by rw [q.2]; omega)
      have hb : BS t (if k = 12 then fauP L (advP s) else advP s) := by
        split
        · exact BS_fau hT ha
        · exact ha
      have h1 : (if k = 12 then fauP L (advP s) else advP s).1 = s.1 + 1 := by
        split
        · exact fauP_1
        · rfl
      generalize (if k = 12 then fauP L (advP s) else advP s) = w at hb h1 ⊢
      split
      · obtain ⟨s1, e1⟩ := clR_some hT hb
        have hmm := clR_mono e1
        obtain ⟨s2, e2, b2⟩ := clLp_some hT m (k + 1) s1 (BS_clR hT hb e1) (by omega)
        exact ⟨s2, by rw [e1]; exact e2, b2⟩
      · obtain ⟨s2, e2, b2⟩ := clLp_some hT m (k + 1) _ hb (by omega)
        exact ⟨s2, e2, b2⟩
    · exact ⟨s, rfl, h⟩
theorem BS_0 (hT : TK C V L t) : BS t (0, 0, -1) := by
  unfold TK at hT
  unfold BS
  show (0 ≤ (0 : Int) ∧ (0 : Int) ≤ t) ∧ (0 ≤ (0 : Int) ∧ (0 : Int) ≤ 51) ∧ (-1 ≤ (-1 : Int) ∧ (-1 : Int) ≤ 400) ∧ ((-1 : Int) = -1 → (0 : Int) ≤ 50)
  omega
theorem rdAll_some (hT : TK C V L t) : ∃ s', rdAll C V L 60 t = some s' ∧ BS t s' := by
  have t0 := hT
  unfold TK at t0
  obtain ⟨s1, e1⟩ := clR_some hT (BS_0 hT)
  have b1 := BS_clR hT (BS_0 hT) e1
  have b2 := b1
  unfold BS at b2
  obtain ⟨s2, e2, b3⟩ := clLp_some hT 402 1 s1 b1 (by omega)
  unfold rdAll
  rw [e1]
  show ∃ s', (clLp C V L 60 402 1 s1).map _ = some s' ∧ _
  rw [e2]
  refine ⟨_, rfl, ?_⟩
  show BS t (if s2.2.2 = -1 ∧ s2.1 < t then fauP L s2 else s2)
  split
  · exact BS_fau hT b3
  · exact b3
end TOT
