def psS (σ : St) (s : PS) : St := fun g => if g = 15 then up (σ 15) 0 s.1 else if g = 16 then up (σ 16) 0 s.2.1 else if g = 17 then up (σ 17) 0 s.2.2 else σ g
theorem up_up {f : Int → Int} {i v w : Int} : up (up f i v) i w = up f i w := by
  funext j
  unfold up
  by_cases h : j = i
  · rw [if_pos h, if_pos h]
  · rw [if_neg h, if_neg h, if_neg h]
theorem up_self {f : Int → Int} {i : Int} : up f i (f i) = f := by
  funext j
  unfold up
  by_cases h : j = i
  · rw [if_pos h, h]
  · rw [if_neg h]
theorem psS_15 {σ : St} {s : PS} {v : Int} : st (psS σ s) 15 0 v = psS σ (v, s.2.1, s.2.2) := by
  funext g
  unfold st sa
  by_cases h : g = 15
  · subst h
    rw [if_pos rfl]
    exact up_up
  · rw [if_neg h]
    unfold psS
    rw [if_neg h, if_neg h]
theorem psS_16 {σ : St} {s : PS} {v : Int} : st (psS σ s) 16 0 v = psS σ (s.1, v, s.2.2) := by
  funext g
  unfold st sa
  by_cases h : g = 16
  · subst h
    rw [if_pos rfl]
    exact up_up
  · rw [if_neg h]
    unfold psS
    by_cases h5 : g = 15
    · rw [if_pos h5, if_pos h5]
    · rw [if_neg h5, if_neg h5, if_neg h, if_neg h]
theorem psS_17 {σ : St} {s : PS} {v : Int} : st (psS σ s) 17 0 v = psS σ (s.1, s.2.1, v) := by
  funext g
  unfold st sa
  by_cases h : g = 17
  · subst h
    rw [if_pos rfl]
    exact up_up
  · rw [if_neg h]
    unfold psS
    by_cases h5 : g = 15
    · rw [if_pos h5, if_pos h5]
    · by_cases h6 : g = 16
      · rw [if_neg h5, if_neg h5, if_pos h6, if_pos h6]
      · rw [if_neg h5, if_neg h5, if_neg h6, if_neg h6, if_neg h, if_neg h]
theorem psS_self {σ : St} : psS σ (σ 15 0, σ 16 0, σ 17 0) = σ := by
  funext g
  unfold psS
  by_cases h5 : g = 15
  · subst h5; rw [if_pos rfl]; exact up_self
  · rw [if_neg h5]
    by_cases h6 : g = 16
    · subst h6; rw [if_pos rfl]; exact up_self
    · rw [if_neg h6]
      by_cases h7 : g = 17
      · subst h7; rw [if_pos rfl]; exact up_self
      · rw [if_neg h7]
theorem psS_o {σ : St} {s : PS} {g : Nat} (h5 : g ≠ 15) (h6 : g ≠ 16) (h7 : g ≠ 17) : psS σ s g = σ g := by
  unfold psS
  rw [if_neg h5, if_neg h6, if_neg h7]
def TK (C V L : Int → Int) (t : Int) : Prop := (0 ≤ t ∧ t ≤ 400) ∧ C t = 0 ∧ ∀ i, 0 ≤ i → i ≤ t → (0 ≤ C i ∧ C i ≤ 355) ∧ (0 ≤ V i ∧ V i ≤ 10000009) ∧ (0 ≤ L i ∧ L i ≤ 400)
def BS (t : Int) (s : PS) : Prop := (0 ≤ s.1 ∧ s.1 ≤ t) ∧ (0 ≤ s.2.1 ∧ s.2.1 ≤ 51) ∧ (-1 ≤ s.2.2 ∧ s.2.2 ≤ 400) ∧ (s.2.2 = -1 → s.2.1 ≤ 50)
section PB
variable {C V L : Int → Int} {t : Int} {s s' : PS}
theorem BS_adv (hT : TK C V L t) (h : BS t s) (hc : C s.1 ≠ 0) : BS t (advP s) := by
  unfold TK at hT
  unfold BS at h ⊢
  show (0 ≤ s.1 + 1 ∧ s.1 + 1 ≤ t) ∧ (0 ≤ s.2.1 ∧ s.2.1 ≤ 51) ∧ (-1 ≤ s.2.2 ∧ s.2.2 ≤ 400) ∧ (s.2.2 = -1 → s.2.1 ≤ 50)
  have : s.1 ≠ t := fun e => hc (by rw [e]; exact hT.2.1)
  omega
theorem BS_fau (hT : TK C V L t) (h : BS t s) : BS t (fauP L s) := by
  unfold TK at hT
  unfold fauP
  split
  · unfold BS at h ⊢
    have := hT.2.2 s.1 (by omega) (by omega)
    show (0 ≤ s.1 ∧ s.1 ≤ t) ∧ (0 ≤ s.2.1 ∧ s.2.1 ≤ 51) ∧ (-1 ≤ L s.1 ∧ L s.1 ≤ 400) ∧ (L s.1 = -1 → s.2.1 ≤ 50)
    omega
  · exact h
theorem fauP_bad (hT : TK C V L t) (h : BS t s) : (fauP L s).2.2 ≠ -1 := by
  unfold TK at hT
  unfold BS at h
  have := hT.2.2 s.1 (by omega) (by omega)
  unfold fauP
  split
  · show L s.1 ≠ -1
    omega
  · assumption
theorem BS_mus {c : Int} (hT : TK C V L t) (h : BS t s) (hc : c ≠ 0) : BS t (musP C L c s) := by
  unfold musP
  split
  · rename_i q
    exact BS_adv hT h (by rw [q.2]; exact hc)
  · exact BS_fau hT h
theorem BS_leaQ (hT : TK C V L t) (h : BS t s) (hf : s.2.2 = -1) : BS t (leaQ L s) := by
  unfold leaQ
  by_cases q : s.2.1 = 50
  · rw [if_pos q]
    have hb := fauP_bad hT h
    have h1 := BS_fau hT h
    have e1 : (fauP L s).2.1 = s.2.1 := by
      unfold fauP
      split <;> rfl
    unfold BS at h1 h ⊢
    show (0 ≤ (fauP L s).1 ∧ (fauP L s).1 ≤ t) ∧ (0 ≤ (fauP L s).2.1 + 1 ∧ (fauP L s).2.1 + 1 ≤ 51) ∧ (-1 ≤ (fauP L s).2.2 ∧ (fauP L s).2.2 ≤ 400) ∧ ((fauP L s).2.2 = -1 → (fauP L s).2.1 + 1 ≤ 50)
    omega
  · rw [if_neg q]
    unfold BS at h ⊢
    show (0 ≤ s.1 ∧ s.1 ≤ t) ∧ (0 ≤ s.2.1 + 1 ∧ s.2.1 + 1 ≤ 51) ∧ (-1 ≤ s.2.2 ∧ s.2.2 ≤ 400) ∧ (s.2.2 = -1 → s.2.1 + 1 ≤ 50)
    omega
theorem leaQ_1 : (leaQ L s).1 = s.1 := by
  unfold leaQ fauP
  split
  · split <;> rfl
  · rfl
theorem BS_lea (hT : TK C V L t) (h : BS t s) (hf : s.2.2 = -1) (hc : C s.1 ≠ 0) : BS t (leaP L s) := by
  unfold leaP
  split
  · exact BS_adv hT (BS_leaQ hT h hf) (by rw [leaQ_1]; exact hc)
  · exact BS_leaQ hT h hf
theorem BS_opn {deep : Int} (hT : TK C V L t) (h : BS t s) : BS t (opnP L deep s) := by
  unfold opnP
  split
  · exact BS_fau hT h
  · exact h
theorem opnP_1 {deep : Int} : (opnP L deep s).1 = s.1 := by
  unfold opnP fauP
  split
  · split <;> rfl
  · rfl
theorem BS_lp {c1 c2 : Int} {b : PS → Option PS} (hT : TK C V L t) (h1 : c1 ≠ 0) (h2 : c2 ≠ 0) (hb : ∀ s s', BS t s → b s = some s' → BS t s') : ∀ (k : Nat) (s s' : PS), BS t s → lpR C c1 c2 b k s = some s' → BS t s'
  | 0, s, s', _, e => by rw [lpR] at e; cases e
  | k + 1, s, s', h, e => by
    rw [lpR] at e
    split at e
    · rename_i q
      obtain ⟨s1, e1, e2⟩ := Option.bind_eq_some_iff.mp e
      refine BS_lp hT h1 h2 hb k s1 s' (hb _ _ (BS_adv hT h ?_) e1) e2
      rcases q with q | q
      · rw [q.2]; exact h1
      · rw [q.2]; exact h2
    · cases e; exact h
theorem BS_rd (hT : TK C V L t) : ∀ (n mode : Nat) (deep : Int) (s s' : PS), BS t s → rd C V L n mode deep s = some s' → BS t s'
  | 0, _, _, _, _, _, e => by rw [rd] at e; cases e
  | n + 1, mode, deep, s, s', h, e => by
    have ih := BS_rd hT n
    match mode, e with
    | 0, e =>
      simp only [rd] at e
      split at e
      · rename_i hf
        split at e
        · rename_i hc
          split at e
          · obtain ⟨s1, e1, e2⟩ := Option.map_eq_some_iff.mp e
            rw [← e2]
            exact BS_mus hT (ih 2 _ _ _ (BS_adv hT (BS_opn hT h) (by rw [opnP_1, hc]; omega)) e1) (by omega)
          · cases e; exact BS_opn hT h
        · split at e
          · rename_i hc
            cases e
            exact BS_lea hT h hf (by omega)
          · cases e; exact BS_fau hT h
      · cases e; exact h
    | 1, e =>
      simp only [rd] at e
      obtain ⟨s1, e1, e2⟩ := Option.bind_eq_some_iff.mp e
      exact BS_lp hT (by omega) (by omega) (fun a b => ih 0 deep a b) _ _ _ (ih 0 deep _ _ h e1) e2
    | 2, e =>
      simp only [rd] at e
      obtain ⟨s1, e1, e2⟩ := Option.bind_eq_some_iff.mp e
      exact BS_lp hT (by omega) (by omega) (fun a b => ih 1 deep a b) _ _ _ (ih 1 deep _ _ h e1) e2
    | 3, e =>
      simp only [rd] at e
      obtain ⟨s1, e1, e2⟩ := Option.bind_eq_some_iff.mp e
      have h1 := BS_lp (c1 := 9) (c2 := 9) hT (by omega) (by omega) (fun a b ha hb => by cases hb; exact ha) _ _ _ h e1
      split at e2
      · rename_i hf
        split at e2
        · rename_i hc
          split at e2
          · obtain ⟨s2, e3, e4⟩ := Option.map_eq_some_iff.mp e2
            rw [← e4]
            exact BS_mus hT (ih 5 _ _ _ (BS_adv hT (BS_opn hT h1) (by rw [opnP_1, hc]; omega)) e3) (by omega)
          · cases e2; exact BS_opn hT h1
        · split at e2
          · rename_i hc
            cases e2
            exact BS_lea hT h1 hf (by omega)
          · obtain ⟨s2, e3, e4⟩ := Option.bind_eq_some_iff.mp e2
            have h2 := ih 2 deep _ _ h1 e3
            refine ih 2 deep _ _ ?_ e4
            split
            · rename_i q
              refine BS_adv hT h2 ?_
              rcases q with q | q <;> rw [q.2] <;> omega
            · exact BS_mus hT h2 (by omega)
      · cases e2; exact h1
    | 4, e =>
      simp only [rd] at e
      obtain ⟨s1, e1, e2⟩ := Option.bind_eq_some_iff.mp e
      exact BS_lp hT (by omega) (by omega) (fun a b => ih 3 deep a b) _ _ _ (ih 3 deep _ _ h e1) e2
    | m + 5, e =>
      simp only [rd] at e
      obtain ⟨s1, e1, e2⟩ := Option.bind_eq_some_iff.mp e
      exact BS_lp hT (by omega) (by omega) (fun a b => ih 4 deep a b) _ _ _ (ih 4 deep _ _ h e1) e2
end PB
