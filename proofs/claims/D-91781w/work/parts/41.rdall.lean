theorem srd_0 {l : Launch} {G : MG} {y : MethodName} {cc : ByteArray} {mL mode : Nat} : SRd l G y cc mL mode 0 := fun σ0 t u u' deep sz _ _ _ _ e => by
  rw [rd] at e
  cases e
/-- all readers, at every depth -/
theorem rd_all (l : Launch) (G : MG) : ∀ n : Nat, SRd l G yX4_readPart cX4_readPart 3 0 n ∧ SRd l G yX4_readTerm cX4_readTerm 2 1 n ∧ SRd l G yX4_readSum cX4_readSum 2 2 n ∧ SRd l G yX4_readPlain cX4_readPlain 4 3 n ∧ SRd l G yX4_readBoth cX4_readBoth 2 4 n ∧ SRd l G yX4_readTest cX4_readTest 2 5 n
  | 0 => ⟨srd_0, srd_0, srd_0, srd_0, srd_0, srd_0⟩
  | n + 1 => by
    obtain ⟨h0, h1, h2, h3, h4, h5⟩ := rd_all l G n
    exact ⟨ms_readPart l G n h2, ms_readTerm l G n h0, ms_readSum l G n h1, ms_readPlain l G n h5 h2, ms_readBoth l G n h3, ms_readTest l G n h4⟩
theorem BS_clR {C V L : Int → Int} {t : Int} {n : Nat} {s s' : PS} (hT : TK C V L t) (h : BS t s) (e : clR C V L n s = some s') : BS t s' := by
  unfold clR at e
  obtain ⟨s1, e1, e2⟩ := Option.bind_eq_some_iff.mp e
  have h1 : BS t s1 := by
    unfold clRa at e1
    split at e1
    · rename_i q
      exact BS_rd hT _ _ _ _ _ (BS_adv hT h (by rcases q with q | q <;> rw [q.2] <;> omega)) e1
    · cases e1
      split
      · rename_i q
        exact BS_adv hT h (by rcases q with q | q <;> rw [q.2] <;> omega)
      · exact BS_mus hT h (by omega)
  split at e2
  · rename_i q
    exact BS_rd hT _ _ _ _ _ (BS_adv hT h1 (by rw [q.2]; omega)) e2
  · cases e2
    exact h1
theorem ps3 {τ : St} {a b c : Int} : st (st (st τ 15 0 a) 16 0 b) 17 0 c = psS τ (a, b, c) := by
  have e : st τ 15 0 a = psS τ (a, τ 16 0, τ 17 0) := by
    have := psS_15 (σ := τ) (s := (τ 15 0, τ 16 0, τ 17 0)) (v := a)
    rw [psS_self] at this
    exact this
  rw [e, psS_16, psS_17]
theorem wBy_a : ∀ i, i < 134 → 0 ≤ wBy.getD i 0 ∧ wBy.getD i 0 ≤ 127 := by decide +kernel
theorem wBy_r (i : Nat) : 0 ≤ wBy.getD i 0 ∧ wBy.getD i 0 ≤ 127 := by
  rcases Nat.lt_or_ge i 134 with h | h
  · exact wBy_a i h
  · have e : wBy.getD i 0 = 0 := by
      rw [List.getD_eq_getElem?_getD, List.getElem?_eq_none (by exact h)]
      rfl
    rw [e]
    omega
