theorem vlAt_r {T : Int → Int} {n k : Int} : 0 ≤ vlAt T n k ∧ vlAt T n k ≤ 10000009 := by
  unfold vlAt
  split
  · rename_i q
    exact vlN_r _ (fun i hi => enT_d (n := n) q (by omega) (by omega))
  · omega
/-- what the tape's tokens are, t of them -/
def TokN (T : Int → Int) (n : Int) (t : Nat) : Prop := (t : Int) ≤ n ∧ (∀ j : Nat, j < t → 0 ≤ ps T n j ∧ ps T n j < n) ∧ ps T n t = n
theorem cutE_11 {σ : St} {n : Int} {t : Nat} {i : Int} (h0 : 0 ≤ i) (h : i ≤ t) : cutE σ n t 11 i = if i = t then 0 else cdAt (σ 7) n (ps (σ 7) n i.toNat) := by
  unfold cutE
  rw [st_n (by decide)]
  by_cases q : i = t
  · rw [if_pos q, q, st_s]
  · rw [if_neg q, st_i q, st_n (by decide), cutS_11, cpA_in (by omega), Int.sub_zero]
theorem cutE_12 {σ : St} {n : Int} {t : Nat} {i : Int} (h0 : 0 ≤ i) (h : i ≤ t) : cutE σ n t 12 i = if i = t then 0 else vlAt (σ 7) n (ps (σ 7) n i.toNat) := by
  unfold cutE
  by_cases q : i = t
  · rw [if_pos q, q, st_s]
  · rw [if_neg q, st_i q, st_n (by decide), st_n (by decide), cutS_12, cpA_in (by omega), Int.sub_zero]
theorem cutE_13 {σ : St} {n : Int} {t : Nat} {i : Int} (h0 : 0 ≤ i) (h : i ≤ t) : cutE σ n t 13 i = if i = t then n else ps (σ 7) n i.toNat := by
  unfold cutE
  rw [st_n (by decide), st_n (by decide)]
  by_cases q : i = t
  · rw [if_pos q, q, st_s]
  · rw [if_neg q, st_i q, cutS_13, cpA_in (by omega), Int.sub_zero]
theorem cutE_o {σ : St} {n : Int} {t : Nat} {g : Nat} (a : g ≠ 11) (b : g ≠ 12) (c : g ≠ 13) (d : g ≠ 14) : cutE σ n t g = σ g := by
  unfold cutE
  rw [st_n b, st_n a, st_n c, cutS_o a b c d]
theorem cutE_TK {σ : St} {n : Int} {t : Nat} (h : TokN (σ 7) n t) (hn : n ≤ 400) : TK (cutE σ n t 11) (cutE σ n t 12) (cutE σ n t 13) t := by
  obtain ⟨h1, h2, h3⟩ := h
  refine ⟨⟨by omega, by omega⟩, ?_, fun i a b => ?_⟩
  · rw [cutE_11 (by omega) (by omega), if_pos rfl]
  · rw [cutE_11 a b, cutE_12 a b, cutE_13 a b]
    have r1 := cdAt_r (σ 7) n (ps (σ 7) n i.toNat)
    have r2 := vlAt_r (T := σ 7) (n := n) (k := ps (σ 7) n i.toNat)
    by_cases q : i = t
    · rw [if_pos q, if_pos q, if_pos q]
      omega
    · rw [if_neg q, if_neg q, if_neg q]
      have := h2 i.toNat (by omega)
      omega
theorem psS_st {ρ : St} {s : PS} {f : Nat} {i v : Int} (a : f ≠ 15) (b : f ≠ 16) (c : f ≠ 17) : st (psS ρ s) f i v = psS (st ρ f i v) s := by
  funext g
  by_cases h : g = f
  · subst h
    rw [st_f, psS_o a b c, psS_o a b c, st_f]
  · rw [st_n h]
    unfold psS
    rw [st_n h, st_n (Ne.symm a), st_n (Ne.symm b), st_n (Ne.symm c)]
/-- the state behind a reading of the tape -/
def rdS (σ : St) (t : Nat) (u : PS) : St := psS (st (st (cutE σ (σ 9 0) t) 9 0 0) 10 0 u.2.2) u
def ReadOK (σ : St) (t : Nat) (u : PS) : Prop := TokN (σ 7) (σ 9 0) t ∧ rdAll (cutE σ (σ 9 0) t 11) (cutE σ (σ 9 0) t 12) (cutE σ (σ 9 0) t 13) 60 t = some u
/-- the row with a text of t tokens more, so far k of them -/
def textW (τ : St) (t : Int) (k : Int) : St := sa τ 2 (cpA (cpA (up (τ 2) (1758 + τ 2 1756) t) (1770 + 400 * τ 2 1756) k (τ 11)) (6570 + 400 * τ 2 1756) k (τ 12))
theorem textW_0 {τ : St} {t : Int} : st τ 2 (1758 + τ 2 1756) t = textW τ t 0 := by
  unfold textW st
  rw [cpA_0, cpA_0]
theorem cpA_up {a : Int → Int} {to n i v : Int} {src : Int → Int} (h : i < to ∨ to + n ≤ i) : up (cpA a to n src) i v = cpA (up a i v) to n src := by
  funext j
  unfold up cpA
  by_cases q : j = i
  · rw [if_pos q, if_neg (by omega)]
    exact (if_pos q).symm
  · rw [if_neg q]
    by_cases z : to ≤ j ∧ j < to + n
    · rw [if_pos z, if_pos z]
    · rw [if_neg z, if_neg z]
      exact (if_neg q).symm
theorem textW_s {τ : St} {t k : Int} (h0 : 0 ≤ k) (h1 : k < 400) (hb : 0 ≤ τ 2 1756 ∧ τ 2 1756 < 12) : st (st (textW τ t k) 2 (1770 + 400 * τ 2 1756 + k) (τ 11 k)) 2 (6570 + 400 * τ 2 1756 + k) (τ 12 k) = textW τ t (k + 1) := by
  unfold textW st
  rw [sa_s, sa_sa, sa_s, sa_sa, cpA_up (by omega), cpA_s h0, cpA_s h0]
def textF (σ : St) (t : Nat) (u : PS) : Int × St := if σ 2 1756 = 12 then (-5, refS (st σ 9 0 0) (-5)) else if u.2.2 = -1 then (σ 2 1756, goodS (st (textW (rdS σ t u) t t) 2 1756 (σ 2 1756 + 1))) else (-6, refS (rdS σ t u) (-6))
theorem rdS_o {σ : St} {t : Nat} {u : PS} {g : Nat} (h : g ≤ 8 ∨ 18 ≤ g) : rdS σ t u g = σ g := by
  unfold rdS
  rw [psS_o (by omega) (by omega) (by omega), st_n (by omega), st_n (by omega), cutE_o (by omega) (by omega) (by omega) (by omega)]
theorem textW_o {τ : St} {t k i : Int} (h : i < 1758) (h0 : 0 ≤ τ 2 1756) : textW τ t k 2 i = τ 2 i := by
  unfold textW
  rw [sa_s, cpA_out (by omega), cpA_out (by omega), up_n (by omega)]
