/-! CLAUSES of a text: head, the sum that it says, what it asks -/
abbrev Cl : Type := Int × Option Mean × Option Mean
def cl0 : Cl := (0, none, none)
def clP (C V : Int → Int) (i : Int) : Option (Cl × Int) :=
  (if C i = 3 ∨ C i = 4 then (mn C V 60 2 (i + 1)).map (fun r => (some r.1, r.2)) else some (none, i + 1)).bind (fun q =>
    (if C q.2 = 6 then (mn C V 60 5 (q.2 + 1)).map (fun r => (some r.1, r.2)) else some (none, q.2)).map (fun w => ((C i, q.1, w.1), w.2)))
def clsP (C V : Int → Int) (e : Int) : Nat → Int → Option (List Cl)
  | 0, _ => none
  | n + 1, i => if i < e then (clP C V i).bind (fun r => (clsP C V e n (r.2 + 1)).map (fun l => r.1 :: l)) else some []
/-- what a clause says of a case; whether it holds -/
def clS (c : Cl) (a : Int → Int) : Int := (c.2.1.map (fun f => vOf f a)).getD 0
def clH (c : Cl) (a : Int → Int) : Int := if (c.2.1.all (fun f => (f a).isSome)) = true ∧ (c.2.2.all (fun f => f a == some 1)) = true then 1 else 0
/-- the clauses of the text x of the kept row -/
def tmC (κ : Int → Int) (x k : Int) : Int := if k < 400 * x + κ (1758 + x) then κ (1770 + k) else 0
def tmP (κ : Int → Int) (x : Int) : Option (List Cl) := clsP (tmC κ x) (fun k => κ (6570 + k)) (400 * x + κ (1758 + x)) 402 (400 * x)
/-- all but scratch is the same -/
def Sc (σ τ : St) : Prop := ∀ f : Nat, (f ≤ 4 ∨ (6 ≤ f ∧ f ≤ 17)) ∨ 25 ≤ f → τ f = σ f
theorem Sc_r {σ : St} : Sc σ σ := fun _ _ => rfl
theorem Sc_t {σ τ υ : St} (h : Sc σ τ) (h2 : Sc τ υ) : Sc σ υ := fun f hf => (h2 f hf).trans (h f hf)
theorem Sc_sa {σ τ : St} (h : Sc σ τ) {f : Nat} {a : Int → Int} (hf : f = 5 ∨ (18 ≤ f ∧ f ≤ 24)) : Sc σ (sa τ f a) := fun g hg => by
  rw [sa_n (by omega)]
  exact h g hg
theorem Sc_st {σ τ : St} (h : Sc σ τ) {f : Nat} {i v : Int} (hf : f = 5 ∨ (18 ≤ f ∧ f ≤ 24)) : Sc σ (st τ f i v) := Sc_sa h hf
theorem Sc_ev {σ τ : St} (h : Sc σ τ) {g b : Int} : Sc σ (evS τ g b) := fun f hf => by
  rw [evS_o (by omega) (by omega)]
  exact h f hf
theorem evS_st {σ : St} {g b : Int} {f : Nat} {i v : Int} (h5 : f ≠ 18) (h6 : f ≠ 20) : st (evS σ g b) f i v = evS (st σ f i v) g b := by
  funext x
  unfold st sa
  by_cases h : x = f
  · subst h
    rw [if_pos rfl, evS_o h5 h6, evS_o h5 h6]
    rw [if_pos rfl]
  · rw [if_neg h]
    unfold evS
    by_cases h7 : x = 18
    · rw [if_pos h7, if_pos h7]
      show _ = up (if (18 : Nat) = f then up (σ f) i v else σ 18) 0 g
      rw [if_neg (by omega)]
    · rw [if_neg h7, if_neg h7]
      by_cases h8 : x = 20
      · rw [if_pos h8, if_pos h8]
        show _ = up (if (20 : Nat) = f then up (σ f) i v else σ 20) 0 b
        rw [if_neg (by omega)]
      · rw [if_neg h8, if_neg h8]
        show _ = if x = f then up (σ f) i v else σ x
        rw [if_neg h]
