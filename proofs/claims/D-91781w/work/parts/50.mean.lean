/-! MEANINGS: what a part, term, sum, test of a text's tokens says of a case; none: it is broken -/
abbrev Mean : Type := (Int → Int) → Option Int
def bnd (v : Int) : Option Int := if v > 1000000000 ∨ v < -1000000000 then none else some v
def joinF (op : Int) (f g : Mean) : Mean := fun a => (f a).bind (fun x => (g a).bind (fun y => if op = 147 then (if y = 0 then none else some (Int.tdiv x y)) else bnd (if op = 143 then x + y else if op = 145 then x - y else x * y)))
def andF (f g : Mean) : Mean := fun a => (f a).bind (fun x => if x = 0 then some 0 else g a)
def orF (f g : Mean) : Mean := fun a => (f a).bind (fun x => if x = 0 then g a else some 1)
def notF (f : Mean) : Mean := fun a => (f a).map (fun x => if x = 0 then 1 else 0)
def cmpF (op : Int) (f g : Mean) : Mean := fun a => (f a).bind (fun x => (g a).bind (fun y => some (if (if op = 160 then x < y else if op = 162 then y < x else x = y) then 1 else 0)))
def factF (c : Int) : Mean := fun a => some (if c < 15 then (if a 1 = c - 10 + 1 then 1 else 0) else if c = 16 then (if airP (a 1) (a 6) then 1 else 0) else (if a 7 = 1 then 1 else 0))
def partF (c v : Int) : Mean := fun a => some (if c = 50 then v else a (if c = 24 then 8 else c - 17))
def lpM (C : Int → Int) (c1 c2 : Int) (cb : Int → Mean → Mean → Mean) (b : Int → Option (Mean × Int)) : Nat → Mean → Int → Option (Mean × Int)
  | 0, _, _ => none
  | k + 1, f, i => if C i = c1 ∨ C i = c2 then (b (i + 1)).bind (fun r => lpM C c1 c2 cb b k (cb (C i) f r.1) r.2) else some (f, i)
/-- past the nots: whether their number is odd, and where they end -/
def ntM (C : Int → Int) : Nat → Bool → Int → Option (Bool × Int)
  | 0, _, _ => none
  | k + 1, q, i => if C i = 9 then ntM C k (!q) (i + 1) else some (q, i)
/-- modes: 0 part, 1 term, 2 sum, 3 plain, 4 both, 5 test, 6 positive -/
def mn (C V : Int → Int) : Nat → Nat → Int → Option (Mean × Int)
  | 0, _, _ => none
  | n + 1, mode, i => match mode with
    | 0 => if C i = 191 then (mn C V n 2 (i + 1)).bind (fun r => if C r.2 = 193 then some (r.1, r.2 + 1) else none)
        else if C i = 50 ∨ (17 ≤ C i ∧ C i ≤ 24) then some (partF (C i) (V i), i + 1) else none
    | 1 => (mn C V n 0 i).bind (fun r => lpM C 142 147 joinF (mn C V n 0) 402 r.1 r.2)
    | 2 => (mn C V n 1 i).bind (fun r => lpM C 143 145 joinF (mn C V n 1) 402 r.1 r.2)
    | 3 => (ntM C 402 false i).bind (fun q => (mn C V n 6 q.2).map (fun r => (if q.1 then notF r.1 else r.1, r.2)))
    | 4 => (mn C V n 3 i).bind (fun r => lpM C 8 8 (fun _ => andF) (mn C V n 3) 402 r.1 r.2)
    | 5 => (mn C V n 4 i).bind (fun r => lpM C 7 7 (fun _ => orF) (mn C V n 4) 402 r.1 r.2)
    | _ => if C i = 140 then (mn C V n 5 (i + 1)).bind (fun r => if C r.2 = 141 then some (r.1, r.2 + 1) else none)
        else if 10 ≤ C i ∧ C i ≤ 16 then some (factF (C i), i + 1)
        else (mn C V n 2 i).bind (fun r1 => if C r1.2 = 160 ∨ C r1.2 = 161 ∨ C r1.2 = 162 then (mn C V n 2 (r1.2 + 1)).map (fun r2 => (cmpF (C r1.2) r1.1 r2.1, r2.2)) else none)
/-- a value of a sum when it lives -/
def vOf (f : Mean) (a : Int → Int) : Int := (f a).getD 0
/-- the model's state of asking: where it goes, whether it is broken -/
def evS (σ : St) (g b : Int) : St := fun x => if x = 18 then up (σ 18) 0 g else if x = 20 then up (σ 20) 0 b else σ x
theorem evS_18 {σ : St} {g b v : Int} : st (evS σ g b) 18 0 v = evS σ v b := by
  funext x
  unfold st sa
  by_cases h : x = 18
  · subst h
    rw [if_pos rfl]
    exact up_up
  · rw [if_neg h]
    unfold evS
    rw [if_neg h, if_neg h]
theorem evS_20 {σ : St} {g b v : Int} : st (evS σ g b) 20 0 v = evS σ g v := by
  funext x
  unfold st sa
  by_cases h : x = 20
  · subst h
    rw [if_pos rfl]
    exact up_up
  · rw [if_neg h]
    unfold evS
    by_cases h5 : x = 18
    · rw [if_pos h5, if_pos h5]
    · rw [if_neg h5, if_neg h5, if_neg h, if_neg h]
theorem evS_self {σ : St} : evS σ (σ 18 0) (σ 20 0) = σ := by
  funext x
  unfold evS
  by_cases h5 : x = 18
  · subst h5; rw [if_pos rfl]; exact up_self
  · rw [if_neg h5]
    by_cases h6 : x = 20
    · subst h6; rw [if_pos rfl]; exact up_self
    · rw [if_neg h6]
theorem evS_o {σ : St} {g b : Int} {x : Nat} (h5 : x ≠ 18) (h6 : x ≠ 20) : evS σ g b x = σ x := by
  unfold evS
  rw [if_neg h5, if_neg h6]
/-- how broken it is behind a meaning -/
def brk (f : Mean) (a : Int → Int) (live b : Int) : Int := if live = 1 ∧ b = 0 ∧ f a = none then 1 else b
/-- the codes of the asked text, as m.codeAt sees them: absolute places -/
def cdA (σ : St) (k : Int) : Int := if k < σ 19 0 then σ 2 (1770 + k) else 0
def vlA (σ : St) (k : Int) : Int := σ 2 (6570 + k)
/-- what asking needs: places and values in range -/
def EV (σ : St) : Prop := (0 ≤ σ 19 0 ∧ σ 19 0 ≤ 4800) ∧ (∀ k, 0 ≤ k → k < 4800 → 0 ≤ σ 2 (1770 + k) ∧ σ 2 (1770 + k) ≤ 355) ∧ (∀ k, 0 ≤ k → k < 4800 → 0 ≤ σ 2 (6570 + k) ∧ σ 2 (6570 + k) ≤ 100000) ∧ caseOK (σ 5)
theorem cdA_r {σ : St} {k : Int} (h : EV σ) (h0 : 0 ≤ k) : 0 ≤ cdA σ k ∧ cdA σ k ≤ 355 := by
  unfold cdA
  split
  · exact h.2.1 k h0 (by have := h.1; omega)
  · omega
