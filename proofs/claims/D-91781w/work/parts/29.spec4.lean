/-! a day of one flask -/
abbrev opP (σ : St) (f : Int) : Prop := σ 2 1750 ≤ σ 2 (184 + 26 * f + 10)
def inF (σ : St) (f : Int) : Int := if σ 2 (18 + σ 2 (184 + 26 * f + 1)) + σ 2 (24 + σ 2 (184 + 26 * f + 8)) > 100 ∨ opP σ f then 100 else σ 2 (18 + σ 2 (184 + 26 * f + 1)) + σ 2 (24 + σ 2 (184 + 26 * f + 8))
def duF (σ : St) (f : Int) : Int := σ 2 (28 + σ 2 (184 + 26 * f + 5))
def chF (σ : St) (f : Int) : Int := if σ 2 (184 + 26 * f + 12) = σ 2 1750 then (if duF σ f > 10 then 100 else 10 * duF σ f) else duF σ f * inF σ f / 100
def fall1 (σ : St) (f : Int) : St := if opP σ f then ss σ f 6 (σ 2 (184 + 26 * f + 6) + 1) else σ
def fall2 (σ : St) (f : Int) : St := if airP (σ 2 (184 + 26 * f + 1)) (fall1 σ f 2 (184 + 26 * f + 6)) then ss (fall1 σ f) f 11 (σ 2 (184 + 26 * f + 11) + 1) else fall1 σ f
/-- the weights of a place, of the first n kinds -/
def wSum (σ : St) (q : Int) : Nat → Int
  | 0 => 0
  | n + 1 => wSum σ q n + σ 2 (40 + 8 * q + n)
/-- the kind that a number falls to, and what is left of it -/
def wPick (σ : St) (q : Int) : Nat → Int → Int → Int
  | 0, _, k => k
  | n + 1, x, k => if σ 2 (40 + 8 * q + k) ≤ x then wPick σ q n (x - σ 2 (40 + 8 * q + k)) (k + 1) else k
def fallG (τ : St) (f k nw g : Int) : St := ss (ss (ss τ f (17 + 2 * g) k) f (17 + 2 * g + 1) nw) f 16 (g + 1)
def drawS (σ : St) : St := st σ 2 1751 (drawF (σ 2))
def fallsF (σ : St) (f : Int) : St :=
  if chF σ f = 0 then fall2 σ f
  else if chF σ f ≤ drawF (σ 2) % 100 ∨ σ 2 (184 + 26 * f + 16) = 4 then drawS (fall2 σ f)
  else if wSum σ (σ 2 (184 + 26 * f + 5)) (σ 2 1752).toNat = 0 then drawS (fall2 σ f)
  else fallG (drawS (drawS (fall2 σ f))) f (wPick σ (σ 2 (184 + 26 * f + 5)) 8 (drawF (drawS σ 2) % wSum σ (σ 2 (184 + 26 * f + 5)) (σ 2 1752).toNat) 0) (σ 2 1750) (σ 2 (184 + 26 * f + 16))
theorem fall1_o (σ : St) (f i : Int) (h : i ≠ 184 + 26 * f + 6) : fall1 σ f 2 i = σ 2 i := by
  unfold fall1
  split
  · exact st_i h
  · rfl
theorem fall1_6 (σ : St) (f : Int) : fall1 σ f 2 (184 + 26 * f + 6) = σ 2 (184 + 26 * f + 6) + (if opP σ f then 1 else 0) := by
  unfold fall1
  split
  · exact st_s
  · omega
theorem fall2_o (σ : St) (f i : Int) (h : i ≠ 184 + 26 * f + 6) (h2 : i ≠ 184 + 26 * f + 11) : fall2 σ f 2 i = σ 2 i := by
  unfold fall2
  split
  · exact (st_i h2).trans (fall1_o σ f i h)
  · exact fall1_o σ f i h
theorem wSum_r {σ : St} {q : Int} (h : ∀ k, 0 ≤ k → k < 8 → 0 ≤ σ 2 (40 + 8 * q + k) ∧ σ 2 (40 + 8 * q + k) ≤ 1000) : ∀ n : Nat, n ≤ 8 → 0 ≤ wSum σ q n ∧ wSum σ q n ≤ 1000 * n
  | 0, _ => ⟨Int.le_refl 0, Int.le_refl 0⟩
  | n + 1, hn => by
    have h1 := wSum_r h n (by omega)
    have h2 := h n (by omega) (by omega)
    show 0 ≤ wSum σ q n + _ ∧ wSum σ q n + _ ≤ 1000 * ((n + 1 : Nat) : Int)
    omega
theorem wSum_s {σ : St} {q i : Int} (h0 : 0 ≤ i) : wSum σ q (i + 1).toNat = wSum σ q i.toNat + σ 2 (40 + 8 * q + i) := by
  rw [show (i + 1).toNat = i.toNat + 1 by omega, wSum, Int.toNat_of_nonneg h0]
/-- what is left, beside what is behind the kinds seen -/
def wTail (σ : St) (q : Int) : Nat → Int → Int
  | 0, _ => 0
  | n + 1, k => σ 2 (40 + 8 * q + k) + wTail σ q n (k + 1)
theorem wTail_e (σ : St) (q : Int) : ∀ (n : Nat) (k : Nat), wSum σ q k + wTail σ q n k = wSum σ q (k + n)
  | 0, k => by rw [wTail, Int.add_zero]; rfl
  | n + 1, k => by
    have h := wTail_e σ q n (k + 1)
    rw [show k + (n + 1) = k + 1 + n by omega, ← h, wTail, wSum]
    have : ((k + 1 : Nat) : Int) = (k : Int) + 1 := by omega
    rw [this]
    omega
abbrev canP (σ : St) (f g : Int) : Prop := (σ 2 (136 + 6 * σ 2 (184 + 26 * f + (17 + 2 * g)) + 2) / 2 ^ (σ 2 (184 + 26 * f + 0)).toNat % 2 = 1 ∧ (σ 2 (136 + 6 * σ 2 (184 + 26 * f + (17 + 2 * g)) + 4) = 0 ∨ airP (σ 2 (184 + 26 * f + 1)) (σ 2 (184 + 26 * f + 6)))) ∧ σ 2 (136 + 6 * σ 2 (184 + 26 * f + (17 + 2 * g)) + 3) ≤ σ 2 1750 - σ 2 (184 + 26 * f + (17 + 2 * g + 1)) + 1
def byF (σ : St) (f : Int) : Nat → Int
  | 0 => -1
  | n + 1 => if byF σ f n = -1 then (if canP σ f n then σ 2 (184 + 26 * f + (17 + 2 * (n : Int))) else -1) else byF σ f n
theorem byF_stay {σ : St} {f : Int} {n : Nat} (h : byF σ f n ≠ -1) : ∀ m : Nat, byF σ f (n + m) = byF σ f n
  | 0 => rfl
  | m + 1 => by
    have ih := byF_stay h m
    rw [show n + (m + 1) = n + m + 1 by omega, byF, ih, if_neg h]
theorem byF_c {σ : St} {f i : Int} (h0 : 0 ≤ i) (hb : byF σ f i.toNat = -1) (hc : canP σ f i) : byF σ f (i + 1).toNat = σ 2 (184 + 26 * f + (17 + 2 * i)) := by
  rw [show (i + 1).toNat = i.toNat + 1 by omega, byF, if_pos hb, Int.toNat_of_nonneg h0, if_pos hc]
theorem byF_d {σ : St} {f i : Int} (h0 : 0 ≤ i) (hb : byF σ f i.toNat = -1) (hc : ¬ canP σ f i) : byF σ f (i + 1).toNat = byF σ f i.toNat := by
  rw [show (i + 1).toNat = i.toNat + 1 by omega, byF, if_pos hb, Int.toNat_of_nonneg h0, if_neg hc, hb]
abbrev genP (σ : St) (f : Int) : Prop := 0 < σ 2 (0 + 3 * σ 2 (184 + 26 * f + 0)) ∧ σ 2 (0 + 3 * σ 2 (184 + 26 * f + 0)) ≤ σ 2 (184 + 26 * f + 11)
def byA (σ : St) (f : Int) : Int := byF σ f (σ 2 (184 + 26 * f + 16)).toNat
def turnsF (σ : St) (f : Int) : St := if σ 2 (184 + 26 * f + 13) = 1 then σ else if ¬ genP σ f ∧ byA σ f = -1 then σ else ss (ss (ss σ f 13 1) f 14 (byA σ f)) f 15 (σ 2 1750)
