/-- a run of places copied -/
def cpA (a : Int → Int) (to n : Int) (src : Int → Int) : Int → Int := fun i => if to ≤ i ∧ i < to + n then src (i - to) else a i
theorem cpA_0 {a : Int → Int} {to : Int} {src : Int → Int} : cpA a to 0 src = a := by
  funext i
  unfold cpA
  exact if_neg (by omega)
theorem cpA_s {a : Int → Int} {to n : Int} {src : Int → Int} (h : 0 ≤ n) : up (cpA a to n src) (to + n) (src n) = cpA a to (n + 1) src := by
  funext i
  unfold up cpA
  by_cases q : i = to + n
  · subst q
    rw [if_pos rfl, if_pos (by omega)]
    congr 1
    omega
  · rw [if_neg q]
    by_cases z : to ≤ i ∧ i < to + n
    · rw [if_pos z, if_pos (by omega)]
    · rw [if_neg z, if_neg (by omega)]
theorem cpA_in {a : Int → Int} {to n i : Int} {src : Int → Int} (h : to ≤ i ∧ i < to + n) : cpA a to n src i = src (i - to) := if_pos h
theorem cpA_out {a : Int → Int} {to n i : Int} {src : Int → Int} (h : i < to ∨ to + n ≤ i) : cpA a to n src i = a i := if_neg (by omega)
theorem sa_0 {σ : St} {f : Nat} {to : Int} {src : Int → Int} : sa σ f (cpA (σ f) to 0 src) = σ := by
  rw [cpA_0]
  funext g
  unfold sa
  by_cases h : g = f
  · subst h; exact if_pos rfl
  · exact if_neg h
theorem sa_sa {σ : St} {f : Nat} {a b : Int → Int} : sa (sa σ f a) f b = sa σ f b := by
  funext g
  unfold sa
  by_cases h : g = f
  · rw [if_pos h, if_pos h]
  · rw [if_neg h, if_neg h, if_neg h]
theorem st_cp {σ : St} {f : Nat} {a : Int → Int} {to n v : Int} {src : Int → Int} (h : 0 ≤ n) (hv : v = src n) : st (sa σ f (cpA a to n src)) f (to + n) v = sa σ f (cpA a to (n + 1) src) := by
  unfold st
  rw [sa_s, hv, cpA_s h, sa_sa]
theorem itS_keep {P : St → Prop} {f : Nat → St → St} (hf : ∀ n τ, P τ → P (f n τ)) {σ : St} (h : P σ) : ∀ n, P (itS f n σ)
  | 0 => h
  | n + 1 => hf n _ (itS_keep hf h n)
def wRow (σ : St) (k : Int) (n : Int) : Int → Int := fun i => if 40 ≤ i ∧ i < 136 ∧ (i - 40) % 8 = k ∧ (i - 40) / 8 < n then 0 else σ 2 i
def caseF (σ : St) (f : Int) : Int → Int := fun j => if j = 4 then min 255 (σ 2 1750 - σ 2 (184 + 26 * f + 4)) else if j = 6 then min 255 (σ 2 (184 + 26 * f + 6)) else if 0 ≤ j ∧ j < 9 then σ 2 (184 + 26 * f + j) else σ 5 j
theorem caseF_eq {σ : St} {f : Int} : up (up (cpA (σ 5) 0 9 (fun j => σ 2 (184 + 26 * f + j))) 4 (min 255 (σ 2 1750 - σ 2 (184 + 26 * f + 4)))) 6 (min 255 (σ 2 (184 + 26 * f + 6))) = caseF σ f := by
  funext j
  unfold up cpA caseF
  by_cases h4 : j = 4
  · subst h4; rfl
  · by_cases h6 : j = 6
    · subst h6; rfl
    · rw [if_neg h6, if_neg h4, if_neg h4, if_neg h6]
      by_cases z : 0 ≤ j ∧ j < 9
      · rw [if_pos (by omega), if_pos z, Int.sub_zero]
      · rw [if_neg (by omega), if_neg z]
abbrev isCaseP (k v : Int) : Prop := v ≤ (if k = 0 ∨ k = 1 then 5 else if k = 2 then 7 else if k = 5 then 11 else if k = 7 then 1 else if k = 8 then 3 else if k = 9 then 1 else 255)
abbrev airP (so op : Int) : Prop := so = 0 ∨ so = 1 ∨ so = 3 ∨ 0 < op
def drawF (κ : Int → Int) : Int := (1103 * κ 1751 + 12345) % 1000003
theorem st_cp0 {σ : St} {f : Nat} {a : Int → Int} {n v : Int} {src : Int → Int} (h : 0 ≤ n) (hv : v = src n) : st (sa σ f (cpA a 0 n src)) f n v = sa σ f (cpA a 0 (n + 1) src) := by
  have e := st_cp (σ := σ) (f := f) (a := a) (to := 0) h hv
  rw [Int.zero_add] at e
  exact e
theorem wRow_0 {σ : St} {k : Int} : sa σ 2 (wRow σ k 0) = σ := by
  have e : wRow σ k 0 = σ 2 := by
    funext i
    exact if_neg (by omega)
  rw [e]
  funext g
  unfold sa
  by_cases h : g = 2
  · subst h; exact if_pos rfl
  · exact if_neg h
theorem wRow_s {σ : St} {k n : Int} (h0 : 0 ≤ k) (h1 : k < 8) (hn : 0 ≤ n) (hn2 : n < 12) : st (sa σ 2 (wRow σ k n)) 2 (40 + 8 * n + k) 0 = sa σ 2 (wRow σ k (n + 1)) := by
  unfold st
  rw [sa_s, sa_sa]
  congr 1
  funext i
  unfold up wRow
  by_cases q : i = 40 + 8 * n + k
  · rw [if_pos q, if_pos (by omega)]
  · rw [if_neg q]
    by_cases z : 40 ≤ i ∧ i < 136 ∧ (i - 40) % 8 = k ∧ (i - 40) / 8 < n
    · rw [if_pos z, if_pos (by omega)]
    · rw [if_neg z, if_neg (by omega)]
def kindF (σ : St) (a b c d e f : Int) : Int × St := if (0 ≤ a ∧ a ≤ 7) ∧ (1 ≤ b ∧ b ≤ 255) ∧ (0 ≤ c ∧ c ≤ 63) ∧ (1 ≤ d ∧ d ≤ 100) ∧ (0 ≤ e ∧ e ≤ 1) ∧ (0 ≤ f ∧ f ≤ 3) then if σ 2 1752 = 8 then (-5, refS σ (-5)) else (σ 2 1752, goodS (st (sa (kindW σ (σ 2 1752) a b c d e f) 2 (wRow (kindW σ (σ 2 1752) a b c d e f) (σ 2 1752) 12)) 2 1752 (σ 2 1752 + 1))) else (-1, refS σ (-1))
def flaskW (τ : St) (f b so q h nw : Int) : St := ss (ss (ss (ss (ss (ss (ss (ss (ss (ss τ f 0 b) f 1 so) f 4 nw) f 5 q) f 8 h) f 9 nw) f 10 (-1)) f 12 (-1)) f 14 (-1)) f 15 (-1)
def flaskF (σ : St) (b so q h : Int) : Int × St := if (0 ≤ b ∧ b ≤ 5) ∧ (0 ≤ so ∧ so ≤ 5) ∧ (0 ≤ q ∧ q ≤ 11) ∧ (0 ≤ h ∧ h ≤ 3) then if σ 2 1753 = 40 then (-5, refS σ (-5)) else (σ 2 1753, goodS (st (flaskW (sa σ 2 (cpA (σ 2) (184 + 26 * σ 2 1753) 26 (fun _ => 0))) (σ 2 1753) b so q h (σ 2 1750)) 2 1753 (σ 2 1753 + 1))) else (-1, refS σ (-1))
def imageF (σ : St) (k : Int) : Int × St := if 0 ≤ k ∧ k ≤ 1 then (0, goodS (st (sa σ 3 (cpA (σ 3) (11370 * k) 11370 (σ 2))) 4 k 1)) else (-1, refS σ (-1))
def backF (σ : St) (k : Int) : Int × St := if 0 ≤ k ∧ k ≤ 1 then if σ 4 k = 0 then (-2, refS σ (-2)) else (0, goodS (sa σ 2 (cpA (σ 2) 0 11370 (fun i => σ 3 (11370 * k + i))))) else (-1, refS σ (-1))
def lookW (τ : St) (k f : Int) : St := st (st (sa τ 2 (cpA (τ 2) (1224 + 10 * k) 9 (τ 5))) 2 (1224 + 10 * k + 9) (τ 2 (184 + 26 * f + 13))) 2 1754 (k + 1)
def lookF (σ : St) (f : Int) : Int × St := if 0 ≤ f ∧ f ≤ σ 2 1753 - 1 then if σ 2 1754 = 40 then (-5, refS σ (-5)) else (σ 2 1754, goodS (lookW (sa σ 5 (caseF σ f)) (σ 2 1754) f)) else (-2, refS σ (-2))
def trialW (τ : St) (k : Int) : St := st (sa τ 2 (cpA (τ 2) (1624 + 9 * k) 9 (τ 5))) 2 1755 (k + 1)
def trialF (σ : St) (f : Int) : Int × St := if 0 ≤ f ∧ f ≤ σ 2 1753 - 1 then if σ 2 1755 = 12 then (-5, refS σ (-5)) else (σ 2 1755, goodS (trialW (sa σ 5 (caseF σ f)) (σ 2 1755))) else (-2, refS σ (-2))
def tellsF (σ : St) (f w : Int) : Int × St := if (0 ≤ f ∧ f ≤ σ 2 1753 - 1) ∧ (0 ≤ w ∧ w ≤ 14) then ((if w < 9 then caseF σ f w else if w = 9 then σ 2 (184 + 26 * f + 13) else if w = 10 then σ 2 (184 + 26 * f + 14) else if w = 11 then σ 2 (184 + 26 * f + 16) else if w = 12 then σ 2 (184 + 26 * f + 9) else if w = 13 then (if airP (caseF σ f 1) (caseF σ f 6) then 1 else 0) else σ 2 (184 + 26 * f + 15)), sa σ 5 (caseF σ f)) else (-1000, σ)
def fiveS (σ : St) (a b c d e : Int) : St := st (st (st (st (st σ 8 0 a) 8 1 b) 8 2 c) 8 3 d) 8 4 e
def fiveB (σ : St) (k : Int) : Int := b8 (σ 8 (k / 4) / 2 ^ (24 - 8 * (k % 4)).toNat)
def feedF (σ : St) (a b c d e : Int) : Int × St := if σ 9 0 + 20 ≤ 400 then (σ 9 0 + 20, st (sa (fiveS σ a b c d e) 7 (cpA (σ 7) (σ 9 0) 20 (fiveB (fiveS σ a b c d e)))) 9 0 (σ 9 0 + 20)) else (-1, σ)
def commF (σ : St) (x q : Int) : Int × St := if 0 < x ∧ x < 2 ^ (σ 2 1755).toNat ∧ onesN x 12 ≤ 9 ∧ 1 ≤ q ∧ q ≤ onesN x 12 then if σ 2 1757 = 9 then (-5, refS σ (-5)) else (σ 2 1757, goodS (st (st (st σ 2 (1732 + 2 * σ 2 1757) x) 2 (1732 + 2 * σ 2 1757 + 1) q) 2 1757 (σ 2 1757 + 1))) else (-1, refS σ (-1))
theorem mod2_01 (x : Int) : x % 2 = 0 ∨ x % 2 = 1 := by omega
theorem onesN_s {x i : Int} (h0 : 0 ≤ i) (hb : 0 ≤ onesN x i.toNat ∧ onesN x i.toNat ≤ i) : 0 ≤ onesN x (i + 1).toNat ∧ onesN x (i + 1).toNat ≤ i + 1 := by
  rw [show (i + 1).toNat = i.toNat + 1 by omega]
  show 0 ≤ onesN x i.toNat + x / 2 ^ i.toNat % 2 ∧ onesN x i.toNat + x / 2 ^ i.toNat % 2 ≤ i + 1
  generalize x / 2 ^ i.toNat = y
  omega
theorem kindR {σ : St} {a b c d e f : Int} (h8 : ¬ σ 2 1752 = 8) (hk : 0 ≤ σ 2 1752 ∧ σ 2 1752 ≤ 8) : sa (kindW σ (σ 2 1752) a b c d e f) 2 (wRow (kindW σ (σ 2 1752) a b c d e f) (σ 2 1752) 12) 2 1752 = σ 2 1752 := by
  rw [sa_s]
  unfold wRow kindW
  rw [if_neg (by omega), st_i (by omega), st_i (by omega), st_i (by omega), st_i (by omega), st_i (by omega), st_i (by omega)]
theorem onesN_e {x i : Int} (h0 : 0 ≤ i) : onesN x (i + 1).toNat = onesN x i.toNat + x / 2 ^ i.toNat % 2 := by
  rw [show (i + 1).toNat = i.toNat + 1 by omega]
  rfl
