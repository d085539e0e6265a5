/-! WHAT THE MODEL'S ROW HOLDS, and what each call makes of it -/
def kCnt (κ : Int → Int) : Prop := (0 ≤ κ 1750 ∧ κ 1750 ≤ 399) ∧ (0 ≤ κ 1751 ∧ κ 1751 ≤ 1000002) ∧ (0 ≤ κ 1752 ∧ κ 1752 ≤ 8) ∧ (0 ≤ κ 1753 ∧ κ 1753 ≤ 40) ∧ (0 ≤ κ 1754 ∧ κ 1754 ≤ 40) ∧ (0 ≤ κ 1755 ∧ κ 1755 ≤ 12) ∧ (0 ≤ κ 1756 ∧ κ 1756 ≤ 12) ∧ (0 ≤ κ 1757 ∧ κ 1757 ≤ 9)
def kBroth (κ : Int → Int) : Prop := ∀ b, 0 ≤ b → b < 6 → (0 ≤ κ (0 + 3 * b) ∧ κ (0 + 3 * b) ≤ 100) ∧ (0 ≤ κ (0 + 3 * b + 1) ∧ κ (0 + 3 * b + 1) ≤ 7) ∧ (0 ≤ κ (0 + 3 * b + 2) ∧ κ (0 + 3 * b + 2) ≤ 1)
def kLets (κ : Int → Int) : Prop := ∀ i, 18 ≤ i → i < 40 → 0 ≤ κ i ∧ κ i ≤ 100
def kWeights (κ : Int → Int) : Prop := ∀ q k, 0 ≤ q → q < 12 → 0 ≤ k → k < 8 → (0 ≤ κ (40 + 8 * q + k) ∧ κ (40 + 8 * q + k) ≤ 1000) ∧ (κ 1752 ≤ k → κ (40 + 8 * q + k) = 0)
def kKind (κ : Int → Int) (k : Int) : Prop := (0 ≤ κ (136 + 6 * k + 0) ∧ κ (136 + 6 * k + 0) ≤ 7) ∧ (1 ≤ κ (136 + 6 * k + 1) ∧ κ (136 + 6 * k + 1) ≤ 255) ∧ (0 ≤ κ (136 + 6 * k + 2) ∧ κ (136 + 6 * k + 2) ≤ 63) ∧ (1 ≤ κ (136 + 6 * k + 3) ∧ κ (136 + 6 * k + 3) ≤ 100) ∧ (0 ≤ κ (136 + 6 * k + 4) ∧ κ (136 + 6 * k + 4) ≤ 1) ∧ (0 ≤ κ (136 + 6 * k + 5) ∧ κ (136 + 6 * k + 5) ≤ 3)
def kKinds (κ : Int → Int) : Prop := ∀ k, 0 ≤ k → k < κ 1752 → kKind κ k
def fl (κ : Int → Int) (f j : Int) : Int := κ (184 + 26 * f + j)
def kFlask (κ : Int → Int) (f b : Int) : Prop := (0 ≤ fl κ f 0 ∧ fl κ f 0 ≤ 5) ∧ (0 ≤ fl κ f 1 ∧ fl κ f 1 ≤ 5) ∧ (0 ≤ fl κ f 2 ∧ fl κ f 2 ≤ 7) ∧ (0 ≤ fl κ f 3 ∧ fl κ f 3 ≤ 255) ∧ (0 ≤ fl κ f 4 ∧ fl κ f 4 ≤ κ 1750) ∧ (0 ≤ fl κ f 5 ∧ fl κ f 5 ≤ 11) ∧ (0 ≤ fl κ f 6 ∧ fl κ f 6 ≤ b) ∧ (0 ≤ fl κ f 7 ∧ fl κ f 7 ≤ 1) ∧ (0 ≤ fl κ f 8 ∧ fl κ f 8 ≤ 3) ∧ (0 ≤ fl κ f 9 ∧ fl κ f 9 ≤ κ 1750) ∧ (-1 ≤ fl κ f 10 ∧ fl κ f 10 ≤ 600) ∧ (0 ≤ fl κ f 11 ∧ fl κ f 11 ≤ b) ∧ (-1 ≤ fl κ f 12 ∧ fl κ f 12 ≤ κ 1750) ∧ (0 ≤ fl κ f 13 ∧ fl κ f 13 ≤ 1) ∧ (-1 ≤ fl κ f 14 ∧ fl κ f 14 < κ 1752) ∧ (-1 ≤ fl κ f 15 ∧ fl κ f 15 ≤ κ 1750) ∧ (0 ≤ fl κ f 16 ∧ fl κ f 16 ≤ 4) ∧ ∀ g, 0 ≤ g → g < fl κ f 16 → (0 ≤ fl κ f (17 + 2 * g) ∧ fl κ f (17 + 2 * g) < κ 1752) ∧ (0 ≤ fl κ f (17 + 2 * g + 1) ∧ fl κ f (17 + 2 * g + 1) ≤ κ 1750)
def kFlasks (κ : Int → Int) (β : Int → Int) : Prop := ∀ f, 0 ≤ f → f < κ 1753 → kFlask κ f (β f)
def caseOK (a : Int → Int) : Prop := (0 ≤ a 0 ∧ a 0 ≤ 5) ∧ (0 ≤ a 1 ∧ a 1 ≤ 5) ∧ (0 ≤ a 2 ∧ a 2 ≤ 7) ∧ (0 ≤ a 3 ∧ a 3 ≤ 255) ∧ (0 ≤ a 4 ∧ a 4 ≤ 255) ∧ (0 ≤ a 5 ∧ a 5 ≤ 11) ∧ (0 ≤ a 6 ∧ a 6 ≤ 255) ∧ (0 ≤ a 7 ∧ a 7 ≤ 1) ∧ (0 ≤ a 8 ∧ a 8 ≤ 3)
def kLooks (κ : Int → Int) : Prop := ∀ k, 0 ≤ k → k < κ 1754 → caseOK (fun j => κ (1224 + 10 * k + j)) ∧ (0 ≤ κ (1224 + 10 * k + 9) ∧ κ (1224 + 10 * k + 9) ≤ 1)
def kTrials (κ : Int → Int) : Prop := ∀ k, 0 ≤ k → k < κ 1755 → caseOK (fun j => κ (1624 + 9 * k + j))
/-- how many of the low n bits are set -/
def onesN (x : Int) : Nat → Int
  | 0 => 0
  | n + 1 => onesN x n + x / 2 ^ n % 2
def kCourts (κ : Int → Int) : Prop := ∀ k, 0 ≤ k → k < κ 1757 → (1 ≤ κ (1732 + 2 * k) ∧ κ (1732 + 2 * k) < 2 ^ (κ 1755).toNat) ∧ onesN (κ (1732 + 2 * k)) 12 ≤ 9 ∧ (1 ≤ κ (1732 + 2 * k + 1) ∧ κ (1732 + 2 * k + 1) ≤ onesN (κ (1732 + 2 * k)) 12)
/-- the row of one bench, but for the texts (β: how far the days of a flask may have come) -/
def KG (κ β : Int → Int) : Prop := kCnt κ ∧ kBroth κ ∧ kLets κ ∧ kWeights κ ∧ kKinds κ ∧ kFlasks κ β ∧ kLooks κ ∧ kTrials κ ∧ kCourts κ
def KI (κ : Int → Int) : Prop := KG κ (fun _ => κ 1750)
theorem KG.c {κ β : Int → Int} (h : KG κ β) : kCnt κ := h.1
theorem KI.c {κ : Int → Int} (h : KI κ) : kCnt κ := KG.c h
theorem KG.b {κ β : Int → Int} (h : KG κ β) : kBroth κ := h.2.1
theorem KI.b {κ : Int → Int} (h : KI κ) : kBroth κ := KG.b h
theorem KG.l {κ β : Int → Int} (h : KG κ β) : kLets κ := h.2.2.1
theorem KI.l {κ : Int → Int} (h : KI κ) : kLets κ := KG.l h
theorem KG.w {κ β : Int → Int} (h : KG κ β) : kWeights κ := h.2.2.2.1
theorem KI.w {κ : Int → Int} (h : KI κ) : kWeights κ := KG.w h
theorem KG.k {κ β : Int → Int} (h : KG κ β) : kKinds κ := h.2.2.2.2.1
theorem KI.k {κ : Int → Int} (h : KI κ) : kKinds κ := KG.k h
theorem KG.f {κ β : Int → Int} (h : KG κ β) : kFlasks κ β := h.2.2.2.2.2.1
theorem KI.f {κ : Int → Int} (h : KI κ) : ∀ f, 0 ≤ f → f < κ 1753 → kFlask κ f (κ 1750) := KG.f h
theorem KG.o {κ β : Int → Int} (h : KG κ β) : kLooks κ := h.2.2.2.2.2.2.1
theorem KI.o {κ : Int → Int} (h : KI κ) : kLooks κ := KG.o h
theorem KG.t {κ β : Int → Int} (h : KG κ β) : kTrials κ := h.2.2.2.2.2.2.2.1
theorem KI.t {κ : Int → Int} (h : KI κ) : kTrials κ := KG.t h
theorem KG.u {κ β : Int → Int} (h : KG κ β) : kCourts κ := h.2.2.2.2.2.2.2.2
theorem KI.u {κ : Int → Int} (h : KI κ) : kCourts κ := KG.u h
def itS (f : Nat → St → St) : Nat → St → St
  | 0, σ => σ
  | n + 1, σ => f n (itS f n σ)
theorem itS_s (f : Nat → St → St) (n : Nat) (σ : St) : itS f (n + 1) σ = f n (itS f n σ) := rfl
def brothF (σ : St) (b g sp nd : Int) : Int × St := if (0 ≤ b ∧ b ≤ 5) ∧ (0 ≤ g ∧ g ≤ 100) ∧ (0 ≤ sp ∧ sp ≤ 7) ∧ (0 ≤ nd ∧ nd ≤ 1) then (0, goodS (st (st (st σ 2 (0 + 3 * b) g) 2 (0 + 3 * b + 1) sp) 2 (0 + 3 * b + 2) nd)) else (-1, refS σ (-1))
def letAt (w n : Int) : Int := (if w = 0 then 18 else if w = 1 then 24 else 28) + n
def letsF (σ : St) (w n v : Int) : Int × St := if (0 ≤ w ∧ w ≤ 2) ∧ (0 ≤ n ∧ n ≤ (if w = 0 then 5 else if w = 1 then 3 else 11)) ∧ (0 ≤ v ∧ v ≤ 100) then (σ 2 (letAt w n), goodS (st σ 2 (letAt w n) v)) else (-1, refS σ (-1))
def weighF (σ : St) (q k v : Int) : Int × St := if (0 ≤ q ∧ q ≤ 11) ∧ (0 ≤ v ∧ v ≤ 1000) then if 0 ≤ k ∧ k ≤ σ 2 1752 - 1 then (σ 2 (40 + 8 * q + k), goodS (st σ 2 (40 + 8 * q + k) v)) else (-2, refS σ (-2)) else (-1, refS σ (-1))
def seedF (σ : St) (v : Int) : Int × St := if 0 ≤ v ∧ v ≤ 1000000 then (0, goodS (st σ 2 1751 v)) else (-1, refS σ (-1))
def moveF (σ : St) (f q : Int) : Int × St := if 0 ≤ q ∧ q ≤ 11 then if 0 ≤ f ∧ f ≤ σ 2 1753 - 1 then (0, goodS (st σ 2 (184 + 26 * f + 5) q)) else (-2, refS σ (-2)) else (-1, refS σ (-1))
def openF (σ : St) (f dd : Int) : Int × St := if 1 ≤ dd ∧ dd ≤ 100 then if 0 ≤ f ∧ f ≤ σ 2 1753 - 1 then if σ 2 (184 + 26 * f + 1) = 0 then (-3, refS σ (-3)) else (0, goodS (st σ 2 (184 + 26 * f + 10) (σ 2 1750 + dd - 1))) else (-2, refS σ (-2)) else (-1, refS σ (-1))
def tipF (σ : St) (f : Int) : Int × St := if 0 ≤ f ∧ f ≤ σ 2 1753 - 1 then if σ 2 (184 + 26 * f + 1) = 1 then (0, goodS (st (st σ 2 (184 + 26 * f + 12) (σ 2 1750)) 2 (184 + 26 * f + 7) 1)) else (-3, refS σ (-3)) else (-2, refS σ (-2))
def kindW (σ : St) (k a b c d e f : Int) : St := st (st (st (st (st (st σ 2 (136 + 6 * k) a) 2 (136 + 6 * k + 1) b) 2 (136 + 6 * k + 2) c) 2 (136 + 6 * k + 3) d) 2 (136 + 6 * k + 4) e) 2 (136 + 6 * k + 5) f
def ss (σ : St) (f j v : Int) : St := st σ 2 (184 + 26 * f + j) v
def endF (σ : St) (n : Int) : Int × St := if 0 ≤ n ∧ n ≤ σ 9 0 then (n, st σ 9 0 n) else (-1, σ)
def ofF (σ : St) (w n q : Int) : Int := if w = 0 then if (0 ≤ q ∧ q ≤ 9) ∧ (0 ≤ n ∧ n ≤ σ 2 1754 - 1) then σ 2 (1224 + 10 * n + q) else -1 else if w = 1 then if (0 ≤ q ∧ q ≤ 8) ∧ (0 ≤ n ∧ n ≤ σ 2 1755 - 1) then σ 2 (1624 + 9 * n + q) else -1 else -1
def countF (σ : St) (w : Int) : Int := if w = 0 then σ 2 1750 else if w = 1 then σ 2 1752 else if w = 2 then σ 2 1753 else if w = 3 then σ 2 1754 else if w = 4 then σ 2 1755 else if w = 5 then σ 2 1756 else if w = 6 then σ 2 1757 else if w = 7 then σ 9 0 else if w = 8 then σ 1 1 else if w = 9 then σ 1 2 else if w = 10 then σ 1 3 else if w = 11 then σ 1 5 else if w = 12 then σ 1 6 else -1
