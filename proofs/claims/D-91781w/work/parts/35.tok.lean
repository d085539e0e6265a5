/-! TOKENS of a tape T of n bytes -/
abbrev lowP (b : Int) : Prop := 97 ≤ b ∧ b ≤ 122
abbrev digP (b : Int) : Prop := 48 ≤ b ∧ b ≤ 57
def skN (T : Int → Int) (n : Int) : Nat → Int → Int
  | 0, k => k
  | m + 1, k => if k < n ∧ T k = 32 then skN T n m (k + 1) else k
/-- the first place from k on that is no space -/
def sk (T : Int → Int) (n k : Int) : Int := skN T n (n - k).toNat k
def lowN (T : Int → Int) (n : Int) : Nat → Int → Int
  | 0, k => k
  | m + 1, k => if k < n ∧ lowP (T k) then lowN T n m (k + 1) else k
def lowE (T : Int → Int) (n k : Int) : Int := lowN T n (n - k).toNat k
def digN (T : Int → Int) (n : Int) : Nat → Int → Int
  | 0, k => k
  | m + 1, k => if k < n ∧ digP (T k) then digN T n m (k + 1) else k
def digE (T : Int → Int) (n k : Int) : Int := digN T n (n - k).toNat k
/-- where the token that starts at k ends -/
def enT (T : Int → Int) (n k : Int) : Int := if lowP (T k) then lowE T n (k + 1) else if digP (T k) then digE T n (k + 1) else k + 1
theorem sk_y {T : Int → Int} {n k : Int} (h : k < n) (e : T k = 32) : sk T n k = sk T n (k + 1) := by
  unfold sk
  rw [show (n - k).toNat = (n - (k + 1)).toNat + 1 by omega, skN, if_pos ⟨h, e⟩]
theorem sk_n {T : Int → Int} {n k : Int} (h : ¬ (k < n ∧ T k = 32)) : sk T n k = k := by
  unfold sk
  by_cases c : k < n
  · rw [show (n - k).toNat = (n - (k + 1)).toNat + 1 by omega, skN, if_neg h]
  · rw [show (n - k).toNat = 0 by omega, skN]
theorem lowE_y {T : Int → Int} {n k : Int} (h : k < n) (e : lowP (T k)) : lowE T n k = lowE T n (k + 1) := by
  unfold lowE
  rw [show (n - k).toNat = (n - (k + 1)).toNat + 1 by omega, lowN, if_pos ⟨h, e⟩]
theorem lowE_n {T : Int → Int} {n k : Int} (h : ¬ (k < n ∧ lowP (T k))) : lowE T n k = k := by
  unfold lowE
  by_cases c : k < n
  · rw [show (n - k).toNat = (n - (k + 1)).toNat + 1 by omega, lowN, if_neg h]
  · rw [show (n - k).toNat = 0 by omega, lowN]
theorem digE_y {T : Int → Int} {n k : Int} (h : k < n) (e : digP (T k)) : digE T n k = digE T n (k + 1) := by
  unfold digE
  rw [show (n - k).toNat = (n - (k + 1)).toNat + 1 by omega, digN, if_pos ⟨h, e⟩]
theorem digE_n {T : Int → Int} {n k : Int} (h : ¬ (k < n ∧ digP (T k))) : digE T n k = k := by
  unfold digE
  by_cases c : k < n
  · rw [show (n - k).toNat = (n - (k + 1)).toNat + 1 by omega, digN, if_neg h]
  · rw [show (n - k).toNat = 0 by omega, digN]
theorem skN_r {T : Int → Int} {n : Int} : ∀ (m : Nat) (k : Int), (m : Int) ≤ n - k ∨ m = 0 → k ≤ skN T n m k ∧ (skN T n m k ≤ n ∨ skN T n m k = k)
  | 0, k, _ => ⟨Int.le_refl k, Or.inr rfl⟩
  | m + 1, k, h => by
    rw [skN]
    split
    · have := skN_r (T := T) (n := n) m (k + 1) (by omega)
      omega
    · exact ⟨Int.le_refl k, Or.inr rfl⟩
theorem sk_r (T : Int → Int) (n k : Int) : k ≤ sk T n k ∧ (sk T n k ≤ n ∨ sk T n k = k) := skN_r _ _ (by omega)
theorem lowN_r {T : Int → Int} {n : Int} : ∀ (m : Nat) (k : Int), (m : Int) ≤ n - k ∨ m = 0 → k ≤ lowN T n m k ∧ (lowN T n m k ≤ n ∨ lowN T n m k = k)
  | 0, k, _ => ⟨Int.le_refl k, Or.inr rfl⟩
  | m + 1, k, h => by
    rw [lowN]
    split
    · have := lowN_r (T := T) (n := n) m (k + 1) (by omega)
      omega
    · exact ⟨Int.le_refl k, Or.inr rfl⟩
theorem lowE_r (T : Int → Int) (n k : Int) : k ≤ lowE T n k ∧ (lowE T n k ≤ n ∨ lowE T n k = k) := lowN_r _ _ (by omega)
theorem digN_r {T : Int → Int} {n : Int} : ∀ (m : Nat) (k : Int), (m : Int) ≤ n - k ∨ m = 0 → k ≤ digN T n m k ∧ (digN T n m k ≤ n ∨ digN T n m k = k)
  | 0, k, _ => ⟨Int.le_refl k, Or.inr rfl⟩
  | m + 1, k, h => by
    rw [digN]
    split
    · have := digN_r (T := T) (n := n) m (k + 1) (by omega)
      omega
    · exact ⟨Int.le_refl k, Or.inr rfl⟩
theorem digE_r (T : Int → Int) (n k : Int) : k ≤ digE T n k ∧ (digE T n k ≤ n ∨ digE T n k = k) := digN_r _ _ (by omega)
theorem enT_r {T : Int → Int} {n k : Int} (h : k < n) : k < enT T n k ∧ enT T n k ≤ n := by
  have h1 := lowE_r T n (k + 1)
  have h2 := digE_r T n (k + 1)
  unfold enT
  split
  · omega
  · split <;> omega
/-- the words of the model, by their places in its row -/
def wBy : List Int := [99, 108, 101, 97, 114, 32, 116, 117, 114, 110, 101, 100, 32, 111, 100, 100, 115, 32, 115, 97, 118, 101, 32, 102, 97, 105, 114, 32, 105, 102, 32, 111, 114, 32, 97, 110, 100, 32, 110, 111, 116, 32, 115, 119, 97, 110, 32, 115, 101, 97, 108, 101, 100, 32, 112, 108, 117, 103, 103, 101, 100, 32, 109, 101, 114, 99, 117, 114, 121, 32, 108, 105, 118, 105, 110, 103, 32, 116, 105, 112, 112, 101, 100, 32, 97, 105, 114, 32, 98, 114, 111, 116, 104, 32, 115, 111, 114, 116, 32, 104, 101, 97, 116, 32, 109, 105, 110, 117, 116, 101, 115, 32, 115, 105, 110, 99, 101, 32, 112, 108, 97, 99, 101, 32, 111, 112, 101, 110, 32, 104, 97, 110, 100, 32]
def wLenL : List Nat := [5, 6, 4, 4, 4, 2, 2, 3, 3, 4, 6, 7, 7, 6, 6, 3, 5, 4, 4, 7, 5, 5, 4, 4]
def wLen (w : Nat) : Nat := wLenL.getD w 0
def wOff : Nat → Nat
  | 0 => 0
  | w + 1 => wOff w + wLen w + 1
def wAt (i : Int) : Int := wBy.getD i.toNat 0
theorem w_tab : ∀ w, w < 24 → (∀ i, i < wLen w → wBy.getD (wOff w + i) 0 ≠ 32) ∧ wBy.getD (wOff w + wLen w) 0 = 32 ∧ wOff w + wLen w < 134 ∧ 2 ≤ wLen w := by decide +kernel
theorem w_end : wOff 24 = 134 := by decide +kernel
/-- the token from a to b is the word w -/
abbrev tokW (T : Int → Int) (a b : Int) (w : Nat) : Prop := (wLen w : Int) = b - a ∧ ∀ i : Nat, i < wLen w → wBy.getD (wOff w + i) 0 = T (a + i)
def wNo (T : Int → Int) (a b : Int) : Nat → Nat → Int
  | 0, _ => 0
  | m + 1, w => if tokW T a b w then (w : Int) + 1 else wNo T a b m (w + 1)
/-- the number of a word; 0 for no word -/
def wordNo (T : Int → Int) (a b : Int) : Int := wNo T a b 24 0
theorem wNo_y {T : Int → Int} {a b : Int} {w : Nat} (h : w < 24) (c : tokW T a b w) : wNo T a b (24 - w) w = (w : Int) + 1 := by
  rw [show 24 - w = (24 - (w + 1)) + 1 by omega, wNo, if_pos c]
theorem wNo_n {T : Int → Int} {a b : Int} {w : Nat} (h : w < 24) (c : ¬ tokW T a b w) : wNo T a b (24 - w) w = wNo T a b (24 - (w + 1)) (w + 1) := by
  rw [show 24 - w = (24 - (w + 1)) + 1 by omega, wNo, if_neg c]
theorem wNo_r {T : Int → Int} {a b : Int} : ∀ (m w : Nat), 0 ≤ wNo T a b m w ∧ (wNo T a b m w = 0 ∨ wNo T a b m w ≤ m + w)
  | 0, w => ⟨Int.le_refl 0, Or.inl rfl⟩
  | m + 1, w => by
    have := wNo_r (T := T) (a := a) (b := b) m (w + 1)
    rw [wNo]
    split <;> omega
def cdAt (T : Int → Int) (n k : Int) : Int := if lowP (T k) then wordNo T k (enT T n k) else if digP (T k) then 50 else 100 + T k % 256
theorem cdAt_r (T : Int → Int) (n k : Int) : 0 ≤ cdAt T n k ∧ cdAt T n k ≤ 355 := by
  have := wNo_r (T := T) (a := k) (b := enT T n k) 24 0
  unfold cdAt wordNo
  split
  · omega
  · split <;> omega
/-- the number that the digits from k on make, as far as a million -/
def vlN (T : Int → Int) (k : Int) : Nat → Int
  | 0 => 0
  | m + 1 => if vlN T k m > 1000000 then vlN T k m else 10 * vlN T k m + T (k + m) - 48
def vlAt (T : Int → Int) (n k : Int) : Int := if digP (T k) then vlN T k (enT T n k - k).toNat else 0
def ps (T : Int → Int) (n : Int) : Nat → Int
  | 0 => sk T n 0
  | i + 1 => sk T n (enT T n (ps T n i))
/-- the model's three rows hold the tape's tokens -/
def CutOK (T : Int → Int) (n : Int) (τ : St) : Prop := 0 ≤ τ 14 0 ∧ τ 14 0 ≤ n ∧ (∀ j : Nat, (j : Int) < τ 14 0 → (0 ≤ ps T n j ∧ ps T n j < n) ∧ τ 11 j = cdAt T n (ps T n j) ∧ τ 12 j = vlAt T n (ps T n j) ∧ τ 13 j = ps T n j) ∧ ps T n (τ 14 0).toNat = n ∧ τ 13 (τ 14 0) = n ∧ τ 11 (τ 14 0) = 0 ∧ τ 12 (τ 14 0) = 0
theorem vlN_r {T : Int → Int} {k : Int} : ∀ m : Nat, (∀ i : Nat, i < m → digP (T (k + i))) → 0 ≤ vlN T k m ∧ vlN T k m ≤ 10000009
  | 0, _ => ⟨Int.le_refl 0, by show (0 : Int) ≤ _; omega⟩
  | m + 1, h => by
    have ih := vlN_r m (fun i hi => h i (by omega))
    have := h m (by omega)
    rw [vlN]
    split <;> omega
theorem vlN_s {T : Int → Int} {k i : Int} (h : 0 ≤ i) : vlN T k (i + 1).toNat = if vlN T k i.toNat > 1000000 then vlN T k i.toNat else 10 * vlN T k i.toNat + T (k + i) - 48 := by
  rw [show (i + 1).toNat = i.toNat + 1 by omega, vlN, Int.toNat_of_nonneg h]
theorem digN_d {T : Int → Int} {n : Int} : ∀ (m : Nat) (k : Int) (j : Int), k ≤ j → j < digN T n m k → digP (T j)
  | 0, k, j, h0, h1 => by
    rw [digN] at h1
    omega
  | m + 1, k, j, h0, h1 => by
    rw [digN] at h1
    split at h1
    · rename_i c
      by_cases q : j = k
      · rw [q]; exact c.2
      · exact digN_d m (k + 1) j (by omega) h1
    · omega
/-- a number's token is digits all through -/
theorem enT_d {T : Int → Int} {n k j : Int} (hd : digP (T k)) (h0 : k ≤ j) (h1 : j < enT T n k) : digP (T j) := by
  unfold enT at h1
  rw [if_neg (by omega), if_pos hd] at h1
  by_cases q : j = k
  · rw [q]; exact hd
  · exact digN_d _ (k + 1) j (by omega) h1
