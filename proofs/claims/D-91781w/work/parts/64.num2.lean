/-- of n that turn with t tenths each, the ways that k turn -/
def j3 (n k t : Int) : Int := chI n k k.toNat * t ^ k.toNat * (10 - t) ^ (n - k).toNat
def loS (n t u : Int) : Nat → Int
  | 0 => 0
  | k + 1 => if (k : Int) ≤ u then loS n t u k + j3 n k t else loS n t u k
def hiS (n t u : Int) : Nat → Int
  | 0 => 0
  | k + 1 => if u ≤ (k : Int) then hiS n t u k + j3 n k t else hiS n t u k
def toS (n t : Int) : Nat → Int
  | 0 => 0
  | k + 1 => toS n t k + j3 n k t
theorem toS_t : ∀ n, n < 19 → ∀ t, t < 11 → toS (n : Nat) (t : Nat) (n + 1) = 10 ^ n := by decide +kernel
theorem j3_0 {n k t : Int} (h0 : 0 ≤ k) (h1 : k ≤ n) (h2 : n ≤ 18) (h3 : 0 ≤ t) (h4 : t ≤ 10) : 0 ≤ j3 n k t :=
  Int.mul_nonneg (Int.mul_nonneg (chI_r h0 h1 h2 (by omega)).1 (Int.pow_nonneg h3)) (Int.pow_nonneg (by omega))
theorem toS_m {n t : Int} (h2 : n ≤ 18) (h3 : 0 ≤ t) (h4 : t ≤ 10) : ∀ (q k : Nat), ((k + q : Nat) : Int) ≤ n + 1 → toS n t k ≤ toS n t (k + q)
  | 0, _, _ => Int.le_refl _
  | q + 1, k, h => by
    have h5 := toS_m h2 h3 h4 q k (by omega)
    have h6 := j3_0 (n := n) (k := ((k + q : Nat) : Int)) (t := t) (by omega) (by omega) h2 h3 h4
    show toS n t k ≤ toS n t (k + q) + j3 n ((k + q : Nat) : Int) t
    omega
theorem toS_r {n t : Int} (h0 : 0 ≤ n) (h2 : n ≤ 18) (h3 : 0 ≤ t) (h4 : t ≤ 10) {k : Nat} (hk : (k : Int) ≤ n + 1) : toS n t k ≤ 10 ^ n.toNat := by
  obtain ⟨a, rfl⟩ : ∃ a : Nat, n = a := ⟨n.toNat, by omega⟩
  obtain ⟨b, rfl⟩ : ∃ b : Nat, t = b := ⟨t.toNat, by omega⟩
  have h := toS_m (n := a) (t := b) h2 h3 h4 (a + 1 - k) k (by omega)
  rw [show k + (a + 1 - k) = a + 1 by omega, toS_t a (by omega) b (by omega)] at h
  exact h
theorem loS_r {n t u : Int} (h2 : n ≤ 18) (h3 : 0 ≤ t) (h4 : t ≤ 10) : ∀ k : Nat, (k : Int) ≤ n + 1 → 0 ≤ loS n t u k ∧ loS n t u k ≤ toS n t k
  | 0, _ => ⟨Int.le_refl _, Int.le_refl _⟩
  | k + 1, h => by
    have h5 := loS_r h2 h3 h4 (u := u) k (by omega)
    have h6 := j3_0 (n := n) (k := (k : Int)) (t := t) (by omega) (by omega) h2 h3 h4
    unfold loS toS
    split <;> omega
theorem hiS_r {n t u : Int} (h2 : n ≤ 18) (h3 : 0 ≤ t) (h4 : t ≤ 10) : ∀ k : Nat, (k : Int) ≤ n + 1 → 0 ≤ hiS n t u k ∧ hiS n t u k ≤ toS n t k
  | 0, _ => ⟨Int.le_refl _, Int.le_refl _⟩
  | k + 1, h => by
    have h5 := hiS_r h2 h3 h4 (u := u) k (by omega)
    have h6 := j3_0 (n := n) (k := (k : Int)) (t := t) (by omega) (by omega) h2 h3 h4
    unfold hiS toS
    split <;> omega
theorem p10_r {n : Int} (h2 : n ≤ 18) : 0 ≤ (10 : Int) ^ n.toNat ∧ (10 : Int) ^ n.toNat ≤ 1000000000000000000 := pw_r (b := 10) (by decide) (by decide) h2
theorem j3_r {n t : Int} (h2 : n ≤ 18) (h3 : 0 ≤ t) (h4 : t ≤ 10) {k : Int} (h0 : 0 ≤ k) (hk : k ≤ n) : 0 ≤ j3 n k t ∧ j3 n k t ≤ 1000000000000000000 := by
  have h5 := toS_r (n := n) (t := t) (by omega) h2 h3 h4 (k := k.toNat + 1) (by omega)
  have h6 := p10_r h2
  have h7 := loS_r (n := n) (t := t) (u := 100) h2 h3 h4 k.toNat (by omega)
  have h8 := j3_0 h0 hk h2 h3 h4
  unfold toS at h5
  rw [Int.toNat_of_nonneg h0] at h5
  omega
abbrev isAT (p n : Int) : Prop := (n = 1 ∧ 10 ≤ p * 20) ∨ (n ≠ 1 ∧ Int.tdiv (10 ^ n.toNat) 20 ≤ p)
def spanN (n u w : Int) : Nat → Int
  | 0 => -1
  | t + 1 => if isAT (loS n t u (n + 1).toNat) n ∧ isAT (hiS n t u (n + 1).toNat) n ∧ (w = 1 ∨ spanN n u w t = -1) then t else spanN n u w t
def spanF (n u w : Int) : Int := if (1 ≤ n ∧ n ≤ 18) ∧ (0 ≤ u ∧ u ≤ n) ∧ (0 ≤ w ∧ w ≤ 1) then spanN n u w 11 else -1
abbrev needP (a s n : Int) : Prop := s * 10 ^ n.toNat ≤ (10 ^ n.toNat - (10 - a) ^ n.toNat) * 100
def needN (a s : Int) : Nat → Int
  | 0 => -1
  | f + 1 => if needP a s (16 - f) then 16 - f else needN a s f
def needF (a s : Int) : Int := if (1 ≤ a ∧ a ≤ 10) ∧ (1 ≤ s ∧ s ≤ 99) then needN a s 16 else -1
def boundN (n : Int) : Nat → Int
  | 0 => -1
  | t + 1 => if isAT ((10 - t) ^ n.toNat) n then t else boundN n t
def boundF (n : Int) : Int := if 1 ≤ n ∧ n ≤ 18 then boundN n 10 else -1
theorem spanN_r {n u w : Int} : ∀ t : Nat, -1 ≤ spanN n u w t ∧ spanN n u w t < t
  | 0 => ⟨Int.le_refl _, show (-1 : Int) < 0 by decide⟩
  | t + 1 => by
    have h := spanN_r (n := n) (u := u) (w := w) t
    unfold spanN
    split <;> omega
theorem boundN_r {n : Int} : ∀ t : Nat, -1 ≤ boundN n t ∧ boundN n t < t
  | 0 => ⟨Int.le_refl _, show (-1 : Int) < 0 by decide⟩
  | t + 1 => by
    have h := boundN_r (n := n) t
    unfold boundN
    split <;> omega
theorem pw_s {b n : Int} (h0 : 0 ≤ b) (h1 : b ≤ 10) (hn0 : 1 ≤ n) (h2 : n ≤ 16) : 0 ≤ b ^ n.toNat ∧ b ^ n.toNat ≤ 10000000000000000 := by
  have t : ∀ b, b < 11 → ∀ n, n < 17 → 0 ≤ ((b : Nat) : Int) ^ n ∧ ((b : Nat) : Int) ^ n ≤ 10000000000000000 := by decide +kernel
  obtain ⟨a, rfl⟩ : ∃ a : Nat, b = a := ⟨b.toNat, by omega⟩
  exact t a (by omega) n.toNat (by omega)
