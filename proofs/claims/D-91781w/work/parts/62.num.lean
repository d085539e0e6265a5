/-- of n the ways to take k, as the model counts them: i steps -/
def chI (n k : Int) : Nat → Int
  | 0 => 1
  | i + 1 => Int.tdiv (chI n k i * (n - k + ((i : Int) + 1))) ((i : Int) + 1)
theorem chI_t : ∀ n, n < 19 → ∀ k, k < 19 → ∀ i, i < 19 → (k ≤ n ∧ i ≤ k → 0 ≤ chI (n : Nat) (k : Nat) i ∧ chI (n : Nat) (k : Nat) i ≤ 50000) := by decide +kernel
theorem chI_r {n k : Int} {i : Nat} (h0 : 0 ≤ k) (h1 : k ≤ n) (h2 : n ≤ 18) (hi : (i : Int) ≤ k) : 0 ≤ chI n k i ∧ chI n k i ≤ 50000 := by
  obtain ⟨a, rfl⟩ : ∃ a : Nat, n = a := ⟨n.toNat, by omega⟩
  obtain ⟨b, rfl⟩ : ∃ b : Nat, k = b := ⟨k.toNat, by omega⟩
  exact chI_t a (by omega) b (by omega) i (by omega) ⟨by omega, by omega⟩
theorem chI_s {n k i : Int} (h : 1 ≤ i) : chI n k i.toNat = Int.tdiv (chI n k (i - 1).toNat * (n - k + i)) i := by
  rw [show i.toNat = (i - 1).toNat + 1 by omega, chI, Int.toNat_of_nonneg (by omega), show i - 1 + 1 = i by omega]
theorem pw_t : ∀ b, b < 11 → ∀ n, n < 19 → 0 ≤ ((b : Nat) : Int) ^ n ∧ ((b : Nat) : Int) ^ n ≤ 1000000000000000000 := by decide +kernel
theorem pw_r {b n : Int} (h0 : 0 ≤ b) (h1 : b ≤ 10) (h2 : n ≤ 18) : 0 ≤ b ^ n.toNat ∧ b ^ n.toNat ≤ 1000000000000000000 := by
  obtain ⟨a, rfl⟩ : ∃ a : Nat, b = a := ⟨b.toNat, by omega⟩
  exact pw_t a (by omega) n.toNat (by omega)
