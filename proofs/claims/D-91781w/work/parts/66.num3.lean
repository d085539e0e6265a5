/-- Euclid's steps -/
theorem tmod_nat {x y : Int} (h0 : 0 ≤ x) (h1 : 0 ≤ y) : Int.tmod x y = ((x.toNat % y.toNat : Nat) : Int) := by
  obtain ⟨a, rfl⟩ : ∃ a : Nat, x = a := ⟨x.toNat, by omega⟩
  obtain ⟨b, rfl⟩ : ∃ b : Nat, y = b := ⟨y.toNat, by omega⟩
  rfl
theorem tmod_nn {x y : Int} (h0 : 0 ≤ x) (h1 : 0 < y) : 0 ≤ Int.tmod x y := by rw [tmod_nat h0 (by omega)]; omega
theorem tmod_lt {x y : Int} (h0 : 0 ≤ x) (h1 : 0 < y) : Int.tmod x y < y := by
  rw [tmod_nat h0 (by omega)]
  have h := Nat.mod_lt x.toNat (y := y.toNat) (by omega)
  omega
theorem gcd_st {x y : Int} {g : Nat} (h0 : 0 ≤ x) (h1 : 0 ≤ y) (hg : Nat.gcd x.toNat y.toNat = g) : Nat.gcd y.toNat (Int.tmod x y).toNat = g := by
  rw [tmod_nat h0 h1, Int.toNat_natCast, ← hg, Nat.gcd_comm x.toNat, Nat.gcd_rec y.toNat x.toNat, Nat.gcd_comm]
theorem gcd_en {x y : Int} {g : Nat} (h0 : 0 ≤ x) (hy : y = 0) (hg : Nat.gcd x.toNat y.toNat = g) : x = (g : Int) := by
  subst hy
  rw [show (0 : Int).toNat = 0 from rfl, Nat.gcd_zero_right] at hg
  omega
theorem gcd_p {a b : Int} (h : 0 < b) : 0 < Nat.gcd a.toNat b.toNat ∧ Nat.gcd a.toNat b.toNat ≤ b.toNat := ⟨Nat.gcd_pos_of_pos_right _ (by omega), Nat.gcd_le_right _ (by omega)⟩
/-- a part of upper to lower: its upper (0) or lower end, shortened -/
def shareF (u w k : Int) : Int := if k = 0 then Int.tdiv u (Nat.gcd u.toNat w.toNat : Nat) else Int.tdiv w (Nat.gcd u.toNat w.toNat : Nat)
