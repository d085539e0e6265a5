theorem caseOK_r {a : Int → Int} (h : caseOK a) {x : Int} (h0 : 0 ≤ x) (h1 : x ≤ 8) : 0 ≤ a x ∧ a x ≤ 255 := by
  unfold caseOK at h
  have : x = 0 ∨ x = 1 ∨ x = 2 ∨ x = 3 ∨ x = 4 ∨ x = 5 ∨ x = 6 ∨ x = 7 ∨ x = 8 := by omega
  rcases this with q | q | q | q | q | q | q | q | q <;> rw [q] <;> omega
theorem mul_b {x y : Int} (hx : -1000000000 ≤ x ∧ x ≤ 1000000000) (hy : -1000000000 ≤ y ∧ y ≤ 1000000000) : -1000000000000000000 ≤ x * y ∧ x * y ≤ 1000000000000000000 := by
  have h1 : (x * y).natAbs ≤ 1000000000 * 1000000000 := by
    rw [Int.natAbs_mul]
    exact Nat.mul_le_mul (by omega) (by omega)
  omega
theorem if193 {C : Int → Int} {c i j : Int} {f1 f : Mean} (e : (if C i = c then some (f1, i + 1) else none) = some (f, j)) : C i = c ∧ f1 = f ∧ i + 1 = j := by
  split at e
  · rename_i q
    cases e
    exact ⟨q, rfl, rfl⟩
  · cases e
theorem ifpart {c v g j : Int} {f : Mean} (e : (if c = 50 ∨ (17 ≤ c ∧ c ≤ 24) then some (partF c v, g + 1) else none) = some (f, j)) : (c = 50 ∨ (17 ≤ c ∧ c ≤ 24)) ∧ partF c v = f ∧ g + 1 = j := by
  split at e
  · rename_i q
    cases e
    exact ⟨q, rfl, rfl⟩
  · cases e
