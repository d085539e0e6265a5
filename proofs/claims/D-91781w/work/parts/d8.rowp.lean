theorem rg9_z {T : Int → Int} {b g0 : Int} (h : (if rgN T b g0 (9 : Int).toNat ≠ 0 ∧ True then (1 : Int) else 0) = 0) : rgN T b g0 9 = 0 := by
  have h : (if rgN T b g0 9 ≠ 0 ∧ True then (1 : Int) else 0) = 0 := h
  by_cases q : rgN T b g0 9 = 0
  · exact q
  · rw [if_pos ⟨q, trivial⟩] at h
    omega
theorem rg9_n {T : Int → Int} {b g0 : Int} (h : ¬ (if rgN T b g0 (9 : Int).toNat ≠ 0 ∧ True then (1 : Int) else 0) = 0) : ¬ rgN T b g0 9 = 0 := by
  have h : ¬ (if rgN T b g0 9 ≠ 0 ∧ True then (1 : Int) else 0) = 0 := h
  intro q
  exact h (if_neg (fun z => z.1 q))
theorem rg10_e {T : Int → Int} {b g0 : Int} : rgN T b g0 10 = if rgN T b g0 9 ≠ 0 ∧ T (b + 9) % 256 ≤ 1 then 1 else 0 := rfl
theorem rg10_z {T : Int → Int} {b g0 : Int} (h : (if rgN T b g0 (9 : Int).toNat ≠ 0 ∧ (T (b + 9)) % 256 ≤ 1 then (1 : Int) else 0) = 0) : rgN T b g0 10 = 0 := by rw [rg10_e]; exact h
theorem rg10_n {T : Int → Int} {b g0 : Int} (h : ¬ (if rgN T b g0 (9 : Int).toNat ≠ 0 ∧ (T (b + 9)) % 256 ≤ 1 then (1 : Int) else 0) = 0) : ¬ rgN T b g0 10 = 0 := by rw [rg10_e]; exact h
theorem rg10_p {T : Int → Int} {b g0 : Int} (h : ¬ (if rgN T b g0 (9 : Int).toNat ≠ 0 ∧ (T (b + 9)) % 256 ≤ 1 then (1 : Int) else 0) = 0) : (T (b + 9)) % 256 ≤ 1 := by
  by_cases q : rgN T b g0 (9 : Int).toNat ≠ 0 ∧ (T (b + 9)) % 256 ≤ 1
  · exact q.2
  · rw [if_neg q] at h
    exact absurd rfl h
theorem rg_l {T κ : Int → Int} {b w : Int} {n : Nat} (hw : w = 0) (h : ¬ rgN T b (rg0 κ w) n = 0) : κ 1754 < 40 := by
  have g := rgN_g h
  unfold rg0 at g
  rw [if_pos hw] at g
  split at g <;> omega
theorem rg_t {T κ : Int → Int} {b w : Int} {n : Nat} (hw : ¬ w = 0) (h : ¬ rgN T b (rg0 κ w) n = 0) : κ 1755 < 12 := by
  have g := rgN_g h
  unfold rg0 at g
  rw [if_neg hw] at g
  split at g <;> omega
