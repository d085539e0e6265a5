/-! rows of a tape, step by step -/
theorem rwd_0 {w : Int} (h : w = 0) : rwd w = 10 := if_pos h
theorem rwd_1 {w : Int} (h : ¬ w = 0) : rwd w = 9 := if_neg h
theorem rct_0 {w : Int} (h : w = 0) : rct w = 1754 := if_pos h
theorem rct_1 {w : Int} (h : ¬ w = 0) : rct w = 1755 := if_neg h
theorem rto_0e {κ : Int → Int} {w : Int} (h : w = 0) : rto κ w = 1224 + 10 * κ 1754 := if_pos h
theorem rto_1e {κ : Int → Int} {w : Int} (h : ¬ w = 0) : rto κ w = 1624 + 9 * κ 1755 := if_neg h
theorem rto_0 {κ : Int → Int} {w : Int} (h : w = 0) (hc : (0 ≤ κ 1754 ∧ κ 1754 ≤ 40) ∧ (0 ≤ κ 1755 ∧ κ 1755 ≤ 12)) : 1224 ≤ rto κ w ∧ rto κ w ≤ 1624 := by
  rw [rto_0e h]
  omega
theorem rto_1 {κ : Int → Int} {w : Int} (h : ¬ w = 0) (hc : (0 ≤ κ 1754 ∧ κ 1754 ≤ 40) ∧ (0 ≤ κ 1755 ∧ κ 1755 ≤ 12)) : 1624 ≤ rto κ w ∧ rto κ w ≤ 1732 := by
  rw [rto_1e h]
  omega
theorem rwN_e {σ τ : St} {w c n : Int} (h : 0 ≤ c) (e : rwN σ w c.toNat = (n, τ)) : rwN σ w (c + 1).toNat = if rgN (σ 7) (rwd w * c) (rg0 (τ 2) w) (rwd w).toNat = 0 then (n, τ) else (n + 1, rwB τ w (rwd w * c)) := by
  rw [show (c + 1).toNat = c.toNat + 1 by omega, rwN, e, Int.toNat_of_nonneg h]
theorem rwN_0 {σ τ : St} {w c n : Int} (hw : w = 0) (h : 0 ≤ c) (e : rwN σ w c.toNat = (n, τ)) : rwN σ w (c + 1).toNat = if rgN (σ 7) (10 * c) (rg0 (τ 2) w) 10 = 0 then (n, τ) else (n + 1, rwB τ w (10 * c)) := by
  rw [rwN_e h e, rwd_0 hw]
  rfl
theorem rwN_1 {σ τ : St} {w c n : Int} (hw : ¬ w = 0) (h : 0 ≤ c) (e : rwN σ w c.toNat = (n, τ)) : rwN σ w (c + 1).toNat = if rgN (σ 7) (9 * c) (rg0 (τ 2) w) 9 = 0 then (n, τ) else (n + 1, rwB τ w (9 * c)) := by
  rw [rwN_e h e, rwd_1 hw]
  rfl
theorem rgN_g {T : Int → Int} {b g0 : Int} : ∀ {n : Nat}, ¬ rgN T b g0 n = 0 → ¬ g0 = 0
  | 0, h => h
  | n + 1, h => by
    rw [rgN] at h
    split at h
    · rename_i q
      exact rgN_g q.1
    · exact absurd rfl h
theorem rg0_01 (κ : Int → Int) (w : Int) : rg0 κ w = 0 ∨ rg0 κ w = 1 := by
  unfold rg0
  (repeat' split) <;> omega
theorem rgN_01 {T : Int → Int} {b g0 : Int} (h : g0 = 0 ∨ g0 = 1) : ∀ n : Nat, rgN T b g0 n = 0 ∨ rgN T b g0 n = 1
  | 0 => h
  | n + 1 => by
    rw [rgN]
    split <;> omega
theorem rwA_0 {τ : St} {w b : Int} : rwA τ w b 0 = τ := sa_0
theorem rwA_s {τ : St} {w b k : Int} (h : 0 ≤ k) : st (rwA τ w b k) 2 (rto (τ 2) w + k) (τ 7 (b + k) % 256) = rwA τ w b (k + 1) := st_cp h rfl
theorem rwA_o {τ : St} {w b n i : Int} (h : i < rto (τ 2) w ∨ rto (τ 2) w + n ≤ i) : rwA τ w b n 2 i = τ 2 i := by
  unfold rwA
  rw [sa_s, cpA_out h]
theorem rwB_0a {τ : St} {w b : Int} (hw : w = 0) (hc : (0 ≤ τ 2 1754 ∧ τ 2 1754 ≤ 40) ∧ (0 ≤ τ 2 1755 ∧ τ 2 1755 ≤ 12)) : rwB τ w b 2 1754 = τ 2 1754 + 1 := by
  unfold rwB
  rw [rct_0 hw, st_s]
theorem rwB_0b {τ : St} {w b : Int} (hw : w = 0) (hc : (0 ≤ τ 2 1754 ∧ τ 2 1754 ≤ 40) ∧ (0 ≤ τ 2 1755 ∧ τ 2 1755 ≤ 12)) : rwB τ w b 2 1755 = τ 2 1755 := by
  have := rto_0 hw hc
  unfold rwB
  rw [rct_0 hw, st_i (by decide), rwd_0 hw, rwA_o (by omega)]
theorem rwB_1a {τ : St} {w b : Int} (hw : ¬ w = 0) (hc : (0 ≤ τ 2 1754 ∧ τ 2 1754 ≤ 40) ∧ (0 ≤ τ 2 1755 ∧ τ 2 1755 ≤ 12)) : rwB τ w b 2 1754 = τ 2 1754 := by
  have := rto_1 hw hc
  unfold rwB
  rw [rct_1 hw, st_i (by decide), rwd_1 hw, rwA_o (by omega)]
theorem rwB_1b {τ : St} {w b : Int} (hw : ¬ w = 0) (hc : (0 ≤ τ 2 1754 ∧ τ 2 1754 ≤ 40) ∧ (0 ≤ τ 2 1755 ∧ τ 2 1755 ≤ 12)) : rwB τ w b 2 1755 = τ 2 1755 + 1 := by
  unfold rwB
  rw [rct_1 hw, st_s]
