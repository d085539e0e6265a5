theorem inF_r {σ : St} {f : Int} (h : 0 ≤ σ 2 (18 + σ 2 (184 + 26 * f + 1)) ∧ 0 ≤ σ 2 (24 + σ 2 (184 + 26 * f + 8))) : 0 ≤ inF σ f ∧ inF σ f ≤ 100 := by
  unfold inF
  split
  · omega
  · omega
theorem mul_r {a b : Int} (ha : 0 ≤ a) (ha2 : a ≤ 100) (hb : 0 ≤ b) (hb2 : b ≤ 100) : 0 ≤ a * b ∧ a * b ≤ 10000 := by
  have h1 := Int.mul_nonneg ha hb
  have h2 : a * b ≤ 100 * 100 := Int.mul_le_mul ha2 hb2 hb (by omega)
  omega
theorem chF_r {σ : St} {f : Int} (hi : 0 ≤ inF σ f ∧ inF σ f ≤ 100) (hd : 0 ≤ duF σ f ∧ duF σ f ≤ 100) : 0 ≤ chF σ f ∧ chF σ f ≤ 100 := by
  have h := mul_r hd.1 hd.2 hi.1 hi.2
  unfold chF
  split
  · split <;> omega
  · omega
theorem drawF_cg {κ κ' : Int → Int} (h : κ 1751 = κ' 1751) : drawF κ = drawF κ' := by
  unfold drawF
  rw [h]
theorem drawS_o {τ : St} {i : Int} (h : i ≠ 1751) : drawS τ 2 i = τ 2 i := st_i h
theorem drawS_d {τ : St} : drawS τ 2 1751 = drawF (τ 2) := st_s
theorem drawF_2 {τ σ : St} (h : τ 2 1751 = σ 2 1751) : drawF (drawS τ 2) = drawF (drawS σ 2) := drawF_cg (by rw [drawS_d, drawS_d, drawF_cg h])
theorem wPick_y {σ : St} {q x k : Int} (hk : k < 8) (h : σ 2 (40 + 8 * q + k) ≤ x) : wPick σ q (8 - k).toNat x k = wPick σ q (8 - (k + 1)).toNat (x - σ 2 (40 + 8 * q + k)) (k + 1) := by
  rw [show (8 - k).toNat = (8 - (k + 1)).toNat + 1 by omega, wPick, if_pos h]
theorem wPick_n {σ : St} {q x k : Int} (hk : k < 8) (h : ¬ σ 2 (40 + 8 * q + k) ≤ x) : wPick σ q (8 - k).toNat x k = k := by
  rw [show (8 - k).toNat = (8 - (k + 1)).toNat + 1 by omega, wPick, if_neg h]
theorem wTail_p {σ : St} {q m k x : Int} (hx0 : 0 ≤ x) (hx : x < wTail σ q (m - k).toNat k) : k < m := by
  rcases Int.lt_or_le k m with h | h
  · exact h
  · rw [show (m - k).toNat = 0 by omega] at hx
    have : x < 0 := hx
    omega
theorem wTail_y {σ : St} {q m k x : Int} (hx0 : 0 ≤ x) (hx : x < wTail σ q (m - k).toNat k) : x - σ 2 (40 + 8 * q + k) < wTail σ q (m - (k + 1)).toNat (k + 1) := by
  have hk := wTail_p hx0 hx
  rw [show (m - k).toNat = (m - (k + 1)).toNat + 1 by omega, wTail] at hx
  omega
theorem wTail_all {σ : St} {q m : Int} : wTail σ q (m - 0).toNat 0 = wSum σ q m.toNat := by
  have h := wTail_e σ q m.toNat 0
  rw [Nat.zero_add] at h
  rw [← h, Int.sub_zero]
  show _ = 0 + wTail σ q m.toNat 0
  omega
