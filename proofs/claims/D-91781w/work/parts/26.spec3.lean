theorem caseF_ok {σ : St} {f : Int} (h0 : 0 ≤ f) (h1 : f < σ 2 1753) (hI : KI (σ 2)) : caseOK (caseF σ f) := by
  have b0 := hI.c
  have b1 := hI.f f h0 h1
  unfold kCnt at b0
  unfold kFlask fl at b1
  have e : ∀ j, 0 ≤ j → j < 9 → j ≠ 4 → j ≠ 6 → caseF σ f j = σ 2 (184 + 26 * f + j) := fun j a b c d => by
    unfold caseF
    rw [if_neg c, if_neg d, if_pos ⟨a, b⟩]
  have e4 : caseF σ f 4 = min 255 (σ 2 1750 - σ 2 (184 + 26 * f + 4)) := rfl
  have e6 : caseF σ f 6 = min 255 (σ 2 (184 + 26 * f + 6)) := rfl
  unfold caseOK
  rw [e 0 (by omega) (by omega) (by omega) (by omega), e 1 (by omega) (by omega) (by omega) (by omega), e 2 (by omega) (by omega) (by omega) (by omega), e 3 (by omega) (by omega) (by omega) (by omega), e 5 (by omega) (by omega) (by omega) (by omega), e 7 (by omega) (by omega) (by omega) (by omega), e 8 (by omega) (by omega) (by omega) (by omega), e4, e6]
  omega
theorem tdiv_r {x y : Int} (h0 : 0 ≤ x) (h : x < 9223372036854775808) (hy : 0 < y) : R64 (Int.tdiv x y) := by
  rw [Int.tdiv_eq_ediv_of_nonneg h0]
  have h1 : x / y ≤ x := Int.ediv_le_self y h0
  have h2 : 0 ≤ x / y := Int.ediv_nonneg h0 (by omega)
  exact ⟨by omega, by omega⟩
theorem drawF_e {κ : Int → Int} (h : 0 ≤ κ 1751) : Int.tmod (1103 * κ 1751 + 12345) 1000003 = drawF κ := Int.tmod_eq_emod_of_nonneg (by omega)
theorem drawF_r (κ : Int → Int) : 0 ≤ drawF κ ∧ drawF κ ≤ 1000002 := by
  unfold drawF
  omega
theorem fiveS_r {σ : St} {a b c d e k : Int} (ha : R32 a) (hb : R32 b) (hc : R32 c) (hd : R32 d) (he : R32 e) (h0 : 0 ≤ k) (h1 : k < 5) : R32 (fiveS σ a b c d e 8 k) := by
  have q : k = 0 ∨ k = 1 ∨ k = 2 ∨ k = 3 ∨ k = 4 := by omega
  rcases q with q | q | q | q | q <;> subst q
  · exact ha
  · exact hb
  · exact hc
  · exact hd
  · exact he
theorem onesN_r (x : Int) : ∀ n : Nat, 0 ≤ onesN x n ∧ onesN x n ≤ n
  | 0 => ⟨Int.le_refl 0, Int.le_refl 0⟩
  | n + 1 => by
    have h := onesN_r x n
    show 0 ≤ onesN x n + x / 2 ^ n % 2 ∧ onesN x n + x / 2 ^ n % 2 ≤ ((n + 1 : Nat) : Int)
    generalize x / 2 ^ n = y
    omega
theorem pow_r {x : Int} (h0 : 0 ≤ x) (h1 : x ≤ 12) : 1 ≤ (2 : Int) ^ x.toNat ∧ (2 : Int) ^ x.toNat ≤ 4096 := by
  obtain ⟨n, rfl⟩ : ∃ n : Nat, x = n := ⟨x.toNat, by omega⟩
  rw [Int.toNat_natCast]
  have h : n ≤ 12 := by omega
  have : ∀ k : Nat, k ≤ 12 → 1 ≤ (2 : Int) ^ k ∧ (2 : Int) ^ k ≤ 4096 := by decide +kernel
  exact this n h
/-- a flask's grain k falls away under a heat -/
abbrev dropP (σ : St) (f ht mi q : Int) : Prop := σ 2 (136 + 6 * σ 2 (184 + 26 * f + (17 + 2 * q)) + 0) < ht ∨ (ht = σ 2 (136 + 6 * σ 2 (184 + 26 * f + (17 + 2 * q)) + 0) ∧ σ 2 (136 + 6 * σ 2 (184 + 26 * f + (17 + 2 * q)) + 1) ≤ mi)
def heatL (σ : St) (f ht mi : Int) : Nat → St × Int
  | 0 => (σ, 0)
  | q + 1 => if dropP σ f ht mi q then heatL σ f ht mi q else (st (st (heatL σ f ht mi q).1 2 (184 + 26 * f + (17 + 2 * (heatL σ f ht mi q).2)) (σ 2 (184 + 26 * f + (17 + 2 * (q : Int))))) 2 (184 + 26 * f + (17 + 2 * (heatL σ f ht mi q).2 + 1)) (σ 2 1750), (heatL σ f ht mi q).2 + 1)
theorem heatL_n (σ : St) (f ht mi : Int) : ∀ q : Nat, 0 ≤ (heatL σ f ht mi q).2 ∧ (heatL σ f ht mi q).2 ≤ q
  | 0 => ⟨Int.le_refl 0, Int.le_refl 0⟩
  | q + 1 => by
    have h := heatL_n σ f ht mi q
    unfold heatL
    split
    · omega
    · show 0 ≤ (heatL σ f ht mi q).2 + 1 ∧ (heatL σ f ht mi q).2 + 1 ≤ _
      omega
theorem heatL_o (σ : St) (f ht mi i : Int) : ∀ q : Nat, (i < 184 + 26 * f + 17 ∨ 184 + 26 * f + 17 + 2 * (heatL σ f ht mi q).2 ≤ i) → (heatL σ f ht mi q).1 2 i = σ 2 i
  | 0, _ => rfl
  | q + 1, hi => by
    have ih := heatL_o σ f ht mi i q
    have hn := heatL_n σ f ht mi q
    unfold heatL at hi ⊢
    split
    · rename_i hd
      rw [if_pos hd] at hi
      exact ih hi
    · rename_i hd
      rw [if_neg hd] at hi
      have hi : i < 184 + 26 * f + 17 ∨ 184 + 26 * f + 17 + 2 * ((heatL σ f ht mi q).2 + 1) ≤ i := hi
      show st (st _ 2 _ _) 2 _ _ 2 i = _
      rw [st_i (by omega), st_i (by omega)]
      exact ih (by omega)
theorem heatL_g (σ : St) (f ht mi : Int) (g : Nat) (hg : g ≠ 2) : ∀ q : Nat, (heatL σ f ht mi q).1 g = σ g
  | 0 => rfl
  | q + 1 => by
    have ih := heatL_g σ f ht mi g hg q
    unfold heatL
    split
    · exact ih
    · show st (st _ 2 _ _) 2 _ _ g = _
      rw [st_n hg, st_n hg]
      exact ih
def heatW (τ : St) (f n ht mi nw : Int) : St := ss (ss (ss (ss (ss (ss (ss τ f 16 n) f 2 ht) f 3 mi) f 4 nw) f 6 0) f 7 0) f 11 0
def heatF (σ : St) (f ht mi : Int) : Int × St := if (0 ≤ ht ∧ ht ≤ 7) ∧ (1 ≤ mi ∧ mi ≤ 255) then if 0 ≤ f ∧ f ≤ σ 2 1753 - 1 then ((heatL σ f ht mi (σ 2 (184 + 26 * f + 16)).toNat).2, goodS (heatW (heatL σ f ht mi (σ 2 (184 + 26 * f + 16)).toNat).1 f (heatL σ f ht mi (σ 2 (184 + 26 * f + 16)).toNat).2 ht mi (σ 2 1750))) else (-2, refS σ (-2)) else (-1, refS σ (-1))
theorem heatL_d {σ : St} {f ht mi i : Int} (h0 : 0 ≤ i) (hd : dropP σ f ht mi i) : heatL σ f ht mi (i + 1).toNat = heatL σ f ht mi i.toNat := by
  rw [show (i + 1).toNat = i.toNat + 1 by omega, heatL, if_pos (by rw [Int.toNat_of_nonneg h0]; exact hd)]
theorem heatL_k {σ : St} {f ht mi i : Int} (h0 : 0 ≤ i) (hd : ¬ dropP σ f ht mi i) : heatL σ f ht mi (i + 1).toNat = (st (st (heatL σ f ht mi i.toNat).1 2 (184 + 26 * f + (17 + 2 * (heatL σ f ht mi i.toNat).2)) (σ 2 (184 + 26 * f + (17 + 2 * i)))) 2 (184 + 26 * f + (17 + 2 * (heatL σ f ht mi i.toNat).2 + 1)) (σ 2 1750), (heatL σ f ht mi i.toNat).2 + 1) := by
  rw [show (i + 1).toNat = i.toNat + 1 by omega, heatL, if_neg (by rw [Int.toNat_of_nonneg h0]; exact hd), Int.toNat_of_nonneg h0]
