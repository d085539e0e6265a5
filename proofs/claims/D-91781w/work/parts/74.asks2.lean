/-! WHAT THE QUERIES ANSWER, as functions of the kept row -/
abbrev isX (κ : Int → Int) (x : Int) : Prop := 0 ≤ x ∧ x ≤ κ 1756 - 1
abbrev isK (κ : Int → Int) (k : Int) : Prop := 0 ≤ k ∧ k ≤ κ 1754 - 1
abbrev isT (κ : Int → Int) (t : Int) : Prop := 0 ≤ t ∧ t ≤ κ 1755 - 1
def oddsF (κ : Int → Int) (x w n : Int) : Int := if isX κ x ∧ (0 ≤ w ∧ w ≤ 1) ∧ (w = 0 → isK κ n) ∧ (w ≠ 0 → isT κ n) then (if w = 0 then oL κ x n else oT κ x n) else -1
def fairF (κ : Int → Int) (x t : Int) : Int := if isX κ x ∧ isT κ t then fT κ x t else -1
def outN (κ : Int → Int) (x i : Int) : Nat → Int → Int → Int
  | 0, _, n => if i = -1 then n else -1
  | m + 1, k, n => if oL κ x k = 0 then (if n = i then k else outN κ x i m (k + 1) (n + 1)) else outN κ x i m (k + 1) n
def outF (κ : Int → Int) (x i : Int) : Int := if isX κ x ∧ -1 ≤ i then outN κ x i (κ 1754).toNat 0 0 else -1
theorem outN_e {κ : Int → Int} {x i k n : Int} (h : k < κ 1754) : outN κ x i (κ 1754 - k).toNat k n = if oL κ x k = 0 then (if n = i then k else outN κ x i (κ 1754 - (k + 1)).toNat (k + 1) (n + 1)) else outN κ x i (κ 1754 - (k + 1)).toNat (k + 1) n := by
  rw [show (κ 1754 - k).toNat = (κ 1754 - (k + 1)).toNat + 1 by omega, outN]
def upN (κ : Int → Int) (x f : Int) : Nat → Int
  | 0 => 1
  | n + 1 => upN κ x f n * oL κ x (f + n)
theorem upN_e {κ : Int → Int} {x f i : Int} (h : 0 ≤ i) : upN κ x f (i + 1).toNat = upN κ x f i.toNat * oL κ x (f + i) := by
  rw [show (i + 1).toNat = i.toNat + 1 by omega, upN, Int.toNat_of_nonneg h]
theorem p100_e {i : Int} (h : 0 ≤ i) : (100 : Int) ^ (i + 1).toNat = 100 ^ i.toNat * 100 := by
  rw [show (i + 1).toNat = i.toNat + 1 by omega, Int.pow_succ]
theorem upN_r {κ : Int → Int} {x f : Int} : ∀ n : Nat, 0 ≤ upN κ x f n ∧ upN κ x f n ≤ 100 ^ n
  | 0 => ⟨by show (0 : Int) ≤ 1; decide, by show (1 : Int) ≤ 1; decide⟩
  | n + 1 => by
    have ih := upN_r (κ := κ) (x := x) (f := f) n
    have ho := oL_r κ x (f + n)
    rw [upN, Int.pow_succ]
    exact ⟨Int.mul_nonneg ih.1 ho.1, Int.mul_le_mul ih.2 ho.2 ho.1 (Int.le_trans ih.1 ih.2)⟩
theorem p100_t : ∀ n, n < 10 → 1 ≤ (100 : Int) ^ n ∧ (100 : Int) ^ n ≤ 1000000000000000000 := by decide +kernel
theorem p100_r {i : Int} (h : i ≤ 9) : 1 ≤ (100 : Int) ^ i.toNat ∧ (100 : Int) ^ i.toNat ≤ 1000000000000000000 := p100_t _ (by omega)
def worthF (κ : Int → Int) (x f t w : Int) : Int := if isX κ x ∧ isK κ f ∧ isK κ t ∧ f ≤ t ∧ t - f ≤ 8 ∧ (0 ≤ w ∧ w ≤ 1) then shareF (upN κ x f (t - f + 1).toNat) (100 ^ (t - f + 1).toNat) w else -1
def ansF (κ : Int → Int) (x k : Int) : Int := if isX κ x ∧ isK κ k then (if oL κ x k < 10 then pL κ x k else 0) else -1
theorem ansF_r (κ : Int → Int) (x k : Int) : -1 ≤ ansF κ x k ∧ ansF κ x k ≤ 1000 := by
  have := pri_r (tm κ x) (loA κ k)
  unfold ansF pL
  (repeat' split) <;> omega
def savN (κ : Int → Int) (x : Int) : Nat → Int → Int → Int
  | 0, _, s => s
  | m + 1, k, s => if ansF κ x k = -1 then -1 else savN κ x m (k + 1) (s + ansF κ x k)
def savF (κ : Int → Int) (x : Int) : Int := if isX κ x then savN κ x (κ 1754).toNat 0 0 else -1
theorem savN_e {κ : Int → Int} {x k s : Int} (h : k < κ 1754) : savN κ x (κ 1754 - k).toNat k s = if ansF κ x k = -1 then -1 else savN κ x (κ 1754 - (k + 1)).toNat (k + 1) (s + ansF κ x k) := by
  rw [show (κ 1754 - k).toNat = (κ 1754 - (k + 1)).toNat + 1 by omega, savN]
/-- clause c saves at the look k; at all looks so far that must be answered -/
abbrev svP (κ : Int → Int) (x : Int) (c : Nat) (k : Int) : Prop := (c < (tm κ x).length ∧ hdN (tm κ x) c = 4) ∧ hoN (tm κ x) (loA κ k) c = 1
def alN (κ : Int → Int) (x : Int) (c : Nat) : Nat → Int
  | 0 => 1
  | n + 1 => if oL κ x n < 10 ∧ ¬ svP κ x c n then 0 else alN κ x c n
def anN (κ : Int → Int) (x : Int) : Nat → Int
  | 0 => 0
  | n + 1 => if oL κ x n < 10 then 1 else anN κ x n
def fiN (f : Nat → Int) : Nat → Nat → Int
  | 0, _ => -1
  | m + 1, c => if f c = 1 then c else fiN f m (c + 1)
def allF (κ : Int → Int) (x : Int) : Int := if isX κ x then (if anN κ x (κ 1754).toNat = 0 then -1 else fiN (fun c => alN κ x c (κ 1754).toNat) 12 0) else -1
theorem alN_01 {κ : Int → Int} {x : Int} {c : Nat} : ∀ n : Nat, alN κ x c n = 0 ∨ alN κ x c n = 1
  | 0 => Or.inr rfl
  | n + 1 => by
    rw [alN]
    split
    · exact Or.inl rfl
    · exact alN_01 n
theorem anN_01 {κ : Int → Int} {x : Int} : ∀ n : Nat, anN κ x n = 0 ∨ anN κ x n = 1
  | 0 => Or.inl rfl
  | n + 1 => by
    rw [anN]
    split
    · exact Or.inr rfl
    · exact anN_01 n
theorem alN_e {κ : Int → Int} {x i : Int} {c : Nat} (h : 0 ≤ i) : alN κ x c (i + 1).toNat = if oL κ x i < 10 ∧ ¬ svP κ x c i then 0 else alN κ x c i.toNat := by
  rw [show (i + 1).toNat = i.toNat + 1 by omega, alN, Int.toNat_of_nonneg h]
theorem anN_e {κ : Int → Int} {x i : Int} (h : 0 ≤ i) : anN κ x (i + 1).toNat = if oL κ x i < 10 then 1 else anN κ x i.toNat := by
  rw [show (i + 1).toNat = i.toNat + 1 by omega, anN, Int.toNat_of_nonneg h]
/-- a mask of twelve bits -/
def mk12 (f : Nat → Int) : Int := f 0 + 2 * f 1 + 4 * f 2 + 8 * f 3 + 16 * f 4 + 32 * f 5 + 64 * f 6 + 128 * f 7 + 256 * f 8 + 512 * f 9 + 1024 * f 10 + 2048 * f 11
theorem clr_t : ∀ c, c < 12 → ∀ m, m < 64 → ∀ n, n < 64 → bAnd ((64 * m + n : Nat) : Int) (bXor (1 * 2 ^ c) (-1)) = if (64 * m + n) / 2 ^ c % 2 = 1 then ((64 * m + n : Nat) : Int) - 2 ^ c else ((64 * m + n : Nat) : Int) := by decide +kernel
theorem clr_b {m : Int} {c : Nat} (h0 : 0 ≤ m) (h1 : m < 4096) (hc : c < 12) : bAnd m (bXor (1 * 2 ^ c) (-1)) = if m / 2 ^ c % 2 = 1 then m - 2 ^ c else m := by
  have h := clr_t c hc (m.toNat / 64) (by omega) (m.toNat % 64) (by omega)
  rw [Nat.div_add_mod, Int.toNat_of_nonneg h0] at h
  rw [h]
  have e : ((m.toNat / 2 ^ c % 2 : Nat) : Int) = m / 2 ^ c % 2 := by
    rw [Int.natCast_emod, Int.natCast_ediv, Int.toNat_of_nonneg h0, Int.natCast_pow]
    rfl
  by_cases q : m / 2 ^ c % 2 = 1
  · rw [if_pos q, if_pos (by omega)]
  · rw [if_neg q, if_neg (by omega)]
theorem b01 {f : Nat → Int} (h : ∀ c, f c = 0 ∨ f c = 1) (k : Nat) : 0 ≤ f k ∧ f k ≤ 1 := by
  rcases h k with q | q <;> rw [q] <;> decide
theorem mk12_r {f : Nat → Int} (h : ∀ c, f c = 0 ∨ f c = 1) : 0 ≤ mk12 f ∧ mk12 f ≤ 4095 := by
  have h0 := b01 h 0
  have h1 := b01 h 1
  have h2 := b01 h 2
  have h3 := b01 h 3
  have h4 := b01 h 4
  have h5 := b01 h 5
  have h6 := b01 h 6
  have h7 := b01 h 7
  have h8 := b01 h 8
  have h9 := b01 h 9
  have h10 := b01 h 10
  have h11 := b01 h 11
  unfold mk12
  omega
theorem c12 {P : Nat → Prop} {c : Nat} (hc : c < 12) (h0 : P 0) (h1 : P 1) (h2 : P 2) (h3 : P 3) (h4 : P 4) (h5 : P 5) (h6 : P 6) (h7 : P 7) (h8 : P 8) (h9 : P 9) (h10 : P 10) (h11 : P 11) : P c := by
  have q : c = 0 ∨ c = 1 ∨ c = 2 ∨ c = 3 ∨ c = 4 ∨ c = 5 ∨ c = 6 ∨ c = 7 ∨ c = 8 ∨ c = 9 ∨ c = 10 ∨ c = 11 := by omega
  rcases q with q | q | q | q | q | q | q | q | q | q | q | q <;> subst q <;> assumption
theorem bitL {c : Nat} {lo b hi : Int} (h0 : 0 ≤ lo) (h1 : lo < 2 ^ c) (hb : b = 0 ∨ b = 1) : (lo + 2 ^ c * (b + 2 * hi)) / 2 ^ c % 2 = b := by
  rw [Int.add_mul_ediv_left _ _ (by omega), Int.ediv_eq_zero_of_lt h0 h1]
  omega
theorem mb12_0 {f : Nat → Int} (h : ∀ c, f c = 0 ∨ f c = 1) : (f 0 + 2 * f 1 + 4 * f 2 + 8 * f 3 + 16 * f 4 + 32 * f 5 + 64 * f 6 + 128 * f 7 + 256 * f 8 + 512 * f 9 + 1024 * f 10 + 2048 * f 11) / 2 ^ 0 % 2 = f 0 := by
  have e : f 0 + 2 * f 1 + 4 * f 2 + 8 * f 3 + 16 * f 4 + 32 * f 5 + 64 * f 6 + 128 * f 7 + 256 * f 8 + 512 * f 9 + 1024 * f 10 + 2048 * f 11 = (0 : Int) + 2 ^ 0 * (f 0 + 2 * (f 1 + 2 * f 2 + 4 * f 3 + 8 * f 4 + 16 * f 5 + 32 * f 6 + 64 * f 7 + 128 * f 8 + 256 * f 9 + 512 * f 10 + 1024 * f 11)) := by
    rw [show (2 : Int) ^ 0 = 1 by decide]
    omega
  rw [e]
  exact bitL (by omega) (by rw [show (2 : Int) ^ 0 = 1 by decide]; omega) (h 0)
theorem mb12_1 {f : Nat → Int} (h : ∀ c, f c = 0 ∨ f c = 1) : (f 0 + 2 * f 1 + 4 * f 2 + 8 * f 3 + 16 * f 4 + 32 * f 5 + 64 * f 6 + 128 * f 7 + 256 * f 8 + 512 * f 9 + 1024 * f 10 + 2048 * f 11) / 2 ^ 1 % 2 = f 1 := by
  have e : f 0 + 2 * f 1 + 4 * f 2 + 8 * f 3 + 16 * f 4 + 32 * f 5 + 64 * f 6 + 128 * f 7 + 256 * f 8 + 512 * f 9 + 1024 * f 10 + 2048 * f 11 = (f 0 : Int) + 2 ^ 1 * (f 1 + 2 * (f 2 + 2 * f 3 + 4 * f 4 + 8 * f 5 + 16 * f 6 + 32 * f 7 + 64 * f 8 + 128 * f 9 + 256 * f 10 + 512 * f 11)) := by
    rw [show (2 : Int) ^ 1 = 2 by decide]
    omega
  rw [e]
  have h0 := b01 h 0
  exact bitL (by omega) (by rw [show (2 : Int) ^ 1 = 2 by decide]; omega) (h 1)
theorem mb12_2 {f : Nat → Int} (h : ∀ c, f c = 0 ∨ f c = 1) : (f 0 + 2 * f 1 + 4 * f 2 + 8 * f 3 + 16 * f 4 + 32 * f 5 + 64 * f 6 + 128 * f 7 + 256 * f 8 + 512 * f 9 + 1024 * f 10 + 2048 * f 11) / 2 ^ 2 % 2 = f 2 := by
  have e : f 0 + 2 * f 1 + 4 * f 2 + 8 * f 3 + 16 * f 4 + 32 * f 5 + 64 * f 6 + 128 * f 7 + 256 * f 8 + 512 * f 9 + 1024 * f 10 + 2048 * f 11 = (f 0 + 2 * f 1 : Int) + 2 ^ 2 * (f 2 + 2 * (f 3 + 2 * f 4 + 4 * f 5 + 8 * f 6 + 16 * f 7 + 32 * f 8 + 64 * f 9 + 128 * f 10 + 256 * f 11)) := by
    rw [show (2 : Int) ^ 2 = 4 by decide]
    omega
  rw [e]
  have h0 := b01 h 0
  have h1 := b01 h 1
  exact bitL (by omega) (by rw [show (2 : Int) ^ 2 = 4 by decide]; omega) (h 2)
theorem mb12_3 {f : Nat → Int} (h : ∀ c, f c = 0 ∨ f c = 1) : (f 0 + 2 * f 1 + 4 * f 2 + 8 * f 3 + 16 * f 4 + 32 * f 5 + 64 * f 6 + 128 * f 7 + 256 * f 8 + 512 * f 9 + 1024 * f 10 + 2048 * f 11) / 2 ^ 3 % 2 = f 3 := by
  have e : f 0 + 2 * f 1 + 4 * f 2 + 8 * f 3 + 16 * f 4 + 32 * f 5 + 64 * f 6 + 128 * f 7 + 256 * f 8 + 512 * f 9 + 1024 * f 10 + 2048 * f 11 = (f 0 + 2 * f 1 + 4 * f 2 : Int) + 2 ^ 3 * (f 3 + 2 * (f 4 + 2 * f 5 + 4 * f 6 + 8 * f 7 + 16 * f 8 + 32 * f 9 + 64 * f 10 + 128 * f 11)) := by
    rw [show (2 : Int) ^ 3 = 8 by decide]
    omega
  rw [e]
  have h0 := b01 h 0
  have h1 := b01 h 1
  have h2 := b01 h 2
  exact bitL (by omega) (by rw [show (2 : Int) ^ 3 = 8 by decide]; omega) (h 3)
theorem mb12_4 {f : Nat → Int} (h : ∀ c, f c = 0 ∨ f c = 1) : (f 0 + 2 * f 1 + 4 * f 2 + 8 * f 3 + 16 * f 4 + 32 * f 5 + 64 * f 6 + 128 * f 7 + 256 * f 8 + 512 * f 9 + 1024 * f 10 + 2048 * f 11) / 2 ^ 4 % 2 = f 4 := by
  have e : f 0 + 2 * f 1 + 4 * f 2 + 8 * f 3 + 16 * f 4 + 32 * f 5 + 64 * f 6 + 128 * f 7 + 256 * f 8 + 512 * f 9 + 1024 * f 10 + 2048 * f 11 = (f 0 + 2 * f 1 + 4 * f 2 + 8 * f 3 : Int) + 2 ^ 4 * (f 4 + 2 * (f 5 + 2 * f 6 + 4 * f 7 + 8 * f 8 + 16 * f 9 + 32 * f 10 + 64 * f 11)) := by
    rw [show (2 : Int) ^ 4 = 16 by decide]
    omega
  rw [e]
  have h0 := b01 h 0
  have h1 := b01 h 1
  have h2 := b01 h 2
  have h3 := b01 h 3
  exact bitL (by omega) (by rw [show (2 : Int) ^ 4 = 16 by decide]; omega) (h 4)
theorem mb12_5 {f : Nat → Int} (h : ∀ c, f c = 0 ∨ f c = 1) : (f 0 + 2 * f 1 + 4 * f 2 + 8 * f 3 + 16 * f 4 + 32 * f 5 + 64 * f 6 + 128 * f 7 + 256 * f 8 + 512 * f 9 + 1024 * f 10 + 2048 * f 11) / 2 ^ 5 % 2 = f 5 := by
  have e : f 0 + 2 * f 1 + 4 * f 2 + 8 * f 3 + 16 * f 4 + 32 * f 5 + 64 * f 6 + 128 * f 7 + 256 * f 8 + 512 * f 9 + 1024 * f 10 + 2048 * f 11 = (f 0 + 2 * f 1 + 4 * f 2 + 8 * f 3 + 16 * f 4 : Int) + 2 ^ 5 * (f 5 + 2 * (f 6 + 2 * f 7 + 4 * f 8 + 8 * f 9 + 16 * f 10 + 32 * f 11)) := by
    rw [show (2 : Int) ^ 5 = 32 by decide]
    omega
  rw [e]
  have h0 := b01 h 0
  have h1 := b01 h 1
  have h2 := b01 h 2
  have h3 := b01 h 3
  have h4 := b01 h 4
  exact bitL (by omega) (by rw [show (2 : Int) ^ 5 = 32 by decide]; omega) (h 5)
theorem mb12_6 {f : Nat → Int} (h : ∀ c, f c = 0 ∨ f c = 1) : (f 0 + 2 * f 1 + 4 * f 2 + 8 * f 3 + 16 * f 4 + 32 * f 5 + 64 * f 6 + 128 * f 7 + 256 * f 8 + 512 * f 9 + 1024 * f 10 + 2048 * f 11) / 2 ^ 6 % 2 = f 6 := by
  have e : f 0 + 2 * f 1 + 4 * f 2 + 8 * f 3 + 16 * f 4 + 32 * f 5 + 64 * f 6 + 128 * f 7 + 256 * f 8 + 512 * f 9 + 1024 * f 10 + 2048 * f 11 = (f 0 + 2 * f 1 + 4 * f 2 + 8 * f 3 + 16 * f 4 + 32 * f 5 : Int) + 2 ^ 6 * (f 6 + 2 * (f 7 + 2 * f 8 + 4 * f 9 + 8 * f 10 + 16 * f 11)) := by
    rw [show (2 : Int) ^ 6 = 64 by decide]
    omega
  rw [e]
  have h0 := b01 h 0
  have h1 := b01 h 1
  have h2 := b01 h 2
  have h3 := b01 h 3
  have h4 := b01 h 4
  have h5 := b01 h 5
  exact bitL (by omega) (by rw [show (2 : Int) ^ 6 = 64 by decide]; omega) (h 6)
theorem mb12_7 {f : Nat → Int} (h : ∀ c, f c = 0 ∨ f c = 1) : (f 0 + 2 * f 1 + 4 * f 2 + 8 * f 3 + 16 * f 4 + 32 * f 5 + 64 * f 6 + 128 * f 7 + 256 * f 8 + 512 * f 9 + 1024 * f 10 + 2048 * f 11) / 2 ^ 7 % 2 = f 7 := by
  have e : f 0 + 2 * f 1 + 4 * f 2 + 8 * f 3 + 16 * f 4 + 32 * f 5 + 64 * f 6 + 128 * f 7 + 256 * f 8 + 512 * f 9 + 1024 * f 10 + 2048 * f 11 = (f 0 + 2 * f 1 + 4 * f 2 + 8 * f 3 + 16 * f 4 + 32 * f 5 + 64 * f 6 : Int) + 2 ^ 7 * (f 7 + 2 * (f 8 + 2 * f 9 + 4 * f 10 + 8 * f 11)) := by
    rw [show (2 : Int) ^ 7 = 128 by decide]
    omega
  rw [e]
  have h0 := b01 h 0
  have h1 := b01 h 1
  have h2 := b01 h 2
  have h3 := b01 h 3
  have h4 := b01 h 4
  have h5 := b01 h 5
  have h6 := b01 h 6
  exact bitL (by omega) (by rw [show (2 : Int) ^ 7 = 128 by decide]; omega) (h 7)
theorem mb12_8 {f : Nat → Int} (h : ∀ c, f c = 0 ∨ f c = 1) : (f 0 + 2 * f 1 + 4 * f 2 + 8 * f 3 + 16 * f 4 + 32 * f 5 + 64 * f 6 + 128 * f 7 + 256 * f 8 + 512 * f 9 + 1024 * f 10 + 2048 * f 11) / 2 ^ 8 % 2 = f 8 := by
  have e : f 0 + 2 * f 1 + 4 * f 2 + 8 * f 3 + 16 * f 4 + 32 * f 5 + 64 * f 6 + 128 * f 7 + 256 * f 8 + 512 * f 9 + 1024 * f 10 + 2048 * f 11 = (f 0 + 2 * f 1 + 4 * f 2 + 8 * f 3 + 16 * f 4 + 32 * f 5 + 64 * f 6 + 128 * f 7 : Int) + 2 ^ 8 * (f 8 + 2 * (f 9 + 2 * f 10 + 4 * f 11)) := by
    rw [show (2 : Int) ^ 8 = 256 by decide]
    omega
  rw [e]
  have h0 := b01 h 0
  have h1 := b01 h 1
  have h2 := b01 h 2
  have h3 := b01 h 3
  have h4 := b01 h 4
  have h5 := b01 h 5
  have h6 := b01 h 6
  have h7 := b01 h 7
  exact bitL (by omega) (by rw [show (2 : Int) ^ 8 = 256 by decide]; omega) (h 8)
theorem mb12_9 {f : Nat → Int} (h : ∀ c, f c = 0 ∨ f c = 1) : (f 0 + 2 * f 1 + 4 * f 2 + 8 * f 3 + 16 * f 4 + 32 * f 5 + 64 * f 6 + 128 * f 7 + 256 * f 8 + 512 * f 9 + 1024 * f 10 + 2048 * f 11) / 2 ^ 9 % 2 = f 9 := by
  have e : f 0 + 2 * f 1 + 4 * f 2 + 8 * f 3 + 16 * f 4 + 32 * f 5 + 64 * f 6 + 128 * f 7 + 256 * f 8 + 512 * f 9 + 1024 * f 10 + 2048 * f 11 = (f 0 + 2 * f 1 + 4 * f 2 + 8 * f 3 + 16 * f 4 + 32 * f 5 + 64 * f 6 + 128 * f 7 + 256 * f 8 : Int) + 2 ^ 9 * (f 9 + 2 * (f 10 + 2 * f 11)) := by
    rw [show (2 : Int) ^ 9 = 512 by decide]
    omega
  rw [e]
  have h0 := b01 h 0
  have h1 := b01 h 1
  have h2 := b01 h 2
  have h3 := b01 h 3
  have h4 := b01 h 4
  have h5 := b01 h 5
  have h6 := b01 h 6
  have h7 := b01 h 7
  have h8 := b01 h 8
  exact bitL (by omega) (by rw [show (2 : Int) ^ 9 = 512 by decide]; omega) (h 9)
theorem mb12_10 {f : Nat → Int} (h : ∀ c, f c = 0 ∨ f c = 1) : (f 0 + 2 * f 1 + 4 * f 2 + 8 * f 3 + 16 * f 4 + 32 * f 5 + 64 * f 6 + 128 * f 7 + 256 * f 8 + 512 * f 9 + 1024 * f 10 + 2048 * f 11) / 2 ^ 10 % 2 = f 10 := by
  have e : f 0 + 2 * f 1 + 4 * f 2 + 8 * f 3 + 16 * f 4 + 32 * f 5 + 64 * f 6 + 128 * f 7 + 256 * f 8 + 512 * f 9 + 1024 * f 10 + 2048 * f 11 = (f 0 + 2 * f 1 + 4 * f 2 + 8 * f 3 + 16 * f 4 + 32 * f 5 + 64 * f 6 + 128 * f 7 + 256 * f 8 + 512 * f 9 : Int) + 2 ^ 10 * (f 10 + 2 * (f 11)) := by
    rw [show (2 : Int) ^ 10 = 1024 by decide]
    omega
  rw [e]
  have h0 := b01 h 0
  have h1 := b01 h 1
  have h2 := b01 h 2
  have h3 := b01 h 3
  have h4 := b01 h 4
  have h5 := b01 h 5
  have h6 := b01 h 6
  have h7 := b01 h 7
  have h8 := b01 h 8
  have h9 := b01 h 9
  exact bitL (by omega) (by rw [show (2 : Int) ^ 10 = 1024 by decide]; omega) (h 10)
theorem mb12_11 {f : Nat → Int} (h : ∀ c, f c = 0 ∨ f c = 1) : (f 0 + 2 * f 1 + 4 * f 2 + 8 * f 3 + 16 * f 4 + 32 * f 5 + 64 * f 6 + 128 * f 7 + 256 * f 8 + 512 * f 9 + 1024 * f 10 + 2048 * f 11) / 2 ^ 11 % 2 = f 11 := by
  have e : f 0 + 2 * f 1 + 4 * f 2 + 8 * f 3 + 16 * f 4 + 32 * f 5 + 64 * f 6 + 128 * f 7 + 256 * f 8 + 512 * f 9 + 1024 * f 10 + 2048 * f 11 = (f 0 + 2 * f 1 + 4 * f 2 + 8 * f 3 + 16 * f 4 + 32 * f 5 + 64 * f 6 + 128 * f 7 + 256 * f 8 + 512 * f 9 + 1024 * f 10 : Int) + 2 ^ 11 * (f 11 + 2 * (0)) := by
    rw [show (2 : Int) ^ 11 = 2048 by decide]
    omega
  rw [e]
  have h0 := b01 h 0
  have h1 := b01 h 1
  have h2 := b01 h 2
  have h3 := b01 h 3
  have h4 := b01 h 4
  have h5 := b01 h 5
  have h6 := b01 h 6
  have h7 := b01 h 7
  have h8 := b01 h 8
  have h9 := b01 h 9
  have h10 := b01 h 10
  exact bitL (by omega) (by rw [show (2 : Int) ^ 11 = 2048 by decide]; omega) (h 11)
theorem mk12_b {f : Nat → Int} (h : ∀ c, f c = 0 ∨ f c = 1) {c : Nat} (hc : c < 12) : mk12 f / 2 ^ c % 2 = f c := by
  have q : c = 0 ∨ c = 1 ∨ c = 2 ∨ c = 3 ∨ c = 4 ∨ c = 5 ∨ c = 6 ∨ c = 7 ∨ c = 8 ∨ c = 9 ∨ c = 10 ∨ c = 11 := by omega
  rcases q with q | q | q | q | q | q | q | q | q | q | q | q <;> subst q
  · exact mb12_0 h
  · exact mb12_1 h
  · exact mb12_2 h
  · exact mb12_3 h
  · exact mb12_4 h
  · exact mb12_5 h
  · exact mb12_6 h
  · exact mb12_7 h
  · exact mb12_8 h
  · exact mb12_9 h
  · exact mb12_10 h
  · exact mb12_11 h
theorem mk12_u {f : Nat → Int} {c : Nat} (hc : c < 12) (h : f c = 1) : mk12 f - 2 ^ c = mk12 (fun j => if j = c then 0 else f j) := by
  unfold mk12
  revert h
  refine c12 (P := fun c => f c = 1 → (f 0 + 2 * f 1 + 4 * f 2 + 8 * f 3 + 16 * f 4 + 32 * f 5 + 64 * f 6 + 128 * f 7 + 256 * f 8 + 512 * f 9 + 1024 * f 10 + 2048 * f 11) - 2 ^ c = (if 0 = c then 0 else f 0) + 2 * (if 1 = c then 0 else f 1) + 4 * (if 2 = c then 0 else f 2) + 8 * (if 3 = c then 0 else f 3) + 16 * (if 4 = c then 0 else f 4) + 32 * (if 5 = c then 0 else f 5) + 64 * (if 6 = c then 0 else f 6) + 128 * (if 7 = c then 0 else f 7) + 256 * (if 8 = c then 0 else f 8) + 512 * (if 9 = c then 0 else f 9) + 1024 * (if 10 = c then 0 else f 10) + 2048 * (if 11 = c then 0 else f 11)) hc ?_ ?_ ?_ ?_ ?_ ?_ ?_ ?_ ?_ ?_ ?_ ?_
  all_goals
    intro h
    simp only [Int.pow_zero, Int.pow_succ, reduceIte, Nat.reduceEqDiff]
    omega
theorem mk12_clr {f g : Nat → Int} {c : Nat} (h : ∀ c, f c = 0 ∨ f c = 1) (hc : c < 12) (hg : g = fun j => if j = c then 0 else f j) : bAnd (mk12 f) (bXor (1 * 2 ^ c) (-1)) = mk12 g := by
  subst hg
  have hr := mk12_r h
  rw [clr_b hr.1 (by omega) hc, mk12_b h hc]
  by_cases q : f c = 1
  · rw [if_pos q]; exact mk12_u hc q
  · rw [if_neg q]
    congr 1
    funext j
    by_cases z : j = c
    · subst z; rw [if_pos rfl]; have := h j; omega
    · rw [if_neg z]
theorem mk12_0 {f : Nat → Int} (h : ∀ c, f c = 0 ∨ f c = 1) : mk12 f = 0 ↔ ∀ c, c < 12 → f c = 0 := by
  constructor
  · intro e c hc
    have := mk12_b h hc
    rw [e, Int.zero_ediv, Int.zero_emod] at this
    exact this.symm
  · intro q
    unfold mk12
    rw [q 0 (by decide), q 1 (by decide), q 2 (by decide), q 3 (by decide), q 4 (by decide), q 5 (by decide), q 6 (by decide), q 7 (by decide), q 8 (by decide), q 9 (by decide), q 10 (by decide), q 11 (by decide)]
    rfl
theorem fiN_none {f : Nat → Int} : ∀ (m c : Nat), (∀ j, c ≤ j → j < c + m → f j ≠ 1) → fiN f m c = -1
  | 0, _, _ => rfl
  | m + 1, c, h => by
    rw [fiN, if_neg (h c (by omega) (by omega))]
    exact fiN_none m _ (fun j a b => h j (by omega) (by omega))
theorem fiN_r {f : Nat → Int} : ∀ (m c : Nat), fiN f m c = -1 ∨ ((c : Int) ≤ fiN f m c ∧ fiN f m c < c + m)
  | 0, _ => Or.inl rfl
  | m + 1, c => by
    rw [fiN]
    split
    · exact Or.inr (by omega)
    · rcases fiN_r (f := f) m (c + 1) with q | q
      · exact Or.inl q
      · exact Or.inr (by omega)
theorem fiN_e {f : Nat → Int} {c : Int} (h0 : 0 ≤ c) (h1 : c < 12) : fiN f (12 - c).toNat c.toNat = if f c.toNat = 1 then c else fiN f (12 - (c + 1)).toNat (c + 1).toNat := by
  rw [show (12 - c).toNat = (12 - (c + 1)).toNat + 1 by omega, fiN, show c.toNat + 1 = (c + 1).toNat by omega, Int.toNat_of_nonneg h0]
theorem mk12_cg {f g : Nat → Int} (h : ∀ c, c < 12 → f c = g c) : mk12 f = mk12 g := by
  unfold mk12
  rw [h 0 (by decide), h 1 (by decide), h 2 (by decide), h 3 (by decide), h 4 (by decide), h 5 (by decide), h 6 (by decide), h 7 (by decide), h 8 (by decide), h 9 (by decide), h 10 (by decide), h 11 (by decide)]
def alM (κ : Int → Int) (x k : Int) (j : Nat) : Nat → Int := fun c => if c < j then alN κ x c (k + 1).toNat else alN κ x c k.toNat
theorem alM_01 {κ : Int → Int} {x k : Int} {j : Nat} (c : Nat) : alM κ x k j c = 0 ∨ alM κ x k j c = 1 := by
  unfold alM
  split
  · exact alN_01 _
  · exact alN_01 _
theorem alM_0 {κ : Int → Int} {x k : Int} : mk12 (alM κ x k 0) = mk12 (fun c => alN κ x c k.toNat) := mk12_cg (fun c _ => if_neg (by omega))
theorem alM_12 {κ : Int → Int} {x k : Int} : mk12 (alM κ x k 12) = mk12 (fun c => alN κ x c (k + 1).toNat) := mk12_cg (fun c h => if_pos h)
theorem alM_n {κ : Int → Int} {x k : Int} {j : Nat} (hk : 0 ≤ k) (hj : j < 12) (ho : oL κ x k < 10) (hs : ¬ svP κ x j k) : bAnd (mk12 (alM κ x k j)) (bXor (1 * 2 ^ j) (-1)) = mk12 (alM κ x k (j + 1)) := by
  refine mk12_clr alM_01 hj ?_
  funext c
  unfold alM
  by_cases q : c = j
  · subst q
    rw [if_pos rfl, if_pos (by omega), alN_e hk, if_pos ⟨ho, hs⟩]
  · rw [if_neg q]
    by_cases z : c < j
    · rw [if_pos z, if_pos (by omega)]
    · rw [if_neg z, if_neg (by omega)]
theorem alM_y {κ : Int → Int} {x k : Int} {j : Nat} (hk : 0 ≤ k) (hs : svP κ x j k) : mk12 (alM κ x k j) = mk12 (alM κ x k (j + 1)) := mk12_cg (fun c _ => by
  unfold alM
  by_cases q : c = j
  · subst q
    rw [if_neg (by omega), if_pos (by omega), alN_e hk, if_neg (fun h => h.2 hs)]
  · by_cases z : c < j
    · rw [if_pos z, if_pos (by omega)]
    · rw [if_neg z, if_neg (by omega)])
theorem al_ge {κ : Int → Int} {x k : Int} (hk : 0 ≤ k) (ho : ¬ oL κ x k < 10) : mk12 (fun c => alN κ x c (k + 1).toNat) = mk12 (fun c => alN κ x c k.toNat) := mk12_cg (fun c _ => by
  show alN κ x c (k + 1).toNat = alN κ x c k.toNat
  rw [alN_e hk, if_neg (fun h => ho h.1)])
theorem fi_ex {f : Nat → Int} (h : ∀ c, f c = 0 ∨ f c = 1) (hn : mk12 f ≠ 0) : ∃ j : Nat, (0 : Int).toNat ≤ j ∧ j < 12 ∧ f j = 1 := by
  apply Classical.byContradiction
  intro q
  apply hn
  rw [mk12_0 h]
  intro c hc
  rcases h c with z | z
  · exact z
  · exact absurd ⟨c, Nat.zero_le _, hc, z⟩ q
theorem fi_0 {f : Nat → Int} (h : mk12 f = 0) (h1 : ∀ c, f c = 0 ∨ f c = 1) : fiN f 12 0 = -1 := fiN_none 12 0 (fun j _ b => by
  have := (mk12_0 h1).mp h j (by omega)
  omega)
/-! trials that part -/
abbrev arT (κ : Int → Int) (s : Int) : Prop := 0 ≤ s ∧ s < 2 ^ (κ 1756).toNat
def abI (z : Int) : Int := if z < 0 then -z else z
def inN (κ : Int → Int) (s t a : Int) : Nat → Int
  | 0 => 0
  | b + 1 => inN κ s t a b + (if s / 2 ^ b % 2 = 0 then 0 else abI (oT κ a t - oT κ b t))
def paN (κ : Int → Int) (s t : Int) : Nat → Int
  | 0 => 0
  | a + 1 => paN κ s t a + (if s / 2 ^ a % 2 = 0 then 0 else inN κ s t a a)
theorem inN_r {κ : Int → Int} {s t a : Int} : ∀ b : Nat, 0 ≤ inN κ s t a b ∧ inN κ s t a b ≤ 100 * b
  | 0 => ⟨Int.le_refl 0, Int.le_refl _⟩
  | b + 1 => by
    have ih := inN_r (κ := κ) (s := s) (t := t) (a := a) b
    have h1 := oT_r κ a t
    have h2 := oT_r κ b t
    rw [inN]
    unfold abI
    (repeat' split) <;> omega
theorem paN_r {κ : Int → Int} {s t : Int} : ∀ a : Nat, a ≤ 12 → 0 ≤ paN κ s t a ∧ paN κ s t a ≤ 1200 * a
  | 0, _ => ⟨Int.le_refl 0, Int.le_refl _⟩
  | a + 1, h => by
    have ih := paN_r (κ := κ) (s := s) (t := t) a (by omega)
    have h1 := inN_r (κ := κ) (s := s) (t := t) (a := a) a
    rw [paN]
    split <;> omega
theorem inN_e {κ : Int → Int} {s t a b : Int} (h : 0 ≤ b) : inN κ s t a (b + 1).toNat = inN κ s t a b.toNat + (if s / 2 ^ b.toNat % 2 = 0 then 0 else abI (oT κ a t - oT κ b t)) := by
  rw [show (b + 1).toNat = b.toNat + 1 by omega, inN, Int.toNat_of_nonneg h]
theorem paN_e {κ : Int → Int} {s t a : Int} (h : 0 ≤ a) : paN κ s t (a + 1).toNat = paN κ s t a.toNat + (if s / 2 ^ a.toNat % 2 = 0 then 0 else inN κ s t a a.toNat) := by
  rw [show (a + 1).toNat = a.toNat + 1 by omega, paN, Int.toNat_of_nonneg h]
def paT (κ : Int → Int) (s t : Int) : Int := paN κ s t (κ 1756).toNat
def partF' (κ : Int → Int) (s t : Int) : Int := if arT κ s ∧ isT κ t then paT κ s t else -1
def afN (κ : Int → Int) (s t : Int) : Nat → Int → Int
  | 0, _ => 1
  | m + 1, a => if s / 2 ^ a.toNat % 2 = 1 ∧ fT κ a t = 0 then 0 else afN κ s t m (a + 1)
def afT (κ : Int → Int) (s t : Int) : Int := afN κ s t (κ 1756).toNat 0
theorem afN_01 {κ : Int → Int} {s t : Int} : ∀ (m : Nat) (a : Int), afN κ s t m a = 0 ∨ afN κ s t m a = 1
  | 0, _ => Or.inr rfl
  | m + 1, a => by
    rw [afN]
    split
    · exact Or.inl rfl
    · exact afN_01 m _
theorem afT_01 (κ : Int → Int) (s t : Int) : afT κ s t = 0 ∨ afT κ s t = 1 := afN_01 _ _
theorem afN_e {κ : Int → Int} {s t a : Int} (h : a < κ 1756) : afN κ s t (κ 1756 - a).toNat a = if s / 2 ^ a.toNat % 2 = 1 ∧ fT κ a t = 0 then 0 else afN κ s t (κ 1756 - (a + 1)).toNat (a + 1) := by
  rw [show (κ 1756 - a).toNat = (κ 1756 - (a + 1)).toNat + 1 by omega, afN]
/-- the best so far, and how far it parts -/
def nxN (κ : Int → Int) (s : Int) : Nat → Int × Int
  | 0 => (-1, 0)
  | t + 1 => if afT κ s t = 1 ∧ (nxN κ s t).2 < paT κ s t then ((t : Int), paT κ s t) else nxN κ s t
def nxF (κ : Int → Int) (s : Int) : Int := if arT κ s then (nxN κ s (κ 1755).toNat).1 else -1
theorem paT_r {κ : Int → Int} (s t : Int) (h : κ 1756 ≤ 12) : 0 ≤ paT κ s t ∧ paT κ s t ≤ 14400 := by
  have := paN_r (κ := κ) (s := s) (t := t) (κ 1756).toNat (by omega)
  unfold paT
  omega
theorem nxN_r {κ : Int → Int} {s : Int} (h : κ 1756 ≤ 12) : ∀ t : Nat, 0 ≤ (nxN κ s t).2 ∧ (nxN κ s t).2 ≤ 14400
  | 0 => ⟨Int.le_refl 0, by show (0 : Int) ≤ 14400; decide⟩
  | t + 1 => by
    rw [nxN]
    split
    · exact paT_r s t h
    · exact nxN_r h t
theorem nxN_e {κ : Int → Int} {s t : Int} (h : 0 ≤ t) : nxN κ s (t + 1).toNat = if afT κ s t = 1 ∧ (nxN κ s t.toNat).2 < paT κ s t then (t, paT κ s t) else nxN κ s t.toNat := by
  rw [show (t + 1).toNat = t.toNat + 1 by omega, nxN, Int.toNat_of_nonneg h]
/-- which texts say a trial is turned, and whether it is plain -/
def laN (κ : Int → Int) (s t : Int) : Nat → Int × Int
  | 0 => (0, 1)
  | a + 1 => if s / 2 ^ a % 2 = 0 then laN κ s t a else (if oT κ a t = 100 then bOr (laN κ s t a).1 (1 * 2 ^ a) else (laN κ s t a).1, if (laN κ s t a).2 ≠ 0 ∧ (oT κ a t = 0 ∨ oT κ a t = 100) then 1 else 0)
theorem laN_e {κ : Int → Int} {s t a : Int} (h : 0 ≤ a) : laN κ s t (a + 1).toNat = if s / 2 ^ a.toNat % 2 = 0 then laN κ s t a.toNat else (if oT κ a t = 100 then bOr (laN κ s t a.toNat).1 (1 * 2 ^ a.toNat) else (laN κ s t a.toNat).1, if (laN κ s t a.toNat).2 ≠ 0 ∧ (oT κ a t = 0 ∨ oT κ a t = 100) then 1 else 0) := by
  rw [show (a + 1).toNat = a.toNat + 1 by omega, laN, Int.toNat_of_nonneg h]
theorem laN_r {κ : Int → Int} {s t : Int} : ∀ a : Nat, R32 (laN κ s t a).1 ∧ ((laN κ s t a).2 = 0 ∨ (laN κ s t a).2 = 1)
  | 0 => ⟨r32 (by show (-2147483648 : Int) ≤ 0 ∧ (0 : Int) < 2147483648; decide), Or.inr rfl⟩
  | a + 1 => by
    have ih := laN_r (κ := κ) (s := s) (t := t) a
    rw [laN]
    split
    · exact ih
    · refine ⟨?_, ?_⟩
      · show R32 (if _ then _ else _)
        split
        · exact bOr_r
        · exact ih.1
      · show (if _ then (1 : Int) else 0) = 0 ∨ (if _ then (1 : Int) else 0) = 1
        split
        · exact Or.inr rfl
        · exact Or.inl rfl
def laT (κ : Int → Int) (s t : Int) : Int := if (laN κ s t (κ 1756).toNat).2 = 0 then -1 else (laN κ s t (κ 1756).toNat).1
