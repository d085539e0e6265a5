/-! TRIALS ENOUGH FOR EACH SET OF TEXTS -/
abbrev cutP (y s : Int) : Prop := y ≠ -1 ∧ bAnd s y ≠ 0 ∧ bAnd s (bXor y (-1)) ≠ 0
def fvI (F : Int → Int) (y s : Int) : Int := 1 + (if F (bAnd s (bXor y (-1))) < F (bAnd s y) then F (bAnd s y) else F (bAnd s (bXor y (-1))))
def bsN (Y F : Int → Int) (s : Int) : Nat → Int × Int
  | 0 => (-1, -1)
  | t + 1 => if cutP (Y t) s ∧ ((bsN Y F s t).1 = -1 ∨ fvI F (Y t) s < (bsN Y F s t).1) then (fvI F (Y t) s, (t : Int)) else bsN Y F s t
theorem bsN_e {Y F : Int → Int} {s t : Int} (h : 0 ≤ t) : bsN Y F s (t + 1).toNat = if cutP (Y t) s ∧ ((bsN Y F s t.toNat).1 = -1 ∨ fvI F (Y t) s < (bsN Y F s t.toNat).1) then (fvI F (Y t) s, t) else bsN Y F s t.toNat := by
  rw [show (t + 1).toNat = t.toNat + 1 by omega, bsN, Int.toNat_of_nonneg h]
abbrev subP (j s : Int) : Prop := bAnd j (bXor s (-1)) = 0
def fwS (Y : Int → Int) (s : Int) (n : Nat) (F : Int → Int) : Nat → Int → Int
  | 0 => F
  | k + 1 => if subP k s then up (fwS Y s n F k) k (if (bsN Y (fwS Y s n F k) k n).1 = -1 then 0 else (bsN Y (fwS Y s n F k) k n).1) else fwS Y s n F k
theorem fwS_e {Y : Int → Int} {s k : Int} {n : Nat} {F : Int → Int} (h : 0 ≤ k) : fwS Y s n F (k + 1).toNat = if subP k s then up (fwS Y s n F k.toNat) k (if (bsN Y (fwS Y s n F k.toNat) k n).1 = -1 then 0 else (bsN Y (fwS Y s n F k.toNat) k n).1) else fwS Y s n F k.toNat := by
  rw [show (k + 1).toNat = k.toNat + 1 by omega, fwS, Int.toNat_of_nonneg h]
theorem tiN {x : Int32} {m : Int} (h0 : 0 ≤ m) (h : m < 2147483648) (e : x.toBitVec.toNat = m.toNat) : x.toInt = m := by
  show x.toBitVec.toInt = m
  rw [BitVec.toInt_eq_toNat_cond, e, if_pos (by omega)]
  omega
theorem iI_bn {m : Int} (h0 : 0 ≤ m) (h : m < 2147483648) : (iI m).toBitVec.toNat = m.toNat := by
  rw [iI_tn]
  omega
/-- a set in its parts in and out of another -/
theorem bsplit {s y : Int} (h0 : 0 ≤ s) (h1 : s < 2147483648) : 0 ≤ bAnd s y ∧ 0 ≤ bAnd s (bXor y (-1)) ∧ bAnd s y + bAnd s (bXor y (-1)) = s := by
  have e1 : (iI s &&& iI y).toBitVec = (iI s).toBitVec &&& (iI y).toBitVec := rfl
  have e2 : (iI (bXor y (-1))).toBitVec = ~~~ (iI y).toBitVec := by
    unfold bXor
    rw [← iI_of]
    show (iI y).toBitVec ^^^ (iI (-1)).toBitVec = _
    rw [show (iI (-1)).toBitVec = BitVec.allOnes 32 by decide +kernel, BitVec.xor_allOnes]
  have e3 : (iI s &&& iI (bXor y (-1))).toBitVec = (iI s).toBitVec &&& ~~~ (iI y).toBitVec := by
    show (iI s).toBitVec &&& (iI (bXor y (-1))).toBitVec = _
    rw [e2]
  have hb := iI_bn h0 h1
  have l1 : ((iI s).toBitVec &&& (iI y).toBitVec).toNat ≤ s.toNat := by
    rw [BitVec.toNat_and, ← hb]
    exact Nat.and_le_left
  have l2 : ((iI s).toBitVec &&& ~~~ (iI y).toBitVec).toNat ≤ s.toNat := by
    rw [BitVec.toNat_and, ← hb]
    exact Nat.and_le_left
  have t1 : bAnd s y = ((iI s).toBitVec &&& (iI y).toBitVec).toNat := tiN (by omega) (by omega) (by rw [e1]; omega)
  have t2 : bAnd s (bXor y (-1)) = ((iI s).toBitVec &&& ~~~ (iI y).toBitVec).toNat := tiN (by omega) (by omega) (by rw [e3]; omega)
  have z : ((iI s).toBitVec &&& (iI y).toBitVec) &&& ((iI s).toBitVec &&& ~~~ (iI y).toBitVec) = 0#32 := by
    ext i hi
    simp only [BitVec.getElem_and, BitVec.getElem_not, BitVec.getElem_zero]
    cases (iI s).toBitVec[i] <;> cases (iI y).toBitVec[i] <;> rfl
  have z2 : ((iI s).toBitVec &&& (iI y).toBitVec) ||| ((iI s).toBitVec &&& ~~~ (iI y).toBitVec) = (iI s).toBitVec := by
    ext i hi
    simp only [BitVec.getElem_and, BitVec.getElem_not, BitVec.getElem_or]
    cases (iI s).toBitVec[i] <;> cases (iI y).toBitVec[i] <;> rfl
  have z3 := BitVec.add_eq_or_of_and_eq_zero _ _ z
  rw [z2] at z3
  have z4 := congrArg BitVec.toNat z3
  rw [BitVec.toNat_add, hb] at z4
  refine ⟨by omega, by omega, ?_⟩
  rw [t1, t2]
  omega
theorem bAnd_sub {j y s : Int} (h : subP j s) : subP (bAnd j y) s ∧ subP (bAnd j (bXor y (-1))) s := by
  unfold subP at *
  have g : (iI j).toBitVec &&& (iI (bXor s (-1))).toBitVec = 0#32 := by
    have h2 : (iI j &&& iI (bXor s (-1))) = iI 0 := by
      rw [iI_of (iI j &&& iI (bXor s (-1)))]
      exact congrArg iI h
    exact congrArg Int32.toBitVec h2
  have k : ∀ w : Int, bAnd (bAnd j w) (bXor s (-1)) = 0 := fun w => by
    have e : iI (bAnd j w) = iI j &&& iI w := by unfold bAnd; exact (iI_of _).symm
    show (iI (bAnd j w) &&& iI (bXor s (-1))).toInt = 0
    rw [e]
    have e2 : (iI j &&& iI w) &&& iI (bXor s (-1)) = iI 0 := by
      apply Int32.toBitVec_inj.mp
      show ((iI j).toBitVec &&& (iI w).toBitVec) &&& (iI (bXor s (-1))).toBitVec = 0#32
      rw [BitVec.and_assoc, BitVec.and_comm (iI w).toBitVec, ← BitVec.and_assoc, g]
      exact BitVec.zero_and
    rw [e2]
    rfl
  exact ⟨k y, k _⟩
/-- no set wants more trials than its number -/
def FWok (F : Int → Int) : Prop := ∀ j, 0 ≤ j → j < 4096 → 0 ≤ F j ∧ F j ≤ j
theorem fvI_r {F : Int → Int} {y s : Int} (hF : FWok F) (h0 : 0 ≤ s) (h1 : s < 4096) (hc : cutP y s) : 1 ≤ fvI F y s ∧ fvI F y s ≤ s := by
  have h := bsplit (y := y) h0 (by omega)
  have h2 := hc.2
  have a := hF (bAnd s y) h.1 (by omega)
  have b := hF (bAnd s (bXor y (-1))) h.2.1 (by omega)
  unfold fvI
  split <;> omega
theorem bsN_r {Y F : Int → Int} {s : Int} (hF : FWok F) (h0 : 0 ≤ s) (h1 : s < 4096) : ∀ t : Nat, ((bsN Y F s t).1 = -1 ∨ (1 ≤ (bsN Y F s t).1 ∧ (bsN Y F s t).1 ≤ s)) ∧ -1 ≤ (bsN Y F s t).2 ∧ (bsN Y F s t).2 < t
  | 0 => ⟨Or.inl rfl, by show (-1 : Int) ≤ -1; decide, by show (-1 : Int) < 0; decide⟩
  | t + 1 => by
    have ih := bsN_r (Y := Y) hF h0 h1 t
    rw [bsN]
    split
    · rename_i q
      have := fvI_r hF h0 h1 q.1
      exact ⟨Or.inr this, by show (-1 : Int) ≤ t; omega, by show (t : Int) < ((t + 1 : Nat) : Int); omega⟩
    · exact ⟨ih.1, ih.2.1, by omega⟩
theorem fw_up {F : Int → Int} {Y : Int → Int} {k : Int} {n : Nat} (hF : FWok F) (h0 : 0 ≤ k) (h1 : k < 4096) : FWok (up F k (if (bsN Y F k n).1 = -1 then 0 else (bsN Y F k n).1)) := fun j a b => by
  by_cases q : j = k
  · subst q
    rw [up_s]
    have := (bsN_r (Y := Y) hF a b n).1
    split <;> omega
  · rw [up_n q]
    exact hF j a b
theorem fwS_r {Y : Int → Int} {s : Int} {n : Nat} {F : Int → Int} (hF : FWok F) : ∀ k : Nat, k ≤ 4096 → FWok (fwS Y s n F k)
  | 0, _ => hF
  | k + 1, h => by
    rw [fwS]
    split
    · exact fw_up (fwS_r hF k (by omega)) (by omega) (by omega)
    · exact fwS_r hF k (by omega)
theorem bsN_cg {Y F F' : Int → Int} {s : Int} (h : ∀ t : Nat, cutP (Y t) s → fvI F (Y t) s = fvI F' (Y t) s) : ∀ t : Nat, bsN Y F s t = bsN Y F' s t
  | 0 => rfl
  | t + 1 => by
    rw [bsN, bsN, bsN_cg h t]
    by_cases c : cutP (Y t) s
    · rw [h t c]
    · rw [if_neg (fun q => c q.1), if_neg (fun q => c q.1)]
/-- what was there before does not matter -/
theorem fwS_cg {Y : Int → Int} {s : Int} {n : Nat} {F F' : Int → Int} : ∀ k : Nat, k ≤ 4096 → ∀ j : Int, 0 ≤ j → j < k → subP j s → fwS Y s n F k j = fwS Y s n F' k j
  | 0, _, j, a, b, _ => by omega
  | k + 1, hk, j, a, b, hj => by
    have ih := fwS_cg (Y := Y) (s := s) (n := n) (F := F) (F' := F') k (by omega)
    rw [fwS, fwS]
    by_cases c : subP k s
    · rw [if_pos c, if_pos c]
      by_cases q : j = k
      · subst q
        have e : ∀ t : Nat, bsN Y (fwS Y s n F k) k t = bsN Y (fwS Y s n F' k) k t := bsN_cg (fun t hc => by
          have h := bsplit (s := (k : Int)) (y := Y t) (by omega) (by omega)
          have h2 := hc.2
          have h3 := bAnd_sub (y := Y t) c
          unfold fvI
          rw [ih _ h.1 (by omega) h3.1, ih _ h.2.1 (by omega) h3.2])
        rw [up_s, up_s, e]
      · rw [up_n q, up_n q]
        exact ih j a (by omega) hj
    · rw [if_neg c, if_neg c]
      by_cases q : j = k
      · subst q
        exact absurd hj c
      · exact ih j a (by omega) hj
theorem bsN_F {Y : Int → Int} {s : Int} {n : Nat} {F F' : Int → Int} (h0 : 0 ≤ s) (h1 : s < 4096) (hs : subP s s) : ∀ t : Nat, bsN Y (fwS Y s n F s.toNat) s t = bsN Y (fwS Y s n F' s.toNat) s t := bsN_cg (fun t hc => by
  have h := bsplit (s := s) (y := Y t) h0 (by omega)
  have h2 := hc.2
  have h3 := bAnd_sub (y := Y t) hs
  unfold fvI
  rw [fwS_cg _ (by omega) _ h.1 (by omega) h3.1, fwS_cg _ (by omega) _ h.2.1 (by omega) h3.2])
theorem subP_self (s : Int) : subP s s := by
  unfold subP bAnd
  have e2 : (iI (bXor s (-1))).toBitVec = ~~~ (iI s).toBitVec := by
    unfold bXor
    rw [← iI_of]
    show (iI s).toBitVec ^^^ (iI (-1)).toBitVec = _
    rw [show (iI (-1)).toBitVec = BitVec.allOnes 32 by decide +kernel, BitVec.xor_allOnes]
  have e : iI s &&& iI (bXor s (-1)) = iI 0 := by
    apply Int32.toBitVec_inj.mp
    show (iI s).toBitVec &&& (iI (bXor s (-1))).toBitVec = 0#32
    rw [e2]
    exact BitVec.and_not_self _
  rw [e]
  rfl
theorem up_same {F : Int → Int} {k v : Int} (h : F k = v) : up F k v = F := by
  funext j
  unfold up
  split
  · rename_i q; subst q; exact h.symm
  · rfl
theorem bAnd_0 (y : Int) : bAnd 0 y = 0 := by
  have h := bsplit (s := 0) (y := y) (by decide) (by decide)
  omega
theorem bsN_0 {Y F : Int → Int} : ∀ t : Nat, bsN Y F 0 t = (-1, -1)
  | 0 => rfl
  | t + 1 => by
    rw [bsN, if_neg (fun q => q.1.2.1 (bAnd_0 _))]
    exact bsN_0 t
/-- the empty set wants none -/
theorem fwS_1 {Y : Int → Int} {s : Int} {n : Nat} {F : Int → Int} (hF : FWok F) : fwS Y s n F 1 = F := by
  rw [fwS]
  split
  · show up F 0 (if (bsN Y F 0 n).1 = -1 then 0 else (bsN Y F 0 n).1) = F
    rw [bsN_0, if_pos rfl]
    exact up_same (by have := hF 0 (by decide) (by decide); omega)
  · rfl
def telF (κ : Int → Int) (s w : Int) : Int := if arT κ s ∧ (0 ≤ w ∧ w ≤ 1) then (if w = 0 then fwS (laT κ s) s (κ 1755).toNat (fun _ => 0) (s + 1).toNat s else (bsN (laT κ s) (fwS (laT κ s) s (κ 1755).toNat (fun _ => 0) s.toNat) s (κ 1755).toNat).2) else -1
theorem bsN_Y {Y Y' F : Int → Int} {s : Int} {n : Nat} (h : ∀ t : Nat, t < n → Y t = Y' t) : ∀ t : Nat, t ≤ n → bsN Y F s t = bsN Y' F s t
  | 0, _ => rfl
  | t + 1, ht => by rw [bsN, bsN, bsN_Y h t (by omega), h t (by omega)]
theorem fwS_Y {Y Y' F : Int → Int} {s : Int} {n : Nat} (h : ∀ t : Nat, t < n → Y t = Y' t) : ∀ k : Nat, fwS Y s n F k = fwS Y' s n F k
  | 0 => rfl
  | k + 1 => by rw [fwS, fwS, fwS_Y h k, bsN_Y h n (Nat.le_refl n)]
/-! seeds that outlive -/
theorem mx_rw5 {σ τ : St} {b j : Int} (h0 : 0 ≤ j) (h : j < 9) : mx σ (rwS σ τ b) 5 j = σ 2 (b + j) := by
  have e : mx σ (rwS σ τ b) 5 = rwS σ τ b 5 := if_neg (by decide)
  rw [e, rwS_5 h0 h]
def suN (κ : Int → Int) (s b : Int) : Nat → Int → Int
  | 0, _ => 0
  | m + 1, k => if s / 2 ^ k.toNat % 2 = 1 ∧ κ (136 + 6 * k + 2) / 2 ^ b.toNat % 2 = 1 then 1 else suN κ s b m (k + 1)
def suT (κ : Int → Int) (s b : Int) : Int := suN κ s b (κ 1752).toNat 0
theorem suN_e {κ : Int → Int} {s b k : Int} (h : k < κ 1752) : suN κ s b (κ 1752 - k).toNat k = if s / 2 ^ k.toNat % 2 = 1 ∧ κ (136 + 6 * k + 2) / 2 ^ b.toNat % 2 = 1 then 1 else suN κ s b (κ 1752 - (k + 1)).toNat (k + 1) := by
  rw [show (κ 1752 - k).toNat = (κ 1752 - (k + 1)).toNat + 1 by omega, suN]
theorem suN_01 {κ : Int → Int} {s b : Int} : ∀ (m : Nat) (k : Int), suN κ s b m k = 0 ∨ suN κ s b m k = 1
  | 0, _ => Or.inl rfl
  | m + 1, k => by
    rw [suN]
    split
    · exact Or.inr rfl
    · exact suN_01 m _
theorem suT_01 (κ : Int → Int) (s b : Int) : suT κ s b = 0 ∨ suT κ s b = 1 := suN_01 _ _
abbrev moP (a : Int → Int) (ht mi : Int) : Prop := (a 2 ≠ 0 ∨ a 3 ≠ 0) ∧ (ht < a 2 ∨ (a 2 = ht ∧ mi ≤ a 3))
abbrev leP (a : Int → Int) (ht mi : Int) : Prop := (a 2 = 0 ∧ a 3 = 0) ∨ a 2 < ht ∨ (a 2 = ht ∧ a 3 ≤ mi)
abbrev unP (κ : Int → Int) (s ht mi k : Int) : Prop := loA κ k 1 = 2 ∧ loA κ k 6 = 0 ∧ loA κ k 7 = 0 ∧ ((moP (loA κ k) ht mi ∧ κ (1224 + 10 * k + 9) = 1 ∧ suT κ s (loA κ k 0) = 0) ∨ (leP (loA κ k) ht mi ∧ κ (1224 + 10 * k + 9) = 0 ∧ 30 ≤ loA κ k 4 ∧ suT κ s (loA κ k 0) = 1))
def fiT (κ : Int → Int) (s ht mi : Int) : Nat → Int → Int
  | 0, _ => 1
  | m + 1, k => if unP κ s ht mi k then 0 else fiT κ s ht mi m (k + 1)
def fitF (κ : Int → Int) (s ht mi : Int) : Int := fiT κ s ht mi (κ 1754).toNat 0
theorem fiT_e {κ : Int → Int} {s ht mi k : Int} (h : k < κ 1754) : fiT κ s ht mi (κ 1754 - k).toNat k = if unP κ s ht mi k then 0 else fiT κ s ht mi (κ 1754 - (k + 1)).toNat (k + 1) := by
  rw [show (κ 1754 - k).toNat = (κ 1754 - (k + 1)).toNat + 1 by omega, fiT]
theorem fiT_01 {κ : Int → Int} {s ht mi : Int} : ∀ (m : Nat) (k : Int), fiT κ s ht mi m k = 0 ∨ fiT κ s ht mi m k = 1
  | 0, _ => Or.inr rfl
  | m + 1, k => by
    rw [fiT]
    split
    · exact Or.inl rfl
    · exact fiT_01 m _
theorem fitF_01 (κ : Int → Int) (s ht mi : Int) : fitF κ s ht mi = 0 ∨ fitF κ s ht mi = 1 := fiT_01 _ _
def olN (κ : Int → Int) (ht mi : Int) : Nat → Int × Int × Int
  | 0 => (0, 1 * 2 ^ (κ 1752).toNat - 1, 0)
  | s + 1 => if fitF κ s ht mi = 1 then ((olN κ ht mi s).1 + 1, bAnd (olN κ ht mi s).2.1 s, bOr (olN κ ht mi s).2.2 s) else olN κ ht mi s
theorem olN_e {κ : Int → Int} {ht mi s : Int} (h : 0 ≤ s) : olN κ ht mi (s + 1).toNat = if fitF κ s ht mi = 1 then ((olN κ ht mi s.toNat).1 + 1, bAnd (olN κ ht mi s.toNat).2.1 s, bOr (olN κ ht mi s.toNat).2.2 s) else olN κ ht mi s.toNat := by
  rw [show (s + 1).toNat = s.toNat + 1 by omega, olN, Int.toNat_of_nonneg h]
theorem olN_r {κ : Int → Int} {ht mi : Int} : ∀ s : Nat, 0 ≤ (olN κ ht mi s).1 ∧ (olN κ ht mi s).1 ≤ s
  | 0 => ⟨Int.le_refl 0, Int.le_refl 0⟩
  | s + 1 => by
    have ih := olN_r (κ := κ) (ht := ht) (mi := mi) s
    rw [olN]
    split
    · show 0 ≤ (olN κ ht mi s).1 + 1 ∧ (olN κ ht mi s).1 + 1 ≤ ((s + 1 : Nat) : Int)
      omega
    · omega
def olvF (κ : Int → Int) (ht mi w : Int) : Int := if (0 ≤ ht ∧ ht ≤ 7) ∧ (1 ≤ mi ∧ mi ≤ 255) ∧ (0 ≤ w ∧ w ≤ 2) then (if w = 0 then (olN κ ht mi (2 ^ (κ 1752).toNat : Int).toNat).1 else if w = 2 then (olN κ ht mi (2 ^ (κ 1752).toNat : Int).toNat).2.2 else if (olN κ ht mi (2 ^ (κ 1752).toNat : Int).toNat).1 = 0 then 0 else (olN κ ht mi (2 ^ (κ 1752).toNat : Int).toNat).2.1) else -1
/-! hands -/
def riL (κ : Int → Int) (a b t : Int) : Nat → Int
  | 0 => 1
  | k + 1 => if (loA κ k 8 = a ∨ loA κ k 8 = b) ∧ oL κ t k = 0 then 0 else riL κ a b t k
theorem riL_e {κ : Int → Int} {a b t k : Int} (h : 0 ≤ k) : riL κ a b t (k + 1).toNat = if (loA κ k 8 = a ∨ loA κ k 8 = b) ∧ oL κ t k = 0 then 0 else riL κ a b t k.toNat := by
  rw [show (k + 1).toNat = k.toNat + 1 by omega, riL, Int.toNat_of_nonneg h]
theorem riL_01 {κ : Int → Int} {a b t : Int} : ∀ k : Nat, riL κ a b t k = 0 ∨ riL κ a b t k = 1
  | 0 => Or.inr rfl
  | k + 1 => by
    rw [riL]
    split
    · exact Or.inl rfl
    · exact riL_01 k
def riN (κ : Int → Int) (a b : Int) : Nat → Int
  | 0 => 0
  | t + 1 => if riL κ a b t (κ 1754).toNat = 0 then riN κ a b t else bOr (riN κ a b t) (1 * 2 ^ t)
theorem riN_e {κ : Int → Int} {a b t : Int} (h : 0 ≤ t) : riN κ a b (t + 1).toNat = if riL κ a b t (κ 1754).toNat = 0 then riN κ a b t.toNat else bOr (riN κ a b t.toNat) (1 * 2 ^ t.toNat) := by
  rw [show (t + 1).toNat = t.toNat + 1 by omega, riN, Int.toNat_of_nonneg h]
def rightF (κ : Int → Int) (a b : Int) : Int := if (0 ≤ a ∧ a ≤ 3) ∧ (0 ≤ b ∧ b ≤ 3) then riN κ a b (κ 1756).toNat else -1
def hwN (κ : Int → Int) (x a b o : Int) : Nat → Int → Int
  | 0, _ => -1
  | m + 1, k => if odd (tm κ x) (up (loA κ a) k (loA κ b k)) = o then k else hwN κ x a b o m (k + 1)
theorem hwN_e {κ : Int → Int} {x a b o k : Int} (h : k < 9) : hwN κ x a b o (9 - k).toNat k = if odd (tm κ x) (up (loA κ a) k (loA κ b k)) = o then k else hwN κ x a b o (9 - (k + 1)).toNat (k + 1) := by
  rw [show (9 - k).toNat = (9 - (k + 1)).toNat + 1 by omega, hwN]
def howF (κ : Int → Int) (x a b : Int) : Int := if isX κ x ∧ isK κ a ∧ isK κ b then (if odd (tm κ x) (loA κ a) = odd (tm κ x) (loA κ b) then -1 else hwN κ x a b (odd (tm κ x) (loA κ b)) 9 0) else -1
abbrev waP (κ : Int → Int) (x h w k : Int) : Prop := loA κ k 8 = h ∧ κ (1224 + 10 * k + 9) ≠ 0 ∧ (w = 0 → oL κ x k = 0) ∧ (w ≠ 0 → oL κ x k < 100)
def waN (κ : Int → Int) (x h w : Int) : Nat → Int
  | 0 => 0
  | k + 1 => if waP κ x h w k then bOr (waN κ x h w k) (1 * 2 ^ (loA κ k 1).toNat) else waN κ x h w k
theorem waN_e {κ : Int → Int} {x h w k : Int} (h0 : 0 ≤ k) : waN κ x h w (k + 1).toNat = if waP κ x h w k then bOr (waN κ x h w k.toNat) (1 * 2 ^ (loA κ k 1).toNat) else waN κ x h w k.toNat := by
  rw [show (k + 1).toNat = k.toNat + 1 by omega, waN, Int.toNat_of_nonneg h0]
def waysF (κ : Int → Int) (x h w : Int) : Int := if isX κ x ∧ (0 ≤ h ∧ h ≤ 3) ∧ (0 ≤ w ∧ w ≤ 1) then waN κ x h w (κ 1754).toNat else -1
theorem case_up {a b : Int → Int} {k : Int} (ha : caseOK a) (hb : caseOK b) : caseOK (up a k (b k)) := by
  have e : ∀ j, up a k (b k) j = a j ∨ up a k (b k) j = b j := fun j => by
    by_cases z : j = k
    · subst z; exact Or.inr up_s
    · exact Or.inl (up_n z)
  have e0 := e 0
  have e1 := e 1
  have e2 := e 2
  have e3 := e 3
  have e4 := e 4
  have e5 := e 5
  have e6 := e 6
  have e7 := e 7
  have e8 := e 8
  unfold caseOK at *
  omega
theorem how_5 {σ τ : St} {a b k j : Int} (h0 : 0 ≤ j) (h : j < 9) : (st (rwS σ τ (1224 + 10 * a)) 5 k (σ 2 (1224 + 10 * b + k))) 5 j = up (loA (σ 2) a) k (loA (σ 2) b k) j := by
  by_cases z : j = k
  · subst z
    rw [st_s, up_s]
    rfl
  · rw [st_i z, up_n z, rwS_5 h0 h]
    rfl
theorem how_ok {σ τ : St} {a b k : Int} (ha : caseOK (fun j => σ 2 (1224 + 10 * a + j))) (hb : caseOK (fun j => σ 2 (1224 + 10 * b + j))) (h0 : 0 ≤ k) (h : k < 9) : caseOK ((st (rwS σ τ (1224 + 10 * a)) 5 k (σ 2 (1224 + 10 * b + k))) 5) := caseOK_cg (fun x a b => how_5 a b) (case_up (a := loA (σ 2) a) (b := loA (σ 2) b) ha hb)
/-! spoilt ones -/
def spT (κ : Int → Int) (t : Int) : Int := (if κ (0 + 3 * trA κ t 0 + 1) < trA κ t 2 then 1 else 0) + (if κ (0 + 3 * trA κ t 0 + 2) = 1 ∧ ¬ airP (trA κ t 1) (trA κ t 6) then 2 else 0)
def spoF (κ : Int → Int) (t : Int) : Int := if isT κ t then spT κ t else -1
def whN (κ : Int → Int) (s : Int) : Nat → Int → Int
  | 0, _ => -1
  | m + 1, t => if spT κ t = 0 ∧ afT κ s t = 1 then t else whN κ s m (t + 1)
theorem whN_e {κ : Int → Int} {s t : Int} (h : t < κ 1755) : whN κ s (κ 1755 - t).toNat t = if spT κ t = 0 ∧ afT κ s t = 1 then t else whN κ s (κ 1755 - (t + 1)).toNat (t + 1) := by
  rw [show (κ 1755 - t).toNat = (κ 1755 - (t + 1)).toNat + 1 by omega, whN]
def whoF (κ : Int → Int) (s : Int) : Int := if arT κ s then whN κ s (κ 1755).toNat 0 else -1
/-! commissions -/
def chN (κ : Int → Int) (c x : Int) : Nat → Int × (Int → Int)
  | 0 => (0, fun k => if k = 0 then 1 else 0)
  | t + 1 => if κ (1732 + 2 * c) / 2 ^ t % 2 = 0 then chN κ c x t else ((chN κ c x t).1 + 1, fun k => (chN κ c x t).2 k * (100 - oT κ x t) + (if 0 < k then (chN κ c x t).2 (k - 1) * oT κ x t else 0))
theorem chN_e {κ : Int → Int} {c x t : Int} (h : 0 ≤ t) : chN κ c x (t + 1).toNat = if κ (1732 + 2 * c) / 2 ^ t.toNat % 2 = 0 then chN κ c x t.toNat else ((chN κ c x t.toNat).1 + 1, fun k => (chN κ c x t.toNat).2 k * (100 - oT κ x t) + (if 0 < k then (chN κ c x t.toNat).2 (k - 1) * oT κ x t else 0)) := by
  rw [show (t + 1).toNat = t.toNat + 1 by omega, chN, Int.toNat_of_nonneg h]
theorem chN_m {κ : Int → Int} {c x : Int} : ∀ t : Nat, (chN κ c x t).1 = onesN (κ (1732 + 2 * c)) t
  | 0 => rfl
  | t + 1 => by
    have ih := chN_m (κ := κ) (c := c) (x := x) t
    rw [chN, onesN]
    split
    · omega
    · show (chN κ c x t).1 + 1 = _
      omega
theorem onesN_m (x : Int) : ∀ (q n : Nat), onesN x n ≤ onesN x (n + q)
  | 0, n => Int.le_refl _
  | q + 1, n => by
    have := onesN_m x q n
    rw [show n + (q + 1) = (n + q) + 1 by omega, onesN]
    omega
theorem tlt {y m t : Int} (h : 1 ≤ y ∧ y < 2 ^ m.toNat) (h0 : 0 ≤ t) (hb : ¬ y / 2 ^ t.toNat % 2 = 0) : t < m := by
  apply Classical.byContradiction
  intro q
  apply hb
  have h2 : (2 : Int) ^ m.toNat ≤ 2 ^ t.toNat := by
    have := Nat.pow_le_pow_right (show 0 < 2 by decide) (show m.toNat ≤ t.toNat by omega)
    exact_mod_cast this
  rw [Int.ediv_eq_zero_of_lt (by omega) (by omega)]
  rfl
theorem mx_t29 {σ τ υ : St} {A B : Int → Int} (h : Sc (sa (mx (sa σ 29 A) τ) 29 B) υ) : υ = mx (sa σ 29 B) υ := by
  rw [mx_sb (by decide), sa_sa] at h
  exact mx_of h
def pfS (A : Int → Int) : Nat → Int
  | 0 => 0
  | n + 1 => pfS A n + A n
theorem pfS_e {A : Int → Int} {k : Int} (h : 0 ≤ k) : pfS A (k + 1).toNat = pfS A k.toNat + A k := by
  rw [show (k + 1).toNat = k.toNat + 1 by omega, pfS, Int.toNat_of_nonneg h]
theorem pfS_cg {A B : Int → Int} {m : Nat} (h : ∀ k : Nat, k < m → A k = B k) : ∀ n : Nat, n ≤ m → pfS A n = pfS B n
  | 0, _ => rfl
  | n + 1, hn => by rw [pfS, pfS, pfS_cg h n (by omega), h n (by omega)]
theorem pfS_m {A : Int → Int} (h : ∀ k : Nat, 0 ≤ A k) : ∀ (q n : Nat), pfS A n ≤ pfS A (n + q)
  | 0, n => Int.le_refl _
  | q + 1, n => by
    have := pfS_m h q n
    have := h (n + q)
    rw [show n + (q + 1) = (n + q) + 1 by omega, pfS]
    omega
theorem pfS_x {A : Int → Int} {p : Int} : ∀ n : Nat, pfS (fun k => A k * (100 - p) + (if 0 < k then A (k - 1) * p else 0)) (n + 1) = pfS A (n + 1) * (100 - p) + pfS A n * p
  | 0 => by
    show 0 + (A 0 * (100 - p) + 0) = (0 + A 0) * (100 - p) + 0 * p
    rw [Int.zero_mul, Int.zero_add, Int.zero_add]
  | n + 1 => by
    have ih := pfS_x (A := A) (p := p) n
    rw [pfS, ih, pfS.eq_2 A (n + 1)]
    show _ + (A ((n + 1 : Nat) : Int) * (100 - p) + (if 0 < ((n + 1 : Nat) : Int) then A (((n + 1 : Nat) : Int) - 1) * p else 0)) = _
    rw [if_pos (by omega), show ((n + 1 : Nat) : Int) - 1 = (n : Int) by omega, Int.add_mul (pfS A (n + 1)), pfS.eq_2 A n, Int.add_mul (pfS A n) _ p]
    omega
theorem chN_r {κ : Int → Int} {c x : Int} : ∀ t : Nat, 0 ≤ (chN κ c x t).1 ∧ (∀ k : Int, 0 ≤ k → 0 ≤ (chN κ c x t).2 k) ∧ (∀ k : Int, (chN κ c x t).1 < k → (chN κ c x t).2 k = 0) ∧ ∀ n : Nat, pfS (chN κ c x t).2 n ≤ 100 ^ (chN κ c x t).1.toNat
  | 0 => ⟨Int.le_refl 0, fun k _ => by show 0 ≤ (if k = 0 then (1 : Int) else 0); split <;> decide, fun k h => if_neg (by have h : 0 < k := h; omega), fun n => by
      show pfS (fun k => if k = 0 then 1 else 0) n ≤ 1
      have h : ∀ n : Nat, pfS (fun k => if k = 0 then 1 else 0) (n + 1) = 1 := fun n => by
        induction n with
        | zero => rfl
        | succ n ih =>
          rw [pfS, ih]
          show (1 : Int) + (if ((n + 1 : Nat) : Int) = 0 then 1 else 0) = 1
          rw [if_neg (by omega)]
          rfl
      cases n with
      | zero => show (0 : Int) ≤ 1; decide
      | succ n => rw [h]; exact Int.le_refl _⟩
  | t + 1 => by
    obtain ⟨h0, h1, h2, h3⟩ := chN_r (κ := κ) (c := c) (x := x) t
    have hp := oT_r κ x t
    rw [chN]
    split
    · exact ⟨h0, h1, h2, h3⟩
    · refine ⟨by show 0 ≤ (chN κ c x t).1 + 1; omega, fun k hk => ?_, fun k hk => ?_, fun n => ?_⟩
      · show 0 ≤ (chN κ c x t).2 k * (100 - oT κ x t) + (if 0 < k then (chN κ c x t).2 (k - 1) * oT κ x t else 0)
        have a := Int.mul_nonneg (h1 k hk) (show 0 ≤ 100 - oT κ x t by omega)
        split
        · have b := Int.mul_nonneg (h1 (k - 1) (by omega)) hp.1
          omega
        · omega
      · replace hk : (chN κ c x t).1 + 1 < k := hk
        show (chN κ c x t).2 k * (100 - oT κ x t) + (if 0 < k then (chN κ c x t).2 (k - 1) * oT κ x t else 0) = 0
        rw [if_pos (by omega), h2 k (by omega), h2 (k - 1) (by omega), Int.zero_mul, Int.zero_mul]
        rfl
      · show pfS (fun k => (chN κ c x t).2 k * (100 - oT κ x t) + (if 0 < k then (chN κ c x t).2 (k - 1) * oT κ x t else 0)) n ≤ 100 ^ ((chN κ c x t).1 + 1).toNat
        rw [p100_e h0]
        have hz : 0 ≤ (100 : Int) ^ (chN κ c x t).1.toNat := Int.le_trans (show (0 : Int) ≤ pfS (chN κ c x t).2 0 from Int.le_refl 0) (h3 0)
        cases n with
        | zero => show (0 : Int) ≤ _; omega
        | succ n =>
          rw [pfS_x]
          have a := Int.mul_le_mul_of_nonneg_right (h3 (n + 1)) (show 0 ≤ 100 - oT κ x t by omega)
          have b := Int.mul_le_mul_of_nonneg_right (h3 n) hp.1
          have d : (100 : Int) ^ (chN κ c x t).1.toNat * (100 - oT κ x t) + 100 ^ (chN κ c x t).1.toNat * oT κ x t = 100 ^ (chN κ c x t).1.toNat * 100 := by
            rw [← Int.mul_add]
            congr 1
            omega
          omega
def tuT (κ : Int → Int) (c x : Int) : Int := pfS (chN κ c x 12).2 (onesN (κ (1732 + 2 * c)) 12 + 1).toNat - pfS (chN κ c x 12).2 (κ (1732 + 2 * c + 1)).toNat
def huT (κ : Int → Int) (c : Int) : Int := 100 ^ (onesN (κ (1732 + 2 * c)) 12).toNat
theorem tuT_r {κ : Int → Int} {c x : Int} (h0 : 0 ≤ c) (h1 : c < κ 1757) (hI : KI κ) : 0 ≤ tuT κ c x ∧ tuT κ c x ≤ huT κ c ∧ 1 ≤ huT κ c ∧ huT κ c ≤ 1000000000000000000 := by
  have hu := hI.u c h0 h1
  have ho := onesN_r (κ (1732 + 2 * c)) 12
  obtain ⟨_, h3, _, h5⟩ := chN_r (κ := κ) (c := c) (x := x) 12
  rw [chN_m] at h5
  have a := pfS_m (A := (chN κ c x 12).2) (fun k => h3 k (by omega)) ((onesN (κ (1732 + 2 * c)) 12 + 1).toNat - (κ (1732 + 2 * c + 1)).toNat) (κ (1732 + 2 * c + 1)).toNat
  rw [show (κ (1732 + 2 * c + 1)).toNat + ((onesN (κ (1732 + 2 * c)) 12 + 1).toNat - (κ (1732 + 2 * c + 1)).toNat) = (onesN (κ (1732 + 2 * c)) 12 + 1).toNat by omega] at a
  have b := pfS_m (A := (chN κ c x 12).2) (fun k => h3 k (by omega)) (κ (1732 + 2 * c + 1)).toNat 0
  rw [Nat.zero_add] at b
  have b0 : pfS (chN κ c x 12).2 0 = 0 := rfl
  have d := h5 (onesN (κ (1732 + 2 * c)) 12 + 1).toNat
  have e := p100_r (i := onesN (κ (1732 + 2 * c)) 12) (by omega)
  unfold tuT huT
  omega
abbrev isC (κ : Int → Int) (c : Int) : Prop := 0 ≤ c ∧ c ≤ κ 1757 - 1
def judF (κ : Int → Int) (c x w : Int) : Int := if isC κ c ∧ isX κ x ∧ (0 ≤ w ∧ w ≤ 1) then shareF (tuT κ c x) (huT κ c) w else -1
abbrev leanP (κ : Int → Int) (c x : Int) : Prop := Int.tdiv (huT κ c) 2 ≤ tuT κ c x
def leanF (κ : Int → Int) (c a b : Int) : Int := if isC κ c ∧ isX κ a ∧ isX κ b then (if zb (leanP κ c a) ≠ zb (leanP κ c b) then 0 else if leanP κ c a then 1 else -1) else -1000
/-! shapes -/
def shA (κ : Int → Int) (q sh k : Int) : Int := if κ (136 + 6 * k + 5) = sh then κ (40 + 8 * q + k) else 0
def shN (κ : Int → Int) (q sh : Int) : Nat → Int
  | 0 => 0
  | k + 1 => shN κ q sh k + shA κ q sh k
theorem shN_e {κ : Int → Int} {q sh k : Int} (h : 0 ≤ k) : shN κ q sh (k + 1).toNat = shN κ q sh k.toNat + shA κ q sh k := by
  rw [show (k + 1).toNat = k.toNat + 1 by omega, shN, Int.toNat_of_nonneg h]
def shpF (κ : Int → Int) (q sh k w : Int) : Int := if (0 ≤ q ∧ q ≤ 11) ∧ (0 ≤ sh ∧ sh ≤ 3) ∧ (0 ≤ k ∧ k ≤ κ 1752 - 1) ∧ (0 ≤ w ∧ w ≤ 1) then (if shN κ q sh (κ 1752).toNat = 0 then -1 else shareF (shA κ q sh k) (shN κ q sh (κ 1752).toNat) w) else -1
theorem shA_r {κ : Int → Int} {q sh k : Int} (hI : KI κ) (h0 : 0 ≤ q) (h1 : q < 12) (h2 : 0 ≤ k) (h3 : k < 8) : 0 ≤ shA κ q sh k ∧ shA κ q sh k ≤ 1000 := by
  have := (hI.w q k h0 h1 h2 h3).1
  unfold shA
  split <;> omega
theorem shN_r {κ : Int → Int} {q sh : Int} (hI : KI κ) (h0 : 0 ≤ q) (h1 : q < 12) : ∀ n : Nat, n ≤ 8 → 0 ≤ shN κ q sh n ∧ shN κ q sh n ≤ 1000 * n
  | 0, _ => ⟨Int.le_refl 0, Int.le_refl 0⟩
  | n + 1, h => by
    have ih := shN_r (sh := sh) hI h0 h1 n (by omega)
    have := shA_r (sh := sh) hI h0 h1 (show (0 : Int) ≤ n by omega) (by omega)
    rw [shN]
    omega
/-! the rows of a tape -/
def rgN (T : Int → Int) (b : Int) (g0 : Int) : Nat → Int
  | 0 => g0
  | k + 1 => if rgN T b g0 k ≠ 0 ∧ isCaseP k (T (b + k) % 256) then 1 else 0
theorem rgN_e {T : Int → Int} {b g0 k : Int} (h : 0 ≤ k) : rgN T b g0 (k + 1).toNat = if rgN T b g0 k.toNat ≠ 0 ∧ isCaseP k (T (b + k) % 256) then 1 else 0 := by
  rw [show (k + 1).toNat = k.toNat + 1 by omega, rgN, Int.toNat_of_nonneg h]
def rg0 (κ : Int → Int) (w : Int) : Int := if w = 0 then (if κ 1754 < 40 then 1 else 0) else (if κ 1755 < 12 then 1 else 0)
def rwd (w : Int) : Int := if w = 0 then 10 else 9
def rto (κ : Int → Int) (w : Int) : Int := if w = 0 then 1224 + 10 * κ 1754 else 1624 + 9 * κ 1755
def rct (w : Int) : Int := if w = 0 then 1754 else 1755
def rwA (τ : St) (w b n : Int) : St := sa τ 2 (cpA (τ 2) (rto (τ 2) w) n (fun k => τ 7 (b + k) % 256))
def rwB (τ : St) (w b : Int) : St := st (rwA τ w b (rwd w)) 2 (rct w) (τ 2 (rct w) + 1)
def rwN (σ : St) (w : Int) : Nat → Int × St
  | 0 => (0, st σ 9 0 0)
  | c + 1 => if rgN (σ 7) (rwd w * c) (rg0 ((rwN σ w c).2 2) w) (rwd w).toNat = 0 then rwN σ w c else ((rwN σ w c).1 + 1, rwB (rwN σ w c).2 w (rwd w * c))
def rowF (σ : St) (w : Int) : Int × St := if 0 ≤ w ∧ w ≤ 1 then (if σ 9 0 = 0 then (-6, refS (st σ 9 0 0) (-6)) else ((rwN σ w (σ 9 0 / rwd w).toNat).1, goodS (rwN σ w (σ 9 0 / rwd w).toNat).2)) else (-1, refS (st σ 9 0 0) (-1))
