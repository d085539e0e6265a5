section MN
variable {C V : Int → Int} {E : Int}
theorem lpM_le {c1 c2 : Int} {cb : Int → Mean → Mean → Mean} {b : Int → Option (Mean × Int)} (h0 : ∀ k, E ≤ k → C k = 0) (h1 : c1 ≠ 0) (h2 : c2 ≠ 0) (hb : ∀ i r, i ≤ E → b i = some r → i < r.2 ∧ r.2 ≤ E) : ∀ (k : Nat) (f : Mean) (i : Int) (r : Mean × Int), i ≤ E → lpM C c1 c2 cb b k f i = some r → i ≤ r.2 ∧ r.2 ≤ E
  | 0, f, i, r, hi, e => by rw [lpM] at e; cases e
  | k + 1, f, i, r, hi, e => by
    rw [lpM] at e
    split at e
    · rename_i q
      obtain ⟨r1, e1, e2⟩ := Option.bind_eq_some_iff.mp e
      have hlt : i < E := by
        rcases Int.lt_or_le i E with z | z
        · exact z
        · have := h0 i z
          rcases q with q | q
          · exact absurd (q.symm.trans this) h1
          · exact absurd (q.symm.trans this) h2
      have := hb _ _ (by omega) e1
      have := lpM_le h0 h1 h2 hb k _ _ r this.2 e2
      omega
    · cases e
      exact ⟨Int.le_refl _, hi⟩
theorem ntM_le (h0 : ∀ k, E ≤ k → C k = 0) : ∀ (k : Nat) (q : Bool) (i : Int) (r : Bool × Int), i ≤ E → ntM C k q i = some r → i ≤ r.2 ∧ r.2 ≤ E
  | 0, q, i, r, hi, e => by rw [ntM] at e; cases e
  | k + 1, q, i, r, hi, e => by
    rw [ntM] at e
    split at e
    · rename_i c
      have hlt : i < E := by
        rcases Int.lt_or_le i E with z | z
        · exact z
        · have := h0 i z
          omega
      have := ntM_le h0 k _ _ r (by omega) e
      omega
    · cases e
      exact ⟨Int.le_refl _, hi⟩
/-- a meaning's tokens lie before the text's end -/
theorem mn_le (h0 : ∀ k, E ≤ k → C k = 0) : ∀ (n mode : Nat) (i : Int) (r : Mean × Int), i ≤ E → mn C V n mode i = some r → i < r.2 ∧ r.2 ≤ E
  | 0, _, _, _, _, e => by rw [mn] at e; cases e
  | n + 1, mode, i, r, hi, e => by
    have ih := mn_le h0 n
    have nz : ∀ k, k ≤ E → C k ≠ 0 → k < E := fun k hk c => by
      rcases Int.lt_or_le k E with z | z
      · exact z
      · exact absurd (h0 k z) c
    match mode, e with
    | 0, e =>
      simp only [mn] at e
      split at e
      · rename_i c
        obtain ⟨r1, e1, e2⟩ := Option.bind_eq_some_iff.mp e
        have h1 := ih 2 _ _ (by have := nz i hi (by omega); omega) e1
        split at e2
        · rename_i c2
          cases e2
          have := nz r1.2 h1.2 (by omega)
          show i < r1.2 + 1 ∧ r1.2 + 1 ≤ E
          omega
        · cases e2
      · split at e
        · cases e
          have := nz i hi (by omega)
          show i < i + 1 ∧ i + 1 ≤ E
          omega
        · cases e
    | 1, e =>
      simp only [mn] at e
      obtain ⟨r1, e1, e2⟩ := Option.bind_eq_some_iff.mp e
      have h1 := ih 0 _ _ hi e1
      have h2 := lpM_le h0 (by omega) (by omega) (fun a b ha hb => ih 0 a b ha hb) _ _ _ r h1.2 e2
      omega
    | 2, e =>
      simp only [mn] at e
      obtain ⟨r1, e1, e2⟩ := Option.bind_eq_some_iff.mp e
      have h1 := ih 1 _ _ hi e1
      have h2 := lpM_le h0 (by omega) (by omega) (fun a b ha hb => ih 1 a b ha hb) _ _ _ r h1.2 e2
      omega
    | 3, e =>
      simp only [mn] at e
      obtain ⟨q1, e1, e2⟩ := Option.bind_eq_some_iff.mp e
      obtain ⟨r1, e3, e4⟩ := Option.map_eq_some_iff.mp e2
      have h1 := ntM_le h0 _ _ _ q1 hi e1
      have h2 := ih 6 _ _ h1.2 e3
      rw [← e4]
      show i < r1.2 ∧ r1.2 ≤ E
      omega
    | 4, e =>
      simp only [mn] at e
      obtain ⟨r1, e1, e2⟩ := Option.bind_eq_some_iff.mp e
      have h1 := ih 3 _ _ hi e1
      have h2 := lpM_le h0 (by omega) (by omega) (fun a b ha hb => ih 3 a b ha hb) _ _ _ r h1.2 e2
      omega
    | 5, e =>
      simp only [mn] at e
      obtain ⟨r1, e1, e2⟩ := Option.bind_eq_some_iff.mp e
      have h1 := ih 4 _ _ hi e1
      have h2 := lpM_le h0 (by omega) (by omega) (fun a b ha hb => ih 4 a b ha hb) _ _ _ r h1.2 e2
      omega
    | m + 6, e =>
      simp only [mn] at e
      split at e
      · rename_i c
        obtain ⟨r1, e1, e2⟩ := Option.bind_eq_some_iff.mp e
        have h1 := ih 5 _ _ (by have := nz i hi (by omega); omega) e1
        split at e2
        · rename_i c2
          cases e2
          have := nz r1.2 h1.2 (by omega)
          show i < r1.2 + 1 ∧ r1.2 + 1 ≤ E
          omega
        · cases e2
      · split at e
        · cases e
          have := nz i hi (by omega)
          show i < i + 1 ∧ i + 1 ≤ E
          omega
        · obtain ⟨r1, e1, e2⟩ := Option.bind_eq_some_iff.mp e
          have h1 := ih 2 _ _ hi e1
          split at e2
          · rename_i c2
            obtain ⟨r2, e3, e4⟩ := Option.map_eq_some_iff.mp e2
            have := nz r1.2 h1.2 (by omega)
            have h2 := ih 2 _ _ (by omega) e3
            rw [← e4]
            show i < r2.2 ∧ r2.2 ≤ E
            omega
          · cases e2
end MN
/-- values of a sum that lives are no greater than a thousand million -/
def mB (f : Mean) (a : Int → Int) : Prop := ∀ x, f a = some x → -1000000000 ≤ x ∧ x ≤ 1000000000
theorem tdiv_b {x y : Int} (h : -1000000000 ≤ x ∧ x ≤ 1000000000) : -1000000000 ≤ Int.tdiv x y ∧ Int.tdiv x y ≤ 1000000000 := by
  have h1 := Int.natAbs_tdiv_le_natAbs x y
  omega
theorem bnd_r {v x : Int} (e : bnd v = some x) : -1000000000 ≤ x ∧ x ≤ 1000000000 := by
  unfold bnd at e
  split at e
  · cases e
  · rename_i h
    have := Option.some.inj e
    omega
theorem mB_join {op : Int} {f g : Mean} {a : Int → Int} (hf : mB f a) : mB (joinF op f g) a := fun x e => by
  unfold joinF at e
  obtain ⟨p, e1, e2⟩ := Option.bind_eq_some_iff.mp e
  obtain ⟨q, e3, e4⟩ := Option.bind_eq_some_iff.mp e2
  split at e4
  · split at e4
    · cases e4
    · cases e4
      exact tdiv_b (hf p e1)
  · exact bnd_r e4
theorem vOf_r {f : Mean} {a : Int → Int} (h : mB f a) : -1000000000 ≤ vOf f a ∧ vOf f a ≤ 1000000000 := by
  unfold vOf
  cases e : f a with
  | none => exact ⟨by show (-1000000000 : Int) ≤ 0; omega, by show (0 : Int) ≤ _; omega⟩
  | some x => exact h x e
theorem brk_01 {f : Mean} {a : Int → Int} {live b : Int} (h : b = 0 ∨ b = 1) : brk f a live b = 0 ∨ brk f a live b = 1 := by
  unfold brk
  split
  · exact Or.inr rfl
  · exact h
theorem lpM_B {C : Int → Int} {c1 c2 : Int} {a : Int → Int} {b : Int → Option (Mean × Int)} : ∀ (k : Nat) (f : Mean) (i : Int) (r : Mean × Int), mB f a → lpM C c1 c2 joinF b k f i = some r → mB r.1 a
  | 0, f, i, r, _, e => by rw [lpM] at e; cases e
  | k + 1, f, i, r, h, e => by
    rw [lpM] at e
    split at e
    · obtain ⟨r1, e1, e2⟩ := Option.bind_eq_some_iff.mp e
      exact lpM_B k _ _ r (mB_join h) e2
    · cases e
      exact h
theorem mn_B {C V : Int → Int} {a : Int → Int} (hV : ∀ k, 0 ≤ k → C k = 50 → 0 ≤ V k ∧ V k ≤ 100000) (ha : caseOK a) {E : Int} (h0 : ∀ k, E ≤ k → C k = 0) : ∀ (n mode : Nat) (i : Int) (r : Mean × Int), 0 ≤ i → i ≤ E → mode ≤ 2 → mn C V n mode i = some r → mB r.1 a
  | 0, _, _, _, _, _, _, e => by rw [mn] at e; cases e
  | n + 1, mode, i, r, hi0, hi, hm, e => by
    have ih := mn_B hV ha h0 n
    match mode, hm, e with
    | 0, _, e =>
      simp only [mn] at e
      split at e
      · rename_i c
        obtain ⟨r1, e1, e2⟩ := Option.bind_eq_some_iff.mp e
        have hlt : i < E := by
          rcases Int.lt_or_le i E with z | z
          · exact z
          · have := h0 i z
            omega
        have h1 := ih 2 _ _ (by omega) (by omega) (by omega) e1
        split at e2
        · cases e2; exact h1
        · cases e2
      · split at e
        · rename_i c
          cases e
          intro x hx
          unfold partF at hx
          have hx := Option.some.inj hx
          rw [← hx]
          split
          · rename_i c5
            have := hV i hi0 c5
            omega
          · unfold caseOK at ha
            split
            · omega
            · have : C i - 17 = 0 ∨ C i - 17 = 1 ∨ C i - 17 = 2 ∨ C i - 17 = 3 ∨ C i - 17 = 4 ∨ C i - 17 = 5 ∨ C i - 17 = 6 := by omega
              rcases this with q | q | q | q | q | q | q <;> rw [q] <;> omega
        · cases e
    | 1, _, e =>
      simp only [mn] at e
      obtain ⟨r1, e1, e2⟩ := Option.bind_eq_some_iff.mp e
      exact lpM_B _ _ _ r (ih 0 _ _ hi0 hi (by omega) e1) e2
    | 2, _, e =>
      simp only [mn] at e
      obtain ⟨r1, e1, e2⟩ := Option.bind_eq_some_iff.mp e
      exact lpM_B _ _ _ r (ih 1 _ _ hi0 hi (by omega) e1) e2
    | m + 3, hm, e => omega
