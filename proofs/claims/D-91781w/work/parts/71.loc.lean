/-! A meaning asks the nine fields of a case, and nothing else -/
def MLoc (f : Mean) : Prop := ∀ a a' : Int → Int, (∀ j, 0 ≤ j → j < 9 → a j = a' j) → f a = f a'
theorem loc_join {op : Int} {f g : Mean} (hf : MLoc f) (hg : MLoc g) : MLoc (joinF op f g) := fun a a' h => by
  unfold joinF
  rw [hf a a' h, hg a a' h]
theorem loc_and {f g : Mean} (hf : MLoc f) (hg : MLoc g) : MLoc (andF f g) := fun a a' h => by
  unfold andF
  rw [hf a a' h, hg a a' h]
theorem loc_or {f g : Mean} (hf : MLoc f) (hg : MLoc g) : MLoc (orF f g) := fun a a' h => by
  unfold orF
  rw [hf a a' h, hg a a' h]
theorem loc_not {f : Mean} (hf : MLoc f) : MLoc (notF f) := fun a a' h => by
  unfold notF
  rw [hf a a' h]
theorem loc_cmp {op : Int} {f g : Mean} (hf : MLoc f) (hg : MLoc g) : MLoc (cmpF op f g) := fun a a' h => by
  unfold cmpF
  rw [hf a a' h, hg a a' h]
theorem loc_fact {c : Int} : MLoc (factF c) := fun a a' h => by
  unfold factF
  rw [h 1 (by omega) (by omega), h 6 (by omega) (by omega), h 7 (by omega) (by omega)]
theorem loc_part {c v : Int} (hc : c = 50 ∨ (17 ≤ c ∧ c ≤ 24)) : MLoc (partF c v) := fun a a' h => by
  unfold partF
  by_cases q : c = 50
  · rw [if_pos q, if_pos q]
  · rw [if_neg q, if_neg q, h (if c = 24 then 8 else c - 17) (by split <;> omega) (by split <;> omega)]
theorem lpM_loc {C : Int → Int} {c1 c2 : Int} {cb : Int → Mean → Mean → Mean} {b : Int → Option (Mean × Int)} (hcb : ∀ op f g, MLoc f → MLoc g → MLoc (cb op f g)) (hb : ∀ i r, b i = some r → MLoc r.1) : ∀ (k : Nat) (f : Mean) (i : Int) (r : Mean × Int), MLoc f → lpM C c1 c2 cb b k f i = some r → MLoc r.1
  | 0, _, _, _, _, e => by rw [lpM] at e; cases e
  | k + 1, f, i, r, hf, e => by
    rw [lpM] at e
    split at e
    · obtain ⟨r1, e1, e2⟩ := Option.bind_eq_some_iff.mp e
      exact lpM_loc hcb hb k _ _ r (hcb _ _ _ hf (hb _ _ e1)) e2
    · cases e; exact hf
theorem mn_loc {C V : Int → Int} : ∀ (n mode : Nat) (i : Int) (r : Mean × Int), mn C V n mode i = some r → MLoc r.1
  | 0, _, _, _, e => by rw [mn] at e; cases e
  | n + 1, mode, i, r, e => by
    have ih := mn_loc (C := C) (V := V) n
    match mode, e with
    | 0, e =>
      simp only [mn] at e
      split at e
      · obtain ⟨r1, e1, e2⟩ := Option.bind_eq_some_iff.mp e
        split at e2
        · cases e2; exact (show MLoc r1.1 from ih 2 _ _ e1)
        · cases e2
      · split at e
        · rename_i c
          cases e
          exact loc_part c
        · cases e
    | 1, e =>
      simp only [mn] at e
      obtain ⟨r1, e1, e2⟩ := Option.bind_eq_some_iff.mp e
      exact lpM_loc (fun _ _ _ h1 h2 => loc_join h1 h2) (fun i r h => ih 0 i r h) _ _ _ r (ih 0 _ _ e1) e2
    | 2, e =>
      simp only [mn] at e
      obtain ⟨r1, e1, e2⟩ := Option.bind_eq_some_iff.mp e
      exact lpM_loc (fun _ _ _ h1 h2 => loc_join h1 h2) (fun i r h => ih 1 i r h) _ _ _ r (ih 1 _ _ e1) e2
    | 3, e =>
      simp only [mn] at e
      obtain ⟨q, e1, e2⟩ := Option.bind_eq_some_iff.mp e
      obtain ⟨r1, e3, e4⟩ := Option.map_eq_some_iff.mp e2
      cases e4
      have h1 := ih 6 _ _ e3
      show MLoc (if q.1 then notF r1.1 else r1.1)
      split
      · exact loc_not h1
      · exact h1
    | 4, e =>
      simp only [mn] at e
      obtain ⟨r1, e1, e2⟩ := Option.bind_eq_some_iff.mp e
      exact lpM_loc (fun _ _ _ h1 h2 => loc_and h1 h2) (fun i r h => ih 3 i r h) _ _ _ r (ih 3 _ _ e1) e2
    | 5, e =>
      simp only [mn] at e
      obtain ⟨r1, e1, e2⟩ := Option.bind_eq_some_iff.mp e
      exact lpM_loc (fun _ _ _ h1 h2 => loc_or h1 h2) (fun i r h => ih 4 i r h) _ _ _ r (ih 4 _ _ e1) e2
    | m + 6, e =>
      simp only [mn] at e
      split at e
      · obtain ⟨r1, e1, e2⟩ := Option.bind_eq_some_iff.mp e
        split at e2
        · cases e2; exact (show MLoc r1.1 from ih 5 _ _ e1)
        · cases e2
      · split at e
        · cases e; exact loc_fact
        · obtain ⟨r1, e1, e2⟩ := Option.bind_eq_some_iff.mp e
          split at e2
          · obtain ⟨r2, e3, e4⟩ := Option.map_eq_some_iff.mp e2
            cases e4
            exact loc_cmp (ih 2 _ _ e1) (ih 2 _ _ e3)
          · cases e2
def LocC (c : Cl) : Prop := (∀ f, c.2.1 = some f → MLoc f) ∧ (∀ f, c.2.2 = some f → MLoc f)
theorem clP_loc {C V : Int → Int} {i j : Int} {c : Cl} (h : clP C V i = some (c, j)) : LocC c := by
  obtain ⟨s, i1, w, e1, e2, e3⟩ := clP_y h
  subst e3
  refine ⟨fun f hf => ?_, fun f hf => ?_⟩
  · replace hf : s = some f := hf
    subst hf
    split at e1
    · obtain ⟨r, e4, e5⟩ := Option.map_eq_some_iff.mp e1
      cases e5
      exact mn_loc _ _ _ _ e4
    · cases e1
  · replace hf : w = some f := hf
    subst hf
    split at e2
    · obtain ⟨r, e4, e5⟩ := Option.map_eq_some_iff.mp e2
      cases e5
      exact mn_loc _ _ _ _ e4
    · cases e2
theorem clsP_loc {C V : Int → Int} {e : Int} : ∀ (q : Nat) (i : Int) (l : List Cl), clsP C V e q i = some l → ∀ c ∈ l, LocC c
  | 0, _, _, h => by rw [clsP] at h; cases h
  | q + 1, i, l, h => by
    by_cases hi : i < e
    · obtain ⟨c, j, r, e1, e2, e3⟩ := clsP_y hi h
      subst e3
      intro d hd
      rcases List.mem_cons.mp hd with z | z
      · subst z; exact clP_loc e1
      · exact clsP_loc q _ r e2 d z
    · rw [clsP_n hi h]
      intro d hd
      cases hd
theorem clS_loc {c : Cl} (h : LocC c) {a a' : Int → Int} (ha : ∀ j, 0 ≤ j → j < 9 → a j = a' j) : clS c a = clS c a' := by
  unfold clS
  cases e : c.2.1 with
  | none => rfl
  | some f =>
    show vOf f a = vOf f a'
    unfold vOf
    rw [h.1 f e a a' ha]
theorem clH_loc {c : Cl} (h : LocC c) {a a' : Int → Int} (ha : ∀ j, 0 ≤ j → j < 9 → a j = a' j) : clH c a = clH c a' := by
  have e1 : c.2.1.all (fun f => (f a).isSome) = c.2.1.all (fun f => (f a').isSome) := by
    cases e : c.2.1 with
    | none => rfl
    | some f => show (f a).isSome = (f a').isSome; rw [h.1 f e a a' ha]
  have e2 : c.2.2.all (fun f => f a == some 1) = c.2.2.all (fun f => f a' == some 1) := by
    cases e : c.2.2 with
    | none => rfl
    | some f => show (f a == some 1) = (f a' == some 1); rw [h.2 f e a a' ha]
  unfold clH
  rw [e1, e2]
