theorem nt_step {q : Bool} {f : Mean} {a : Int → Int} {live b z z' : Int} (hz : z = 0 ∨ z = 1) (hzv : live = 1 → b = 0 → ∀ x, f a = some x → z = x) (hz' : (z' = 0 ∧ z = (if q = true then (1 : Int) else 0)) ∨ (z' = 1 ∧ ¬ z = (if q = true then (1 : Int) else 0))) :
    brk f a live b = brk (if q = true then notF f else f) a live b ∧ (z' = 0 ∨ z' = 1) ∧ (live = 1 → b = 0 → ∀ x, (if q = true then notF f else f) a = some x → z' = x) := by
  cases q with
  | false =>
    rw [if_neg (by decide)] at hz'
    rw [if_neg (by decide)]
    refine ⟨rfl, by omega, fun h1 h2 x hx => ?_⟩
    have := hzv h1 h2 x hx
    omega
  | true =>
    rw [if_pos rfl] at hz'
    rw [if_pos rfl]
    refine ⟨?_, by omega, fun h1 h2 x hx => ?_⟩
    · unfold brk notF
      cases f a <;> simp
    · unfold notF at hx
      obtain ⟨y, hy, hyx⟩ := Option.map_eq_some_iff.mp hx
      have := hzv h1 h2 y hy
      split at hyx <;> omega
theorem factF_01 {c x : Int} {a : Int → Int} (h : factF c a = some x) : x = 0 ∨ x = 1 := by
  unfold factF at h
  have h := Option.some.inj h
  rw [← h]
  (repeat' split) <;> omega
theorem ifcmp {P : Prop} [Decidable P] {m : Option (Mean × Int)} {g : Mean × Int → Mean × Int} {r : Mean × Int} (e : (if P then m.map g else none) = some r) : P ∧ ∃ x, m = some x ∧ g x = r := by
  split at e
  · rename_i q
    obtain ⟨x, h1, h2⟩ := Option.map_eq_some_iff.mp e
    exact ⟨q, x, h1, h2⟩
  · cases e
theorem cmpF_n1 {op : Int} {f g : Mean} {a : Int → Int} (h : f a = none) : cmpF op f g a = none := by
  unfold cmpF
  rw [h]
  rfl
theorem cmpF_n2 {op : Int} {f g : Mean} {a : Int → Int} (h : g a = none) : cmpF op f g a = none := by
  unfold cmpF
  rw [h]
  cases f a <;> rfl
theorem cmpF_v {op x y : Int} {f g : Mean} {a : Int → Int} (h : f a = some x) (h2 : g a = some y) : cmpF op f g a = some (if (if op = 160 then x < y else if op = 162 then y < x else x = y) then 1 else 0) := by
  unfold cmpF
  rw [h, h2]
  rfl
theorem cmp_brk {op live b : Int} {f g : Mean} {a : Int → Int} (hl : live = 0 ∨ live = 1) (hb : b = 0 ∨ b = 1) : brk g a live (brk f a live b) = brk (cmpF op f g) a live b := by
  by_cases hd : live = 0 ∨ b = 1
  · rw [brk_dead hd, brk_dead hd, brk_dead hd]
  · obtain rfl : live = 1 := by omega
    obtain rfl : b = 0 := by omega
    cases e1 : f a with
    | none => rw [brk_none e1, brk_dead (Or.inr rfl), brk_none (cmpF_n1 e1)]
    | some x =>
      rw [brk_some e1]
      cases e2 : g a with
      | none => rw [brk_none e2, brk_none (cmpF_n2 e2)]
      | some y => rw [brk_some e2, brk_some (cmpF_v e1 e2)]
theorem cmp_val {op live b : Int} {f g : Mean} {a : Int → Int} (h1 : live = 1) (h2 : b = 0) {x : Int} (hx : cmpF op f g a = some x) : x = (if (if op = 160 then lv f a live b < lv g a live (brk f a live b) else if op = 162 then lv g a live (brk f a live b) < lv f a live b else lv f a live b = lv g a live (brk f a live b)) then 1 else 0) := by
  subst h1
  subst h2
  cases e1 : f a with
  | none => rw [cmpF_n1 e1] at hx; cases hx
  | some p =>
    cases e2 : g a with
    | none => rw [cmpF_n2 e2] at hx; cases hx
    | some q =>
      rw [cmpF_v e1 e2] at hx
      rw [brk_some e1, lv_some e1, lv_some e2]
      exact (Option.some.inj hx).symm
theorem cmp_bad {op live b x : Int} {f g : Mean} {a : Int → Int} (hl : live = 0 ∨ live = 1) (hb : b = 0 ∨ b = 1) (h1 : live = 1) (h2 : b = 0) (hB : ¬ brk g a live (brk f a live b) = 0) (hx : cmpF op f g a = some x) : False := by
  rw [cmp_brk (op := op) hl hb, brk_some hx] at hB
  exact hB h2
