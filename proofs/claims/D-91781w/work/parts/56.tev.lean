theorem tdivR {x y : Int} (h : -1000000000 ≤ x ∧ x ≤ 1000000000) : R64 (Int.tdiv x y) := by
  have := tdiv_b (y := y) h
  exact ⟨by omega, by omega⟩
theorem orF_n {f g : Mean} {a : Int → Int} (h : f a = none) : orF f g a = none := by
  unfold orF
  rw [h]
  rfl
theorem orF_0 {f g : Mean} {a : Int → Int} (h : f a = some 0) : orF f g a = g a := by
  unfold orF
  rw [h]
  rfl
theorem orF_1 {f g : Mean} {a : Int → Int} (h : f a = some 1) : orF f g a = some 1 := by
  unfold orF
  rw [h]
  rfl
theorem andF_n {f g : Mean} {a : Int → Int} (h : f a = none) : andF f g a = none := by
  unfold andF
  rw [h]
  rfl
theorem andF_0 {f g : Mean} {a : Int → Int} (h : f a = some 0) : andF f g a = some 0 := by
  unfold andF
  rw [h]
  rfl
theorem andF_1 {f g : Mean} {a : Int → Int} (h : f a = some 1) : andF f g a = g a := by
  unfold andF
  rw [h]
  rfl
theorem brk_eq {f g : Mean} {a : Int → Int} {live b : Int} (h : f a = g a) : brk f a live b = brk g a live b := by
  unfold brk
  rw [h]
theorem or_step {f g : Mean} {a : Int → Int} {live b z L z2 z' : Int} (hl : live = 0 ∨ live = 1) (hb : b = 0 ∨ b = 1) (hz : z = 0 ∨ z = 1) (hzv : live = 1 → b = 0 → ∀ x, f a = some x → z = x) (hL : (L = 1 ∧ live = 1 ∧ z = 0) ∨ (L = 0 ∧ (live = 0 ∨ ¬ z = 0))) (hz2 : z2 = 0 ∨ z2 = 1) (hz2v : L = 1 → brk f a live b = 0 → ∀ x, g a = some x → z2 = x) (hz' : (z' = 1 ∧ (¬ z = 0 ∨ ¬ z2 = 0)) ∨ (z' = 0 ∧ z = 0 ∧ z2 = 0)) :
    brk g a L (brk f a live b) = brk (orF f g) a live b ∧ (z' = 0 ∨ z' = 1) ∧ (live = 1 → b = 0 → ∀ x, orF f g a = some x → z' = x) := by
  by_cases hd : live = 0 ∨ b = 1
  · rw [brk_dead hd, brk_dead hd, brk_dead (by omega)]
    exact ⟨rfl, by omega, fun h1 h2 => by omega⟩
  · obtain rfl : live = 1 := by omega
    obtain rfl : b = 0 := by omega
    cases e1 : f a with
    | none =>
      rw [brk_none e1, brk_dead (Or.inr rfl), brk_none (orF_n e1), orF_n e1]
      exact ⟨rfl, by omega, fun _ _ x h => by cases h⟩
    | some x =>
      have hx := hzv rfl rfl x e1
      rw [brk_some e1] at hz2v ⊢
      rcases hz with q | q
      · have e0 : f a = some 0 := by rw [e1, ← hx, q]
        obtain rfl : L = 1 := by omega
        rw [orF_0 e0, brk_eq (f := orF f g) (g := g) (orF_0 e0)]
        refine ⟨rfl, by omega, fun _ _ y hy => ?_⟩
        have := hz2v rfl rfl y hy
        omega
      · have e0 : f a = some 1 := by rw [e1, ← hx, q]
        obtain rfl : L = 0 := by omega
        rw [brk_dead (Or.inl rfl), brk_some (orF_1 e0), orF_1 e0]
        refine ⟨rfl, by omega, fun _ _ y hy => ?_⟩
        have := Option.some.inj hy
        omega
theorem and_step {f g : Mean} {a : Int → Int} {live b z L z2 z' : Int} (hl : live = 0 ∨ live = 1) (hb : b = 0 ∨ b = 1) (hz : z = 0 ∨ z = 1) (hzv : live = 1 → b = 0 → ∀ x, f a = some x → z = x) (hL : (L = 1 ∧ live = 1 ∧ ¬ z = 0) ∨ (L = 0 ∧ (live = 0 ∨ z = 0))) (hz2 : z2 = 0 ∨ z2 = 1) (hz2v : L = 1 → brk f a live b = 0 → ∀ x, g a = some x → z2 = x) (hz' : (z' = 1 ∧ ¬ z = 0 ∧ ¬ z2 = 0) ∨ (z' = 0 ∧ (z = 0 ∨ z2 = 0))) :
    brk g a L (brk f a live b) = brk (andF f g) a live b ∧ (z' = 0 ∨ z' = 1) ∧ (live = 1 → b = 0 → ∀ x, andF f g a = some x → z' = x) := by
  by_cases hd : live = 0 ∨ b = 1
  · rw [brk_dead hd, brk_dead hd, brk_dead (by omega)]
    exact ⟨rfl, by omega, fun h1 h2 => by omega⟩
  · obtain rfl : live = 1 := by omega
    obtain rfl : b = 0 := by omega
    cases e1 : f a with
    | none =>
      rw [brk_none e1, brk_dead (Or.inr rfl), brk_none (andF_n e1), andF_n e1]
      exact ⟨rfl, by omega, fun _ _ x h => by cases h⟩
    | some x =>
      have hx := hzv rfl rfl x e1
      rw [brk_some e1] at hz2v ⊢
      rcases hz with q | q
      · have e0 : f a = some 0 := by rw [e1, ← hx, q]
        obtain rfl : L = 0 := by omega
        rw [brk_dead (Or.inl rfl), brk_some (andF_0 e0), andF_0 e0]
        refine ⟨rfl, by omega, fun _ _ y hy => ?_⟩
        have := Option.some.inj hy
        omega
      · have e0 : f a = some 1 := by rw [e1, ← hx, q]
        obtain rfl : L = 1 := by omega
        rw [andF_1 e0, brk_eq (f := andF f g) (g := g) (andF_1 e0)]
        refine ⟨rfl, by omega, fun _ _ y hy => ?_⟩
        have := hz2v rfl rfl y hy
        omega
