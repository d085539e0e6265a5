/-- the value of a sum as the model has it -/
def lv (f : Mean) (a : Int → Int) (live b : Int) : Int := if live = 1 ∧ b = 0 then vOf f a else 0
theorem lv_r {f : Mean} {a : Int → Int} {live b : Int} (h : mB f a) : -1000000000 ≤ lv f a live b ∧ lv f a live b ≤ 1000000000 := by
  unfold lv
  split
  · exact vOf_r h
  · omega
def opV (op x y : Int) : Int := if op = 143 then x + y else if op = 145 then x - y else x * y
theorem lv_dead {f : Mean} {a : Int → Int} {live b : Int} (h : live = 0 ∨ b = 1) : lv f a live b = 0 := by
  unfold lv
  exact if_neg (by omega)
theorem brk_dead {f : Mean} {a : Int → Int} {live b : Int} (h : live = 0 ∨ b = 1) : brk f a live b = b := by
  unfold brk
  exact if_neg (by omega)
theorem lv_some {f : Mean} {a : Int → Int} {x : Int} (h : f a = some x) : lv f a 1 0 = x := by
  unfold lv vOf
  rw [if_pos ⟨rfl, rfl⟩, h]
  rfl
theorem lv_none {f : Mean} {a : Int → Int} {live b : Int} (h : f a = none) : lv f a live b = 0 := by
  unfold lv vOf
  rw [h]
  split <;> rfl
theorem brk_some {f : Mean} {a : Int → Int} {live b x : Int} (h : f a = some x) : brk f a live b = b := by
  unfold brk
  rw [h]
  exact if_neg (fun q => by cases q.2.2)
theorem brk_none {f : Mean} {a : Int → Int} (h : f a = none) : brk f a 1 0 = 1 := by
  unfold brk
  exact if_pos ⟨rfl, rfl, h⟩
theorem joinF_n1 {op : Int} {f g : Mean} {a : Int → Int} (h : f a = none) : joinF op f g a = none := by
  unfold joinF
  rw [h]
  rfl
theorem joinF_n2 {op : Int} {f g : Mean} {a : Int → Int} (h : g a = none) : joinF op f g a = none := by
  unfold joinF
  rw [h]
  cases f a <;> rfl
theorem joinF_v {op x y : Int} {f g : Mean} {a : Int → Int} (ho : op ≠ 147) (h : f a = some x) (h2 : g a = some y) : joinF op f g a = bnd (opV op x y) := by
  unfold joinF opV
  rw [h, h2]
  show (if op = 147 then _ else _) = _
  rw [if_neg ho]
theorem joinF_d {x y : Int} {f g : Mean} {a : Int → Int} (h : f a = some x) (h2 : g a = some y) : joinF 147 f g a = if y = 0 then none else some (Int.tdiv x y) := by
  unfold joinF
  rw [h, h2]
  rfl
theorem opV_0 {op : Int} : opV op 0 0 = 0 := by
  unfold opV
  split
  · rfl
  · split <;> rfl
theorem join_step {op live b : Int} {f g : Mean} {a : Int → Int} (ho : op ≠ 147) (hl : live = 0 ∨ live = 1) (hb : b = 0 ∨ b = 1) :
    (if brk g a live (brk f a live b) = 1 ∨ (live = 1 ∧ (opV op (lv f a live b) (lv g a live (brk f a live b)) > 1000000000 ∨ opV op (lv f a live b) (lv g a live (brk f a live b)) < -1000000000)) then 1 else 0) = brk (joinF op f g) a live b
    ∧ (if brk g a live (brk f a live b) = 1 ∨ (live = 1 ∧ (opV op (lv f a live b) (lv g a live (brk f a live b)) > 1000000000 ∨ opV op (lv f a live b) (lv g a live (brk f a live b)) < -1000000000)) then 0 else opV op (lv f a live b) (lv g a live (brk f a live b))) = lv (joinF op f g) a live b := by
  by_cases hd : live = 0 ∨ b = 1
  · rw [brk_dead hd, brk_dead hd, brk_dead hd, lv_dead hd, lv_dead hd, lv_dead hd, opV_0]
    rcases hb with q | q
    · rw [q, if_neg (by omega), if_neg (by omega)]
      exact ⟨rfl, rfl⟩
    · rw [q, if_pos (Or.inl rfl), if_pos (Or.inl rfl)]
      exact ⟨rfl, rfl⟩
  · have h1 : live = 1 := by omega
    have h2 : b = 0 := by omega
    subst h1
    subst h2
    cases e1 : f a with
    | none =>
      rw [brk_none e1, brk_dead (Or.inr rfl), if_pos (Or.inl rfl), if_pos (Or.inl rfl), brk_none (joinF_n1 e1), lv_none (joinF_n1 e1)]
      exact ⟨rfl, rfl⟩
    | some x =>
      rw [brk_some e1]
      cases e2 : g a with
      | none =>
        rw [brk_none e2, if_pos (Or.inl rfl), if_pos (Or.inl rfl), brk_none (joinF_n2 e2), lv_none (joinF_n2 e2)]
        exact ⟨rfl, rfl⟩
      | some y =>
        have ej := joinF_v (op := op) ho e1 e2
        rw [brk_some e2, lv_some e1, lv_some e2]
        unfold bnd at ej
        by_cases c : opV op x y > 1000000000 ∨ opV op x y < -1000000000
        · rw [if_pos c] at ej
          rw [if_pos (Or.inr ⟨rfl, c⟩), if_pos (Or.inr ⟨rfl, c⟩), brk_none ej, lv_none ej]
          exact ⟨rfl, rfl⟩
        · rw [if_neg c] at ej
          rw [if_neg (fun q => q.elim (fun z => by omega) (fun z => c z.2)), if_neg (fun q => q.elim (fun z => by omega) (fun z => c z.2)), brk_some ej, lv_some ej]
          exact ⟨rfl, rfl⟩
theorem div_nz {live b X : Int} {f g : Mean} {a : Int → Int} (hl : live = 0 ∨ live = 1) (hb : b = 0 ∨ b = 1) (hf : mB f a) (hX : X = Int.tdiv (lv f a live b) (lv g a live (brk f a live b))) (h0 : lv g a live (brk f a live b) ≠ 0) :
    (if brk g a live (brk f a live b) = 1 ∨ (live = 1 ∧ (X > 1000000000 ∨ X < -1000000000)) then 1 else 0) = brk (joinF 147 f g) a live b
    ∧ (if brk g a live (brk f a live b) = 1 ∨ (live = 1 ∧ (X > 1000000000 ∨ X < -1000000000)) then 0 else X) = lv (joinF 147 f g) a live b := by
  by_cases hd : live = 0 ∨ b = 1
  · rw [brk_dead hd, lv_dead hd] at h0
    exact absurd rfl h0
  · have h1 : live = 1 := by omega
    have h2 : b = 0 := by omega
    subst h1
    subst h2
    cases e1 : f a with
    | none =>
      rw [brk_none e1, lv_dead (Or.inr rfl)] at h0
      exact absurd rfl h0
    | some x =>
      rw [brk_some e1] at h0 hX ⊢
      cases e2 : g a with
      | none =>
        rw [lv_none e2] at h0
        exact absurd rfl h0
      | some y =>
        rw [lv_some e2] at h0
        have ej := joinF_d e1 e2
        rw [if_neg h0] at ej
        rw [lv_some e1, lv_some e2] at hX
        have hr := tdiv_b (y := y) (hf x e1)
        rw [← hX] at ej hr
        rw [brk_some e2, if_neg (by omega), if_neg (by omega), brk_some ej, lv_some ej]
        exact ⟨rfl, rfl⟩
theorem div_z {live b B X : Int} {f g : Mean} {a : Int → Int} (hl : live = 0 ∨ live = 1) (hb : b = 0 ∨ b = 1) (hf : mB f a) (hB : B = if ¬ brk g a live (brk f a live b) = 0 ∨ ¬ live = 0 then 1 else 0) (hX : X = Int.tdiv (lv f a live b) 1) (h0 : lv g a live (brk f a live b) = 0) :
    (if B = 1 ∨ (live = 1 ∧ (X > 1000000000 ∨ X < -1000000000)) then 1 else 0) = brk (joinF 147 f g) a live b
    ∧ (if B = 1 ∨ (live = 1 ∧ (X > 1000000000 ∨ X < -1000000000)) then 0 else X) = lv (joinF 147 f g) a live b := by
  by_cases hd : live = 0 ∨ b = 1
  · rw [brk_dead hd, brk_dead hd] at hB
    rw [lv_dead hd] at hX
    have hX0 : X = 0 := hX
    rw [brk_dead hd, lv_dead hd, hX0]
    by_cases c : B = 1
    · rw [if_pos (Or.inl c), if_pos (Or.inl c)]
      refine ⟨?_, rfl⟩
      rw [c] at hB
      split at hB
      · omega
      · omega
    · rw [if_neg (by omega), if_neg (by omega)]
      refine ⟨?_, rfl⟩
      split at hB
      · exact absurd hB c
      · omega
  · have h1 : live = 1 := by omega
    have h2 : b = 0 := by omega
    subst h1
    subst h2
    rw [if_pos (Or.inr (by omega))] at hB
    rw [if_pos (Or.inl hB), if_pos (Or.inl hB)]
    have ej : joinF 147 f g a = none := by
      cases e1 : f a with
      | none => exact joinF_n1 e1
      | some x =>
        cases e2 : g a with
        | none => exact joinF_n2 e2
        | some y =>
          rw [brk_some e1, lv_some e2] at h0
          rw [joinF_d e1 e2, if_pos h0]
    rw [brk_none ej, lv_none ej]
    exact ⟨rfl, rfl⟩
/-- the contract of a summer at depth n -/
def SEv (l : Launch) (G : MG) (y : MethodName) (cc : ByteArray) (mL mode n : Nat) : Prop := ∀ (σ0 : St) (g b live : Int) (f : Mean) (j : Int) (sz : Nat), EV σ0 → 0 ≤ g → g ≤ σ0 19 0 → (b = 0 ∨ b = 1) → (live = 0 ∨ live = 1) → mn (cdA σ0) (vlA σ0) n mode g = some (f, j) → Met l y (ws_ y cc mL (some .long)) (rmD (n + 4)) (mP G [.ref (G.2.2 0), .int (iI live)] (evS σ0 g b) sz) (mQl G (evS σ0 g b) sz (fun z σ' => z = lv f (σ0 5) live b ∧ σ' = evS σ0 j (brk f (σ0 5) live b))) 0 0 (mA G (evS σ0 g b) sz)
/-- the contract of a tester at depth n -/
def TEv (l : Launch) (G : MG) (y : MethodName) (cc : ByteArray) (mL mode n : Nat) : Prop := ∀ (σ0 : St) (g b live : Int) (f : Mean) (j : Int) (sz : Nat), EV σ0 → 0 ≤ g → g ≤ σ0 19 0 → (b = 0 ∨ b = 1) → (live = 0 ∨ live = 1) → mn (cdA σ0) (vlA σ0) n mode g = some (f, j) → Met l y (ws_ y cc mL (some .boolean)) (rmD (n + 4)) (mP G [.ref (G.2.2 0), .int (iI live)] (evS σ0 g b) sz) (mQi G (evS σ0 g b) sz (fun z σ' => ((z = 0 ∨ z = 1) ∧ (live = 1 → b = 0 → ∀ x, f (σ0 5) = some x → z = x)) ∧ σ' = evS σ0 j (brk f (σ0 5) live b))) 0 0 (mA G (evS σ0 g b) sz)
theorem cdA_0 {σ : St} : ∀ k, σ 19 0 ≤ k → cdA σ k = 0 := fun k h => by
  unfold cdA
  exact if_neg (by omega)
theorem EV_le {σ : St} {n mode : Nat} {g j : Int} {f : Mean} (hg : g ≤ σ 19 0) (e : mn (cdA σ) (vlA σ) n mode g = some (f, j)) : g < j ∧ j ≤ σ 19 0 := mn_le cdA_0 n mode g (f, j) hg e
theorem cdA_lt {σ : St} {k : Int} (h : cdA σ k ≠ 0) : k < σ 19 0 := by
  rcases Int.lt_or_le k (σ 19 0) with q | q
  · exact q
  · exact absurd (cdA_0 k q) h
theorem EV_B {σ : St} {n mode : Nat} {g j : Int} {f : Mean} (hE : EV σ) (h0 : 0 ≤ g) (hg : g ≤ σ 19 0) (hm : mode ≤ 2) (e : mn (cdA σ) (vlA σ) n mode g = some (f, j)) : mB f (σ 5) :=
  mn_B (fun k hk hc => by have := cdA_lt (σ := σ) (k := k) (by omega); exact hE.2.2.1 k hk (by have := hE.1; omega)) hE.2.2.2 cdA_0 n mode g (f, j) h0 hg hm e
