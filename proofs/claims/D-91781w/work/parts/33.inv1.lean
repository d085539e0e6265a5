/-! what stays of the row when one flask changes -/
theorem kFlask_cg {κ κ' : Int → Int} {j b : Int} (e : ∀ x, 0 ≤ x → x < 26 → κ' (184 + 26 * j + x) = κ (184 + 26 * j + x)) (e0 : κ' 1750 = κ 1750) (e2 : κ' 1752 = κ 1752) (h : kFlask κ j b) : kFlask κ' j b := by
  unfold kFlask fl at h ⊢
  obtain ⟨h0, h1, h2, h3, h4, h5, h6, h7, h8, h9, h10, h11, h12, h13, h14, h15, h16, hg⟩ := h
  rw [e 0 (by omega) (by omega), e 1 (by omega) (by omega), e 2 (by omega) (by omega), e 3 (by omega) (by omega), e 4 (by omega) (by omega), e 5 (by omega) (by omega), e 6 (by omega) (by omega), e 7 (by omega) (by omega), e 8 (by omega) (by omega), e 9 (by omega) (by omega), e 10 (by omega) (by omega), e 11 (by omega) (by omega), e 12 (by omega) (by omega), e 13 (by omega) (by omega), e 14 (by omega) (by omega), e 15 (by omega) (by omega), e 16 (by omega) (by omega), e0, e2]
  refine ⟨h0, h1, h2, h3, h4, h5, h6, h7, h8, h9, h10, h11, h12, h13, h14, h15, h16, fun g a c => ?_⟩
  rw [e (17 + 2 * g) (by omega) (by omega), e (17 + 2 * g + 1) (by omega) (by omega)]
  exact hg g a c
theorem caseOK_cg {a b : Int → Int} (e : ∀ x, 0 ≤ x → x < 9 → b x = a x) (h : caseOK a) : caseOK b := by
  unfold caseOK at h ⊢
  rw [e 0 (by omega) (by omega), e 1 (by omega) (by omega), e 2 (by omega) (by omega), e 3 (by omega) (by omega), e 4 (by omega) (by omega), e 5 (by omega) (by omega), e 6 (by omega) (by omega), e 7 (by omega) (by omega), e 8 (by omega) (by omega)]
  exact h
theorem kBroth_cg {κ κ' : Int → Int} (e : ∀ i, 0 ≤ i → i < 18 → κ' i = κ i) (h : kBroth κ) : kBroth κ' := fun b h0 h1 => by
  rw [e (0 + 3 * b) (by omega) (by omega), e (0 + 3 * b + 1) (by omega) (by omega), e (0 + 3 * b + 2) (by omega) (by omega)]
  exact h b h0 h1
theorem kLets_cg {κ κ' : Int → Int} (e : ∀ i, 18 ≤ i → i < 40 → κ' i = κ i) (h : kLets κ) : kLets κ' := fun i h0 h1 => by
  rw [e i h0 h1]
  exact h i h0 h1
theorem kWeights_cg {κ κ' : Int → Int} (e : ∀ i, 40 ≤ i → i < 136 → κ' i = κ i) (e2 : κ' 1752 = κ 1752) (h : kWeights κ) : kWeights κ' := fun q k h0 h1 h2 h3 => by
  rw [e (40 + 8 * q + k) (by omega) (by omega), e2]
  exact h q k h0 h1 h2 h3
theorem kKind_cg {κ κ' : Int → Int} {k : Int} (e : ∀ x, 0 ≤ x → x < 6 → κ' (136 + 6 * k + x) = κ (136 + 6 * k + x)) (h : kKind κ k) : kKind κ' k := by
  unfold kKind at h ⊢
  rw [e 0 (by omega) (by omega), e 1 (by omega) (by omega), e 2 (by omega) (by omega), e 3 (by omega) (by omega), e 4 (by omega) (by omega), e 5 (by omega) (by omega)]
  exact h
theorem kKinds_cg {κ κ' : Int → Int} (e : ∀ i, 136 ≤ i → i < 184 → κ' i = κ i) (e2 : κ' 1752 = κ 1752) (hc : κ 1752 ≤ 8) (h : kKinds κ) : kKinds κ' := fun k h0 h1 => by
  rw [e2] at h1
  exact kKind_cg (fun x a b => e _ (by omega) (by omega)) (h k h0 h1)
theorem kLooks_cg {κ κ' : Int → Int} (e : ∀ i, 1224 ≤ i → i < 1624 → κ' i = κ i) (e2 : κ' 1754 = κ 1754) (hc : κ 1754 ≤ 40) (h : kLooks κ) : kLooks κ' := fun k h0 h1 => by
  rw [e2] at h1
  refine ⟨caseOK_cg (fun x a b => e _ (by omega) (by omega)) (h k h0 h1).1, ?_⟩
  rw [e (1224 + 10 * k + 9) (by omega) (by omega)]
  exact (h k h0 h1).2
theorem kTrials_cg {κ κ' : Int → Int} (e : ∀ i, 1624 ≤ i → i < 1732 → κ' i = κ i) (e2 : κ' 1755 = κ 1755) (hc : κ 1755 ≤ 12) (h : kTrials κ) : kTrials κ' := fun k h0 h1 => by
  rw [e2] at h1
  exact caseOK_cg (fun x a b => e _ (by omega) (by omega)) (h k h0 h1)
theorem kCourts_cg {κ κ' : Int → Int} (e : ∀ i, 1732 ≤ i → i < 1750 → κ' i = κ i) (e1 : κ' 1755 = κ 1755) (e2 : κ' 1757 = κ 1757) (hc : κ 1757 ≤ 9) (h : kCourts κ) : kCourts κ' := fun k h0 h1 => by
  rw [e2] at h1
  rw [e (1732 + 2 * k) (by omega) (by omega), e (1732 + 2 * k + 1) (by omega) (by omega), e1]
  exact h k h0 h1
theorem kCnt_cg {κ κ' : Int → Int} (e : ∀ i, 1750 ≤ i → i < 1758 → i ≠ 1751 → κ' i = κ i) (hd : 0 ≤ κ' 1751 ∧ κ' 1751 ≤ 1000002) (h : kCnt κ) : kCnt κ' := by
  unfold kCnt at h ⊢
  rw [e 1750 (by omega) (by omega) (by omega), e 1752 (by omega) (by omega) (by omega), e 1753 (by omega) (by omega) (by omega), e 1754 (by omega) (by omega) (by omega), e 1755 (by omega) (by omega) (by omega), e 1756 (by omega) (by omega) (by omega), e 1757 (by omega) (by omega) (by omega)]
  exact ⟨h.1, hd, h.2.2⟩
theorem KG_flask {κ κ' β : Int → Int} {f b : Int} (h : KG κ β) (hf0 : 0 ≤ f) (hf1 : f < κ 1753) (e : ∀ i, ¬ (184 + 26 * f ≤ i ∧ i < 184 + 26 * f + 26) → i ≠ 1751 → κ' i = κ i) (hd : 0 ≤ κ' 1751 ∧ κ' 1751 ≤ 1000002) (hk : kFlask κ' f b) : KG κ' (fun j => if j = f then b else β j) := by
  have hc := h.c
  unfold kCnt at hc
  refine ⟨kCnt_cg (fun i a b n => e i (by omega) n) hd h.c, kBroth_cg (fun i a b => e i (by omega) (by omega)) h.b, kLets_cg (fun i a b => e i (by omega) (by omega)) h.l, kWeights_cg (fun i a b => e i (by omega) (by omega)) (e _ (by omega) (by omega)) h.w, kKinds_cg (fun i a b => e i (by omega) (by omega)) (e _ (by omega) (by omega)) (by omega) h.k, fun j h0 h1 => ?_, kLooks_cg (fun i a b => e i (by omega) (by omega)) (e _ (by omega) (by omega)) (by omega) h.o, kTrials_cg (fun i a b => e i (by omega) (by omega)) (e _ (by omega) (by omega)) (by omega) h.t, kCourts_cg (fun i a b => e i (by omega) (by omega)) (e _ (by omega) (by omega)) (e _ (by omega) (by omega)) (by omega) h.u⟩
  rw [e 1753 (by omega) (by omega)] at h1
  by_cases q : j = f
  · subst q
    show kFlask κ' j (if j = j then b else β j)
    rw [if_pos rfl]
    exact hk
  · show kFlask κ' j (if j = f then b else β j)
    rw [if_neg q]
    exact kFlask_cg (fun x a c => e _ (by omega) (by omega)) (e _ (by omega) (by omega)) (e _ (by omega) (by omega)) (h.f j h0 h1)
theorem wPick_r {σ : St} {q m : Int} (hm : m ≤ 8) (hw : ∀ k, 0 ≤ k → k < 8 → 0 ≤ σ 2 (40 + 8 * q + k)) : ∀ (n : Nat) (x k : Int), 0 ≤ k → 8 ≤ (n : Int) + k → 0 ≤ x → x < wTail σ q (m - k).toNat k → 0 ≤ wPick σ q n x k ∧ wPick σ q n x k < m
  | 0, x, k, hk, hn, h0, hx => by
    have := wTail_p h0 hx
    omega
  | n + 1, x, k, hk, hn, h0, hx => by
    have hp := wTail_p h0 hx
    rw [wPick]
    by_cases c : σ 2 (40 + 8 * q + k) ≤ x
    · rw [if_pos c]
      exact wPick_r hm hw n _ _ (by omega) (by omega) (by omega) (wTail_y h0 hx)
    · rw [if_neg c]
      omega
theorem fall2_k {σ : St} {f b : Int} (hf0 : 0 ≤ f) (hf1 : f < 40) (h : kFlask (σ 2) f b) : kFlask (fall2 σ f 2) f (b + 1) := by
  have e6 : fall2 σ f 2 (184 + 26 * f + 6) = fall1 σ f 2 (184 + 26 * f + 6) := by
    unfold fall2
    split
    · exact st_i (by omega)
    · rfl
  have e61 : fall1 σ f 2 (184 + 26 * f + 6) = σ 2 (184 + 26 * f + 6) ∨ fall1 σ f 2 (184 + 26 * f + 6) = σ 2 (184 + 26 * f + 6) + 1 := by
    rw [fall1_6]
    split <;> omega
  have e11 : fall2 σ f 2 (184 + 26 * f + 11) = σ 2 (184 + 26 * f + 11) ∨ fall2 σ f 2 (184 + 26 * f + 11) = σ 2 (184 + 26 * f + 11) + 1 := by
    unfold fall2
    split
    · exact Or.inr st_s
    · exact Or.inl (fall1_o σ f _ (by omega))
  have e := fun x (h6 : x ≠ 6) (h11 : x ≠ 11) => fall2_o σ f (184 + 26 * f + x) (by omega) (by omega)
  have c0 := fall2_o σ f 1750 (by omega) (by omega)
  have c2 := fall2_o σ f 1752 (by omega) (by omega)
  have E0 := e 0 (by omega) (by omega)
  have E1 := e 1 (by omega) (by omega)
  have E2 := e 2 (by omega) (by omega)
  have E3 := e 3 (by omega) (by omega)
  have E4 := e 4 (by omega) (by omega)
  have E5 := e 5 (by omega) (by omega)
  have E7 := e 7 (by omega) (by omega)
  have E8 := e 8 (by omega) (by omega)
  have E9 := e 9 (by omega) (by omega)
  have E10 := e 10 (by omega) (by omega)
  have E12 := e 12 (by omega) (by omega)
  have E13 := e 13 (by omega) (by omega)
  have E14 := e 14 (by omega) (by omega)
  have E15 := e 15 (by omega) (by omega)
  have E16 := e 16 (by omega) (by omega)
  unfold kFlask fl at h ⊢
  obtain ⟨h0, h1, h2, h3, h4, h5, h6, h7, h8, h9, h10, h11, h12, h13, h14, h15, h16, hg⟩ := h
  refine ⟨by omega, by omega, by omega, by omega, by omega, by omega, by omega, by omega, by omega, by omega, by omega, by omega, by omega, by omega, by omega, by omega, by omega, fun g a c => ?_⟩
  rw [e (17 + 2 * g) (by omega) (by omega), e (17 + 2 * g + 1) (by omega) (by omega), c0, c2]
  exact hg g a (by omega)
theorem drawS_k {τ : St} {f b : Int} (hf1 : f < 40) (h : kFlask (τ 2) f b) : kFlask (drawS τ 2) f b := kFlask_cg (fun x a c => drawS_o (by omega)) (drawS_o (by omega)) (drawS_o (by omega)) h
theorem fallG_k {τ : St} {f b k nw g : Int} (hf0 : 0 ≤ f) (hf1 : f < 40) (hk : 0 ≤ k ∧ k < τ 2 1752) (hn : nw = τ 2 1750) (hn0 : 0 ≤ nw) (hg : g = τ 2 (184 + 26 * f + 16)) (hg4 : g ≠ 4) (h : kFlask (τ 2) f b) : kFlask (fallG τ f k nw g 2) f b := by
  have hg0 := h.2.2.2.2.2.2.2.2.2.2.2.2.2.2.2.2.1
  unfold fl at hg0
  have eo : ∀ i, i ≠ 184 + 26 * f + (17 + 2 * g) → i ≠ 184 + 26 * f + (17 + 2 * g + 1) → i ≠ 184 + 26 * f + 16 → fallG τ f k nw g 2 i = τ 2 i := fun i a b c => by
    unfold fallG ss
    rw [st_i c, st_i b, st_i a]
  have e16 : fallG τ f k nw g 2 (184 + 26 * f + 16) = g + 1 := by
    unfold fallG ss
    rw [st_s]
  have e17 : fallG τ f k nw g 2 (184 + 26 * f + (17 + 2 * g)) = k := by
    unfold fallG ss
    rw [st_i (by omega), st_i (by omega), st_s]
  have e18 : fallG τ f k nw g 2 (184 + 26 * f + (17 + 2 * g + 1)) = nw := by
    unfold fallG ss
    rw [st_i (by omega), st_s]
  have e := fun x (h0 : 0 ≤ x) (h1 : x < 16) => eo (184 + 26 * f + x) (by omega) (by omega) (by omega)
  have c0 := eo 1750 (by omega) (by omega) (by omega)
  have c2 := eo 1752 (by omega) (by omega) (by omega)
  have E0 := e 0 (by omega) (by omega)
  have E1 := e 1 (by omega) (by omega)
  have E2 := e 2 (by omega) (by omega)
  have E3 := e 3 (by omega) (by omega)
  have E4 := e 4 (by omega) (by omega)
  have E5 := e 5 (by omega) (by omega)
  have E6 := e 6 (by omega) (by omega)
  have E7 := e 7 (by omega) (by omega)
  have E8 := e 8 (by omega) (by omega)
  have E9 := e 9 (by omega) (by omega)
  have E10 := e 10 (by omega) (by omega)
  have E11 := e 11 (by omega) (by omega)
  have E12 := e 12 (by omega) (by omega)
  have E13 := e 13 (by omega) (by omega)
  have E14 := e 14 (by omega) (by omega)
  have E15 := e 15 (by omega) (by omega)
  unfold kFlask fl at h ⊢
  obtain ⟨h0, h1, h2, h3, h4, h5, h6, h7, h8, h9, h10, h11, h12, h13, h14, h15, h16, hgg⟩ := h
  refine ⟨by omega, by omega, by omega, by omega, by omega, by omega, by omega, by omega, by omega, by omega, by omega, by omega, by omega, by omega, by omega, by omega, by omega, fun j a c => ?_⟩
  rw [e16] at c
  by_cases q : j = g
  · subst q
    rw [e17, e18, c0, c2]
    omega
  · rw [eo (184 + 26 * f + (17 + 2 * j)) (by omega) (by omega) (by omega), eo (184 + 26 * f + (17 + 2 * j + 1)) (by omega) (by omega) (by omega), c0, c2]
    exact hgg j a (by omega)
theorem fall2_e {σ : St} {f i : Int} (h : ¬ (184 + 26 * f ≤ i ∧ i < 184 + 26 * f + 26)) : fall2 σ f 2 i = σ 2 i := fall2_o σ f i (by omega) (by omega)
theorem fallG_e {τ : St} {f k nw g i : Int} (hg : 0 ≤ g ∧ g < 4) (h : ¬ (184 + 26 * f ≤ i ∧ i < 184 + 26 * f + 26)) : fallG τ f k nw g 2 i = τ 2 i := by
  unfold fallG ss
  rw [st_i (by omega), st_i (by omega), st_i (by omega)]
/-- a fall keeps the row -/
theorem fallsF_ok {σ : St} {β : Int → Int} {f : Int} (h : KG (σ 2) β) (hf0 : 0 ≤ f) (hf1 : f < σ 2 1753) : KG (fallsF σ f 2) (fun j => if j = f then β f + 1 else β j) ∧ ∀ i, ¬ (184 + 26 * f ≤ i ∧ i < 184 + 26 * f + 26) → i ≠ 1751 → fallsF σ f 2 i = σ 2 i := by
  have b0 := h.c
  unfold kCnt at b0
  have hf40 : f < 40 := by omega
  have hk := h.f f hf0 hf1
  have k2 := fall2_k hf0 hf40 hk
  have hk16 := hk.2.2.2.2.2.2.2.2.2.2.2.2.2.2.2.2.1
  have hk5 := hk.2.2.2.2.2.1
  unfold fl at hk16 hk5
  have r1 := drawF_r (fall2 σ f 2)
  have r2 := drawF_r (drawS (fall2 σ f) 2)
  unfold fallsF
  split
  · exact ⟨KG_flask h hf0 hf1 (fun i a _ => fall2_e a) (by rw [fall2_o _ _ _ (by omega) (by omega)]; omega) k2, fun i a _ => fall2_e a⟩
  · split
    · exact ⟨KG_flask h hf0 hf1 (fun i a n => (drawS_o n).trans (fall2_e a)) (by rw [drawS_d]; exact r1) (drawS_k hf40 k2), fun i a n => (drawS_o n).trans (fall2_e a)⟩
    · rename_i hc0 hc1
      split
      · exact ⟨KG_flask h hf0 hf1 (fun i a n => (drawS_o n).trans (fall2_e a)) (by rw [drawS_d]; exact r1) (drawS_k hf40 k2), fun i a n => (drawS_o n).trans (fall2_e a)⟩
      · rename_i hs
        have hww := fun k a b => (h.w (σ 2 (184 + 26 * f + 5)) k (by omega) (by omega) a b).1
        have hsum := wSum_r (σ := σ) (q := σ 2 (184 + 26 * f + 5)) hww (σ 2 1752).toNat (by omega)
        have hm1 := Int.emod_lt_of_pos (drawF (drawS σ 2)) (by omega : 0 < wSum σ (σ 2 (184 + 26 * f + 5)) (σ 2 1752).toNat)
        have hm0 := Int.emod_nonneg (drawF (drawS σ 2)) (by omega : wSum σ (σ 2 (184 + 26 * f + 5)) (σ 2 1752).toNat ≠ 0)
        have hp := wPick_r (σ := σ) (q := σ 2 (184 + 26 * f + 5)) (m := σ 2 1752) (by omega) (fun k a b => (hww k a b).1) 8 _ 0 (by omega) (by omega) hm0 (by rw [wTail_all]; exact hm1)
        have o2 : ∀ i, ¬ (184 + 26 * f ≤ i ∧ i < 184 + 26 * f + 26) → i ≠ 1751 → drawS (drawS (fall2 σ f)) 2 i = σ 2 i := fun i a n => (drawS_o n).trans ((drawS_o n).trans (fall2_e a))
        have o3 : drawS (drawS (fall2 σ f)) 2 (184 + 26 * f + 16) = σ 2 (184 + 26 * f + 16) := (drawS_o (by omega)).trans ((drawS_o (by omega)).trans (fall2_o _ _ _ (by omega) (by omega)))
        refine ⟨KG_flask h hf0 hf1 (fun i a n => (fallG_e (by omega) a).trans (o2 i a n)) ?_ (fallG_k hf0 hf40 ?_ ?_ (by omega) o3.symm (by omega) (drawS_k hf40 (drawS_k hf40 k2))), fun i a n => (fallG_e (by omega) a).trans (o2 i a n)⟩
        · rw [fallG_e (by omega) (by omega), drawS_d]
          exact r2
        · rw [o2 _ (by omega) (by omega)]
          exact hp
        · exact (o2 _ (by omega) (by omega)).symm
theorem byF_r {σ : St} {f m : Int} (hg : ∀ g, 0 ≤ g → g < σ 2 (184 + 26 * f + 16) → 0 ≤ σ 2 (184 + 26 * f + (17 + 2 * g)) ∧ σ 2 (184 + 26 * f + (17 + 2 * g)) < m) : ∀ n : Nat, (n : Int) ≤ σ 2 (184 + 26 * f + 16) → byF σ f n = -1 ∨ (0 ≤ byF σ f n ∧ byF σ f n < m)
  | 0, _ => Or.inl rfl
  | n + 1, hn => by
    have ih := byF_r hg n (by omega)
    have := hg n (by omega) (by omega)
    rw [byF]
    split
    · split
      · exact Or.inr this
      · exact Or.inl rfl
    · exact ih
theorem turnsF_o {σ : St} {f i : Int} (h : i ≠ 184 + 26 * f + 13 ∧ i ≠ 184 + 26 * f + 14 ∧ i ≠ 184 + 26 * f + 15) : turnsF σ f 2 i = σ 2 i := by
  unfold turnsF
  split
  · rfl
  · split
    · rfl
    · unfold ss
      rw [st_i h.2.2, st_i h.2.1, st_i h.1]
/-- a turn keeps the row -/
theorem turnsF_ok {σ : St} {β : Int → Int} {f : Int} (h : KG (σ 2) β) (hf0 : 0 ≤ f) (hf1 : f < σ 2 1753) : KG (turnsF σ f 2) (fun j => if j = f then β f else β j) ∧ ∀ i, ¬ (184 + 26 * f ≤ i ∧ i < 184 + 26 * f + 26) → turnsF σ f 2 i = σ 2 i := by
  have b0 := h.c
  unfold kCnt at b0
  have hf40 : f < 40 := by omega
  have hk := h.f f hf0 hf1
  have o := fun i (a : ¬ (184 + 26 * f ≤ i ∧ i < 184 + 26 * f + 26)) => turnsF_o (σ := σ) (f := f) (i := i) ⟨by omega, by omega, by omega⟩
  refine ⟨KG_flask h hf0 hf1 (fun i a _ => o i a) (by rw [o _ (by omega)]; omega) ?_, o⟩
  have e := fun x (h0 : x ≠ 13) (h1 : x ≠ 14) (h2 : x ≠ 15) => turnsF_o (σ := σ) (f := f) (i := 184 + 26 * f + x) ⟨by omega, by omega, by omega⟩
  have c0 := o 1750 (by omega)
  have c2 := o 1752 (by omega)
  have E0 := e 0 (by omega) (by omega) (by omega)
  have E1 := e 1 (by omega) (by omega) (by omega)
  have E2 := e 2 (by omega) (by omega) (by omega)
  have E3 := e 3 (by omega) (by omega) (by omega)
  have E4 := e 4 (by omega) (by omega) (by omega)
  have E5 := e 5 (by omega) (by omega) (by omega)
  have E6 := e 6 (by omega) (by omega) (by omega)
  have E7 := e 7 (by omega) (by omega) (by omega)
  have E8 := e 8 (by omega) (by omega) (by omega)
  have E9 := e 9 (by omega) (by omega) (by omega)
  have E10 := e 10 (by omega) (by omega) (by omega)
  have E11 := e 11 (by omega) (by omega) (by omega)
  have E12 := e 12 (by omega) (by omega) (by omega)
  have E16 := e 16 (by omega) (by omega) (by omega)
  have hk2 := hk
  unfold kFlask fl at hk
  obtain ⟨h0, h1, h2, h3, h4, h5, h6, h7, h8, h9, h10, h11, h12, h13, h14, h15, h16, hgg⟩ := hk
  have hby := byF_r (σ := σ) (f := f) (m := σ 2 1752) (fun g a b => (hgg g a b).1) (σ 2 (184 + 26 * f + 16)).toNat (by omega)
  have v13 : 0 ≤ turnsF σ f 2 (184 + 26 * f + 13) ∧ turnsF σ f 2 (184 + 26 * f + 13) ≤ 1 := by
    unfold turnsF
    split
    · exact h13
    · split
      · exact h13
      · unfold ss
        rw [st_i (by omega), st_i (by omega), st_s]
        omega
  have v14 : -1 ≤ turnsF σ f 2 (184 + 26 * f + 14) ∧ turnsF σ f 2 (184 + 26 * f + 14) < σ 2 1752 := by
    unfold turnsF
    split
    · exact h14
    · split
      · exact h14
      · unfold ss
        rw [st_i (by omega), st_s]
        show -1 ≤ byF σ f _ ∧ byF σ f _ < _
        omega
  have v15 : -1 ≤ turnsF σ f 2 (184 + 26 * f + 15) ∧ turnsF σ f 2 (184 + 26 * f + 15) ≤ σ 2 1750 := by
    unfold turnsF
    split
    · exact h15
    · split
      · exact h15
      · unfold ss
        rw [st_s]
        omega
  unfold kFlask fl
  refine ⟨by omega, by omega, by omega, by omega, by omega, by omega, by omega, by omega, by omega, by omega, by omega, by omega, by omega, by omega, by omega, by omega, by omega, fun g a c => ?_⟩
  rw [e (17 + 2 * g) (by omega) (by omega) (by omega), e (17 + 2 * g + 1) (by omega) (by omega) (by omega), c0, c2]
  exact hgg g a (by omega)
theorem kFlask_up {κ κ' : Int → Int} {f b b' : Int} (hf0 : 0 ≤ f) (hf1 : f < 40) (e : ∀ i, i ≠ 1750 → κ' i = κ i) (h50 : κ 1750 ≤ κ' 1750) (hb : b ≤ b') (h : kFlask κ f b) : kFlask κ' f b' := by
  have e' := fun x (h : x < 100) => e (184 + 26 * f + x) (by omega)
  have E0 := e' 0 (by omega)
  have E1 := e' 1 (by omega)
  have E2 := e' 2 (by omega)
  have E3 := e' 3 (by omega)
  have E4 := e' 4 (by omega)
  have E5 := e' 5 (by omega)
  have E6 := e' 6 (by omega)
  have E7 := e' 7 (by omega)
  have E8 := e' 8 (by omega)
  have E9 := e' 9 (by omega)
  have E10 := e' 10 (by omega)
  have E11 := e' 11 (by omega)
  have E12 := e' 12 (by omega)
  have E13 := e' 13 (by omega)
  have E14 := e' 14 (by omega)
  have E15 := e' 15 (by omega)
  have E16 := e' 16 (by omega)
  have c2 := e 1752 (by omega)
  unfold kFlask fl at h ⊢
  obtain ⟨h0, h1, h2, h3, h4, h5, h6, h7, h8, h9, h10, h11, h12, h13, h14, h15, h16, hgg⟩ := h
  refine ⟨by omega, by omega, by omega, by omega, by omega, by omega, by omega, by omega, by omega, by omega, by omega, by omega, by omega, by omega, by omega, by omega, by omega, fun g a c => ?_⟩
  have h1 := hgg g a (by omega)
  rw [e' (17 + 2 * g) (by omega), e' (17 + 2 * g + 1) (by omega), c2]
  omega
theorem KG_w {κ β β' : Int → Int} (h : KG κ β) (hb : ∀ f, 0 ≤ f → f < κ 1753 → β f ≤ β' f) : KG κ β' := by
  have b0 := h.c
  unfold kCnt at b0
  exact ⟨h.c, h.b, h.l, h.w, h.k, fun f h0 h1 => kFlask_up h0 (by omega) (fun _ _ => rfl) (Int.le_refl _) (hb f h0 h1) (h.f f h0 h1), h.o, h.t, h.u⟩
def dayL (σ : St) : Nat → St
  | 0 => σ
  | n + 1 => turnsF (fallsF (dayL σ n) n) n
theorem dayL_s {σ : St} {j : Int} (h : 0 ≤ j) : dayL σ (j + 1).toNat = turnsF (fallsF (dayL σ j.toNat) j) j := by
  rw [show (j + 1).toNat = j.toNat + 1 by omega, dayL, Int.toNat_of_nonneg h]
theorem dayL_ok {σ : St} (hI : KI (σ 2)) : ∀ n : Nat, (n : Int) ≤ σ 2 1753 → KG (dayL σ n 2) (fun q => if q < n then σ 2 1750 + 1 else σ 2 1750) ∧ ∀ i, i < 184 ∨ 1224 ≤ i → i ≠ 1751 → dayL σ n 2 i = σ 2 i
  | 0, _ => ⟨KG_w hI (fun f h0 _ => by show σ 2 1750 ≤ (if f < ((0 : Nat) : Int) then _ else _); rw [if_neg (by omega)]; exact Int.le_refl _), fun _ _ _ => rfl⟩
  | n + 1, hn => by
    have b0 := hI.c
    unfold kCnt at b0
    obtain ⟨h1, h2⟩ := dayL_ok hI n (by omega)
    have e53 := h2 1753 (by omega) (by omega)
    obtain ⟨f1, f2⟩ := fallsF_ok (f := n) h1 (by omega) (by omega)
    have e53' := f2 1753 (by omega) (by omega)
    obtain ⟨t1, t2⟩ := turnsF_ok (f := n) f1 (by omega) (by omega)
    refine ⟨KG_w t1 (fun f h0 _ => ?_), fun i a b => ?_⟩
    · show (if f = n then (if (n : Int) = n then (if (n : Int) < n then σ 2 1750 + 1 else σ 2 1750) + 1 else _) else (if f = n then _ else (if f < n then σ 2 1750 + 1 else σ 2 1750))) ≤ (if f < ((n + 1 : Nat) : Int) then _ else _)
      by_cases q : f = n
      · rw [if_pos q, if_pos rfl, if_neg (by omega), if_pos (by omega)]
        exact Int.le_refl _
      · rw [if_neg q, if_neg q]
        by_cases z : f < n
        · rw [if_pos z, if_pos (by omega)]
          exact Int.le_refl _
        · rw [if_neg z, if_neg (by omega)]
          exact Int.le_refl _
    · show turnsF _ _ 2 i = _
      rw [t2 i (by omega), f2 i (by omega) b]
      exact h2 i a b
def dayE (τ : St) : St := st (dayL τ (τ 2 1753).toNat) 2 1750 (τ 2 1750 + 1)
def goL (σ : St) : Nat → St
  | 0 => σ
  | n + 1 => dayE (goL σ n)
theorem goL_s {σ : St} {j : Int} (h : 0 ≤ j) : goL σ (j + 1).toNat = dayE (goL σ j.toNat) := by
  rw [show (j + 1).toNat = j.toNat + 1 by omega, goL]
theorem dayE_ok {τ : St} (hI : KI (τ 2)) (h : τ 2 1750 < 399) : KI (dayE τ 2) ∧ dayE τ 2 1750 = τ 2 1750 + 1 ∧ dayE τ 2 1753 = τ 2 1753 := by
  have b0 := hI.c
  unfold kCnt at b0
  obtain ⟨g, o⟩ := dayL_ok hI (τ 2 1753).toNat (by omega)
  have e : ∀ i, i ≠ 1750 → dayE τ 2 i = dayL τ (τ 2 1753).toNat 2 i := fun i a => st_i a
  have e50 : dayE τ 2 1750 = τ 2 1750 + 1 := st_s
  have e53 : dayE τ 2 1753 = τ 2 1753 := (e _ (by omega)).trans (o _ (by omega) (by omega))
  have g0 := g.c
  unfold kCnt at g0
  refine ⟨⟨?_, kBroth_cg (fun i a b => e i (by omega)) g.b, kLets_cg (fun i a b => e i (by omega)) g.l, kWeights_cg (fun i a b => e i (by omega)) (e _ (by omega)) g.w, kKinds_cg (fun i a b => e i (by omega)) (e _ (by omega)) (by omega) g.k, fun f h0 h1 => ?_, kLooks_cg (fun i a b => e i (by omega)) (e _ (by omega)) (by omega) g.o, kTrials_cg (fun i a b => e i (by omega)) (e _ (by omega)) (by omega) g.t, kCourts_cg (fun i a b => e i (by omega)) (e _ (by omega)) (e _ (by omega)) (by omega) g.u⟩, e50, e53⟩
  · unfold kCnt
    rw [e50, e 1751 (by omega), e 1752 (by omega), e 1753 (by omega), e 1754 (by omega), e 1755 (by omega), e 1756 (by omega), e 1757 (by omega)]
    omega
  · rw [e53] at h1
    have e50' := o 1750 (by omega) (by omega)
    have hk := g.f f h0 (by rw [o 1753 (by omega) (by omega)]; exact h1)
    refine kFlask_up h0 (by omega) e (by omega) ?_ hk
    show (if f < (((τ 2 1753).toNat : Nat) : Int) then _ else _) ≤ _
    rw [if_pos (by omega), e50]
    exact Int.le_refl _
theorem goL_ok {σ : St} (hI : KI (σ 2)) : ∀ n : Nat, σ 2 1750 + n ≤ 399 → KI (goL σ n 2) ∧ goL σ n 2 1750 = σ 2 1750 + n ∧ goL σ n 2 1753 = σ 2 1753
  | 0, _ => ⟨hI, by show σ 2 1750 = _; omega, rfl⟩
  | n + 1, hn => by
    obtain ⟨h1, h2, h3⟩ := goL_ok hI n (by omega)
    obtain ⟨g1, g2, g3⟩ := dayE_ok h1 (by omega)
    exact ⟨g1, by show dayE (goL σ n) 2 1750 = _; omega, by show dayE (goL σ n) 2 1753 = _; omega⟩
def goF (σ : St) (d : Int) : Int × St := if (1 ≤ d ∧ d ≤ 100) ∧ σ 2 1750 + d < 400 then (σ 2 1750 + d, goodS (goL σ d.toNat)) else (-1, refS σ (-1))
