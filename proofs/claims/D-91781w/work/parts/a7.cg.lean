/-! a kept text means what its own places say -/
theorem bcg {α β : Type} {o o' : Option α} {f f' : α → Option β} (h : o = o') (hf : ∀ r, o = some r → f r = f' r) : o.bind f = o'.bind f' := by
  subst h
  cases o with
  | none => rfl
  | some r => exact hf r rfl
theorem mcg {α β : Type} {o o' : Option α} {f : α → β} (h : o = o') : o.map f = o'.map f := by rw [h]
section CG
variable {C C' V V' : Int → Int} {a E : Int}
theorem lpM_cg (h0 : ∀ k, E ≤ k → C k = 0) (hCC : ∀ k, a ≤ k → C k = C' k) {c1 c2 : Int} {cb : Int → Mean → Mean → Mean} {b b' : Int → Option (Mean × Int)} (h1 : c1 ≠ 0) (h2 : c2 ≠ 0) (hb : ∀ i, a ≤ i → i ≤ E → b i = b' i) (hl : ∀ i r, i ≤ E → b i = some r → i < r.2 ∧ r.2 ≤ E) : ∀ (k : Nat) (f : Mean) (i : Int), a ≤ i → i ≤ E → lpM C c1 c2 cb b k f i = lpM C' c1 c2 cb b' k f i
  | 0, f, i, _, _ => by rw [lpM, lpM]
  | k + 1, f, i, hi, hE => by
    rw [lpM, lpM, ← hCC i hi]
    by_cases q : C i = c1 ∨ C i = c2
    · rw [if_pos q, if_pos q]
      have hlt : i < E := by
        rcases Int.lt_or_le i E with z | z
        · exact z
        · have := h0 i z
          rcases q with q | q
          · exact absurd (q.symm.trans this) h1
          · exact absurd (q.symm.trans this) h2
      refine bcg (hb _ (by omega) (by omega)) (fun r e => ?_)
      have := hl _ _ (by omega) e
      exact lpM_cg h0 hCC h1 h2 hb hl k _ _ (by omega) this.2
    · rw [if_neg q, if_neg q]
theorem ntM_cg (h0 : ∀ k, E ≤ k → C k = 0) (hCC : ∀ k, a ≤ k → C k = C' k) : ∀ (k : Nat) (q : Bool) (i : Int), a ≤ i → i ≤ E → ntM C k q i = ntM C' k q i
  | 0, q, i, _, _ => by rw [ntM, ntM]
  | k + 1, q, i, hi, hE => by
    rw [ntM, ntM, ← hCC i hi]
    by_cases c : C i = 9
    · rw [if_pos c, if_pos c]
      have hlt : i < E := by
        rcases Int.lt_or_le i E with z | z
        · exact z
        · have := h0 i z; omega
      exact ntM_cg h0 hCC k _ _ (by omega) (by omega)
    · rw [if_neg c, if_neg c]
theorem mn_cg (h0 : ∀ k, E ≤ k → C k = 0) (hCC : ∀ k, a ≤ k → C k = C' k) (hVV : ∀ k, a ≤ k → k < E → V k = V' k) : ∀ (n mode : Nat) (i : Int), a ≤ i → i ≤ E → mn C V n mode i = mn C' V' n mode i
  | 0, _, _, _, _ => by rw [mn, mn]
  | n + 1, mode, i, hi, hE => by
    have ih := mn_cg h0 hCC hVV n
    have le := fun mode i r => mn_le (C := C) (V := V) (E := E) h0 n mode i r
    have nz : ∀ k, k ≤ E → C k ≠ 0 → k < E := fun k hk c => by
      rcases Int.lt_or_le k E with z | z
      · exact z
      · exact absurd (h0 k z) c
    match mode with
    | 0 =>
      simp only [mn]
      rw [← hCC i hi]
      by_cases c : C i = 191
      · rw [if_pos c, if_pos c]
        have := nz i hE (by omega)
        refine bcg (ih 2 _ (by omega) (by omega)) (fun r e => ?_)
        have := le 2 _ r (by omega) e
        rw [← hCC r.2 (by omega)]
      · rw [if_neg c, if_neg c]
        by_cases d : C i = 50 ∨ (17 ≤ C i ∧ C i ≤ 24)
        · rw [if_pos d, if_pos d, hVV i hi (nz i hE (by omega))]
        · rw [if_neg d, if_neg d]
    | 1 =>
      simp only [mn]
      refine bcg (ih 0 _ hi hE) (fun r e => ?_)
      have := le 0 _ r hE e
      exact lpM_cg h0 hCC (by omega) (by omega) (fun j => ih 0 j) (fun j r => le 0 j r) _ _ _ (by omega) this.2
    | 2 =>
      simp only [mn]
      refine bcg (ih 1 _ hi hE) (fun r e => ?_)
      have := le 1 _ r hE e
      exact lpM_cg h0 hCC (by omega) (by omega) (fun j => ih 1 j) (fun j r => le 1 j r) _ _ _ (by omega) this.2
    | 3 =>
      simp only [mn]
      refine bcg (ntM_cg h0 hCC _ _ _ hi hE) (fun q e => ?_)
      have := ntM_le h0 _ _ _ q hE e
      exact mcg (ih 6 _ (by omega) this.2)
    | 4 =>
      simp only [mn]
      refine bcg (ih 3 _ hi hE) (fun r e => ?_)
      have := le 3 _ r hE e
      exact lpM_cg h0 hCC (by omega) (by omega) (fun j => ih 3 j) (fun j r => le 3 j r) _ _ _ (by omega) this.2
    | 5 =>
      simp only [mn]
      refine bcg (ih 4 _ hi hE) (fun r e => ?_)
      have := le 4 _ r hE e
      exact lpM_cg h0 hCC (by omega) (by omega) (fun j => ih 4 j) (fun j r => le 4 j r) _ _ _ (by omega) this.2
    | m + 6 =>
      simp only [mn]
      rw [← hCC i hi]
      by_cases c : C i = 140
      · rw [if_pos c, if_pos c]
        have := nz i hE (by omega)
        refine bcg (ih 5 _ (by omega) (by omega)) (fun r e => ?_)
        have := le 5 _ r (by omega) e
        rw [← hCC r.2 (by omega)]
      · rw [if_neg c, if_neg c]
        by_cases d : 10 ≤ C i ∧ C i ≤ 16
        · rw [if_pos d, if_pos d]
        · rw [if_neg d, if_neg d]
          refine bcg (ih 2 _ hi hE) (fun r e => ?_)
          have := le 2 _ r hE e
          rw [← hCC r.2 (by omega)]
          by_cases g : C r.2 = 160 ∨ C r.2 = 161 ∨ C r.2 = 162
          · rw [if_pos g, if_pos g]
            have := nz r.2 (by omega) (by omega)
            exact mcg (ih 2 _ (by omega) (by omega))
          · rw [if_neg g, if_neg g]
theorem clP_le (h0 : ∀ k, E ≤ k → C k = 0) {i j : Int} {c : Cl} (hi : i < E) (e1 : clP C V i = some (c, j)) : i < j ∧ j ≤ E := by
  obtain ⟨s, i1, w, e4, e5, e6⟩ := clP_y e1
  have h1 : i < i1 ∧ i1 ≤ E := by
    split at e4
    · obtain ⟨r1, e7, e8⟩ := Option.map_eq_some_iff.mp e4
      have := mn_le h0 _ _ _ _ (by omega) e7
      have e9 := (Prod.mk.inj e8).2
      omega
    · have e9 := (Prod.mk.inj (Option.some.inj e4)).2
      omega
  split at e5
  · obtain ⟨r1, e7, e8⟩ := Option.map_eq_some_iff.mp e5
    rename_i q6
    have : i1 < E := by
      rcases Int.lt_or_le i1 E with z2 | z2
      · exact z2
      · rw [h0 _ z2] at q6; omega
    have := mn_le h0 _ _ _ _ (by omega) e7
    have e9 := (Prod.mk.inj e8).2
    omega
  · have e9 := (Prod.mk.inj (Option.some.inj e5)).2
    omega
theorem clP_cg (h0 : ∀ k, E ≤ k → C k = 0) (hCC : ∀ k, a ≤ k → C k = C' k) (hVV : ∀ k, a ≤ k → k < E → V k = V' k) {i : Int} (hi : a ≤ i) (hE : i < E) : clP C V i = clP C' V' i := by
  unfold clP
  rw [← hCC i hi]
  have e1 : (if C i = 3 ∨ C i = 4 then (mn C V 60 2 (i + 1)).map (fun r => (some r.1, r.2)) else some (none, i + 1)) = (if C i = 3 ∨ C i = 4 then (mn C' V' 60 2 (i + 1)).map (fun r => (some r.1, r.2)) else some (none, i + 1)) := by rw [mn_cg h0 hCC hVV 60 2 (i + 1) (by omega) (by omega)]
  refine bcg e1 (fun q e => ?_)
  have hq : i < q.2 ∧ q.2 ≤ E := by
    split at e
    · obtain ⟨r1, e7, e8⟩ := Option.map_eq_some_iff.mp e
      have := mn_le h0 _ _ _ _ (by omega) e7
      rw [← e8]
      show i < r1.2 ∧ r1.2 ≤ E
      omega
    · cases e
      show i < i + 1 ∧ i + 1 ≤ E
      omega
  rw [← hCC q.2 (by omega)]
  by_cases c : C q.2 = 6
  · have : q.2 < E := by
      rcases Int.lt_or_le q.2 E with z2 | z2
      · exact z2
      · rw [h0 _ z2] at c; omega
    rw [if_pos c, if_pos c, mn_cg h0 hCC hVV 60 5 (q.2 + 1) (by omega) (by omega)]
  · rw [if_neg c, if_neg c]
theorem clsP_cg (h0 : ∀ k, E ≤ k → C k = 0) (hCC : ∀ k, a ≤ k → C k = C' k) (hVV : ∀ k, a ≤ k → k < E → V k = V' k) : ∀ (n : Nat) (i : Int), a ≤ i → clsP C V E n i = clsP C' V' E n i
  | 0, _, _ => by rw [clsP, clsP]
  | n + 1, i, hi => by
    rw [clsP, clsP]
    by_cases c : i < E
    · rw [if_pos c, if_pos c]
      refine bcg (clP_cg h0 hCC hVV hi c) (fun r e => ?_)
      have := clP_le h0 c (show clP C V i = some (r.1, r.2) from e)
      exact mcg (clsP_cg h0 hCC hVV n _ (by omega))
    · rw [if_neg c, if_neg c]
end CG
theorem tmP_cg {κ κ' : Int → Int} {x : Int} (hs : κ' (1758 + x) = κ (1758 + x)) (hc : ∀ k, 400 * x ≤ k → k < 400 * x + κ (1758 + x) → κ' (1770 + k) = κ (1770 + k)) (hv : ∀ k, 400 * x ≤ k → k < 400 * x + κ (1758 + x) → κ' (6570 + k) = κ (6570 + k)) : tmP κ' x = tmP κ x := by
  unfold tmP
  rw [hs]
  refine (clsP_cg (a := 400 * x) tmC_0 (fun k hk => ?_) (fun k hk hE => ?_) 402 _ (Int.le_refl _)).symm
  · unfold tmC
    rw [hs]
    by_cases c : k < 400 * x + κ (1758 + x)
    · rw [if_pos c, if_pos c, hc k hk c]
    · rw [if_neg c, if_neg c]
  · exact (hv k hk hE).symm
theorem tm_cg {κ κ' : Int → Int} {x : Int} (hs : κ' (1758 + x) = κ (1758 + x)) (hc : ∀ k, 400 * x ≤ k → k < 400 * x + κ (1758 + x) → κ' (1770 + k) = κ (1770 + k)) (hv : ∀ k, 400 * x ≤ k → k < 400 * x + κ (1758 + x) → κ' (6570 + k) = κ (6570 + k)) : tm κ' x = tm κ x := by
  unfold tm
  rw [tmP_cg hs hc hv]
