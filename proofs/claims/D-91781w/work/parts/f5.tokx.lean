/-! THE COMPONENT'S READER at the model's tokens -/
def rC (σ : St) (t : Nat) : Int → Int := cutE σ (σ 9 0) t 11
def rV (σ : St) (t : Nat) : Int → Int := cutE σ (σ 9 0) t 12
def rL (σ : St) (t : Nat) : Int → Int := cutE σ (σ 9 0) t 13
def rE (σ : St) (t : Nat) (i : Int) : Int := if i = t then σ 9 0 else enT (σ 7) (σ 9 0) (ps (σ 7) (σ 9 0) i.toNat)
def enX (σ : St) (k : Int) : Int := if k = σ 9 0 then k else enT (σ 7) (σ 9 0) k
def TE (σ : St) (t : Nat) : Prop := TokN (σ 7) (σ 9 0) t ∧ (0 ≤ σ 9 0 ∧ σ 9 0 ≤ 400) ∧ ∀ i, -128 ≤ σ 7 i ∧ σ 7 i < 128
section TKX
variable {σ : St} {t : Nat} {i : Int}
theorem TE.tk (h : TE σ t) : TK (rC σ t) (rV σ t) (rL σ t) t := cutE_TK h.1 h.2.1.2
theorem rL_i (h : TE σ t) (h0 : 0 ≤ i) (h1 : i ≤ t) : rL σ t i = ps (σ 7) (σ 9 0) i.toNat := by
  unfold rL
  rw [cutE_13 h0 h1]
  by_cases q : i = t
  · rw [if_pos q, q, Int.toNat_natCast]
    exact h.1.2.2.symm
  · rw [if_neg q]
theorem rC_i (h : TE σ t) (h0 : 0 ≤ i) (h1 : i < t) : rC σ t i = cdAt (σ 7) (σ 9 0) (rL σ t i) := by
  rw [rL_i h h0 (by omega)]
  unfold rC
  rw [cutE_11 h0 (by omega), if_neg (by omega)]
theorem rV_i (h : TE σ t) (h0 : 0 ≤ i) (h1 : i < t) : rV σ t i = vlAt (σ 7) (σ 9 0) (rL σ t i) := by
  rw [rL_i h h0 (by omega)]
  unfold rV
  rw [cutE_12 h0 (by omega), if_neg (by omega)]
theorem rC_t (h : TE σ t) : rC σ t t = 0 := by
  unfold rC
  rw [cutE_11 (by omega) (by omega), if_pos rfl]
theorem rE_i (h : TE σ t) (h0 : 0 ≤ i) (h1 : i < t) : rE σ t i = enT (σ 7) (σ 9 0) (rL σ t i) := by
  rw [rL_i h h0 (by omega)]
  unfold rE
  rw [if_neg (by omega)]
theorem tok_b (h : TE σ t) (h0 : 0 ≤ i) (h1 : i < t) : 0 ≤ rL σ t i ∧ rL σ t i < σ 9 0 := by
  rw [rL_i h h0 (by omega)]
  exact h.1.2.1 i.toNat (by omega)
theorem tok_t (h : TE σ t) : rL σ t t = σ 9 0 ∧ rE σ t t = σ 9 0 := by
  refine ⟨?_, if_pos rfl⟩
  rw [rL_i h (by omega) (by omega), Int.toNat_natCast]
  exact h.1.2.2
theorem tok_r (h : TE σ t) (h0 : 0 ≤ i) (h1 : i ≤ t) : 0 ≤ rL σ t i ∧ rL σ t i ≤ rE σ t i ∧ rE σ t i ≤ σ 9 0 ∧ (i < t → rL σ t i < rE σ t i ∧ rL σ t i < σ 9 0) := by
  have hn := h.2.1
  by_cases q : i = t
  · have := tok_t h
    rw [q]
    omega
  · have h2 : i < t := by omega
    have h3 := tok_b h h0 h2
    have h4 := enT_r (T := σ 7) h3.2
    rw [← rE_i h h0 h2] at h4
    omega
theorem tok_nx (h : TE σ t) (h0 : 0 ≤ i) (h1 : i < t) : sk (σ 7) (σ 9 0) (rE σ t i) = rL σ t (i + 1) ∧ enX σ (rL σ t (i + 1)) = rE σ t (i + 1) := by
  have e1 : sk (σ 7) (σ 9 0) (rE σ t i) = rL σ t (i + 1) := by
    rw [rL_i h (i := i + 1) (by omega) (by omega), rE_i h h0 h1, rL_i h h0 (by omega), show (i + 1).toNat = i.toNat + 1 by omega]
    rfl
  refine ⟨e1, ?_⟩
  unfold enX
  by_cases q : i + 1 = t
  · have := tok_t h
    rw [q, this.1, this.2, if_pos rfl]
  · have h3 := tok_b h (i := i + 1) (by omega) (by omega)
    rw [if_neg (by omega), rE_i h (by omega) (by omega)]
theorem tok_0 (h : TE σ t) : sk (σ 7) (σ 9 0) 0 = rL σ t 0 ∧ enX σ (rL σ t 0) = rE σ t 0 := by
  have e1 : sk (σ 7) (σ 9 0) 0 = rL σ t 0 := by
    rw [rL_i h (by omega) (by omega)]
    rfl
  refine ⟨e1, ?_⟩
  unfold enX
  by_cases q : (0 : Int) = t
  · have := tok_t h
    rw [← q] at this
    rw [this.1, this.2, if_pos rfl]
  · have h3 := tok_b h (i := 0) (by omega) (by omega)
    rw [if_neg (by omega), rE_i h (by omega) (by omega)]
/-- the token from F to T is the text k -/
abbrev tokX (σ : St) (F T : Int) (k : Nat) : Prop := T - F = sL k ∧ ∀ j : Nat, j < sL k → σ 7 (F + j) = sB k j
def cwL : List Int := [17, 18, 19, 20, 21, 22, 23, -7, 24, 10, 11, 12, 13, 14, 15, 16, 1, 2, 3, 4, 5, 159, 6, 7, 8, 9, 140, 141, 160, 162, 161, 143, 145, 142, 147, 191, 193]
def cw (k : Nat) : Int := cwL.getD k (-7)
theorem cw_tab : ∀ k, k < 37 → ((1 ≤ cw k ∧ cw k ≤ 24) ∧ wLen (cw k - 1).toNat = sL k ∧ lowP (sB k 0) ∧ ∀ j, j < 7 → j < sL k → wBy.getD (wOff (cw k - 1).toNat + j) 0 = sB k j) ∨ (cw k = -7 ∧ sL k = 6 ∧ ¬ lowP (sB k 0) ∧ ¬ digP (sB k 0)) ∨ (cw k = 100 + sB k 0 ∧ sL k = 1 ∧ ¬ lowP (sB k 0) ∧ ¬ digP (sB k 0) ∧ 0 ≤ sB k 0 ∧ sB k 0 < 128) := by decide +kernel
theorem w_uni : ∀ w, w < 24 → ∀ v, v < 24 → w ≠ v → wLen w ≠ wLen v ∨ ∃ j, j < 7 ∧ j < wLen w ∧ wBy.getD (wOff w + j) 0 ≠ wBy.getD (wOff v + j) 0 := by decide +kernel
theorem tokW_u {T : Int → Int} {a b : Int} {w v : Nat} (hw : w < 24) (hv : v < 24) (h1 : tokW T a b w) (h2 : tokW T a b v) : w = v := by
  rcases Nat.decEq w v with n | e
  · rcases w_uni w hw v hv n with z | ⟨j, -, j1, z⟩
    · have := h1.1; have := h2.1; omega
    · have e1 : wLen w = wLen v := by have := h1.1; have := h2.1; omega
      exact absurd ((h1.2 j j1).trans (h2.2 j (by omega)).symm) z
  · exact e
theorem wNo_f {T : Int → Int} {a b : Int} {w : Nat} (hw : w < 24) (h : tokW T a b w) : ∀ (m v : Nat), v + m = 24 → v ≤ w → wNo T a b m v = (w : Int) + 1
  | 0, v, e, hv => by omega
  | m + 1, v, e, hv => by
    rw [wNo]
    by_cases q : tokW T a b v
    · rw [if_pos q, tokW_u (by omega) hw q h]
    · rw [if_neg q]
      refine wNo_f hw h m (v + 1) (by omega) ?_
      rcases Nat.lt_or_ge v w with z | z
      · exact z
      · exact absurd ((show w = v by omega) ▸ h) q
theorem wNo_i {T : Int → Int} {a b : Int} {w : Nat} : ∀ (m v : Nat), wNo T a b m v = (w : Int) + 1 → tokW T a b w
  | 0, v, e => by
    rw [wNo] at e
    omega
  | m + 1, v, e => by
    rw [wNo] at e
    split at e
    · rename_i q
      rw [show w = v by omega]
      exact q
    · exact wNo_i m (v + 1) e
theorem wordNo_iff {T : Int → Int} {a b : Int} {w : Nat} (hw : w < 24) : wordNo T a b = (w : Int) + 1 ↔ tokW T a b w := ⟨fun e => wNo_i 24 0 e, fun h => wNo_f hw h 24 0 rfl (Nat.zero_le _)⟩
theorem tokX_c (h : TE σ t) (h0 : 0 ≤ i) (h1 : i ≤ t) {k : Nat} (hk : k < 37) : tokX σ (rL σ t i) (rE σ t i) k ↔ rC σ t i = cw k := by
  have tb := cw_tab k hk
  have sb := sL_b k hk
  by_cases q : i = t
  · have e := tok_t h
    rw [q, rC_t h]
    constructor
    · intro z
      have := z.1
      omega
    · intro z
      omega
  · have h2 : i < t := by omega
    have hb := tok_b h h0 h2
    have hr := h.2.2 (rL σ t i)
    have hw := wNo_r (T := σ 7) (a := rL σ t i) (b := rE σ t i) 24 0
    rw [rC_i h h0 h2]
    have z0 : tokX σ (rL σ t i) (rE σ t i) k → σ 7 (rL σ t i) = sB k 0 := fun z => by
      have := z.2 0 (by omega)
      rw [show rL σ t i + ((0 : Nat) : Int) = rL σ t i by omega] at this
      exact this
    unfold cdAt
    rw [← rE_i h h0 h2]
    by_cases l : lowP (σ 7 (rL σ t i))
    · rw [if_pos l]
      rcases tb with ⟨t1, t2, t3, t4⟩ | ⟨t1, t2, t3, t4⟩ | ⟨t1, t2, t3, t4, t5⟩
      · have e9 : cw k = (((cw k - 1).toNat : Nat) : Int) + 1 := by omega
        rw [e9, wordNo_iff (by omega)]
        constructor
        · intro z
          refine ⟨by have := z.1; omega, fun j hj => ?_⟩
          rw [t4 j (by omega) (by omega)]
          exact (z.2 j (by omega)).symm
        · intro z
          refine ⟨by have := z.1; omega, fun j hj => ?_⟩
          rw [← t4 j (by omega) hj]
          exact (z.2 j (by omega)).symm
      · constructor
        · intro z
          exact absurd (z0 z ▸ l) t3
        · intro z
          unfold wordNo at z
          omega
      · constructor
        · intro z
          exact absurd (z0 z ▸ l) t3
        · intro z
          unfold wordNo at z
          omega
    · rw [if_neg l]
      by_cases dg : digP (σ 7 (rL σ t i))
      · rw [if_pos dg]
        rcases tb with ⟨t1, t2, t3, t4⟩ | ⟨t1, t2, t3, t4⟩ | ⟨t1, t2, t3, t4, t5⟩
        · exact ⟨fun z => absurd (z0 z ▸ t3) l, fun z => by omega⟩
        · exact ⟨fun z => absurd (z0 z ▸ dg) t4, fun z => by omega⟩
        · exact ⟨fun z => absurd (z0 z ▸ dg) t4, fun z => by omega⟩
      · rw [if_neg dg]
        have eb : rE σ t i = rL σ t i + 1 := by
          rw [rE_i h h0 h2]
          unfold enT
          rw [if_neg l, if_neg dg]
        rcases tb with ⟨t1, t2, t3, t4⟩ | ⟨t1, t2, t3, t4⟩ | ⟨t1, t2, t3, t4, t5⟩
        · exact ⟨fun z => absurd (z0 z ▸ t3) l, fun z => by omega⟩
        · exact ⟨fun z => by have := z.1; omega, fun z => by omega⟩
        · constructor
          · intro z
            have := z0 z
            omega
          · intro z
            refine ⟨by omega, fun j hj => ?_⟩
            rw [show j = 0 by omega, show rL σ t i + ((0 : Nat) : Int) = rL σ t i by omega]
            omega
/-- the number of the text that the token is, among N texts from o on -/
def whX (σ : St) (F T : Int) (o : Nat) : Nat → Nat → Int
  | 0, _ => -1
  | m + 1, k => if tokX σ F T (o + k) then (k : Int) else whX σ F T o m (k + 1)
theorem whX_s (h : TE σ t) (h0 : 0 ≤ i) (h1 : i ≤ t) {o m k : Nat} (hk : o + k < 37) : whX σ (rL σ t i) (rE σ t i) o (m + 1) k = if rC σ t i = cw (o + k) then (k : Int) else whX σ (rL σ t i) (rE σ t i) o m (k + 1) := by
  rw [whX]
  by_cases q : rC σ t i = cw (o + k)
  · rw [if_pos q, if_pos ((tokX_c h h0 h1 hk).mpr q)]
  · rw [if_neg q, if_neg (fun z => q ((tokX_c h h0 h1 hk).mp z))]
theorem wh_w (h : TE σ t) (h0 : 0 ≤ i) (h1 : i ≤ t) : whX σ (rL σ t i) (rE σ t i) 0 9 0 = if 17 ≤ rC σ t i ∧ rC σ t i ≤ 23 then rC σ t i - 17 else if rC σ t i = 24 then 8 else -1 := by
  have hc : 0 ≤ rC σ t i := (h.tk.2.2 i h0 h1).1.1
  rw [whX_s h h0 h1 (by decide), whX_s h h0 h1 (by decide), whX_s h h0 h1 (by decide), whX_s h h0 h1 (by decide), whX_s h h0 h1 (by decide), whX_s h h0 h1 (by decide), whX_s h h0 h1 (by decide), whX_s h h0 h1 (by decide), whX_s h h0 h1 (by decide), whX]
  rw [show cw (0 + 0) = 17 from rfl, show cw (0 + (0 + 1)) = 18 from rfl, show cw (0 + (0 + 1 + 1)) = 19 from rfl, show cw (0 + (0 + 1 + 1 + 1)) = 20 from rfl, show cw (0 + (0 + 1 + 1 + 1 + 1)) = 21 from rfl, show cw (0 + (0 + 1 + 1 + 1 + 1 + 1)) = 22 from rfl, show cw (0 + (0 + 1 + 1 + 1 + 1 + 1 + 1)) = 23 from rfl, show cw (0 + (0 + 1 + 1 + 1 + 1 + 1 + 1 + 1)) = -7 from rfl, show cw (0 + (0 + 1 + 1 + 1 + 1 + 1 + 1 + 1 + 1)) = 24 from rfl]
  repeat' split
  all_goals omega
theorem wh_f (h : TE σ t) (h0 : 0 ≤ i) (h1 : i ≤ t) : whX σ (rL σ t i) (rE σ t i) 9 7 0 = if 10 ≤ rC σ t i ∧ rC σ t i ≤ 16 then rC σ t i - 10 else -1 := by
  rw [whX_s h h0 h1 (by decide), whX_s h h0 h1 (by decide), whX_s h h0 h1 (by decide), whX_s h h0 h1 (by decide), whX_s h h0 h1 (by decide), whX_s h h0 h1 (by decide), whX_s h h0 h1 (by decide), whX]
  rw [show cw (9 + 0) = 10 from rfl, show cw (9 + (0 + 1)) = 11 from rfl, show cw (9 + (0 + 1 + 1)) = 12 from rfl, show cw (9 + (0 + 1 + 1 + 1)) = 13 from rfl, show cw (9 + (0 + 1 + 1 + 1 + 1)) = 14 from rfl, show cw (9 + (0 + 1 + 1 + 1 + 1 + 1)) = 15 from rfl, show cw (9 + (0 + 1 + 1 + 1 + 1 + 1 + 1)) = 16 from rfl]
  repeat' split
  all_goals omega
theorem wh_h (h : TE σ t) (h0 : 0 ≤ i) (h1 : i ≤ t) : whX σ (rL σ t i) (rE σ t i) 16 5 0 = if 1 ≤ rC σ t i ∧ rC σ t i ≤ 5 then rC σ t i - 1 else -1 := by
  rw [whX_s h h0 h1 (by decide), whX_s h h0 h1 (by decide), whX_s h h0 h1 (by decide), whX_s h h0 h1 (by decide), whX_s h h0 h1 (by decide), whX]
  rw [show cw (16 + 0) = 1 from rfl, show cw (16 + (0 + 1)) = 2 from rfl, show cw (16 + (0 + 1 + 1)) = 3 from rfl, show cw (16 + (0 + 1 + 1 + 1)) = 4 from rfl, show cw (16 + (0 + 1 + 1 + 1 + 1)) = 5 from rfl]
  repeat' split
  all_goals omega
end TKX
section TKY
variable {σ : St} {t : Nat} {i : Int}
theorem tok_d (h : TE σ t) (h0 : 0 ≤ i) (h1 : i ≤ t) : rC σ t i = 50 ↔ rL σ t i < σ 9 0 ∧ digP (σ 7 (rL σ t i)) := by
  by_cases q : i = t
  · have e := tok_t h
    rw [q, rC_t h]
    omega
  · have h2 : i < t := by omega
    have hb := tok_b h h0 h2
    have hw := wNo_r (T := σ 7) (a := rL σ t i) (b := rE σ t i) 24 0
    have hr := h.2.2 (rL σ t i)
    rw [rC_i h h0 h2]
    unfold cdAt
    rw [← rE_i h h0 h2]
    unfold wordNo
    by_cases l : lowP (σ 7 (rL σ t i))
    · rw [if_pos l]; omega
    · rw [if_neg l]
      by_cases dg : digP (σ 7 (rL σ t i))
      · rw [if_pos dg]; omega
      · rw [if_neg dg]; omega
/-- a sign's byte -/
theorem tok_s (h : TE σ t) (h0 : 0 ≤ i) (h1 : i ≤ t) (hc : 100 ≤ rC σ t i ∧ rC σ t i < 228) : i < t ∧ rL σ t i < σ 9 0 ∧ σ 7 (rL σ t i) = rC σ t i - 100 := by
  by_cases q : i = t
  · rw [q, rC_t h] at hc
    omega
  · have h2 : i < t := by omega
    have hb := tok_b h h0 h2
    have hw := wNo_r (T := σ 7) (a := rL σ t i) (b := rE σ t i) 24 0
    have hr := h.2.2 (rL σ t i)
    refine ⟨h2, hb.2, ?_⟩
    rw [rC_i h h0 h2] at hc ⊢
    unfold cdAt at hc ⊢
    rw [← rE_i h h0 h2] at hc ⊢
    unfold wordNo at hc ⊢
    by_cases l : lowP (σ 7 (rL σ t i))
    · rw [if_pos l] at hc; omega
    · rw [if_neg l] at hc ⊢
      by_cases dg : digP (σ 7 (rL σ t i))
      · rw [if_pos dg] at hc; omega
      · rw [if_neg dg] at hc ⊢; omega
/-- no token is no word -/
theorem tok_z (h : TE σ t) (h0 : 0 ≤ i) (h1 : i ≤ t) (hc : rC σ t i ≠ 0) : i < t := by
  rcases Int.lt_or_le i t with z | z
  · exact z
  · rw [show i = t by omega, rC_t h] at hc
    exact absurd rfl hc
theorem tok_v (h : TE σ t) (h0 : 0 ≤ i) (h1 : i ≤ t) (hc : rC σ t i = 50) : rV σ t i = vlN (σ 7) (rL σ t i) (rE σ t i - rL σ t i).toNat ∧ ∀ j : Int, rL σ t i ≤ j → j < rE σ t i → digP (σ 7 j) := by
  have h2 := tok_z h h0 h1 (by omega)
  have hd := ((tok_d h h0 h1).mp hc).2
  rw [rV_i h h0 h2, rE_i h h0 h2]
  refine ⟨?_, fun j j0 j1 => enT_d hd j0 j1⟩
  unfold vlAt
  rw [if_pos hd]
/-- more digits make no less -/
theorem vlN_m {T : Int → Int} {k : Int} : ∀ (m j : Nat), (∀ i : Nat, i < j + m → digP (T (k + i))) → vlN T k j ≤ vlN T k (j + m)
  | 0, j, _ => Int.le_refl _
  | m + 1, j, h => by
    have ih := vlN_m m j (fun i hi => h i (by omega))
    have h1 := h (j + m) (by omega)
    have h2 := vlN_r (T := T) (k := k) (j + m) (fun i hi => h i (by omega))
    show _ ≤ vlN T k (j + m + 1)
    rw [vlN]
    split <;> omega
end TKY
