/-! a day: the component's order of work against the model's -/
def kBy (κ : Int → Int) : Prop := ∀ f, 0 ≤ f → f < κ 1753 → κ (184 + 26 * f + 13) = 0 → κ (184 + 26 * f + 14) = -1
def dayF (τ : St) (f : Int) : St := if chF τ f = 0 then τ else if chF τ f ≤ drawF (τ 2) % 100 then drawS τ else fallC (drawS τ) f
section DAYP
variable {σ τ : St} {f i j : Int}
theorem fallG_o {k nw g : Int} (h : i < 184 + 26 * f + 16 ∨ 184 + 26 * f + 16 < i) (h1 : i ≠ 184 + 26 * f + (17 + 2 * g)) (h2 : i ≠ 184 + 26 * f + (17 + 2 * g + 1)) : fallG τ f k nw g 2 i = τ 2 i := by
  unfold fallG ss
  rw [st_i (by omega), st_i (by omega), st_i (by omega)]
theorem fallC_o (hg : 0 ≤ σ 2 (184 + 26 * f + 16)) (hg4 : σ 2 (184 + 26 * f + 16) ≤ 4) (hj : j < 184 + 26 * f + 16 ∨ 184 + 26 * f + 26 ≤ j) (hj2 : j ≠ 1751) : fallC σ f 2 j = σ 2 j := by
  unfold fallC
  split
  · rfl
  · rename_i q
    rw [fallG_o (by omega) (by omega) (by omega)]
    exact drawS_o hj2
theorem dayF_o (hf : f < 40 ∧ 0 ≤ f) (hg : 0 ≤ σ 2 (184 + 26 * f + 16) ∧ σ 2 (184 + 26 * f + 16) ≤ 4) (hj : j < 184 + 26 * f + 16 ∨ 184 + 26 * f + 26 ≤ j) (hj2 : j ≠ 1751) : dayF σ f 2 j = σ 2 j := by
  have e16 : drawS σ 2 (184 + 26 * f + 16) = σ 2 (184 + 26 * f + 16) := drawS_o (by omega)
  unfold dayF
  split
  · rfl
  · split
    · exact drawS_o hj2
    · rw [fallC_o (by omega) (by omega) hj hj2]
      exact drawS_o hj2
theorem wSum_cg {q : Int} : ∀ n : Nat, (∀ k, 0 ≤ k → k < n → τ 2 (40 + 8 * q + k) = σ 2 (40 + 8 * q + k)) → wSum τ q n = wSum σ q n
  | 0, _ => rfl
  | n + 1, h => by
    rw [wSum, wSum, wSum_cg n (fun k a b => h k a (by omega)), h n (by omega) (by omega)]
theorem wPick_cg {q : Int} : ∀ (n : Nat) (x k : Int), (∀ m, k ≤ m → m < k + n → τ 2 (40 + 8 * q + m) = σ 2 (40 + 8 * q + m)) → wPick τ q n x k = wPick σ q n x k
  | 0, _, _, _ => rfl
  | n + 1, x, k, h => by
    rw [wPick, wPick, h k (by omega) (by omega), wPick_cg n _ _ (fun m a b => h m (by omega) (by omega))]
theorem U_dr {v w p q : Int} (hp : p ≠ 1751) (hq : q ≠ 1751) : st (st (drawS τ) 2 p v) 2 q w = drawS (st (st τ 2 p v) 2 q w) := by
  have e : drawF (st (st τ 2 p v) 2 q w 2) = drawF (τ 2) := drawF_cg (by rw [st_i (by omega), st_i (by omega)])
  unfold drawS
  rw [e, st_cm (σ := τ) (i := 1751) (j := p) (by omega), st_cm (σ := st τ 2 p v) (i := 1751) (j := q) (by omega)]
theorem U_fg {v w k nw g p q : Int} (hp : p < 184 + 26 * f + 16) (hq : q < 184 + 26 * f + 16) (hg : 0 ≤ g) : st (st (fallG τ f k nw g) 2 p v) 2 q w = fallG (st (st τ 2 p v) 2 q w) f k nw g := by
  unfold fallG ss
  rw [st_cm (i := 184 + 26 * f + 16) (j := p) (by omega), st_cm (i := 184 + 26 * f + (17 + 2 * g + 1)) (j := p) (by omega), st_cm (i := 184 + 26 * f + (17 + 2 * g)) (j := p) (by omega), st_cm (i := 184 + 26 * f + 16) (j := q) (by omega), st_cm (i := 184 + 26 * f + (17 + 2 * g + 1)) (j := q) (by omega), st_cm (i := 184 + 26 * f + (17 + 2 * g)) (j := q) (by omega)]
theorem fall2_u : st (st σ 2 (184 + 26 * f + 6) (σ 2 (184 + 26 * f + 6) + (if opP σ f then 1 else 0))) 2 (184 + 26 * f + 11) (σ 2 (184 + 26 * f + 11) + (if airP (σ 2 (184 + 26 * f + 1)) (σ 2 (184 + 26 * f + 6) + (if opP σ f then 1 else 0)) then 1 else 0)) = fall2 σ f := by
  have e1 : st σ 2 (184 + 26 * f + 6) (σ 2 (184 + 26 * f + 6) + (if opP σ f then 1 else 0)) = fall1 σ f := by
    unfold fall1 ss
    split
    · rfl
    · exact st_self (by omega)
  unfold fall2
  rw [fall1_6, e1]
  unfold ss
  by_cases q : airP (σ 2 (184 + 26 * f + 1)) (σ 2 (184 + 26 * f + 6) + (if opP σ f then 1 else 0))
  · rw [if_pos q, if_pos q]
  · rw [if_neg q, if_neg q]
    refine st_self ?_
    rw [fall1_o _ _ _ (by omega)]
    omega
theorem day_f (hf0 : 0 ≤ f) (hf1 : f < 40) (h16 : 0 ≤ σ 2 (184 + 26 * f + 16) ∧ σ 2 (184 + 26 * f + 16) ≤ 4) (h5 : (0 ≤ σ 2 (184 + 26 * f + 5) ∧ σ 2 (184 + 26 * f + 5) ≤ 11) ∧ (0 ≤ σ 2 1752 ∧ σ 2 1752 ≤ 8)) (hc : 0 ≤ chF σ f) : st (st (dayF σ f) 2 (184 + 26 * f + 6) (σ 2 (184 + 26 * f + 6) + (if opP σ f then 1 else 0))) 2 (184 + 26 * f + 11) (σ 2 (184 + 26 * f + 11) + (if airP (σ 2 (184 + 26 * f + 1)) (σ 2 (184 + 26 * f + 6) + (if opP σ f then 1 else 0)) then 1 else 0)) = fallsF σ f := by
  have e16 : drawS σ 2 (184 + 26 * f + 16) = σ 2 (184 + 26 * f + 16) := drawS_o (by omega)
  have e5 : drawS σ 2 (184 + 26 * f + 5) = σ 2 (184 + 26 * f + 5) := drawS_o (by omega)
  have e52 : drawS σ 2 1752 = σ 2 1752 := drawS_o (by omega)
  have e50 : drawS σ 2 1750 = σ 2 1750 := drawS_o (by omega)
  have es : wSum (drawS σ) (σ 2 (184 + 26 * f + 5)) (σ 2 1752).toNat = wSum σ (σ 2 (184 + 26 * f + 5)) (σ 2 1752).toNat := wSum_cg _ (fun k a b => drawS_o (by omega))
  have ep := fun x => wPick_cg (τ := drawS σ) (σ := σ) (q := σ 2 (184 + 26 * f + 5)) 8 x 0 (fun k a b => drawS_o (by omega))
  unfold dayF fallsF
  by_cases c0 : chF σ f = 0
  · rw [if_pos c0, if_pos c0, fall2_u]
  · rw [if_neg c0, if_neg c0]
    by_cases c1 : chF σ f ≤ drawF (σ 2) % 100
    · rw [if_pos c1, if_pos (Or.inl c1), U_dr (by omega) (by omega), fall2_u]
    · rw [if_neg c1]
      unfold fallC
      rw [e16, e5, e52, es, e50, ep]
      by_cases c2 : σ 2 (184 + 26 * f + 16) = 4
      · rw [if_pos (Or.inl c2), if_pos (Or.inr c2), U_dr (by omega) (by omega), fall2_u]
      · have c4 : ¬ (chF σ f ≤ drawF (σ 2) % 100 ∨ σ 2 (184 + 26 * f + 16) = 4) := fun z => z.elim c1 c2
        by_cases c3 : wSum σ (σ 2 (184 + 26 * f + 5)) (σ 2 1752).toNat = 0
        · rw [if_pos (Or.inr c3), if_neg c4, if_pos c3, U_dr (by omega) (by omega), fall2_u]
        · have c5 : ¬ (σ 2 (184 + 26 * f + 16) = 4 ∨ wSum σ (σ 2 (184 + 26 * f + 5)) (σ 2 1752).toNat = 0) := fun z => z.elim c2 c3
          rw [if_neg c5, if_neg c4, if_neg c3, U_fg (by omega) (by omega) (by omega), U_dr (by omega) (by omega), U_dr (by omega) (by omega), fall2_u]
theorem ch_r (hL : kLets (σ 2)) (h1 : 0 ≤ σ 2 (184 + 26 * f + 1) ∧ σ 2 (184 + 26 * f + 1) ≤ 5) (h8 : 0 ≤ σ 2 (184 + 26 * f + 8) ∧ σ 2 (184 + 26 * f + 8) ≤ 3) (h5 : 0 ≤ σ 2 (184 + 26 * f + 5) ∧ σ 2 (184 + 26 * f + 5) ≤ 11) : 0 ≤ chF σ f ∧ chF σ f ≤ 100 := by
  have l1 := hL (18 + σ 2 (184 + 26 * f + 1)) (by omega) (by omega)
  have l2 := hL (24 + σ 2 (184 + 26 * f + 8)) (by omega) (by omega)
  have l3 := hL (28 + σ 2 (184 + 26 * f + 5)) (by omega) (by omega)
  exact chF_r (inF_r ⟨l1.1, l2.1⟩) l3
theorem KG_dr {β : Int → Int} (h : KG (σ 2) β) : KG (drawS σ 2) β := by
  have b0 := h.c
  unfold kCnt at b0
  have e : ∀ i, i ≠ 1751 → drawS σ 2 i = σ 2 i := fun i a => drawS_o a
  have r := drawF_r (σ 2)
  refine ⟨kCnt_cg (fun i a b n => e i n) (by rw [drawS_d]; exact r) h.c, kBroth_cg (fun i a b => e i (by omega)) h.b, kLets_cg (fun i a b => e i (by omega)) h.l, kWeights_cg (fun i a b => e i (by omega)) (e _ (by omega)) h.w, kKinds_cg (fun i a b => e i (by omega)) (e _ (by omega)) (by omega) h.k, fun j h0 h1 => ?_, kLooks_cg (fun i a b => e i (by omega)) (e _ (by omega)) (by omega) h.o, kTrials_cg (fun i a b => e i (by omega)) (e _ (by omega)) (by omega) h.t, kCourts_cg (fun i a b => e i (by omega)) (e _ (by omega)) (e _ (by omega)) (by omega) h.u⟩
  rw [e 1753 (by omega)] at h1
  exact kFlask_cg (fun x a c => e _ (by omega)) (e _ (by omega)) (e _ (by omega)) (h.f j h0 h1)
theorem WK_KG {κ β : Int → Int} (h : KG κ β) (hX : TX κ) : WK κ := ⟨h.c, hX, fun g hg => by
  have hfl := h.f g (by omega) hg
  unfold kFlask fl at hfl
  omega⟩
theorem TX_ag {κ κ' : Int → Int} (h : TX κ) (A : ∀ i, 1758 ≤ i → i < 11370 → κ' i = κ i) : TX κ' := ⟨fun k a b => by rw [A _ (by omega) (by omega)]; exact h.1 k a b, fun k a b => by rw [A _ (by omega) (by omega)]; exact h.2.1 k a b, fun k a b => by rw [A _ (by omega) (by omega)]; exact h.2.2 k a b⟩
theorem fallsF_g {g : Nat} (hg : g ≠ 2) : fallsF σ f g = σ g := by
  have e1 : fall1 σ f g = σ g := by
    unfold fall1 ss
    split
    · exact st_n hg
    · rfl
  have e2 : fall2 σ f g = σ g := by
    unfold fall2 ss
    split
    · exact (st_n hg).trans e1
    · exact e1
  have e3 : drawS (fall2 σ f) g = σ g := (st_n hg).trans e2
  have e4 : drawS (drawS (fall2 σ f)) g = σ g := (st_n hg).trans e3
  unfold fallsF
  split
  · exact e2
  · split
    · exact e3
    · split
      · exact e3
      · unfold fallG ss
        rw [st_n hg, st_n hg, st_n hg]
        exact e4
theorem turnsF_g {g : Nat} (hg : g ≠ 2) : turnsF σ f g = σ g := by
  unfold turnsF
  split
  · rfl
  · split
    · rfl
    · unfold ss
      rw [st_n hg, st_n hg, st_n hg]
theorem dayL_g {g : Nat} (hg : g ≠ 2) : ∀ n : Nat, dayL σ n g = σ g
  | 0 => rfl
  | n + 1 => by
    rw [dayL, turnsF_g hg, fallsF_g hg]
    exact dayL_g hg n
theorem F40_day {n : Nat} (h : F40 σ) (e : dayL σ n 2 1753 = σ 2 1753) : F40 (dayL σ n) := by
  refine ⟨by rw [e]; exact h.1, fun k hk h4 => ?_⟩
  rw [dayL_g (by decide)] at h4
  unfold imK
  rw [dayL_g (by decide)]
  exact h.2 k hk h4
theorem fallsF_13 (h16 : 0 ≤ σ 2 (184 + 26 * f + 16) ∧ σ 2 (184 + 26 * f + 16) ≤ 4) (hf : f < 40) (hj : j = 13 ∨ j = 14) : fallsF σ f 2 (184 + 26 * f + j) = σ 2 (184 + 26 * f + j) := by
  have e2 : fall2 σ f 2 (184 + 26 * f + j) = σ 2 (184 + 26 * f + j) := fall2_o _ _ _ (by omega) (by omega)
  have e3 : drawS (fall2 σ f) 2 (184 + 26 * f + j) = σ 2 (184 + 26 * f + j) := (drawS_o (by omega)).trans e2
  have e4 : drawS (drawS (fall2 σ f)) 2 (184 + 26 * f + j) = σ 2 (184 + 26 * f + j) := (drawS_o (by omega)).trans e3
  unfold fallsF
  split
  · exact e2
  · split
    · exact e3
    · split
      · exact e3
      · exact (fallG_o (by omega) (by omega) (by omega)).trans e4
theorem fall_by (hf : f < 40) (h16 : 0 ≤ σ 2 (184 + 26 * f + 16) ∧ σ 2 (184 + 26 * f + 16) ≤ 4) (h : σ 2 (184 + 26 * f + 13) = 0 → σ 2 (184 + 26 * f + 14) = -1) : fallsF σ f 2 (184 + 26 * f + 13) = 0 → fallsF σ f 2 (184 + 26 * f + 14) = -1 := by
  rw [fallsF_13 h16 hf (Or.inl rfl), fallsF_13 h16 hf (Or.inr rfl)]
  exact h
theorem kBy_day (hI : KI (σ 2)) (hB : kBy (σ 2)) : ∀ n : Nat, (n : Int) ≤ σ 2 1753 → ∀ g, 0 ≤ g → g < dayL σ n 2 1753 → dayL σ n 2 (184 + 26 * g + 13) = 0 → dayL σ n 2 (184 + 26 * g + 14) = -1
  | 0, _ => hB
  | n + 1, hn => fun g g0 g1 => by
    have b0 := hI.c
    unfold kCnt at b0
    have ih := kBy_day hI hB n (by omega)
    have hD := dayL_ok hI n (by omega)
    have hD1 := dayL_ok hI (n + 1) hn
    rw [hD1.2 1753 (by omega) (by omega)] at g1
    have e53 := hD.2 1753 (by omega) (by omega)
    have hk := hD.1.f n (by omega) (by omega)
    unfold kFlask fl at hk
    have hfo := fallsF_ok (f := n) hD.1 (by omega) (by omega)
    rw [dayL]
    by_cases z : g = n
    · subst z
      have hb := fall_by (σ := dayL σ n) (f := (n : Int)) (by omega) (by omega) (ih n (by omega) (by omega))
      unfold turnsF
      split
      · exact hb
      · split
        · exact hb
        · intro q
          unfold ss at q
          rw [st_i (by omega), st_i (by omega), st_s] at q
          omega
    · rw [turnsF_o (by omega), turnsF_o (by omega), hfo.2 _ (by omega) (by omega), hfo.2 _ (by omega) (by omega)]
      exact ih g g0 (by omega)
theorem dayE_o (hI : KI (σ 2)) (h : i < 184 ∨ 1224 ≤ i) (h0 : i ≠ 1750) (h1 : i ≠ 1751) : dayE σ 2 i = σ 2 i := by
  have b0 := hI.c
  unfold kCnt at b0
  unfold dayE
  rw [st_i h0]
  exact (dayL_ok hI (σ 2 1753).toNat (by omega)).2 i h h1
theorem goL_o (hI : KI (σ 2)) : ∀ {n : Nat}, σ 2 1750 + n ≤ 399 → ∀ i, 1758 ≤ i → i < 11370 → goL σ n 2 i = σ 2 i
  | 0, _, i, _, _ => rfl
  | n + 1, hn, i, a, b => by
    rw [goL, dayE_o (goL_ok hI n (by omega)).1 (by omega) (by omega) (by omega)]
    exact goL_o hI (by omega) i a b
theorem kBy_E (hI : KI (σ 2)) (hB : kBy (σ 2)) : kBy (dayE σ 2) := fun f h0 h1 => by
  have b0 := hI.c
  unfold kCnt at b0
  have hD := dayL_ok hI (σ 2 1753).toNat (by omega)
  have e53 : dayE σ 2 1753 = dayL σ (σ 2 1753).toNat 2 1753 := st_i (by omega)
  rw [e53] at h1
  have h2 := h1
  rw [hD.2 1753 (by omega) (by omega)] at h2
  rw [show dayE σ 2 (184 + 26 * f + 13) = dayL σ (σ 2 1753).toNat 2 (184 + 26 * f + 13) from st_i (by omega), show dayE σ 2 (184 + 26 * f + 14) = dayL σ (σ 2 1753).toNat 2 (184 + 26 * f + 14) from st_i (by omega)]
  exact kBy_day hI hB _ (by omega) f h0 h1
theorem kBy_go (hI : KI (σ 2)) (hB : kBy (σ 2)) : ∀ n : Nat, σ 2 1750 + n ≤ 399 → kBy (goL σ n 2)
  | 0, _ => hB
  | n + 1, hn => by
    rw [goL]
    exact kBy_E (goL_ok hI n (by omega)).1 (kBy_go hI hB n (by omega))
end DAYP
