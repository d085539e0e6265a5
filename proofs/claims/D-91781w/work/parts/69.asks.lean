/-- the kept texts: sizes, codes, values in range -/
def TX (κ : Int → Int) : Prop := (∀ k, 0 ≤ k → k < 12 → 0 ≤ κ (1758 + k) ∧ κ (1758 + k) ≤ 400) ∧ (∀ k, 0 ≤ k → k < 4800 → 0 ≤ κ (1770 + k) ∧ κ (1770 + k) ≤ 355) ∧ (∀ k, 0 ≤ k → k < 4800 → 0 ≤ κ (6570 + k) ∧ κ (6570 + k) ≤ 100000)
/-- the model's state when n clauses of the text x are asked -/
def AskI (σ : St) (x : Int) (cls : List Cl) (n : Int) (τ : St) : Prop := Sc σ τ ∧ τ 5 = σ 5 ∧ τ 19 0 = 400 * x + σ 2 (1758 + x) ∧ τ 21 0 = n ∧ ∀ c : Int, 0 ≤ c → c < n → τ 22 c = (cls.getD c.toNat cl0).1 ∧ τ 23 c = clH (cls.getD c.toNat cl0) (σ 5) ∧ τ 24 c = clS (cls.getD c.toNat cl0) (σ 5)
section ASK
variable {σ τ : St} {x n : Int} {cls : List Cl}
theorem AskI.sc (h : AskI σ x cls n τ) : Sc σ τ := h.1
theorem AskI.a5 (h : AskI σ x cls n τ) : τ 5 = σ 5 := h.2.1
theorem AskI.e (h : AskI σ x cls n τ) : τ 19 0 = 400 * x + σ 2 (1758 + x) := h.2.2.1
theorem AskI.m (h : AskI σ x cls n τ) : τ 21 0 = n := h.2.2.2.1
theorem AskI.r (h : AskI σ x cls n τ) : ∀ c : Int, 0 ≤ c → c < n → τ 22 c = (cls.getD c.toNat cl0).1 ∧ τ 23 c = clH (cls.getD c.toNat cl0) (σ 5) ∧ τ 24 c = clS (cls.getD c.toNat cl0) (σ 5) := h.2.2.2.2
theorem AskI.cd (h : AskI σ x cls n τ) : cdA τ = tmC (σ 2) x := by
  funext k
  unfold cdA tmC
  rw [h.e, h.sc 2 (by omega)]
theorem AskI.vl (h : AskI σ x cls n τ) : vlA τ = fun k => σ 2 (6570 + k) := by
  funext k
  unfold vlA
  rw [h.sc 2 (by omega)]
theorem AskI.ev (h : AskI σ x cls n τ) (hT : TX (σ 2)) (h0 : 0 ≤ x) (h1 : x < 12) (ha : caseOK (σ 5)) : EV τ := by
  have h2 := hT.1 x h0 h1
  refine ⟨by rw [h.e]; omega, ?_, ?_, by rw [h.a5]; exact ha⟩
  · rw [h.sc 2 (by omega)]; exact hT.2.1
  · rw [h.sc 2 (by omega)]; exact hT.2.2
theorem AskI_st {f : Nat} {v : Int} (h : AskI σ x cls n τ) (hf : f = 22 ∨ f = 23 ∨ f = 24) : AskI σ x cls n (st τ f n v) := by
  refine ⟨?_, ?_, ?_, ?_, ?_⟩
  · exact Sc_st h.sc (by omega)
  · rw [st_n (by omega)]; exact h.a5
  · rw [st_n (by omega)]; exact h.e
  · rw [st_n (by omega)]; exact h.m
  · exact fun c h0 h1 => by
      have h2 := h.r c h0 h1
      rcases hf with q | q | q <;> subst q
      · rw [st_i (by omega), st_n (by decide), st_n (by decide)]; exact h2
      · rw [st_i (by omega), st_n (by decide), st_n (by decide)]; exact h2
      · rw [st_i (by omega), st_n (by decide), st_n (by decide)]; exact h2
theorem AskI_ev {g b : Int} (h : AskI σ x cls n τ) : AskI σ x cls n (evS τ g b) := by
  refine ⟨?_, ?_, ?_, ?_, ?_⟩
  · exact Sc_ev h.sc
  · rw [evS_o (by decide) (by decide)]; exact h.a5
  · rw [evS_o (by decide) (by decide)]; exact h.e
  · rw [evS_o (by decide) (by decide)]; exact h.m
  · exact fun c h0 h1 => by
      rw [evS_o (by decide) (by decide), evS_o (by decide) (by decide), evS_o (by decide) (by decide)]
      exact h.r c h0 h1
theorem AskI_nx (h : AskI σ x cls n τ) (h0 : 0 ≤ n) (h1 : τ 22 n = (cls.getD n.toNat cl0).1) (h2 : τ 23 n = clH (cls.getD n.toNat cl0) (σ 5)) (h3 : τ 24 n = clS (cls.getD n.toNat cl0) (σ 5)) : AskI σ x cls (n + 1) (st τ 21 0 (n + 1)) := by
  refine ⟨?_, ?_, ?_, ?_, ?_⟩
  · exact Sc_st h.sc (by omega)
  · rw [st_n (by omega)]; exact h.a5
  · rw [st_n (by omega)]; exact h.e
  · exact st_s
  · exact fun c g0 g1 => by
      rw [st_n (by omega), st_n (by omega), st_n (by omega)]
      by_cases q : c = n
      · subst q; exact ⟨h1, h2, h3⟩
      · exact h.r c g0 (by omega)
theorem AskI_0 {σ : St} {x e : Int} {cls : List Cl} (he : e = 400 * x + σ 2 (1758 + x)) : AskI σ x cls 0 (st (st σ 19 0 e) 21 0 0) := by
  refine ⟨?_, ?_, ?_, ?_, ?_⟩
  · exact Sc_st (Sc_st Sc_r (by omega)) (by omega)
  · exact rfl
  · exact he
  · exact rfl
  · exact fun c g0 g1 => by omega
theorem clsP_y {C V : Int → Int} {e i : Int} {q : Nat} {l : List Cl} (h : i < e) (hc : clsP C V e (q + 1) i = some l) : ∃ c j r, clP C V i = some (c, j) ∧ clsP C V e q (j + 1) = some r ∧ l = c :: r := by
  rw [clsP, if_pos h] at hc
  obtain ⟨⟨c, j⟩, e1, e2⟩ := Option.bind_eq_some_iff.mp hc
  obtain ⟨r, e3, e4⟩ := Option.map_eq_some_iff.mp e2
  exact ⟨c, j, r, e1, e3, e4.symm⟩
theorem clsP_n {C V : Int → Int} {e i : Int} {q : Nat} {l : List Cl} (h : ¬ i < e) (hc : clsP C V e (q + 1) i = some l) : l = [] := by
  rw [clsP, if_neg h] at hc
  cases hc
  rfl
theorem clP_y {C V : Int → Int} {i j : Int} {c : Cl} (hc : clP C V i = some (c, j)) : ∃ s i1 w, (if C i = 3 ∨ C i = 4 then (mn C V 60 2 (i + 1)).map (fun r => (some r.1, r.2)) else some (none, i + 1)) = some (s, i1) ∧ (if C i1 = 6 then (mn C V 60 5 (i1 + 1)).map (fun r => (some r.1, r.2)) else some (none, i1)) = some (w, j) ∧ c = (C i, s, w) := by
  unfold clP at hc
  obtain ⟨⟨s, i1⟩, e1, e2⟩ := Option.bind_eq_some_iff.mp hc
  obtain ⟨⟨w, j1⟩, e3, e4⟩ := Option.map_eq_some_iff.mp e2
  cases e4
  exact ⟨s, i1, w, e1, e3, rfl⟩
end ASK
theorem drop_c {l r : List Cl} {c : Cl} {n : Int} (h0 : 0 ≤ n) (h : l.drop n.toNat = c :: r) : n < l.length ∧ l.getD n.toNat cl0 = c ∧ l.drop (n + 1).toNat = r := by
  have hl : n.toNat < l.length := by
    rcases Nat.lt_or_ge n.toNat l.length with q | q
    · exact q
    · rw [List.drop_eq_nil_of_le q] at h; cases h
  rw [List.drop_eq_getElem_cons hl] at h
  have h2 := List.cons.inj h
  refine ⟨by omega, ?_, ?_⟩
  · rw [List.getD_eq_getElem?_getD, List.getElem?_eq_getElem hl]; exact h2.1
  · rw [show (n + 1).toNat = n.toNat + 1 by omega]; exact h2.2

theorem brk_all {f : Mean} {a : Int → Int} : brk f a 1 0 = if ((some f).all (fun f => (f a).isSome)) = true then 0 else 1 := by
  cases h : f a with
  | none => rw [brk_none h, if_neg (by rw [Option.all_some, h]; decide)]
  | some x => rw [brk_some h, if_pos (by rw [Option.all_some, h]; rfl)]
theorem clH_n {c : Cl} {a : Int → Int} {s : Option Mean} {b1 : Int} (hg : c.2 = (s, none)) (hb : b1 = if (s.all (fun f => (f a).isSome)) = true then 0 else 1) : clH c a = if (1 : Int) = 1 ∧ (0 : Int) = 0 ∧ b1 = 0 then 1 else 0 := by
  unfold clH
  rw [hg]
  by_cases h : (s.all (fun f => (f a).isSome)) = true
  · rw [if_pos ⟨h, rfl⟩, if_pos ⟨rfl, rfl, by rw [hb, if_pos h]⟩]
  · rw [if_neg (fun q => h q.1), if_neg (fun q => by rw [hb, if_neg h] at q; omega)]
theorem clH_f {c : Cl} {a : Int → Int} {s : Option Mean} {f : Mean} {b1 b2 z w : Int} (hg : c.2 = (s, some f)) (hb : b1 = if (s.all (fun f => (f a).isSome)) = true then 0 else 1) (hz : z = 0 ∨ z = 1) (hv : ∀ x, f a = some x → z = x) (hb2 : b2 = brk f a 1 0) (hw : (w = 1 ∧ z = 1) ∨ (w = 0 ∧ z = 0)) : clH c a = if w = 1 ∧ b2 = 0 ∧ b1 = 0 then 1 else 0 := by
  unfold clH
  rw [hg]
  cases h : f a with
  | none =>
    rw [brk_none h] at hb2
    rw [if_neg (fun q => by have q2 := q.2; rw [Option.all_some, h] at q2; cases q2), if_neg (by omega)]
  | some x =>
    rw [brk_some h] at hb2
    have h1 := hv x h
    by_cases h2 : (s.all (fun f => (f a).isSome)) = true
    · rw [if_pos h2] at hb
      by_cases h3 : z = 1
      · rw [if_pos ⟨h2, by rw [Option.all_some, h, ← h1, h3]; rfl⟩, if_pos (by omega)]
      · rw [if_neg (fun q => by
          have q2 := q.2
          rw [Option.all_some, h, ← h1, show z = 0 by omega] at q2
          cases q2), if_neg (by omega)]
    · rw [if_neg h2] at hb
      rw [if_neg (fun q => h2 q.1), if_neg (by omega)]
