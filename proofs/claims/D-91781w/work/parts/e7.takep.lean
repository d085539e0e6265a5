/-! a bench taken over -/
def zT (ω : XCt) (t k : Nat) (f : Int → Int) : XCt := (gy ω, fun b j => if b = t ∧ j = k then f else gz ω b j, gq ω, gn ω, gg ω, gl ω, gv ω)
def qT (ω : XCt) (t k : Nat) (f : Int → Option Nat) : XCt := (gy ω, gz ω, fun b j => if b = t ∧ j = k then f else gq ω b j, gn ω, gg ω, gl ω, gv ω)
/-- on the way of taking bench t over: x, ω the cells before, x1, ω1 now; f flasks are copied -/
def Tk (G : MG) (M N : Hp) (x x1 : XGh) (ω ω1 : XCt) (t : Nat) (κ : Int → Int) (f : Int) : Prop := Gp N (gw x1) (200 + 100 * t) bKeys (gb x t) (bcell G κ x1 ω1 t) ∧ (gI x1 = gI x ∧ gp x1 = gp x ∧ gb x1 = gb x ∧ ∀ b, b ≠ t → gf x1 b = gf x b) ∧ (gy ω1 = gy ω ∧ gn ω1 = gn ω ∧ gl ω1 = gl ω ∧ gv ω1 = gv ω ∧ ∀ b, b ≠ t → gz ω1 b = gz ω b ∧ gq ω1 b = gq ω b ∧ gg ω1 b = gg ω b) ∧ (∀ z e, M z = some e → (gw x z < 200 + 100 * t ∨ 200 + 100 * t + 21 < gw x z) → N z = some e) ∧ (∀ y e, M y = some e → gw x1 y = gw x y ∧ ∃ e', N y = some e') ∧ ∀ g : Nat, (g : Int) < f → FlaskB G N x1 ω1 t κ g
section TKP
variable {G : MG} {M N : Hp} {a q g1 g2 s t k : Nat} {σ σ' : St} {x x1 : XGh} {ω ω1 : XCt} {κ κ' : Int → Int} {f : Int}
theorem Tk.src (h : Tk G M N x x1 ω ω1 t κ f) (hS : BenchAt G M x ω s κ') (hst : s ≠ t) (hk : k ∈ bKeys) : N (gb x s k) = some (bcell G κ' x ω s k) := by
  obtain ⟨e1, e2⟩ := hS.1 k hk
  have := bKk_le hk
  exact h.2.2.2.1 _ _ e1 (by omega)
theorem Tk.dst (h : Tk G M N x x1 ω ω1 t κ f) (hk : k ∈ bKeys) : N (gb x t k) = some (bcell G κ x1 ω1 t k) := (h.1 k hk).1
theorem Tk.kept (h : Tk G M N x x1 ω ω1 t κ f) (hI : Sub (gI x) M (gw x)) {y : Nat} {e : va_E} (hy : gI x y = some e) : N y = some e := by
  obtain ⟨e1, e2⟩ := hI y e hy
  exact h.2.2.2.1 _ _ e1 (by omega)
/-- a store into a cell of bench t, but for its flasks -/
theorem Tk.st (h : Tk G M N x x1 ω ω1 t κ f) (hk : k ∈ bKeys) {e : va_E} {ω2 : XCt} (hc : ∀ j ∈ bKeys, upc (bcell G κ x1 ω1 t) k e j = bcell G κ x1 ω2 t j) (ey : gy ω2 = gy ω1) (en : gn ω2 = gn ω1) (el : gl ω2 = gl ω1) (ev : gv ω2 = gv ω1) (eg : gg ω2 = gg ω1) (e9 : gq ω2 t 9 = gq ω1 t 9) (eb : ∀ b, b ≠ t → gz ω2 b = gz ω1 b ∧ gq ω2 b = gq ω1 b) : Tk G M (hs N (gb x t k) e) x x1 ω ω2 t κ f := by
  obtain ⟨h1, h2, h3, h4, h5, h6⟩ := h
  have hw := (h1 k hk).2
  have hle := bKk_le hk
  refine ⟨Gp_cg (Gp_up h1 hk) hc, h2, ⟨ey.trans h3.1, en.trans h3.2.1, el.trans h3.2.2.1, ev.trans h3.2.2.2.1, fun b hb => ?_⟩, fun z u hz hn => ?_, fun y u hy => ?_, fun g hg => ?_⟩
  · obtain ⟨a1, a2⟩ := eb b hb
    obtain ⟨c1, c2, c3⟩ := h3.2.2.2.2 b hb
    exact ⟨a1.trans c1, a2.trans c2, by rw [eg]; exact c3⟩
  · have n : z ≠ gb x t k := fun q => by
      have := (h5 z u hz).1
      rw [q, hw] at this
      rw [q] at hn
      omega
    rw [hs_n n]
    exact h4 z u hz hn
  · refine ⟨(h5 y u hy).1, ?_⟩
    by_cases n : y = gb x t k
    · rw [n, hs_s]; exact ⟨_, rfl⟩
    · rw [hs_n n]; exact (h5 y u hy).2
  · obtain ⟨f1, f2, f3⟩ := h6 g hg
    have e2 : fcell G κ x1 ω2 t g = fcell G κ x1 ω1 t g := by unfold fcell; rw [eg]
    refine ⟨by rw [e9]; exact f1, ?_, by rw [eg]; exact f3⟩
    rw [e2]
    exact Gp_out f2 (fun j hj => by rw [hw]; omega)
theorem bcell_zT {u : Int → Int} (hk : 13 ≤ k ∧ k ≤ 21) {e : va_E} (he : bcell G κ x1 (zT ω1 t k u) t k = e) : ∀ j ∈ bKeys, upc (bcell G κ x1 ω1 t) k e j = bcell G κ x1 (zT ω1 t k u) t j := fun j hj => by
  unfold upc
  by_cases z : j = k
  · rw [if_pos z, z, he]
  · rw [if_neg z]
    have g : gz (zT ω1 t k u) t j = gz ω1 t j := if_neg (fun h => z h.2)
    unfold bcell
    have tt : j ∈ bKeys := hj
    simp only [bKeys, List.mem_cons, List.not_mem_nil, or_false] at tt
    rcases tt with tt | tt | tt | tt | tt | tt | tt | tt | tt | tt | tt | tt | tt | tt | tt <;> subst tt <;> first | rfl | (show _ = aI _ _ (gz (zT ω1 t k u) t _); rw [g]; rfl)
theorem bcell_qT {u : Int → Option Nat} (hk : 8 ≤ k ∧ k ≤ 12) {e : va_E} (he : bcell G κ x1 (qT ω1 t k u) t k = e) : ∀ j ∈ bKeys, upc (bcell G κ x1 ω1 t) k e j = bcell G κ x1 (qT ω1 t k u) t j := fun j hj => by
  unfold upc
  by_cases z : j = k
  · rw [if_pos z, z, he]
  · rw [if_neg z]
    have g : gq (qT ω1 t k u) t j = gq ω1 t j := if_neg (fun h => z h.2)
    unfold bcell
    have tt : j ∈ bKeys := hj
    simp only [bKeys, List.mem_cons, List.not_mem_nil, or_false] at tt
    rcases tt with tt | tt | tt | tt | tt | tt | tt | tt | tt | tt | tt | tt | tt | tt | tt <;> subst tt <;> first | rfl | (show _ = aQ _ _ (gq (qT ω1 t k u) t _); rw [g]; rfl)
theorem zT_s {u : Int → Int} : gz (zT ω1 t k u) t k = u := if_pos ⟨rfl, rfl⟩
theorem zT_n {u : Int → Int} {j : Nat} (h : j ≠ k) : gz (zT ω1 t k u) t j = gz ω1 t j := if_neg (fun z => h z.2)
theorem qT_s {u : Int → Option Nat} : gq (qT ω1 t k u) t k = u := if_pos ⟨rfl, rfl⟩
theorem qT_n {u : Int → Option Nat} {j : Nat} (h : j ≠ k) : gq (qT ω1 t k u) t j = gq ω1 t j := if_neg (fun z => h z.2)
theorem Tk.cz (h : Tk G M N x x1 ω ω1 t κ f) {u : Int → Int} (hk : 13 ≤ k ∧ k ≤ 21) {e : va_E} (he : bcell G κ x1 (zT ω1 t k u) t k = e) : Tk G M (hs N (gb x t k) e) x x1 ω (zT ω1 t k u) t κ f := by
  have hkm : k ∈ bKeys := by
    have : ∀ k, k < 22 → 13 ≤ k → k ∈ bKeys := by decide
    exact this k (by omega) hk.1
  refine h.st hkm (bcell_zT hk he) rfl rfl rfl rfl rfl rfl (fun b hb => ⟨?_, rfl⟩)
  funext j
  exact if_neg (fun z => hb z.1)
theorem Tk.cq (h : Tk G M N x x1 ω ω1 t κ f) {u : Int → Option Nat} (hk : k = 8 ∨ k = 10 ∨ k = 11 ∨ k = 12) {e : va_E} (he : bcell G κ x1 (qT ω1 t k u) t k = e) : Tk G M (hs N (gb x t k) e) x x1 ω (qT ω1 t k u) t κ f := by
  have hkm : k ∈ bKeys := by rcases hk with q | q | q | q <;> subst q <;> decide
  refine h.st hkm (bcell_qT (by omega) he) rfl rfl rfl rfl rfl (qT_n (by omega)) (fun b hb => ⟨rfl, ?_⟩)
  funext j
  exact if_neg (fun z => hb z.1)
/-- a flask copied and laid into its place -/
theorem Tk.fl (h : Tk G M N x x1 ω ω1 t κ f) (ht : t < 3) {i : Nat} (hi : (i : Int) = f) (h40 : f < 40) {u1 u2 : Int → Int} {N2 : Hp} (hq : N q = none) (h1' : N g1 = none) (h2' : N g2 = none) (n1 : q ≠ g1) (n2 : q ≠ g2) (n3 : g1 ≠ g2) (hN : N2 = hs (hs (hs N g1 (aI (G.2.1 0) 4 u1)) g2 (aI (G.2.1 0) 4 u2)) q (oB (fci (κ (184 + 26 * f + 1))) (fFI κ (xf x1 t i q g1 g2) t i f))) (hu : ∀ j, 0 ≤ j → j < 4 → u1 j = κ (184 + 26 * f + 17 + 2 * j) ∧ u2 j = κ (184 + 26 * f + 18 + 2 * j)) {e : va_E} (he : aQ (G.2.1 6) 40 (upq (gq ω1 t 9) f (some q)) = e) : Tk G M (hs N2 (gb x t 9) e) x (xf x1 t i q g1 g2) ω (gT (qT ω1 t 9 (upq (gq ω1 t 9) f (some q))) t i u1 u2) t κ (f + 1) := by
  obtain ⟨h1, h2, h3, h4, h5, h6⟩ := h
  have old : ∀ z e, N z = some e → z ≠ q ∧ z ≠ g1 ∧ z ≠ g2 := fun z e hz => ⟨fun k => (by rw [k, hq] at hz; cases hz), fun k => (by rw [k, h1'] at hz; cases hz), fun k => (by rw [k, h2'] at hz; cases hz)⟩
  have k2 : ∀ z e, N z = some e → N2 z = some e := fun z e hz => by
    obtain ⟨a1, a2, a3⟩ := old z e hz
    rw [hN, hs_n a1, hs_n a3, hs_n a2]
    exact hz
  have h9 : (9 : Nat) ∈ bKeys := by decide
  have w9 := (h1 9 h9).2
  have b9 := (h1 9 h9).1
  have wk : ∀ z e, N z = some e → gw (xf x1 t i q g1 g2) z = gw x1 z := fun z e hz => xf_w (old z e hz)
  have q9 : q ≠ gb x t 9 ∧ g1 ≠ gb x t 9 ∧ g2 ≠ gb x t 9 := by
    obtain ⟨a1, a2, a3⟩ := old _ _ b9
    exact ⟨a1.symm, a2.symm, a3.symm⟩
  have hgb : gb (xf x1 t i q g1 g2) = gb x1 := rfl
  have ec : bcell G κ (xf x1 t i q g1 g2) (gT (qT ω1 t 9 (upq (gq ω1 t 9) f (some q))) t i u1 u2) t = bcell G κ x1 (qT ω1 t 9 (upq (gq ω1 t 9) f (some q))) t := rfl
  refine ⟨?_, ⟨h2.1, h2.2.1, h2.2.2.1, fun b hb => ?_⟩, ⟨h3.1, h3.2.1, h3.2.2.1, h3.2.2.2.1, fun b hb => ?_⟩, fun z u hz hn => ?_, fun y u hy => ?_, fun g hg => ?_⟩
  · rw [ec]
    have hg2 : Gp N2 (gw (xf x1 t i q g1 g2)) (200 + 100 * t) bKeys (gb x t) (bcell G κ x1 ω1 t) := fun k hk => by
      obtain ⟨c1, c2⟩ := h1 k hk
      exact ⟨k2 _ _ c1, (wk _ _ c1).trans c2⟩
    exact Gp_cg (Gp_up hg2 h9) (bcell_qT (by decide) (by rw [← he]; show aQ _ _ (gq (qT ω1 t 9 _) t 9) = _; rw [qT_s]))
  · funext g k
    have : gf (xf x1 t i q g1 g2) b g k = gf x1 b g k := if_neg (fun z => hb z.1)
    rw [this, h2.2.2.2 b hb]
  · obtain ⟨c1, c2, c3⟩ := h3.2.2.2.2 b hb
    refine ⟨c1, ?_, ?_⟩
    · funext j
      exact (if_neg (fun z => hb z.1)).trans (congrFun c2 j)
    · funext g j
      exact (if_neg (fun z => hb z.1)).trans (congrFun (congrFun c3 g) j)
  · have e1 := h4 z u hz hn
    have n : z ≠ gb x t 9 := fun k => by
      have := (h5 z u hz).1
      rw [k, w9] at this
      rw [k] at hn
      omega
    rw [hs_n n]
    exact k2 _ _ e1
  · obtain ⟨c1, e', c2⟩ := h5 y u hy
    refine ⟨(wk _ _ c2).trans c1, ?_⟩
    by_cases n : y = gb x t 9
    · rw [n, hs_s]; exact ⟨_, rfl⟩
    · rw [hs_n n]; exact ⟨e', k2 _ _ c2⟩
  · have eq9 : gq (gT (qT ω1 t 9 (upq (gq ω1 t 9) f (some q))) t i u1 u2) t 9 = upq (gq ω1 t 9) f (some q) := qT_s
    by_cases z : g = i
    · subst z
      have e1 : gf (xf x1 t g q g1 g2) t g = fun k => if k = 0 then q else if k = 1 then g1 else g2 := by funext k; exact if_pos ⟨rfl, rfl⟩
      have e2 : gg (gT (qT ω1 t 9 (upq (gq ω1 t 9) f (some q))) t g u1 u2) t g = fun j => if j = 1 then u1 else u2 := by funext k; exact if_pos ⟨rfl, rfl⟩
      refine ⟨?_, fun k hk => ?_, fun j j0 j1 => ?_⟩
      · rw [eq9, e1, hi, upq_s]
        rfl
      · have tt : k = 0 ∨ k = 1 ∨ k = 2 := by
          have : ∀ k ∈ [0, 1, 2], k = 0 ∨ k = 1 ∨ k = 2 := by decide
          exact this k hk
        rw [e1]
        rcases tt with tt | tt | tt <;> subst tt
        · refine ⟨?_, if_pos rfl⟩
          show hs N2 (gb x t 9) e q = _
          rw [hs_n q9.1, hN, hs_s]
          show some (oB (fci (κ (184 + 26 * f + 1))) (fFI κ _ t g f)) = some (oB (fci (κ (184 + 26 * (g : Int) + 1))) (fF κ _ t g))
          rw [hi]
          subst hi
          rfl
        · refine ⟨?_, ?_⟩
          · show hs N2 (gb x t 9) e g1 = some (aI _ 4 (gg (gT _ t g u1 u2) t g 1))
            rw [hs_n q9.2.1, hN, hs_n n1.symm, hs_n n3, hs_s, e2]
            rfl
          · show (if g1 = q then _ else if g1 = g1 then _ else _) = _
            rw [if_neg n1.symm, if_pos rfl]
        · refine ⟨?_, ?_⟩
          · show hs N2 (gb x t 9) e g2 = some (aI _ 4 (gg (gT _ t g u1 u2) t g 2))
            rw [hs_n q9.2.2, hN, hs_n n2.symm, hs_s, e2]
            rfl
          · show (if g2 = q then _ else if g2 = g1 then _ else if g2 = g2 then _ else _) = _
            rw [if_neg n2.symm, if_neg n3.symm, if_pos rfl]
      · rw [e2, hi]
        exact hu j j0 j1
    · obtain ⟨f1, f2, f3⟩ := h6 g (by omega)
      have hn : ¬ (t = t ∧ g = i) := fun y => z y.2
      have e1 : gf (xf x1 t i q g1 g2) t g = gf x1 t g := by funext k; exact if_neg hn
      have e2 : gg (gT (qT ω1 t 9 (upq (gq ω1 t 9) f (some q))) t i u1 u2) t g = gg ω1 t g := by funext k; exact if_neg hn
      have e3 : fcell G κ (xf x1 t i q g1 g2) (gT (qT ω1 t 9 (upq (gq ω1 t 9) f (some q))) t i u1 u2) t g = fcell G κ x1 ω1 t g := by unfold fcell fF; rw [e1, e2]
      refine ⟨by rw [eq9, e1, upq_n (by omega)]; exact f1, fun k hk => ?_, by rw [e2]; exact f3⟩
      obtain ⟨c1, c2⟩ := f2 k hk
      rw [e1, e3]
      refine ⟨?_, (wk _ _ c1).trans c2⟩
      rw [hs_n (fun y => by rw [y] at c2; rw [w9] at c2; omega)]
      exact k2 _ _ c1
/-- the rest of a bench taken over -/
theorem RestB_tr {b : Nat} (h : RestB G x ω s κ) (hk : kCnt κ) (hi : gI x1 = gI x) (ez : ∀ k i, 0 ≤ i → (((k = 13 ∨ k = 14) ∧ i < 9) ∨ ((k = 15 ∨ k = 16 ∨ k = 17 ∨ k = 18) ∧ i < 6) ∨ (k = 19 ∧ i < 4) ∨ (k = 20 ∧ i < 12) ∨ (k = 21 ∧ i < 96)) → gz ω1 b k i = gz ω s k i) (eq : ∀ k i, 0 ≤ i → ((k = 8 ∧ i < 8) ∨ (k = 10 ∧ i < 40) ∨ (k = 11 ∧ i < 12) ∨ (k = 12 ∧ i < 12)) → gq ω1 b k i = gq ω s k i) : RestB G x1 ω1 b κ := by
  unfold kCnt at hk
  obtain ⟨⟨z1, z2, z3, z4, z5⟩, r1, r2, r3, r4, n1, n2, n3, n4⟩ := h
  refine ⟨⟨fun i i0 i1 => ?_, fun i i0 i1 => ?_, fun i i0 i1 => ?_, fun i i0 i1 => ?_, fun i i0 i1 => ?_⟩, fun k k0 k1 => ?_, fun k k0 k1 => ?_, fun k k0 k1 => ?_, fun k k0 k1 => ?_, fun k y a b c => ?_, fun k y a b c => ?_, fun k y a b c => ?_, fun k y a b c => ?_⟩
  · rw [ez 13 i i0 (by omega), ez 14 i i0 (by omega)]; exact z1 i i0 i1
  · rw [ez 15 i i0 (by omega), ez 16 i i0 (by omega), ez 17 i i0 (by omega), ez 18 i i0 (by omega)]; exact z2 i i0 i1
  · rw [ez 19 i i0 (by omega)]; exact z3 i i0 i1
  · rw [ez 20 i i0 (by omega)]; exact z4 i i0 i1
  · rw [ez 21 i i0 (by omega)]; exact z5 i i0 i1
  · rw [eq 8 k k0 (by omega), hi]; exact r1 k k0 k1
  · rw [eq 10 k k0 (by omega), hi]; exact r2 k k0 k1
  · rw [eq 11 k k0 (by omega), hi]; exact r3 k k0 k1
  · rw [eq 12 k k0 (by omega), hi]; exact r4 k k0 k1
  · rw [eq 8 k a (by omega)] at c; rw [hi]; exact n1 k y a b c
  · rw [eq 10 k a (by omega)] at c; rw [hi]; exact n2 k y a b c
  · rw [eq 11 k a (by omega)] at c; rw [hi]; exact n3 k y a b c
  · rw [eq 12 k a (by omega)] at c; rw [hi]; exact n4 k y a b c
/-- a bench means the same when its row agrees -/
theorem BenchAt_ag {b : Nat} (h : BenchAt G M x ω b κ) (hW : WK κ) (A : Ag κ κ' 0 11370) : BenchAt G M x ω b κ' := by
  have hk := hW.1
  unfold kCnt at hk
  obtain ⟨h1, h2, h3⟩ := h
  have eb : bcell G κ' x ω b = bcell G κ x ω b := by unfold bcell; rw [bF_c (fun i a c => A i (by omega) (by omega))]
  refine ⟨by rw [eb]; exact h1, RestB_cg h2 hW.1 hW.2.1 (Zok_cg h2.1 (fun i a c => A i (by omega) (by omega)) (fun i a c => A i (by omega) (by omega))) rfl (fun i a c => A i (by omega) (by omega)) (fun i a c => A i (by omega) (by omega)) (A _ (by omega) (by omega)) (A _ (by omega) (by omega)) (A _ (by omega) (by omega)) (A _ (by omega) (by omega)) (fun i a c => A i (by omega) (by omega)), fun f hf => ?_⟩
  rw [A 1753 (by omega) (by omega)] at hf
  exact FlaskB_cg (h3 f hf) rfl rfl (hW.2.2 f hf) (fun i a c => A i (by omega) (by omega))
/-- the relation but for some benches -/
def RXb (G : MG) (M : Hp) (a : Nat) (σ : St) (x : XGh) (ω : XCt) (J : Nat → Prop) : Prop := a = gp x 0 ∧ Gp M (gw x) 100 pKeys (gp x) (xcell G σ x ω) ∧ Sub (gI x) M (gw x) ∧ (∀ i, 0 ≤ i → i < 7 → gy ω 2 i = σ 1 i) ∧ (∀ i, 0 ≤ i → i < 400 → gy ω 5 i = σ 7 i) ∧ FWok (gy ω 10) ∧ (J 0 → BenchAt G M x ω 0 (σ 2)) ∧
  ∀ k : Nat, k < 2 → J (k + 1) → (σ 4 k = 1 ∧ gn ω 1 k = some (gb x (k + 1) 0) ∧ BenchAt G M x ω (k + 1) (imK σ k)) ∨ (σ 4 k = 0 ∧ gn ω 1 k = none)
theorem RX.toB (h : RX G M a σ x ω) (J : Nat → Prop) : RXb G M a σ x ω J := ⟨h.1, h.2.1, h.2.2.1, h.2.2.2.1, h.2.2.2.2.1, h.2.2.2.2.2.1, fun _ => h.2.2.2.2.2.2.1, fun k hk _ => h.2.2.2.2.2.2.2 k hk⟩
theorem BenchAt_tk {b : Nat} (h : BenchAt G M x ω b κ') (hT : Tk G M N x x1 ω ω1 t κ f) (hb : b ≠ t) (ht : t < 3) : BenchAt G N x1 ω1 b κ' := by
  obtain ⟨t1, t2, t3, t4, t5, t6⟩ := hT
  obtain ⟨h1, h2, h3⟩ := h
  obtain ⟨c1, c2, c3⟩ := t3.2.2.2.2 b hb
  have eb : bcell G κ' x1 ω1 b = bcell G κ' x ω b := by unfold bcell bF; rw [t2.2.2.1, c1, c2]
  refine ⟨?_, ?_, fun g hg => ?_⟩
  · rw [eb, t2.2.2.1]
    intro k hk
    obtain ⟨d1, d2⟩ := h1 k hk
    have := bKk_le hk
    exact ⟨t4 _ _ d1 (by omega), (t5 _ _ d1).1.trans d2⟩
  · unfold RestB NulB at *
    rw [c1, c2, t2.1]
    exact h2
  · obtain ⟨f1, f2, f3⟩ := h3 g hg
    have ef : gf x1 b = gf x b := t2.2.2.2 b hb
    have ec : fcell G κ' x1 ω1 b g = fcell G κ' x ω b g := by unfold fcell fF; rw [ef, c3]
    refine ⟨by rw [c2, ef]; exact f1, fun k hk => ?_, by rw [c3]; exact f3⟩
    rw [ef, ec]
    obtain ⟨d1, d2⟩ := f2 k hk
    exact ⟨t4 _ _ d1 (by omega), (t5 _ _ d1).1.trans d2⟩
theorem RXb.tk {J : Nat → Prop} (h : RXb G M a σ x ω J) (hT : Tk G M N x x1 ω ω1 t κ f) (hJ : ¬ J t) (ht : t < 3) : RXb G N a σ x1 ω1 J := by
  obtain ⟨h0, h1, h2, h3, h4, h5, h6, h7⟩ := h
  have hT' := hT
  obtain ⟨t1, t2, t3, t4, t5, t6⟩ := hT
  have ex : xcell G σ x1 ω1 = xcell G σ x ω := by unfold xcell xF rF; rw [t2.2.1, t2.2.2.1, t3.1, t3.2.1, t3.2.2.1, t3.2.2.2.1]
  refine ⟨by rw [t2.2.1]; exact h0, ?_, fun y e hy => ?_, by rw [t3.1]; exact h3, by rw [t3.1]; exact h4, by rw [t3.1]; exact h5, fun hj => BenchAt_tk (h6 hj) hT' (fun z => hJ (z ▸ hj)) ht, fun k hk hj => ?_⟩
  · rw [ex, t2.2.1]
    intro k hk
    obtain ⟨d1, d2⟩ := h1 k hk
    have := pKk_le hk
    exact ⟨t4 _ _ d1 (by omega), (t5 _ _ d1).1.trans d2⟩
  · rw [t2.1] at hy
    obtain ⟨d1, d2⟩ := h2 y e hy
    exact ⟨t4 _ _ d1 (by omega), (t5 _ _ d1).1.trans d2⟩
  · rcases h7 k hk hj with ⟨g1, g2, g3⟩ | g
    · exact Or.inl ⟨g1, by rw [t3.2.1, t2.2.2.1]; exact g2, BenchAt_tk g3 hT' (fun z => hJ (z ▸ hj)) ht⟩
    · exact Or.inr (by rw [t3.2.1]; exact g)
end TKP
