/-! the reader's state -/
def vS (ω : XCt) (k : Nat) (v : Int) : XCt := (gy ω, gz ω, gq ω, gn ω, gg ω, gl ω, fun j => if j = k then v else gv ω j)
def pS (ω : XCt) (f : Int → Option Nat) : XCt := (gy ω, gz ω, gq ω, fun k => if k = 24 then f else gn ω k, gg ω, gl ω, gv ω)
/-- from, to, leaves, deep, piled, the pile -/
def RS (ω : XCt) (F T l d p : Int) (pf : Int → Option Nat) : Prop := gv ω 0 = F ∧ gv ω 1 = T ∧ gv ω 2 = l ∧ gv ω 3 = d ∧ gv ω 4 = p ∧ gn ω 24 = pf
/-- the heap while the reader reads -/
def RD (G : MG) (M : Hp) (a : Nat) (σ : St) (P : Nat → Nat) (τ : Int → Int) (bo : Nat) (lo : Int) (x : XGh) (F T l d p : Int) (pf : Int → Option Nat) : Prop := ∃ ω, RX G M a σ x ω ∧ gp x = P ∧ gy ω 5 = τ ∧ gb x 0 0 = bo ∧ gl ω = lo ∧ RS ω F T l d p pf
/-- what a step leaves of the cells that were there: kept objects, and new cells of the callers -/
def Ext (M M' : Hp) (x x' : XGh) : Prop := (gp x' = gp x ∧ gb x' = gb x) ∧ (∀ y e, gI x y = some e → gI x' y = some e) ∧ ∀ q e, M q = some e → gw x q = 1 → M' q = some e ∧ gw x' q = 1
section RST
variable {G : MG} {M M1 M2 : Hp} {a q k : Nat} {σ : St} {P : Nat → Nat} {τ : Int → Int} {bo : Nat} {lo : Int} {x x1 x2 : XGh} {ω : XCt} {F T l d p v : Int} {pf pg : Int → Option Nat} {e : va_E}
theorem Ext.rf : Ext M M x x := ⟨⟨rfl, rfl⟩, fun _ _ h => h, fun _ _ h h2 => ⟨h, h2⟩⟩
theorem Ext.tr (h1 : Ext M M1 x x1) (h2 : Ext M1 M2 x1 x2) : Ext M M2 x x2 := ⟨⟨h2.1.1.trans h1.1.1, h2.1.2.trans h1.1.2⟩, fun y e h => h2.2.1 y e (h1.2.1 y e h), fun q e h hw => by
  obtain ⟨a1, a2⟩ := h1.2.2 q e h hw
  exact h2.2.2 q e a1 a2⟩
theorem Ext.no (h : Ext M M1 x x1) (hq : M1 q = none) : ∀ u, M q = some u → gw x q = 1 → False := fun u hz hw => by
  have := (h.2.2 q u hz hw).1
  rw [hq] at this
  cases this
theorem RX.vst (h : RX G M a σ x ω) : RX G (hs M (gp x 7) (oB 4 (rF x (vS ω k v)))) a σ x (vS ω k v) := by
  refine h.stP (by decide) rfl rfl rfl rfl rfl rfl rfl (fun j hj => ?_) h.2.2.2.1 h.2.2.2.2.1 h.fw
  unfold upc xcell
  by_cases z : j = 7
  · subst z; rfl
  · rw [if_neg z, if_neg z, if_neg z]; rfl
theorem RX.pst (h : RX G M a σ x ω) : RX G (hs M (gp x 24) (aQ (G.2.1 10) 50 pf)) a σ x (pS ω pf) := by
  refine h.stP (by decide) rfl rfl rfl rfl rfl rfl rfl (fun j hj => ?_) h.2.2.2.1 h.2.2.2.2.1 h.fw
  unfold upc xcell
  by_cases z : j = 24
  · subst z; rfl
  · rw [if_neg z]
    have tt : j ∈ pKeys := hj
    simp only [pKeys, List.mem_cons, List.not_mem_nil, or_false] at tt
    rcases tt with tt | tt | tt | tt | tt | tt | tt | tt | tt | tt | tt | tt | tt | tt | tt <;> subst tt <;> first | rfl | exact absurd rfl z
theorem Ext.stP (hR : RX G M a σ x ω) (hk : k ∈ pKeys) : Ext M (hs M (gp x k) e) x x := ⟨⟨rfl, rfl⟩, fun _ _ h => h, fun z u hz hw => by
  refine ⟨?_, hw⟩
  rw [hs_n (fun y => by
    have := hR.wp hk
    rw [← y] at this
    omega)]
  exact hz⟩
theorem RD.c (h : RD G M a σ P τ bo lo x F T l d p pf) : M (P 7) = some (oB 4 [.int (iI F), .int (iI T), .int (iI l), .int (iI d), .int (iI p), .ref (P 24), .ref (P 25), .ref (P 26), .ref (P 27), .ref a]) := by
  obtain ⟨ω, h, rfl, -, -, -, rfl, rfl, rfl, rfl, rfl, -⟩ := h
  rw [h.1]
  exact h.p 7 (by decide)
theorem RD.pl (h : RD G M a σ P τ bo lo x F T l d p pf) : M (P 24) = some (aQ (G.2.1 10) 50 pf) := by
  obtain ⟨ω, h, rfl, -, -, -, -, -, -, -, -, rfl⟩ := h
  exact h.p24
theorem RD.w25 (h : RD G M a σ P τ bo lo x F T l d p pf) : M (P 25) = some (aQ (G.2.1 12) 9 (wdF G 0)) := by
  obtain ⟨ω, h, rfl, -⟩ := h
  exact h.p 25 (by decide)
theorem RD.w26 (h : RD G M a σ P τ bo lo x F T l d p pf) : M (P 26) = some (aQ (G.2.1 12) 7 (wdF G 9)) := by
  obtain ⟨ω, h, rfl, -⟩ := h
  exact h.p 26 (by decide)
theorem RD.w27 (h : RD G M a σ P τ bo lo x F T l d p pf) : M (P 27) = some (aQ (G.2.1 12) 5 (wdF G 16)) := by
  obtain ⟨ω, h, rfl, -⟩ := h
  exact h.p 27 (by decide)
theorem RD.tp (h : RD G M a σ P τ bo lo x F T l d p pf) : M (P 5) = some (aI (G.2.1 1) 400 τ) := by
  obtain ⟨ω, h, rfl, rfl, -⟩ := h
  exact h.p5
theorem RD.ht (h : RD G M a σ P τ bo lo x F T l d p pf) {i : Int} (h0 : 0 ≤ i) (h1 : i < 400) : τ i = σ 7 i := by
  obtain ⟨ω, h, -, rfl, -⟩ := h
  exact h.tape h0 h1
theorem RD.o (h : RD G M a σ P τ bo lo x F T l d p pf) : M a = some (oB 1 [.ref bo, .ref (P 1), .ref (P 2), .int (iI (σ 0 0)), .ref (P 4), .ref (P 5), .int (iI (σ 9 0)), .ref (P 7), .int (iI (σ 10 0)), .ref (P 9), .ref (P 10), .ref (P 11), .long (lI lo)]) := by
  obtain ⟨ω, h, rfl, -, rfl, rfl, -⟩ := h
  exact h.o
theorem RD.put0 (h : RD G M a σ P τ bo lo x F T l d p pf) : RD G (hs M (P 7) (oB 4 [.int (iI v), .int (iI T), .int (iI l), .int (iI d), .int (iI p), .ref (P 24), .ref (P 25), .ref (P 26), .ref (P 27), .ref a])) a σ P τ bo lo x v T l d p pf ∧ Ext M (hs M (P 7) (oB 4 [.int (iI v), .int (iI T), .int (iI l), .int (iI d), .int (iI p), .ref (P 24), .ref (P 25), .ref (P 26), .ref (P 27), .ref a])) x x := by
  obtain ⟨ω, h, rfl, rfl, rfl, rfl, rfl, rfl, rfl, rfl, rfl, rfl⟩ := h
  have h1 := h.vst (k := 0) (v := v)
  have e2 : rF x (vS ω 0 v) = [.int (iI v), .int (iI (gv ω 1)), .int (iI (gv ω 2)), .int (iI (gv ω 3)), .int (iI (gv ω 4)), .ref (gp x 24), .ref (gp x 25), .ref (gp x 26), .ref (gp x 27), .ref a] := by
    rw [h.1]
    rfl
  rw [e2] at h1
  exact ⟨⟨vS ω 0 v, h1, rfl, rfl, rfl, rfl, rfl, rfl, rfl, rfl, rfl, rfl⟩, Ext.stP h (by decide)⟩
theorem RD.put1 (h : RD G M a σ P τ bo lo x F T l d p pf) : RD G (hs M (P 7) (oB 4 [.int (iI F), .int (iI v), .int (iI l), .int (iI d), .int (iI p), .ref (P 24), .ref (P 25), .ref (P 26), .ref (P 27), .ref a])) a σ P τ bo lo x F v l d p pf ∧ Ext M (hs M (P 7) (oB 4 [.int (iI F), .int (iI v), .int (iI l), .int (iI d), .int (iI p), .ref (P 24), .ref (P 25), .ref (P 26), .ref (P 27), .ref a])) x x := by
  obtain ⟨ω, h, rfl, rfl, rfl, rfl, rfl, rfl, rfl, rfl, rfl, rfl⟩ := h
  have h1 := h.vst (k := 1) (v := v)
  have e2 : rF x (vS ω 1 v) = [.int (iI (gv ω 0)), .int (iI v), .int (iI (gv ω 2)), .int (iI (gv ω 3)), .int (iI (gv ω 4)), .ref (gp x 24), .ref (gp x 25), .ref (gp x 26), .ref (gp x 27), .ref a] := by
    rw [h.1]
    rfl
  rw [e2] at h1
  exact ⟨⟨vS ω 1 v, h1, rfl, rfl, rfl, rfl, rfl, rfl, rfl, rfl, rfl, rfl⟩, Ext.stP h (by decide)⟩
theorem RD.put2 (h : RD G M a σ P τ bo lo x F T l d p pf) : RD G (hs M (P 7) (oB 4 [.int (iI F), .int (iI T), .int (iI v), .int (iI d), .int (iI p), .ref (P 24), .ref (P 25), .ref (P 26), .ref (P 27), .ref a])) a σ P τ bo lo x F T v d p pf ∧ Ext M (hs M (P 7) (oB 4 [.int (iI F), .int (iI T), .int (iI v), .int (iI d), .int (iI p), .ref (P 24), .ref (P 25), .ref (P 26), .ref (P 27), .ref a])) x x := by
  obtain ⟨ω, h, rfl, rfl, rfl, rfl, rfl, rfl, rfl, rfl, rfl, rfl⟩ := h
  have h1 := h.vst (k := 2) (v := v)
  have e2 : rF x (vS ω 2 v) = [.int (iI (gv ω 0)), .int (iI (gv ω 1)), .int (iI v), .int (iI (gv ω 3)), .int (iI (gv ω 4)), .ref (gp x 24), .ref (gp x 25), .ref (gp x 26), .ref (gp x 27), .ref a] := by
    rw [h.1]
    rfl
  rw [e2] at h1
  exact ⟨⟨vS ω 2 v, h1, rfl, rfl, rfl, rfl, rfl, rfl, rfl, rfl, rfl, rfl⟩, Ext.stP h (by decide)⟩
theorem RD.put3 (h : RD G M a σ P τ bo lo x F T l d p pf) : RD G (hs M (P 7) (oB 4 [.int (iI F), .int (iI T), .int (iI l), .int (iI v), .int (iI p), .ref (P 24), .ref (P 25), .ref (P 26), .ref (P 27), .ref a])) a σ P τ bo lo x F T l v p pf ∧ Ext M (hs M (P 7) (oB 4 [.int (iI F), .int (iI T), .int (iI l), .int (iI v), .int (iI p), .ref (P 24), .ref (P 25), .ref (P 26), .ref (P 27), .ref a])) x x := by
  obtain ⟨ω, h, rfl, rfl, rfl, rfl, rfl, rfl, rfl, rfl, rfl, rfl⟩ := h
  have h1 := h.vst (k := 3) (v := v)
  have e2 : rF x (vS ω 3 v) = [.int (iI (gv ω 0)), .int (iI (gv ω 1)), .int (iI (gv ω 2)), .int (iI v), .int (iI (gv ω 4)), .ref (gp x 24), .ref (gp x 25), .ref (gp x 26), .ref (gp x 27), .ref a] := by
    rw [h.1]
    rfl
  rw [e2] at h1
  exact ⟨⟨vS ω 3 v, h1, rfl, rfl, rfl, rfl, rfl, rfl, rfl, rfl, rfl, rfl⟩, Ext.stP h (by decide)⟩
theorem RD.put4 (h : RD G M a σ P τ bo lo x F T l d p pf) : RD G (hs M (P 7) (oB 4 [.int (iI F), .int (iI T), .int (iI l), .int (iI d), .int (iI v), .ref (P 24), .ref (P 25), .ref (P 26), .ref (P 27), .ref a])) a σ P τ bo lo x F T l d v pf ∧ Ext M (hs M (P 7) (oB 4 [.int (iI F), .int (iI T), .int (iI l), .int (iI d), .int (iI v), .ref (P 24), .ref (P 25), .ref (P 26), .ref (P 27), .ref a])) x x := by
  obtain ⟨ω, h, rfl, rfl, rfl, rfl, rfl, rfl, rfl, rfl, rfl, rfl⟩ := h
  have h1 := h.vst (k := 4) (v := v)
  have e2 : rF x (vS ω 4 v) = [.int (iI (gv ω 0)), .int (iI (gv ω 1)), .int (iI (gv ω 2)), .int (iI (gv ω 3)), .int (iI v), .ref (gp x 24), .ref (gp x 25), .ref (gp x 26), .ref (gp x 27), .ref a] := by
    rw [h.1]
    rfl
  rw [e2] at h1
  exact ⟨⟨vS ω 4 v, h1, rfl, rfl, rfl, rfl, rfl, rfl, rfl, rfl, rfl, rfl⟩, Ext.stP h (by decide)⟩
theorem RD.pile (h : RD G M a σ P τ bo lo x F T l d p pf) : RD G (hs M (P 24) (aQ (G.2.1 10) 50 pg)) a σ P τ bo lo x F T l d p pg ∧ Ext M (hs M (P 24) (aQ (G.2.1 10) 50 pg)) x x := by
  obtain ⟨ω, h, rfl, rfl, rfl, rfl, rfl, rfl, rfl, rfl, rfl, -⟩ := h
  exact ⟨⟨pS ω pg, h.pst, rfl, rfl, rfl, rfl, rfl, rfl, rfl, rfl, rfl, rfl⟩, Ext.stP h (by decide)⟩
/-- a new cell -/
theorem RD.nw (h : RD G M a σ P τ bo lo x F T l d p pf) (hq : M q = none) : ∃ x2, RD G (hs M q e) a σ P τ bo lo x2 F T l d p pf ∧ Ext M (hs M q e) x x2 ∧ gw x2 q = 1 := by
  obtain ⟨ω, h, r⟩ := h
  exact ⟨xw x q 1, ⟨ω, h.al hq 1, r⟩, ⟨⟨rfl, rfl⟩, fun _ _ z => z, fun z u hz hw => by
    have n : z ≠ q := fun y => by rw [y, hq] at hz; cases hz
    exact ⟨by rw [hs_n n]; exact hz, (xw_n n).trans hw⟩⟩, xw_s⟩
/-- a store into a new cell -/
theorem RD.tmp (h : RD G M1 a σ P τ bo lo x1 F T l d p pf) (hE : Ext M M1 x x1) (hw1 : gw x1 q = 1) (hq : ∀ u, M q = some u → gw x q = 1 → False) : RD G (hs M1 q e) a σ P τ bo lo x1 F T l d p pf ∧ Ext M (hs M1 q e) x x1 ∧ ∀ y u, y ≠ q → M1 y = some u → gw x1 y = 1 → hs M1 q e y = some u ∧ gw x1 y = 1 := by
  obtain ⟨ω, h, r⟩ := h
  refine ⟨⟨ω, h.tmp hw1, r⟩, ⟨hE.1, hE.2.1, fun z u hz hw => ?_⟩, fun y u n hy hw => ⟨by rw [hs_n n]; exact hy, hw⟩⟩
  obtain ⟨a1, a2⟩ := hE.2.2 z u hz hw
  exact ⟨by rw [hs_n (fun (y : z = q) => hq u (by rw [← y]; exact hz) (by rw [← y]; exact hw))]; exact a1, a2⟩
/-- an object is made and kept -/
theorem RD.node (h : RD G M1 a σ P τ bo lo x1 F T l d p pf) (hE : Ext M M1 x x1) (hw1 : gw x1 q = 1) (hq : ∀ u, M q = some u → gw x q = 1 → False) : ∃ x2, RD G (hs M1 q e) a σ P τ bo lo x2 F T l d p pf ∧ Ext M (hs M1 q e) x x2 ∧ gI x2 q = some e ∧ (∀ y u, gI x1 y = some u → gI x2 y = some u) ∧ ∀ y u, y ≠ q → M1 y = some u → gw x1 y = 1 → hs M1 q e y = some u ∧ gw x2 y = 1 := by
  obtain ⟨h1, hE1, -⟩ := RD.tmp (e := e) h hE hw1 hq
  obtain ⟨ω, h1, r⟩ := h1
  have nI : ∀ y u, gI x1 y = some u → y ≠ q := fun y u hy z => by
    have := (h1.2.2.1 y u hy).2
    rw [z] at this
    omega
  refine ⟨xi x1 q e, ⟨ω, h1.fz hw1 hs_s, r⟩, ⟨hE1.1, fun y u hy => ?_, fun z u hz hw => ?_⟩, xi_s, fun y u hy => (xi_n (nI y u hy)).trans hy, fun y u n hy hw => ⟨by rw [hs_n n]; exact hy, (xi_w n).trans hw⟩⟩
  · have h2 := hE1.2.1 y u hy
    exact (xi_n (nI y u h2)).trans h2
  · obtain ⟨a1, a2⟩ := hE1.2.2 z u hz hw
    exact ⟨a1, (xi_w (fun (y : z = q) => hq u (by rw [← y]; exact hz) (by rw [← y]; exact hw))).trans a2⟩
theorem RD.I (h : RD G M a σ P τ bo lo x F T l d p pf) (hq : gI x q = some e) : M q = some e := by
  obtain ⟨ω, h, -⟩ := h
  exact h.sub _ _ hq
end RST
