/-! images -/
def k0 : Int → Int := fun i => if (0 ≤ i ∧ i < 18) ∧ i % 3 = 1 then 7 else if i = 18 then 100 else if i = 22 then 20 else 0
def nx (B : Nat → Nat) : XGh := (fun _ => 0, fun _ => none, fun _ => 0, fun _ => B, fun _ _ _ => 0)
def nω (z : Nat → Int → Int) : XCt := (fun _ _ => 0, fun _ => z, fun _ _ _ => none, fun _ _ => none, fun _ _ _ _ => 0, 0, fun _ => 0)
def xB (x : XGh) (w' : Nat → Nat) (t : Nat) (B : Nat → Nat) : XGh := (w', gI x, gp x, fun b => if b = t then B else gb x b, gf x)
def ωB (ω : XCt) (t : Nat) (z : Nat → Int → Int) : XCt := (gy ω, fun b => if b = t then z else gz ω b, fun b => if b = t then fun _ _ => none else gq ω b, gn ω, gg ω, gl ω, gv ω)
def nS (ω : XCt) (i : Int) (y : Nat) : XCt := (gy ω, gz ω, gq ω, fun k => if k = 1 then upq (gn ω 1) i (some y) else gn ω k, gg ω, gl ω, gv ω)
section IMG
variable {G : MG} {M N : Hp} {a q t k : Nat} {x x1 : XGh} {ω ω1 : XCt} {κ κ' : Int → Int} {σ : St} {f i j : Int} {B w' : Nat → Nat} {z : Nat → Int → Int} {J J' : Nat → Prop}
theorem bcell_xB : bcell G κ (xB x w' t B) (ωB ω t z) t = bcell G κ (nx B) (nω z) 0 := by
  have e1 : gb (xB x w' t B) t = B := if_pos rfl
  have e2 : gz (ωB ω t z) t = z := if_pos rfl
  have e3 : gq (ωB ω t z) t = fun _ _ => none := if_pos rfl
  unfold bcell bF
  rw [e1, e2, e3]
  rfl
theorem BenchAt_xB {b : Nat} (h : BenchAt G M x ω b κ) (hb : b ≠ t) (hM : ∀ y e, M y = some e → gw x y ≠ 1 → N y = some e ∧ w' y = gw x y) : BenchAt G N (xB x w' t B) (ωB ω t z) b κ := by
  obtain ⟨b1, b2, b3⟩ := h
  have e1 : gb (xB x w' t B) b = gb x b := if_neg hb
  have e2 : gz (ωB ω t z) b = gz ω b := if_neg hb
  have e3 : gq (ωB ω t z) b = gq ω b := if_neg hb
  refine ⟨?_, ?_, fun g hg => ?_⟩
  · have eb : bcell G κ (xB x w' t B) (ωB ω t z) b = bcell G κ x ω b := by unfold bcell bF; rw [e1, e2, e3]
    rw [eb, e1]
    intro k hk
    obtain ⟨d1, d2⟩ := b1 k hk
    obtain ⟨c1, c2⟩ := hM _ _ d1 (by omega)
    exact ⟨c1, c2.trans d2⟩
  · unfold RestB NulB at *
    rw [e2, e3]
    exact b2
  · obtain ⟨f1, f2, f3⟩ := b3 g hg
    refine ⟨by rw [e3]; exact f1, fun k hk => ?_, f3⟩
    obtain ⟨d1, d2⟩ := f2 k hk
    obtain ⟨c1, c2⟩ := hM _ _ d1 (by omega)
    exact ⟨c1, c2.trans d2⟩
/-- a new bench is made -/
theorem RXb.nw (h : RXb G M a σ x ω J) (hJ : ¬ J t) (ht : t ≠ 0) (hM : ∀ y e, M y = some e → gw x y ≠ 1 → N y = some e ∧ w' y = gw x y) : RXb G N a σ (xB x w' t B) (ωB ω t z) J := by
  obtain ⟨h0, h1, h2, h3, h4, h5, h6, h7⟩ := h
  refine ⟨h0, ?_, fun y e hy => ?_, h3, h4, h5, fun hj => BenchAt_xB (h6 hj) (fun u => hJ (u ▸ hj)) hM, fun k hk hj => ?_⟩
  · intro k hk
    obtain ⟨d1, d2⟩ := h1 k hk
    obtain ⟨c1, c2⟩ := hM _ _ d1 (by omega)
    refine ⟨?_, c2.trans d2⟩
    by_cases z0 : k = 0
    · subst z0
      have : gb (xB x w' t B) 0 = gb x 0 := if_neg (fun u => ht u.symm)
      show N (gp x 0) = some (oB 1 (xF σ (xB x w' t B) (ωB ω t z)))
      unfold xF
      rw [this]
      exact c1
    · have ec : xcell G σ (xB x w' t B) (ωB ω t z) k = xcell G σ x ω k := by
        unfold xcell
        rw [if_neg z0, if_neg z0]
        rfl
      rw [ec]
      exact c1
  · obtain ⟨d1, d2⟩ := h2 y e hy
    obtain ⟨c1, c2⟩ := hM _ _ d1 (by omega)
    exact ⟨c1, c2.trans d2⟩
  · have e1 : gb (xB x w' t B) (k + 1) = gb x (k + 1) := if_neg (fun u : k + 1 = t => hJ (u ▸ hj))
    rcases h7 k hk hj with ⟨g1, g2, g3⟩ | g
    · exact Or.inl ⟨g1, by rw [e1]; exact g2, BenchAt_xB g3 (fun u => hJ (u ▸ hj)) hM⟩
    · exact Or.inr g
theorem k0_e {j v : Int} (h : (if (0 ≤ j ∧ j < 18) ∧ j % 3 = 1 then (7 : Int) else if j = 18 then 100 else if j = 22 then 20 else 0) = v) : v = k0 j := h.symm
theorem k0_13 (i0 : 0 ≤ i) (i1 : i < 9) : (0 : Int) = k0 (1732 + 2 * i) := k0_e (by (repeat' split) <;> omega)
theorem k0_14 (i0 : 0 ≤ i) (i1 : i < 9) : (0 : Int) = k0 (1732 + 2 * i + 1) := k0_e (by (repeat' split) <;> omega)
theorem k0_15 (i0 : 0 ≤ i) (i1 : i < 6) : (0 : Int) = k0 (0 + 3 * i) := k0_e (by (repeat' split) <;> omega)
theorem k0_16 (i0 : 0 ≤ i) (i1 : i < 6) : up (up (up (up (up (up (fun _ => 0) 0 7) 1 7) 2 7) 3 7) 4 7) 5 7 i = k0 (0 + 3 * i + 1) := k0_e (by unfold up; (repeat' split) <;> omega)
theorem k0_17 (i0 : 0 ≤ i) (i1 : i < 6) : (0 : Int) = k0 (0 + 3 * i + 2) := k0_e (by (repeat' split) <;> omega)
theorem k0_18 (i0 : 0 ≤ i) (i1 : i < 6) : up (up (up (up (up (up (fun _ => 0) 0 100) 1 0) 2 0) 3 0) 4 20) 5 0 i = k0 (18 + i) := k0_e (by unfold up; (repeat' split) <;> omega)
theorem k0_19 (i0 : 0 ≤ i) (i1 : i < 4) : (0 : Int) = k0 (24 + i) := k0_e (by (repeat' split) <;> omega)
theorem k0_20 (i0 : 0 ≤ i) (i1 : i < 12) : (0 : Int) = k0 (28 + i) := k0_e (by (repeat' split) <;> omega)
theorem k0_21 (i0 : 0 ≤ i) (i1 : i < 96) : (0 : Int) = k0 (40 + i) := k0_e (by (repeat' split) <;> omega)
/-- a bench laid among the images -/
theorem RXb.img (h : RXb G M a σ x ω J) {y : Nat} (hJ : ∀ k : Nat, k < 2 → J (k + 1) → (k : Int) ≠ i) {e : va_E} (he : e = aQ (G.2.1 4) 2 (upq (gn ω 1) i (some y))) : RXb G (hs M (gp x 1) e) a σ x (nS ω i y) J := by
  obtain ⟨h0, h1, h2, h3, h4, h5, h6, h7⟩ := h
  have p1 : (1 : Nat) ∈ pKeys := by decide
  obtain ⟨c1, w1⟩ := h1 1 p1
  have hb : ∀ b κ, BenchAt G M x ω b κ → BenchAt G (hs M (gp x 1) e) x (nS ω i y) b κ := fun b κ hB => by
    obtain ⟨b1, b2, b3⟩ := hB
    refine ⟨Gp_out b1 (fun j hj => by rw [w1]; omega), b2, fun g hg => ?_⟩
    obtain ⟨f1, f2, f3⟩ := b3 g hg
    exact ⟨f1, Gp_out f2 (fun j hj => by rw [w1]; omega), f3⟩
  refine ⟨h0, ?_, Sub_st h2 (by omega), h3, h4, h5, fun hj => hb 0 _ (h6 hj), fun k hk hj => ?_⟩
  · refine Gp_cg (Gp_up h1 p1) (fun j hj => ?_)
    unfold upc
    by_cases z1 : j = 1
    · rw [if_pos z1, z1, he]; rfl
    · rw [if_neg z1]
      unfold xcell xF rF
      have e2 : ∀ j, j ≠ 1 → gn (nS ω i y) j = gn ω j := fun j h => if_neg h
      rw [e2 24 (by decide), if_neg z1, if_neg z1]
      rfl
  · have e1 : gn (nS ω i y) 1 k = gn ω 1 k := by
      have : gn (nS ω i y) 1 = upq (gn ω 1) i (some y) := rfl
      rw [this, upq_n (hJ k hk hj)]
    rcases h7 k hk hj with ⟨g1, g2, g3⟩ | g
    · exact Or.inl ⟨g1, by rw [e1]; exact g2, hb _ _ g3⟩
    · exact Or.inr ⟨g.1, by rw [e1]; exact g.2⟩
theorem Tk.bench (h : Tk G M N x x1 ω ω1 t κ (κ 1753)) (hR : RestB G x1 ω1 t κ) : BenchAt G N x1 ω1 t κ := ⟨by rw [h.2.1.2.2.1]; exact h.1, hR, h.2.2.2.2.2⟩
theorem RX_image (h : RXb G N a σ x ω (fun j => j ≠ k + 1)) (hk : k < 2) (hn : gn ω 1 k = some (gb x (k + 1) 0)) (hb : BenchAt G N x ω (k + 1) (σ 2)) (hW : WK (σ 2)) (hIm : ∀ j : Nat, j < 2 → σ 4 j = 1 → WK (imK σ j)) : RX G N a (st (sa σ 3 (cpA (σ 3) (11370 * k) 11370 (σ 2))) 4 k 1) x ω := by
  obtain ⟨h0, h1, h2, h3, h4, h5, h6, h7⟩ := h
  have n1 : ∀ g, g ≠ 3 → g ≠ 4 → st (sa σ 3 (cpA (σ 3) (11370 * k) 11370 (σ 2))) 4 k 1 g = σ g := fun g g3 g4 => by rw [st_n g4, sa_n g3]
  have n3 : st (sa σ 3 (cpA (σ 3) (11370 * k) 11370 (σ 2))) 4 k 1 3 = cpA (σ 3) (11370 * k) 11370 (σ 2) := by rw [st_n (by decide), sa_s]
  have e1 : xcell G (st (sa σ 3 (cpA (σ 3) (11370 * k) 11370 (σ 2))) 4 k 1) x ω = xcell G σ x ω := by unfold xcell xF; rw [n1 0 (by decide) (by decide), n1 9 (by decide) (by decide), n1 10 (by decide) (by decide)]
  refine ⟨h0, by rw [e1]; exact h1, h2, by rw [n1 1 (by decide) (by decide)]; exact h3, by rw [n1 7 (by decide) (by decide)]; exact h4, h5, by rw [n1 2 (by decide) (by decide)]; exact h6 (by omega), fun j hj => ?_⟩
  by_cases z : j = k
  · subst z
    refine Or.inl ⟨st_s, hn, BenchAt_ag hb hW (fun i i0 i1 => ?_)⟩
    unfold imK
    rw [n3, cpA_in (by omega), show 11370 * (j : Int) + i - 11370 * j = i by omega]
  · have e4 : st (sa σ 3 (cpA (σ 3) (11370 * k) 11370 (σ 2))) 4 k 1 4 j = σ 4 j := by rw [st_i (by omega), sa_n (by decide)]
    rcases h7 j hj (by omega) with ⟨g1, g2, g3⟩ | ⟨g1, g2⟩
    · refine Or.inl ⟨by rw [e4]; exact g1, g2, BenchAt_ag g3 (hIm j hj g1) (fun i i0 i1 => ?_)⟩
      unfold imK
      rw [n3, cpA_out (by omega)]
    · exact Or.inr ⟨by rw [e4]; exact g1, g2⟩
theorem RX_back (h : RXb G N a σ x ω (fun j => j ≠ 0)) (hb : BenchAt G N x ω 0 (imK σ k)) (hW : WK (imK σ k)) : RX G N a (sa σ 2 (cpA (σ 2) 0 11370 (fun i => σ 3 (11370 * k + i)))) x ω := by
  obtain ⟨h0, h1, h2, h3, h4, h5, h6, h7⟩ := h
  have n1 : ∀ g, g ≠ 2 → sa σ 2 (cpA (σ 2) 0 11370 (fun i => σ 3 (11370 * k + i))) g = σ g := fun g g2 => sa_n g2
  have e1 : xcell G (sa σ 2 (cpA (σ 2) 0 11370 (fun i => σ 3 (11370 * k + i)))) x ω = xcell G σ x ω := by unfold xcell xF; rw [n1 0 (by decide), n1 9 (by decide), n1 10 (by decide)]
  have im : ∀ j : Int, imK (sa σ 2 (cpA (σ 2) 0 11370 (fun i => σ 3 (11370 * k + i)))) j = imK σ j := fun j => by unfold imK; rw [n1 3 (by decide)]
  refine ⟨h0, by rw [e1]; exact h1, h2, by rw [n1 1 (by decide)]; exact h3, by rw [n1 7 (by decide)]; exact h4, h5, ?_, fun j hj => ?_⟩
  · rw [sa_s]
    refine BenchAt_ag hb hW (fun i i0 i1 => ?_)
    rw [cpA_in (by omega)]
    unfold imK
    rw [show i - 0 = i by omega]
  · rw [im, n1 4 (by decide)]
    exact h7 j hj (by omega)
theorem RXb.o (h : RXb G M a σ x ω J) : M a = some (oB 1 (xF σ x ω)) := by
  have := (h.2.1 0 (by decide)).1
  rw [← h.1] at this
  exact this
theorem RXb.p1 (h : RXb G M a σ x ω J) : M (gp x 1) = some (aQ (G.2.1 4) 2 (gn ω 1)) := (h.2.1 1 (by decide)).1
theorem hfk_of (h : KI κ) : ∀ f, 0 ≤ f → f < κ 1753 → (κ (184 + 26 * f + 7) = 0 ∨ κ (184 + 26 * f + 7) = 1) ∧ (κ (184 + 26 * f + 13) = 0 ∨ κ (184 + 26 * f + 13) = 1) := fun f h0 h1 => by
  have b1 := h.f f h0 h1
  unfold kFlask fl at b1
  omega
/-- the state of the heap behind the constructor of a bench that shall be an image -/
theorem RXb.start (h : RX G M a σ x ω) (hq : gw x q = 1) (hf : ∀ v e, M v = some e → v ≠ q → N v = some e ∧ w' v = gw x v) (hB : B 0 = q) (hG : Gp N w' (200 + 100 * (k + 1)) bKeys B (bcell G k0 (nx B) (nω z) 0)) : ∃ x2 ω2, RXb G N a σ x2 ω2 (fun j => j ≠ k + 1) ∧ gp x2 = gp x ∧ gb x2 (k + 1) 0 = q ∧ Gp N (gw x2) (200 + 100 * (k + 1)) bKeys (gb x2 (k + 1)) (bcell G k0 x2 ω2 (k + 1)) := by
  have e1 : gb (xB x w' (k + 1) B) (k + 1) = B := if_pos rfl
  refine ⟨xB x w' (k + 1) B, ωB ω (k + 1) z, RXb.nw (h.toB _) (fun u => u rfl) (by omega) (fun y e hy hw => hf y e hy (fun u => hw (by rw [u]; exact hq))), rfl, by rw [e1]; exact hB, ?_⟩
  rw [bcell_xB, e1]
  exact hG
theorem RXb.lay (h : RXb G M a σ x1 ω (fun j => j ≠ k + 1)) (hgp : gp x1 = gp x) (hi : (k : Int) = i) (hq : gb x1 (k + 1) 0 = q) (hG : Gp M (gw x1) (200 + 100 * (k + 1)) bKeys (gb x1 (k + 1)) (bcell G k0 x1 ω (k + 1))) : ∃ ω3, RXb G (hs M (gp x 1) (aQ (G.2.1 4) 2 (upq (gn ω 1) i (some q)))) a σ x1 ω3 (fun j => j ≠ k + 1) ∧ gn ω3 1 i = some (gb x1 (k + 1) 0) ∧ Gp (hs M (gp x 1) (aQ (G.2.1 4) 2 (upq (gn ω 1) i (some q)))) (gw x1) (200 + 100 * (k + 1)) bKeys (gb x1 (k + 1)) (bcell G k0 x1 ω3 (k + 1)) := by
  rw [← hgp, ← hq]
  refine ⟨nS ω i (gb x1 (k + 1) 0), h.img (fun j hj u => ?_) rfl, upq_s, ?_⟩
  · have : j + 1 ≠ k + 1 := u
    omega
  · show Gp _ _ _ _ _ (bcell G k0 x1 ω (k + 1))
    exact Gp_out hG (fun j hj => by rw [(h.2.1 1 (by decide)).2]; omega)
theorem RXb.imaged (h : RXb G M a σ x ω (fun j => j ≠ k + 1)) (hk : k < 2) (hi : (k : Int) = i) (hn : gn ω 1 i = some (gb x (k + 1) 0)) (hT : Tk G M N x x1 ω ω1 (k + 1) (σ 2) (σ 2 1753)) (hR : RestB G x1 ω1 (k + 1) (σ 2)) (hW : WK (σ 2)) (hIm : ∀ j : Nat, j < 2 → σ 4 j = 1 → WK (imK σ j)) : RX G N a (st (sa σ 3 (cpA (σ 3) (11370 * i) 11370 (σ 2))) 4 i 1) x1 ω1 := by
  subst hi
  refine RX_image (h.tk hT (fun u => u rfl) (by omega)) hk ?_ (hT.bench hR) hW hIm
  rw [hT.2.2.1.2.1, hT.2.1.2.2.1]
  exact hn
theorem RX.backed (h : RX G M a σ x ω) (hi : (k : Int) = i) (hT : Tk G M N x x1 ω ω1 0 (imK σ i) (imK σ i 1753)) (hR : RestB G x1 ω1 0 (imK σ i)) (hW : WK (imK σ i)) : RX G N a (sa σ 2 (cpA (σ 2) 0 11370 (fun j => σ 3 (11370 * i + j)))) x1 ω1 := by
  subst hi
  exact RX_back ((h.toB _).tk hT (fun u => u rfl) (by omega)) (hT.bench hR) hW
end IMG
