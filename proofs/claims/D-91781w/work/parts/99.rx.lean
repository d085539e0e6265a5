/-! THE COMPONENT'S HEAP AND THE MODEL'S STATE -/
abbrev XGh : Type := (Nat → Nat) × Hp × (Nat → Nat) × (Nat → Nat → Nat) × (Nat → Nat → Nat → Nat)
abbrev XCt : Type := (Nat → Int → Int) × (Nat → Nat → Int → Int) × (Nat → Nat → Int → Option Nat) × (Nat → Int → Option Nat) × (Nat → Nat → Nat → Int → Int) × Int × (Nat → Int)
abbrev gw (x : XGh) : Nat → Nat := x.1
abbrev gI (x : XGh) : Hp := x.2.1
abbrev gp (x : XGh) : Nat → Nat := x.2.2.1
abbrev gb (x : XGh) : Nat → Nat → Nat := x.2.2.2.1
abbrev gf (x : XGh) : Nat → Nat → Nat → Nat := x.2.2.2.2
abbrev gy (ω : XCt) : Nat → Int → Int := ω.1
abbrev gz (ω : XCt) : Nat → Nat → Int → Int := ω.2.1
abbrev gq (ω : XCt) : Nat → Nat → Int → Option Nat := ω.2.2.1
abbrev gn (ω : XCt) : Nat → Int → Option Nat := ω.2.2.2.1
abbrev gg (ω : XCt) : Nat → Nat → Nat → Int → Int := ω.2.2.2.2.1
abbrev gl (ω : XCt) : Int := ω.2.2.2.2.2.1
abbrev gv (ω : XCt) : Nat → Int := ω.2.2.2.2.2.2
def xF (σ : St) (x : XGh) (ω : XCt) : List Value := [.ref (gb x 0 0), .ref (gp x 1), .ref (gp x 2), .int (iI (σ 0 0)), .ref (gp x 4), .ref (gp x 5), .int (iI (σ 9 0)), .ref (gp x 7), .int (iI (σ 10 0)), .ref (gp x 9), .ref (gp x 10), .ref (gp x 11), .long (lI (gl ω))]
def rF (x : XGh) (ω : XCt) : List Value := [.int (iI (gv ω 0)), .int (iI (gv ω 1)), .int (iI (gv ω 2)), .int (iI (gv ω 3)), .int (iI (gv ω 4)), .ref (gp x 24), .ref (gp x 25), .ref (gp x 26), .ref (gp x 27), .ref (gp x 0)]
def pKeys : List Nat := [0, 1, 2, 4, 5, 7, 9, 10, 11, 22, 23, 24, 25, 26, 27]
/-- the reader's words: the texts' addresses lie in G from 100 on -/
def wdF (G : MG) (o : Nat) : Int → Option Nat := fun i => some (G.2.2 (100 + o + i.toNat))
def xcell (G : MG) (σ : St) (x : XGh) (ω : XCt) : Nat → va_E := fun k => if k = 0 then oB 1 (xF σ x ω) else if k = 1 then aQ (G.2.1 4) 2 (gn ω 1) else if k = 2 then aI (G.2.1 0) 7 (gy ω 2) else if k = 4 then oB 3 [.ref (gp x 22), .int (iI 0)] else if k = 5 then aI (G.2.1 1) 400 (gy ω 5) else if k = 7 then oB 4 (rF x ω) else if k = 9 then aI (G.2.1 0) 12 (gy ω 9) else if k = 10 then aI (G.2.1 0) 4096 (gy ω 10) else if k = 11 then oB 3 [.ref (gp x 23), .int (iI 0)] else if k = 22 then aI (G.2.1 0) 9 (gy ω 22) else if k = 23 then aI (G.2.1 0) 9 (gy ω 23) else if k = 24 then aQ (G.2.1 10) 50 (gn ω 24) else if k = 25 then aQ (G.2.1 12) 9 (wdF G 0) else if k = 26 then aQ (G.2.1 12) 7 (wdF G 9) else aQ (G.2.1 12) 5 (wdF G 16)
def bF (κ : Int → Int) (x : XGh) (b : Nat) : List Value := [.int (iI (κ 1750)), .int (iI (κ 1752)), .int (iI (κ 1753)), .int (iI (κ 1754)), .int (iI (κ 1755)), .int (iI (κ 1756)), .int (iI (κ 1757)), .long (lI (κ 1751)), .ref (gb x b 8), .ref (gb x b 9), .ref (gb x b 10), .ref (gb x b 11), .ref (gb x b 12), .ref (gb x b 13), .ref (gb x b 14), .ref (gb x b 15), .ref (gb x b 16), .ref (gb x b 17), .ref (gb x b 18), .ref (gb x b 19), .ref (gb x b 20), .ref (gb x b 21)]
def bKeys : List Nat := [0, 8, 9, 10, 11, 12, 13, 14, 15, 16, 17, 18, 19, 20, 21]
def bcell (G : MG) (κ : Int → Int) (x : XGh) (ω : XCt) (b : Nat) : Nat → va_E := fun k => if k = 0 then oB 2 (bF κ x b) else if k = 8 then aQ (G.2.1 5) 8 (gq ω b 8) else if k = 9 then aQ (G.2.1 6) 40 (gq ω b 9) else if k = 10 then aQ (G.2.1 7) 40 (gq ω b 10) else if k = 11 then aQ (G.2.1 8) 12 (gq ω b 11) else if k = 12 then aQ (G.2.1 9) 12 (gq ω b 12) else if k = 13 then aI (G.2.1 0) 9 (gz ω b 13) else if k = 14 then aI (G.2.1 0) 9 (gz ω b 14) else if k = 15 then aI (G.2.1 0) 6 (gz ω b 15) else if k = 16 then aI (G.2.1 0) 6 (gz ω b 16) else if k = 17 then aI (G.2.1 0) 6 (gz ω b 17) else if k = 18 then aI (G.2.1 0) 6 (gz ω b 18) else if k = 19 then aI (G.2.1 0) 4 (gz ω b 19) else if k = 20 then aI (G.2.1 0) 12 (gz ω b 20) else aI (G.2.1 0) 96 (gz ω b 21)
def fci (s : Int) : Nat := if s = 1 then 7 else if s = 0 ∨ s = 3 then 6 else 8
def fF (κ : Int → Int) (x : XGh) (b f : Nat) : List Value := [.int (iI (κ (184 + 26 * f + 0))), .int (iI (κ (184 + 26 * f + 1))), .int (iI (κ (184 + 26 * f + 8))), .int (iI (κ (184 + 26 * f + 9))), .int (iI (κ (184 + 26 * f + 5))), .int (iI (κ (184 + 26 * f + 2))), .int (iI (κ (184 + 26 * f + 3))), .int (iI (κ (184 + 26 * f + 4))), .int (iI (κ (184 + 26 * f + 10))), .int (iI (κ (184 + 26 * f + 6))), .int (iI (κ (184 + 26 * f + 11))), .int (iI (κ (184 + 26 * f + 12))), .int (iI (κ (184 + 26 * f + 14))), .int (iI (κ (184 + 26 * f + 15))), .int (iI (κ (184 + 26 * f + 16))), .int (iI (κ (184 + 26 * f + 7))), .int (iI (κ (184 + 26 * f + 13))), .ref (gf x b f 1), .ref (gf x b f 2)]
def fcell (G : MG) (κ : Int → Int) (x : XGh) (ω : XCt) (b f : Nat) : Nat → va_E := fun k => if k = 0 then oB (fci (κ (184 + 26 * f + 1))) (fF κ x b f) else if k = 1 then aI (G.2.1 0) 4 (gg ω b f 1) else aI (G.2.1 0) 4 (gg ω b f 2)
/-- the bench's rows of numbers -/
def Zok (κ : Int → Int) (z : Nat → Int → Int) : Prop := (∀ i, 0 ≤ i → i < 9 → z 13 i = κ (1732 + 2 * i) ∧ z 14 i = κ (1732 + 2 * i + 1)) ∧ (∀ i, 0 ≤ i → i < 6 → z 15 i = κ (0 + 3 * i) ∧ z 16 i = κ (0 + 3 * i + 1) ∧ z 17 i = κ (0 + 3 * i + 2) ∧ z 18 i = κ (18 + i)) ∧ (∀ i, 0 ≤ i → i < 4 → z 19 i = κ (24 + i)) ∧ (∀ i, 0 ≤ i → i < 12 → z 20 i = κ (28 + i)) ∧ ∀ i, 0 ≤ i → i < 96 → z 21 i = κ (40 + i)
def KindR (N : Hp) (y : Nat) (κ : Int → Int) (k : Int) : Prop := N y = some (oB 5 [.int (iI (κ (136 + 6 * k + 0))), .int (iI (κ (136 + 6 * k + 1))), .int (iI (κ (136 + 6 * k + 2))), .int (iI (κ (136 + 6 * k + 3))), .int (iI (κ (136 + 6 * k + 5))), .int (iI (κ (136 + 6 * k + 4)))])
def LookR (G : MG) (N : Hp) (y : Nat) (κ : Int → Int) (k : Int) : Prop := ∃ (n : Nat) (f : Int → Int), N y = some (oB 9 [.ref n, .int (iI 0), .int (iI (κ (1224 + 10 * k + 9)))]) ∧ N n = some (aI (G.2.1 0) 9 f) ∧ ∀ j, 0 ≤ j → j < 9 → f j = loA κ k j
def TrialR (G : MG) (N : Hp) (y : Nat) (κ : Int → Int) (k : Int) : Prop := ∃ (n : Nat) (f : Int → Int), N y = some (oB 3 [.ref n, .int (iI 0)]) ∧ N n = some (aI (G.2.1 0) 9 f) ∧ ∀ j, 0 ≤ j → j < 9 → f j = trA κ k j
/-- what lies in the rows of references is kept, and of its class -/
def NulB (x : XGh) (ω : XCt) (b : Nat) : Prop := (∀ k y, 0 ≤ k → k < 8 → gq ω b 8 k = some y → ∃ fs, gI x y = some (oB 5 fs)) ∧ (∀ k y, 0 ≤ k → k < 40 → gq ω b 10 k = some y → ∃ fs, gI x y = some (oB 9 fs)) ∧ (∀ k y, 0 ≤ k → k < 12 → gq ω b 11 k = some y → ∃ fs, gI x y = some (oB 3 fs)) ∧ ∀ k y, 0 ≤ k → k < 12 → gq ω b 12 k = some y → ∃ fs, gI x y = some (oB 19 fs)
def RestB (G : MG) (x : XGh) (ω : XCt) (b : Nat) (κ : Int → Int) : Prop := Zok κ (gz ω b) ∧
  (∀ k, 0 ≤ k → k < κ 1752 → ∃ y, gq ω b 8 k = some y ∧ KindR (gI x) y κ k) ∧
  (∀ k, 0 ≤ k → k < κ 1754 → ∃ y, gq ω b 10 k = some y ∧ LookR G (gI x) y κ k) ∧
  (∀ k, 0 ≤ k → k < κ 1755 → ∃ y, gq ω b 11 k = some y ∧ TrialR G (gI x) y κ k) ∧
  (∀ k, 0 ≤ k → k < κ 1756 → ∃ y, gq ω b 12 k = some y ∧ TextAt G 200 (gI x) y (tm κ k)) ∧ NulB x ω b
def FlaskB (G : MG) (M : Hp) (x : XGh) (ω : XCt) (b : Nat) (κ : Int → Int) (f : Nat) : Prop := gq ω b 9 f = some (gf x b f 0) ∧ Gp M (gw x) (1000 * (b + 1) + 3 * f) [0, 1, 2] (gf x b f) (fcell G κ x ω b f) ∧ ∀ i, 0 ≤ i → i < 4 → gg ω b f 1 i = κ (184 + 26 * f + 17 + 2 * i) ∧ gg ω b f 2 i = κ (184 + 26 * f + 18 + 2 * i)
def BenchAt (G : MG) (M : Hp) (x : XGh) (ω : XCt) (b : Nat) (κ : Int → Int) : Prop := Gp M (gw x) (200 + 100 * b) bKeys (gb x b) (bcell G κ x ω b) ∧ RestB G x ω b κ ∧ ∀ f : Nat, (f : Int) < κ 1753 → FlaskB G M x ω b κ f
def imK (σ : St) (k : Int) : Int → Int := fun i => σ 3 (11370 * k + i)
def RX (G : MG) (M : Hp) (a : Nat) (σ : St) (x : XGh) (ω : XCt) : Prop := a = gp x 0 ∧ Gp M (gw x) 100 pKeys (gp x) (xcell G σ x ω) ∧ Sub (gI x) M (gw x) ∧ (∀ i, 0 ≤ i → i < 7 → gy ω 2 i = σ 1 i) ∧ (∀ i, 0 ≤ i → i < 400 → gy ω 5 i = σ 7 i) ∧ FWok (gy ω 10) ∧ BenchAt G M x ω 0 (σ 2) ∧
  ∀ k : Nat, k < 2 → (σ 4 k = 1 ∧ gn ω 1 k = some (gb x (k + 1) 0) ∧ BenchAt G M x ω (k + 1) (imK σ k)) ∨ (σ 4 k = 0 ∧ gn ω 1 k = none)
/-! from the kept part to the heap -/
theorem SumAt_up {I M : Hp} (h : ∀ a e, I a = some e → M a = some e) : ∀ {n : Nat} {a : Nat} {f : Mean}, SumAt n I a f → SumAt n M a f
  | 0, _, _, q => q.elim
  | n + 1, a, f, q => by
    rcases q with ⟨v, h1, h2⟩ | ⟨k, h1, h2⟩ | ⟨q_, r, sg, f1, f2, h1, h2, h3, h4, h5⟩
    · exact Or.inl ⟨v, h _ _ h1, h2⟩
    · exact Or.inr (Or.inl ⟨k, h _ _ h1, h2⟩)
    · exact Or.inr (Or.inr ⟨q_, r, sg, f1, f2, h _ _ h1, h2, SumAt_up h h3, SumAt_up h h4, h5⟩)
theorem TestAt_up {G : MG} {I M : Hp} (h : ∀ a e, I a = some e → M a = some e) : ∀ {n : Nat} {a : Nat} {f : Mean}, TestAt G n I a f → TestAt G n M a f
  | 0, _, _, q => q.elim
  | n + 1, a, f, q => by
    rcases q with ⟨k, h1, h2⟩ | ⟨q_, r, sg, f1, f2, h1, h2, h3, h4, h5⟩ | ⟨q_, f1, h1, h2, h3⟩ | ⟨all, ar, k, F, f0, fl, h1, h2, h3, h4, h5, h6, h7⟩
    · exact Or.inl ⟨k, h _ _ h1, h2⟩
    · exact Or.inr (Or.inl ⟨q_, r, sg, f1, f2, h _ _ h1, h2, SumAt_up h h3, SumAt_up h h4, h5⟩)
    · exact Or.inr (Or.inr (Or.inl ⟨q_, f1, h _ _ h1, TestAt_up h h2, h3⟩))
    · exact Or.inr (Or.inr (Or.inr ⟨all, ar, k, F, f0, fl, h _ _ h1, h2, h _ _ h3, h4, h5, fun i hi => by
        obtain ⟨y, e, g⟩ := h6 i hi
        exact ⟨y, e, TestAt_up h g⟩, h7⟩))
theorem TextAt_up {G : MG} {I M : Hp} (h : ∀ a e, I a = some e → M a = some e) {n a : Nat} {L_ : List Cl} (q : TextAt G n I a L_) : TextAt G n M a L_ := by
  obtain ⟨ar, k, F, h1, h2, h3, h4, h5⟩ := q
  refine ⟨ar, k, F, h _ _ h1, h _ _ h2, h3, h4, fun i hi => ?_⟩
  obtain ⟨y, e, so, te, g1, g2, g3, g4⟩ := h5 i hi
  refine ⟨y, e, so, te, h _ _ g1, g2, ?_, ?_⟩
  · rcases g3 with g3 | ⟨q, f, e1, e2, e3⟩
    · exact Or.inl g3
    · exact Or.inr ⟨q, f, e1, e2, SumAt_up h e3⟩
  · rcases g4 with g4 | ⟨q, f, e1, e2, e3⟩
    · exact Or.inl g4
    · exact Or.inr ⟨q, f, e1, e2, TestAt_up h e3⟩
section RXS
variable {G : MG} {M : Hp} {a : Nat} {σ : St} {x : XGh} {ω : XCt}
theorem RX.sub (h : RX G M a σ x ω) : ∀ q e, gI x q = some e → M q = some e := fun q e he => (h.2.2.1 q e he).1
theorem RX.o (h : RX G M a σ x ω) : M a = some (oB 1 (xF σ x ω)) := by rw [h.1]; exact (h.2.1 0 (by decide)).1
theorem RX.p (h : RX G M a σ x ω) (k : Nat) (hk : k ∈ pKeys) : M (gp x k) = some (xcell G σ x ω k) := (h.2.1 k hk).1
theorem RX.ben (h : RX G M a σ x ω) : BenchAt G M x ω 0 (σ 2) := h.2.2.2.2.2.2.1
theorem RX.fw (h : RX G M a σ x ω) : FWok (gy ω 10) := h.2.2.2.2.2.1
theorem RX.b (h : RX G M a σ x ω) (k : Nat) (hk : k ∈ bKeys) : M (gb x 0 k) = some (bcell G (σ 2) x ω 0 k) := (h.ben.1 k hk).1
theorem RX.b0 (h : RX G M a σ x ω) : M (gb x 0 0) = some (oB 2 (bF (σ 2) x 0)) := h.b 0 (by decide)
theorem RX.z (h : RX G M a σ x ω) : Zok (σ 2) (gz ω 0) := h.ben.2.1.1
theorem RX.ref (h : RX G M a σ x ω) {i : Int} (h0 : 0 ≤ i) (h1 : i < 7) : gy ω 2 i = σ 1 i := h.2.2.2.1 i h0 h1
theorem RX.tape (h : RX G M a σ x ω) {i : Int} (h0 : 0 ≤ i) (h1 : i < 400) : gy ω 5 i = σ 7 i := h.2.2.2.2.1 i h0 h1
theorem RX.kind (h : RX G M a σ x ω) {i : Int} (h0 : 0 ≤ i) (h1 : i < σ 2 1752) : ∃ y, gq ω 0 8 i = some y ∧ KindR M y (σ 2) i := by
  obtain ⟨y, e, g⟩ := h.ben.2.1.2.1 i h0 h1
  exact ⟨y, e, h.sub _ _ g⟩
theorem RX.look (h : RX G M a σ x ω) {i : Int} (h0 : 0 ≤ i) (h1 : i < σ 2 1754) : ∃ y n f, gq ω 0 10 i = some y ∧ M y = some (oB 9 [.ref n, .int (iI 0), .int (iI (σ 2 (1224 + 10 * i + 9)))]) ∧ M n = some (aI (G.2.1 0) 9 f) ∧ ∀ j, 0 ≤ j → j < 9 → f j = loA (σ 2) i j := by
  obtain ⟨y, e, n, f, g1, g2, g3⟩ := h.ben.2.1.2.2.1 i h0 h1
  exact ⟨y, n, f, e, h.sub _ _ g1, h.sub _ _ g2, g3⟩
theorem RX.trial (h : RX G M a σ x ω) {i : Int} (h0 : 0 ≤ i) (h1 : i < σ 2 1755) : ∃ y n f, gq ω 0 11 i = some y ∧ M y = some (oB 3 [.ref n, .int (iI 0)]) ∧ M n = some (aI (G.2.1 0) 9 f) ∧ ∀ j, 0 ≤ j → j < 9 → f j = trA (σ 2) i j := by
  obtain ⟨y, e, n, f, g1, g2, g3⟩ := h.ben.2.1.2.2.2.1 i h0 h1
  exact ⟨y, n, f, e, h.sub _ _ g1, h.sub _ _ g2, g3⟩
theorem RX.text (h : RX G M a σ x ω) {i : Int} (h0 : 0 ≤ i) (h1 : i < σ 2 1756) : ∃ y r, gq ω 0 12 i = some y ∧ TextAt G 200 M y (tm (σ 2) i) ∧ M y = some (oB 19 [.ref r]) := by
  obtain ⟨y, e, g⟩ := h.ben.2.1.2.2.2.2.1 i h0 h1
  have g2 := TextAt_up h.sub g
  obtain ⟨ar, k, F, h1, -⟩ := id g2
  exact ⟨y, ar, e, g2, h1⟩
theorem RX.flask (h : RX G M a σ x ω) {f : Nat} (h1 : (f : Int) < σ 2 1753) : gq ω 0 9 f = some (gf x 0 f 0) ∧ M (gf x 0 f 0) = some (oB (fci (σ 2 (184 + 26 * f + 1))) (fF (σ 2) x 0 f)) ∧ M (gf x 0 f 1) = some (aI (G.2.1 0) 4 (gg ω 0 f 1)) ∧ M (gf x 0 f 2) = some (aI (G.2.1 0) 4 (gg ω 0 f 2)) := by
  obtain ⟨h2, h3, -⟩ := h.ben.2.2 f h1
  exact ⟨h2, (h3 0 (by decide)).1, (h3 1 (by decide)).1, (h3 2 (by decide)).1⟩
end RXS
theorem caseOK_cf {f g : Int → Int} (h : caseOK g) (e : ∀ j, 0 ≤ j → j < 9 → f j = g j) : caseOK f := by
  unfold caseOK at *
  rw [e 0 (by decide) (by decide), e 1 (by decide) (by decide), e 2 (by decide) (by decide), e 3 (by decide) (by decide), e 4 (by decide) (by decide), e 5 (by decide) (by decide), e 6 (by decide) (by decide), e 7 (by decide) (by decide), e 8 (by decide) (by decide)]
  exact h
/-! texts asked, over the cleared heap -/
section TXT
variable (l : Launch) (G : MG) (M : Hp)
theorem t_odds (n : Nat) (L_ : List Cl) (ci nb : Nat) (t : Int) (g : Int → Int) (a c_ sz : Nat) (hT : TextAt G n M a L_) (hC : CaseN G M c_ ci nb t g) : Met l yX22_odds (ws_ yX22_odds cX22_odds 8 (some .int)) (rmD (n + 6)) (xP G XN [.ref a, .ref c_] M sz) (xQi G (DA M sz) (fun z M' => z = odd L_ g ∧ M' = M)) 0 0 (DA M sz) :=
  Met_gxi (gpost := fun h z h' => z = odd L_ g ∧ hN h' = hN h) (fun h hn => xm_X22_odds l G h n L_ ci nb t g a c_ sz (hn ▸ hT) (hn ▸ hC)) (fun h z h' hn q => ⟨q.1, q.2.trans hn⟩)
theorem t_isFair (n : Nat) (L_ : List Cl) (ci nb : Nat) (t : Int) (g : Int → Int) (a c_ sz : Nat) (hT : TextAt G n M a L_) (hC : CaseN G M c_ ci nb t g) : Met l yX22_isFair (ws_ yX22_isFair cX22_isFair 7 (some .boolean)) (rmD (n + 6)) (xP G XN [.ref a, .ref c_] M sz) (xQi G (DA M sz) (fun z M' => z = fairQ L_ g ∧ M' = M)) 0 0 (DA M sz) :=
  Met_gxi (gpost := fun h z h' => z = fairQ L_ g ∧ hN h' = hN h) (fun h hn => xm_X22_isFair l G h n L_ ci nb t g a c_ sz (hn ▸ hT) (hn ▸ hC)) (fun h z h' hn q => ⟨q.1, q.2.trans hn⟩)
theorem t_price (n : Nat) (L_ : List Cl) (ci nb : Nat) (t : Int) (g : Int → Int) (a c_ sz : Nat) (hT : TextAt G n M a L_) (hC : CaseN G M c_ ci nb t g) : Met l yX22_price (ws_ yX22_price cX22_price 8 (some .int)) (rmD (n + 6)) (xP G XN [.ref a, .ref c_] M sz) (xQi G (DA M sz) (fun z M' => z = pri L_ g ∧ M' = M)) 0 0 (DA M sz) :=
  Met_gxi (gpost := fun h z h' => z = pri L_ g ∧ hN h' = hN h) (fun h hn => xm_X22_price l G h n L_ ci nb t g a c_ sz (hn ▸ hT) (hn ▸ hC)) (fun h z h' hn q => ⟨q.1, q.2.trans hn⟩)
theorem t_oddsOf (n : Nat) (L_ : List Cl) (nb : Nat) (t : Int) (g : Int → Int) (a c_ sz : Nat) (hT : TextAt G n M a L_) (hC : CaseN G M c_ 9 nb t g) (ht : t = 0 ∨ t = 1) : Met l yX22_oddsOf (ws_ yX22_oddsOf cX22_oddsOf 2 (some .int)) (rmD (n + 7)) (xP G XN [.ref a, .ref c_] M sz) (xQi G (DA M sz) (fun z M' => z = (if t = 1 then odd L_ g else 100 - odd L_ g) ∧ M' = M)) 0 0 (DA M sz) :=
  Met_gxi (gpost := fun h z h' => z = (if t = 1 then odd L_ g else 100 - odd L_ g) ∧ hN h' = hN h) (fun h hn => xm_X22_oddsOf l G h n L_ nb t g a c_ sz (hn ▸ hT) (hn ▸ hC) ht) (fun h z h' hn q => ⟨q.1, q.2.trans hn⟩)
theorem t_mustAnswer (n : Nat) (L_ : List Cl) (nb : Nat) (t : Int) (g : Int → Int) (a c_ sz : Nat) (hT : TextAt G n M a L_) (hC : CaseN G M c_ 9 nb t g) (ht : t = 0 ∨ t = 1) : Met l yX22_mustAnswer (ws_ yX22_mustAnswer cX22_mustAnswer 2 (some .boolean)) (rmD (n + 8)) (xP G XN [.ref a, .ref c_] M sz) (xQi G (DA M sz) (fun z M' => z = zb ((if t = 1 then odd L_ g else 100 - odd L_ g) < 10) ∧ M' = M)) 0 0 (DA M sz) :=
  Met_gxi (gpost := fun h z h' => z = zb ((if t = 1 then odd L_ g else 100 - odd L_ g) < 10) ∧ hN h' = hN h) (fun h hn => xm_X22_mustAnswer l G h n L_ nb t g a c_ sz (hn ▸ hT) (hn ▸ hC) ht) (fun h z h' hn q => ⟨q.1, q.2.trans hn⟩)
variable {l G M}
variable {κ : Int → Int} {x k : Int} {a c_ n : Nat} {f : Int → Int} {sz : Nat}
theorem caseL (hI : KI κ) (hk : 0 ≤ k ∧ k < κ 1754) (h1 : M c_ = some (oB 9 [.ref n, .int (iI 0), .int (iI (κ (1224 + 10 * k + 9)))])) (h2 : M n = some (aI (G.2.1 0) 9 f)) (h3 : ∀ j, 0 ≤ j → j < 9 → f j = loA κ k j) : CaseN G M c_ 9 n (κ (1224 + 10 * k + 9)) f := ⟨h1, Or.inr rfl, h2, caseOK_cf (hI.o k hk.1 hk.2).1 h3⟩
theorem caseT (hI : KI κ) (hk : 0 ≤ k ∧ k < κ 1755) (h1 : M c_ = some (oB 3 [.ref n, .int (iI 0)])) (h2 : M n = some (aI (G.2.1 0) 9 f)) (h3 : ∀ j, 0 ≤ j → j < 9 → f j = trA κ k j) : CaseN G M c_ 3 n 0 f := ⟨h1, Or.inl rfl, h2, caseOK_cf (hI.t k hk.1 hk.2) h3⟩
theorem l_odds (hI : KI κ) (hk : 0 ≤ k ∧ k < κ 1754) (h1 : M c_ = some (oB 9 [.ref n, .int (iI 0), .int (iI (κ (1224 + 10 * k + 9)))])) (h2 : M n = some (aI (G.2.1 0) 9 f)) (h3 : ∀ j, 0 ≤ j → j < 9 → f j = loA κ k j) (hT : TextAt G 200 M a (tm κ x)) : Met l yX22_odds (ws_ yX22_odds cX22_odds 8 (some .int)) (rmD 206) (xP G XN [.ref a, .ref c_] M sz) (xQi G (DA M sz) (fun z M' => z = odd (tm κ x) (loA κ k) ∧ M' = M)) 0 0 (DA M sz) := by
  rw [← odd_loc (tm_loc κ x) h3]
  exact t_odds l G M 200 _ 9 n _ f a c_ sz hT (caseL hI hk h1 h2 h3)
theorem r_odds (hI : KI κ) (hk : 0 ≤ k ∧ k < κ 1755) (h1 : M c_ = some (oB 3 [.ref n, .int (iI 0)])) (h2 : M n = some (aI (G.2.1 0) 9 f)) (h3 : ∀ j, 0 ≤ j → j < 9 → f j = trA κ k j) (hT : TextAt G 200 M a (tm κ x)) : Met l yX22_odds (ws_ yX22_odds cX22_odds 8 (some .int)) (rmD 206) (xP G XN [.ref a, .ref c_] M sz) (xQi G (DA M sz) (fun z M' => z = oT κ x k ∧ M' = M)) 0 0 (DA M sz) := by
  unfold oT
  rw [← odd_loc (tm_loc κ x) h3]
  exact t_odds l G M 200 _ 3 n _ f a c_ sz hT (caseT hI hk h1 h2 h3)
theorem r_isFair (hI : KI κ) (hk : 0 ≤ k ∧ k < κ 1755) (h1 : M c_ = some (oB 3 [.ref n, .int (iI 0)])) (h2 : M n = some (aI (G.2.1 0) 9 f)) (h3 : ∀ j, 0 ≤ j → j < 9 → f j = trA κ k j) (hT : TextAt G 200 M a (tm κ x)) : Met l yX22_isFair (ws_ yX22_isFair cX22_isFair 7 (some .boolean)) (rmD 206) (xP G XN [.ref a, .ref c_] M sz) (xQi G (DA M sz) (fun z M' => z = fT κ x k ∧ M' = M)) 0 0 (DA M sz) := by
  unfold fT
  rw [← fairQ_loc (tm_loc κ x) h3]
  exact t_isFair l G M 200 _ 3 n _ f a c_ sz hT (caseT hI hk h1 h2 h3)
theorem l_price (hI : KI κ) (hk : 0 ≤ k ∧ k < κ 1754) (h1 : M c_ = some (oB 9 [.ref n, .int (iI 0), .int (iI (κ (1224 + 10 * k + 9)))])) (h2 : M n = some (aI (G.2.1 0) 9 f)) (h3 : ∀ j, 0 ≤ j → j < 9 → f j = loA κ k j) (hT : TextAt G 200 M a (tm κ x)) : Met l yX22_price (ws_ yX22_price cX22_price 8 (some .int)) (rmD 206) (xP G XN [.ref a, .ref c_] M sz) (xQi G (DA M sz) (fun z M' => z = pL κ x k ∧ M' = M)) 0 0 (DA M sz) := by
  unfold pL
  rw [← pri_loc (tm_loc κ x) h3]
  exact t_price l G M 200 _ 9 n _ f a c_ sz hT (caseL hI hk h1 h2 h3)
theorem l_oddsOf (hI : KI κ) (hk : 0 ≤ k ∧ k < κ 1754) (h1 : M c_ = some (oB 9 [.ref n, .int (iI 0), .int (iI (κ (1224 + 10 * k + 9)))])) (h2 : M n = some (aI (G.2.1 0) 9 f)) (h3 : ∀ j, 0 ≤ j → j < 9 → f j = loA κ k j) (hT : TextAt G 200 M a (tm κ x)) : Met l yX22_oddsOf (ws_ yX22_oddsOf cX22_oddsOf 2 (some .int)) (rmD 207) (xP G XN [.ref a, .ref c_] M sz) (xQi G (DA M sz) (fun z M' => z = oL κ x k ∧ M' = M)) 0 0 (DA M sz) := by
  unfold oL
  rw [← odd_loc (tm_loc κ x) h3]
  exact t_oddsOf l G M 200 _ n _ f a c_ sz hT (caseL hI hk h1 h2 h3) (by have := (hI.o k hk.1 hk.2).2; omega)
theorem l_mustAnswer (hI : KI κ) (hk : 0 ≤ k ∧ k < κ 1754) (h1 : M c_ = some (oB 9 [.ref n, .int (iI 0), .int (iI (κ (1224 + 10 * k + 9)))])) (h2 : M n = some (aI (G.2.1 0) 9 f)) (h3 : ∀ j, 0 ≤ j → j < 9 → f j = loA κ k j) (hT : TextAt G 200 M a (tm κ x)) : Met l yX22_mustAnswer (ws_ yX22_mustAnswer cX22_mustAnswer 2 (some .boolean)) (rmD 208) (xP G XN [.ref a, .ref c_] M sz) (xQi G (DA M sz) (fun z M' => z = zb (oL κ x k < 10) ∧ M' = M)) 0 0 (DA M sz) := by
  unfold oL
  rw [← odd_loc (tm_loc κ x) h3]
  exact t_mustAnswer l G M 200 _ n _ f a c_ sz hT (caseL hI hk h1 h2 h3) (by have := (hI.o k hk.1 hk.2).2; omega)
end TXT
