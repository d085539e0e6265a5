/-! stores into the component's heap -/
def yS (ω : XCt) (k : Nat) (f : Int → Int) : XCt := (fun j => if j = k then f else gy ω j, gz ω, gq ω, gn ω, gg ω, gl ω, gv ω)
def zS (ω : XCt) (k : Nat) (f : Int → Int) : XCt := (gy ω, fun b j => if b = 0 ∧ j = k then f else gz ω b j, gq ω, gn ω, gg ω, gl ω, gv ω)
def gS (ω : XCt) (f0 k : Nat) (f : Int → Int) : XCt := (gy ω, gz ω, gq ω, gn ω, fun b g j => if b = 0 ∧ g = f0 ∧ j = k then f else gg ω b g j, gl ω, gv ω)
def lS (ω : XCt) (v : Int) : XCt := (gy ω, gz ω, gq ω, gn ω, gg ω, v, gv ω)
section RXT
variable {G : MG} {M : Hp} {a : Nat} {σ σ' : St} {x : XGh} {ω ω' : XCt}
theorem FlaskB_out {b f q : Nat} {κ : Int → Int} {e : va_E} (h : FlaskB G M x ω b κ f) (eq : gq ω' b = gq ω b) (eg : gg ω' b f = gg ω b f) (h2 : ∀ k ∈ [0, 1, 2], gw x q ≠ 1000 * (b + 1) + 3 * f + k) : FlaskB G (hs M q e) x ω' b κ f := by
  obtain ⟨a1, a2, a3⟩ := h
  have e2 : fcell G κ x ω' b f = fcell G κ x ω b f := by unfold fcell; rw [eg]
  refine ⟨by rw [eq]; exact a1, by rw [e2]; exact Gp_out a2 h2, by rw [eg]; exact a3⟩
theorem RestB_eq {b : Nat} {κ : Int → Int} (h : RestB G x ω b κ) (ez : gz ω' b = gz ω b) (eq : gq ω' b = gq ω b) : RestB G x ω' b κ := by
  unfold RestB NulB at *
  rw [ez, eq]
  exact h
theorem bcell_eq {b : Nat} {κ : Int → Int} (ez : gz ω' b = gz ω b) (eq : gq ω' b = gq ω b) : bcell G κ x ω' b = bcell G κ x ω b := by
  unfold bcell
  rw [ez, eq]
theorem BenchAt_out {b q : Nat} {κ : Int → Int} {e : va_E} (h : BenchAt G M x ω b κ) (ez : gz ω' b = gz ω b) (eq : gq ω' b = gq ω b) (eg : gg ω' b = gg ω b) (h1 : ∀ k ∈ bKeys, gw x q ≠ 200 + 100 * b + k) (h2 : ∀ f : Nat, (f : Int) < κ 1753 → ∀ k ∈ [0, 1, 2], gw x q ≠ 1000 * (b + 1) + 3 * f + k) : BenchAt G (hs M q e) x ω' b κ := by
  obtain ⟨a1, a2, a3⟩ := h
  refine ⟨by rw [bcell_eq ez eq]; exact Gp_out a1 h1, RestB_eq a2 ez eq, fun f hf => FlaskB_out (a3 f hf) eq (by rw [eg]) (h2 f hf)⟩
theorem pKk_le {k : Nat} (h : k ∈ pKeys) : k ≤ 27 := by
  have : ∀ k ∈ pKeys, k ≤ 27 := by decide
  exact this k h
theorem bKk_le {k : Nat} (h : k ∈ bKeys) : k ≤ 21 := by
  have : ∀ k ∈ bKeys, k ≤ 21 := by decide
  exact this k h
theorem RX.wp (h : RX G M a σ x ω) {k : Nat} (hk : k ∈ pKeys) : gw x (gp x k) = 100 + k := (h.2.1 k hk).2
theorem RX.wb (h : RX G M a σ x ω) {k : Nat} (hk : k ∈ bKeys) : gw x (gb x 0 k) = 200 + 100 * 0 + k := (h.ben.1 k hk).2
/-- the flasks are at most forty: known of all three benches -/
abbrev F40 (σ : St) : Prop := σ 2 1753 ≤ 40 ∧ ∀ k : Nat, k < 2 → σ 4 k = 1 → imK σ k 1753 ≤ 40
theorem RX.stP (h : RX G M a σ x ω) {k0 : Nat} (hk : k0 ∈ pKeys) {e : va_E} (h2 : σ' 2 = σ 2) (h3 : σ' 3 = σ 3) (h4 : σ' 4 = σ 4) (ez : gz ω' = gz ω) (eq : gq ω' = gq ω) (eg : gg ω' = gg ω) (en : gn ω' 1 = gn ω 1)
    (hc : ∀ k ∈ pKeys, upc (xcell G σ x ω) k0 e k = xcell G σ' x ω' k) (hr : ∀ i, 0 ≤ i → i < 7 → gy ω' 2 i = σ' 1 i) (ht : ∀ i, 0 ≤ i → i < 400 → gy ω' 5 i = σ' 7 i) (hF : FWok (gy ω' 10)) : RX G (hs M (gp x k0) e) a σ' x ω' := by
  have hw := h.wp hk
  have hle := pKk_le hk
  have o1 : ∀ b : Nat, ∀ k ∈ bKeys, gw x (gp x k0) ≠ 200 + 100 * b + k := fun b k _ => by omega
  have o2 : ∀ b f : Nat, ∀ k ∈ [0, 1, 2], gw x (gp x k0) ≠ 1000 * (b + 1) + 3 * f + k := fun b f k _ => by omega
  refine ⟨h.1, Gp_cg (Gp_up h.2.1 hk) hc, Sub_st h.2.2.1 (by omega), hr, ht, hF, ?_, fun k hk2 => ?_⟩
  · rw [h2]
    exact BenchAt_out h.ben (by rw [ez]) (by rw [eq]) (by rw [eg]) (o1 0) (fun f _ => o2 0 f)
  · have h5 := h.2.2.2.2.2.2.2 k hk2
    have e5 : imK σ' k = imK σ k := by unfold imK; rw [h3]
    rw [h4, en, e5]
    rcases h5 with ⟨g1, g2, g3⟩ | g
    · exact Or.inl ⟨g1, g2, BenchAt_out g3 (by rw [ez]) (by rw [eq]) (by rw [eg]) (o1 _) (fun f _ => o2 _ f)⟩
    · exact Or.inr g
/-- a store into a cell of the bench at work, or of its flasks -/
theorem RX.stQ (h : RX G M a σ x ω) {q : Nat} {e : va_E} (hq : gw x q = 200 ∨ (200 < gw x q ∧ gw x q ≤ 221) ∨ (1000 ≤ gw x q ∧ gw x q < 1200)) (h40 : F40 σ) (hx : ∀ k ∈ pKeys, xcell G σ x ω k = xcell G σ' x ω' k) (h1 : σ' 1 = σ 1) (h7 : σ' 7 = σ 7) (h3 : σ' 3 = σ 3) (h4 : σ' 4 = σ 4) (ey : gy ω' = gy ω) (en : gn ω' = gn ω)
    (eb : ∀ b : Nat, 1 ≤ b → gz ω' b = gz ω b ∧ gq ω' b = gq ω b ∧ gg ω' b = gg ω b) (hB : BenchAt G (hs M q e) x ω' 0 (σ' 2)) : RX G (hs M q e) a σ' x ω' := by
  have o0 : ∀ k ∈ pKeys, gw x q ≠ 100 + k := fun k hk => by have := pKk_le hk; omega
  refine ⟨h.1, Gp_cg (Gp_out h.2.1 o0) hx, Sub_st h.2.2.1 (by omega), by rw [ey, h1]; exact h.2.2.2.1, by rw [ey, h7]; exact h.2.2.2.2.1, by rw [ey]; exact h.fw, hB, fun k hk2 => ?_⟩
  have h5 := h.2.2.2.2.2.2.2 k hk2
  have e5 : imK σ' k = imK σ k := by unfold imK; rw [h3]
  obtain ⟨e1, e2, e3⟩ := eb (k + 1) (by omega)
  rw [h4, en, e5]
  rcases h5 with ⟨g1, g2, g3⟩ | g
  · have hl := h40.2 k hk2 g1
    refine Or.inl ⟨g1, g2, BenchAt_out g3 e1 e2 e3 (fun j hj => ?_) (fun f hf j hj => ?_)⟩
    · have := bKk_le hj; omega
    · have : j ≤ 2 := by
        have t : ∀ j ∈ [0, 1, 2], j ≤ 2 := by decide
        exact t j hj
      omega
  · exact Or.inr g
theorem RX.x0 (h : RX G M a σ x ω) {f : Nat} {v : Int} (hf : f = 0 ∨ f = 9 ∨ f = 10) : RX G (hs M a (oB 1 (xF (st σ f 0 v) x ω))) a (st σ f 0 v) x ω := by
  have n1 : st σ f 0 v 1 = σ 1 := st_n (by omega)
  have n2 : st σ f 0 v 2 = σ 2 := st_n (by omega)
  have n3 : st σ f 0 v 3 = σ 3 := st_n (by omega)
  have n4 : st σ f 0 v 4 = σ 4 := st_n (by omega)
  have n7 : st σ f 0 v 7 = σ 7 := st_n (by omega)
  have e : hs M a (oB 1 (xF (st σ f 0 v) x ω)) = hs M (gp x 0) (oB 1 (xF (st σ f 0 v) x ω)) := by rw [← h.1]
  rw [e]
  refine h.stP (by decide) n2 n3 n4 rfl rfl rfl rfl (fun k hk => ?_) (by rw [n1]; exact h.2.2.2.1) (by rw [n7]; exact h.2.2.2.2.1) h.fw
  unfold upc xcell
  by_cases z : k = 0
  · rw [if_pos z, if_pos z]
  · rw [if_neg z, if_neg z, if_neg z]
theorem RX.low (h : RX G M a σ x ω) {v : Int} : RX G (hs M a (oB 1 (xF σ x (lS ω v)))) a σ x (lS ω v) := by
  have e : hs M a (oB 1 (xF σ x (lS ω v))) = hs M (gp x 0) (oB 1 (xF σ x (lS ω v))) := by rw [← h.1]
  rw [e]
  refine h.stP (by decide) rfl rfl rfl rfl rfl rfl rfl (fun k hk => ?_) h.2.2.2.1 h.2.2.2.2.1 h.fw
  unfold upc xcell
  by_cases z : k = 0
  · rw [if_pos z, if_pos z]
  · rw [if_neg z, if_neg z, if_neg z]; rfl
theorem yS_s {k : Nat} {f : Int → Int} : gy (yS ω k f) k = f := if_pos rfl
theorem yS_n {k j : Nat} {f : Int → Int} (h : j ≠ k) : gy (yS ω k f) j = gy ω j := if_neg h
theorem xc_y {k : Nat} {f : Int → Int} (hk : k = 2 ∨ k = 5 ∨ k = 9 ∨ k = 10 ∨ k = 22 ∨ k = 23) {e : va_E} (he : xcell G σ' x (yS ω k f) k = e) (h0 : xF σ' x (yS ω k f) = xF σ x ω) : ∀ j ∈ pKeys, upc (xcell G σ x ω) k e j = xcell G σ' x (yS ω k f) j := fun j hj => by
  unfold upc
  by_cases z : j = k
  · rw [if_pos z, z, he]
  · rw [if_neg z]
    unfold xcell
    rw [h0]
    by_cases y2 : j = 2
    · subst y2; rw [yS_n z]; rfl
    · by_cases y5 : j = 5
      · subst y5; rw [yS_n z]; rfl
      · by_cases y9 : j = 9
        · subst y9; rw [yS_n z]; rfl
        · by_cases y10 : j = 10
          · subst y10; rw [yS_n z]; rfl
          · by_cases y22 : j = 22
            · subst y22; rw [yS_n z]; rfl
            · by_cases y23 : j = 23
              · subst y23; rw [yS_n z]; rfl
              · rw [if_neg y2, if_neg y2, if_neg y5, if_neg y5, if_neg y9, if_neg y9, if_neg y10, if_neg y10, if_neg y22, if_neg y22, if_neg y23, if_neg y23]; rfl
theorem RX.refs (h : RX G M a σ x ω) {i v : Int} : RX G (hs M (gp x 2) (aI (G.2.1 0) 7 (up (gy ω 2) i v))) a (st σ 1 i v) x (yS ω 2 (up (gy ω 2) i v)) := by
  refine h.stP (by decide) (st_n (by omega)) (st_n (by omega)) (st_n (by omega)) rfl rfl rfl rfl (xc_y (Or.inl rfl) rfl rfl) (fun j h0 h1 => ?_) (fun j h0 h1 => ?_) (by rw [yS_n (by decide)]; exact h.fw)
  · rw [yS_s, st_f]
    unfold up
    split
    · rfl
    · exact h.2.2.2.1 j h0 h1
  · rw [yS_n (by decide), st_n (by omega)]; exact h.2.2.2.2.1 j h0 h1
theorem RX.tap (h : RX G M a σ x ω) {i v : Int} : RX G (hs M (gp x 5) (aI (G.2.1 1) 400 (up (gy ω 5) i v))) a (st σ 7 i v) x (yS ω 5 (up (gy ω 5) i v)) := by
  refine h.stP (by decide) (st_n (by omega)) (st_n (by omega)) (st_n (by omega)) rfl rfl rfl rfl (xc_y (Or.inr (Or.inl rfl)) rfl rfl) (fun j h0 h1 => ?_) (fun j h0 h1 => ?_) (by rw [yS_n (by decide)]; exact h.fw)
  · rw [yS_n (by decide), st_n (by omega)]; exact h.2.2.2.1 j h0 h1
  · rw [yS_s, st_f]
    unfold up
    split
    · rfl
    · exact h.2.2.2.2.1 j h0 h1
theorem RX.scr (h : RX G M a σ x ω) {k : Nat} {f : Int → Int} (hk : k = 9 ∨ k = 10 ∨ k = 22 ∨ k = 23) {e : va_E} (he : xcell G σ x (yS ω k f) k = e) (hF : k = 10 → FWok f) : RX G (hs M (gp x k) e) a σ x (yS ω k f) := by
  refine h.stP (by rcases hk with q | q | q | q <;> subst q <;> decide) rfl rfl rfl rfl rfl rfl rfl (xc_y (by omega) he rfl) (fun j h0 h1 => ?_) (fun j h0 h1 => ?_) (by
    by_cases z : k = 10
    · rw [z, yS_s]; exact hF z
    · rw [yS_n (fun q => z q.symm)]; exact h.fw)
  · rw [yS_n (by omega)]; exact h.2.2.2.1 j h0 h1
  · rw [yS_n (by omega)]; exact h.2.2.2.2.1 j h0 h1
end RXT
