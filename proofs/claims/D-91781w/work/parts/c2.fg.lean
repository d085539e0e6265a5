/-! a flask's grains -/
section FGR
variable {G : MG} {M : Hp} {a : Nat} {σ : St} {x : XGh} {ω : XCt} {κ : Int → Int} {b f : Nat} {i v : Int}
theorem fF_up {p : Int} (h : p < 184 + 26 * f ∨ 184 + 26 * f + 17 ≤ p) : fF (up κ p v) x b f = fF κ x b f := by
  unfold fF
  rw [up_n (by omega), up_n (by omega), up_n (by omega), up_n (by omega), up_n (by omega), up_n (by omega), up_n (by omega), up_n (by omega), up_n (by omega), up_n (by omega), up_n (by omega), up_n (by omega), up_n (by omega), up_n (by omega), up_n (by omega), up_n (by omega), up_n (by omega)]
theorem gS_s {f0 k : Nat} {g : Int → Int} : gg (gS ω f0 k g) 0 f0 k = g := if_pos ⟨rfl, rfl, rfl⟩
theorem gS_n {f0 k b g j : Nat} {u : Int → Int} (h : ¬ (b = 0 ∧ g = f0 ∧ j = k)) : gg (gS ω f0 k u) b g j = gg ω b g j := if_neg h
/-- a grain of a flask: its kind (k = 1), its day (k = 2) -/
theorem RX.fg (h : RX G M a σ x ω) (hW : WK (σ 2)) (h40 : F40 σ) {f : Nat} (hf : (f : Int) < σ 2 1753) {k : Nat} (hk : k = 1 ∨ k = 2) (i0 : 0 ≤ i) (i1 : i < 4) {p : Int} (hp : p = 184 + 26 * f + (16 + k + 2 * i)) : RX G (hs M (gf x 0 f k) (aI (G.2.1 0) 4 (up (gg ω 0 f k) i v))) a (st σ 2 p v) x (gS ω f k (up (gg ω 0 f k) i v)) := by
  obtain ⟨b1, b2, b3⟩ := h.ben.2.2 f hf
  have hkm : k ∈ [0, 1, 2] := by rcases hk with q | q <;> subst q <;> decide
  have hw : gw x (gf x 0 f k) = 1000 * (0 + 1) + 3 * f + k := (b2 k hkm).2
  have e2 : st σ 2 p v 2 = up (σ 2) p v := st_f
  have h41 := h40.1
  refine h.stQ (by omega) h40 (fun j hj => rfl) (st_n (by decide)) (st_n (by decide)) (st_n (by decide)) (st_n (by decide)) rfl rfl (fun b hb => ⟨rfl, rfl, ?_⟩) ?_
  · funext g j
    exact gS_n (fun z => by omega)
  rw [e2]
  have hz : Zok (up (σ 2) p v) (gz ω 0) := by
    obtain ⟨z1, z2, z3, z4, z5⟩ := h.z
    refine ⟨fun i i0 i1 => ?_, fun i i0 i1 => ?_, fun i i0 i1 => ?_, fun i i0 i1 => ?_, fun i i0 i1 => ?_⟩
    · rw [up_n (by omega), up_n (by omega)]; exact z1 i i0 i1
    · rw [up_n (by omega), up_n (by omega), up_n (by omega), up_n (by omega)]; exact z2 i i0 i1
    · rw [up_n (by omega)]; exact z3 i i0 i1
    · rw [up_n (by omega)]; exact z4 i i0 i1
    · rw [up_n (by omega)]; exact z5 i i0 i1
  refine ⟨Gp_cg (Gp_out h.ben.1 (fun j hj => by have := bKk_le hj; omega)) (fun j hj => ?_), RestB_cg (ω' := gS ω f k (up (gg ω 0 f k) i v)) h.ben.2.1 hW.1 hW.2.1 hz rfl (Ag_up (by omega)) (Ag_up (by omega)) (up_n (by omega)) (up_n (by omega)) (up_n (by omega)) (up_n (by omega)) (Ag_up (by omega)), fun g hg => ?_⟩
  · unfold bcell
    rw [bK_up (by omega)]
    rfl
  · have hg : (g : Int) < σ 2 1753 := by rw [up_n (by omega)] at hg; exact hg
    by_cases z : g = f
    · subst z
      refine ⟨b1, Gp_cg (Gp_up b2 hkm) (fun j hj => ?_), fun j j0 j1 => ?_⟩
      · unfold upc fcell
        by_cases y : j = 0
        · rw [if_neg (by omega), if_pos y, if_pos y, up_n (by omega), fF_up (by omega)]
        · rw [if_neg y, if_neg y]
          rcases hk with q | q <;> subst q
          · by_cases y1 : j = 1
            · subst y1; rw [if_pos rfl, if_pos rfl, gS_s]
            · rw [if_neg y1, if_neg y1, if_neg y1, gS_n (fun z => by omega)]
          · by_cases y1 : j = 1
            · subst y1; rw [if_neg (by decide), if_pos rfl, if_pos rfl, gS_n (fun z => by omega)]
            · have j2 : j = 2 := by
                have t : ∀ j ∈ [0, 1, 2], j ≤ 2 := by decide
                have := t j hj
                omega
              subst j2
              rw [if_pos rfl, if_neg y1, gS_s]
      · have q3 := b3 j j0 j1
        rcases hk with q | q <;> subst q
        · rw [gS_s, gS_n (fun z => by omega)]
          unfold up
          (repeat' split) <;> omega
        · rw [gS_s, gS_n (fun z => by omega)]
          unfold up
          (repeat' split) <;> omega
    · have hfl := hW.2.2 g hg
      refine FlaskB_out (ω := gS ω f k (up (gg ω 0 f k) i v)) (FlaskB_cg (ω' := gS ω f k (up (gg ω 0 f k) i v)) (h.ben.2.2 g hg) rfl ?_ (by omega) (Ag_up (by omega))) rfl rfl (fun j hj => by
        have t : ∀ k ∈ [0, 1, 2], k ≤ 2 := by decide
        have := t j hj
        omega)
      funext j
      exact gS_n (fun y => z y.2.1)
theorem RX.fgI (h : RX G M a σ x ω) (hW : WK (σ 2)) (h40 : F40 σ) {f : Nat} {y : Int} (e : (f : Int) = y) (hf : y < σ 2 1753) {k : Nat} (hk : k = 1 ∨ k = 2) (i0 : 0 ≤ i) (i1 : i < 4) {p : Int} (hp : p = 184 + 26 * y + (16 + k + 2 * i)) : RX G (hs M (gf x 0 f k) (aI (G.2.1 0) 4 (up (gg ω 0 f k) i v))) a (st σ 2 p v) x (gS ω f k (up (gg ω 0 f k) i v)) := by
  subst e
  exact h.fg hW h40 hf hk i0 i1 hp
theorem RX.grain (h : RX G M a σ x ω) {y : Int} (e : (f : Int) = y) (hf : y < σ 2 1753) : M (gf x 0 f 1) = some (aI (G.2.1 0) 4 (gg ω 0 f 1)) := by
  subst e
  exact (h.flask hf).2.2.1
theorem RX.fell (h : RX G M a σ x ω) {y : Int} (e : (f : Int) = y) (hf : y < σ 2 1753) : M (gf x 0 f 2) = some (aI (G.2.1 0) 4 (gg ω 0 f 2)) := by
  subst e
  exact (h.flask hf).2.2.2
theorem RX.gr1 (h : RX G M a σ x ω) {y : Int} (e : (f : Int) = y) (hf : y < σ 2 1753) (i0 : 0 ≤ i) (i1 : i < 4) : gg ω 0 f 1 i = σ 2 (184 + 26 * y + (17 + 2 * i)) := by
  subst e
  rw [((h.ben.2.2 f hf).2.2 i i0 i1).1, show (184 + 26 * (f : Int) + (17 + 2 * i)) = 184 + 26 * f + 17 + 2 * i by omega]
theorem RX.gr2 (h : RX G M a σ x ω) {y : Int} (e : (f : Int) = y) (hf : y < σ 2 1753) (i0 : 0 ≤ i) (i1 : i < 4) : gg ω 0 f 2 i = σ 2 (184 + 26 * y + (17 + 2 * i + 1)) := by
  subst e
  rw [((h.ben.2.2 f hf).2.2 i i0 i1).2, show (184 + 26 * (f : Int) + (17 + 2 * i + 1)) = 184 + 26 * f + 18 + 2 * i by omega]
theorem WK_16 (h : WK (σ 2)) {f v : Int} (hf : 0 ≤ f) (hf2 : f < 40) (hv : v ≤ 4) : WK (st σ 2 (184 + 26 * f + 16) v 2) := by
  rw [st_f]
  obtain ⟨h1, h2, h3⟩ := h
  refine ⟨?_, ?_, fun g hg => ?_⟩
  · unfold kCnt at *
    rw [up_n (by omega), up_n (by omega), up_n (by omega), up_n (by omega), up_n (by omega), up_n (by omega), up_n (by omega), up_n (by omega)]
    exact h1
  · exact ⟨fun k a b => by rw [up_n (by omega)]; exact h2.1 k a b, fun k a b => by rw [up_n (by omega)]; exact h2.2.1 k a b, fun k a b => by rw [up_n (by omega)]; exact h2.2.2 k a b⟩
  · unfold kCnt at h1
    rw [up_n (by omega)] at hg
    unfold up
    split
    · exact hv
    · exact h3 g hg
end FGR
