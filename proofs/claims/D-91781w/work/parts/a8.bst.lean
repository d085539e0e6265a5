/-! stores into the bench at work -/
abbrev Ag (κ κ' : Int → Int) (lo hi : Int) : Prop := ∀ i, lo ≤ i → i < hi → κ' i = κ i
theorem Ag_up {κ : Int → Int} {p v lo hi : Int} (h : p < lo ∨ hi ≤ p) : Ag κ (up κ p v) lo hi := fun i h0 h1 => up_n (by omega)
def zu (z : Nat → Int → Int) (k : Nat) (f : Int → Int) : Nat → Int → Int := fun j => if j = k then f else z j
theorem zu_s {z : Nat → Int → Int} {k : Nat} {f : Int → Int} : zu z k f k = f := if_pos rfl
theorem zu_n {z : Nat → Int → Int} {k j : Nat} {f : Int → Int} (h : j ≠ k) : zu z k f j = z j := if_neg h
section BST
variable {G : MG} {M : Hp} {a : Nat} {σ σ' : St} {x : XGh} {ω ω' : XCt} {κ κ' : Int → Int} {b : Nat}
theorem RestB_cg (h : RestB G x ω b κ) (hk : kCnt κ) (hx : TX κ) (ez : Zok κ' (gz ω' b)) (eq : gq ω' b = gq ω b) (A1 : Ag κ κ' 136 184) (A2 : Ag κ κ' 1224 1732) (c1 : κ' 1752 = κ 1752) (c2 : κ' 1754 = κ 1754) (c3 : κ' 1755 = κ 1755) (c4 : κ' 1756 = κ 1756) (A3 : Ag κ κ' 1758 11370) : RestB G x ω' b κ' := by
  unfold kCnt at hk
  obtain ⟨-, h1, h2, h3, h4, h5⟩ := h
  refine ⟨ez, fun k k0 k1 => ?_, fun k k0 k1 => ?_, fun k k0 k1 => ?_, fun k k0 k1 => ?_, by unfold NulB at *; rw [eq]; exact h5⟩
  · rw [eq]
    obtain ⟨y, e, g⟩ := h1 k k0 (by omega)
    refine ⟨y, e, ?_⟩
    unfold KindR at *
    rw [A1 _ (by omega) (by omega), A1 _ (by omega) (by omega), A1 _ (by omega) (by omega), A1 _ (by omega) (by omega), A1 _ (by omega) (by omega), A1 _ (by omega) (by omega)]
    exact g
  · rw [eq]
    obtain ⟨y, e, n, f, g1, g2, g3⟩ := h2 k k0 (by omega)
    exact ⟨y, e, n, f, by rw [A2 _ (by omega) (by omega)]; exact g1, g2, fun j j0 j1 => by rw [g3 j j0 j1]; exact (A2 _ (by omega) (by omega)).symm⟩
  · rw [eq]
    obtain ⟨y, e, n, f, g1, g2, g3⟩ := h3 k k0 (by omega)
    exact ⟨y, e, n, f, g1, g2, fun j j0 j1 => by rw [g3 j j0 j1]; exact (A2 _ (by omega) (by omega)).symm⟩
  · rw [eq]
    obtain ⟨y, e, g⟩ := h4 k k0 (by omega)
    have hs := hx.1 k k0 (by omega)
    refine ⟨y, e, ?_⟩
    rw [tm_cg (A3 _ (by omega) (by omega)) (fun j j0 j1 => A3 _ (by omega) (by omega)) (fun j j0 j1 => A3 _ (by omega) (by omega))]
    exact g
theorem FlaskB_cg {f : Nat} (h : FlaskB G M x ω b κ f) (eq : gq ω' b = gq ω b) (eg : gg ω' b f = gg ω b f) (hm : κ (184 + 26 * f + 16) ≤ 4) (A : Ag κ κ' (184 + 26 * f) (184 + 26 * f + 26)) : FlaskB G M x ω' b κ' f := by
  obtain ⟨a1, a2, a3⟩ := h
  have e1 : fF κ' x b f = fF κ x b f := by
    unfold fF
    rw [A _ (by omega) (by omega), A _ (by omega) (by omega), A _ (by omega) (by omega), A _ (by omega) (by omega), A _ (by omega) (by omega), A _ (by omega) (by omega), A _ (by omega) (by omega), A _ (by omega) (by omega), A _ (by omega) (by omega), A _ (by omega) (by omega), A _ (by omega) (by omega), A _ (by omega) (by omega), A _ (by omega) (by omega), A _ (by omega) (by omega), A _ (by omega) (by omega), A _ (by omega) (by omega), A _ (by omega) (by omega)]
  have e2 : fcell G κ' x ω' b f = fcell G κ x ω b f := by
    unfold fcell
    rw [eg, e1, A (184 + 26 * f + 1) (by omega) (by omega)]
  refine ⟨by rw [eq]; exact a1, by rw [e2]; exact a2, fun i i0 i1 => ?_⟩
  rw [eg, A _ (by omega) (by omega), A _ (by omega) (by omega)]
  exact a3 i i0 i1
theorem Zok_13 {z : Nat → Int → Int} {i v : Int} (h : Zok κ z) (h0 : 0 ≤ i) (h1 : i < 9) : Zok (up κ (1732 + 2 * i) v) (zu z 13 (up (z 13) i v)) := by
  obtain ⟨z1, z2, z3, z4, z5⟩ := h
  refine ⟨fun j a b => ?_, fun j a b => ?_, fun j a b => ?_, fun j a b => ?_, fun j a b => ?_⟩
  · have q := z1 j a b
    rw [zu_s, zu_n (by decide)]
    unfold up
    (repeat' split) <;> omega
  · have q := z2 j a b
    rw [zu_n (by decide), zu_n (by decide), zu_n (by decide), zu_n (by decide)]
    unfold up
    (repeat' split) <;> omega
  · have q := z3 j a b
    rw [zu_n (by decide)]
    unfold up
    (repeat' split) <;> omega
  · have q := z4 j a b
    rw [zu_n (by decide)]
    unfold up
    (repeat' split) <;> omega
  · have q := z5 j a b
    rw [zu_n (by decide)]
    unfold up
    (repeat' split) <;> omega
theorem Zok_14 {z : Nat → Int → Int} {i v : Int} (h : Zok κ z) (h0 : 0 ≤ i) (h1 : i < 9) : Zok (up κ (1732 + 2 * i + 1) v) (zu z 14 (up (z 14) i v)) := by
  obtain ⟨z1, z2, z3, z4, z5⟩ := h
  refine ⟨fun j a b => ?_, fun j a b => ?_, fun j a b => ?_, fun j a b => ?_, fun j a b => ?_⟩
  · have q := z1 j a b
    rw [zu_n (by decide), zu_s]
    unfold up
    (repeat' split) <;> omega
  · have q := z2 j a b
    rw [zu_n (by decide), zu_n (by decide), zu_n (by decide), zu_n (by decide)]
    unfold up
    (repeat' split) <;> omega
  · have q := z3 j a b
    rw [zu_n (by decide)]
    unfold up
    (repeat' split) <;> omega
  · have q := z4 j a b
    rw [zu_n (by decide)]
    unfold up
    (repeat' split) <;> omega
  · have q := z5 j a b
    rw [zu_n (by decide)]
    unfold up
    (repeat' split) <;> omega
theorem Zok_15 {z : Nat → Int → Int} {i v : Int} (h : Zok κ z) (h0 : 0 ≤ i) (h1 : i < 6) : Zok (up κ (0 + 3 * i) v) (zu z 15 (up (z 15) i v)) := by
  obtain ⟨z1, z2, z3, z4, z5⟩ := h
  refine ⟨fun j a b => ?_, fun j a b => ?_, fun j a b => ?_, fun j a b => ?_, fun j a b => ?_⟩
  · have q := z1 j a b
    rw [zu_n (by decide), zu_n (by decide)]
    unfold up
    (repeat' split) <;> omega
  · have q := z2 j a b
    rw [zu_s, zu_n (by decide), zu_n (by decide), zu_n (by decide)]
    unfold up
    (repeat' split) <;> omega
  · have q := z3 j a b
    rw [zu_n (by decide)]
    unfold up
    (repeat' split) <;> omega
  · have q := z4 j a b
    rw [zu_n (by decide)]
    unfold up
    (repeat' split) <;> omega
  · have q := z5 j a b
    rw [zu_n (by decide)]
    unfold up
    (repeat' split) <;> omega
theorem Zok_16 {z : Nat → Int → Int} {i v : Int} (h : Zok κ z) (h0 : 0 ≤ i) (h1 : i < 6) : Zok (up κ (0 + 3 * i + 1) v) (zu z 16 (up (z 16) i v)) := by
  obtain ⟨z1, z2, z3, z4, z5⟩ := h
  refine ⟨fun j a b => ?_, fun j a b => ?_, fun j a b => ?_, fun j a b => ?_, fun j a b => ?_⟩
  · have q := z1 j a b
    rw [zu_n (by decide), zu_n (by decide)]
    unfold up
    (repeat' split) <;> omega
  · have q := z2 j a b
    rw [zu_n (by decide), zu_s, zu_n (by decide), zu_n (by decide)]
    unfold up
    (repeat' split) <;> omega
  · have q := z3 j a b
    rw [zu_n (by decide)]
    unfold up
    (repeat' split) <;> omega
  · have q := z4 j a b
    rw [zu_n (by decide)]
    unfold up
    (repeat' split) <;> omega
  · have q := z5 j a b
    rw [zu_n (by decide)]
    unfold up
    (repeat' split) <;> omega
theorem Zok_17 {z : Nat → Int → Int} {i v : Int} (h : Zok κ z) (h0 : 0 ≤ i) (h1 : i < 6) : Zok (up κ (0 + 3 * i + 2) v) (zu z 17 (up (z 17) i v)) := by
  obtain ⟨z1, z2, z3, z4, z5⟩ := h
  refine ⟨fun j a b => ?_, fun j a b => ?_, fun j a b => ?_, fun j a b => ?_, fun j a b => ?_⟩
  · have q := z1 j a b
    rw [zu_n (by decide), zu_n (by decide)]
    unfold up
    (repeat' split) <;> omega
  · have q := z2 j a b
    rw [zu_n (by decide), zu_n (by decide), zu_s, zu_n (by decide)]
    unfold up
    (repeat' split) <;> omega
  · have q := z3 j a b
    rw [zu_n (by decide)]
    unfold up
    (repeat' split) <;> omega
  · have q := z4 j a b
    rw [zu_n (by decide)]
    unfold up
    (repeat' split) <;> omega
  · have q := z5 j a b
    rw [zu_n (by decide)]
    unfold up
    (repeat' split) <;> omega
theorem Zok_18 {z : Nat → Int → Int} {i v : Int} (h : Zok κ z) (h0 : 0 ≤ i) (h1 : i < 6) : Zok (up κ (18 + i) v) (zu z 18 (up (z 18) i v)) := by
  obtain ⟨z1, z2, z3, z4, z5⟩ := h
  refine ⟨fun j a b => ?_, fun j a b => ?_, fun j a b => ?_, fun j a b => ?_, fun j a b => ?_⟩
  · have q := z1 j a b
    rw [zu_n (by decide), zu_n (by decide)]
    unfold up
    (repeat' split) <;> omega
  · have q := z2 j a b
    rw [zu_n (by decide), zu_n (by decide), zu_n (by decide), zu_s]
    unfold up
    (repeat' split) <;> omega
  · have q := z3 j a b
    rw [zu_n (by decide)]
    unfold up
    (repeat' split) <;> omega
  · have q := z4 j a b
    rw [zu_n (by decide)]
    unfold up
    (repeat' split) <;> omega
  · have q := z5 j a b
    rw [zu_n (by decide)]
    unfold up
    (repeat' split) <;> omega
theorem Zok_19 {z : Nat → Int → Int} {i v : Int} (h : Zok κ z) (h0 : 0 ≤ i) (h1 : i < 4) : Zok (up κ (24 + i) v) (zu z 19 (up (z 19) i v)) := by
  obtain ⟨z1, z2, z3, z4, z5⟩ := h
  refine ⟨fun j a b => ?_, fun j a b => ?_, fun j a b => ?_, fun j a b => ?_, fun j a b => ?_⟩
  · have q := z1 j a b
    rw [zu_n (by decide), zu_n (by decide)]
    unfold up
    (repeat' split) <;> omega
  · have q := z2 j a b
    rw [zu_n (by decide), zu_n (by decide), zu_n (by decide), zu_n (by decide)]
    unfold up
    (repeat' split) <;> omega
  · have q := z3 j a b
    rw [zu_s]
    unfold up
    (repeat' split) <;> omega
  · have q := z4 j a b
    rw [zu_n (by decide)]
    unfold up
    (repeat' split) <;> omega
  · have q := z5 j a b
    rw [zu_n (by decide)]
    unfold up
    (repeat' split) <;> omega
theorem Zok_20 {z : Nat → Int → Int} {i v : Int} (h : Zok κ z) (h0 : 0 ≤ i) (h1 : i < 12) : Zok (up κ (28 + i) v) (zu z 20 (up (z 20) i v)) := by
  obtain ⟨z1, z2, z3, z4, z5⟩ := h
  refine ⟨fun j a b => ?_, fun j a b => ?_, fun j a b => ?_, fun j a b => ?_, fun j a b => ?_⟩
  · have q := z1 j a b
    rw [zu_n (by decide), zu_n (by decide)]
    unfold up
    (repeat' split) <;> omega
  · have q := z2 j a b
    rw [zu_n (by decide), zu_n (by decide), zu_n (by decide), zu_n (by decide)]
    unfold up
    (repeat' split) <;> omega
  · have q := z3 j a b
    rw [zu_n (by decide)]
    unfold up
    (repeat' split) <;> omega
  · have q := z4 j a b
    rw [zu_s]
    unfold up
    (repeat' split) <;> omega
  · have q := z5 j a b
    rw [zu_n (by decide)]
    unfold up
    (repeat' split) <;> omega
theorem Zok_21 {z : Nat → Int → Int} {i v : Int} (h : Zok κ z) (h0 : 0 ≤ i) (h1 : i < 96) : Zok (up κ (40 + i) v) (zu z 21 (up (z 21) i v)) := by
  obtain ⟨z1, z2, z3, z4, z5⟩ := h
  refine ⟨fun j a b => ?_, fun j a b => ?_, fun j a b => ?_, fun j a b => ?_, fun j a b => ?_⟩
  · have q := z1 j a b
    rw [zu_n (by decide), zu_n (by decide)]
    unfold up
    (repeat' split) <;> omega
  · have q := z2 j a b
    rw [zu_n (by decide), zu_n (by decide), zu_n (by decide), zu_n (by decide)]
    unfold up
    (repeat' split) <;> omega
  · have q := z3 j a b
    rw [zu_n (by decide)]
    unfold up
    (repeat' split) <;> omega
  · have q := z4 j a b
    rw [zu_n (by decide)]
    unfold up
    (repeat' split) <;> omega
  · have q := z5 j a b
    rw [zu_s]
    unfold up
    (repeat' split) <;> omega
def WK (κ : Int → Int) : Prop := kCnt κ ∧ TX κ ∧ ∀ g : Nat, (g : Int) < κ 1753 → κ (184 + 26 * g + 16) ≤ 4
theorem WK_of (hI : KI κ) (hT : TT κ) : WK κ := ⟨hI.c, hT.x, fun g hg => by
  have hfl := hI.f g (by omega) hg
  unfold kFlask fl at hfl
  omega⟩
theorem WK_up (h : WK κ) {p v : Int} (hp : p < 184 ∨ (184 ≤ p ∧ p < 1224 ∧ (p - 184) % 26 ≠ 16) ∨ (1224 ≤ p ∧ p < 1750)) : WK (up κ p v) := by
  obtain ⟨h1, h2, h3⟩ := h
  refine ⟨?_, ?_, fun g hg => ?_⟩
  · unfold kCnt at *
    rw [up_n (by omega), up_n (by omega), up_n (by omega), up_n (by omega), up_n (by omega), up_n (by omega), up_n (by omega), up_n (by omega)]
    exact h1
  · exact ⟨fun k a b => by rw [up_n (by omega)]; exact h2.1 k a b, fun k a b => by rw [up_n (by omega)]; exact h2.2.1 k a b, fun k a b => by rw [up_n (by omega)]; exact h2.2.2 k a b⟩
  · unfold kCnt at h1
    rw [up_n (by omega)] at hg
    rw [up_n (by omega)]
    exact h3 g hg
theorem WK_st (h : WK (σ 2)) {p v : Int} (hp : p < 184 ∨ (184 ≤ p ∧ p < 1224 ∧ (p - 184) % 26 ≠ 16) ∨ (1224 ≤ p ∧ p < 1750)) : WK (st σ 2 p v 2) := by rw [st_f]; exact WK_up h hp
theorem F40_st (h : F40 σ) {p v : Int} (hp : p ≠ 1753) : F40 (st σ 2 p v) := by
  refine ⟨by rw [st_i (by omega)]; exact h.1, fun k hk h4 => ?_⟩
  rw [st_n (by decide)] at h4
  unfold imK
  rw [st_n (by decide)]
  exact h.2 k hk h4
theorem bK_up {p v : Int} (h : p < 1750 ∨ 1758 ≤ p) : bF (up κ p v) x b = bF κ x b := by
  unfold bF
  rw [up_n (by omega), up_n (by omega), up_n (by omega), up_n (by omega), up_n (by omega), up_n (by omega), up_n (by omega), up_n (by omega)]
theorem bc_z {k : Nat} {f : Int → Int} (hk : 13 ≤ k ∧ k ≤ 21) {e : va_E} (he : bcell G κ' x (zS ω k f) 0 k = e) (h0 : bF κ' x 0 = bF κ x 0) : ∀ j ∈ bKeys, upc (bcell G κ x ω 0) k e j = bcell G κ' x (zS ω k f) 0 j := fun j hj => by
  unfold upc
  by_cases z : j = k
  · rw [if_pos z, z, he]
  · rw [if_neg z]
    have g : gz (zS ω k f) 0 j = gz ω 0 j := if_neg (fun h => z h.2)
    unfold bcell
    rw [h0]
    have t : j ∈ bKeys := hj
    simp only [bKeys, List.mem_cons, List.not_mem_nil, or_false] at t
    rcases t with t | t | t | t | t | t | t | t | t | t | t | t | t | t | t <;> subst t <;> first | rfl | (show _ = aI _ _ (gz (zS ω k f) 0 _); rw [g]; rfl)
theorem RX.bz (h : RX G M a σ x ω) (hW : WK (σ 2)) (h40 : F40 σ) {k : Nat} {p v : Int} {f : Int → Int} (hk : 13 ≤ k ∧ k ≤ 21) (hp : (0 ≤ p ∧ p < 136) ∨ (1732 ≤ p ∧ p < 1750)) (hz : Zok (up (σ 2) p v) (zu (gz ω 0) k f)) {e : va_E} (he : bcell G (up (σ 2) p v) x (zS ω k f) 0 k = e) : RX G (hs M (gb x 0 k) e) a (st σ 2 p v) x (zS ω k f) := by
  have hkm : k ∈ bKeys := by
    have : ∀ k, k < 22 → 13 ≤ k → k ∈ bKeys := by decide
    exact this k (by omega) hk.1
  have hw := h.wb hkm
  have e2 : st σ 2 p v 2 = up (σ 2) p v := st_f
  have ez : gz (zS ω k f) 0 = zu (gz ω 0) k f := by
    funext j
    show (if 0 = 0 ∧ j = k then f else gz ω 0 j) = if j = k then f else gz ω 0 j
    by_cases z : j = k
    · rw [if_pos ⟨rfl, z⟩, if_pos z]
    · rw [if_neg (fun y => z y.2), if_neg z]
  refine h.stQ (by omega) h40 (fun j hj => rfl) (st_n (by decide)) (st_n (by decide)) (st_n (by decide)) (st_n (by decide)) rfl rfl (fun b hb => ⟨?_, rfl, rfl⟩) ?_
  · funext j
    exact if_neg (fun y => by omega)
  · rw [e2]
    refine ⟨Gp_cg (Gp_up h.ben.1 hkm) (bc_z hk he (bK_up (by omega))), RestB_cg h.ben.2.1 hW.1 hW.2.1 (by rw [ez]; exact hz) rfl (Ag_up (by omega)) (Ag_up (by omega)) (up_n (by omega)) (up_n (by omega)) (up_n (by omega)) (up_n (by omega)) (Ag_up (by omega)), fun g hg => ?_⟩
    have hg : (g : Int) < σ 2 1753 := by rw [up_n (by omega)] at hg; exact hg
    have hfl := hW.2.2 g hg
    refine FlaskB_out (ω := zS ω k f) (FlaskB_cg (ω' := zS ω k f) (h.ben.2.2 g hg) rfl rfl (by omega) (Ag_up (by omega))) rfl rfl (fun j hj => by omega)
/-- now, state -/
theorem RX.bf (h : RX G M a σ x ω) (hW : WK (σ 2)) (h40 : F40 σ) {p v : Int} (hp : p = 1750 ∨ p = 1751) : RX G (hs M (gb x 0 0) (oB 2 (bF (up (σ 2) p v) x 0))) a (st σ 2 p v) x ω := by
  have hkm : 0 ∈ bKeys := by decide
  have hw := h.wb hkm
  have e2 : st σ 2 p v 2 = up (σ 2) p v := st_f
  refine h.stQ (by omega) h40 (fun j hj => rfl) (st_n (by decide)) (st_n (by decide)) (st_n (by decide)) (st_n (by decide)) rfl rfl (fun b hb => ⟨rfl, rfl, rfl⟩) ?_
  rw [e2]
  refine ⟨Gp_cg (Gp_up h.ben.1 hkm) (fun j hj => ?_), RestB_cg h.ben.2.1 hW.1 hW.2.1 ?_ rfl (Ag_up (by omega)) (Ag_up (by omega)) (up_n (by omega)) (up_n (by omega)) (up_n (by omega)) (up_n (by omega)) (Ag_up (by omega)), fun g hg => ?_⟩
  · unfold upc bcell
    by_cases z : j = 0
    · rw [if_pos z, if_pos z]
    · rw [if_neg z, if_neg z, if_neg z]
  · obtain ⟨z1, z2, z3, z4, z5⟩ := h.z
    refine ⟨fun i i0 i1 => ?_, fun i i0 i1 => ?_, fun i i0 i1 => ?_, fun i i0 i1 => ?_, fun i i0 i1 => ?_⟩
    · rw [up_n (by omega), up_n (by omega)]; exact z1 i i0 i1
    · rw [up_n (by omega), up_n (by omega), up_n (by omega), up_n (by omega)]; exact z2 i i0 i1
    · rw [up_n (by omega)]; exact z3 i i0 i1
    · rw [up_n (by omega)]; exact z4 i i0 i1
    · rw [up_n (by omega)]; exact z5 i i0 i1
  · have hg : (g : Int) < σ 2 1753 := by rw [up_n (by omega)] at hg; exact hg
    have hfl := hW.2.2 g hg
    refine FlaskB_out (ω := ω) (FlaskB_cg (ω' := ω) (h.ben.2.2 g hg) rfl rfl (by omega) (Ag_up (by omega))) rfl rfl (fun j hj => by omega)
/-- a number of a flask -/
theorem RX.ff (h : RX G M a σ x ω) (hW : WK (σ 2)) (h40 : F40 σ) {f : Nat} (hf : (f : Int) < σ 2 1753) {j v : Int} (hj : 0 ≤ j ∧ j < 17 ∧ j ≠ 1) : RX G (hs M (gf x 0 f 0) (oB (fci (σ 2 (184 + 26 * f + 1))) (fF (up (σ 2) (184 + 26 * f + j) v) x 0 f))) a (st σ 2 (184 + 26 * f + j) v) x ω := by
  obtain ⟨b1, b2, b3⟩ := h.ben.2.2 f hf
  have hw : gw x (gf x 0 f 0) = 1000 * (0 + 1) + 3 * f + 0 := (b2 0 (by decide)).2
  have e2 : st σ 2 (184 + 26 * f + j) v 2 = up (σ 2) (184 + 26 * f + j) v := st_f
  have h41 := h40.1
  refine h.stQ (by omega) h40 (fun j hj => rfl) (st_n (by decide)) (st_n (by decide)) (st_n (by decide)) (st_n (by decide)) rfl rfl (fun b hb => ⟨rfl, rfl, rfl⟩) ?_
  rw [e2]
  have hz : Zok (up (σ 2) (184 + 26 * f + j) v) (gz ω 0) := by
    obtain ⟨z1, z2, z3, z4, z5⟩ := h.z
    refine ⟨fun i i0 i1 => ?_, fun i i0 i1 => ?_, fun i i0 i1 => ?_, fun i i0 i1 => ?_, fun i i0 i1 => ?_⟩
    · rw [up_n (by omega), up_n (by omega)]; exact z1 i i0 i1
    · rw [up_n (by omega), up_n (by omega), up_n (by omega), up_n (by omega)]; exact z2 i i0 i1
    · rw [up_n (by omega)]; exact z3 i i0 i1
    · rw [up_n (by omega)]; exact z4 i i0 i1
    · rw [up_n (by omega)]; exact z5 i i0 i1
  refine ⟨Gp_cg (Gp_out h.ben.1 (fun k hk => by have := bKk_le hk; omega)) (fun k hk => ?_), RestB_cg h.ben.2.1 hW.1 hW.2.1 hz rfl (Ag_up (by omega)) (Ag_up (by omega)) (up_n (by omega)) (up_n (by omega)) (up_n (by omega)) (up_n (by omega)) (Ag_up (by omega)), fun g hg => ?_⟩
  · unfold bcell
    rw [bK_up (by omega)]
  · have hg : (g : Int) < σ 2 1753 := by rw [up_n (by omega)] at hg; exact hg
    by_cases z : g = f
    · subst z
      refine ⟨b1, Gp_cg (Gp_up b2 (by decide)) (fun k hk => ?_), fun i i0 i1 => ?_⟩
      · unfold upc fcell
        by_cases y : k = 0
        · rw [if_pos y, if_pos y, up_n (by omega)]
        · rw [if_neg y, if_neg y, if_neg y]
      · rw [up_n (by omega), up_n (by omega)]
        exact b3 i i0 i1
    · have hfl := hW.2.2 g hg
      exact FlaskB_out (ω := ω) (FlaskB_cg (ω' := ω) (h.ben.2.2 g hg) rfl rfl (by omega) (Ag_up (by omega))) rfl rfl (fun k hk => by
        have t : ∀ k ∈ [0, 1, 2], k ≤ 2 := by decide
        have := t k hk
        omega)
theorem cmd_ret {F : Int × St} {z : Int} {σ' : St} (e : F = (z, σ')) (h : RX G M a σ' x ω) : z = F.1 ∧ ∃ ω', RX G M a F.2 x ω' := by
  subst e
  exact ⟨rfl, ω, h⟩
end BST
