/-! a bench taken over: the steps -/
def rowN (k : Nat) : Int := if k = 13 ∨ k = 14 then 9 else if k = 15 ∨ k = 16 ∨ k = 17 ∨ k = 18 then 6 else if k = 19 then 4 else if k = 20 then 12 else if k = 21 then 96 else 0
def rowQ (k : Nat) : Int := if k = 8 then 8 else if k = 10 then 40 else if k = 11 then 12 else if k = 12 then 12 else 0
/-- the rows that are copied already -/
def Cp (ω ω1 : XCt) (s t : Nat) (D : List Nat) : Prop := ∀ k ∈ D, (∀ i, 0 ≤ i → i < rowN k → gz ω1 t k i = gz ω s k i) ∧ ∀ i, 0 ≤ i → i < rowQ k → gq ω1 t k i = gq ω s k i
section TKL
variable {G : MG} {M N : Hp} {q g1 g2 s t k fl : Nat} {x x1 : XGh} {ω ω1 : XCt} {κ κ' ν : Int → Int} {f n i : Int} {D : List Nat}
theorem Cp.nz (h : Cp ω ω1 s t D) (hn : rowN k = n) (hq : rowQ k = 0) : Cp ω (zT ω1 t k (cpZ (gz ω s k) (gz ω1 t k) 0 0 n)) s t (k :: D) := fun j hj => by
  by_cases z : j = k
  · subst z
    refine ⟨fun i i0 i1 => ?_, fun i i0 i1 => by omega⟩
    rw [zT_s, cpZ, if_pos (by omega), show (0 : Int) + (i - 0) = i by omega]
  · have hm : j ∈ D := by
      rcases List.mem_cons.mp hj with y | y
      · exact absurd y z
      · exact y
    rw [zT_n z]
    exact h j hm
theorem Cp.nq (h : Cp ω ω1 s t D) (hq : rowQ k = n) (hn : rowN k = 0) : Cp ω (qT ω1 t k (cpZ (gq ω s k) (gq ω1 t k) 0 0 n)) s t (k :: D) := fun j hj => by
  by_cases z : j = k
  · subst z
    refine ⟨fun i i0 i1 => by omega, fun i i0 i1 => ?_⟩
    rw [qT_s, cpZ, if_pos (by omega), show (0 : Int) + (i - 0) = i by omega]
  · have hm : j ∈ D := by
      rcases List.mem_cons.mp hj with y | y
      · exact absurd y z
      · exact y
    rw [qT_n z]
    exact h j hm
theorem Cp.nf (h : Cp ω ω1 s t D) {u : Int → Option Nat} {g : Nat} {u1 u2 : Int → Int} : Cp ω (gT (qT ω1 t 9 u) t g u1 u2) s t D := fun j hj => by
  refine ⟨(h j hj).1, fun i i0 i1 => ?_⟩
  by_cases z : j = 9
  · subst z
    exact absurd i1 (by rw [show rowQ 9 = 0 from rfl]; omega)
  · show gq (qT ω1 t 9 u) t j i = _
    rw [qT_n z]
    exact (h j hj).2 i i0 i1
theorem RestB_cp (h : RestB G x ω s κ) (hk : kCnt κ) (hi : gI x1 = gI x) (hC : Cp ω ω1 s t [21, 20, 19, 18, 17, 16, 15, 14, 13, 12, 11, 10, 8]) : RestB G x1 ω1 t κ := by
  refine RestB_tr h hk hi (fun k i i0 hc => ?_) (fun k i i0 hc => ?_)
  · rcases hc with ⟨hk | hk, i1⟩ | ⟨hk | hk | hk | hk, i1⟩ | ⟨hk, i1⟩ | ⟨hk, i1⟩ | ⟨hk, i1⟩ <;> subst hk <;> exact (hC _ (by decide)).1 i i0 i1
  · rcases hc with ⟨hk, i1⟩ | ⟨hk, i1⟩ | ⟨hk, i1⟩ | ⟨hk, i1⟩ <;> subst hk <;> exact (hC _ (by decide)).2 i i0 i1
/-- the numbers of the bench are set -/
theorem Tk.st0 (hD : Gp M (gw x) (200 + 100 * t) bKeys (gb x t) (bcell G ν x ω t)) (hN : N = hs M (gb x t 0) (oB 2 (bF κ x t))) : Tk G M N x x ω ω t κ 0 := by
  have h0 : (0 : Nat) ∈ bKeys := by decide
  have w0 := (hD 0 h0).2
  refine ⟨?_, ⟨rfl, rfl, rfl, fun _ _ => rfl⟩, ⟨rfl, rfl, rfl, rfl, fun _ _ => ⟨rfl, rfl, rfl⟩⟩, fun z e hz hn => ?_, fun y e hy => ⟨rfl, ?_⟩, fun g hg => absurd hg (by omega)⟩
  · rw [hN]
    refine Gp_cg (Gp_up hD h0) (fun j hj => ?_)
    unfold upc
    by_cases z : j = 0
    · rw [if_pos z, z]; rfl
    · rw [if_neg z]
      unfold bcell
      rw [if_neg z, if_neg z]
  · rw [hN, hs_n (fun q => by rw [q, w0] at hn; omega)]
    exact hz
  · rw [hN]
    by_cases z : y = gb x t 0
    · rw [z, hs_s]; exact ⟨_, rfl⟩
    · rw [hs_n z]; exact ⟨e, hy⟩
theorem Tk.d0 (h : Tk G M N x x1 ω ω1 t κ f) : N (gb x t 0) = some (oB 2 (bF κ x t)) := by
  have e := h.dst (k := 0) (by decide)
  have e2 : bcell G κ x1 ω1 t 0 = oB 2 (bF κ x1 t) := rfl
  rw [e2] at e
  rw [e]
  unfold bF
  rw [h.2.1.2.2.1]
theorem Tk.srcF (h : Tk G M N x x1 ω ω1 t κ f) (ht : t < 3) (hS : BenchAt G M x ω s κ') (hf : i < κ' 1753) (he : (fl : Int) = i) : N (gf x s fl 0) = some (oB (fci (κ' (184 + 26 * i + 1))) (fGI κ' i (gf x s fl 1) (gf x s fl 2))) ∧ N (gf x s fl 1) = some (aI (G.2.1 0) 4 (gg ω s fl 1)) ∧ N (gf x s fl 2) = some (aI (G.2.1 0) 4 (gg ω s fl 2)) ∧ gq ω s 9 i = some (gf x s fl 0) ∧ ∀ j, 0 ≤ j → j < 4 → gg ω s fl 1 j = κ' (184 + 26 * i + 17 + 2 * j) ∧ gg ω s fl 2 j = κ' (184 + 26 * i + 18 + 2 * j) := by
  subst he
  obtain ⟨f1, f2, f3⟩ := hS.2.2 fl hf
  have k0 := f2 0 (by decide)
  have k1 := f2 1 (by decide)
  have k2 := f2 2 (by decide)
  exact ⟨h.2.2.2.1 _ _ k0.1 (by rw [k0.2]; omega), h.2.2.2.1 _ _ k1.1 (by rw [k1.2]; omega), h.2.2.2.1 _ _ k2.1 (by rw [k2.2]; omega), f1, f3⟩
theorem fFI_xf : fFI κ (xf x1 t k q g1 g2) t k f = fGI κ f g1 g2 := by
  have e1 : gf (xf x1 t k q g1 g2) t k 1 = g1 := if_pos ⟨rfl, rfl⟩
  have e2 : gf (xf x1 t k q g1 g2) t k 2 = g2 := if_pos ⟨rfl, rfl⟩
  unfold fFI fGI
  rw [e1, e2]
theorem fci_row (z : Int) : ∃ r : vw_C, clA[fci z]? = some r ∧ inRow r.1 "BrothFlasks$Flask" := by
  rcases fci_c z with h | h | h <;> rw [h]
  · exact ⟨_, rfl, Or.inr q2060⟩
  · exact ⟨_, rfl, Or.inr q2059⟩
  · exact ⟨_, rfl, Or.inr q2061⟩
theorem Tk.el8 (h : Tk G M N x x1 ω ω1 t κ f) (hI : Sub (gI x) M (gw x)) (hR : RestB G x ω s κ') : ∀ i, 0 ≤ i → i < 0 + 8 → ∀ y, gq ω s 8 i = some y → ∃ (ci : Nat) (fs : List Value) (r : vw_C), N y = some (oB ci fs) ∧ clA[ci]? = some r ∧ inRow r.1 "BrothFlasks$Kind" := fun i i0 i1 y hy => by
  obtain ⟨fs, e⟩ := hR.2.2.2.2.2.1 i y i0 (by omega) hy
  exact ⟨5, fs, _, h.kept hI e, rfl, Or.inl rfl⟩
theorem Tk.el10 (h : Tk G M N x x1 ω ω1 t κ f) (hI : Sub (gI x) M (gw x)) (hR : RestB G x ω s κ') : ∀ i, 0 ≤ i → i < 0 + 40 → ∀ y, gq ω s 10 i = some y → ∃ (ci : Nat) (fs : List Value) (r : vw_C), N y = some (oB ci fs) ∧ clA[ci]? = some r ∧ inRow r.1 "BrothFlasks$Look" := fun i i0 i1 y hy => by
  obtain ⟨fs, e⟩ := hR.2.2.2.2.2.2.1 i y i0 (by omega) hy
  exact ⟨9, fs, _, h.kept hI e, rfl, Or.inl rfl⟩
theorem Tk.el11 (h : Tk G M N x x1 ω ω1 t κ f) (hI : Sub (gI x) M (gw x)) (hR : RestB G x ω s κ') : ∀ i, 0 ≤ i → i < 0 + 12 → ∀ y, gq ω s 11 i = some y → ∃ (ci : Nat) (fs : List Value) (r : vw_C), N y = some (oB ci fs) ∧ clA[ci]? = some r ∧ inRow r.1 "BrothFlasks$Case" := fun i i0 i1 y hy => by
  obtain ⟨fs, e⟩ := hR.2.2.2.2.2.2.2.1 i y i0 (by omega) hy
  exact ⟨3, fs, _, h.kept hI e, rfl, Or.inl rfl⟩
theorem Tk.el12 (h : Tk G M N x x1 ω ω1 t κ f) (hI : Sub (gI x) M (gw x)) (hR : RestB G x ω s κ') : ∀ i, 0 ≤ i → i < 0 + 12 → ∀ y, gq ω s 12 i = some y → ∃ (ci : Nat) (fs : List Value) (r : vw_C), N y = some (oB ci fs) ∧ clA[ci]? = some r ∧ inRow r.1 "BrothFlasks$Text" := fun i i0 i1 y hy => by
  obtain ⟨fs, e⟩ := hR.2.2.2.2.2.2.2.2 i y i0 (by omega) hy
  exact ⟨19, fs, _, h.kept hI e, rfl, Or.inl rfl⟩
end TKL
