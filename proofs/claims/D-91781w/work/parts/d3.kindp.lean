/-! a kind more -/
def kindS (σ : St) (a b c d e f : Int) : St := st (sa (kindW σ (σ 2 1752) a b c d e f) 2 (wRow (kindW σ (σ 2 1752) a b c d e f) (σ 2 1752) 12)) 2 1752 (σ 2 1752 + 1)
def csZ (ci : Nat) : va_E := if ci = 3 then oB 3 [.null, .int (iI 0)] else oB 9 [.null, .int (iI 0), .int (iI 0)]
theorem cmd_ret2 {G : MG} {M : Hp} {q : Nat} {σ' : St} {x : XGh} {ω : XCt} {F : Int × St} {z : Int} (e : F = (z, σ')) (h : RX G M q σ' x ω) : z = F.1 ∧ ∃ x' ω', RX G M q F.2 x' ω' := by
  subst e
  exact ⟨rfl, x, ω, h⟩
theorem eN_id {ci : Nat} {fs : List Value} (h : ci ≠ 3 ∧ ci ≠ 9 ∧ ci ≠ 18) : eN (oB ci fs) = oB ci fs := by
  unfold eN oB
  dsimp only
  rw [if_neg (by omega), if_neg (by omega)]
theorem eN_z3 {v : Value} : eN (oB 3 [v, .int (iI 0)]) = oB 3 [v, .int (iI 0)] := by
  unfold eN oB
  dsimp only
  rw [if_pos (by omega)]
  rfl
theorem eN_z9 {v w : Value} : eN (oB 9 [v, .int (iI 0), w]) = oB 9 [v, .int (iI 0), w] := by
  unfold eN oB
  dsimp only
  rw [if_pos (by omega)]
  rfl
theorem eN_z18 {u v w : Value} : eN (oB 18 [u, v, w, .long (lI 0)]) = oB 18 [u, v, w, .long (lI 0)] := by
  unfold eN oB
  dsimp only
  rw [if_neg (by omega), if_pos rfl]
  rfl
section KDP
variable {G : MG} {M : Hp} {q y : Nat} {σ : St} {x : XGh} {ω : XCt} {a b c d e f i : Int}
theorem kindW_o {k : Int} (h : i < 136 + 6 * k ∨ 136 + 6 * k + 6 ≤ i) : kindW σ k a b c d e f 2 i = σ 2 i := by
  unfold kindW
  rw [st_i (by omega), st_i (by omega), st_i (by omega), st_i (by omega), st_i (by omega), st_i (by omega)]
theorem kindS_c : kindS σ a b c d e f 2 1752 = σ 2 1752 + 1 := st_s
theorem kindS_o (hI : KI (σ 2)) (h8 : σ 2 1752 < 8) (h : i < 136 + 6 * σ 2 1752 ∨ 136 + 6 * σ 2 1752 + 6 ≤ i) (h2 : i ≠ 1752) : kindS σ a b c d e f 2 i = σ 2 i := by
  have b0 := hI.c
  unfold kCnt at b0
  unfold kindS
  rw [st_i h2, sa_s]
  unfold wRow
  rw [kindW_o h]
  split
  · rename_i q
    have hw := (hI.w ((i - 40) / 8) (σ 2 1752) (by omega) (by omega) (by omega) (by omega)).2 (Int.le_refl _)
    rw [show 40 + 8 * ((i - 40) / 8) + σ 2 1752 = i by omega] at hw
    exact hw.symm
  · rfl
theorem kindS_k (h0 : 0 ≤ σ 2 1752) (h8 : σ 2 1752 < 8) : kindS σ a b c d e f 2 (136 + 6 * σ 2 1752 + 0) = a ∧ kindS σ a b c d e f 2 (136 + 6 * σ 2 1752 + 1) = b ∧ kindS σ a b c d e f 2 (136 + 6 * σ 2 1752 + 2) = c ∧ kindS σ a b c d e f 2 (136 + 6 * σ 2 1752 + 3) = d ∧ kindS σ a b c d e f 2 (136 + 6 * σ 2 1752 + 4) = e ∧ kindS σ a b c d e f 2 (136 + 6 * σ 2 1752 + 5) = f := by
  have w : ∀ j, 0 ≤ j → j < 6 → kindS σ a b c d e f 2 (136 + 6 * σ 2 1752 + j) = kindW σ (σ 2 1752) a b c d e f 2 (136 + 6 * σ 2 1752 + j) := fun j j0 j1 => by
    unfold kindS
    rw [st_i (by omega), sa_s]
    exact if_neg (by omega)
  rw [w 0 (by omega) (by omega), w 1 (by omega) (by omega), w 2 (by omega) (by omega), w 3 (by omega) (by omega), w 4 (by omega) (by omega), w 5 (by omega) (by omega)]
  unfold kindW
  refine ⟨?_, ?_, ?_, ?_, ?_, ?_⟩
  · rw [st_i (by omega), st_i (by omega), st_i (by omega), st_i (by omega), st_i (by omega), Int.add_zero, st_s]
  · rw [st_i (by omega), st_i (by omega), st_i (by omega), st_i (by omega), st_s]
  · rw [st_i (by omega), st_i (by omega), st_i (by omega), st_s]
  · rw [st_i (by omega), st_i (by omega), st_s]
  · rw [st_i (by omega), st_s]
  · rw [st_s]
theorem kindS_g {g : Nat} (h : g ≠ 2) : kindS σ a b c d e f g = σ g := by
  unfold kindS kindW
  rw [st_n h, sa_n h, st_n h, st_n h, st_n h, st_n h, st_n h, st_n h]
theorem RX.kindJ (h : RX G M q σ x ω) (hI : KI (σ 2)) (hT : TT (σ 2)) (h40 : F40 σ) (h8 : σ 2 1752 ≠ 8) (hq : gq ω 0 8 (σ 2 1752) = some y) (hy : gI x y = some (oB 5 [.int (iI a), .int (iI b), .int (iI c), .int (iI d), .int (iI f), .int (iI e)])) : RX G (hs M (gb x 0 0) (oB 2 ((bF (σ 2) x 0).set 1 (.int (iI (σ 2 1752 + 1)))))) q (kindS σ a b c d e f) x ω := by
  have b0 := hI.c
  unfold kCnt at b0
  have o := fun i h h2 => kindS_o (a := a) (b := b) (c := c) (d := d) (e := e) (f := f) (i := i) hI (by omega) h h2
  obtain ⟨k0, k1, k2, k3, k4, k5⟩ := kindS_k (σ := σ) (a := a) (b := b) (c := c) (d := d) (e := e) (f := f) (by omega) (by omega)
  have ec := kindS_c (σ := σ) (a := a) (b := b) (c := c) (d := d) (e := e) (f := f)
  refine h.jump h40 ?_ (kindS_g (by decide)) (kindS_g (by decide)) (kindS_g (by decide)) (kindS_g (by decide)) (kindS_g (by decide)) (kindS_g (by decide)) (kindS_g (by decide)) (RestB_gr h.ben.2.1 hI.c hT.x (fun i i0 i1 => o i (by omega) (by omega)) (fun i i0 i1 => o i (by omega) (by omega)) (fun i i0 i1 => o i (by omega) (by omega)) (fun i i0 i1 => o i (by omega) (by omega)) (fun i i0 i1 => o i (by omega) (by omega)) (fun i i0 i1 => o i (by omega) (by omega)) (fun i i0 i1 => o i (by omega) (by omega)) (fun i i0 i1 => o i (by omega) (by omega)) (fun k k0' k1' => ?_) (fun k k0' k1' => ?_) (fun k k0' k1' => ?_) (fun k k0' k1' => ?_)) (FlaskB_gr h.ben.2.2 (WK_of hI hT) (o _ (by omega) (by omega)) (fun i i0 i1 => o i (by omega) (by omega)))
  · unfold bF
    rw [o 1750 (by omega) (by omega), o 1751 (by omega) (by omega), ec, o 1753 (by omega) (by omega), o 1754 (by omega) (by omega), o 1755 (by omega) (by omega), o 1756 (by omega) (by omega), o 1757 (by omega) (by omega)]
    rfl
  · rw [ec] at k1'
    obtain rfl : k = σ 2 1752 := by omega
    refine ⟨y, hq, ?_⟩
    unfold KindR
    rw [k0, k1, k2, k3, k4, k5]
    exact hy
  · rw [o 1754 (by omega) (by omega)] at k1'; omega
  · rw [o 1755 (by omega) (by omega)] at k1'; omega
  · rw [o 1756 (by omega) (by omega)] at k1'; omega
end KDP
/-! a look more, a trial more -/
def addL (σ : St) (g : Int → Int) (tn : Int) : St := st (st (sa σ 2 (cpA (σ 2) (1224 + 10 * σ 2 1754) 9 g)) 2 (1224 + 10 * σ 2 1754 + 9) tn) 2 1754 (σ 2 1754 + 1)
def addT (σ : St) (g : Int → Int) : St := st (sa σ 2 (cpA (σ 2) (1624 + 9 * σ 2 1755) 9 g)) 2 1755 (σ 2 1755 + 1)
section ADP
variable {G : MG} {M : Hp} {q y n : Nat} {σ : St} {x : XGh} {ω : XCt} {g w : Int → Int} {tn i : Int}
theorem addL_c : addL σ g tn 2 1754 = σ 2 1754 + 1 := st_s
theorem addL_o (h0 : 0 ≤ σ 2 1754) (h1 : σ 2 1754 < 40) (h : i < 1224 + 10 * σ 2 1754 ∨ 1224 + 10 * σ 2 1754 + 10 ≤ i) (h2 : i ≠ 1754) : addL σ g tn 2 i = σ 2 i := by
  unfold addL
  rw [st_i h2, st_i (by omega), sa_s, cpA_out (by omega)]
theorem addL_k (h0 : 0 ≤ σ 2 1754) (h1 : σ 2 1754 < 40) {j : Int} (j0 : 0 ≤ j) (j1 : j < 9) : addL σ g tn 2 (1224 + 10 * σ 2 1754 + j) = g j := by
  unfold addL
  rw [st_i (by omega), st_i (by omega), sa_s, cpA_in (by omega), show 1224 + 10 * σ 2 1754 + j - (1224 + 10 * σ 2 1754) = j by omega]
theorem addL_9 (h0 : 0 ≤ σ 2 1754) (h1 : σ 2 1754 < 40) : addL σ g tn 2 (1224 + 10 * σ 2 1754 + 9) = tn := by
  unfold addL
  rw [st_i (by omega), st_s]
theorem addL_g {f : Nat} (h : f ≠ 2) : addL σ g tn f = σ f := by
  unfold addL
  rw [st_n h, st_n h, sa_n h]
theorem addT_c : addT σ g 2 1755 = σ 2 1755 + 1 := st_s
theorem addT_o (h0 : 0 ≤ σ 2 1755) (h1 : σ 2 1755 < 12) (h : i < 1624 + 9 * σ 2 1755 ∨ 1624 + 9 * σ 2 1755 + 9 ≤ i) (h2 : i ≠ 1755) : addT σ g 2 i = σ 2 i := by
  unfold addT
  rw [st_i h2, sa_s, cpA_out (by omega)]
theorem addT_k (h0 : 0 ≤ σ 2 1755) (h1 : σ 2 1755 < 12) {j : Int} (j0 : 0 ≤ j) (j1 : j < 9) : addT σ g 2 (1624 + 9 * σ 2 1755 + j) = g j := by
  unfold addT
  rw [st_i (by omega), sa_s, cpA_in (by omega), show 1624 + 9 * σ 2 1755 + j - (1624 + 9 * σ 2 1755) = j by omega]
theorem addT_g {f : Nat} (h : f ≠ 2) : addT σ g f = σ f := by
  unfold addT
  rw [st_n h, sa_n h]
theorem WK_ag {κ κ' : Int → Int} (h : WK κ) (hc : kCnt κ') (e3 : κ' 1753 = κ 1753) (A1 : Ag κ κ' 184 1224) (A2 : Ag κ κ' 1758 11370) : WK κ' := by
  have hk := h.1
  unfold kCnt at hk
  exact ⟨hc, TX_ag h.2.1 A2, fun g hg => by rw [A1 _ (by omega) (by omega)]; exact h.2.2 g (by omega)⟩
theorem WK_L (h : WK (σ 2)) (h1 : σ 2 1754 < 40) : WK (addL σ g tn 2) := by
  have b0 := h.1
  unfold kCnt at b0
  have o := fun i h h2 => addL_o (g := g) (tn := tn) (i := i) (by omega) h1 h h2
  refine WK_ag h ?_ (o _ (by omega) (by omega)) (fun i i0 i1 => o i (by omega) (by omega)) (fun i i0 i1 => o i (by omega) (by omega))
  unfold kCnt
  rw [addL_c, o 1750 (by omega) (by omega), o 1751 (by omega) (by omega), o 1752 (by omega) (by omega), o 1753 (by omega) (by omega), o 1755 (by omega) (by omega), o 1756 (by omega) (by omega), o 1757 (by omega) (by omega)]
  omega
theorem WK_T (h : WK (σ 2)) (h1 : σ 2 1755 < 12) : WK (addT σ g 2) := by
  have b0 := h.1
  unfold kCnt at b0
  have o := fun i h h2 => addT_o (g := g) (i := i) (by omega) h1 h h2
  refine WK_ag h ?_ (o _ (by omega) (by omega)) (fun i i0 i1 => o i (by omega) (by omega)) (fun i i0 i1 => o i (by omega) (by omega))
  unfold kCnt
  rw [addT_c, o 1750 (by omega) (by omega), o 1751 (by omega) (by omega), o 1752 (by omega) (by omega), o 1753 (by omega) (by omega), o 1754 (by omega) (by omega), o 1756 (by omega) (by omega), o 1757 (by omega) (by omega)]
  omega
theorem F40_L (h : F40 σ) (h0 : 0 ≤ σ 2 1754) (h1 : σ 2 1754 < 40) : F40 (addL σ g tn) := by
  refine ⟨by rw [addL_o h0 h1 (by omega) (by omega)]; exact h.1, fun k hk h4 => ?_⟩
  rw [addL_g (by decide)] at h4
  unfold imK
  rw [addL_g (by decide)]
  exact h.2 k hk h4
theorem F40_T (h : F40 σ) (h0 : 0 ≤ σ 2 1755) (h1 : σ 2 1755 < 12) : F40 (addT σ g) := by
  refine ⟨by rw [addT_o h0 h1 (by omega) (by omega)]; exact h.1, fun k hk h4 => ?_⟩
  rw [addT_g (by decide)] at h4
  unfold imK
  rw [addT_g (by decide)]
  exact h.2 k hk h4
theorem RX.lookJ (h : RX G M q σ x ω) (hW : WK (σ 2)) (h40 : F40 σ) (h1 : σ 2 1754 < 40) (hq : gq ω 0 10 (σ 2 1754) = some y) (hy : gI x y = some (oB 9 [.ref n, .int (iI 0), .int (iI tn)])) (hn : gI x n = some (aI (G.2.1 0) 9 w)) (hg : ∀ j, 0 ≤ j → j < 9 → w j = g j) : RX G (hs M (gb x 0 0) (oB 2 ((bF (σ 2) x 0).set 3 (.int (iI (σ 2 1754 + 1)))))) q (addL σ g tn) x ω := by
  have b0 := hW.1
  unfold kCnt at b0
  have o := fun i h h2 => addL_o (g := g) (tn := tn) (i := i) (by omega) h1 h h2
  have ec := addL_c (σ := σ) (g := g) (tn := tn)
  refine h.jump h40 ?_ (addL_g (by decide)) (addL_g (by decide)) (addL_g (by decide)) (addL_g (by decide)) (addL_g (by decide)) (addL_g (by decide)) (addL_g (by decide)) (RestB_gr h.ben.2.1 hW.1 hW.2.1 (fun i i0 i1 => o i (by omega) (by omega)) (fun i i0 i1 => o i (by omega) (by omega)) (fun i i0 i1 => o i (by omega) (by omega)) (fun i i0 i1 => o i (by omega) (by omega)) (fun i i0 i1 => o i (by omega) (by omega)) (fun i i0 i1 => o i (by omega) (by omega)) (fun i i0 i1 => o i (by omega) (by omega)) (fun i i0 i1 => o i (by omega) (by omega)) (fun k k0' k1' => ?_) (fun k k0' k1' => ?_) (fun k k0' k1' => ?_) (fun k k0' k1' => ?_)) (FlaskB_gr h.ben.2.2 hW (o _ (by omega) (by omega)) (fun i i0 i1 => o i (by omega) (by omega)))
  · unfold bF
    rw [o 1750 (by omega) (by omega), o 1751 (by omega) (by omega), o 1752 (by omega) (by omega), o 1753 (by omega) (by omega), ec, o 1755 (by omega) (by omega), o 1756 (by omega) (by omega), o 1757 (by omega) (by omega)]
    rfl
  · rw [o 1752 (by omega) (by omega)] at k1'; omega
  · rw [ec] at k1'
    obtain rfl : k = σ 2 1754 := by omega
    refine ⟨y, hq, n, w, ?_, hn, fun j j0 j1 => ?_⟩
    · rw [addL_9 (by omega) h1]; exact hy
    · rw [hg j j0 j1]; exact (addL_k (by omega) h1 j0 j1).symm
  · rw [o 1755 (by omega) (by omega)] at k1'; omega
  · rw [o 1756 (by omega) (by omega)] at k1'; omega
theorem RX.trialJ (h : RX G M q σ x ω) (hW : WK (σ 2)) (h40 : F40 σ) (h1 : σ 2 1755 < 12) (hq : gq ω 0 11 (σ 2 1755) = some y) (hy : gI x y = some (oB 3 [.ref n, .int (iI 0)])) (hn : gI x n = some (aI (G.2.1 0) 9 w)) (hg : ∀ j, 0 ≤ j → j < 9 → w j = g j) : RX G (hs M (gb x 0 0) (oB 2 ((bF (σ 2) x 0).set 4 (.int (iI (σ 2 1755 + 1)))))) q (addT σ g) x ω := by
  have b0 := hW.1
  unfold kCnt at b0
  have o := fun i h h2 => addT_o (g := g) (i := i) (by omega) h1 h h2
  have ec := addT_c (σ := σ) (g := g)
  refine h.jump h40 ?_ (addT_g (by decide)) (addT_g (by decide)) (addT_g (by decide)) (addT_g (by decide)) (addT_g (by decide)) (addT_g (by decide)) (addT_g (by decide)) (RestB_gr h.ben.2.1 hW.1 hW.2.1 (fun i i0 i1 => o i (by omega) (by omega)) (fun i i0 i1 => o i (by omega) (by omega)) (fun i i0 i1 => o i (by omega) (by omega)) (fun i i0 i1 => o i (by omega) (by omega)) (fun i i0 i1 => o i (by omega) (by omega)) (fun i i0 i1 => o i (by omega) (by omega)) (fun i i0 i1 => o i (by omega) (by omega)) (fun i i0 i1 => o i (by omega) (by omega)) (fun k k0' k1' => ?_) (fun k k0' k1' => ?_) (fun k k0' k1' => ?_) (fun k k0' k1' => ?_)) (FlaskB_gr h.ben.2.2 hW (o _ (by omega) (by omega)) (fun i i0 i1 => o i (by omega) (by omega)))
  · unfold bF
    rw [o 1750 (by omega) (by omega), o 1751 (by omega) (by omega), o 1752 (by omega) (by omega), o 1753 (by omega) (by omega), o 1754 (by omega) (by omega), ec, o 1756 (by omega) (by omega), o 1757 (by omega) (by omega)]
    rfl
  · rw [o 1752 (by omega) (by omega)] at k1'; omega
  · rw [o 1754 (by omega) (by omega)] at k1'; omega
  · rw [ec] at k1'
    obtain rfl : k = σ 2 1755 := by omega
    exact ⟨y, hq, n, w, hy, hn, fun j j0 j1 => by rw [hg j j0 j1]; exact (addT_k (by omega) h1 j0 j1).symm⟩
  · rw [o 1756 (by omega) (by omega)] at k1'; omega
end ADP
