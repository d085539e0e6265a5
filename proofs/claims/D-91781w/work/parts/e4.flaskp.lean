/-! a flask more -/
def flaskS (σ : St) (b so q h : Int) : St := st (flaskW (sa σ 2 (cpA (σ 2) (184 + 26 * σ 2 1753) 26 (fun _ => 0))) (σ 2 1753) b so q h (σ 2 1750)) 2 1753 (σ 2 1753 + 1)
def flV (b so q h nw j : Int) : Int := if j = 0 then b else if j = 1 then so else if j = 4 then nw else if j = 5 then q else if j = 8 then h else if j = 9 then nw else if j = 10 then -1 else if j = 12 then -1 else if j = 14 then -1 else if j = 15 then -1 else 0
def xf (x : XGh) (b f q g1 g2 : Nat) : XGh := (fun y => if y = q then 1000 * (b + 1) + 3 * f else if y = g1 then 1000 * (b + 1) + 3 * f + 1 else if y = g2 then 1000 * (b + 1) + 3 * f + 2 else gw x y, gI x, gp x, gb x, fun c g k => if c = b ∧ g = f then (if k = 0 then q else if k = 1 then g1 else g2) else gf x c g k)
def gT (ω : XCt) (b f : Nat) (u1 u2 : Int → Int) : XCt := (gy ω, gz ω, gq ω, gn ω, fun c g j => if c = b ∧ g = f then (if j = 1 then u1 else u2) else gg ω c g j, gl ω, gv ω)
section FLP
variable {G : MG} {M : Hp} {a q g1 g2 f : Nat} {σ : St} {x : XGh} {ω : XCt} {b so pl hd i j : Int} {u1 u2 : Int → Int}
theorem flaskS_c : flaskS σ b so pl hd 2 1753 = σ 2 1753 + 1 := st_s
theorem flaskS_g {g : Nat} (h : g ≠ 2) : flaskS σ b so pl hd g = σ g := by
  unfold flaskS flaskW ss
  rw [st_n h, st_n h, st_n h, st_n h, st_n h, st_n h, st_n h, st_n h, st_n h, st_n h, st_n h, sa_n h]
theorem flaskS_o (h0 : 0 ≤ σ 2 1753) (h4 : σ 2 1753 < 40) (h : i < 184 + 26 * σ 2 1753 ∨ 184 + 26 * σ 2 1753 + 26 ≤ i) (h2 : i ≠ 1753) : flaskS σ b so pl hd 2 i = σ 2 i := by
  unfold flaskS flaskW ss
  rw [st_i h2, st_i (by omega), st_i (by omega), st_i (by omega), st_i (by omega), st_i (by omega), st_i (by omega), st_i (by omega), st_i (by omega), st_i (by omega), st_i (by omega), sa_s, cpA_out (by omega)]
theorem flaskS_k (h0 : 0 ≤ σ 2 1753) (h4 : σ 2 1753 < 40) (j0 : 0 ≤ j) (j1 : j < 26) : flaskS σ b so pl hd 2 (184 + 26 * σ 2 1753 + j) = flV b so pl hd (σ 2 1750) j := by
  unfold flaskS
  rw [st_i (by omega)]
  unfold flaskW ss
  rw [st_f, st_f, st_f, st_f, st_f, st_f, st_f, st_f, st_f, st_f, sa_s]
  unfold flV up cpA
  by_cases c0 : j = 0
  · subst c0; (repeat' split) <;> first | rfl | omega
  · by_cases c1 : j = 1
    · subst c1; (repeat' split) <;> first | rfl | omega
    · (repeat' split) <;> first | rfl | omega | (dsimp only; omega)
theorem WK_F (h : WK (σ 2)) (h1 : σ 2 1753 < 40) : WK (flaskS σ b so pl hd 2) := by
  have b0 := h.1
  unfold kCnt at b0
  have o := fun i h h2 => flaskS_o (b := b) (so := so) (pl := pl) (hd := hd) (i := i) (by omega) h1 h h2
  refine ⟨?_, TX_ag h.2.1 (fun i i0 i1 => o i (by omega) (by omega)), fun g hg => ?_⟩
  · unfold kCnt
    rw [flaskS_c, o 1750 (by omega) (by omega), o 1751 (by omega) (by omega), o 1752 (by omega) (by omega), o 1754 (by omega) (by omega), o 1755 (by omega) (by omega), o 1756 (by omega) (by omega), o 1757 (by omega) (by omega)]
    omega
  · rw [flaskS_c] at hg
    by_cases z : (g : Int) = σ 2 1753
    · rw [z, flaskS_k (by omega) h1 (by omega) (by omega), show flV b so pl hd (σ 2 1750) 16 = 0 from rfl]
      decide
    · rw [o _ (by omega) (by omega)]
      exact h.2.2 g (by omega)
theorem F40_F (h : F40 σ) (h0 : 0 ≤ σ 2 1753) (h1 : σ 2 1753 < 40) : F40 (flaskS σ b so pl hd) := by
  refine ⟨by rw [flaskS_c]; omega, fun k hk h4 => ?_⟩
  rw [flaskS_g (by decide)] at h4
  unfold imK
  rw [flaskS_g (by decide)]
  exact h.2 k hk h4
theorem xf_w {y bb : Nat} (h : y ≠ q ∧ y ≠ g1 ∧ y ≠ g2) : gw (xf x bb f q g1 g2) y = gw x y := by
  show (if y = q then _ else if y = g1 then _ else if y = g2 then _ else gw x y) = _
  rw [if_neg h.1, if_neg h.2.1, if_neg h.2.2]
theorem Gp_w {M : Hp} {w w' : Nat → Nat} {c : Nat} {L : List Nat} {B : Nat → Nat} {cell : Nat → va_E} (h : Gp M w c L B cell) (hw : ∀ k ∈ L, w' (B k) = w (B k)) : Gp M w' c L B cell := fun k hk => by
  rw [hw k hk]
  exact h k hk
theorem Gp_n1 {M : Hp} {w : Nat → Nat} {c : Nat} {L : List Nat} {B : Nat → Nat} {cell : Nat → va_E} (h : Gp M w c L B cell) (hc : 1 < c) {y : Nat} (hy : w y = 1) : ∀ k ∈ L, B k ≠ y := fun k hk z => by
  have := (h k hk).2
  rw [z, hy] at this
  omega
/-- a bench whose flask f is not counted: its flask cells may be set -/
theorem BenchAt_xf {c bb : Nat} {κ : Int → Int} (h : BenchAt G M x ω c κ) (hf : c = bb → κ 1753 ≤ f) (w0 : gw x q = 1) (w1 : gw x g1 = 1) (w2 : gw x g2 = 1) : BenchAt G M (xf x bb f q g1 g2) (gT ω bb f u1 u2) c κ := by
  obtain ⟨b1, b2, b3⟩ := h
  refine ⟨Gp_w b1 (fun k hk => xf_w ⟨Gp_n1 b1 (by omega) w0 k hk, Gp_n1 b1 (by omega) w1 k hk, Gp_n1 b1 (by omega) w2 k hk⟩), b2, fun g hg => ?_⟩
  obtain ⟨f1, f2, f3⟩ := b3 g hg
  have hn : ¬ (c = bb ∧ g = f) := fun z => by
    have := hf z.1
    omega
  have e1 : gf (xf x bb f q g1 g2) c g = gf x c g := by funext k; exact if_neg hn
  have e2 : gg (gT ω bb f u1 u2) c g = gg ω c g := by funext k; exact if_neg hn
  have e3 : fcell G κ (xf x bb f q g1 g2) (gT ω bb f u1 u2) c g = fcell G κ x ω c g := by unfold fcell fF; rw [e1, e2]
  refine ⟨by rw [e1]; exact f1, ?_, by rw [e2]; exact f3⟩
  rw [e1, e3]
  exact Gp_w f2 (fun k hk => xf_w ⟨Gp_n1 f2 (by omega) w0 k hk, Gp_n1 f2 (by omega) w1 k hk, Gp_n1 f2 (by omega) w2 k hk⟩)
theorem RX.toF (h : RX G M a σ x ω) (hf : σ 2 1753 ≤ f) (w0 : gw x q = 1) (w1 : gw x g1 = 1) (w2 : gw x g2 = 1) : RX G M a σ (xf x 0 f q g1 g2) (gT ω 0 f u1 u2) := by
  obtain ⟨h0, h1, h2, h3, h4, h5, h6, h7⟩ := h
  refine ⟨h0, Gp_w h1 (fun k hk => xf_w ⟨Gp_n1 h1 (by omega) w0 k hk, Gp_n1 h1 (by omega) w1 k hk, Gp_n1 h1 (by omega) w2 k hk⟩), fun y u hy => ?_, h3, h4, h5, BenchAt_xf h6 (fun _ => hf) w0 w1 w2, fun k hk => ?_⟩
  · obtain ⟨e1, e2⟩ := h2 y u hy
    refine ⟨e1, ?_⟩
    have n : ∀ z, gw x z = 1 → y ≠ z := fun z hz e => by rw [e, hz] at e2; omega
    exact (xf_w ⟨n q w0, n g1 w1, n g2 w2⟩).trans e2
  · rcases h7 k hk with ⟨e1, e2, e3⟩ | e
    · exact Or.inl ⟨e1, e2, BenchAt_xf e3 (fun z => by omega) w0 w1 w2⟩
    · exact Or.inr e
theorem RX.flaskJ (h : RX G M a σ x ω) (hW : WK (σ 2)) (h40 : F40 σ) (h1 : σ 2 1753 < 40) (hq : gq ω 0 9 (σ 2 1753) = some q) (w0 : gw x q = 1) (w1 : gw x g1 = 1) (w2 : gw x g2 = 1) (n12 : g1 ≠ g2) (hM0 : M q = some (oB (fci so) [.int (iI b), .int (iI so), .int (iI hd), .int (iI (σ 2 1750)), .int (iI pl), .int (iI 0), .int (iI 0), .int (iI (σ 2 1750)), .int (iI (-1)), .int (iI 0), .int (iI 0), .int (iI (-1)), .int (iI (-1)), .int (iI (-1)), .int (iI 0), .int (iI 0), .int (iI 0), .ref g1, .ref g2])) (hM1 : M g1 = some (aI (G.2.1 0) 4 (fun _ => 0))) (hM2 : M g2 = some (aI (G.2.1 0) 4 (fun _ => 0))) : ∃ x' ω', RX G (hs M (gb x 0 0) (oB 2 ((bF (σ 2) x 0).set 2 (.int (iI (σ 2 1753 + 1)))))) a (flaskS σ b so pl hd) x' ω' := by
  have b0 := hW.1
  unfold kCnt at b0
  obtain ⟨f, hf⟩ : ∃ f : Nat, (f : Int) = σ 2 1753 := ⟨(σ 2 1753).toNat, by omega⟩
  have o := fun i h h2 => flaskS_o (b := b) (so := so) (pl := pl) (hd := hd) (i := i) (by omega) h1 h h2
  have ec := flaskS_c (σ := σ) (b := b) (so := so) (pl := pl) (hd := hd)
  have kk := fun j j0 j1 => flaskS_k (σ := σ) (b := b) (so := so) (pl := pl) (hd := hd) (j := j) (by omega) h1 j0 j1
  have hX := h.toF (u1 := fun _ => 0) (u2 := fun _ => 0) (f := f) (by omega) w0 w1 w2
  refine ⟨xf x 0 f q g1 g2, gT ω 0 f (fun _ => 0) (fun _ => 0), hX.jump h40 ?_ (flaskS_g (by decide)) (flaskS_g (by decide)) (flaskS_g (by decide)) (flaskS_g (by decide)) (flaskS_g (by decide)) (flaskS_g (by decide)) (flaskS_g (by decide)) (RestB_gr hX.ben.2.1 hW.1 hW.2.1 (fun i i0 i1 => o i (by omega) (by omega)) (fun i i0 i1 => o i (by omega) (by omega)) (fun i i0 i1 => o i (by omega) (by omega)) (fun i i0 i1 => o i (by omega) (by omega)) (fun i i0 i1 => o i (by omega) (by omega)) (fun i i0 i1 => o i (by omega) (by omega)) (fun i i0 i1 => o i (by omega) (by omega)) (fun i i0 i1 => o i (by omega) (by omega)) (fun k k0' k1' => ?_) (fun k k0' k1' => ?_) (fun k k0' k1' => ?_) (fun k k0' k1' => ?_)) (fun g hg => ?_)⟩
  · unfold bF
    rw [o 1750 (by omega) (by omega), o 1751 (by omega) (by omega), o 1752 (by omega) (by omega), ec, o 1754 (by omega) (by omega), o 1755 (by omega) (by omega), o 1756 (by omega) (by omega), o 1757 (by omega) (by omega)]
    rfl
  · rw [o 1752 (by omega) (by omega)] at k1'; omega
  · rw [o 1754 (by omega) (by omega)] at k1'; omega
  · rw [o 1755 (by omega) (by omega)] at k1'; omega
  · rw [o 1756 (by omega) (by omega)] at k1'; omega
  · rw [ec] at hg
    by_cases z : g = f
    · subst z
      have e1 : gf (xf x 0 g q g1 g2) 0 g = fun k => if k = 0 then q else if k = 1 then g1 else g2 := by funext k; exact if_pos ⟨rfl, rfl⟩
      have e2 : gg (gT ω 0 g (fun _ => 0) (fun _ => 0)) 0 g = fun j => if j = 1 then (fun _ => 0) else (fun _ => 0) := by funext k; exact if_pos ⟨rfl, rfl⟩
      have nq1 : g1 ≠ q := fun z => by rw [z, hM0] at hM1; cases hM1
      have nq2 : g2 ≠ q := fun z => by rw [z, hM0] at hM2; cases hM2
      refine ⟨?_, fun k hk => ?_, fun i i0 i1 => ?_⟩
      · rw [e1, hf]
        exact hq
      · have t : k = 0 ∨ k = 1 ∨ k = 2 := by
          have : ∀ k ∈ [0, 1, 2], k = 0 ∨ k = 1 ∨ k = 2 := by decide
          exact this k hk
        rw [e1]
        rcases t with t | t | t <;> subst t
        · refine ⟨?_, ?_⟩
          · show M q = some (oB (fci _) (fF _ _ _ _))
            unfold fF
            rw [e1, hf, kk 0 (by omega) (by omega), kk 1 (by omega) (by omega), kk 8 (by omega) (by omega), kk 9 (by omega) (by omega), kk 5 (by omega) (by omega), kk 2 (by omega) (by omega), kk 3 (by omega) (by omega), kk 4 (by omega) (by omega), kk 10 (by omega) (by omega), kk 6 (by omega) (by omega), kk 11 (by omega) (by omega), kk 12 (by omega) (by omega), kk 14 (by omega) (by omega), kk 15 (by omega) (by omega), kk 16 (by omega) (by omega), kk 7 (by omega) (by omega), kk 13 (by omega) (by omega)]
            exact hM0
          · exact if_pos rfl
        · refine ⟨?_, ?_⟩
          · show M g1 = some (aI _ 4 (gg (gT ω 0 g (fun _ => 0) (fun _ => 0)) 0 g 1))
            rw [e2]
            exact hM1
          · show (if g1 = q then _ else if g1 = g1 then _ else _) = _
            rw [if_neg nq1, if_pos rfl]
        · refine ⟨?_, ?_⟩
          · show M g2 = some (aI _ 4 (gg (gT ω 0 g (fun _ => 0) (fun _ => 0)) 0 g 2))
            rw [e2]
            exact hM2
          · show (if g2 = q then _ else if g2 = g1 then _ else if g2 = g2 then _ else _) = _
            rw [if_neg nq2, if_neg (fun z => n12 z.symm), if_pos rfl]
      · rw [e2, show (184 + 26 * (g : Int) + 17 + 2 * i) = 184 + 26 * σ 2 1753 + (17 + 2 * i) by omega, show (184 + 26 * (g : Int) + 18 + 2 * i) = 184 + 26 * σ 2 1753 + (18 + 2 * i) by omega, kk _ (by omega) (by omega), kk _ (by omega) (by omega)]
        unfold flV
        rw [if_neg (by omega), if_neg (by omega), if_neg (by omega), if_neg (by omega), if_neg (by omega), if_neg (by omega), if_neg (by omega), if_neg (by omega), if_neg (by omega), if_neg (by omega), if_neg (by omega), if_neg (by omega), if_neg (by omega), if_neg (by omega), if_neg (by omega), if_neg (by omega), if_neg (by omega), if_neg (by omega), if_neg (by omega), if_neg (by omega)]
        exact ⟨rfl, rfl⟩
    · exact FlaskB_cg (hX.ben.2.2 g (by omega)) rfl rfl (hW.2.2 g (by omega)) (fun i i0 i1 => o i (by omega) (by omega))
end FLP
