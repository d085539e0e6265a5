/-! what the reader's recursion needs -/
theorem kd_X3_part : yX3_part.cls = RX3 ∧ yX3_part.cls ≠ "java/lang/invoke/MethodHandle" ∧ yX3_part.cls ≠ "java/lang/invoke/VarHandle" ∧ (parseMethodDescriptor yX3_part.desc).map (fun d => d.parameters.length) = some 0 := by decide +kernel
theorem kd_X3_term : yX3_term.cls = RX3 ∧ yX3_term.cls ≠ "java/lang/invoke/MethodHandle" ∧ yX3_term.cls ≠ "java/lang/invoke/VarHandle" ∧ (parseMethodDescriptor yX3_term.desc).map (fun d => d.parameters.length) = some 0 := by decide +kernel
theorem kd_X3_sum : yX3_sum.cls = RX3 ∧ yX3_sum.cls ≠ "java/lang/invoke/MethodHandle" ∧ yX3_sum.cls ≠ "java/lang/invoke/VarHandle" ∧ (parseMethodDescriptor yX3_sum.desc).map (fun d => d.parameters.length) = some 0 := by decide +kernel
theorem kd_X3_plain : yX3_plain.cls = RX3 ∧ yX3_plain.cls ≠ "java/lang/invoke/MethodHandle" ∧ yX3_plain.cls ≠ "java/lang/invoke/VarHandle" ∧ (parseMethodDescriptor yX3_plain.desc).map (fun d => d.parameters.length) = some 0 := by decide +kernel
theorem kd_X3_both : yX3_both.cls = RX3 ∧ yX3_both.cls ≠ "java/lang/invoke/MethodHandle" ∧ yX3_both.cls ≠ "java/lang/invoke/VarHandle" ∧ (parseMethodDescriptor yX3_both.desc).map (fun d => d.parameters.length) = some 0 := by decide +kernel
theorem kd_X3_test : yX3_test.cls = RX3 ∧ yX3_test.cls ≠ "java/lang/invoke/MethodHandle" ∧ yX3_test.cls ≠ "java/lang/invoke/VarHandle" ∧ (parseMethodDescriptor yX3_test.desc).map (fun d => d.parameters.length) = some 0 := by decide +kernel
theorem kd_X3_clause : yX3_clause.cls = RX3 ∧ yX3_clause.cls ≠ "java/lang/invoke/MethodHandle" ∧ yX3_clause.cls ≠ "java/lang/invoke/VarHandle" ∧ (parseMethodDescriptor yX3_clause.desc).map (fun d => d.parameters.length) = some 0 := by decide +kernel
theorem kd_X3_read : yX3_read.cls = RX3 ∧ yX3_read.cls ≠ "java/lang/invoke/MethodHandle" ∧ yX3_read.cls ≠ "java/lang/invoke/VarHandle" ∧ (parseMethodDescriptor yX3_read.desc).map (fun d => d.parameters.length) = some 0 := by decide +kernel
def PXp (G : MG) (a : Nat) (σ : St) (P : Nat → Nat) (r : PS) (pl : Int) (M : Hp) : Prop := r.2.2 ≠ -1 ∧ pl = r.2.2 ∧ RDx G M a σ P
theorem sub_px {G : MG} {a : Nat} {σ : St} {P : Nat → Nat} {r1 r2 : PS} {pl : Int} {M : Hp} (hx : r1.2.2 ≠ -1 → r2 = r1) (h : PXp G a σ P r1 pl M) : PXp G a σ P r2 pl M := by
  obtain ⟨h1, h2, h3⟩ := h
  rw [hx h1]
  exact ⟨h1, h2, h3⟩
theorem leaf_px {G : MG} {a : Nat} {σ : St} {P : Nat → Nat} {r : PS} {F pl : Int} {M : Hp} (hb : r.2.2 = F) (hF : F ≠ -1) (h : pl = F ∧ RDx G M a σ P) : PXp G a σ P r pl M := ⟨by rw [hb]; exact hF, h.1.trans hb.symm, h.2⟩
theorem tok_zb {σ : St} {t : Nat} {i : Int} (h : TE σ t) (h0 : 0 ≤ i) (h1 : i ≤ t) {k : Nat} (hk : k < 37) {z : Int} (hz : cw k = z) : zb (tokX σ (rL σ t i) (rE σ t i) k) = zb (rC σ t i = z) := by
  subst hz
  exact zb_cg (tokX_c h h0 h1 hk)
theorem tok_y {σ : St} {t : Nat} {i : Int} (h : TE σ t) (h0 : 0 ≤ i) (h1 : i ≤ t) {k : Nat} (hk : k < 37) {z : Int} (hz : cw k = z) (c : rC σ t i = z) : tokX σ (rL σ t i) (rE σ t i) k := (tokX_c h h0 h1 hk).mpr (c.trans hz.symm)
theorem tok_n {σ : St} {t : Nat} {i : Int} (h : TE σ t) (h0 : 0 ≤ i) (h1 : i ≤ t) {k : Nat} (hk : k < 37) {z : Int} (hz : cw k = z) (c : ¬ rC σ t i = z) : ¬ tokX σ (rL σ t i) (rE σ t i) k := fun q => c (((tokX_c h h0 h1 hk).mp q).trans hz)
theorem SumAt_mono {I : Hp} : ∀ {n n' : Nat} {a : Nat} {f : Mean}, n ≤ n' → SumAt n I a f → SumAt n' I a f
  | 0, _, _, _, _, h => h.elim
  | n + 1, 0, _, _, h, _ => by omega
  | n + 1, n' + 1, a, f, hn, h => by
    rcases h with h | h | ⟨q, r, sg, f1, f2, h1, h2, h3, h4, h5⟩
    · exact Or.inl h
    · exact Or.inr (Or.inl h)
    · exact Or.inr (Or.inr ⟨q, r, sg, f1, f2, h1, h2, SumAt_mono (by omega) h3, SumAt_mono (by omega) h4, h5⟩)
theorem TestAt_mono {G : MG} {I : Hp} : ∀ {n n' : Nat} {a : Nat} {f : Mean}, n ≤ n' → TestAt G n I a f → TestAt G n' I a f
  | 0, _, _, _, _, h => h.elim
  | n + 1, 0, _, _, h, _ => by omega
  | n + 1, n' + 1, a, f, hn, h => by
    rcases h with h | ⟨q, r, sg, f1, f2, h1, h2, h3, h4, h5⟩ | ⟨q, f1, h1, h2, h3⟩ | ⟨all, ar, k, F, f0, fl, h1, h2, h3, h4, h5, h6, h7⟩
    · exact Or.inl h
    · exact Or.inr (Or.inl ⟨q, r, sg, f1, f2, h1, h2, SumAt_mono (by omega) h3, SumAt_mono (by omega) h4, h5⟩)
    · exact Or.inr (Or.inr (Or.inl ⟨q, f1, h1, TestAt_mono (by omega) h2, h3⟩))
    · exact Or.inr (Or.inr (Or.inr ⟨all, ar, k, F, f0, fl, h1, h2, h3, h4, h5, fun i hi => by
        obtain ⟨q, g1, g2⟩ := h6 i hi
        exact ⟨q, g1, TestAt_mono (by omega) g2⟩, h7⟩))
theorem TestAt_cl {G : MG} {I : Hp} {n : Nat} {a : Nat} {f : Mean} (h : TestAt G n I a f) : ∃ (ci : Nat) (fs : List Value) (r : vw_C), I a = some (oB ci fs) ∧ clA[ci]? = some r ∧ inRow r.1 "BrothFlasks$Test" := by
  cases n with
  | zero => exact h.elim
  | succ n =>
    rcases h with ⟨k, h1, -⟩ | ⟨q, r, sg, f1, f2, h1, -⟩ | ⟨q, f1, h1, -⟩ | ⟨all, ar, k, F, f0, fl, h1, -⟩
    · exact ⟨14, _, _, h1, rfl, Or.inr q2063⟩
    · exact ⟨15, _, _, h1, rfl, Or.inr q2064⟩
    · exact ⟨16, _, _, h1, rfl, Or.inr q2065⟩
    · exact ⟨17, _, _, h1, rfl, Or.inr q2066⟩
theorem mus_m {C L : Int → Int} {c : Int} {s : PS} : s.1 ≤ (musP C L c s).1 ∧ bd s ≤ bd (musP C L c s) ∧ (s.2.2 ≠ -1 → musP C L c s = s) := by
  refine ⟨musP_1, ?_, musP_b⟩
  by_cases h : s.2.2 = -1
  · rw [bd_f h]
    exact Nat.zero_le _
  · rw [musP_b h]
    exact Nat.le_refl _
theorem fau_3 {L : Int → Int} {s : PS} (h : s.2.2 = -1) : (fauP L s).1 = s.1 ∧ (fauP L s).2.1 = s.2.1 ∧ (fauP L s).2.2 = L s.1 := by
  rw [fauP_f h]
  exact ⟨rfl, rfl, rfl⟩
theorem bd_go {s1 s2 : PS} (h : s1.2.2 ≠ -1 → s2 = s1) : bd s1 ≤ bd s2 := by
  by_cases q : s1.2.2 = -1
  · rw [bd_f q]
    exact Nat.zero_le _
  · rw [h q]
    exact Nat.le_refl _
theorem foldF_ap {all : Int} {f0 f : Mean} {fl : List Mean} : foldF all f0 (fl ++ [f]) = if all = 0 then orF (foldF all f0 fl) f else andF (foldF all f0 fl) f := by
  unfold foldF
  rw [List.foldl_append]
  rfl
theorem GoB_bd {t : Int} {s s' : PS} (h : GoB t s s') : bd s' = 1 ∨ s.1 + 1 ≤ s'.1 := by
  by_cases q : s'.2.2 = -1
  · exact Or.inr (h.2.2 q).2.1
  · exact Or.inl (bd_b q)
/-- the contract of a reader of sums at depth n -/
def VPS (l : Launch) (G : MG) (K : (Nat → Nat) × (Nat → Nat)) (y : MethodName) (cc : ByteArray) (mL mode n : Nat) : Prop := ∀ (M : Hp) (a : Nat) (σ : St) (tn : Nat) (P : Nat → Nat) (τ : Int → Int) (bo : Nat) (lo : Int) (x : XGh) (u : PS) (d_ p_ : Int) (pf : Int → Option Nat) (r : PS × Mean) (sz : Nat), TE σ tn → RD G M a σ P τ bo lo x (rL σ tn u.1) (rE σ tn u.1) u.2.1 d_ p_ pf → BS tn u → u.2.2 = -1 → 0 ≤ d_ → d_ ≤ 8 → 0 ≤ p_ → p_ ≤ u.2.1 → (∀ i, i < 21 → G.2.2 (100 + i) = K.1 i) → rm (rC σ tn) (rV σ tn) (rL σ tn) n mode d_ u = some r → vx_Met l y (ws_ y cc mL (some (.object "BrothFlasks$Sum"))) (rmX (n + 12) ((4 * (r.1.1 - u.1)).toNat + 2 * bd r.1) ((16 * (r.1.1 - u.1)).toNat + 8 * bd r.1)) (xP G (XRd K M) [.ref (P 7)] M sz) (xQq G (DA M sz) (fun r' M' => r.1.2.2 = -1 ∧ ∃ (x' : XGh) (q : Nat) (pf' : Int → Option Nat), r' = some q ∧ RD G M' a σ P τ bo lo x' (rL σ tn r.1.1) (rE σ tn r.1.1) r.1.2.1 d_ p_ pf' ∧ (∀ i, 0 ≤ i → i < p_ → pf' i = pf i) ∧ Ext M M' x x' ∧ SumAt (r.1.2.1 - u.2.1).toNat (gI x') q r.2)) (rXc G (DA M sz) (fun pl M' => PXp G a σ P r.1 pl M')) ((4 * (r.1.1 - u.1)).toNat + 2 * bd r.1) ((16 * (r.1.1 - u.1)).toNat + 8 * bd r.1) (DA M sz)
def VPT (l : Launch) (G : MG) (K : (Nat → Nat) × (Nat → Nat)) (y : MethodName) (cc : ByteArray) (mL mode n : Nat) : Prop := ∀ (M : Hp) (a : Nat) (σ : St) (tn : Nat) (P : Nat → Nat) (τ : Int → Int) (bo : Nat) (lo : Int) (x : XGh) (u : PS) (d_ p_ : Int) (pf : Int → Option Nat) (r : PS × Mean) (sz : Nat), TE σ tn → RD G M a σ P τ bo lo x (rL σ tn u.1) (rE σ tn u.1) u.2.1 d_ p_ pf → BS tn u → u.2.2 = -1 → 0 ≤ d_ → d_ ≤ 8 → 0 ≤ p_ → p_ ≤ u.2.1 → (∀ i, i < 21 → G.2.2 (100 + i) = K.1 i) → rm (rC σ tn) (rV σ tn) (rL σ tn) n mode d_ u = some r → vx_Met l y (ws_ y cc mL (some (.object "BrothFlasks$Test"))) (rmX (n + 12) ((4 * (r.1.1 - u.1)).toNat + 2 * bd r.1) ((16 * (r.1.1 - u.1)).toNat + 8 * bd r.1)) (xP G (XRd K M) [.ref (P 7)] M sz) (xQq G (DA M sz) (fun r' M' => r.1.2.2 = -1 ∧ ∃ (x' : XGh) (q : Nat) (pf' : Int → Option Nat), r' = some q ∧ RD G M' a σ P τ bo lo x' (rL σ tn r.1.1) (rE σ tn r.1.1) r.1.2.1 d_ p_ pf' ∧ (∀ i, 0 ≤ i → i < p_ → pf' i = pf i) ∧ Ext M M' x x' ∧ TestAt G (r.1.2.1 - u.2.1 + 9 - d_).toNat (gI x') q r.2)) (rXc G (DA M sz) (fun pl M' => PXp G a σ P r.1 pl M')) ((4 * (r.1.1 - u.1)).toNat + 2 * bd r.1) ((16 * (r.1.1 - u.1)).toNat + 8 * bd r.1) (DA M sz)
theorem partF_n {c v : Int} (h : c = 50) : partF c v = fun _ => some v := by
  funext a
  unfold partF
  rw [if_pos h]
theorem partF_w {c v k : Int} (h : (17 ≤ c ∧ c ≤ 23 ∧ k = c - 17) ∨ (c = 24 ∧ k = 8)) : partF c v = fun a => some (a k) := by
  funext a
  unfold partF
  rw [if_neg (by omega)]
  by_cases q : c = 24
  · rw [if_pos q, show k = 8 by omega]
  · rw [if_neg q, show k = c - 17 by omega]
theorem cpX_b {C L : Int → Int} {b : PS → Option (PS × Mean)} {r r3 : PS × Mean} (e : cpX C L b r = some r3) (h : r.1.2.2 ≠ -1) : r3.1 = r.1 := by
  unfold cpX at e
  rw [if_neg h] at e
  cases e
  rfl
theorem cpX_go {C V L : Int → Int} {t : Int} {n : Nat} {d : Int} {r r3 : PS × Mean} (hT : TK C V L t) (hB : BS t r.1) (e : cpX C L (rm C V L n 2 d) r = some r3) : r.1.1 ≤ r3.1.1 := by
  unfold cpX at e
  split at e
  · rename_i hf
    split at e
    · obtain ⟨r2, e2, rfl⟩ := Option.map_eq_some_iff.mp e
      have g := (rm_go hT n 2 d _ _ (BS_adv hT hB (by omega)) hf e2).2.1
      have g : r.1.1 + 1 ≤ r2.1.1 := g
      show r.1.1 ≤ r2.1.1
      omega
    · cases e
      rw [fauP_1]
      exact Int.le_refl _
  · cases e
    exact Int.le_refl _
/-- the tests that lie on the pile -/
def PlAt (G : MG) (n : Nat) (I : Hp) (pf : Int → Option Nat) (b : Int) (L : List Mean) (f0 : Mean) : Prop := ∀ j : Nat, j < L.length → ∃ q, pf (b + j) = some q ∧ TestAt G n I q (L.getD j f0)
section PLA
variable {G : MG} {n n' : Nat} {I I' : Hp} {pf pf' : Int → Option Nat} {b p : Int} {L : List Mean} {f0 f : Mean} {q : Nat}
theorem PlAt_up (h : ∀ a e, I a = some e → I' a = some e) (hp : PlAt G n I pf b L f0) : PlAt G n I' pf b L f0 := fun j hj => by
  obtain ⟨q, g1, g2⟩ := hp j hj
  exact ⟨q, g1, TestAt_up h g2⟩
theorem PlAt_cg (hp : PlAt G n I pf b L f0) (h0 : 0 ≤ b) (hb : b + L.length ≤ p) (h : ∀ i, 0 ≤ i → i < p → pf' i = pf i) : PlAt G n I pf' b L f0 := fun j hj => by
  obtain ⟨q, g1, g2⟩ := hp j hj
  exact ⟨q, by rw [h _ (by omega) (by omega)]; exact g1, g2⟩
theorem PlAt_push (hp : PlAt G n I pf b L f0) (hn : n ≤ n') (hb : b + L.length = p) (ht : TestAt G n' I q f) : PlAt G n' I (upq pf p (some q)) b (L ++ [f]) f0 := fun j hj => by
  rw [List.length_append] at hj
  have hj : j < L.length + 1 := hj
  rcases Nat.lt_or_ge j L.length with z | z
  · obtain ⟨y, g1, g2⟩ := hp j z
    refine ⟨y, by rw [upq_n (by omega)]; exact g1, ?_⟩
    rw [List.getD_eq_getElem?_getD, List.getElem?_append_left z, ← List.getD_eq_getElem?_getD]
    exact TestAt_mono hn g2
  · refine ⟨q, by rw [show b + (j : Int) = p by omega]; exact upq_s, ?_⟩
    rw [List.getD_eq_getElem?_getD, List.getElem?_append_right z, show j - L.length = 0 by omega]
    exact ht
theorem PlAt_1 (ht : TestAt G n I q f) : PlAt G n I (upq pf b (some q)) b [f] f := fun j hj => by
  have hj : j < 1 := hj
  have e : j = 0 := by omega
  subst e
  exact ⟨q, by rw [show b + ((0 : Nat) : Int) = b by omega]; exact upq_s, ht⟩
theorem PlAt_cl {m : Int} (hp : PlAt G n I pf b L f0) (hm : m = L.length) : ∀ i, b ≤ i → i < b + m → ∀ y, pf i = some y → ∃ (ci : Nat) (fs : List Value) (r : vw_C), I y = some (oB ci fs) ∧ clA[ci]? = some r ∧ inRow r.1 "BrothFlasks$Test" := fun i i0 i1 y hy => by
  obtain ⟨q, g1, g2⟩ := hp (i - b).toNat (by omega)
  rw [show b + (((i - b).toNat : Nat) : Int) = i by omega, hy] at g1
  cases g1
  exact TestAt_cl g2
theorem PlAt_row {m : Int} {all : Int} {ar : Nat} {fl : List Mean} (hp : PlAt G n I pf b (f0 :: fl) f0) (hm : m = fl.length + 1) (hm5 : m ≤ 60) (hall : all = 0 ∨ all = 1) (hq : I q = some (oB 17 [.int (iI all), .ref ar])) (har : I ar = some (aQ (G.2.1 10) m.toNat (cpZ pf (fun _ => none) b 0 m))) (hn : n + 1 ≤ n') : TestAt G n' I q (foldF all f0 fl) := by
  refine TestAt_mono hn ?_
  refine Or.inr (Or.inr (Or.inr ⟨all, ar, m.toNat, _, f0, fl, hq, hall, har, by omega, by omega, fun i hi => ?_, rfl⟩))
  obtain ⟨y, g1, g2⟩ := hp i (by show i < fl.length + 1; omega)
  refine ⟨y, ?_, g2⟩
  unfold cpZ
  rw [if_pos (by omega), show b + ((i : Int) - 0) = b + i by omega]
  exact g1
end PLA
