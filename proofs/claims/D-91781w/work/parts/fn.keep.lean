/-! A TEXT READ IS KEPT: its numbers are small, its meanings the same where it lies -/
section VAL
variable {C V L : Int → Int} {t : Int}
def VOk (C V : Int → Int) (a b : Int) : Prop := ∀ i, a ≤ i → i < b → C i = 50 → V i ≤ 100000
theorem VOk.j {a b c : Int} (h : VOk C V a b) (h2 : VOk C V b c) : VOk C V a c := fun i i0 i1 e => by
  rcases Int.lt_or_le i b with z | z
  · exact h i i0 z e
  · exact h2 i z i1 e
theorem VOk.one {a : Int} (h : C a = 50 → V a ≤ 100000) : VOk C V a (a + 1) := fun i i0 i1 e => by
  have : i = a := by omega
  subst this
  exact h e
theorem VOk.e {a b : Int} (h : b ≤ a) : VOk C V a b := fun i i0 i1 _ => by omega
theorem lpX_V {c1 c2 : Int} {cb : Int → Mean → Mean → Mean} {b : PS → Option (PS × Mean)} (hT : TK C V L t) (h1 : c1 ≠ 0 ∧ c1 ≠ 50) (h2 : c2 ≠ 0 ∧ c2 ≠ 50) (hg : ∀ s r, BS t s → s.2.2 = -1 → b s = some r → GoB t s r.1) (hb : ∀ s r, BS t s → s.2.2 = -1 → b s = some r → r.1.2.2 = -1 → VOk C V s.1 r.1.1) : ∀ (k : Nat) (s : PS) (f : Mean) (r : PS × Mean), BS t s → lpX C c1 c2 cb b k s f = some r → r.1.2.2 = -1 → VOk C V s.1 r.1.1
  | 0, s, f, r, _, e, _ => by rw [lpX] at e; cases e
  | k + 1, s, f, r, h, e, hr => by
    rw [lpX] at e
    split at e
    · rename_i q
      obtain ⟨r1, e1, e2⟩ := Option.bind_eq_some_iff.mp e
      have hs : s.2.2 = -1 := by rcases q with q | q <;> exact q.1
      have ha : BS t (advP s) := BS_adv hT h (by rcases q with q | q <;> rw [q.2] <;> omega)
      have g1 := hg _ _ ha hs e1
      have g2 := lpX_go hT h1.1 h2.1 hg k _ _ _ g1.1 e2
      have f1 := (g2.2.2 hr).1
      have a1 : VOk C V (s.1 + 1) r1.1.1 := hb _ _ ha hs e1 f1
      exact ((VOk.one (fun z => by rcases q with q | q <;> (have := q.2; omega))).j a1).j (lpX_V hT h1 h2 hg hb k _ _ _ g1.1 e2 hr)
    · cases e
      exact VOk.e (Int.le_refl _)
theorem ntX_V : ∀ (k : Nat) (q : Int) (s : PS) (z : Int × PS), BS t s → TK C V L t → s.2.2 = -1 → ntX C k q s = some z → VOk C V s.1 z.2.1 ∧ BS t z.2
  | 0, q, s, z, _, _, _, e => by rw [ntX] at e; cases e
  | k + 1, q, s, z, h, hT, hf, e => by
    rw [ntX] at e
    split at e
    · rename_i c
      obtain ⟨a1, a2⟩ := ntX_V k _ (advP s) z (BS_adv hT h (by rw [c.2]; decide)) hT hf e
      exact ⟨(VOk.one (fun y => by have := c.2; omega)).j a1, a2⟩
    · cases e
      exact ⟨VOk.e (Int.le_refl _), h⟩
theorem mus_V {c a : Int} {s : PS} (hT : TK C V L t) (h : BS t s) (hc : c ≠ 50) (h2 : s.2.2 = -1 → VOk C V a s.1) (hr : (musP C L c s).2.2 = -1) : VOk C V a (musP C L c s).1 := by
  by_cases f : s.2.2 = -1
  · by_cases q : C s.1 = c
    · rw [mus_y f q]
      exact (h2 f).j (VOk.one (fun z => absurd (q.symm.trans z) hc))
    · rw [mus_n f q] at hr
      exact absurd hr (hT.l h)
  · rw [musP_b f] at hr
    exact absurd hr f
theorem lea_V {s : PS} (hT : TK C V L t) (h : BS t s) (hf : s.2.2 = -1) (hv : C s.1 = 50 → V s.1 ≤ 100000) (hr : (leaP L s).2.2 = -1) : VOk C V s.1 (leaP L s).1 := by
  by_cases q : s.2.1 = 50
  · rw [lea_50 hf q (hT.l h)] at hr
    exact absurd hr (hT.l h)
  · rw [lea_n hf q]
    exact VOk.one hv
theorem rm_V (hT : TK C V L t) : ∀ (n mode : Nat) (deep : Int) (s : PS) (r : PS × Mean), BS t s → s.2.2 = -1 → rm C V L n mode deep s = some r → r.1.2.2 = -1 → VOk C V s.1 r.1.1
  | 0, _, _, _, _, _, _, e, _ => by rw [rm] at e; cases e
  | n + 1, mode, deep, s, r, h, hf, e, hr => by
    have ih := rm_V hT n
    have hG := rm_go hT n
    match mode, e with
    | 0, e =>
      simp only [rm] at e
      split at e
      · rename_i c
        split at e
        · cases e; exact absurd hr (fauP_bad hT h)
        · obtain ⟨r1, e1, rfl⟩ := Option.map_eq_some_iff.mp e
          have ha : BS t (advP s) := BS_adv hT h (by omega)
          exact mus_V hT (hG 2 _ _ _ ha hf e1).1 (by decide) (fun f => (VOk.one (fun z => by omega)).j (ih 2 _ _ _ ha hf e1 f)) hr
      · split at e
        · rename_i c
          cases e
          exact lea_V hT h hf (fun z => by omega) hr
        · cases e; exact absurd hr (fauP_bad hT h)
    | 1, e =>
      simp only [rm] at e
      obtain ⟨r1, e1, e2⟩ := Option.bind_eq_some_iff.mp e
      have g1 := hG 0 deep _ _ h hf e1
      have f1 := ((lpX_go hT (by decide) (by decide) (fun a b => hG 0 deep a b) _ _ _ _ g1.1 e2).2.2 hr).1
      exact (ih 0 deep _ _ h hf e1 f1).j (lpX_V hT (by decide) (by decide) (fun a b => hG 0 deep a b) (fun a b => ih 0 deep a b) _ _ _ _ g1.1 e2 hr)
    | 2, e =>
      simp only [rm] at e
      obtain ⟨r1, e1, e2⟩ := Option.bind_eq_some_iff.mp e
      have g1 := hG 1 deep _ _ h hf e1
      have f1 := ((lpX_go hT (by decide) (by decide) (fun a b => hG 1 deep a b) _ _ _ _ g1.1 e2).2.2 hr).1
      exact (ih 1 deep _ _ h hf e1 f1).j (lpX_V hT (by decide) (by decide) (fun a b => hG 1 deep a b) (fun a b => ih 1 deep a b) _ _ _ _ g1.1 e2 hr)
    | 3, e =>
      simp only [rm] at e
      obtain ⟨z, e1, e2⟩ := Option.bind_eq_some_iff.mp e
      obtain ⟨a1, a2, a3, -⟩ := ntX_f 402 0 s z hf e1
      obtain ⟨v1, hz⟩ := ntX_V 402 0 s z h hT hf e1
      obtain ⟨r1, e3, rfl⟩ := Option.map_eq_some_iff.mp e2
      have hr : r1.1.2.2 = -1 := hr
      refine v1.j ?_
      show VOk C V z.2.1 r1.1.1
      split at e3
      · rename_i c
        split at e3
        · cases e3; exact absurd hr (fauP_bad hT hz)
        · obtain ⟨r2, e4, rfl⟩ := Option.map_eq_some_iff.mp e3
          have ha : BS t (advP z.2) := BS_adv hT hz (by omega)
          exact mus_V hT (hG 5 _ _ _ ha a1 e4).1 (by decide) (fun f => (VOk.one (fun y => by omega)).j (ih 5 _ _ _ ha a1 e4 f)) hr
      · split at e3
        · rename_i c
          cases e3
          exact lea_V hT hz a1 (fun y => by omega) hr
        · obtain ⟨r2, e4, e5⟩ := Option.bind_eq_some_iff.mp e3
          have g1 := hG 2 deep _ _ hz a1 e4
          unfold cpX at e5
          split at e5
          · rename_i f2
            split at e5
            · rename_i c
              obtain ⟨r3, e6, rfl⟩ := Option.map_eq_some_iff.mp e5
              have ha : BS t (advP r2.1) := BS_adv hT g1.1 (by omega)
              have a9 : VOk C V (r2.1.1 + 1) r3.1.1 := ih 2 deep (advP r2.1) r3 ha f2 e6 hr
              exact (ih 2 deep _ _ hz a1 e4 f2).j ((VOk.one (fun y => by omega)).j a9)
            · cases e5
              exact absurd hr (fauP_bad hT g1.1)
          · rename_i f2
            cases e5
            exact absurd hr f2
    | 4, e =>
      simp only [rm] at e
      obtain ⟨r1, e1, e2⟩ := Option.bind_eq_some_iff.mp e
      have g1 := hG 3 deep _ _ h hf e1
      have f1 := ((lpX_go hT (by decide) (by decide) (fun a b => hG 3 deep a b) _ _ _ _ g1.1 e2).2.2 hr).1
      exact (ih 3 deep _ _ h hf e1 f1).j (lpX_V hT (by decide) (by decide) (fun a b => hG 3 deep a b) (fun a b => ih 3 deep a b) _ _ _ _ g1.1 e2 hr)
    | m + 5, e =>
      simp only [rm] at e
      obtain ⟨r1, e1, e2⟩ := Option.bind_eq_some_iff.mp e
      have g1 := hG 4 deep _ _ h hf e1
      have f1 := ((lpX_go hT (by decide) (by decide) (fun a b => hG 4 deep a b) _ _ _ _ g1.1 e2).2.2 hr).1
      exact (ih 4 deep _ _ h hf e1 f1).j (lpX_V hT (by decide) (by decide) (fun a b => hG 4 deep a b) (fun a b => ih 4 deep a b) _ _ _ _ g1.1 e2 hr)
theorem clZ_V (hT : TK C V L t) {n : Nat} {s : PS} {r : PS × Cl} (hs : BS t s) (hf : s.2.2 = -1) (e : clZ C V L n s = some r) (hr : r.1.2.2 = -1) : VOk C V s.1 r.1.1 := by
  have yy : ∀ (h : Int) (q : PS × Option Mean), BS t q.1 → clY C V L n h q = some r → VOk C V q.1.1 r.1.1 ∧ q.1.2.2 = -1 := by
    intro h q hq ey
    unfold clY at ey
    by_cases f : q.1.2.2 = -1
    · rw [if_pos f] at ey
      by_cases c6 : C q.1.1 = 6
      · rw [if_pos c6] at ey
        obtain ⟨r1, e1, rfl⟩ := Option.map_eq_some_iff.mp ey
        have ha : BS t (advP q.1) := BS_adv hT hq (by omega)
        exact ⟨(VOk.one (fun z => by omega)).j (rm_V hT n 5 0 _ _ ha f e1 hr), f⟩
      · rw [if_neg c6] at ey
        cases ey
        exact ⟨VOk.e (Int.le_refl _), f⟩
    · rw [if_neg f] at ey
      cases ey
      exact absurd hr f
  unfold clZ at e
  by_cases c : 1 ≤ C s.1 ∧ C s.1 ≤ 5
  · rw [if_pos c] at e
    have ha : BS t (advP s) := BS_adv hT hs (by omega)
    have h1 : VOk C V s.1 (s.1 + 1) := VOk.one (fun z => by omega)
    by_cases c3 : C s.1 = 3 ∨ C s.1 = 4
    · rw [if_pos c3] at e
      obtain ⟨r1, e1, e2⟩ := Option.bind_eq_some_iff.mp e
      obtain ⟨y1, y2⟩ := yy _ (r1.1, some r1.2) (rm_go hT n 2 0 _ _ ha hf e1).1 e2
      exact h1.j ((rm_V hT n 2 0 _ _ ha hf e1 y2).j y1)
    · rw [if_neg c3] at e
      exact h1.j (yy _ (advP s, none) ha e).1
  · rw [if_neg c] at e
    cases e
    exact absurd hr (fauP_bad hT hs)
theorem alX_V (hT : TK C V L t) {n : Nat} : ∀ (m : Nat) (k : Int) (s : PS) (l : List Cl) (r : PS × List Cl), BS t s → alX C V L n m k s l = some r → r.1.2.2 = -1 → VOk C V s.1 r.1.1
  | 0, k, s, l, r, _, e, _ => by rw [alX] at e; cases e
  | m + 1, k, s, l, r, h, e, hr => by
    rw [alX] at e
    split at e
    · rename_i q
      have ha : BS t (advP s) := BS_adv hT h (by rw [q.2]; decide)
      split at e
      · cases e; exact absurd hr (fauP_bad hT ha)
      · obtain ⟨r1, e1, e2⟩ := Option.bind_eq_some_iff.mp e
        have g := clZ_go hT ha q.1 e1
        have f1 := (alX_go hT m _ _ _ r g.1 e2).2.2 hr
        have a1 : VOk C V (s.1 + 1) r1.1.1 := clZ_V hT ha q.1 e1 f1
        exact ((VOk.one (fun z => by have := q.2; omega)).j a1).j (alX_V hT m _ _ _ r g.1 e2 hr)
    · cases e
      exact VOk.e (Int.le_refl _)
theorem rmAll_V (hT : TK C V L t) {n : Nat} {r : PS × List Cl} (e : rmAll C V L n t = some r) (hr : r.1.2.2 = -1) : VOk C V 0 t := by
  have h3 := (rmAll_mn hT e hr).2.2
  unfold rmAll at e
  obtain ⟨r2, e2, e9⟩ := Option.map_eq_some_iff.mp e
  obtain ⟨r1, e1, e3⟩ := Option.bind_eq_some_iff.mp e2
  have g := clZ_go hT (BS_00 hT) rfl e1
  obtain ⟨b1, b2, b3⟩ := alX_go hT 402 1 _ _ r2 g.1 e3
  by_cases q : r2.1.2.2 = -1 ∧ r2.1.1 < t
  · rw [if_pos q] at e9
    rw [← e9] at hr
    exact absurd hr (fauP_bad hT b1)
  · rw [if_neg q] at e9
    subst e9
    have a1 : VOk C V 0 r1.1.1 := clZ_V hT (BS_00 hT) rfl e1 (b3 hr)
    have a2 := a1.j (alX_V hT 402 1 _ _ r2 g.1 e3 hr)
    rw [h3] at a2
    exact a2
end VAL
section SHF
variable {C V C' V' : Int → Int} {t s : Int}
/-- the same tokens, s places on -/
def Shf (C V C' V' : Int → Int) (t s : Int) : Prop := 0 ≤ t ∧ C t = 0 ∧ (∀ i, 0 ≤ i → i ≤ t → C' (i + s) = C i) ∧ ∀ i, 0 ≤ i → i < t → V' (i + s) = V i
theorem Shf.lt (h : Shf C V C' V' t s) {i : Int} (h0 : 0 ≤ i) (h1 : i ≤ t) (hc : C i ≠ 0) : i < t := by
  rcases Int.lt_or_le i t with z | z
  · exact z
  · exact absurd (by rw [show i = t by omega]; exact h.2.1) hc
theorem lpM_sh {c1 c2 : Int} {cb : Int → Mean → Mean → Mean} {b b' : Int → Option (Mean × Int)} (h : Shf C V C' V' t s) (h1 : c1 ≠ 0) (h2 : c2 ≠ 0) (hb : ∀ i r, 0 ≤ i → i ≤ t → b i = some r → (i < r.2 ∧ r.2 ≤ t) ∧ b' (i + s) = some (r.1, r.2 + s)) : ∀ (k : Nat) (f : Mean) (i : Int) (r : Mean × Int), 0 ≤ i → i ≤ t → lpM C c1 c2 cb b k f i = some r → (i ≤ r.2 ∧ r.2 ≤ t) ∧ lpM C' c1 c2 cb b' k f (i + s) = some (r.1, r.2 + s)
  | 0, f, i, r, _, _, e => by rw [lpM] at e; cases e
  | k + 1, f, i, r, i0, i1, e => by
    rw [lpM] at e
    rw [lpM, h.2.2.1 i i0 i1]
    by_cases q : C i = c1 ∨ C i = c2
    · rw [if_pos q] at e ⊢
      obtain ⟨r1, e1, e2⟩ := Option.bind_eq_some_iff.mp e
      have hlt := h.lt i0 i1 (by rcases q with q | q <;> rw [q] <;> assumption)
      obtain ⟨a1, a2⟩ := hb _ _ (by omega) (by omega) e1
      obtain ⟨b1, b2⟩ := lpM_sh h h1 h2 hb k _ _ r (by omega) a1.2 e2
      refine ⟨by omega, ?_⟩
      rw [show i + s + 1 = i + 1 + s by omega, a2]
      exact b2
    · rw [if_neg q] at e ⊢
      cases e
      exact ⟨⟨Int.le_refl _, i1⟩, rfl⟩
theorem ntM_sh (h : Shf C V C' V' t s) : ∀ (k : Nat) (q : Bool) (i : Int) (r : Bool × Int), 0 ≤ i → i ≤ t → ntM C k q i = some r → (i ≤ r.2 ∧ r.2 ≤ t) ∧ ntM C' k q (i + s) = some (r.1, r.2 + s)
  | 0, q, i, r, _, _, e => by rw [ntM] at e; cases e
  | k + 1, q, i, r, i0, i1, e => by
    rw [ntM] at e
    rw [ntM, h.2.2.1 i i0 i1]
    by_cases c : C i = 9
    · rw [if_pos c] at e ⊢
      have hlt := h.lt i0 i1 (by omega)
      obtain ⟨b1, b2⟩ := ntM_sh h k _ _ r (by omega) (by omega) e
      refine ⟨by omega, ?_⟩
      rw [show i + s + 1 = i + 1 + s by omega]
      exact b2
    · rw [if_neg c] at e ⊢
      cases e
      exact ⟨⟨Int.le_refl _, i1⟩, rfl⟩
theorem mn_sh (h : Shf C V C' V' t s) : ∀ (n mode : Nat) (i : Int) (r : Mean × Int), 0 ≤ i → i ≤ t → mn C V n mode i = some r → (i < r.2 ∧ r.2 ≤ t) ∧ mn C' V' n mode (i + s) = some (r.1, r.2 + s)
  | 0, _, _, _, _, _, e => by rw [mn] at e; cases e
  | n + 1, mode, i, r, i0, i1, e => by
    have ih := mn_sh h n
    have hC := h.2.2.1 i i0 i1
    match mode, e with
    | 0, e =>
      simp only [mn] at e ⊢
      rw [hC]
      by_cases c : C i = 191
      · rw [if_pos c] at e ⊢
        obtain ⟨r1, e1, e2⟩ := Option.bind_eq_some_iff.mp e
        have hlt := h.lt i0 i1 (by omega)
        obtain ⟨a1, a2⟩ := ih 2 _ _ (by omega) (by omega) e1
        rw [show i + s + 1 = i + 1 + s by omega, a2]
        show _ ∧ (if C' (r1.2 + s) = 193 then _ else none) = _
        rw [h.2.2.1 r1.2 (by omega) a1.2]
        by_cases c2 : C r1.2 = 193
        · rw [if_pos c2] at e2 ⊢
          have hl2 := h.lt (i := r1.2) (by omega) a1.2 (by omega)
          cases e2
          exact ⟨⟨by show i < r1.2 + 1; omega, by show r1.2 + 1 ≤ t; omega⟩, by show some (r1.1, r1.2 + s + 1) = some (r1.1, r1.2 + 1 + s); rw [show r1.2 + s + 1 = r1.2 + 1 + s by omega]⟩
        · rw [if_neg c2] at e2
          cases e2
      · rw [if_neg c] at e ⊢
        by_cases c2 : C i = 50 ∨ (17 ≤ C i ∧ C i ≤ 24)
        · rw [if_pos c2] at e ⊢
          have hlt := h.lt i0 i1 (by omega)
          cases e
          exact ⟨⟨by show i < i + 1; omega, by show i + 1 ≤ t; omega⟩, by rw [h.2.2.2 i i0 hlt]; show some (partF (C i) (V i), i + s + 1) = some (partF (C i) (V i), i + 1 + s); rw [show i + s + 1 = i + 1 + s by omega]⟩
        · rw [if_neg c2] at e
          cases e
    | 1, e =>
      simp only [mn] at e ⊢
      obtain ⟨r1, e1, e2⟩ := Option.bind_eq_some_iff.mp e
      obtain ⟨a1, a2⟩ := ih 0 _ _ i0 i1 e1
      obtain ⟨b1, b2⟩ := lpM_sh h (by decide) (by decide) (fun a b ha hb => ih 0 a b ha hb) _ _ _ r (by omega) a1.2 e2
      rw [a2]
      exact ⟨⟨by omega, b1.2⟩, b2⟩
    | 2, e =>
      simp only [mn] at e ⊢
      obtain ⟨r1, e1, e2⟩ := Option.bind_eq_some_iff.mp e
      obtain ⟨a1, a2⟩ := ih 1 _ _ i0 i1 e1
      obtain ⟨b1, b2⟩ := lpM_sh h (by decide) (by decide) (fun a b ha hb => ih 1 a b ha hb) _ _ _ r (by omega) a1.2 e2
      rw [a2]
      exact ⟨⟨by omega, b1.2⟩, b2⟩
    | 3, e =>
      simp only [mn] at e ⊢
      obtain ⟨q1, e1, e2⟩ := Option.bind_eq_some_iff.mp e
      obtain ⟨r1, e3, rfl⟩ := Option.map_eq_some_iff.mp e2
      obtain ⟨a1, a2⟩ := ntM_sh h _ _ _ q1 i0 i1 e1
      obtain ⟨b1, b2⟩ := ih 6 _ _ (by omega) a1.2 e3
      rw [a2]
      show _ ∧ Option.map _ (mn C' V' n 6 (q1.2 + s)) = _
      rw [b2]
      exact ⟨⟨by show i < r1.2; omega, b1.2⟩, rfl⟩
    | 4, e =>
      simp only [mn] at e ⊢
      obtain ⟨r1, e1, e2⟩ := Option.bind_eq_some_iff.mp e
      obtain ⟨a1, a2⟩ := ih 3 _ _ i0 i1 e1
      obtain ⟨b1, b2⟩ := lpM_sh h (by decide) (by decide) (fun a b ha hb => ih 3 a b ha hb) _ _ _ r (by omega) a1.2 e2
      rw [a2]
      exact ⟨⟨by omega, b1.2⟩, b2⟩
    | 5, e =>
      simp only [mn] at e ⊢
      obtain ⟨r1, e1, e2⟩ := Option.bind_eq_some_iff.mp e
      obtain ⟨a1, a2⟩ := ih 4 _ _ i0 i1 e1
      obtain ⟨b1, b2⟩ := lpM_sh h (by decide) (by decide) (fun a b ha hb => ih 4 a b ha hb) _ _ _ r (by omega) a1.2 e2
      rw [a2]
      exact ⟨⟨by omega, b1.2⟩, b2⟩
    | m + 6, e =>
      simp only [mn] at e ⊢
      rw [hC]
      by_cases c : C i = 140
      · rw [if_pos c] at e ⊢
        obtain ⟨r1, e1, e2⟩ := Option.bind_eq_some_iff.mp e
        have hlt := h.lt i0 i1 (by omega)
        obtain ⟨a1, a2⟩ := ih 5 _ _ (by omega) (by omega) e1
        rw [show i + s + 1 = i + 1 + s by omega, a2]
        show _ ∧ (if C' (r1.2 + s) = 141 then _ else none) = _
        rw [h.2.2.1 r1.2 (by omega) a1.2]
        by_cases c2 : C r1.2 = 141
        · rw [if_pos c2] at e2 ⊢
          have hl2 := h.lt (i := r1.2) (by omega) a1.2 (by omega)
          cases e2
          exact ⟨⟨by show i < r1.2 + 1; omega, by show r1.2 + 1 ≤ t; omega⟩, by show some (r1.1, r1.2 + s + 1) = some (r1.1, r1.2 + 1 + s); rw [show r1.2 + s + 1 = r1.2 + 1 + s by omega]⟩
        · rw [if_neg c2] at e2
          cases e2
      · rw [if_neg c] at e ⊢
        by_cases c2 : 10 ≤ C i ∧ C i ≤ 16
        · rw [if_pos c2] at e ⊢
          have hlt := h.lt i0 i1 (by omega)
          cases e
          exact ⟨⟨by show i < i + 1; omega, by show i + 1 ≤ t; omega⟩, by show some (factF (C i), i + s + 1) = some (factF (C i), i + 1 + s); rw [show i + s + 1 = i + 1 + s by omega]⟩
        · rw [if_neg c2] at e ⊢
          obtain ⟨r1, e1, e2⟩ := Option.bind_eq_some_iff.mp e
          obtain ⟨a1, a2⟩ := ih 2 _ _ i0 i1 e1
          rw [a2]
          show _ ∧ (if C' (r1.2 + s) = 160 ∨ C' (r1.2 + s) = 161 ∨ C' (r1.2 + s) = 162 then Option.map (fun r2 => (cmpF (C' (r1.2 + s)) r1.1 r2.1, r2.2)) (mn C' V' n 2 (r1.2 + s + 1)) else none) = _
          rw [h.2.2.1 r1.2 (by omega) a1.2]
          by_cases c3 : C r1.2 = 160 ∨ C r1.2 = 161 ∨ C r1.2 = 162
          · rw [if_pos c3] at e2 ⊢
            obtain ⟨r2, e3, rfl⟩ := Option.map_eq_some_iff.mp e2
            have hl2 := h.lt (i := r1.2) (by omega) a1.2 (by omega)
            obtain ⟨b1, b2⟩ := ih 2 _ _ (by omega) (by omega) e3
            rw [show r1.2 + s + 1 = r1.2 + 1 + s by omega, b2]
            exact ⟨⟨by show i < r2.2; omega, b1.2⟩, rfl⟩
          · rw [if_neg c3] at e2
            cases e2
theorem clP_sh (h : Shf C V C' V' t s) {i : Int} {r : Cl × Int} (i0 : 0 ≤ i) (i1 : i < t) (e : clP C V i = some r) : (i < r.2 ∧ r.2 ≤ t) ∧ clP C' V' (i + s) = some (r.1, r.2 + s) := by
  unfold clP at e ⊢
  rw [h.2.2.1 i i0 (by omega)]
  obtain ⟨q, e1, e2⟩ := Option.bind_eq_some_iff.mp e
  obtain ⟨w, e3, rfl⟩ := Option.map_eq_some_iff.mp e2
  have k1 : (i < q.2 ∧ q.2 ≤ t) ∧ (if C i = 3 ∨ C i = 4 then (mn C' V' 60 2 (i + s + 1)).map (fun r => (some r.1, r.2)) else some (none, i + s + 1)) = some (q.1, q.2 + s) := by
    by_cases c : C i = 3 ∨ C i = 4
    · rw [if_pos c] at e1 ⊢
      obtain ⟨r1, e4, rfl⟩ := Option.map_eq_some_iff.mp e1
      obtain ⟨a1, a2⟩ := mn_sh h _ _ _ _ (by omega) (by omega) e4
      rw [show i + s + 1 = i + 1 + s by omega, a2]
      exact ⟨⟨by show i < r1.2; omega, a1.2⟩, rfl⟩
    · rw [if_neg c] at e1 ⊢
      cases e1
      exact ⟨⟨by show i < i + 1; omega, by show i + 1 ≤ t; omega⟩, by show some (none, i + s + 1) = some (none, i + 1 + s); rw [show i + s + 1 = i + 1 + s by omega]⟩
  have k2 : (q.2 ≤ w.2 ∧ w.2 ≤ t) ∧ (if C q.2 = 6 then (mn C' V' 60 5 (q.2 + s + 1)).map (fun r => (some r.1, r.2)) else some (none, q.2 + s)) = some (w.1, w.2 + s) := by
    by_cases c : C q.2 = 6
    · rw [if_pos c] at e3 ⊢
      have hl := h.lt (i := q.2) (by omega) k1.1.2 (by omega)
      obtain ⟨r1, e4, rfl⟩ := Option.map_eq_some_iff.mp e3
      obtain ⟨a1, a2⟩ := mn_sh h _ _ _ _ (by omega) (by omega) e4
      rw [show q.2 + s + 1 = q.2 + 1 + s by omega, a2]
      exact ⟨⟨by show q.2 ≤ r1.2; omega, a1.2⟩, rfl⟩
    · rw [if_neg c] at e3 ⊢
      cases e3
      exact ⟨⟨Int.le_refl _, k1.1.2⟩, rfl⟩
  refine ⟨⟨by show i < w.2; omega, k2.1.2⟩, ?_⟩
  rw [k1.2]
  show Option.map _ (if C' (q.2 + s) = 6 then _ else some (none, q.2 + s)) = _
  rw [h.2.2.1 q.2 (by omega) k1.1.2, k2.2]
  rfl
theorem clsP_sh (h : Shf C V C' V' t s) : ∀ (n : Nat) (i : Int) (l : List Cl), 0 ≤ i → clsP C V t n i = some l → clsP C' V' (t + s) n (i + s) = some l
  | 0, i, l, _, e => by rw [clsP] at e; cases e
  | n + 1, i, l, i0, e => by
    rw [clsP] at e ⊢
    by_cases c : i < t
    · rw [if_pos c] at e
      rw [if_pos (by omega)]
      obtain ⟨r, e1, e2⟩ := Option.bind_eq_some_iff.mp e
      obtain ⟨l2, e3, rfl⟩ := Option.map_eq_some_iff.mp e2
      obtain ⟨a1, a2⟩ := clP_sh h i0 c e1
      rw [a2]
      have e4 := clsP_sh h n (r.2 + 1) l2 (by omega) e3
      show Option.map _ (clsP C' V' (t + s) n (r.2 + s + 1)) = _
      rw [show r.2 + s + 1 = r.2 + 1 + s by omega, e4]
      rfl
    · rw [if_neg c] at e
      rw [if_neg (by omega)]
      exact e
end SHF
