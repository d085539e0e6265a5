/-! CLAUSES READ -/
/-- a clause behind its head and its sum -/
def clY (C V L : Int → Int) (n : Nat) (h : Int) (q : PS × Option Mean) : Option (PS × Cl) := if q.1.2.2 = -1 then (if C q.1.1 = 6 then (rm C V L n 5 0 (advP q.1)).map (fun r => (r.1, (h, q.2, some r.2))) else some (q.1, (h, q.2, none))) else some (q.1, cl0)
def clZ (C V L : Int → Int) (n : Nat) (s : PS) : Option (PS × Cl) := if 1 ≤ C s.1 ∧ C s.1 ≤ 5 then (if C s.1 = 3 ∨ C s.1 = 4 then (rm C V L n 2 0 (advP s)).bind (fun r => clY C V L n (C s.1) (r.1, some r.2)) else clY C V L n (C s.1) (advP s, none)) else some (fauP L s, cl0)
def alX (C V L : Int → Int) (n : Nat) : Nat → Int → PS → List Cl → Option (PS × List Cl)
  | 0, _, _, _ => none
  | m + 1, k, s, l => if takP C 159 s then (if k = 12 then some (fauP L (advP s), l) else (clZ C V L n (advP s)).bind (fun r => alX C V L n m (k + 1) r.1 (l ++ [r.2]))) else some (s, l)
def rmAll (C V L : Int → Int) (n : Nat) (t : Int) : Option (PS × List Cl) := ((clZ C V L n (0, 0, -1)).bind (fun r => alX C V L n 402 1 r.1 [r.2])).map (fun r => if r.1.2.2 = -1 ∧ r.1.1 < t then (fauP L r.1, r.2) else r)
section RMC
variable {C V L : Int → Int} {t : Int}
theorem clY_ex (hT : TK C V L t) {n : Nat} {h : Int} {q : PS × Option Mean} {s' : PS} (hq : BS t q.1) (e : (if takP C 6 q.1 then rd C V L n 5 0 (advP q.1) else some q.1) = some s') : ∃ c, clY C V L n h q = some (s', c) := by
  unfold clY
  by_cases f : q.1.2.2 = -1
  · rw [if_pos f]
    by_cases c6 : C q.1.1 = 6
    · rw [if_pos ⟨f, c6⟩] at e
      rw [if_pos c6]
      obtain ⟨g, e2⟩ := rm_ex hT n 5 0 (advP q.1) s' (BS_adv hT hq (by omega)) f e
      rw [e2]
      exact ⟨_, rfl⟩
    · rw [if_neg (fun z => c6 z.2)] at e
      rw [if_neg c6]
      cases e
      exact ⟨_, rfl⟩
  · rw [if_neg (takP_b f)] at e
    rw [if_neg f]
    cases e
    exact ⟨_, rfl⟩
theorem clZ_ex (hT : TK C V L t) {n : Nat} {s s' : PS} (hs : BS t s) (hf : s.2.2 = -1) (e : clR C V L n s = some s') : ∃ c, clZ C V L n s = some (s', c) := by
  unfold clR clRa at e
  obtain ⟨s1, e1, e2⟩ := Option.bind_eq_some_iff.mp e
  unfold clZ
  by_cases c : 1 ≤ C s.1 ∧ C s.1 ≤ 5
  · rw [if_pos c]
    by_cases c3 : C s.1 = 3 ∨ C s.1 = 4
    · rw [if_pos (by rcases c3 with z | z; exact Or.inl ⟨hf, z⟩; exact Or.inr ⟨hf, z⟩)] at e1
      rw [if_pos c3]
      obtain ⟨g, e3⟩ := rm_ex hT n 2 0 (advP s) s1 (BS_adv hT hs (by omega)) hf e1
      rw [e3]
      exact clY_ex hT (q := (s1, some g)) (BS_rd hT _ _ _ _ _ (BS_adv hT hs (by omega)) e1) e2
    · rw [if_neg (fun z => c3 (by rcases z with z | z; exact Or.inl z.2; exact Or.inr z.2))] at e1
      rw [if_neg c3]
      have e9 : s1 = advP s := by
        cases e1
        by_cases c1 : C s.1 = 1 ∨ C s.1 = 2
        · exact if_pos (by rcases c1 with z | z; exact Or.inl ⟨hf, z⟩; exact Or.inr ⟨hf, z⟩)
        · rw [if_neg (fun z => c1 (by rcases z with z | z; exact Or.inl z.2; exact Or.inr z.2))]
          exact mus_y hf (by omega)
      subst e9
      exact clY_ex hT (q := (advP s, none)) (BS_adv hT hs (by omega)) e2
  · rw [if_neg c]
    rw [if_neg (fun z => c (by rcases z with z | z <;> have := z.2 <;> omega))] at e1
    have e9 : s1 = fauP L s := by
      cases e1
      rw [if_neg (fun z => c (by rcases z with z | z <;> have := z.2 <;> omega))]
      rw [mus_n hf (by omega), fauP_f hf]
    subst e9
    rw [if_neg (takP_b (fauP_bad hT hs))] at e2
    cases e2
    exact ⟨_, rfl⟩
theorem alX_ex (hT : TK C V L t) {n : Nat} : ∀ (m : Nat) (k : Int) (s s' : PS) (l : List Cl), BS t s → clLp C V L n m k s = some s' → ∃ l', alX C V L n m k s l = some (s', l')
  | 0, k, s, s', l, _, e => by rw [clLp] at e; cases e
  | m + 1, k, s, s', l, h, e => by
    rw [clLp] at e
    rw [alX]
    by_cases q : takP C 159 s
    · rw [if_pos q] at e ⊢
      have ha : BS t (advP s) := BS_adv hT h (by rw [q.2]; decide)
      by_cases k12 : k = 12
      · rw [if_pos k12, if_neg (fauP_bad hT ha)] at e
        rw [if_pos k12]
        obtain ⟨s1, e1, e2⟩ := Option.bind_eq_some_iff.mp e
        cases e1
        have e3 : s' = fauP L (advP s) := by
          cases m with
          | zero => rw [clLp] at e2; cases e2
          | succ m =>
            rw [clLp, if_neg (takP_b (fauP_bad hT ha))] at e2
            cases e2
            rfl
        rw [e3]
        exact ⟨_, rfl⟩
      · rw [if_neg k12, if_pos (show (advP s).2.2 = -1 from q.1)] at e
        rw [if_neg k12]
        obtain ⟨s1, e1, e2⟩ := Option.bind_eq_some_iff.mp e
        obtain ⟨c, e3⟩ := clZ_ex hT ha q.1 e1
        rw [e3]
        exact alX_ex hT m (k + 1) s1 s' _ (BS_clR hT ha e1) e2
    · rw [if_neg q] at e ⊢
      cases e
      exact ⟨_, rfl⟩
theorem BS_00 (hT : TK C V L t) : BS t ((0, 0, -1) : PS) := by
  unfold TK at hT
  unfold BS
  show (0 ≤ (0 : Int) ∧ (0 : Int) ≤ t) ∧ (0 ≤ (0 : Int) ∧ (0 : Int) ≤ 51) ∧ (-1 ≤ (-1 : Int) ∧ (-1 : Int) ≤ 400) ∧ ((-1 : Int) = -1 → (0 : Int) ≤ 50)
  omega
theorem rmAll_ex (hT : TK C V L t) {n : Nat} {u : PS} (e : rdAll C V L n t = some u) : ∃ l, rmAll C V L n t = some (u, l) := by
  unfold rdAll at e
  obtain ⟨s2, e2, rfl⟩ := Option.map_eq_some_iff.mp e
  obtain ⟨s1, e1, e3⟩ := Option.bind_eq_some_iff.mp e2
  obtain ⟨c, e4⟩ := clZ_ex hT (BS_00 hT) rfl e1
  obtain ⟨l, e5⟩ := alX_ex hT 402 1 s1 s2 [c] (BS_clR hT (BS_00 hT) e1) e3
  unfold rmAll
  rw [e4]
  show ∃ l', Option.map _ (alX C V L n 402 1 s1 [c]) = _
  rw [e5]
  show ∃ l', some (if s2.2.2 = -1 ∧ s2.1 < t then (fauP L s2, l) else (s2, l)) = some (if s2.2.2 = -1 ∧ s2.1 < t then fauP L s2 else s2, l')
  split <;> exact ⟨l, rfl⟩
theorem clY_go (hT : TK C V L t) {n : Nat} {h : Int} {q : PS × Option Mean} {r : PS × Cl} (hq : BS t q.1) (e : clY C V L n h q = some r) : GoL t q.1 r.1 := by
  unfold clY at e
  split at e
  · rename_i f
    split at e
    · rename_i c6
      obtain ⟨r1, e1, rfl⟩ := Option.map_eq_some_iff.mp e
      have g := (rm_go hT n 5 0 _ _ (BS_adv hT hq (by omega)) f e1).adv
      exact ⟨g.1, by show q.1.1 ≤ r1.1.1; omega, fun z => ⟨f, by have := g.2.2 z; show q.1.2.1 ≤ r1.1.2.1; omega⟩⟩
    · cases e
      exact ⟨hq, Int.le_refl _, fun z => ⟨z, Int.le_refl _⟩⟩
  · cases e
    exact ⟨hq, Int.le_refl _, fun z => ⟨z, Int.le_refl _⟩⟩
/-- a clause goes on by a token at least -/
theorem clZ_go (hT : TK C V L t) {n : Nat} {s : PS} {r : PS × Cl} (hs : BS t s) (hf : s.2.2 = -1) (e : clZ C V L n s = some r) : BS t r.1 ∧ s.1 ≤ r.1.1 ∧ (r.1.2.2 = -1 → s.1 + 1 ≤ r.1.1) := by
  unfold clZ at e
  split at e
  · rename_i c
    have ha : BS t (advP s) := BS_adv hT hs (by omega)
    split at e
    · obtain ⟨r1, e1, e2⟩ := Option.bind_eq_some_iff.mp e
      have g := (rm_go hT n 2 0 _ _ ha hf e1).adv
      obtain ⟨b1, b2, b3⟩ := clY_go hT (q := (r1.1, some r1.2)) g.1 e2
      have b2 : r1.1.1 ≤ r.1.1 := b2
      exact ⟨b1, by omega, fun z => by omega⟩
    · obtain ⟨b1, b2, b3⟩ := clY_go hT (q := (advP s, none)) ha e
      have b2 : s.1 + 1 ≤ r.1.1 := b2
      exact ⟨b1, by omega, fun z => b2⟩
  · cases e
    exact ⟨BS_fau hT hs, by rw [fauP_1]; exact Int.le_refl _, fun z => absurd z (fauP_bad hT hs)⟩
theorem alX_go (hT : TK C V L t) {n : Nat} : ∀ (m : Nat) (k : Int) (s : PS) (l : List Cl) (r : PS × List Cl), BS t s → alX C V L n m k s l = some r → BS t r.1 ∧ s.1 ≤ r.1.1 ∧ (r.1.2.2 = -1 → s.2.2 = -1)
  | 0, k, s, l, r, _, e => by rw [alX] at e; cases e
  | m + 1, k, s, l, r, h, e => by
    rw [alX] at e
    split at e
    · rename_i q
      have ha : BS t (advP s) := BS_adv hT h (by rw [q.2]; decide)
      split at e
      · cases e
        exact ⟨BS_fau hT ha, by rw [fauP_1]; show s.1 ≤ s.1 + 1; omega, fun z => absurd z (fauP_bad hT ha)⟩
      · obtain ⟨r1, e1, e2⟩ := Option.bind_eq_some_iff.mp e
        have g := clZ_go hT ha q.1 e1
        have g2 : s.1 + 1 ≤ r1.1.1 := g.2.1
        obtain ⟨b1, b2, b3⟩ := alX_go hT m _ _ _ r g.1 e2
        exact ⟨b1, by omega, fun _ => q.1⟩
    · cases e
      exact ⟨h, Int.le_refl _, fun z => z⟩
theorem alX_b {n m : Nat} {k : Int} {s : PS} {l : List Cl} {r : PS × List Cl} (h : s.2.2 ≠ -1) (e : alX C V L n m k s l = some r) : r = (s, l) := by
  cases m with
  | zero => rw [alX] at e; cases e
  | succ m =>
    rw [alX, if_neg (takP_b h)] at e
    cases e
    rfl
theorem clZ_mn (hT : TK C V L t) {n : Nat} {s : PS} {r : PS × Cl} (hs : BS t s) (hf : s.2.2 = -1) (e : clZ C V L n s = some r) (hr : r.1.2.2 = -1) : clP C V s.1 = some (r.2, r.1.1) ∧ C s.1 ≠ 0 ∧ (1 ≤ r.2.1 ∧ r.2.1 ≤ 5) := by
  unfold clZ at e
  have k2 : ndM 2 0 ≤ (60 : Nat) := by unfold ndM; rw [if_neg (by decide), if_neg (by decide), if_pos rfl]; omega
  have k5 : ndM 5 0 ≤ (60 : Nat) := by unfold ndM; rw [if_neg (by decide), if_neg (by decide), if_neg (by decide), if_neg (by decide), if_neg (by decide), if_pos rfl]; omega
  have yy : ∀ (h : Int) (q : PS × Option Mean), BS t q.1 → clY C V L n h q = some r → (if C q.1.1 = 6 then (mn C V 60 5 (q.1.1 + 1)).map (fun r => (some r.1, r.2)) else some (none, q.1.1)) = some (r.2.2.2, r.1.1) ∧ r.2.1 = h ∧ r.2.2.1 = q.2 ∧ q.1.2.2 = -1 := by
    intro h q hq ey
    unfold clY at ey
    by_cases f : q.1.2.2 = -1
    · rw [if_pos f] at ey
      by_cases c6 : C q.1.1 = 6
      · rw [if_pos c6] at ey
        obtain ⟨r1, e1, rfl⟩ := Option.map_eq_some_iff.mp ey
        have e2 := rm_mn hT n 5 0 _ _ (BS_adv hT hq (by omega)) f (by decide) (by decide) (by decide) e1 hr 60 k5
        have e2 : mn C V 60 5 (q.1.1 + 1) = some (r1.2, r1.1.1) := e2
        rw [if_pos c6, e2]
        exact ⟨rfl, rfl, rfl, f⟩
      · rw [if_neg c6] at ey
        cases ey
        rw [if_neg c6]
        exact ⟨rfl, rfl, rfl, f⟩
    · rw [if_neg f] at ey
      cases ey
      exact absurd hr f
  by_cases c : 1 ≤ C s.1 ∧ C s.1 ≤ 5
  · rw [if_pos c] at e
    refine ⟨?_, by omega, ?_⟩
    · unfold clP
      by_cases c3 : C s.1 = 3 ∨ C s.1 = 4
      · rw [if_pos c3] at e
        rw [if_pos c3]
        obtain ⟨r1, e1, e2⟩ := Option.bind_eq_some_iff.mp e
        have ha : BS t (advP s) := BS_adv hT hs (by omega)
        obtain ⟨y1, y2, y3, y4⟩ := yy _ (r1.1, some r1.2) (rm_go hT n 2 0 _ _ ha hf e1).1 e2
        have e3 := rm_mn hT n 2 0 _ _ ha hf (by decide) (by decide) (by decide) e1 y4 60 k2
        have e3 : mn C V 60 2 (s.1 + 1) = some (r1.2, r1.1.1) := e3
        rw [e3]
        show Option.map _ (if C r1.1.1 = 6 then _ else some (none, r1.1.1)) = _
        rw [y1]
        show some ((C s.1, some r1.2, r.2.2.2), r.1.1) = some (r.2, r.1.1)
        have y3 : r.2.2.1 = some r1.2 := y3
        rw [← y2, ← y3]
      · rw [if_neg c3] at e
        rw [if_neg c3]
        obtain ⟨y1, y2, y3, y4⟩ := yy _ (advP s, none) (BS_adv hT hs (by omega)) e
        have y1 : (if C (s.1 + 1) = 6 then (mn C V 60 5 (s.1 + 1 + 1)).map (fun r => (some r.1, r.2)) else some (none, s.1 + 1)) = some (r.2.2.2, r.1.1) := y1
        show Option.map _ (if C (s.1 + 1) = 6 then _ else some (none, s.1 + 1)) = _
        rw [y1]
        show some ((C s.1, none, r.2.2.2), r.1.1) = some (r.2, r.1.1)
        have y3 : r.2.2.1 = none := y3
        rw [← y2, ← y3]
    · by_cases c3 : C s.1 = 3 ∨ C s.1 = 4
      · rw [if_pos c3] at e
        obtain ⟨r1, e1, e2⟩ := Option.bind_eq_some_iff.mp e
        have ha : BS t (advP s) := BS_adv hT hs (by omega)
        have := (yy _ (r1.1, some r1.2) (rm_go hT n 2 0 _ _ ha hf e1).1 e2).2.1
        omega
      · rw [if_neg c3] at e
        have := (yy _ (advP s, none) (BS_adv hT hs (by omega)) e).2.1
        omega
  · rw [if_neg c] at e
    cases e
    exact absurd hr (fauP_bad hT hs)
theorem alX_mn (hT : TK C V L t) {n : Nat} : ∀ (m : Nat) (k : Int) (s : PS) (l : List Cl) (r : PS × List Cl), BS t s → (k = (l.length : Int)) → k ≤ 12 → alX C V L n m k s l = some r → r.1.2.2 = -1 → r.1.1 = t → ∀ mm : Nat, t - s.1 < mm → ∃ l2, r.2 = l ++ l2 ∧ clsP C V t mm (s.1 + 1) = some l2 ∧ r.2.length ≤ 12
  | 0, k, s, l, r, _, _, _, e, _, _, _, _ => by rw [alX] at e; cases e
  | m + 1, k, s, l, r, h, hk, hk12, e, hr, ht, mm, hmm => by
    have h0 := h
    unfold BS at h0
    rw [alX] at e
    by_cases q : takP C 159 s
    · rw [if_pos q] at e
      have ha : BS t (advP s) := BS_adv hT h (by rw [q.2]; decide)
      by_cases k12 : k = 12
      · rw [if_pos k12] at e
        cases e
        exact absurd hr (fauP_bad hT ha)
      · rw [if_neg k12] at e
        obtain ⟨r1, e1, e2⟩ := Option.bind_eq_some_iff.mp e
        have g := clZ_go hT ha q.1 e1
        have f1 := (alX_go hT m _ _ _ r g.1 e2).2.2 hr
        obtain ⟨c1, c2, -⟩ := clZ_mn hT ha q.1 e1 f1
        have c1 : clP C V (s.1 + 1) = some (r1.2, r1.1.1) := c1
        have g2 : s.1 + 1 + 1 ≤ r1.1.1 := g.2.2 f1
        have g3 := g.1
        unfold BS at g3
        obtain ⟨l2, a1, a2, a3⟩ := alX_mn hT m (k + 1) r1.1 (l ++ [r1.2]) r g.1 (by rw [List.length_append, hk]; rfl) (by omega) e2 hr ht (mm - 1) (by omega)
        refine ⟨r1.2 :: l2, by rw [a1, List.append_assoc]; rfl, ?_, a3⟩
        obtain ⟨m2, rfl⟩ : ∃ m2, mm = m2 + 1 := ⟨mm - 1, by omega⟩
        rw [clsP, if_pos (by omega), c1]
        show Option.map _ (clsP C V t m2 (r1.1.1 + 1)) = _
        rw [show m2 + 1 - 1 = m2 by omega] at a2
        rw [a2]
        rfl
    · rw [if_neg q] at e
      cases e
      have ht : s.1 = t := ht
      refine ⟨[], (List.append_nil l).symm, ?_, by show l.length ≤ 12; omega⟩
      obtain ⟨m2, rfl⟩ : ∃ m2, mm = m2 + 1 := ⟨mm - 1, by omega⟩
      rw [clsP, if_neg (by omega)]
/-- a text that is fine has clauses -/
theorem rmAll_mn (hT : TK C V L t) {n : Nat} {r : PS × List Cl} (e : rmAll C V L n t = some r) (hr : r.1.2.2 = -1) : clsP C V t 402 0 = some r.2 ∧ r.2.length ≤ 12 ∧ r.1.1 = t := by
  unfold rmAll at e
  obtain ⟨r2, e2, rfl⟩ := Option.map_eq_some_iff.mp e
  obtain ⟨r1, e1, e3⟩ := Option.bind_eq_some_iff.mp e2
  have g := clZ_go hT (BS_00 hT) rfl e1
  obtain ⟨b1, b2, b3⟩ := alX_go hT 402 1 _ _ r2 g.1 e3
  by_cases q : r2.1.2.2 = -1 ∧ r2.1.1 < t
  · rw [if_pos q] at hr
    exact absurd hr (fauP_bad hT b1)
  · rw [if_neg q] at hr ⊢
    have bb := b1
    unfold BS at bb
    have ht : r2.1.1 = t := by omega
    have f1 := b3 hr
    obtain ⟨c1, c2, -⟩ := clZ_mn hT (BS_00 hT) rfl e1 f1
    have c1 : clP C V 0 = some (r1.2, r1.1.1) := c1
    have g2 : 0 + 1 ≤ r1.1.1 := g.2.2 f1
    have h0 := hT
    unfold TK at h0
    obtain ⟨l2, a1, a2, a3⟩ := alX_mn hT 402 1 r1.1 [r1.2] r2 g.1 rfl (by decide) e3 hr ht 401 (by omega)
    refine ⟨?_, a3, ht⟩
    rw [show (402 : Nat) = 401 + 1 from rfl, clsP, if_pos (by omega), c1]
    show Option.map _ (clsP C V t 401 (r1.1.1 + 1)) = _
    rw [a2, a1]
    rfl
end RMC
