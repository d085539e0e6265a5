/-! READING WITH MEANINGS: what is read, and where it ends -/
def fN : Mean := fun _ => none
def lpX (C : Int → Int) (c1 c2 : Int) (cb : Int → Mean → Mean → Mean) (b : PS → Option (PS × Mean)) : Nat → PS → Mean → Option (PS × Mean)
  | 0, _, _ => none
  | k + 1, s, f => if takP C c1 s ∨ takP C c2 s then (b (advP s)).bind (fun r => lpX C c1 c2 cb b k r.1 (cb (C s.1) f r.2)) else some (s, f)
def ntX (C : Int → Int) : Nat → Int → PS → Option (Int × PS)
  | 0, _, _ => none
  | k + 1, q, s => if takP C 9 s then ntX C k (if q = 0 then 1 else 0) (advP s) else some (q, s)
/-- what follows the first sum of a comparison -/
def cpX (C L : Int → Int) (b : PS → Option (PS × Mean)) (r : PS × Mean) : Option (PS × Mean) := if r.1.2.2 = -1 then (if C r.1.1 = 160 ∨ C r.1.1 = 162 ∨ C r.1.1 = 161 then (b (advP r.1)).map (fun r2 => (r2.1, cmpF (C r.1.1) r.2 r2.2)) else some (fauP L r.1, fN)) else some (r.1, fN)
def rm (C V L : Int → Int) : Nat → Nat → Int → PS → Option (PS × Mean)
  | 0, _, _, _ => none
  | n + 1, mode, deep, s => match mode with
    | 0 => if C s.1 = 191 then (if deep = 8 then some (fauP L s, fN) else (rm C V L n 2 (deep + 1) (advP s)).map (fun r => (musP C L 193 r.1, r.2)))
        else if (C s.1 = 50 ∧ V s.1 ≤ 100000) ∨ (17 ≤ C s.1 ∧ C s.1 ≤ 24) then some (leaP L s, partF (C s.1) (V s.1)) else some (fauP L s, fN)
    | 1 => (rm C V L n 0 deep s).bind (fun r => lpX C 142 147 joinF (rm C V L n 0 deep) 402 r.1 r.2)
    | 2 => (rm C V L n 1 deep s).bind (fun r => lpX C 143 145 joinF (rm C V L n 1 deep) 402 r.1 r.2)
    | 3 => (ntX C 402 0 s).bind (fun z => (if C z.2.1 = 140 then (if deep = 8 then some (fauP L z.2, fN) else (rm C V L n 5 (deep + 1) (advP z.2)).map (fun r => (musP C L 141 r.1, r.2)))
        else if 10 ≤ C z.2.1 ∧ C z.2.1 ≤ 16 then some (leaP L z.2, factF (C z.2.1))
        else (rm C V L n 2 deep z.2).bind (cpX C L (rm C V L n 2 deep))).map (fun r => (r.1, if z.1 = 0 then r.2 else notF r.2)))
    | 4 => (rm C V L n 3 deep s).bind (fun r => lpX C 8 8 (fun _ => andF) (rm C V L n 3 deep) 402 r.1 r.2)
    | _ => (rm C V L n 4 deep s).bind (fun r => lpX C 7 7 (fun _ => orF) (rm C V L n 4 deep) 402 r.1 r.2)
def bd (s : PS) : Nat := if s.2.2 = -1 then 0 else 1
section RMP
variable {C V L : Int → Int} {t : Int}
theorem bd_f {s : PS} (h : s.2.2 = -1) : bd s = 0 := if_pos h
theorem bd_b {s : PS} (h : s.2.2 ≠ -1) : bd s = 1 := if_neg h
theorem bd_le (s : PS) : bd s ≤ 1 := by
  unfold bd
  split <;> omega
theorem takP_b {c : Int} {s : PS} (h : s.2.2 ≠ -1) : ¬ takP C c s := fun q => h q.1
theorem fauP_b {s : PS} (h : s.2.2 ≠ -1) : fauP L s = s := if_neg h
theorem fauP_f {s : PS} (h : s.2.2 = -1) : fauP L s = (s.1, s.2.1, L s.1) := if_pos h
theorem musP_b {c : Int} {s : PS} (h : s.2.2 ≠ -1) : musP C L c s = s := by
  unfold musP
  rw [if_neg (takP_b h), fauP_b h]
theorem lpR_b {c1 c2 : Int} {b : PS → Option PS} {k : Nat} {s : PS} (h : s.2.2 ≠ -1) : lpR C c1 c2 b (k + 1) s = some s := by
  rw [lpR, if_neg (fun q => q.elim (takP_b h) (takP_b h))]
theorem lpX_b {c1 c2 : Int} {cb : Int → Mean → Mean → Mean} {b : PS → Option (PS × Mean)} {s : PS} {f : Mean} {r : PS × Mean} (h : s.2.2 ≠ -1) : ∀ k : Nat, lpX C c1 c2 cb b k s f = some r → r.1 = s
  | 0, e => by rw [lpX] at e; cases e
  | k + 1, e => by
    rw [lpX, if_neg (fun q => q.elim (takP_b h) (takP_b h))] at e
    cases e
    rfl
/-- the model's readers stand still once something is bad -/
theorem rd_bad {b : PS} (hb : b.2.2 ≠ -1) : ∀ (n mode : Nat) (deep : Int) (s s' : PS), rd C V L n mode deep s = some s' → rd C V L n mode deep b = some b
  | 0, _, _, _, _, e => by rw [rd] at e; cases e
  | n + 1, mode, deep, s, s', e => by
    have ih := rd_bad hb n
    match mode, e with
    | 0, e => simp only [rd]; rw [if_neg hb]
    | 1, e =>
      simp only [rd] at e ⊢
      obtain ⟨s1, e1, -⟩ := Option.bind_eq_some_iff.mp e
      rw [ih 0 deep _ _ e1]
      exact lpR_b hb
    | 2, e =>
      simp only [rd] at e ⊢
      obtain ⟨s1, e1, -⟩ := Option.bind_eq_some_iff.mp e
      rw [ih 1 deep _ _ e1]
      exact lpR_b hb
    | 3, e =>
      simp only [rd]
      rw [lpR_b hb]
      show (if b.2.2 = -1 then _ else some b) = some b
      rw [if_neg hb]
    | 4, e =>
      simp only [rd] at e ⊢
      obtain ⟨s1, e1, -⟩ := Option.bind_eq_some_iff.mp e
      rw [ih 3 deep _ _ e1]
      exact lpR_b hb
    | m + 5, e =>
      simp only [rd] at e ⊢
      obtain ⟨s1, e1, -⟩ := Option.bind_eq_some_iff.mp e
      rw [ih 4 deep _ _ e1]
      exact lpR_b hb
theorem rd_bad_e {n mode : Nat} {deep : Int} {b s' : PS} (hb : b.2.2 ≠ -1) (e : rd C V L n mode deep b = some s') : s' = b := by
  have := rd_bad hb n mode deep b s' e
  rw [e] at this
  exact Option.some.inj this
theorem lpX_ex {c1 c2 : Int} {cb : Int → Mean → Mean → Mean} {b : PS → Option PS} {bX : PS → Option (PS × Mean)} (hT : TK C V L t) (h1 : c1 ≠ 0) (h2 : c2 ≠ 0) (hB : ∀ s s', BS t s → b s = some s' → BS t s') (hb : ∀ s s', BS t s → s.2.2 = -1 → b s = some s' → ∃ f, bX s = some (s', f)) : ∀ (k : Nat) (s : PS) (f : Mean) (s' : PS), BS t s → lpR C c1 c2 b k s = some s' → ∃ f', lpX C c1 c2 cb bX k s f = some (s', f')
  | 0, s, f, s', _, e => by rw [lpR] at e; cases e
  | k + 1, s, f, s', h, e => by
    rw [lpR] at e
    rw [lpX]
    by_cases q : takP C c1 s ∨ takP C c2 s
    · rw [if_pos q] at e ⊢
      obtain ⟨s1, e1, e2⟩ := Option.bind_eq_some_iff.mp e
      have ha : BS t (advP s) := BS_adv hT h (by rcases q with q | q <;> rw [q.2] <;> assumption)
      obtain ⟨g, e3⟩ := hb _ _ ha (by rcases q with q | q <;> exact q.1) e1
      rw [e3]
      exact lpX_ex hT h1 h2 hB hb k s1 _ s' (hB _ _ ha e1) e2
    · rw [if_neg q] at e ⊢
      cases e
      exact ⟨f, rfl⟩
theorem ntX_ex : ∀ (k : Nat) (q : Int) (s s' : PS), lpR C 9 9 some k s = some s' → ∃ q', ntX C k q s = some (q', s')
  | 0, q, s, s', e => by rw [lpR] at e; cases e
  | k + 1, q, s, s', e => by
    rw [lpR] at e
    rw [ntX]
    by_cases c : takP C 9 s
    · rw [if_pos (Or.inl c)] at e
      rw [if_pos c]
      exact ntX_ex k _ _ _ e
    · rw [if_neg (fun z => z.elim c c)] at e
      cases e
      rw [if_neg c]
      exact ⟨q, rfl⟩
theorem ntX_f : ∀ (k : Nat) (q : Int) (s : PS) (z : Int × PS), s.2.2 = -1 → ntX C k q s = some z → z.2.2.2 = -1 ∧ s.1 ≤ z.2.1 ∧ z.2.2.1 = s.2.1 ∧ (q = 0 ∨ q = 1 → z.1 = 0 ∨ z.1 = 1)
  | 0, q, s, z, _, e => by rw [ntX] at e; cases e
  | k + 1, q, s, z, h, e => by
    rw [ntX] at e
    split at e
    · obtain ⟨a1, a2, a3, a4⟩ := ntX_f k _ (advP s) z h e
      have a2 : s.1 + 1 ≤ z.2.1 := a2
      have a3 : z.2.2.1 = s.2.1 := a3
      refine ⟨a1, by omega, a3, fun hq => a4 ?_⟩
      split <;> omega
    · cases e
      exact ⟨h, Int.le_refl _, rfl, fun hq => hq⟩
theorem opn_8 {deep : Int} {s : PS} (h : s.2.2 = -1) (hL : L s.1 ≠ -1) : (opnP L deep s).2.2 = -1 ↔ deep ≠ 8 := by
  unfold opnP
  by_cases q : deep = 8
  · rw [if_pos q, fauP_f h]
    exact ⟨fun z => absurd z hL, fun z => absurd q z⟩
  · rw [if_neg q]
    exact ⟨fun _ => q, fun _ => h⟩
theorem opn_n {deep : Int} {s : PS} (h : deep ≠ 8) : opnP L deep s = s := if_neg h
theorem opn_y {deep : Int} {s : PS} (h : deep = 8) : opnP L deep s = fauP L s := if_pos h
theorem TK.l (hT : TK C V L t) {s : PS} (h : BS t s) : L s.1 ≠ -1 := by
  unfold TK at hT
  unfold BS at h
  have := hT.2.2 s.1 (by omega) (by omega)
  omega
/-- what the model's reader reads, the meanings along -/
theorem rm_ex (hT : TK C V L t) : ∀ (n mode : Nat) (deep : Int) (s s' : PS), BS t s → s.2.2 = -1 → rd C V L n mode deep s = some s' → ∃ f, rm C V L n mode deep s = some (s', f)
  | 0, _, _, _, _, _, _, e => by rw [rd] at e; cases e
  | n + 1, mode, deep, s, s', h, hf, e => by
    have ih := rm_ex hT n
    have hB : ∀ m' d', ∀ s s' : PS, BS t s → rd C V L n m' d' s = some s' → BS t s' := fun m' d' s s' => BS_rd hT n m' d' s s'
    match mode, e with
    | 0, e =>
      simp only [rd] at e
      simp only [rm]
      rw [if_pos hf] at e
      by_cases c : C s.1 = 191
      · rw [if_pos c] at e ⊢
        by_cases d8 : deep = 8
        · rw [if_neg (fun z => (opn_8 hf (hT.l h)).mp z d8), opn_y d8] at e
          cases e
          rw [if_pos d8]
          exact ⟨_, rfl⟩
        · rw [if_pos ((opn_8 hf (hT.l h)).mpr d8), opn_n d8] at e
          rw [if_neg d8]
          obtain ⟨s1, e1, rfl⟩ := Option.map_eq_some_iff.mp e
          obtain ⟨f, e2⟩ := ih 2 _ (advP s) _ (BS_adv hT h (by omega)) hf e1
          rw [e2]
          exact ⟨f, rfl⟩
      · rw [if_neg c] at e ⊢
        by_cases c2 : (C s.1 = 50 ∧ V s.1 ≤ 100000) ∨ (17 ≤ C s.1 ∧ C s.1 ≤ 24)
        · rw [if_pos c2] at e ⊢
          cases e
          exact ⟨_, rfl⟩
        · rw [if_neg c2] at e ⊢
          cases e
          exact ⟨_, rfl⟩
    | 1, e =>
      simp only [rd] at e
      simp only [rm]
      obtain ⟨s1, e1, e2⟩ := Option.bind_eq_some_iff.mp e
      obtain ⟨f, e3⟩ := ih 0 deep s s1 h hf e1
      rw [e3]
      exact lpX_ex hT (by decide) (by decide) (hB 0 deep) (fun a b => ih 0 deep a b) _ _ _ _ (hB _ _ _ _ h e1) e2
    | 2, e =>
      simp only [rd] at e
      simp only [rm]
      obtain ⟨s1, e1, e2⟩ := Option.bind_eq_some_iff.mp e
      obtain ⟨f, e3⟩ := ih 1 deep s s1 h hf e1
      rw [e3]
      exact lpX_ex hT (by decide) (by decide) (hB 1 deep) (fun a b => ih 1 deep a b) _ _ _ _ (hB _ _ _ _ h e1) e2
    | 3, e =>
      simp only [rd] at e
      simp only [rm]
      obtain ⟨s1, e1, e2⟩ := Option.bind_eq_some_iff.mp e
      obtain ⟨q, e3⟩ := ntX_ex 402 0 s s1 e1
      have hf1 := (ntX_f 402 0 s _ hf e3).1
      have hf1 : s1.2.2 = -1 := hf1
      have h1 : BS t s1 := BS_lp (c1 := 9) (c2 := 9) hT (by omega) (by omega) (fun a b ha hb => by cases hb; exact ha) _ _ _ h e1
      rw [e3]
      rw [if_pos hf1] at e2
      show ∃ f, Option.map _ (if C s1.1 = 140 then _ else _) = _
      by_cases c : C s1.1 = 140
      · rw [if_pos c] at e2 ⊢
        by_cases d8 : deep = 8
        · rw [if_neg (fun z => (opn_8 hf1 (hT.l h1)).mp z d8), opn_y d8] at e2
          cases e2
          rw [if_pos d8]
          exact ⟨_, rfl⟩
        · rw [if_pos ((opn_8 hf1 (hT.l h1)).mpr d8), opn_n d8] at e2
          rw [if_neg d8]
          obtain ⟨s2, e4, rfl⟩ := Option.map_eq_some_iff.mp e2
          obtain ⟨f, e5⟩ := ih 5 _ (advP s1) _ (BS_adv hT h1 (by omega)) hf1 e4
          show ∃ f, Option.map _ (Option.map _ (rm C V L n 5 (deep + 1) (advP s1))) = _
          rw [e5]
          exact ⟨_, rfl⟩
      · rw [if_neg c] at e2 ⊢
        by_cases c2 : 10 ≤ C s1.1 ∧ C s1.1 ≤ 16
        · rw [if_pos c2] at e2 ⊢
          cases e2
          exact ⟨_, rfl⟩
        · rw [if_neg c2] at e2 ⊢
          obtain ⟨s2, e4, e5⟩ := Option.bind_eq_some_iff.mp e2
          obtain ⟨f, e6⟩ := ih 2 deep s1 s2 h1 hf1 e4
          have h2 := hB _ _ _ _ h1 e4
          show ∃ f, Option.map _ (Option.bind (rm C V L n 2 deep s1) _) = _
          rw [e6]
          show ∃ f', Option.map _ (cpX C L (rm C V L n 2 deep) (s2, f)) = some (s', f')
          unfold cpX
          by_cases hb : s2.2.2 = -1
          · rw [if_pos hb]
            by_cases c3 : C s2.1 = 160 ∨ C s2.1 = 162 ∨ C s2.1 = 161
            · rw [if_pos c3]
              have e7 : rd C V L n 2 deep (advP s2) = some s' := by
                rw [← e5]
                congr 1
                split
                · rfl
                · rename_i q2
                  unfold musP
                  rw [if_pos ⟨hb, by
                    rcases c3 with z | z | z
                    · exact absurd (Or.inl ⟨hb, z⟩) q2
                    · exact absurd (Or.inr ⟨hb, z⟩) q2
                    · exact z⟩]
              obtain ⟨g, e8⟩ := ih 2 deep (advP s2) s' (BS_adv hT h2 (by omega)) hb e7
              rw [e8]
              exact ⟨_, rfl⟩
            · rw [if_neg c3]
              have e7 : (if takP C 160 s2 ∨ takP C 162 s2 then advP s2 else musP C L 161 s2) = fauP L s2 := by
                rw [if_neg (fun z => c3 (by rcases z with z | z; exact Or.inl z.2; exact Or.inr (Or.inl z.2)))]
                unfold musP
                rw [if_neg (fun z => c3 (Or.inr (Or.inr z.2)))]
              rw [e7] at e5
              have := rd_bad_e (fauP_bad hT h2) e5
              subst this
              exact ⟨_, rfl⟩
          · rw [if_neg hb]
            have e7 : (if takP C 160 s2 ∨ takP C 162 s2 then advP s2 else musP C L 161 s2) = s2 := by
              rw [if_neg (fun z => z.elim (takP_b hb) (takP_b hb)), musP_b hb]
            rw [e7] at e5
            have := rd_bad_e hb e5
            subst this
            exact ⟨_, rfl⟩
    | 4, e =>
      simp only [rd] at e
      simp only [rm]
      obtain ⟨s1, e1, e2⟩ := Option.bind_eq_some_iff.mp e
      obtain ⟨f, e3⟩ := ih 3 deep s s1 h hf e1
      rw [e3]
      exact lpX_ex hT (by decide) (by decide) (hB 3 deep) (fun a b => ih 3 deep a b) _ _ _ _ (hB _ _ _ _ h e1) e2
    | m + 5, e =>
      simp only [rd] at e
      simp only [rm]
      obtain ⟨s1, e1, e2⟩ := Option.bind_eq_some_iff.mp e
      obtain ⟨f, e3⟩ := ih 4 deep s s1 h hf e1
      rw [e3]
      exact lpX_ex hT (by decide) (by decide) (hB 4 deep) (fun a b => ih 4 deep a b) _ _ _ _ (hB _ _ _ _ h e1) e2
/-- where reading goes -/
def GoB (t : Int) (s s' : PS) : Prop := BS t s' ∧ s.1 ≤ s'.1 ∧ (s'.2.2 = -1 → s.2.2 = -1 ∧ s.1 + 1 ≤ s'.1 ∧ s.2.1 + 1 ≤ s'.2.1)
def GoL (t : Int) (s s' : PS) : Prop := BS t s' ∧ s.1 ≤ s'.1 ∧ (s'.2.2 = -1 → s.2.2 = -1 ∧ s.2.1 ≤ s'.2.1)
theorem GoB.adv {s s' : PS} (h : GoB t (advP s) s') : BS t s' ∧ s.1 + 1 ≤ s'.1 ∧ (s'.2.2 = -1 → s.1 + 2 ≤ s'.1 ∧ s.2.1 + 1 ≤ s'.2.1) := by
  obtain ⟨a1, a2, a3⟩ := h
  have a2 : s.1 + 1 ≤ s'.1 := a2
  refine ⟨a1, a2, fun z => ?_⟩
  obtain ⟨b1, b2, b3⟩ := a3 z
  have b2 : s.1 + 1 + 1 ≤ s'.1 := b2
  have b3 : s.2.1 + 1 ≤ s'.2.1 := b3
  exact ⟨by omega, b3⟩
theorem lpX_go {c1 c2 : Int} {cb : Int → Mean → Mean → Mean} {b : PS → Option (PS × Mean)} (hT : TK C V L t) (h1 : c1 ≠ 0) (h2 : c2 ≠ 0) (hb : ∀ s r, BS t s → s.2.2 = -1 → b s = some r → GoB t s r.1) : ∀ (k : Nat) (s : PS) (f : Mean) (r : PS × Mean), BS t s → lpX C c1 c2 cb b k s f = some r → GoL t s r.1
  | 0, s, f, r, _, e => by rw [lpX] at e; cases e
  | k + 1, s, f, r, h, e => by
    rw [lpX] at e
    split at e
    · rename_i q
      obtain ⟨r1, e1, e2⟩ := Option.bind_eq_some_iff.mp e
      have hs : s.2.2 = -1 := by rcases q with q | q <;> exact q.1
      have g1 := (hb _ _ (BS_adv hT h (by rcases q with q | q <;> rw [q.2] <;> assumption)) hs e1).adv
      obtain ⟨b1, b2, b3⟩ := lpX_go hT h1 h2 hb k r1.1 _ r g1.1 e2
      refine ⟨b1, by omega, fun z => ⟨hs, ?_⟩⟩
      have := b3 z
      have := g1.2.2 this.1
      omega
    · cases e
      exact ⟨h, Int.le_refl _, fun z => ⟨z, Int.le_refl _⟩⟩
theorem GoB.l {s s1 s2 : PS} (h : GoB t s s1) (h2 : GoL t s1 s2) : GoB t s s2 := by
  obtain ⟨a1, a2, a3⟩ := h
  obtain ⟨b1, b2, b3⟩ := h2
  refine ⟨b1, by omega, fun z => ?_⟩
  obtain ⟨c1, c2⟩ := b3 z
  obtain ⟨d1, d2, d3⟩ := a3 c1
  exact ⟨d1, by omega, by omega⟩
theorem GoB_fau {s : PS} (hT : TK C V L t) (h : BS t s) : GoB t s (fauP L s) := ⟨BS_fau hT h, by rw [fauP_1]; exact Int.le_refl _, fun z => absurd z (fauP_bad hT h)⟩
theorem lea_50 {s : PS} (hf : s.2.2 = -1) (h : s.2.1 = 50) (hL : L s.1 ≠ -1) : leaP L s = (s.1, 51, L s.1) := by
  have e : leaQ L s = (s.1, 51, L s.1) := by
    unfold leaQ
    rw [if_pos h, fauP_f hf]
    show (s.1, s.2.1 + 1, L s.1) = _
    rw [h]
    rfl
  unfold leaP
  rw [e]
  exact if_neg hL
theorem lea_n {s : PS} (hf : s.2.2 = -1) (h : s.2.1 ≠ 50) : leaP L s = (s.1 + 1, s.2.1 + 1, -1) := by
  have e : leaQ L s = (s.1, s.2.1 + 1, -1) := by
    unfold leaQ
    rw [if_neg h]
    show (s.1, s.2.1 + 1, s.2.2) = _
    rw [hf]
  unfold leaP
  rw [e]
  exact if_pos rfl
theorem GoB_lea {s : PS} (hT : TK C V L t) (h : BS t s) (hf : s.2.2 = -1) (hc : C s.1 ≠ 0) : GoB t s (leaP L s) := by
  refine ⟨BS_lea hT h hf hc, leaP_1, fun z => ?_⟩
  by_cases q : s.2.1 = 50
  · rw [lea_50 hf q (hT.l h)] at z
    exact absurd z (hT.l h)
  · rw [lea_n hf q]
    exact ⟨hf, Int.le_refl _, Int.le_refl _⟩
theorem mus_y {c : Int} {s : PS} (hf : s.2.2 = -1) (hc : C s.1 = c) : musP C L c s = advP s := if_pos ⟨hf, hc⟩
theorem mus_n {c : Int} {s : PS} (hf : s.2.2 = -1) (hc : C s.1 ≠ c) : musP C L c s = (s.1, s.2.1, L s.1) := (if_neg (fun z => hc z.2)).trans (fauP_f hf)
theorem GoB_mus {c : Int} {s s1 : PS} (hT : TK C V L t) (hc : c ≠ 0) (h : GoB t s s1) : GoB t s (musP C L c s1) := by
  obtain ⟨a1, a2, a3⟩ := h
  have m1 := musP_1 (C := C) (L := L) (c := c) (s := s1)
  refine ⟨BS_mus hT a1 hc, by omega, fun z => ?_⟩
  by_cases f : s1.2.2 = -1
  · obtain ⟨b1, b2, b3⟩ := a3 f
    by_cases q : C s1.1 = c
    · rw [mus_y f q]
      exact ⟨b1, by show s.1 + 1 ≤ s1.1 + 1; omega, b3⟩
    · rw [mus_n f q] at z
      exact absurd z (hT.l a1)
  · rw [musP_b f] at z
    exact absurd z f
theorem GoB_up {s s' : PS} (h : BS t s' ∧ s.1 + 1 ≤ s'.1 ∧ (s'.2.2 = -1 → s.1 + 2 ≤ s'.1 ∧ s.2.1 + 1 ≤ s'.2.1)) (hf : s.2.2 = -1) : GoB t s s' := ⟨h.1, by omega, fun z => ⟨hf, by have := h.2.2 z; omega, (h.2.2 z).2⟩⟩
theorem rm_go (hT : TK C V L t) : ∀ (n mode : Nat) (deep : Int) (s : PS) (r : PS × Mean), BS t s → s.2.2 = -1 → rm C V L n mode deep s = some r → GoB t s r.1
  | 0, _, _, _, _, _, _, e => by rw [rm] at e; cases e
  | n + 1, mode, deep, s, r, h, hf, e => by
    have ih := rm_go hT n
    match mode, e with
    | 0, e =>
      simp only [rm] at e
      split at e
      · rename_i c
        split at e
        · cases e; exact GoB_fau hT h
        · obtain ⟨r1, e1, rfl⟩ := Option.map_eq_some_iff.mp e
          exact GoB_mus hT (by decide) (GoB_up (ih 2 _ _ _ (BS_adv hT h (by omega)) hf e1).adv hf)
      · split at e
        · rename_i c
          cases e
          exact GoB_lea hT h hf (by omega)
        · cases e; exact GoB_fau hT h
    | 1, e =>
      simp only [rm] at e
      obtain ⟨r1, e1, e2⟩ := Option.bind_eq_some_iff.mp e
      have g1 := ih 0 deep _ _ h hf e1
      exact g1.l (lpX_go hT (by decide) (by decide) (fun a b => ih 0 deep a b) _ _ _ _ g1.1 e2)
    | 2, e =>
      simp only [rm] at e
      obtain ⟨r1, e1, e2⟩ := Option.bind_eq_some_iff.mp e
      have g1 := ih 1 deep _ _ h hf e1
      exact g1.l (lpX_go hT (by decide) (by decide) (fun a b => ih 1 deep a b) _ _ _ _ g1.1 e2)
    | 3, e =>
      simp only [rm] at e
      obtain ⟨z, e1, e2⟩ := Option.bind_eq_some_iff.mp e
      obtain ⟨a1, a2, a3, -⟩ := ntX_f 402 0 s z hf e1
      have hz : BS t z.2 := by
        have hk : ∀ (k : Nat) (q : Int) (s : PS) (z : Int × PS), BS t s → ntX C k q s = some z → BS t z.2 := by
          intro k
          induction k with
          | zero => intro q s z _ e; rw [ntX] at e; cases e
          | succ k ihk =>
            intro q s z h e
            rw [ntX] at e
            split at e
            · rename_i c
              exact ihk _ _ _ (BS_adv hT h (by rw [c.2]; decide)) e
            · cases e; exact h
        exact hk 402 0 s z h e1
      have key : ∀ r1, (if C z.2.1 = 140 then (if deep = 8 then some (fauP L z.2, fN) else (rm C V L n 5 (deep + 1) (advP z.2)).map (fun r => (musP C L 141 r.1, r.2)))
        else if 10 ≤ C z.2.1 ∧ C z.2.1 ≤ 16 then some (leaP L z.2, factF (C z.2.1))
        else (rm C V L n 2 deep z.2).bind (cpX C L (rm C V L n 2 deep))) = some r1 → GoB t z.2 r1.1 := by
        intro r1 e3
        split at e3
        · rename_i c
          split at e3
          · cases e3; exact GoB_fau hT hz
          · obtain ⟨r2, e4, rfl⟩ := Option.map_eq_some_iff.mp e3
            exact GoB_mus hT (by decide) (GoB_up (ih 5 _ _ _ (BS_adv hT hz (by omega)) a1 e4).adv a1)
        · split at e3
          · rename_i c
            cases e3
            exact GoB_lea hT hz a1 (by omega)
          · obtain ⟨r2, e4, e5⟩ := Option.bind_eq_some_iff.mp e3
            have g1 := ih 2 deep _ _ hz a1 e4
            unfold cpX at e5
            split at e5
            · rename_i f2
              split at e5
              · rename_i c
                obtain ⟨r3, e6, rfl⟩ := Option.map_eq_some_iff.mp e5
                have g2 := (ih 2 deep _ _ (BS_adv hT g1.1 (by omega)) f2 e6).adv
                exact g1.l ⟨g2.1, by show r2.1.1 ≤ r3.1.1; omega, fun q => ⟨f2, by have := g2.2.2 q; show r2.1.2.1 ≤ r3.1.2.1; omega⟩⟩
              · cases e5
                exact g1.l ⟨BS_fau hT g1.1, by rw [fauP_1]; exact Int.le_refl _, fun q => absurd q (fauP_bad hT g1.1)⟩
            · rename_i f2
              cases e5
              exact g1
      obtain ⟨r1, e3, rfl⟩ := Option.map_eq_some_iff.mp e2
      obtain ⟨b1, b2, b3⟩ := key r1 e3
      refine ⟨b1, by show s.1 ≤ r1.1.1; omega, fun q => ?_⟩
      obtain ⟨c1, c2, c3⟩ := b3 q
      exact ⟨hf, by show s.1 + 1 ≤ r1.1.1; omega, by show s.2.1 + 1 ≤ r1.1.2.1; omega⟩
    | 4, e =>
      simp only [rm] at e
      obtain ⟨r1, e1, e2⟩ := Option.bind_eq_some_iff.mp e
      have g1 := ih 3 deep _ _ h hf e1
      exact g1.l (lpX_go hT (by decide) (by decide) (fun a b => ih 3 deep a b) _ _ _ _ g1.1 e2)
    | m + 5, e =>
      simp only [rm] at e
      obtain ⟨r1, e1, e2⟩ := Option.bind_eq_some_iff.mp e
      have g1 := ih 4 deep _ _ h hf e1
      exact g1.l (lpX_go hT (by decide) (by decide) (fun a b => ih 4 deep a b) _ _ _ _ g1.1 e2)
/-- how much fuel a meaning wants -/
def ndM (mode : Nat) (deep : Int) : Int := 4 * (8 - deep) + (if mode = 0 then 1 else if mode = 1 then 2 else if mode = 2 then 3 else if mode = 3 then 5 else if mode = 4 then 6 else if mode = 5 then 7 else 4)
theorem lpX_mn {c1 c2 : Int} {cb : Int → Mean → Mean → Mean} {b : PS → Option (PS × Mean)} {bM : Int → Option (Mean × Int)} (hT : TK C V L t) (h1 : c1 ≠ 0) (h2 : c2 ≠ 0) (hg : ∀ s r, BS t s → s.2.2 = -1 → b s = some r → GoB t s r.1) (hb : ∀ s r, BS t s → s.2.2 = -1 → b s = some r → r.1.2.2 = -1 → bM s.1 = some (r.2, r.1.1)) : ∀ (k : Nat) (s : PS) (f : Mean) (r : PS × Mean), BS t s → s.2.2 = -1 → lpX C c1 c2 cb b k s f = some r → r.1.2.2 = -1 → lpM C c1 c2 cb bM k f s.1 = some (r.2, r.1.1)
  | 0, s, f, r, _, _, e, _ => by rw [lpX] at e; cases e
  | k + 1, s, f, r, h, hf, e, hr => by
    rw [lpX] at e
    rw [lpM]
    by_cases q : takP C c1 s ∨ takP C c2 s
    · rw [if_pos q] at e
      rw [if_pos (by rcases q with q | q; exact Or.inl q.2; exact Or.inr q.2)]
      obtain ⟨r1, e1, e2⟩ := Option.bind_eq_some_iff.mp e
      have ha : BS t (advP s) := BS_adv hT h (by rcases q with q | q <;> rw [q.2] <;> assumption)
      have g1 := hg _ _ ha hf e1
      have g2 := lpX_go hT h1 h2 hg k _ _ _ g1.1 e2
      have f1 := (g2.2.2 hr).1
      have e3 := hb _ _ ha hf e1 f1
      have e3 : bM (s.1 + 1) = some (r1.2, r1.1.1) := e3
      rw [e3]
      exact lpX_mn hT h1 h2 hg hb k _ _ _ g1.1 f1 e2 hr
    · rw [if_neg q] at e
      rw [if_neg (fun z => q (by rcases z with z | z; exact Or.inl ⟨hf, z⟩; exact Or.inr ⟨hf, z⟩))]
      cases e
      rfl
theorem ntX_mn : ∀ (k : Nat) (q : Int) (qb : Bool) (s : PS) (z : Int × PS), (q = if qb then 1 else 0) → s.2.2 = -1 → ntX C k q s = some z → ∃ zb : Bool, ntM C k qb s.1 = some (zb, z.2.1) ∧ z.1 = if zb then 1 else 0
  | 0, q, qb, s, z, _, _, e => by rw [ntX] at e; cases e
  | k + 1, q, qb, s, z, hq, hf, e => by
    rw [ntX] at e
    rw [ntM]
    by_cases c : C s.1 = 9
    · rw [if_pos ⟨hf, c⟩] at e
      rw [if_pos c]
      exact ntX_mn k _ (!qb) (advP s) z (by subst hq; cases qb <;> rfl) hf e
    · rw [if_neg (fun w => c w.2)] at e
      rw [if_neg c]
      cases e
      exact ⟨qb, rfl, hq⟩
/-- what is read means what its tokens mean -/
theorem rm_mn (hT : TK C V L t) : ∀ (n mode : Nat) (deep : Int) (s : PS) (r : PS × Mean), BS t s → s.2.2 = -1 → 0 ≤ deep → deep ≤ 8 → mode ≤ 5 → rm C V L n mode deep s = some r → r.1.2.2 = -1 → ∀ m : Nat, ndM mode deep ≤ m → mn C V m mode s.1 = some (r.2, r.1.1)
  | 0, _, _, _, _, _, _, _, _, _, e, _, _, _ => by rw [rm] at e; cases e
  | n + 1, mode, deep, s, r, h, hf, d0, d8, hm, e, hr, m, hn => by
    have ih := rm_mn hT n
    have hG := rm_go hT n
    match mode, hm, e, hn with
    | 0, _, e, hn =>
      unfold ndM at hn
      rw [if_pos rfl] at hn
      obtain ⟨m, rfl⟩ : ∃ m', m = m' + 1 := ⟨m - 1, by omega⟩
      simp only [rm] at e
      simp only [mn]
      by_cases c : C s.1 = 191
      · rw [if_pos c] at e ⊢
        by_cases q8 : deep = 8
        · rw [if_pos q8] at e
          cases e
          exact absurd hr (fauP_bad hT h)
        · rw [if_neg q8] at e
          obtain ⟨r1, e1, rfl⟩ := Option.map_eq_some_iff.mp e
          have ha : BS t (advP s) := BS_adv hT h (by omega)
          have g1 := hG 2 _ _ _ ha hf e1
          by_cases f1 : r1.1.2.2 = -1
          · have e2 := ih 2 _ _ _ ha hf (by omega) (by omega) (by decide) e1 f1 m (by unfold ndM; rw [if_neg (by decide), if_neg (by decide), if_pos rfl]; omega)
            have e2 : mn C V m 2 (s.1 + 1) = some (r1.2, r1.1.1) := e2
            rw [e2]
            by_cases c2 : C r1.1.1 = 193
            · show (if C r1.1.1 = 193 then _ else none) = some (r1.2, (musP C L 193 r1.1).1)
              rw [if_pos c2, mus_y f1 c2]
              rfl
            · have hr : (musP C L 193 r1.1).2.2 = -1 := hr
              rw [mus_n f1 c2] at hr
              exact absurd hr (hT.l g1.1)
          · have hr : (musP C L 193 r1.1).2.2 = -1 := hr
            rw [musP_b f1] at hr
            exact absurd hr f1
      · rw [if_neg c] at e ⊢
        by_cases c2 : (C s.1 = 50 ∧ V s.1 ≤ 100000) ∨ (17 ≤ C s.1 ∧ C s.1 ≤ 24)
        · rw [if_pos c2] at e
          rw [if_pos (by omega)]
          cases e
          by_cases q : s.2.1 = 50
          · have hr : (leaP L s).2.2 = -1 := hr
            rw [lea_50 hf q (hT.l h)] at hr
            exact absurd hr (hT.l h)
          · show some (partF (C s.1) (V s.1), s.1 + 1) = some (partF (C s.1) (V s.1), (leaP L s).1)
            rw [lea_n hf q]
        · rw [if_neg c2] at e
          cases e
          exact absurd hr (fauP_bad hT h)
    | 1, _, e, hn =>
      unfold ndM at hn
      rw [if_neg (by decide), if_pos rfl] at hn
      obtain ⟨m, rfl⟩ : ∃ m', m = m' + 1 := ⟨m - 1, by omega⟩
      have hk : ndM 0 deep ≤ m := by unfold ndM; rw [if_pos rfl]; omega
      simp only [rm] at e
      simp only [mn]
      obtain ⟨r1, e1, e2⟩ := Option.bind_eq_some_iff.mp e
      have g1 := hG 0 _ _ _ h hf e1
      have f1 := ((lpX_go hT (by decide) (by decide) (fun a b => hG 0 deep a b) _ _ _ _ g1.1 e2).2.2 hr).1
      rw [ih 0 deep _ _ h hf d0 d8 (by decide) e1 f1 m hk]
      exact lpX_mn hT (by decide) (by decide) (fun a b => hG 0 deep a b) (fun a b ha hfa ea hb => ih 0 deep a b ha hfa d0 d8 (by decide) ea hb m hk) _ _ _ _ g1.1 f1 e2 hr
    | 2, _, e, hn =>
      unfold ndM at hn
      rw [if_neg (by decide), if_neg (by decide), if_pos rfl] at hn
      obtain ⟨m, rfl⟩ : ∃ m', m = m' + 1 := ⟨m - 1, by omega⟩
      have hk : ndM 1 deep ≤ m := by unfold ndM; rw [if_neg (by decide), if_pos rfl]; omega
      simp only [rm] at e
      simp only [mn]
      obtain ⟨r1, e1, e2⟩ := Option.bind_eq_some_iff.mp e
      have g1 := hG 1 _ _ _ h hf e1
      have f1 := ((lpX_go hT (by decide) (by decide) (fun a b => hG 1 deep a b) _ _ _ _ g1.1 e2).2.2 hr).1
      rw [ih 1 deep _ _ h hf d0 d8 (by decide) e1 f1 m hk]
      exact lpX_mn hT (by decide) (by decide) (fun a b => hG 1 deep a b) (fun a b ha hfa ea hb => ih 1 deep a b ha hfa d0 d8 (by decide) ea hb m hk) _ _ _ _ g1.1 f1 e2 hr
    | 3, _, e, hn =>
      unfold ndM at hn
      rw [if_neg (by decide), if_neg (by decide), if_neg (by decide), if_pos rfl] at hn
      obtain ⟨m, rfl⟩ : ∃ m', m = m' + 2 := ⟨m - 2, by omega⟩
      simp only [rm] at e
      obtain ⟨z, e1, e2⟩ := Option.bind_eq_some_iff.mp e
      obtain ⟨a1, a2, a3, -⟩ := ntX_f 402 0 s z hf e1
      obtain ⟨zb, e3, e4⟩ := ntX_mn 402 0 false s z rfl hf e1
      have hz : BS t z.2 := by
        have hk : ∀ (k : Nat) (q : Int) (s : PS) (z : Int × PS), BS t s → ntX C k q s = some z → BS t z.2 := by
          intro k
          induction k with
          | zero => intro q s z _ e; rw [ntX] at e; cases e
          | succ k ihk =>
            intro q s z h e
            rw [ntX] at e
            split at e
            · rename_i c
              exact ihk _ _ _ (BS_adv hT h (by rw [c.2]; decide)) e
            · cases e; exact h
        exact hk 402 0 s z h e1
      obtain ⟨r1, e5, rfl⟩ := Option.map_eq_some_iff.mp e2
      have hr : r1.1.2.2 = -1 := hr
      have key : mn C V (m + 1) 6 z.2.1 = some (r1.2, r1.1.1) := by
        simp only [mn]
        by_cases c : C z.2.1 = 140
        · rw [if_pos c] at e5 ⊢
          by_cases q8 : deep = 8
          · rw [if_pos q8] at e5
            cases e5
            exact absurd hr (fauP_bad hT hz)
          · rw [if_neg q8] at e5
            obtain ⟨r2, e6, rfl⟩ := Option.map_eq_some_iff.mp e5
            have ha : BS t (advP z.2) := BS_adv hT hz (by omega)
            have g1 := hG 5 _ _ _ ha a1 e6
            by_cases f1 : r2.1.2.2 = -1
            · have e7 := ih 5 _ _ _ ha a1 (by omega) (by omega) (by decide) e6 f1 m (by unfold ndM; rw [if_neg (by decide), if_neg (by decide), if_neg (by decide), if_neg (by decide), if_neg (by decide), if_pos rfl]; omega)
              have e7 : mn C V m 5 (z.2.1 + 1) = some (r2.2, r2.1.1) := e7
              rw [e7]
              by_cases c2 : C r2.1.1 = 141
              · show (if C r2.1.1 = 141 then _ else none) = some (r2.2, (musP C L 141 r2.1).1)
                rw [if_pos c2, mus_y f1 c2]
                rfl
              · have hr : (musP C L 141 r2.1).2.2 = -1 := hr
                rw [mus_n f1 c2] at hr
                exact absurd hr (hT.l g1.1)
            · have hr : (musP C L 141 r2.1).2.2 = -1 := hr
              rw [musP_b f1] at hr
              exact absurd hr f1
        · rw [if_neg c] at e5 ⊢
          by_cases c2 : 10 ≤ C z.2.1 ∧ C z.2.1 ≤ 16
          · rw [if_pos c2] at e5 ⊢
            cases e5
            by_cases q : z.2.2.1 = 50
            · have hr : (leaP L z.2).2.2 = -1 := hr
              rw [lea_50 a1 q (hT.l hz)] at hr
              exact absurd hr (hT.l hz)
            · show some (factF (C z.2.1), z.2.1 + 1) = some (factF (C z.2.1), (leaP L z.2).1)
              rw [lea_n a1 q]
          · rw [if_neg c2] at e5 ⊢
            obtain ⟨r2, e6, e7⟩ := Option.bind_eq_some_iff.mp e5
            have g1 := hG 2 _ _ _ hz a1 e6
            have hk : ndM 2 deep ≤ m := by unfold ndM; rw [if_neg (by decide), if_neg (by decide), if_pos rfl]; omega
            unfold cpX at e7
            by_cases f1 : r2.1.2.2 = -1
            · rw [if_pos f1] at e7
              have e8 := ih 2 _ _ _ hz a1 d0 d8 (by decide) e6 f1 m hk
              rw [e8]
              by_cases c3 : C r2.1.1 = 160 ∨ C r2.1.1 = 162 ∨ C r2.1.1 = 161
              · rw [if_pos c3] at e7
                obtain ⟨r3, e9, rfl⟩ := Option.map_eq_some_iff.mp e7
                have e10 := ih 2 _ _ _ (BS_adv hT g1.1 (by omega)) f1 d0 d8 (by decide) e9 hr m hk
                have e10 : mn C V m 2 (r2.1.1 + 1) = some (r3.2, r3.1.1) := e10
                show (if C r2.1.1 = 160 ∨ C r2.1.1 = 161 ∨ C r2.1.1 = 162 then (mn C V m 2 (r2.1.1 + 1)).map _ else none) = _
                rw [if_pos (by omega), e10]
                rfl
              · rw [if_neg c3] at e7
                cases e7
                exact absurd hr (fauP_bad hT g1.1)
            · rw [if_neg f1] at e7
              cases e7
              exact absurd hr f1
      show mn C V (m + 1 + 1) 3 s.1 = _
      rw [show mn C V (m + 1 + 1) 3 s.1 = (ntM C 402 false s.1).bind (fun q => (mn C V (m + 1) 6 q.2).map (fun r => (if q.1 then notF r.1 else r.1, r.2))) by simp only [mn], e3]
      show (mn C V (m + 1) 6 z.2.1).map _ = _
      rw [key]
      show some (if zb = true then notF r1.2 else r1.2, r1.1.1) = some (if z.1 = 0 then r1.2 else notF r1.2, r1.1.1)
      rw [e4]
      cases zb <;> rfl
    | 4, _, e, hn =>
      unfold ndM at hn
      rw [if_neg (by decide), if_neg (by decide), if_neg (by decide), if_neg (by decide), if_pos rfl] at hn
      obtain ⟨m, rfl⟩ : ∃ m', m = m' + 1 := ⟨m - 1, by omega⟩
      have hk : ndM 3 deep ≤ m := by unfold ndM; rw [if_neg (by decide), if_neg (by decide), if_neg (by decide), if_pos rfl]; omega
      simp only [rm] at e
      simp only [mn]
      obtain ⟨r1, e1, e2⟩ := Option.bind_eq_some_iff.mp e
      have g1 := hG 3 _ _ _ h hf e1
      have f1 := ((lpX_go hT (by decide) (by decide) (fun a b => hG 3 deep a b) _ _ _ _ g1.1 e2).2.2 hr).1
      rw [ih 3 deep _ _ h hf d0 d8 (by decide) e1 f1 m hk]
      exact lpX_mn hT (by decide) (by decide) (fun a b => hG 3 deep a b) (fun a b ha hfa ea hb => ih 3 deep a b ha hfa d0 d8 (by decide) ea hb m hk) _ _ _ _ g1.1 f1 e2 hr
    | 5, _, e, hn =>
      unfold ndM at hn
      rw [if_neg (by decide), if_neg (by decide), if_neg (by decide), if_neg (by decide), if_neg (by decide), if_pos rfl] at hn
      obtain ⟨m, rfl⟩ : ∃ m', m = m' + 1 := ⟨m - 1, by omega⟩
      have hk : ndM 4 deep ≤ m := by unfold ndM; rw [if_neg (by decide), if_neg (by decide), if_neg (by decide), if_neg (by decide), if_pos rfl]; omega
      simp only [rm] at e
      simp only [mn]
      obtain ⟨r1, e1, e2⟩ := Option.bind_eq_some_iff.mp e
      have g1 := hG 4 _ _ _ h hf e1
      have f1 := ((lpX_go hT (by decide) (by decide) (fun a b => hG 4 deep a b) _ _ _ _ g1.1 e2).2.2 hr).1
      rw [ih 4 deep _ _ h hf d0 d8 (by decide) e1 f1 m hk]
      exact lpX_mn hT (by decide) (by decide) (fun a b => hG 4 deep a b) (fun a b ha hfa ea hb => ih 4 deep a b ha hfa d0 d8 (by decide) ea hb m hk) _ _ _ _ g1.1 f1 e2 hr
    | m' + 6, hm, _, _ => omega
end RMP
