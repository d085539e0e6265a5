/-! WHAT IS ASKED OF TEXTS: odds, fairness, prices, as functions of the clauses and of a case -/
def nearI (v m : Int) : Int := if v < 0 then 0 else if m < v then m else v
def hdN (l : List Cl) (n : Nat) : Int := (l.getD n cl0).1
def hoN (l : List Cl) (a : Int → Int) (n : Nat) : Int := clH (l.getD n cl0) a
def saN (l : List Cl) (a : Int → Int) (n : Nat) : Int := clS (l.getD n cl0) a
def oddN (l : List Cl) (a : Int → Int) : Nat → Int
  | 0 => 0
  | n + 1 => if hoN l a n = 1 ∧ hdN l n ≤ 3 then (if hdN l n = 1 then 0 else if hdN l n = 2 then 100 else nearI (saN l a n) 100) else oddN l a n
def odd (l : List Cl) (a : Int → Int) : Int := oddN l a l.length
/-- a text of fair clauses: n is seen, any: one is a fair clause -/
def fairN (l : List Cl) (a : Int → Int) : Nat → Nat → Int → Int
  | 0, _, any => if any = 0 then 1 else 0
  | m + 1, n, any => if hdN l n = 5 then (if hoN l a n = 1 then 1 else fairN l a m (n + 1) 1) else fairN l a m (n + 1) any
def fairQ (l : List Cl) (a : Int → Int) : Int := fairN l a l.length 0 0
def priN (l : List Cl) (a : Int → Int) : Nat → Int
  | 0 => -1
  | n + 1 => if hdN l n = 4 ∧ hoN l a n = 1 ∧ (priN l a n = -1 ∨ nearI (saN l a n) 1000 < priN l a n) then nearI (saN l a n) 1000 else priN l a n
def pri (l : List Cl) (a : Int → Int) : Int := priN l a l.length
theorem nearI_r {v m : Int} (h : 0 ≤ m) : 0 ≤ nearI v m ∧ nearI v m ≤ m := by
  unfold nearI
  split
  · omega
  · split <;> omega
theorem oddN_r {l : List Cl} {a : Int → Int} : ∀ n : Nat, 0 ≤ oddN l a n ∧ oddN l a n ≤ 100
  | 0 => ⟨Int.le_refl 0, by show (0 : Int) ≤ 100; decide⟩
  | n + 1 => by
    have ih := oddN_r (l := l) (a := a) n
    have := nearI_r (v := saN l a n) (m := 100) (by decide)
    rw [oddN]
    repeat' split
    all_goals omega
theorem odd_r (l : List Cl) (a : Int → Int) : 0 ≤ odd l a ∧ odd l a ≤ 100 := oddN_r _
theorem priN_r {l : List Cl} {a : Int → Int} : ∀ n : Nat, -1 ≤ priN l a n ∧ priN l a n ≤ 1000
  | 0 => ⟨Int.le_refl _, by show (-1 : Int) ≤ 1000; decide⟩
  | n + 1 => by
    have ih := priN_r (l := l) (a := a) n
    have := nearI_r (v := saN l a n) (m := 1000) (by decide)
    rw [priN]
    split <;> omega
theorem pri_r (l : List Cl) (a : Int → Int) : -1 ≤ pri l a ∧ pri l a ≤ 1000 := priN_r _
theorem fairN_01 {l : List Cl} {a : Int → Int} : ∀ (m n : Nat) (any : Int), fairN l a m n any = 0 ∨ fairN l a m n any = 1
  | 0, n, any => by rw [fairN]; split <;> omega
  | m + 1, n, any => by
    rw [fairN]
    repeat' split
    · exact Or.inr rfl
    · exact fairN_01 m _ _
    · exact fairN_01 m _ _
theorem fairQ_01 (l : List Cl) (a : Int → Int) : fairQ l a = 0 ∨ fairQ l a = 1 := fairN_01 _ _ _
def LocL (l : List Cl) : Prop := ∀ c ∈ l, LocC c
theorem LocL_d {l : List Cl} (h : LocL l) (n : Nat) : LocC (l.getD n cl0) := by
  rw [List.getD_eq_getElem?_getD]
  cases e : l[n]? with
  | none => exact ⟨fun f hf => (by cases hf), fun f hf => (by cases hf)⟩
  | some c => exact h c (List.mem_of_getElem? e)
theorem hoN_loc {l : List Cl} (h : LocL l) {a a' : Int → Int} (ha : ∀ j, 0 ≤ j → j < 9 → a j = a' j) (n : Nat) : hoN l a n = hoN l a' n := clH_loc (LocL_d h n) ha
theorem saN_loc {l : List Cl} (h : LocL l) {a a' : Int → Int} (ha : ∀ j, 0 ≤ j → j < 9 → a j = a' j) (n : Nat) : saN l a n = saN l a' n := clS_loc (LocL_d h n) ha
theorem oddN_loc {l : List Cl} (h : LocL l) {a a' : Int → Int} (ha : ∀ j, 0 ≤ j → j < 9 → a j = a' j) : ∀ n : Nat, oddN l a n = oddN l a' n
  | 0 => rfl
  | n + 1 => by rw [oddN, oddN, hoN_loc h ha, saN_loc h ha, oddN_loc h ha n]
theorem odd_loc {l : List Cl} (h : LocL l) {a a' : Int → Int} (ha : ∀ j, 0 ≤ j → j < 9 → a j = a' j) : odd l a = odd l a' := oddN_loc h ha _
theorem priN_loc {l : List Cl} (h : LocL l) {a a' : Int → Int} (ha : ∀ j, 0 ≤ j → j < 9 → a j = a' j) : ∀ n : Nat, priN l a n = priN l a' n
  | 0 => rfl
  | n + 1 => by rw [priN, priN, hoN_loc h ha, saN_loc h ha, priN_loc h ha n]
theorem pri_loc {l : List Cl} (h : LocL l) {a a' : Int → Int} (ha : ∀ j, 0 ≤ j → j < 9 → a j = a' j) : pri l a = pri l a' := priN_loc h ha _
theorem fairN_loc {l : List Cl} (h : LocL l) {a a' : Int → Int} (ha : ∀ j, 0 ≤ j → j < 9 → a j = a' j) : ∀ (m n : Nat) (any : Int), fairN l a m n any = fairN l a' m n any
  | 0, _, _ => rfl
  | m + 1, n, any => by rw [fairN, fairN, hoN_loc h ha, fairN_loc h ha m, fairN_loc h ha m]
theorem fairQ_loc {l : List Cl} (h : LocL l) {a a' : Int → Int} (ha : ∀ j, 0 ≤ j → j < 9 → a j = a' j) : fairQ l a = fairQ l a' := fairN_loc h ha _ _ _
/-- the texts are well kept -/
def TT (κ : Int → Int) : Prop := TX κ ∧ ∀ x, 0 ≤ x → x < κ 1756 → ∃ l, tmP κ x = some l ∧ l.length ≤ 12
def tm (κ : Int → Int) (x : Int) : List Cl := (tmP κ x).getD []
theorem TT.x {κ : Int → Int} (h : TT κ) : TX κ := h.1
theorem TT.p {κ : Int → Int} {x : Int} (h : TT κ) (h0 : 0 ≤ x) (h1 : x < κ 1756) : tmP κ x = some (tm κ x) := by
  obtain ⟨l, e, _⟩ := h.2 x h0 h1
  unfold tm
  rw [e]
  rfl
theorem TT.n {κ : Int → Int} {x : Int} (h : TT κ) (h0 : 0 ≤ x) (h1 : x < κ 1756) : (tm κ x).length ≤ 12 := by
  obtain ⟨l, e, h2⟩ := h.2 x h0 h1
  unfold tm
  rw [e]
  exact h2
theorem tm_loc (κ : Int → Int) (x : Int) : LocL (tm κ x) := by
  unfold tm
  cases e : tmP κ x with
  | none => exact fun c hc => (by cases hc)
  | some l => exact clsP_loc _ _ _ e
theorem clsP_h {C V : Int → Int} {e : Int} : ∀ (q : Nat) (i : Int) (l : List Cl), 0 ≤ i → (∀ k, e ≤ k → C k = 0) → clsP C V e q i = some l → ∀ c ∈ l, ∃ i j, 0 ≤ i ∧ i < e ∧ clP C V i = some (c, j)
  | 0, _, _, _, _, h => by rw [clsP] at h; cases h
  | q + 1, i, l, h0, hC, h => by
    by_cases hi : i < e
    · obtain ⟨c, j, r, e1, e2, e3⟩ := clsP_y hi h
      subst e3
      intro d hd
      rcases List.mem_cons.mp hd with z | z
      · subst z; exact ⟨i, j, h0, hi, e1⟩
      · refine clsP_h q _ r ?_ hC e2 d z
        obtain ⟨s, i1, w, e4, e5, e6⟩ := clP_y e1
        have h1 : i ≤ i1 ∧ i1 ≤ e := by
          split at e4
          · obtain ⟨r1, e7, e8⟩ := Option.map_eq_some_iff.mp e4
            have := mn_le hC _ _ _ _ (by omega) e7
            have e9 := (Prod.mk.inj e8).2
            omega
          · have e9 := (Prod.mk.inj (Option.some.inj e4)).2
            omega
        split at e5
        · obtain ⟨r1, e7, e8⟩ := Option.map_eq_some_iff.mp e5
          rename_i q6
          have : i1 < e := by
            rcases Int.lt_or_le i1 e with z2 | z2
            · exact z2
            · rw [hC _ z2] at q6; omega
          have := mn_le hC _ _ _ _ (by omega) e7
          have e9 := (Prod.mk.inj e8).2
          omega
        · have e9 := (Prod.mk.inj (Option.some.inj e5)).2
          omega
    · rw [clsP_n hi h]
      intro d hd
      cases hd
theorem tmC_0 {κ : Int → Int} {x : Int} : ∀ k, 400 * x + κ (1758 + x) ≤ k → tmC κ x k = 0 := fun k h => if_neg (by omega)
theorem tm_at {κ : Int → Int} {x : Int} (h0 : 0 ≤ x) : ∀ c ∈ tm κ x, ∃ i j, 0 ≤ i ∧ i < 400 * x + κ (1758 + x) ∧ clP (tmC κ x) (fun k => κ (6570 + k)) i = some (c, j) := by
  unfold tm
  cases e : tmP κ x with
  | none => exact fun c hc => (by cases hc)
  | some l => exact clsP_h _ _ _ (by omega) tmC_0 e
theorem hd_r {κ : Int → Int} {x : Int} (hT : TT κ) (h0 : 0 ≤ x) (h1 : x < 12) (n : Nat) : 0 ≤ hdN (tm κ x) n ∧ hdN (tm κ x) n ≤ 355 := by
  unfold hdN
  rw [List.getD_eq_getElem?_getD]
  cases e : (tm κ x)[n]? with
  | none => exact ⟨Int.le_refl 0, by show (0 : Int) ≤ 355; decide⟩
  | some c =>
    obtain ⟨i, j, h2, h3, h4⟩ := tm_at h0 c (List.mem_of_getElem? e)
    obtain ⟨s, i1, w, e4, e5, e6⟩ := clP_y h4
    have hs := hT.1.1 x h0 h1
    have e7 : c.1 = tmC κ x i := by rw [e6]
    show 0 ≤ c.1 ∧ c.1 ≤ 355
    rw [e7]
    unfold tmC
    rw [if_pos h3]
    exact hT.1.2.1 i h2 (by omega)
theorem sa_r {κ a : Int → Int} {x : Int} (hT : TT κ) (h0 : 0 ≤ x) (h1 : x < 12) (ha : caseOK a) (n : Nat) : -1000000000 ≤ saN (tm κ x) a n ∧ saN (tm κ x) a n ≤ 1000000000 := by
  unfold saN
  rw [List.getD_eq_getElem?_getD]
  cases e : (tm κ x)[n]? with
  | none => exact ⟨by show (-1000000000 : Int) ≤ 0; decide, by show (0 : Int) ≤ 1000000000; decide⟩
  | some c =>
    obtain ⟨i, j, h2, h3, h4⟩ := tm_at h0 c (List.mem_of_getElem? e)
    obtain ⟨s, i1, w, e4, e5, e6⟩ := clP_y h4
    have hs := hT.1.1 x h0 h1
    show -1000000000 ≤ clS c a ∧ clS c a ≤ 1000000000
    rw [e6]
    unfold clS
    split at e4
    · obtain ⟨r1, e7, e8⟩ := Option.map_eq_some_iff.mp e4
      have e9 := (Prod.mk.inj e8).1
      rw [← e9]
      refine vOf_r (mn_B (fun k hk hc => ?_) ha tmC_0 _ _ _ _ (by omega) (by omega) (by decide) e7)
      unfold tmC at hc
      split at hc
      · exact hT.1.2.2 k hk (by omega)
      · omega
    · have e9 := (Prod.mk.inj (Option.some.inj e4)).1
      rw [← e9]
      exact ⟨by show (-1000000000 : Int) ≤ 0; decide, by show (0 : Int) ≤ 1000000000; decide⟩
/-! the case of a look, of a trial; what a text says of them -/
def loA (κ : Int → Int) (k : Int) : Int → Int := fun j => κ (1224 + 10 * k + j)
def trA (κ : Int → Int) (k : Int) : Int → Int := fun j => κ (1624 + 9 * k + j)
def oT (κ : Int → Int) (x t : Int) : Int := odd (tm κ x) (trA κ t)
def oL (κ : Int → Int) (x k : Int) : Int := if κ (1224 + 10 * k + 9) = 1 then odd (tm κ x) (loA κ k) else 100 - odd (tm κ x) (loA κ k)
def fT (κ : Int → Int) (x t : Int) : Int := fairQ (tm κ x) (trA κ t)
def pL (κ : Int → Int) (x k : Int) : Int := pri (tm κ x) (loA κ k)
theorem oT_r (κ : Int → Int) (x t : Int) : 0 ≤ oT κ x t ∧ oT κ x t ≤ 100 := odd_r _ _
theorem oL_r (κ : Int → Int) (x t : Int) : 0 ≤ oL κ x t ∧ oL κ x t ≤ 100 := by
  have := odd_r (tm κ x) (loA κ t)
  unfold oL
  split <;> omega
/-- a state in which all but scratch is σ's, scratch is τ's -/
def mx (σ τ : St) : St := fun f => if (f ≤ 4 ∨ (6 ≤ f ∧ f ≤ 17)) ∨ 25 ≤ f then σ f else τ f
theorem mx_self {σ : St} : mx σ σ = σ := by
  funext f
  unfold mx
  split <;> rfl
theorem mx_sc {σ τ : St} : Sc σ (mx σ τ) := fun f hf => if_pos hf
theorem mx_of {σ τ τ' : St} (h : Sc (mx σ τ) τ') : τ' = mx σ τ' := by
  funext f
  unfold mx
  split
  · rename_i q; rw [h f q]; exact if_pos q
  · rfl
theorem mx_sa {σ τ : St} {f : Nat} {a : Int → Int} (hf : f = 5 ∨ (18 ≤ f ∧ f ≤ 24)) : sa (mx σ τ) f a = mx σ (sa τ f a) := by
  funext g
  by_cases h : g = f
  · subst h
    rw [sa_s]
    unfold mx
    rw [if_neg (by omega), sa_s]
  · rw [sa_n h]
    unfold mx
    split
    · rfl
    · rw [sa_n h]
theorem mx_st {σ τ : St} {f : Nat} {i v : Int} (hf : f = 5 ∨ (18 ≤ f ∧ f ≤ 24)) : st (mx σ τ) f i v = mx σ (st τ f i v) := by
  have e : mx σ τ f = τ f := if_neg (by omega)
  unfold st
  rw [e]
  exact mx_sa hf
/-- a row of nine from the kept row in the scratch case -/
def rwS (σ τ : St) (b : Int) : St := sa τ 5 (cpA (τ 5) 0 9 (fun j => σ 2 (b + j)))
theorem mx_row {σ τ : St} {b : Int} : sa (mx σ τ) 5 (cpA ((mx σ τ) 5) 0 9 (fun j => (mx σ τ) 2 (b + j))) = mx σ (rwS σ τ b) := mx_sa (Or.inl rfl)
theorem rwS_5 {σ τ : St} {b j : Int} (h0 : 0 ≤ j) (h : j < 9) : rwS σ τ b 5 j = σ 2 (b + j) := by
  unfold rwS
  rw [sa_s, cpA_in (by omega), Int.sub_zero]
/-- a write of what all share goes to the base -/
theorem mx_sb {σ τ : St} {f : Nat} {A : Int → Int} (hf : (f ≤ 4 ∨ (6 ≤ f ∧ f ≤ 17)) ∨ 25 ≤ f) : sa (mx σ τ) f A = mx (sa σ f A) τ := by
  funext g
  by_cases h : g = f
  · subst h
    rw [sa_s]
    unfold mx
    rw [if_pos hf, sa_s]
  · rw [sa_n h]
    unfold mx
    split
    · rw [sa_n h]
    · rfl
theorem mx_stb {σ τ : St} {f : Nat} {A : Int → Int} {i v : Int} (hf : (f ≤ 4 ∨ (6 ≤ f ∧ f ≤ 17)) ∨ 25 ≤ f) : st (mx (sa σ f A) τ) f i v = mx (sa σ f (up A i v)) τ := by
  have e : mx (sa σ f A) τ f = A := by
    unfold mx
    rw [if_pos hf, sa_s]
  unfold st
  rw [e, mx_sb hf, sa_sa]
theorem mx_stb2 {σ τ : St} {f g : Nat} {C F : Int → Int} {i v : Int} (hf : (f ≤ 4 ∨ (6 ≤ f ∧ f ≤ 17)) ∨ 25 ≤ f) (hg : f ≠ g) : st (mx (sa (sa σ f C) g F) τ) f i v = mx (sa (sa σ f (up C i v)) g F) τ := by
  have e : mx (sa (sa σ f C) g F) τ f = C := by
    unfold mx
    rw [if_pos hf, sa_n hg, sa_s]
  have e2 : sa (sa (sa σ f C) g F) f (up C i v) = sa (sa σ f (up C i v)) g F := by
    funext x
    by_cases h : x = f
    · subst h
      rw [sa_s, sa_n hg, sa_s]
    · rw [sa_n h]
      by_cases h2 : x = g
      · subst h2
        rw [sa_s, sa_s]
      · rw [sa_n h2, sa_n h2, sa_n h, sa_n h]
  unfold st
  rw [e, mx_sb hf, e2]
/-- what is asked of a text, by the places of its clauses -/
def AskQ (κ : Int → Int) (x : Int) (a : Int → Int) (τ : St) : Prop := τ 21 0 = (tm κ x).length ∧ ∀ c : Int, 0 ≤ c → c < (tm κ x).length → τ 22 c = hdN (tm κ x) c.toNat ∧ τ 23 c = hoN (tm κ x) a c.toNat ∧ τ 24 c = saN (tm κ x) a c.toNat
theorem AskQ_of {ρ τ : St} {κ a : Int → Int} {x : Int} (h : AskI ρ x (tm κ x) (tm κ x).length τ) (ha : ∀ j, 0 ≤ j → j < 9 → ρ 5 j = a j) : AskQ κ x a τ := by
  refine ⟨h.m, fun c h0 h1 => ?_⟩
  have h2 := h.r c h0 h1
  refine ⟨h2.1, ?_, ?_⟩
  · rw [h2.2.1]; exact hoN_loc (tm_loc _ _) ha _
  · rw [h2.2.2]; exact saN_loc (tm_loc _ _) ha _
theorem ho_01 {l : List Cl} {a : Int → Int} (n : Nat) : hoN l a n = 0 ∨ hoN l a n = 1 := by
  unfold hoN clH
  split <;> omega
theorem oddN_e {l : List Cl} {a : Int → Int} {i : Int} (h : 0 ≤ i) : oddN l a (i + 1).toNat = if hoN l a i.toNat = 1 ∧ hdN l i.toNat ≤ 3 then (if hdN l i.toNat = 1 then 0 else if hdN l i.toNat = 2 then 100 else nearI (saN l a i.toNat) 100) else oddN l a i.toNat := by
  rw [show (i + 1).toNat = i.toNat + 1 by omega, oddN]
theorem priN_e {l : List Cl} {a : Int → Int} {i : Int} (h : 0 ≤ i) : priN l a (i + 1).toNat = if hdN l i.toNat = 4 ∧ hoN l a i.toNat = 1 ∧ (priN l a i.toNat = -1 ∨ nearI (saN l a i.toNat) 1000 < priN l a i.toNat) then nearI (saN l a i.toNat) 1000 else priN l a i.toNat := by
  rw [show (i + 1).toNat = i.toNat + 1 by omega, priN]
theorem fairN_e {l : List Cl} {a : Int → Int} {i any : Int} (h : 0 ≤ i) (h1 : i < l.length) : fairN l a (l.length - i).toNat i.toNat any = if hdN l i.toNat = 5 then (if hoN l a i.toNat = 1 then 1 else fairN l a (l.length - (i + 1)).toNat (i + 1).toNat 1) else fairN l a (l.length - (i + 1)).toNat (i + 1).toNat any := by
  rw [show ((l.length : Int) - i).toNat = ((l.length : Int) - (i + 1)).toNat + 1 by omega, fairN, show i.toNat + 1 = (i + 1).toNat by omega]
theorem rw_ok {σ τ : St} {b : Int} (h : caseOK (fun j => σ 2 (b + j))) : caseOK (rwS σ τ b 5) := caseOK_cg (fun x a b => rwS_5 a b) h
