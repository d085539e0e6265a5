/-! NUMBERS: ints and longs of the machine as integers -/
def iI (z : Int) : Int32 := Int32.ofInt z
def lI (z : Int) : Int64 := Int64.ofInt z
def zb (P : Prop) [Decidable P] : Int := if P then 1 else 0
def R32 (z : Int) : Prop := -2147483648 ≤ z ∧ z < 2147483648
def R64 (z : Int) : Prop := -9223372036854775808 ≤ z ∧ z < 9223372036854775808
theorem zb_t {P : Prop} [Decidable P] (h : P) : zb P = 1 := if_pos h
theorem zb_f {P : Prop} [Decidable P] (h : ¬ P) : zb P = 0 := if_neg h
theorem zb_01 {P : Prop} [Decidable P] : zb P = 0 ∨ zb P = 1 := by
  unfold zb
  split
  · exact Or.inr rfl
  · exact Or.inl rfl
theorem zb_r {P : Prop} [Decidable P] : R32 (zb P) := by
  rcases zb_01 (P := P) with h | h <;> rw [h] <;> unfold R32 <;> omega
theorem zb_cg {P P' : Prop} [Decidable P] [Decidable P'] (h : P ↔ P') : zb P = zb P' := by
  by_cases q : P
  · rw [zb_t q, zb_t (h.mp q)]
  · rw [zb_f q, zb_f (fun z => q (h.mpr z))]
theorem iI_ti {z : Int} (h : R32 z) : (iI z).toInt = z := Int32.toInt_ofInt_of_le (by have := h.1; omega) (by have := h.2; omega)
theorem lI_ti {z : Int} (h : R64 z) : (lI z).toInt = z := Int64.toInt_ofInt_of_le (by have := h.1; omega) (by have := h.2; omega)
theorem iI_of (x : Int32) : x = iI x.toInt := (Int32.ofInt_toInt x).symm
theorem lI_of (x : Int64) : x = lI x.toInt := (Int64.ofInt_toInt x).symm
theorem R32_of (x : Int32) : R32 x.toInt := ⟨by have := Int32.le_toInt x; omega, by have := Int32.toInt_lt x; omega⟩
theorem R64_of (x : Int64) : R64 x.toInt := ⟨by have := Int64.le_toInt x; omega, by have := Int64.toInt_lt x; omega⟩
theorem iI_cl {z : Int} (h0 : 0 ≤ z) (h : z < 2147483648) : (iI z).toNatClampNeg = z.toNat := Int32.toNatClampNeg_ofInt_of_le (by omega) (by omega)
theorem iI_add (a b : Int) : iI a + iI b = iI (a + b) := (Int32.ofInt_add a b).symm
theorem iI_sub (a b : Int) : iI a - iI b = iI (a - b) := (Int32.ofInt_sub a b).symm
theorem iI_mul (a b : Int) : iI a * iI b = iI (a * b) := (Int32.ofInt_mul a b).symm
theorem iI_neg (a : Int) : - iI a = iI (- a) := (Int32.ofInt_neg a).symm
theorem lI_add (a b : Int) : lI a + lI b = lI (a + b) := (Int64.ofInt_add a b).symm
theorem lI_sub (a b : Int) : lI a - lI b = lI (a - b) := (Int64.ofInt_sub a b).symm
theorem lI_mul (a b : Int) : lI a * lI b = lI (a * b) := (Int64.ofInt_mul a b).symm
theorem lI_neg (a : Int) : - lI a = lI (- a) := (Int64.ofInt_neg a).symm
theorem iI_lt {a b : Int} (ha : R32 a) (hb : R32 b) : iI a < iI b ↔ a < b := by rw [Int32.lt_iff_toInt_lt, iI_ti ha, iI_ti hb]
theorem iI_le {a b : Int} (ha : R32 a) (hb : R32 b) : iI a ≤ iI b ↔ a ≤ b := by rw [Int32.le_iff_toInt_le, iI_ti ha, iI_ti hb]
theorem iI_eq {a b : Int} (ha : R32 a) (hb : R32 b) : iI a = iI b ↔ a = b := by rw [← Int32.toInt_inj, iI_ti ha, iI_ti hb]
theorem lI_lt {a b : Int} (ha : R64 a) (hb : R64 b) : lI a < lI b ↔ a < b := by rw [Int64.lt_iff_toInt_lt, lI_ti ha, lI_ti hb]
theorem lI_le {a b : Int} (ha : R64 a) (hb : R64 b) : lI a ≤ lI b ↔ a ≤ b := by rw [Int64.le_iff_toInt_le, lI_ti ha, lI_ti hb]
theorem lI_eq {a b : Int} (ha : R64 a) (hb : R64 b) : lI a = lI b ↔ a = b := by rw [← Int64.toInt_inj, lI_ti ha, lI_ti hb]
theorem iI_vp {z : Int} {n : Nat} (h0 : 0 ≤ z) (h : z < n) (hn : n < 2147483648) : vp_in (iI z) n := by
  rw [vp_in_iff, iI_ti ⟨by omega, by omega⟩]
  omega
theorem i2l_I {z : Int} (h : R32 z) : (iI z).toInt64 = lI z := by
  apply Int64.toInt_inj.mp
  rw [Int32.toInt_toInt64, iI_ti h, lI_ti ⟨by have := h.1; omega, by have := h.2; omega⟩]
theorem l2i_I (z : Int) : (lI z).toInt32 = iI z := Int64.toInt32_ofInt
theorem iI_0 : iI 0 = 0 := rfl
theorem lI_0 : lI 0 = 0 := rfl
theorem R32.n {z : Int} (h : R32 z) : -2147483648 ≤ z ∧ z < 2147483648 := h
theorem r32 {z : Int} (h : -2147483648 ≤ z ∧ z < 2147483648) : R32 z := h
theorem r64 {z : Int} (h : -9223372036854775808 ≤ z ∧ z < 9223372036854775808) : R64 z := h
theorem R32.l {z : Int} (h : R32 z) : R64 z := ⟨by have := h.1; omega, by have := h.2; omega⟩
/-- one more value of a row of integers -/
def up (f : Int → Int) (i v : Int) : Int → Int := fun j => if j = i then v else f j
def upq (f : Int → Option Nat) (i : Int) (v : Option Nat) : Int → Option Nat := fun j => if j = i then v else f j
theorem up_s {f : Int → Int} {i v : Int} : up f i v i = v := if_pos rfl
theorem up_n {f : Int → Int} {i j v : Int} (h : j ≠ i) : up f i v j = f j := if_neg h
theorem upq_s {f : Int → Option Nat} {i : Int} {v : Option Nat} : upq f i v i = v := if_pos rfl
theorem upq_n {f : Int → Option Nat} {i j : Int} {v : Option Nat} (h : j ≠ i) : upq f i v j = f j := if_neg h
theorem up_f {f : Int → Int} {i v : Int} (h0 : 0 ≤ i) (h : i < 2147483648) (g : Int → Int32) : upd (fun (j : Nat) => g (f (j : Int))) (iI i).toNatClampNeg (g v) = fun (j : Nat) => g (up f i v (j : Int)) := by
  rw [iI_cl h0 h]
  funext j
  unfold upd up
  by_cases q : j = i.toNat
  · rw [if_pos q, if_pos (by omega)]
  · rw [if_neg q, if_neg (by omega)]
theorem up_fl {f : Int → Int} {i v : Int} (h0 : 0 ≤ i) (h : i < 2147483648) (g : Int → Int64) : vp_updL (fun (j : Nat) => g (f (j : Int))) (iI i).toNatClampNeg (g v) = fun (j : Nat) => g (up f i v (j : Int)) := by
  rw [iI_cl h0 h]
  funext j
  unfold vp_updL up
  by_cases q : j = i.toNat
  · rw [if_pos q, if_pos (by omega)]
  · rw [if_neg q, if_neg (by omega)]
theorem up_fq {f : Int → Option Nat} {i : Int} {v : Option Nat} (h0 : 0 ≤ i) (h : i < 2147483648) : va_up (fun (j : Nat) => f (j : Int)) (iI i).toNatClampNeg v = fun (j : Nat) => upq f i v (j : Int) := by
  rw [iI_cl h0 h]
  funext j
  unfold va_up upq
  by_cases q : j = i.toNat
  · rw [if_pos q, if_pos (by omega)]
  · rw [if_neg q, if_neg (by omega)]
/-! THE HEAP AS A FUNCTION: an address holds a cell of the world, or the world says nothing of it -/
abbrev Hp : Type := Nat → Option va_E
def hs (h : Hp) (a : Nat) (e : va_E) : Hp := fun q => if q = a then some e else h q
theorem hs_s {h : Hp} {a : Nat} {e : va_E} : hs h a e a = some e := if_pos rfl
theorem hs_n {h : Hp} {a q : Nat} {e : va_E} (n : q ≠ a) : hs h a e q = h q := if_neg n
def aI (cA : ClassId) (n : Nat) (f : Int → Int) : va_E := .inl (cA, n, .inl (fun (j : Nat) => iI (f (j : Int))))
def aL (cA : ClassId) (n : Nat) (f : Int → Int) : va_E := .inl (cA, n, .inr (.inl (fun (j : Nat) => lI (f (j : Int)))))
def aQ (cA : ClassId) (n : Nat) (f : Int → Option Nat) : va_E := .inl (cA, n, .inr (.inr (.inr (.inr (fun (j : Nat) => f (j : Int))))))
def oB (ci : Nat) (fs : List Value) : va_E := .inr (ci, fs)
def Rl (h : Hp) (ws : va_W) : Prop := ∀ (a : Nat) (e : va_E), h a = some e ↔ ∃ k : Nat, ws[k]? = some (a, e)
theorem Rl.set {h : Hp} {ws : va_W} {A : Nat → Prop} {q0 a : Nat} {e0 e : va_E} (hR : Rl h ws) (hD : va_D A ws) (hq : ws[q0]? = some (a, e0)) : Rl (hs h a e) (ws.set q0 (a, e)) := by
  have hl := (List.getElem?_eq_some_iff.mp hq).1
  intro b x
  constructor
  · intro hb
    by_cases n : b = a
    · subst n
      rw [hs_s] at hb
      cases hb
      exact ⟨q0, List.getElem?_set_self hl⟩
    · rw [hs_n n] at hb
      obtain ⟨k, hk⟩ := (hR b x).mp hb
      refine ⟨k, ?_⟩
      rw [List.getElem?_set_ne]
      · exact hk
      · intro z
        subst z
        rw [hq] at hk
        cases hk
        exact n rfl
  · rintro ⟨k, hk⟩
    by_cases z : k = q0
    · subst z
      rw [List.getElem?_set_self hl] at hk
      cases hk
      exact hs_s
    · rw [List.getElem?_set_ne (Ne.symm z)] at hk
      have n : b ≠ a := fun n => z (hD.1 k q0 (b, x) (a, e0) hk hq n)
      rw [hs_n n]
      exact (hR b x).mpr ⟨k, hk⟩
theorem Rl.push {h : Hp} {ws : va_W} {a : Nat} {e : va_E} (hR : Rl h ws) (hn : h a = none) : Rl (hs h a e) (ws ++ [(a, e)]) := by
  intro b x
  constructor
  · intro hb
    by_cases n : b = a
    · subst n
      rw [hs_s] at hb
      cases hb
      exact ⟨ws.length, by simp⟩
    · rw [hs_n n] at hb
      obtain ⟨k, hk⟩ := (hR b x).mp hb
      exact ⟨k, by rw [List.getElem?_append_left (List.getElem?_eq_some_iff.mp hk).1]; exact hk⟩
  · rintro ⟨k, hk⟩
    by_cases z : k < ws.length
    · rw [List.getElem?_append_left z] at hk
      have hb := (hR b x).mpr ⟨k, hk⟩
      have n : b ≠ a := by
        intro n
        rw [n, hn] at hb
        cases hb
      rw [hs_n n]
      exact hb
    · rw [List.getElem?_append_right (by omega)] at hk
      have hz : k - ws.length < 1 := (List.getElem?_eq_some_iff.mp hk).1
      rw [show k - ws.length = 0 by omega] at hk
      cases hk
      exact hs_s
/-- the heap H holds the world h, apart, in A -/
def HVd (D : va_G) (cl : List vw_C) (A : Nat → Prop) (h : Hp) (H : Heap) : Prop := ∃ ws : va_W, Rl h ws ∧ va_P D cl ws H ∧ va_D A ws
def HV (D : va_G) (cl : List vw_C) (A : Nat → Prop) (h : Hp) (H0 H : Heap) (locs : List Loc) : Prop := HVd D cl A h H ∧ va_S A H0 H locs
/-- what a method may change: the world's cells, and those that are made from sz on -/
def DA (h : Hp) (sz : Nat) : Nat → Prop := fun q => (∃ e, h q = some e) ∨ sz ≤ q
theorem HVd.at {D : va_G} {cl : List vw_C} {A : Nat → Prop} {h : Hp} {H : Heap} (hH : HVd D cl A h H) {a : Nat} {e : va_E} (ha : h a = some e) : va_at D cl (a, e) H := by
  obtain ⟨ws, hR, hP, -⟩ := hH
  obtain ⟨k, hk⟩ := (hR a e).mp ha
  exact hP k _ hk
theorem HVd.inA {D : va_G} {cl : List vw_C} {A : Nat → Prop} {h : Hp} {H : Heap} (hH : HVd D cl A h H) {a : Nat} {e : va_E} (ha : h a = some e) : A a := by
  obtain ⟨ws, hR, -, hD⟩ := hH
  obtain ⟨k, hk⟩ := (hR a e).mp ha
  exact hD.2 k _ hk
theorem HVd.lt {D : va_G} {cl : List vw_C} {A : Nat → Prop} {h : Hp} {H : Heap} (hH : HVd D cl A h H) {a : Nat} {e : va_E} (ha : h a = some e) : a < H.size := (hH.at ha).lt
theorem HVd.fresh {D : va_G} {cl : List vw_C} {A : Nat → Prop} {h : Hp} {H : Heap} (hH : HVd D cl A h H) {a : Nat} (ha : H.size ≤ a) : h a = none := by
  cases z : h a with
  | none => rfl
  | some e => exact absurd (hH.lt z) (by omega)
theorem HVd.self {D : va_G} {cl : List vw_C} {A : Nat → Prop} {h : Hp} {H : Heap} (hH : HVd D cl A h H) (sz : Nat) : HVd D cl (DA h sz) h H := by
  obtain ⟨ws, hR, hP, hD⟩ := hH
  exact ⟨ws, hR, hP, hD.1, fun k q hk => Or.inl ⟨q.2, (hR q.1 q.2).mpr ⟨k, hk⟩⟩⟩
theorem HVd.weaken {D : va_G} {cl : List vw_C} {A B : Nat → Prop} {h : Hp} {H : Heap} (hH : HVd D cl A h H) (hAB : ∀ q, q < H.size → A q → B q) : HVd D cl B h H := by
  obtain ⟨ws, hR, hP, hD⟩ := hH
  exact ⟨ws, hR, hP, hD.weaken (fun k q hk => hAB q.1 (hP k q hk).lt)⟩
theorem HVd.kept {D : va_G} {cl : List vw_C} {A : Nat → Prop} {h : Hp} {H H1 : Heap} (hH : HVd D cl A h H) (hq : ∀ a e, h a = some e → H1[a]? = H[a]?) : HVd D cl A h H1 := by
  obtain ⟨ws, hR, hP, hD⟩ := hH
  exact ⟨ws, hR, hP.kept (fun k q hk => hq q.1 q.2 ((hR q.1 q.2).mpr ⟨k, hk⟩)), hD⟩
theorem HV.inA {D : va_G} {cl : List vw_C} {A : Nat → Prop} {h : Hp} {H0 H : Heap} {locs : List Loc} (hH : HV D cl A h H0 H locs) {a : Nat} {e : va_E} (ha : h a = some e) : A a := hH.1.inA ha
theorem HV.fresh {D : va_G} {cl : List vw_C} {A : Nat → Prop} {h : Hp} {H0 H : Heap} {locs : List Loc} (hH : HV D cl A h H0 H locs) {a : Nat} (ha : H.size ≤ a) : h a = none := hH.1.fresh ha
/-- what a callee may change its caller may -/
theorem HV.sub {D : va_G} {cl : List vw_C} {A : Nat → Prop} {h : Hp} {H0 H : Heap} {locs : List Loc} (hH : HV D cl A h H0 H locs) (hA : ∀ q, H0.size ≤ q → A q) : ∀ q, DA h H.size q → A q := by
  intro q hq
  rcases hq with ⟨e, he⟩ | hq
  · exact hH.inA he
  · exact hA q (Nat.le_trans hH.2.1 hq)
