/-! CLAUSES AND TEXTS of the component -/
def csX (ci n : Nat) (v : Value) (t : Int) : va_E := if ci = 3 then oB 3 [.ref n, v] else oB 9 [.ref n, v, .int (iI t)]
def CaseN (G : MG) (N : Hp) (c ci nb : Nat) (t : Int) (g : Int → Int) : Prop := N c = some (csE ci nb 0 t) ∧ (ci = 3 ∨ ci = 9) ∧ N nb = some (aI (G.2.1 0) 9 g) ∧ caseOK g
theorem len2 {fs : List Value} {x y : Value} (hl : [x, y].length = fs.length) (h : ∀ k, k ≠ 1 → fs[k]? = [x, y][k]?) : ∃ v, fs = [x, v] := by
  match fs, hl with
  | [a, b], _ =>
    have := h 0 (by decide)
    simp at this
    exact ⟨b, by rw [this]⟩
theorem len3 {fs : List Value} {x y z : Value} (hl : [x, y, z].length = fs.length) (h : ∀ k, k ≠ 1 → fs[k]? = [x, y, z][k]?) : ∃ v, fs = [x, v, z] := by
  match fs, hl with
  | [a, b, d], _ =>
    have h0 := h 0 (by decide)
    have h2 := h 2 (by decide)
    simp at h0 h2
    exact ⟨b, by rw [h0, h2]⟩
theorem len4 {fs : List Value} {x y z u : Value} (hl : [x, y, z, u].length = fs.length) (h : ∀ k, k ≠ 3 → fs[k]? = [x, y, z, u][k]?) : ∃ v, fs = [x, y, z, v] := by
  match fs, hl with
  | [a, b, d, w], _ =>
    have h0 := h 0 (by decide)
    have h1 := h 1 (by decide)
    have h2 := h 2 (by decide)
    simp at h0 h1 h2
    exact ⟨w, by rw [h0, h1, h2]⟩
theorem csX_of {G : MG} {h N : Hp} {c ci nb : Nat} {t : Int} {g : Int → Int} (hn : hN h = N) (hC : CaseN G N c ci nb t g) : ∃ v, h c = some (csX ci nb v t) := by
  obtain ⟨h1, h2, -, -⟩ := hC
  rcases h2 with q | q <;> subst q
  · obtain ⟨fs0, g1, g2, g3, -⟩ := nX (ci := 3) (fs := [.ref nb, .int (iI 0)]) hn h1
    obtain ⟨v, rfl⟩ := len2 g2 g3
    exact ⟨v, g1⟩
  · obtain ⟨fs0, g1, g2, g3, -⟩ := nX (ci := 9) (fs := [.ref nb, .int (iI 0), .int (iI t)]) hn h1
    obtain ⟨v, rfl⟩ := len3 g2 g3
    exact ⟨v, g1⟩
theorem eN_csX {ci n : Nat} {v : Value} {t : Int} : eN (csX ci n v t) = csE ci n 0 t := by
  unfold csX csE
  split <;> rfl
theorem hN_setX {h : Hp} {c ci n : Nat} {v : Value} {b' t : Int} (hc : h c = some (csX ci n v t)) : hN (hs h c (csE ci n b' t)) = hN h := by
  rw [hN_set, eN_cs]
  funext q
  by_cases z : q = c
  · subst z
    rw [hs_s]
    unfold hN
    rw [hc]
    show _ = some (eN _)
    rw [eN_csX]
  · rw [hs_n z]
theorem hN_told {h : Hp} {a : Nat} {x y z u v : Value} (ha : h a = some (oB 18 [x, y, z, u])) : hN (hs h a (oB 18 [x, y, z, v])) = hN h := by
  rw [hN_set]
  funext q
  by_cases w : q = a
  · subst w
    rw [hs_s]
    unfold hN
    rw [ha]
    rfl
  · rw [hs_n w]
theorem clX {h N : Hp} {a : Nat} {x y z u : Value} (hn : hN h = N) (ha : N a = some (oB 18 [x, y, z, u])) : ∃ v, h a = some (oB 18 [x, y, z, v]) := by
  obtain ⟨fs0, g1, g2, g3, -⟩ := nX (ci := 18) hn ha
  obtain ⟨v, rfl⟩ := len4 g2 g3
  exact ⟨v, g1⟩
theorem ne_ax {h : Hp} {a b ci n : Nat} {v : Value} {t : Int} {x : ClassId × vp_A} (hb : h b = some (.inl x)) (ha : h a = some (csX ci n v t)) : b ≠ a := fun e => by
  rw [e, ha] at hb
  unfold csX at hb
  split at hb <;> cases hb
theorem ne_ox {h : Hp} {a b ci cj n : Nat} {v : Value} {t : Int} {gs : List Value} (hb : h b = some (oB cj gs)) (ha : h a = some (csX ci n v t)) (hci : ci = 3 ∨ ci = 9) (hc : cj ≠ 3 ∧ cj ≠ 9) : b ≠ a := fun e => by
  rw [e, ha] at hb
  rcases hci with q | q <;> subst q
  · have hb : oB 3 [.ref n, v] = oB cj gs := Option.some.inj hb
    unfold oB at hb
    cases hb
    exact hc.1 rfl
  · have hb : oB 9 [.ref n, v, .int (iI t)] = oB cj gs := Option.some.inj hb
    unfold oB at hb
    cases hb
    exact hc.2 rfl
section EX
variable {p : Program} {l : Launch} {e : Env} {R : Room} {s : State} {m : MethodId} {args : Array Value} {below : List Frame} {meth : Method} {c : Code} {H : Heap} {locs : List Loc} {cells slots : Nat} {Q : State → Prop}
variable {cc : ByteArray} {pc : Nat} {ls : Array Slot} {rest st0 : List Value} {G : MG} {A : Nat → Prop} {a ci n index : Nat} {b t : Int} {h : Hp} {H0 : Heap} {own : String}
theorem e_setX (hx : p.tables.exec = Jvm.exec) (hb : c.code = cc) (hts : ∀ w ∈ lw_all, w.before args s = true) (hown : s.vm.findClass own = some m.cls) (hK : va_K G.1 clA (tyA G.2.1) s) (hH : HV G.1 clA A h H0 H locs) {v : Value} (he : h a = some (csX ci n v t)) (hci : ci = 3 ∨ ci = 9) (hq : (Cond.fieldLink own index "BrothFlasks$Case" "isBroken" "Z") ∈ lw_all) (d : decode cc pc = .ok (.putfield index, 3))
    (kk : ∀ (H1 : Heap) (locs1 : List Loc), HV G.1 clA A (hs h a (csE ci n 0 t)) H0 H1 locs1 → W p l e R s m args below meth c H1 locs1 cells slots Q (F0 m (pc + 3) ls rest)) : W p l e R s m args below meth c H locs cells slots Q (F0 m pc ls (.int (iI 0) :: .ref a :: rest)) := by
  rcases hci with q | q <;> subst q
  · exact g_put (ci := 3) (ty := .boolean) (fs := [.ref n, v]) hx hb hts in_X2 tyX2 tyX2_ok nmX2 hown hK hH he rfl 1 (by decide) (hts _ hq) (fun _ h9 => h9) rfl (by decide +kernel) rfl rfl (Nat.le_of_ble_eq_true rfl) d kk
  · exact g_put (ci := 9) (ty := .boolean) (fs := [.ref n, v, .int (iI t)]) hx hb hts in_X10 tyX10 tyX10_ok nmX10 hown hK hH he rfl 1 (by decide) (hts _ hq) (fun _ h9 => h9) rfl (by decide +kernel) rfl rfl (Nat.le_of_ble_eq_true rfl) d kk
end EX
section MM
variable {p : Program} {l : Launch} {e : Env} {R : Room} {s : State} {m : MethodId} {args : Array Value} {below : List Frame} {meth : Method} {c : Code} {H : Heap} {locs : List Loc} {cells slots : Nat} {Q : State → Prop}
variable {cc : ByteArray} {pc : Nat} {ls : Array Slot} {rest : List Value} {own : String} {index : Nat}
theorem n_mmin (hx : p.tables.exec = Jvm.exec) (hb : c.code = cc) (hts : ∀ w ∈ lw_all, w.before args s = true) (hml : c.maxLocals = ls.size) (hown : s.vm.findClass own = some m.cls) {x y : Int} (h1 : R32 x) (hy : R32 y) (hlink : Cond.methodLink own index Lib.Math.min.name ∈ lw_all) (hstat : Cond.static Lib.Math.min.name ∈ lw_all) (hini : Cond.initialized "java/lang/Math" ∈ lw_all) (hcode : Cond.code Lib.Math.min.name Lib.Math.min.code 2 (some .int) ∈ lw_all) (hR : 1 ≤ R.frames ∧ 23 ≤ R.locals) (hf : cells ≤ R.cells ∧ slots ≤ R.slots) (hW : (rest.map fun v => v.category).sum ≤ 8) (d : decode cc pc = .ok (.invokestatic index, 3))
    (kk : W p l e R s m args below meth c H locs cells slots Q (F0 m (pc + 3) ls (.int (iI (min x y)) :: rest))) : W p l e R s m args below meth c H locs cells slots Q (F0 m pc ls (.int (iI y) :: .int (iI x) :: rest)) := by
  refine va_mmin hx hb hml hown (hts _ hlink) (hts _ hstat) (hts _ hini) (hts _ hcode) hR.1 (by omega) hf.1 hf.2 d ?_
  have e9 : (if iI y < iI x then iI y else iI x) = iI (min x y) := by
    by_cases q : y < x
    · rw [if_pos ((iI_lt hy h1).mpr q), show min x y = y by omega]
    · rw [if_neg (fun z => q ((iI_lt hy h1).mp z)), show min x y = x by omega]
  rw [e9]
  exact kk
theorem n_mmax (hx : p.tables.exec = Jvm.exec) (hb : c.code = cc) (hts : ∀ w ∈ lw_all, w.before args s = true) (hml : c.maxLocals = ls.size) (hown : s.vm.findClass own = some m.cls) {x y : Int} (h1 : R32 x) (hy : R32 y) (hlink : Cond.methodLink own index Lib.Math.max.name ∈ lw_all) (hstat : Cond.static Lib.Math.max.name ∈ lw_all) (hini : Cond.initialized "java/lang/Math" ∈ lw_all) (hcode : Cond.code Lib.Math.max.name Lib.Math.max.code 2 (some .int) ∈ lw_all) (hR : 1 ≤ R.frames ∧ 23 ≤ R.locals) (hf : cells ≤ R.cells ∧ slots ≤ R.slots) (hW : (rest.map fun v => v.category).sum ≤ 8) (d : decode cc pc = .ok (.invokestatic index, 3))
    (kk : W p l e R s m args below meth c H locs cells slots Q (F0 m (pc + 3) ls (.int (iI (max x y)) :: rest))) : W p l e R s m args below meth c H locs cells slots Q (F0 m pc ls (.int (iI y) :: .int (iI x) :: rest)) := by
  refine va_mmax hx hb hml hown (hts _ hlink) (hts _ hstat) (hts _ hini) (hts _ hcode) hR.1 (by omega) hf.1 hf.2 d ?_
  have e9 : (if iI x < iI y then iI y else iI x) = iI (max x y) := by
    by_cases q : x < y
    · rw [if_pos ((iI_lt h1 hy).mpr q), show max x y = y by omega]
    · rw [if_neg (fun z => q ((iI_lt h1 hy).mp z)), show max x y = x by omega]
  rw [e9]
  exact kk
theorem n_mabs (hx : p.tables.exec = Jvm.exec) (hb : c.code = cc) (hts : ∀ w ∈ lw_all, w.before args s = true) (hml : c.maxLocals = ls.size) (hown : s.vm.findClass own = some m.cls) {x : Int} (h1 : R32 x) (hlink : Cond.methodLink own index Lib.Math.abs.name ∈ lw_all) (hstat : Cond.static Lib.Math.abs.name ∈ lw_all) (hini : Cond.initialized "java/lang/Math" ∈ lw_all) (hcode : Cond.code Lib.Math.abs.name Lib.Math.abs.code 1 (some .int) ∈ lw_all) (hR : 1 ≤ R.frames ∧ 23 ≤ R.locals) (hf : cells ≤ R.cells ∧ slots ≤ R.slots) (hW : (rest.map fun v => v.category).sum ≤ 8) (d : decode cc pc = .ok (.invokestatic index, 3))
    (kk : W p l e R s m args below meth c H locs cells slots Q (F0 m (pc + 3) ls (.int (iI (if x < 0 then -x else x)) :: rest))) : W p l e R s m args below meth c H locs cells slots Q (F0 m pc ls (.int (iI x) :: rest)) := by
  refine va_mabs hx hb hml hown (hts _ hlink) (hts _ hstat) (hts _ hini) (hts _ hcode) hR.1 (by omega) hf.1 hf.2 d ?_
  have e9 : (if 0 ≤ iI x then iI x else 0 - iI x) = iI (if x < 0 then -x else x) := by
    have e0 : (0 : Int32) = iI 0 := rfl
    rw [e0]
    by_cases q : x < 0
    · rw [if_neg (fun z => by have := (iI_le (a := 0) (by unfold R32; omega) h1).mp z; omega), if_pos q, iI_sub, show 0 - x = -x by omega]
    · rw [if_pos ((iI_le (a := 0) (by unfold R32; omega) h1).mpr (by omega)), if_neg q]
  rw [e9]
  exact kk
theorem n_mminL (hx : p.tables.exec = Jvm.exec) (hb : c.code = cc) (hts : ∀ w ∈ lw_all, w.before args s = true) (hml : c.maxLocals = ls.size) (hown : s.vm.findClass own = some m.cls) {x y : Int} (h1 : R64 x) (hy : R64 y) (hlink : Cond.methodLink own index Lib.MathLoose.min_long.x ∈ lw_all) (hstat : Cond.static Lib.MathLoose.min_long.x ∈ lw_all) (hini : Cond.initialized "java/lang/Math" ∈ lw_all) (hcode : Cond.code Lib.MathLoose.min_long.x Lib.MathLoose.min_long.code 4 (some .long) ∈ lw_all) (hR : 1 ≤ R.frames ∧ 23 ≤ R.locals) (hf : cells ≤ R.cells ∧ slots ≤ R.slots) (hW : (rest.map fun v => v.category).sum ≤ 8) (d : decode cc pc = .ok (.invokestatic index, 3))
    (kk : W p l e R s m args below meth c H locs cells slots Q (F0 m (pc + 3) ls (.long (lI (min x y)) :: rest))) : W p l e R s m args below meth c H locs cells slots Q (F0 m pc ls (.long (lI y) :: .long (lI x) :: rest)) := by
  refine va_mmin_long hx hb hml hown (hts _ hlink) (hts _ hstat) (hts _ hini) (hts _ hcode) hR.1 (by omega) hf.1 hf.2 d ?_
  have e9 : (if lI y < lI x then lI y else lI x) = lI (min x y) := by
    by_cases q : y < x
    · rw [if_pos ((lI_lt hy h1).mpr q), show min x y = y by omega]
    · rw [if_neg (fun z => q ((lI_lt hy h1).mp z)), show min x y = x by omega]
  rw [e9]
  exact kk
theorem n_mmaxL (hx : p.tables.exec = Jvm.exec) (hb : c.code = cc) (hts : ∀ w ∈ lw_all, w.before args s = true) (hml : c.maxLocals = ls.size) (hown : s.vm.findClass own = some m.cls) {x y : Int} (h1 : R64 x) (hy : R64 y) (hlink : Cond.methodLink own index Lib.MathLoose.max_long.x ∈ lw_all) (hstat : Cond.static Lib.MathLoose.max_long.x ∈ lw_all) (hini : Cond.initialized "java/lang/Math" ∈ lw_all) (hcode : Cond.code Lib.MathLoose.max_long.x Lib.MathLoose.max_long.code 4 (some .long) ∈ lw_all) (hR : 1 ≤ R.frames ∧ 23 ≤ R.locals) (hf : cells ≤ R.cells ∧ slots ≤ R.slots) (hW : (rest.map fun v => v.category).sum ≤ 8) (d : decode cc pc = .ok (.invokestatic index, 3))
    (kk : W p l e R s m args below meth c H locs cells slots Q (F0 m (pc + 3) ls (.long (lI (max x y)) :: rest))) : W p l e R s m args below meth c H locs cells slots Q (F0 m pc ls (.long (lI y) :: .long (lI x) :: rest)) := by
  refine va_mmax_long hx hb hml hown (hts _ hlink) (hts _ hstat) (hts _ hini) (hts _ hcode) hR.1 (by omega) hf.1 hf.2 d ?_
  have e9 : (if lI y < lI x then lI x else lI y) = lI (max x y) := by
    by_cases q : y < x
    · rw [if_pos ((lI_lt hy h1).mpr q), show max x y = x by omega]
    · rw [if_neg (fun z => q ((lI_lt hy h1).mp z)), show max x y = y by omega]
  rw [e9]
  exact kk
end MM
def ClauseAt (G : MG) (n : Nat) (N : Hp) (a : Nat) (cl : Cl) : Prop := ∃ so te, N a = some (oB 18 [.int (iI (cl.1 - 1)), va_rf so, va_rf te, .long (lI 0)]) ∧ (1 ≤ cl.1 ∧ cl.1 ≤ 5) ∧ ((so = none ∧ cl.2.1 = none) ∨ ∃ q f, so = some q ∧ cl.2.1 = some f ∧ SumAt n N q f) ∧ ((te = none ∧ cl.2.2 = none) ∨ ∃ q f, te = some q ∧ cl.2.2 = some f ∧ TestAt G n N q f)
def TextAt (G : MG) (n : Nat) (N : Hp) (a : Nat) (l : List Cl) : Prop := ∃ (ar k : Nat) (F : Int → Option Nat), N a = some (oB 19 [.ref ar]) ∧ N ar = some (aQ (G.2.1 11) k F) ∧ k = l.length ∧ k ≤ 12 ∧ ∀ i : Nat, i < k → ∃ q, F i = some q ∧ ClauseAt G n N q (l.getD i cl0)
theorem clH_y {cl : Cl} {g : Int → Int} {so te : Option Mean} (hs : cl.2.1 = so) (ht : cl.2.2 = te) (h1 : ∀ f, so = some f → ∃ v, f g = some v) (h2 : ∀ f, te = some f → f g = some 1) : clH cl g = 1 := by
  unfold clH
  rw [hs, ht]
  refine if_pos ⟨?_, ?_⟩
  · cases so with
    | none => rfl
    | some f => obtain ⟨v, e⟩ := h1 f rfl; show (f g).isSome = true; rw [e]; rfl
  · cases te with
    | none => rfl
    | some f => show (f g == some 1) = true; rw [h2 f rfl]; rfl
theorem clH_ns {cl : Cl} {g : Int → Int} {f : Mean} (hs : cl.2.1 = some f) (h : f g = none) : clH cl g = 0 := by
  unfold clH
  refine if_neg (fun q => ?_)
  have q1 := q.1
  rw [hs] at q1
  have q1 : (f g).isSome = true := q1
  rw [h] at q1
  cases q1
theorem clH_nt {cl : Cl} {g : Int → Int} {f : Mean} (ht : cl.2.2 = some f) (h : f g ≠ some 1) : clH cl g = 0 := by
  unfold clH
  refine if_neg (fun q => ?_)
  have q1 := q.2
  rw [ht] at q1
  have q1 : (f g == some 1) = true := q1
  exact h (by simpa using q1)
theorem clS_0 {cl : Cl} {g : Int → Int} (hs : cl.2.1 = none) : clS cl g = 0 := by
  unfold clS
  rw [hs]
  rfl
theorem clS_v {cl : Cl} {g : Int → Int} {f : Mean} {v : Int} (hs : cl.2.1 = some f) (h : f g = some v) : clS cl g = v := by
  unfold clS
  rw [hs]
  show vOf f g = v
  unfold vOf
  rw [h]
  rfl
theorem ClauseAt_S {G : MG} {n : Nat} {N : Hp} {a : Nat} {cl : Cl} {g : Int → Int} (h : ClauseAt G n N a cl) (hg : caseOK g) : -1000000000 ≤ clS cl g ∧ clS cl g ≤ 1000000000 := by
  obtain ⟨so, te, -, -, hs, -⟩ := h
  rcases hs with ⟨-, h1⟩ | ⟨q, f, -, h1, h2⟩
  · rw [clS_0 h1]; exact ⟨by decide, by decide⟩
  · unfold clS
    rw [h1]
    exact vOf_r (SumAt_B hg h2)
/-- the odds before they are bounded -/
def xoN (l : List Cl) (a : Int → Int) : Nat → Int
  | 0 => 0
  | n + 1 => if hoN l a n = 1 ∧ hdN l n ≤ 3 then (if hdN l n = 1 then 0 else if hdN l n = 2 then 100 else saN l a n) else xoN l a n
theorem xoN_e {l : List Cl} {a : Int → Int} {i : Int} (h : 0 ≤ i) : xoN l a (i + 1).toNat = if hoN l a i.toNat = 1 ∧ hdN l i.toNat ≤ 3 then (if hdN l i.toNat = 1 then 0 else if hdN l i.toNat = 2 then 100 else saN l a i.toNat) else xoN l a i.toNat := by
  rw [show (i + 1).toNat = i.toNat + 1 by omega, xoN]
theorem xoN_n {l : List Cl} {a : Int → Int} : ∀ n : Nat, nearI (xoN l a n) 100 = oddN l a n
  | 0 => rfl
  | n + 1 => by
    rw [xoN, oddN]
    (repeat' split) <;> first | rfl | exact xoN_n n
theorem xoN_r {l : List Cl} {a : Int → Int} (h : ∀ n, -1000000000 ≤ saN l a n ∧ saN l a n ≤ 1000000000) : ∀ n : Nat, -1000000000 ≤ xoN l a n ∧ xoN l a n ≤ 1000000000
  | 0 => ⟨by show (-1000000000 : Int) ≤ 0; decide, by show (0 : Int) ≤ 1000000000; decide⟩
  | n + 1 => by
    have ih := xoN_r h n
    have := h n
    rw [xoN]
    (repeat' split) <;> omega
theorem near_mm {v m : Int} (h : 0 ≤ m) : max 0 (min m v) = nearI v m := by
  unfold nearI
  (repeat' split) <;> omega
theorem TextAt_S {G : MG} {n : Nat} {N : Hp} {a : Nat} {l : List Cl} {g : Int → Int} (h : TextAt G n N a l) (hg : caseOK g) (i : Nat) : -1000000000 ≤ saN l g i ∧ saN l g i ≤ 1000000000 := by
  obtain ⟨ar, k, F, -, -, hk, -, h4⟩ := h
  by_cases q : i < k
  · obtain ⟨y, -, hy⟩ := h4 i q
    exact ClauseAt_S hy hg
  · have e : l.getD i cl0 = cl0 := by
      rw [List.getD_eq_getElem?_getD, List.getElem?_eq_none (by omega)]
      rfl
    unfold saN
    rw [e]
    exact ⟨by show (-1000000000 : Int) ≤ 0; decide, by show (0 : Int) ≤ 1000000000; decide⟩
