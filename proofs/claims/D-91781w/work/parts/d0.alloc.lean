/-! making objects and arrays; references stored and copied -/
theorem va_RA_u {U : State} {c1 c2 : ClassId} {ty : FieldType} (h1 : va_RA U c1 ty) (h2 : va_RA U c2 ty) : c1 = c2 := by
  unfold va_RA at h1 h2
  cases ty with
  | object C =>
    obtain ⟨_, _, _, _, _, e1⟩ := h1
    obtain ⟨_, _, _, _, _, e2⟩ := h2
    exact Option.some.inj (e1.symm.trans e2)
  | _ => exact Option.some.inj (h1.symm.trans h2)
theorem hv_fresh {h : Hp} {ws : va_W} {A : Nat → Prop} {q : Nat} {e : va_E} (hR : Rl h ws) (hD : va_D A (ws ++ [(q, e)])) : h q = none := by
  cases z : h q with
  | none => rfl
  | some x =>
    obtain ⟨k, hk⟩ := (hR q x).mp z
    have hl := (List.getElem?_eq_some_iff.mp hk).1
    have := hD.1 k ws.length (q, x) (q, e) (by rw [List.getElem?_append_left hl]; exact hk) (by simp) rfl
    omega
def cpZ {α : Type} (f g : Int → α) (sp dp n : Int) : Int → α := fun i => if dp ≤ i ∧ i < dp + n then f (sp + (i - dp)) else g i
theorem cpZ_f {α β : Type} {f g : Int → α} {sp dp n : Int} (u : α → β) (h1 : 0 ≤ sp) (h2 : 0 ≤ dp) (h3 : 0 ≤ n) : va_cpy (fun (j : Nat) => u (f (j : Int))) (fun (j : Nat) => u (g (j : Int))) sp.toNat dp.toNat n.toNat = fun (j : Nat) => u (cpZ f g sp dp n (j : Int)) := by
  funext k
  unfold va_cpy cpZ
  by_cases q : dp.toNat ≤ k ∧ k < dp.toNat + n.toNat
  · rw [if_pos q, if_pos (by omega)]
    show u (f ((sp.toNat + (k - dp.toNat) : Nat) : Int)) = _
    rw [show ((sp.toNat + (k - dp.toNat) : Nat) : Int) = sp + ((k : Int) - dp) by omega]
  · rw [if_neg q, if_neg (by omega)]
theorem iI_n0 {z : Int} (h0 : 0 ≤ z) (h : z < 2147483648) : ¬ iI z < 0 := by
  rw [show (0 : Int32) = iI 0 from rfl, iI_lt ⟨by omega, by omega⟩ ⟨by omega, by omega⟩]
  omega
section ALC
variable {p : Program} {l : Launch} {e : Env} {R : Room} {s : State} {m : MethodId} {args : Array Value} {below : List Frame} {meth : Method} {c : Code} {H : Heap} {locs : List Loc} {cells slots : Nat} {Q : State → Prop}
variable {cc : ByteArray} {pc : Nat} {ls : Array Slot} {rest : List Value} {G : MG} {A : Nat → Prop} {a : Nat} {h M : Hp} {H0 : Heap} {own : String} {index : Nat}
theorem g_new {C : String} {T : u_T} {N ci : Nat} (hx : p.tables.exec = Jvm.exec) (hb : c.code = cc) (hts : ∀ w ∈ lw_all, w.before args s = true) (hin : ∀ w ∈ u_ws C T N, w ∈ lw_all) (ty0 : Nat → FieldType) (hty : ∀ k, k < N → parseFieldDescriptor (T k).2.2.1 = some (ty0 k)) (hown : s.vm.findClass own = some m.cls) (hcl : (Cond.classLink own index C) ∈ lw_all) (hinst : (Cond.instantiable C N) ∈ lw_all) (hini : (Cond.initialized C) ∈ lw_all) (hK : va_K G.1 clA (tyA G.2.1) s) (hH : HV G.1 clA A h H0 H locs) (hA : ∀ q, H0.size ≤ q → A q) (hc : clA[ci]? = some (C, T, N)) (fs : List Value) (hfs : ∀ j, j < N → defaultValue (ty0 j) = vp_V fs j) (hcells : cells + 1 ≤ R.cells) (hslots : slots + N ≤ R.slots) (d : decode cc pc = .ok (.new index, 3))
    (kk : ∀ (q : Nat) (H1 : Heap), h q = none → HV G.1 clA A (hs h q (oB ci fs)) H0 H1 locs → W p l e R s m args below meth c H1 locs (cells + 1) (slots + N) Q (F0 m (pc + 3) ls (.ref q :: rest))) : W p l e R s m args below meth c H locs cells slots Q (F0 m pc ls rest) := by
  obtain ⟨⟨ws, hR, hP, hD⟩, hS⟩ := hH
  refine va_new (ci := ci) (fs := fs) hx hb hts hin ty0 hty hown (hts _ hcl) (hts _ hinst) (hts _ hini) hK hP hD hS hA hc hfs hcells hslots d (fun q H1 hP1 hD1 hS1 => ?_)
  have hq := hv_fresh hR hD1
  exact kk q H1 hq ⟨⟨_, hR.push hq, hP1, hD1⟩, hS1⟩
theorem x_new {C : String} {T : u_T} {N ci : Nat} (hx : p.tables.exec = Jvm.exec) (hb : c.code = cc) (hts : ∀ w ∈ lw_all, w.before args s = true) (hin : ∀ w ∈ u_ws C T N, w ∈ lw_all) (ty0 : Nat → FieldType) (hty : ∀ k, k < N → parseFieldDescriptor (T k).2.2.1 = some (ty0 k)) (hown : s.vm.findClass own = some m.cls) (hcl : (Cond.classLink own index C) ∈ lw_all) (hinst : (Cond.instantiable C N) ∈ lw_all) (hini : (Cond.initialized C) ∈ lw_all) (hK : va_K G.1 clA (tyA G.2.1) s) (hH : XV G A M H0 H locs) (hA : ∀ q, H0.size ≤ q → A q) (hc : clA[ci]? = some (C, T, N)) (fs : List Value) (hfs : ∀ j, j < N → defaultValue (ty0 j) = vp_V fs j) (he : eN (oB ci fs) = oB ci fs) (hcells : cells + 1 ≤ R.cells) (hslots : slots + N ≤ R.slots) (d : decode cc pc = .ok (.new index, 3))
    (kk : ∀ (q : Nat) (H1 : Heap), M q = none → XV G A (hs M q (oB ci fs)) H0 H1 locs → W p l e R s m args below meth c H1 locs (cells + 1) (slots + N) Q (F0 m (pc + 3) ls (.ref q :: rest))) : W p l e R s m args below meth c H locs cells slots Q (F0 m pc ls rest) := by
  obtain ⟨⟨h, hn, hV⟩, hS⟩ := hH
  refine g_new (H0 := H0) (locs := locs) hx hb hts hin ty0 hty hown hcl hinst hini hK ⟨hV, hS⟩ hA hc fs hfs hcells hslots d (fun q H1 hq hH1 => kk q H1 (by rw [← hn]; exact nF hq) ⟨⟨_, by rw [hN_set, hn, he], hH1.1⟩, hH1.2⟩)
theorem g_newa {atype : ArrayType} {ty : FieldType} (t0 : Nat) {N : Nat} {a0 : vp_A} (hx : p.tables.exec = Jvm.exec) (hb : c.code = cc) (hts : ∀ w ∈ lw_all, w.before args s = true) (hty : newarray.typeOf atype = ty) (harr : (Cond.arrayClass ty) ∈ lw_all) (hK : va_K G.1 clA (tyA G.2.1) s) (hH : HV G.1 clA A h H0 H locs) (hA : ∀ q, H0.size ≤ q → A q) (ht : (tyA G.2.1)[t0]? = some (G.2.1 t0, ty)) (ha : ∀ cA : ClassId, vp_cell cA a0 = arrV cA N (fun _ => defaultValue ty)) {n : Int} (hn : n = (N : Int)) (hN : N < 100000) (hbytes : N * componentBytes ty ≤ 536870912) (hcells : cells + 1 ≤ R.cells) (hslots : slots + N ≤ R.slots) (d : decode cc pc = .ok (.newarray atype, 2))
    (kk : ∀ (q : Nat) (H1 : Heap), h q = none → HV G.1 clA A (hs h q (.inl (G.2.1 t0, a0))) H0 H1 locs → W p l e R s m args below meth c H1 locs (cells + 1) (slots + N) Q (F0 m (pc + 2) ls (.ref q :: rest))) : W p l e R s m args below meth c H locs cells slots Q (F0 m pc ls (.int (iI n) :: rest)) := by
  obtain ⟨⟨ws, hR, hP, hD⟩, hS⟩ := hH
  refine va_newa (atype := atype) (ty := ty) (N' := N) (a0 := a0) hx hb (by rw [hty]; exact hts _ harr) hty hK hP hD hS hA ha (iI_n0 (by omega) (by omega)) (by rw [iI_cl (by omega) (by omega)]; omega) hbytes hcells hslots d (fun q cA H1 hK1 hP1 hD1 hS1 => ?_)
  have e1 : cA = G.2.1 t0 := va_RA_u (hK1.2 (tyA G.2.1).length (cA, ty) (by simp)).2 (hK.2 t0 _ ht).2
  subst e1
  have hq := hv_fresh hR hD1
  exact kk q H1 hq ⟨⟨_, hR.push hq, hP1, hD1⟩, hS1⟩
theorem x_newa {atype : ArrayType} {ty : FieldType} (t0 : Nat) {N : Nat} (a0 : vp_A) (hx : p.tables.exec = Jvm.exec) (hb : c.code = cc) (hts : ∀ w ∈ lw_all, w.before args s = true) (hty : newarray.typeOf atype = ty) (harr : (Cond.arrayClass ty) ∈ lw_all) (hK : va_K G.1 clA (tyA G.2.1) s) (hH : XV G A M H0 H locs) (hA : ∀ q, H0.size ≤ q → A q) (ht : (tyA G.2.1)[t0]? = some (G.2.1 t0, ty)) (ha : ∀ cA : ClassId, vp_cell cA a0 = arrV cA N (fun _ => defaultValue ty)) {n : Int} (hn : n = (N : Int)) (hN : N < 100000) (hbytes : N * componentBytes ty ≤ 536870912) (hcells : cells + 1 ≤ R.cells) (hslots : slots + N ≤ R.slots) (d : decode cc pc = .ok (.newarray atype, 2))
    (kk : ∀ (q : Nat) (H1 : Heap), M q = none → XV G A (hs M q (.inl (G.2.1 t0, a0))) H0 H1 locs → W p l e R s m args below meth c H1 locs (cells + 1) (slots + N) Q (F0 m (pc + 2) ls (.ref q :: rest))) : W p l e R s m args below meth c H locs cells slots Q (F0 m pc ls (.int (iI n) :: rest)) := by
  obtain ⟨⟨h, hn1, hV⟩, hS⟩ := hH
  exact g_newa (H0 := H0) (locs := locs) t0 hx hb hts hty harr hK ⟨hV, hS⟩ hA ht ha hn hN hbytes hcells hslots d (fun q H1 hq hH1 => kk q H1 (by rw [← hn1]; exact nF hq) ⟨⟨_, by rw [hN_set, hn1, eN_a], hH1.1⟩, hH1.2⟩)
theorem g_newq {C : String} (t0 : Nat) {N : Nat} (hx : p.tables.exec = Jvm.exec) (hb : c.code = cc) (hts : ∀ w ∈ lw_all, w.before args s = true) (hown : s.vm.findClass own = some m.cls) (hcl : (Cond.classLink own index C) ∈ lw_all) (hover : va_AO C s) (hK : va_K G.1 clA (tyA G.2.1) s) (hH : HV G.1 clA A h H0 H locs) (hA : ∀ q, H0.size ≤ q → A q) (ht : (tyA G.2.1)[t0]? = some (G.2.1 t0, .object C)) {n : Int} (hn : n = (N : Int)) (hN : N < 100000) (hcells : cells + 1 ≤ R.cells) (hslots : slots + N ≤ R.slots) (d : decode cc pc = .ok (.anewarray index, 3))
    (kk : ∀ (q : Nat) (H1 : Heap), h q = none → HV G.1 clA A (hs h q (aQ (G.2.1 t0) N (fun _ => none))) H0 H1 locs → W p l e R s m args below meth c H1 locs (cells + 1) (slots + N) Q (F0 m (pc + 3) ls (.ref q :: rest))) : W p l e R s m args below meth c H locs cells slots Q (F0 m pc ls (.int (iI n) :: rest)) := by
  obtain ⟨⟨ws, hR, hP, hD⟩, hS⟩ := hH
  refine va_newq (C := C) (N' := N) hx hb hown (hts _ hcl) hover hK hP hD hS hA (iI_n0 (by omega) (by omega)) (by rw [iI_cl (by omega) (by omega)]; omega) (by omega) hcells hslots d (fun q cA H1 hK1 hP1 hD1 hS1 => ?_)
  have e1 : cA = G.2.1 t0 := va_RA_u (hK1.2 (tyA G.2.1).length (cA, .object C) (by simp)).2 (hK.2 t0 _ ht).2
  subst e1
  have hq := hv_fresh hR hD1
  exact kk q H1 hq ⟨⟨_, hR.push hq, hP1, hD1⟩, hS1⟩
theorem x_newq {C : String} (t0 : Nat) {N : Nat} (hx : p.tables.exec = Jvm.exec) (hb : c.code = cc) (hts : ∀ w ∈ lw_all, w.before args s = true) (hown : s.vm.findClass own = some m.cls) (hcl : (Cond.classLink own index C) ∈ lw_all) (hXN : XN s) (hov : Cond.arrayOver (.object C) ∈ lw_tbl) (hK : va_K G.1 clA (tyA G.2.1) s) (hH : XV G A M H0 H locs) (hA : ∀ q, H0.size ≤ q → A q) (ht : (tyA G.2.1)[t0]? = some (G.2.1 t0, .object C)) {n : Int} (hn : n = (N : Int)) (hN : N < 100000) (hcells : cells + 1 ≤ R.cells) (hslots : slots + N ≤ R.slots) (d : decode cc pc = .ok (.anewarray index, 3))
    (kk : ∀ (q : Nat) (H1 : Heap), M q = none → XV G A (hs M q (aQ (G.2.1 t0) N (fun _ => none))) H0 H1 locs → W p l e R s m args below meth c H1 locs (cells + 1) (slots + N) Q (F0 m (pc + 3) ls (.ref q :: rest))) : W p l e R s m args below meth c H locs cells slots Q (F0 m pc ls (.int (iI n) :: rest)) := by
  obtain ⟨⟨h, hn1, hV⟩, hS⟩ := hH
  exact g_newq (H0 := H0) (locs := locs) t0 hx hb hts hown hcl (hXN.2 _ hov) hK ⟨hV, hS⟩ hA ht hn hN hcells hslots d (fun q H1 hq hH1 => kk q H1 (by rw [← hn1]; exact nF hq) ⟨⟨_, by rw [hN_set, hn1]; rfl, hH1.1⟩, hH1.2⟩)
/-- an object of class r may lie in a row of E -/
def inRow (r E : String) : Prop := r = E ∨ Cond.castable r E ∈ lw_tbl
theorem inRow_a {ci : Nat} {r : vw_C} {E : String} {args : Array Value} (hK : va_K G.1 clA (tyA G.2.1) s) (hXN : XN s) (hc : clA[ci]? = some r) (h : inRow r.1 E) : ∀ comp c0 : ClassId, s.vm.findClass E = some comp → s.vm.findClass r.1 = some c0 → s.vm.assignable c0 comp = true := by
  intro comp c0 h1 h2
  have hcls := (hK.1 ci r hc).2
  rcases h with z | z
  · rw [← z] at h1
    cases h1.symm.trans h2
    cases hcls.1.symm.trans h2
    exact va_assign hcls
  · obtain ⟨c1, t1, f1, f2, f3⟩ := Cond.castable_spec (va_Nw.use (A := args) rfl (hXN.1 _ z rfl))
    cases h1.symm.trans f2
    cases h2.symm.trans f1
    exact f3
theorem g_aast {ci t0 v n : Nat} {r : vw_C} {E : String} {vs : List Value} {f : Int → Option Nat} (hx : p.tables.exec = Jvm.exec) (hb : c.code = cc) (hK : va_K G.1 clA (tyA G.2.1) s) (hXN : XN s) (hH : HV G.1 clA A h H0 H locs) (ha : h a = some (aQ (G.2.1 t0) n f)) (ht : (tyA G.2.1)[t0]? = some (G.2.1 t0, .object E)) (hv : h v = some (oB ci vs)) (hc : clA[ci]? = some r) (hr : inRow r.1 E) {i : Int} (h0 : 0 ≤ i) (hi : i < n) (hn : n < 2147483648) (d : decode cc pc = .ok (.aastore, 1))
    (kk : ∀ (H1 : Heap) (locs1 : List Loc), HV G.1 clA A (hs h a (aQ (G.2.1 t0) n (upq f i (some v)))) H0 H1 locs1 → W p l e R s m args below meth c H1 locs1 cells slots Q (F0 m (pc + 1) ls rest)) : W p l e R s m args below meth c H locs cells slots Q (F0 m pc ls (.ref v :: .int (iI i) :: .ref a :: rest)) := by
  obtain ⟨⟨ws, hR, hP, hD⟩, hS⟩ := hH
  obtain ⟨q0, hq⟩ := (hR _ _).mp ha
  obtain ⟨qk, hqk⟩ := (hR _ _).mp hv
  refine va_astqM hx hb hK hP hD hS q0 t0 hq ht (va_rAny hK hP hqk hc (inRow_a (args := args) hK hXN hc hr)) (iI_vp h0 hi hn) d fun H1 locs1 hP1 hD1 hS1 => kk H1 locs1 ⟨⟨_, hR.set hD hq, ?_, ?_⟩, hS1⟩
  · rw [up_fq h0 (by omega)] at hP1; exact hP1
  · rw [up_fq h0 (by omega)] at hD1; exact hD1
theorem x_aast {ci t0 v n : Nat} {r : vw_C} {E : String} {vs : List Value} {f : Int → Option Nat} (hx : p.tables.exec = Jvm.exec) (hb : c.code = cc) (hK : va_K G.1 clA (tyA G.2.1) s) (hXN : XN s) (hH : XV G A M H0 H locs) (ha : M a = some (aQ (G.2.1 t0) n f)) (ht : (tyA G.2.1)[t0]? = some (G.2.1 t0, .object E)) (hv : M v = some (oB ci vs)) (hc : clA[ci]? = some r) (hr : inRow r.1 E) {i : Int} (h0 : 0 ≤ i) (hi : i < n) (hn : n < 2147483648) (d : decode cc pc = .ok (.aastore, 1))
    (kk : ∀ (H1 : Heap) (locs1 : List Loc), XV G A (hs M a (aQ (G.2.1 t0) n (upq f i (some v)))) H0 H1 locs1 → W p l e R s m args below meth c H1 locs1 cells slots Q (F0 m (pc + 1) ls rest)) : W p l e R s m args below meth c H locs cells slots Q (F0 m pc ls (.ref v :: .int (iI i) :: .ref a :: rest)) := by
  obtain ⟨⟨h, hn1, hV⟩, hS⟩ := hH
  obtain ⟨fs0, h2, -⟩ := nX hn1 hv
  exact g_aast (H0 := H0) (locs := locs) hx hb hK hXN ⟨hV, hS⟩ (nA hn1 ha) ht h2 hc hr h0 hi hn d (fun H1 locs1 hH1 => kk H1 locs1 ⟨⟨_, by rw [hN_set, hn1]; rfl, hH1.1⟩, hH1.2⟩)
theorem g_copyi {a0 n0 n1 : Nat} {f g : Int → Int} (hx : p.tables.exec = Jvm.exec) (hb : c.code = cc) (hts : ∀ w ∈ lw_all, w.before args s = true) (hml : c.maxLocals = ls.size) (hown : s.vm.findClass own = some m.cls) (hlink : (Cond.methodLink own index arraycopyName) ∈ lw_all) (hnat : (Cond.native arraycopyName) ∈ lw_all) (hstat : (Cond.static arraycopyName) ∈ lw_all) (hini : (Cond.initialized "java/lang/System") ∈ lw_all) (hK : va_K G.1 clA (tyA G.2.1) s) (hH : HV G.1 clA A h H0 H locs) (ha0 : h a0 = some (aI (G.2.1 0) n0 f)) (ha1 : h a = some (aI (G.2.1 0) n1 g)) {sp dp n : Int} (h1 : 0 ≤ sp) (h2 : 0 ≤ dp) (h3 : 0 ≤ n) (h4 : sp + n ≤ n0) (h5 : dp + n ≤ n1) (h6 : n0 < 100000 ∧ n1 < 100000) (hframes : 1 ≤ R.frames) (hlocals : (rest.map fun v => v.category).sum + (nativeFrameWords "java/lang/System" "arraycopy" 5 + 11) ≤ R.locals) (d : decode cc pc = .ok (.invokestatic index, 3))
    (kk : ∀ (H1 : Heap) (locs1 : List Loc), HV G.1 clA A (hs h a (aI (G.2.1 0) n1 (cpZ f g sp dp n))) H0 H1 locs1 → W p l e R s m args below meth c H1 locs1 cells slots Q (F0 m (pc + 3) ls rest)) : W p l e R s m args below meth c H locs cells slots Q (F0 m pc ls (.int (iI n) :: .int (iI dp) :: .ref a :: .int (iI sp) :: .ref a0 :: rest)) := by
  obtain ⟨⟨ws, hR, hP, hD⟩, hS⟩ := hH
  obtain ⟨q0, hq0⟩ := (hR _ _).mp ha0
  obtain ⟨q1, hq1⟩ := (hR _ _).mp ha1
  have c1 : (iI sp).toNatClampNeg = sp.toNat := iI_cl h1 (by omega)
  have c2 : (iI dp).toNatClampNeg = dp.toNat := iI_cl h2 (by omega)
  have c3 : (iI n).toNatClampNeg = n.toNat := iI_cl h3 (by omega)
  refine va_copyi (ty := .int) hx hb hml hown (hts _ hlink) (hts _ hnat) (hts _ hstat) (hts _ hini) hK hP hD hS q0 q1 0 0 hq0 hq1 rfl rfl rfl (iI_n0 h1 (by omega)) (iI_n0 h2 (by omega)) (iI_n0 h3 (by omega)) (by rw [c1, c3]; omega) (by rw [c2, c3]; omega) (fun _ _ => rfl) hframes hlocals d fun H1 locs1 hP1 hD1 hS1 => kk H1 locs1 ⟨⟨_, hR.set hD hq1, ?_, ?_⟩, hS1⟩
  · rw [c1, c2, c3, cpZ_f iI h1 h2 h3] at hP1; exact hP1
  · rw [c1, c2, c3, cpZ_f iI h1 h2 h3] at hD1; exact hD1
theorem x_copyi {a0 n0 n1 : Nat} {f g : Int → Int} (hx : p.tables.exec = Jvm.exec) (hb : c.code = cc) (hts : ∀ w ∈ lw_all, w.before args s = true) (hml : c.maxLocals = ls.size) (hown : s.vm.findClass own = some m.cls) (hlink : (Cond.methodLink own index arraycopyName) ∈ lw_all) (hnat : (Cond.native arraycopyName) ∈ lw_all) (hstat : (Cond.static arraycopyName) ∈ lw_all) (hini : (Cond.initialized "java/lang/System") ∈ lw_all) (hK : va_K G.1 clA (tyA G.2.1) s) (hH : XV G A M H0 H locs) (ha0 : M a0 = some (aI (G.2.1 0) n0 f)) (ha1 : M a = some (aI (G.2.1 0) n1 g)) {sp dp n : Int} (h1 : 0 ≤ sp) (h2 : 0 ≤ dp) (h3 : 0 ≤ n) (h4 : sp + n ≤ n0) (h5 : dp + n ≤ n1) (h6 : n0 < 100000 ∧ n1 < 100000) (hframes : 1 ≤ R.frames) (hlocals : (rest.map fun v => v.category).sum + (nativeFrameWords "java/lang/System" "arraycopy" 5 + 11) ≤ R.locals) (d : decode cc pc = .ok (.invokestatic index, 3))
    (kk : ∀ (H1 : Heap) (locs1 : List Loc), XV G A (hs M a (aI (G.2.1 0) n1 (cpZ f g sp dp n))) H0 H1 locs1 → W p l e R s m args below meth c H1 locs1 cells slots Q (F0 m (pc + 3) ls rest)) : W p l e R s m args below meth c H locs cells slots Q (F0 m pc ls (.int (iI n) :: .int (iI dp) :: .ref a :: .int (iI sp) :: .ref a0 :: rest)) := by
  obtain ⟨⟨h, hn1, hV⟩, hS⟩ := hH
  exact g_copyi (H0 := H0) (locs := locs) hx hb hts hml hown hlink hnat hstat hini hK ⟨hV, hS⟩ (nA hn1 ha0) (nA hn1 ha1) h1 h2 h3 h4 h5 h6 hframes hlocals d (fun H1 locs1 hH1 => kk H1 locs1 ⟨⟨_, by rw [hN_set, hn1]; rfl, hH1.1⟩, hH1.2⟩)
theorem g_copyq {a0 n0 n1 t0 t1 : Nat} {E0 E1 : String} {f g : Int → Option Nat} (hx : p.tables.exec = Jvm.exec) (hb : c.code = cc) (hts : ∀ w ∈ lw_all, w.before args s = true) (hml : c.maxLocals = ls.size) (hown : s.vm.findClass own = some m.cls) (hlink : (Cond.methodLink own index arraycopyName) ∈ lw_all) (hnat : (Cond.native arraycopyName) ∈ lw_all) (hstat : (Cond.static arraycopyName) ∈ lw_all) (hini : (Cond.initialized "java/lang/System") ∈ lw_all) (hK : va_K G.1 clA (tyA G.2.1) s) (hXN : XN s) (hH : HV G.1 clA A h H0 H locs) (ha0 : h a0 = some (aQ (G.2.1 t0) n0 f)) (ha1 : h a = some (aQ (G.2.1 t1) n1 g)) (ht0 : (tyA G.2.1)[t0]? = some (G.2.1 t0, .object E0)) (ht1 : (tyA G.2.1)[t1]? = some (G.2.1 t1, .object E1)) {sp dp n : Int} (h1 : 0 ≤ sp) (h2 : 0 ≤ dp) (h3 : 0 ≤ n) (h4 : sp + n ≤ n0) (h5 : dp + n ≤ n1) (h6 : n0 < 100000 ∧ n1 < 100000) (hel : ∀ i, sp ≤ i → i < sp + n → ∀ y, f i = some y → ∃ (ci : Nat) (fs : List Value) (r : vw_C), h y = some (oB ci fs) ∧ clA[ci]? = some r ∧ inRow r.1 E1) (hframes : 1 ≤ R.frames) (hlocals : (rest.map fun v => v.category).sum + (nativeFrameWords "java/lang/System" "arraycopy" 5 + 11) ≤ R.locals) (d : decode cc pc = .ok (.invokestatic index, 3))
    (kk : ∀ (H1 : Heap) (locs1 : List Loc), HV G.1 clA A (hs h a (aQ (G.2.1 t1) n1 (cpZ f g sp dp n))) H0 H1 locs1 → W p l e R s m args below meth c H1 locs1 cells slots Q (F0 m (pc + 3) ls rest)) : W p l e R s m args below meth c H locs cells slots Q (F0 m pc ls (.int (iI n) :: .int (iI dp) :: .ref a :: .int (iI sp) :: .ref a0 :: rest)) := by
  obtain ⟨⟨ws, hR, hP, hD⟩, hS⟩ := hH
  obtain ⟨q0, hq0⟩ := (hR _ _).mp ha0
  obtain ⟨q1, hq1⟩ := (hR _ _).mp ha1
  have c1 : (iI sp).toNatClampNeg = sp.toNat := iI_cl h1 (by omega)
  have c2 : (iI dp).toNatClampNeg = dp.toNat := iI_cl h2 (by omega)
  have c3 : (iI n).toNatClampNeg = n.toNat := iI_cl h3 (by omega)
  refine va_copyM hx hb hml hown (hts _ hlink) (hts _ hnat) (hts _ hstat) (hts _ hini) hK hP hD hS q0 q1 t0 t1 hq0 hq1 ht0 ht1 (iI_n0 h1 (by omega)) (iI_n0 h2 (by omega)) (iI_n0 h3 (by omega)) (by rw [c1, c3]; omega) (by rw [c2, c3]; omega) (fun i hi y hy => ?_) hframes hlocals d fun H1 locs1 hP1 hD1 hS1 => kk H1 locs1 ⟨⟨_, hR.set hD hq1, ?_, ?_⟩, hS1⟩
  · rw [c3] at hi
    rw [c1] at hy
    obtain ⟨ci, fs, r, g1, g2, g3⟩ := hel ((sp.toNat + i : Nat) : Int) (by omega) (by omega) y hy
    obtain ⟨qk, hqk⟩ := (hR _ _).mp g1
    exact va_rAny hK hP hqk g2 (inRow_a (args := args) hK hXN g2 g3)
  · rw [c1, c2, c3, cpZ_f (fun z => z) h1 h2 h3] at hP1; exact hP1
  · rw [c1, c2, c3, cpZ_f (fun z => z) h1 h2 h3] at hD1; exact hD1
theorem x_copyq {a0 n0 n1 t0 t1 : Nat} {E0 E1 : String} {f g : Int → Option Nat} (hx : p.tables.exec = Jvm.exec) (hb : c.code = cc) (hts : ∀ w ∈ lw_all, w.before args s = true) (hml : c.maxLocals = ls.size) (hown : s.vm.findClass own = some m.cls) (hlink : (Cond.methodLink own index arraycopyName) ∈ lw_all) (hnat : (Cond.native arraycopyName) ∈ lw_all) (hstat : (Cond.static arraycopyName) ∈ lw_all) (hini : (Cond.initialized "java/lang/System") ∈ lw_all) (hK : va_K G.1 clA (tyA G.2.1) s) (hXN : XN s) (hH : XV G A M H0 H locs) (ha0 : M a0 = some (aQ (G.2.1 t0) n0 f)) (ha1 : M a = some (aQ (G.2.1 t1) n1 g)) (ht0 : (tyA G.2.1)[t0]? = some (G.2.1 t0, .object E0)) (ht1 : (tyA G.2.1)[t1]? = some (G.2.1 t1, .object E1)) {sp dp n : Int} (h1 : 0 ≤ sp) (h2 : 0 ≤ dp) (h3 : 0 ≤ n) (h4 : sp + n ≤ n0) (h5 : dp + n ≤ n1) (h6 : n0 < 100000 ∧ n1 < 100000) (hel : ∀ i, sp ≤ i → i < sp + n → ∀ y, f i = some y → ∃ (ci : Nat) (fs : List Value) (r : vw_C), M y = some (oB ci fs) ∧ clA[ci]? = some r ∧ inRow r.1 E1) (hframes : 1 ≤ R.frames) (hlocals : (rest.map fun v => v.category).sum + (nativeFrameWords "java/lang/System" "arraycopy" 5 + 11) ≤ R.locals) (d : decode cc pc = .ok (.invokestatic index, 3))
    (kk : ∀ (H1 : Heap) (locs1 : List Loc), XV G A (hs M a (aQ (G.2.1 t1) n1 (cpZ f g sp dp n))) H0 H1 locs1 → W p l e R s m args below meth c H1 locs1 cells slots Q (F0 m (pc + 3) ls rest)) : W p l e R s m args below meth c H locs cells slots Q (F0 m pc ls (.int (iI n) :: .int (iI dp) :: .ref a :: .int (iI sp) :: .ref a0 :: rest)) := by
  obtain ⟨⟨h, hn1, hV⟩, hS⟩ := hH
  refine g_copyq (H0 := H0) (locs := locs) hx hb hts hml hown hlink hnat hstat hini hK hXN ⟨hV, hS⟩ (nA hn1 ha0) (nA hn1 ha1) ht0 ht1 h1 h2 h3 h4 h5 h6 (fun i i0 i1 y hy => ?_) hframes hlocals d (fun H1 locs1 hH1 => kk H1 locs1 ⟨⟨_, by rw [hN_set, hn1]; rfl, hH1.1⟩, hH1.2⟩)
  obtain ⟨ci, fs, r, g1, g2, g3⟩ := hel i i0 i1 y hy
  obtain ⟨fs0, k1, -⟩ := nX hn1 g1
  exact ⟨ci, fs0, r, k1, g2, g3⟩
end ALC
/-! new cells beside the relation -/
def xw (x : XGh) (q c : Nat) : XGh := (fun y => if y = q then c else gw x y, gI x, gp x, gb x, gf x)
def xi (x : XGh) (q : Nat) (e : va_E) : XGh := (fun y => if y = q then 0 else gw x y, hs (gI x) q e, gp x, gb x, gf x)
theorem Gp_wn {M : Hp} {w w' : Nat → Nat} {c : Nat} {L : List Nat} {B : Nat → Nat} {cell : Nat → va_E} (h : Gp M w c L B cell) {q : Nat} {e : va_E} (hq : ∀ k ∈ L, B k ≠ q) (hw : ∀ y, y ≠ q → w' y = w y) : Gp (hs M q e) w' c L B cell := fun k hk => by
  rw [hs_n (hq k hk), hw _ (hq k hk)]
  exact h k hk
section RXA
variable {G : MG} {M : Hp} {a : Nat} {σ σ' : St} {x x' : XGh} {ω ω' : XCt}
theorem Gp_ne {w : Nat → Nat} {c : Nat} {L : List Nat} {B : Nat → Nat} {cell : Nat → va_E} (h : Gp M w c L B cell) {q : Nat} (hq : M q = none) : ∀ k ∈ L, B k ≠ q := fun k hk z => by
  have := (h k hk).1
  rw [z, hq] at this
  cases this
theorem Gp_nw {w : Nat → Nat} {c : Nat} {L : List Nat} {B : Nat → Nat} {cell : Nat → va_E} (h : Gp M w c L B cell) {q : Nat} (hq : w q < c) : ∀ k ∈ L, B k ≠ q := fun k hk z => by
  have := (h k hk).2
  rw [z] at this
  omega
theorem TextAt_I {I I' : Hp} (h : ∀ q e, I q = some e → I' q = some e) {n y : Nat} {L : List Cl} (g : TextAt G n I y L) : TextAt G n I' y L := TextAt_up h g
theorem RestB_I {b : Nat} {κ : Int → Int} (h : RestB G x ω b κ) (hi : ∀ q e, gI x q = some e → gI x' q = some e) : RestB G x' ω b κ := by
  obtain ⟨h0, h1, h2, h3, h4, h5⟩ := h
  refine ⟨h0, fun k k0 k1 => ?_, fun k k0 k1 => ?_, fun k k0 k1 => ?_, fun k k0 k1 => ?_, ?_⟩
  · obtain ⟨y, e, g⟩ := h1 k k0 k1
    exact ⟨y, e, hi _ _ g⟩
  · obtain ⟨y, e, n, f, g1, g2, g3⟩ := h2 k k0 k1
    exact ⟨y, e, n, f, hi _ _ g1, hi _ _ g2, g3⟩
  · obtain ⟨y, e, n, f, g1, g2, g3⟩ := h3 k k0 k1
    exact ⟨y, e, n, f, hi _ _ g1, hi _ _ g2, g3⟩
  · obtain ⟨y, e, g⟩ := h4 k k0 k1
    exact ⟨y, e, TextAt_up hi g⟩
  · obtain ⟨n1, n2, n3, n4⟩ := h5
    exact ⟨fun k y a b c => by obtain ⟨fs, g⟩ := n1 k y a b c; exact ⟨fs, hi _ _ g⟩, fun k y a b c => by obtain ⟨fs, g⟩ := n2 k y a b c; exact ⟨fs, hi _ _ g⟩, fun k y a b c => by obtain ⟨fs, g⟩ := n3 k y a b c; exact ⟨fs, hi _ _ g⟩, fun k y a b c => by obtain ⟨fs, g⟩ := n4 k y a b c; exact ⟨fs, hi _ _ g⟩⟩
/-- a cell that no group owns: the groups stay -/
theorem BenchAt_q {b q : Nat} {κ : Int → Int} {e : va_E} (h : BenchAt G M x ω b κ) (hq : gw x q < 100 ∨ M q = none) (hw : ∀ y, y ≠ q → gw x' y = gw x y) (hi : ∀ q e, gI x q = some e → gI x' q = some e) (hb : gb x' = gb x) (hf : gf x' = gf x) : BenchAt G (hs M q e) x' ω b κ := by
  obtain ⟨h1, h2, h3⟩ := h
  refine ⟨?_, RestB_I h2 hi, fun f hf1 => ?_⟩
  · have e2 : bcell G κ x' ω b = bcell G κ x ω b := by unfold bcell bF; rw [hb]
    rw [hb, e2]
    exact Gp_wn h1 (hq.elim (fun z => Gp_nw h1 (by omega)) (fun z => Gp_ne h1 z)) hw
  · obtain ⟨f1, f2, f3⟩ := h3 f hf1
    have e2 : fcell G κ x' ω b f = fcell G κ x ω b f := by unfold fcell fF; rw [hf]
    refine ⟨by rw [hf]; exact f1, ?_, f3⟩
    rw [hf, e2]
    exact Gp_wn f2 (hq.elim (fun z => Gp_nw f2 (by omega)) (fun z => Gp_ne f2 z)) hw
theorem RX.q (h : RX G M a σ x ω) {q : Nat} {e : va_E} (hq : (gw x q < 100 ∧ gI x q = none) ∨ M q = none) (hw : ∀ y, y ≠ q → gw x' y = gw x y) (hi : ∀ y u, gI x y = some u → gI x' y = some u) (hi2 : ∀ y u, gI x' y = some u → gI x y = some u ∨ (y = q ∧ u = e ∧ gw x' q = 0)) (hp : gp x' = gp x) (hb : gb x' = gb x) (hf : gf x' = gf x) : RX G (hs M q e) a σ x' ω := by
  have hq2 : gw x q < 100 ∨ M q = none := hq.imp (fun z => z.1) (fun z => z)
  have hne : ∀ y u, gI x y = some u → y ≠ q := fun y u hy z => by
    subst z
    rcases hq with ⟨-, z⟩ | z
    · rw [z] at hy; cases hy
    · have := h.sub _ _ hy
      rw [z] at this; cases this
  obtain ⟨h0, h1, h2, h3, h4, h5, h6, h7⟩ := h
  have ex : xcell G σ x' ω = xcell G σ x ω := by unfold xcell xF rF; rw [hp, hb]
  refine ⟨by rw [hp]; exact h0, ?_, fun y u hy => ?_, h3, h4, h5, BenchAt_q h6 hq2 hw hi hb hf, fun k hk => ?_⟩
  · rw [hp, ex]
    exact Gp_wn h1 (hq2.elim (fun z => Gp_nw h1 (by omega)) (fun z => Gp_ne h1 z)) hw
  · rcases hi2 y u hy with z | ⟨z1, z2, z3⟩
    · rw [hs_n (hne y u z), hw _ (hne y u z)]
      exact h2 y u z
    · subst z1
      rw [hs_s, z2]
      exact ⟨rfl, z3⟩
  · rcases h7 k hk with ⟨g1, g2, g3⟩ | g
    · exact Or.inl ⟨g1, by rw [hb]; exact g2, BenchAt_q g3 hq2 hw hi hb hf⟩
    · exact Or.inr g
/-- a new cell -/
theorem RX.al (h : RX G M a σ x ω) {q : Nat} {e : va_E} (hq : M q = none) (c : Nat) : RX G (hs M q e) a σ (xw x q c) ω := h.q (Or.inr hq) (fun y hy => if_neg hy) (fun _ _ z => z) (fun _ _ z => Or.inl z) rfl rfl rfl
theorem xw_s {q c : Nat} : gw (xw x q c) q = c := if_pos rfl
theorem xw_n {q c y : Nat} (h : y ≠ q) : gw (xw x q c) y = gw x y := if_neg h
/-- a store into a new cell -/
theorem RX.tmp (h : RX G M a σ x ω) {q : Nat} {e : va_E} (hq : gw x q = 1) : RX G (hs M q e) a σ x ω := by
  have hI : gI x q = none := by
    cases z : gI x q with
    | none => rfl
    | some u => have := (h.2.2.1 q u z).2; omega
  exact h.q (Or.inl ⟨by omega, hI⟩) (fun _ _ => rfl) (fun _ _ z => z) (fun _ _ z => Or.inl z) rfl rfl rfl
/-- a new cell is kept as it is -/
theorem RX.fz (h : RX G M a σ x ω) {q : Nat} {e : va_E} (hq : gw x q = 1) (he : M q = some e) : RX G M a σ (xi x q e) ω := by
  have hI : gI x q = none := by
    cases z : gI x q with
    | none => rfl
    | some u => have := (h.2.2.1 q u z).2; omega
  have r := h.q (x' := xi x q e) (e := e) (Or.inl ⟨by omega, hI⟩) (fun y hy => if_neg hy) (fun y u z => by
    have n : y ≠ q := fun k => by subst k; rw [hI] at z; cases z
    exact (hs_n n).trans z) (fun y u z => by
    by_cases k : y = q
    · subst k
      have z : hs (gI x) y e y = some u := z
      rw [hs_s] at z
      cases z
      exact Or.inr ⟨rfl, rfl, if_pos rfl⟩
    · have z : hs (gI x) q e y = some u := z
      rw [hs_n k] at z
      exact Or.inl z) rfl rfl rfl
  have e2 : hs M q e = M := hs_id he
  rw [e2] at r
  exact r
theorem xi_s {q : Nat} {e : va_E} : gI (xi x q e) q = some e := hs_s
theorem xi_n {q y : Nat} {e : va_E} (h : y ≠ q) : gI (xi x q e) y = gI x y := hs_n h
theorem xi_w {q y : Nat} {e : va_E} (h : y ≠ q) : gw (xi x q e) y = gw x y := if_neg h
end RXA
