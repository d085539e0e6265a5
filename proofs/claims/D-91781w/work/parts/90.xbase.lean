/-! THE COMPONENT'S WORLD: the heap with its scratch fields cleared -/
def scx (ci : Nat) : Nat := if ci = 3 ∨ ci = 9 then 1 else if ci = 18 then 3 else 99
def eN (e : va_E) : va_E := match e with
  | .inl x => .inl x
  | .inr (ci, fs) => if ci = 3 ∨ ci = 9 then .inr (ci, fs.set 1 (.int (iI 0))) else if ci = 18 then .inr (ci, fs.set 3 (.long (lI 0))) else .inr (ci, fs)
def hN (h : Hp) : Hp := fun a => (h a).map eN
theorem eN_a (x : ClassId × vp_A) : eN (.inl x) = .inl x := rfl
theorem hN_set {h : Hp} {a : Nat} {e : va_E} : hN (hs h a e) = hs (hN h) a (eN e) := by
  funext q
  unfold hN hs
  split <;> rfl
theorem eN_o {ci : Nat} {fs : List Value} : ∃ fs', eN (oB ci fs) = oB ci fs' ∧ fs'.length = fs.length ∧ (∀ k, k ≠ scx ci → fs'[k]? = fs[k]?) ∧ ∀ k v, k ≠ scx ci → eN (oB ci (fs.set k v)) = oB ci (fs'.set k v) := by
  unfold eN oB scx
  dsimp only
  by_cases h : ci = 3 ∨ ci = 9
  · rw [if_pos h, if_pos h]
    refine ⟨_, rfl, List.length_set, fun k hk => List.getElem?_set_ne (Ne.symm hk), fun k v hk => ?_⟩
    rw [if_pos h, List.set_comm _ _ hk]
  · rw [if_neg h, if_neg h]
    by_cases h2 : ci = 18
    · rw [if_pos h2, if_pos h2]
      refine ⟨_, rfl, List.length_set, fun k hk => List.getElem?_set_ne (Ne.symm hk), fun k v hk => ?_⟩
      rw [if_neg h, if_pos h2, List.set_comm _ _ hk]
    · rw [if_neg h2, if_neg h2]
      refine ⟨_, rfl, rfl, fun _ _ => rfl, fun k v _ => ?_⟩
      rw [if_neg h, if_neg h2]
theorem eN_inl {e : va_E} {x : ClassId × vp_A} (h : eN e = .inl x) : e = .inl x := by
  rcases e with y | ⟨ci, fs⟩
  · exact h
  · unfold eN at h
    dsimp only at h
    split at h
    · cases h
    · split at h <;> cases h
theorem eN_inr {e : va_E} {ci : Nat} {fs : List Value} (h : eN e = oB ci fs) : ∃ fs0, e = oB ci fs0 := by
  rcases e with y | ⟨cj, gs⟩
  · cases h
  · obtain ⟨fs', h1, -⟩ := eN_o (ci := cj) (fs := gs)
    have h2 : oB cj fs' = oB ci fs := h1.symm.trans h
    unfold oB at h2
    cases h2
    exact ⟨gs, rfl⟩
theorem nX {h M : Hp} {a ci : Nat} {fs : List Value} (hn : hN h = M) (he : M a = some (oB ci fs)) : ∃ fs0, h a = some (oB ci fs0) ∧ fs.length = fs0.length ∧ (∀ k, k ≠ scx ci → fs0[k]? = fs[k]?) ∧ ∀ k v, k ≠ scx ci → eN (oB ci (fs0.set k v)) = oB ci (fs.set k v) := by
  subst hn
  obtain ⟨e, h1, h2⟩ := Option.map_eq_some_iff.mp he
  obtain ⟨fs0, rfl⟩ := eN_inr h2
  obtain ⟨fs', h3, h4, h5, h6⟩ := eN_o (ci := ci) (fs := fs0)
  rw [h3] at h2
  unfold oB at h2
  cases h2
  exact ⟨fs0, h1, h4, fun k hk => (h5 k hk).symm, h6⟩
theorem nA {h M : Hp} {a : Nat} {x : ClassId × vp_A} (hn : hN h = M) (he : M a = some (.inl x)) : h a = some (.inl x) := by
  subst hn
  obtain ⟨e, h1, h2⟩ := Option.map_eq_some_iff.mp he
  rw [h1, eN_inl h2]
theorem nD {h : Hp} {sz : Nat} : DA (hN h) sz = DA h sz := by
  funext q
  unfold DA
  have e : (∃ e, hN h q = some e) ↔ ∃ e, h q = some e := by
    unfold hN
    constructor
    · rintro ⟨e, he⟩
      obtain ⟨e', h1, -⟩ := Option.map_eq_some_iff.mp he
      exact ⟨e', h1⟩
    · rintro ⟨e, he⟩
      exact ⟨eN e, by rw [he]; rfl⟩
  rw [e]
theorem nF {h : Hp} {a : Nat} (hn : h a = none) : hN h a = none := by
  unfold hN
  rw [hn]
  rfl
def XVd (G : MG) (A : Nat → Prop) (M : Hp) (H : Heap) : Prop := ∃ h, hN h = M ∧ HVd G.1 clA A h H
def XV (G : MG) (A : Nat → Prop) (M : Hp) (H0 H : Heap) (locs : List Loc) : Prop := XVd G A M H ∧ va_S A H0 H locs
theorem XVd.self {G : MG} {A : Nat → Prop} {M : Hp} {H : Heap} (hH : XVd G A M H) (sz : Nat) : XVd G (DA M sz) M H := by
  obtain ⟨h, rfl, hV⟩ := hH
  exact ⟨h, rfl, by rw [nD]; exact hV.self sz⟩
theorem XVd.weaken {G : MG} {A B : Nat → Prop} {M : Hp} {H : Heap} (hH : XVd G A M H) (hAB : ∀ q, q < H.size → A q → B q) : XVd G B M H := by
  obtain ⟨h, hn, hV⟩ := hH
  exact ⟨h, hn, hV.weaken hAB⟩
theorem XVd.inA {G : MG} {A : Nat → Prop} {M : Hp} {H : Heap} (hH : XVd G A M H) {a : Nat} {e : va_E} (ha : M a = some e) : A a := by
  obtain ⟨h, rfl, hV⟩ := hH
  obtain ⟨e', h1, -⟩ := Option.map_eq_some_iff.mp ha
  exact hV.inA h1
theorem XVd.kept {G : MG} {A : Nat → Prop} {M : Hp} {H H1 : Heap} (hH : XVd G A M H) (hq : ∀ a e, M a = some e → H1[a]? = H[a]?) : XVd G A M H1 := by
  obtain ⟨h, rfl, hV⟩ := hH
  exact ⟨h, rfl, hV.kept (fun a e ha => hq a (eN e) (by unfold hN; rw [ha]; rfl))⟩
theorem XVd.fresh {G : MG} {A : Nat → Prop} {M : Hp} {H : Heap} (hH : XVd G A M H) {a : Nat} (ha : H.size ≤ a) : M a = none := by
  obtain ⟨h, rfl, hV⟩ := hH
  exact nF (hV.fresh ha)
theorem XV.sub {G : MG} {A : Nat → Prop} {M : Hp} {H0 H : Heap} {locs : List Loc} (hH : XV G A M H0 H locs) (hA : ∀ q, H0.size ≤ q → A q) : ∀ q, DA M H.size q → A q := by
  intro q hq
  rcases hq with ⟨e, he⟩ | hq
  · exact hH.1.inA he
  · exact hA q (Nat.le_trans hH.2.1 hq)
theorem XV_to {G : MG} {A : Nat → Prop} {M M' : Hp} {H0 H : Heap} {locs : List Loc} (hH : XV G A M H0 H locs) (e : M = M') : XV G A M' H0 H locs := e ▸ hH
/-! words of nest mates and the like -/
def nestW (w : Cond) : Bool := match w with
  | .fieldLinkNest _ _ _ _ _ _ => true
  | .methodLinkNest _ _ _ _ => true
  | .declares _ => true
  | .castable _ _ => true
  | _ => false
def XN (U : State) : Prop := (∀ w ∈ lw_tbl, nestW w = true → va_Nw w U) ∧ ∀ C : String, Cond.arrayOver (.object C) ∈ lw_tbl → va_AO C U
theorem nestW_on {w : Cond} (h : nestW w = true) : w.onTables = true := by
  unfold nestW at h
  split at h <;> first | rfl | cases h
theorem XN.warm {s U : State} (hW : s.WarmedH U.vm) (h : XN s) : XN U := by
  refine ⟨fun w hw hn => ?_, fun C hC => va_AO.moved hW.alike (h.2 C hC)⟩
  have h1 := h.1 w hw hn
  unfold nestW at hn
  split at hn
  · exact va_Nw.warmF hW h1
  · exact va_Nw.warmM hW h1
  · exact va_Nw.warmD hW h1
  · exact va_Nw.warmC hW h1
  · cases hn
theorem XN_b : XB XN := fun U g mk a h => ⟨fun w hw hn => va_Nw.same (nestW_on hn) (u := U) rfl (h.1 w hw hn), fun C hC => va_AO.moved (Vm.Alike.refl U.vm) (h.2 C hC)⟩
theorem XN_of {args : Array Value} {s : State} (hts : ∀ w ∈ lw_tbl, w.before args s = true) : XN s := ⟨fun w hw hn => va_Nw.of (nestW_on hn) (hts w hw), fun C hC => va_AO.of (hts _ hC)⟩
/-! contracts -/
def xP (G : MG) (X : State → Prop) (av : List Value) (M : Hp) (sz : Nat) : Array Value → State → Prop := va_Pc av (fun U => U.heap.size = sz ∧ XVd G (fun _ => True) M U.heap ∧ va_K G.1 clA (tyA G.2.1) U ∧ X U)
def xQi (G : MG) (A : Nat → Prop) (post : Int → Hp → Prop) : Array Value → State → Outcome → State → Prop := va_Qi (S := Int × Hp) (fun r u => r = iI u.1 ∧ post u.1 u.2) (fun u t => XVd G A u.2 t.heap) A
def xQl (G : MG) (A : Nat → Prop) (post : Int → Hp → Prop) : Array Value → State → Outcome → State → Prop := va_Ql (S := Int × Hp) (fun r u => r = lI u.1 ∧ post u.1 u.2) (fun u t => XVd G A u.2 t.heap) A
def xQv (G : MG) (A : Nat → Prop) (post : Hp → Prop) : Array Value → State → Outcome → State → Prop := va_Qv (S := Hp) post (fun u t => XVd G A u t.heap) A
def xQq (G : MG) (A : Nat → Prop) (post : Option Nat → Hp → Prop) : Array Value → State → Outcome → State → Prop := va_Qq (S := Hp) post (fun u t => XVd G A u t.heap) A
theorem xP_blind {G : MG} {X : State → Prop} {av : List Value} {M : Hp} {sz : Nat} (hX : XB X) : FrameBlind (xP G X av M sz) := by
  intro a U g mk q
  obtain ⟨q0, q1, q2, q3, q4⟩ := q
  exact ⟨q0, q1, q2, va_K.moved (u := U) (U := U.calling g mk a) (Vm.Alike.refl U.vm) q3, hX _ _ _ _ q4⟩
def XC (p : Program) (s : State) (m : MethodId) (args : Array Value) (meth : Method) (c : Code) (y : MethodName) (cc : ByteArray) (maxL : Nat) (ret : Option FieldType) (G : MG) (X : State → Prop) (M : Hp) (sz : Nat) : Prop :=
  CallFix p m c cc maxL s args lw_all y.cls ∧ meth.sig.returnType = ret ∧ meth.locks = false ∧ XV G (DA M sz) M s.heap s.heap [] ∧ va_K G.1 clA (tyA G.2.1) s ∧ X s ∧ s.heap.size = sz ∧ meth.name = y.name
theorem x_start {l : Launch} {y : MethodName} {cc : ByteArray} {maxL : Nat} {ret : Option FieldType} {rm : Room} {G : MG} {X : State → Prop} {av : List Value} {M : Hp} {sz mc ms : Nat} {Qc : Array Value → State → Outcome → State → Prop} {free : Addr → Prop} (hy : plainName y.cls = true) (hl : (lg_sl av).length ≤ maxL)
    (body : ∀ (p : Program) (e : Env) (s : State) (m : MethodId) (below : List Frame) (meth : Method) (c : Code), XC p s m av.toArray meth c y cc maxL ret G X M sz → ∀ ls : Array Slot, lv_has ls maxL (lv_args 0 av) → W p l e rm s m av.toArray below meth c s.heap [] 0 0 (MQ below Qc av.toArray s mc ms free) (F0 m 0 ls [])) : Met l y (ws_ y cc maxL ret) rm (xP G X av M sz) Qc mc ms free := by
  refine Met.ofW (cc := cc) (maxL := maxL) (ret := ret) hy rfl ?_
  intro p e s m args below meth c s₁ B hml hv
  obtain ⟨rfl, hsz, hH, hK, hX⟩ := hv
  have hts := atoms_spec (ws := ws_ y cc maxL ret) B.pre
  have hts : ∀ w ∈ lw_all, w.before _ s = true := fun w h => hts w (List.mem_cons_of_mem _ h)
  rw [lg_entry_eq]
  exact body p e s m below meth c ⟨⟨B.exec, B.bytes, hml, findClass_of_methodNamed B.named, hts⟩, B.returns, B.notSynchronized, ⟨hH.self sz, va_S.rf⟩, hK, hX, hsz, (name_of_methodNamed B.named B.method).1⟩ _ (lv_entry av hl)
theorem XVd.cg {G : MG} {A : Nat → Prop} {M : Hp} {H : Heap} {t : State} (ht : t.heap = H) (hH : XVd G A M H) : XVd G A M t.heap := by rw [ht]; exact hH
section XR
variable {p : Program} {l : Launch} {e : Env} {R : Room} {s : State} {m : MethodId} {args : Array Value} {below : List Frame} {meth : Method} {c : Code} {H : Heap} {locs : List Loc} {cells slots : Nat} {Q : State → Prop}
variable {cc : ByteArray} {pc : Nat} {ls : Array Slot} {rest st0 : List Value} {G : MG} {A : Nat → Prop} {a : Nat} {M : Hp} {H0 : Heap} {X : State → Prop}
theorem x_iret {post : Int → Hp → Prop} {z : Int} (hx : p.tables.exec = Jvm.exec) (hb : c.code = cc) (hr : meth.sig.returnType = some .int) (hlk : meth.locks = false) (hH : XV G A M s.heap H locs) (d : decode cc pc = .ok (.ireturn, 1)) (hp : post z M) : W p l e R s m args below meth c H locs cells slots (MQ below (xQi G A post) args s cells slots A) (F0 m pc ls [.int (iI z)]) :=
  W.iret hx hb hr (fun t ht _ => ⟨⟨iI z, (z, M), rfl, ⟨rfl, hp⟩, XVd.cg ht hH.1⟩, hH.2.F ht⟩) hH.2.2.2 d hlk
theorem x_zret {post : Int → Hp → Prop} {z : Int} (hx : p.tables.exec = Jvm.exec) (hb : c.code = cc) (hr : meth.sig.returnType = some .boolean) (hlk : meth.locks = false) (hH : XV G A M s.heap H locs) (d : decode cc pc = .ok (.ireturn, 1)) (hz : z = 0 ∨ z = 1) (hp : post z M) : W p l e R s m args below meth c H locs cells slots (MQ below (xQi G A post) args s cells slots A) (F0 m pc ls [.int (iI z)]) :=
  W.zret hx hb hr (by rcases hz with q | q <;> subst q <;> rfl) (fun t ht _ => ⟨⟨iI z, (z, M), rfl, ⟨rfl, hp⟩, XVd.cg ht hH.1⟩, hH.2.F ht⟩) hH.2.2.2 d hlk
theorem x_lret {post : Int → Hp → Prop} {z : Int} (hx : p.tables.exec = Jvm.exec) (hb : c.code = cc) (hr : meth.sig.returnType = some .long) (hlk : meth.locks = false) (hH : XV G A M s.heap H locs) (d : decode cc pc = .ok (.lreturn, 1)) (hp : post z M) : W p l e R s m args below meth c H locs cells slots (MQ below (xQl G A post) args s cells slots A) (F0 m pc ls [.long (lI z)]) :=
  W.lret hx hb hr (fun t ht _ => ⟨⟨lI z, (z, M), rfl, ⟨rfl, hp⟩, XVd.cg ht hH.1⟩, hH.2.F ht⟩) hH.2.2.2 d hlk
theorem x_vret {post : Hp → Prop} (hx : p.tables.exec = Jvm.exec) (hb : c.code = cc) (hr : meth.sig.returnType = none) (hlk : meth.locks = false) (hH : XV G A M s.heap H locs) (d : decode cc pc = .ok (.return_, 1)) (hp : post M) : W p l e R s m args below meth c H locs cells slots (MQ below (xQv G A post) args s cells slots A) (F0 m pc ls []) :=
  W.vret hx hb hr (fun t ht _ => ⟨⟨M, rfl, hp, XVd.cg ht hH.1⟩, hH.2.F ht⟩) hH.2.2.2 d hlk
theorem x_aret {post : Option Nat → Hp → Prop} {r : Option Nat} {rt : FieldType} (hx : p.tables.exec = Jvm.exec) (hb : c.code = cc) (hr : meth.sig.returnType = some rt) (hrt : (∃ n, rt = .object n) ∨ ∃ t, rt = .array t) (hlk : meth.locks = false) (hH : XV G A M s.heap H locs) (d : decode cc pc = .ok (.areturn, 1)) (hp : post r M) : W p l e R s m args below meth c H locs cells slots (MQ below (xQq G A post) args s cells slots A) (F0 m pc ls [va_rf r]) :=
  W.aret hx hb hr hrt (va_rf_or r) (fun t ht _ => ⟨⟨r, M, rfl, hp, XVd.cg ht hH.1⟩, hH.2.F ht⟩) hH.2.2.2 d hlk
theorem xP_at {av : List Value} (hH : XV G A M H0 H locs) (hK : va_K G.1 clA (tyA G.2.1) s) (hX : ∀ U : State, U.heap = H → s.WarmedH U.vm → X U) : ∀ U : State, U.heap = H → s.WarmedH U.vm → xP G X av M H.size av.toArray U := fun U hU hW => ⟨rfl, by rw [hU], by rw [hU]; exact hH.1.weaken (fun _ _ _ => trivial), va_K.moved hW.alike hK, hX U hU hW⟩
theorem XV.recv {b ci : Nat} {fs : List Value} {q : vw_C} (hH : XV G A M H0 H locs) (hK : va_K G.1 clA (tyA G.2.1) s) (hr : M b = some (oB ci fs)) (hc : clA[ci]? = some q) : ∃ cell : Cell, H[b]? = some cell ∧ cell.vm.isStatics = false ∧ s.vm.findClass q.1 = some cell.cls := by
  obtain ⟨⟨h, hn, hV⟩, hS⟩ := hH
  obtain ⟨fs0, h0, -⟩ := nX hn hr
  exact HV.recv (H0 := H0) (locs := locs) ⟨hV, hS⟩ hK h0 hc
variable {y : MethodName} {bytes : ByteArray} {maxL nL mc ms n index : Nat} {ret : Option FieldType} {rm : Room} {Qc : Array Value → State → Outcome → State → Prop} {free : Addr → Prop} {own C : String} {b : Addr} {As : List Value}
theorem x_runV {ci : Nat} {fs : List Value} {q : vw_C} (S : CallFix p m c cc nL s args lw_all own) (hH : XV G A M H0 H locs) (hK : va_K G.1 clA (tyA G.2.1) s) (hX : ∀ U : State, U.heap = H → s.WarmedH U.vm → X U) (hXb : XB X) (hsz : ls.size = nL) (hr : M b = some (oB ci fs)) (hc : clA[ci]? = some q)
    (hM : Met l y (ws_ y bytes maxL ret) rm (xP G X (.ref b :: As) M H.size) Qc mc ms free) (hG : GoodIn lw_all (wsV own index C y (ws_ y bytes maxL ret))) (hd : y.cls = C ∧ y.cls ≠ "java/lang/invoke/MethodHandle" ∧ y.cls ≠ "java/lang/invoke/VarHandle" ∧ (parseMethodDescriptor y.desc).map (fun d => d.parameters.length) = some n) (hn : As.length = n) (hst : st0 = As.reverse ++ .ref b :: rest) (d : decode cc pc = .ok (.invokevirtual index, 3)) (hqC : q.1 = C := by rfl) (hrc : rm.cells = mc := by rfl) (hrs : rm.slots = ms := by rfl)
    (hR : rm.frames + 1 ≤ R.frames ∧ 8 + (maxL + 11) + rm.locals ≤ R.locals := by exact ⟨Nat.le_of_ble_eq_true rfl, Nat.le_of_ble_eq_true rfl⟩) (hW : (rest.map fun v => v.category).sum ≤ 8 := by first | exact Nat.le_of_ble_eq_true rfl | decide) (hf : cells + mc ≤ R.cells ∧ slots + ms ≤ R.slots := by exact ⟨Nat.le_of_ble_eq_true rfl, Nat.le_of_ble_eq_true rfl⟩) : va_Run p l e R s m args below meth c H locs cells slots mc ms (F0 m pc ls st0) rest (Qc (Value.ref b :: As).toArray) free :=
  va_runV (As := As) (rest := rest) (C := C) S hM (cwV n S.2.2.2.2 hG rfl hrc hrs hd hR) ⟨xP_blind hXb, by rw [← hqC]; exact hH.recv hK hr hc, xP_at hH hK hX⟩ rfl hn hsz hst (lv_room hW) d hf
theorem x_runI (S : CallFix p m c cc nL s args lw_all own) (hH : XV G A M H0 H locs) (hK : va_K G.1 clA (tyA G.2.1) s) (hX : ∀ U : State, U.heap = H → s.WarmedH U.vm → X U) (hXb : XB X) (hsz : ls.size = nL)
    (hM : Met l y (ws_ y bytes maxL none) rm (xP G X (.ref b :: As) M H.size) Qc mc ms free) (hG : GoodIn lw_all (ws_ y bytes maxL none)) (hini : (Cond.initialized y.cls) ∈ lw_all) (hl : (Cond.methodLink own index y) ∈ lw_all) (hin : (Cond.instanceMethod y) ∈ lw_all) (hd : y.cls = C ∧ y.cls ≠ "java/lang/invoke/MethodHandle" ∧ y.cls ≠ "java/lang/invoke/VarHandle" ∧ (parseMethodDescriptor y.desc).map (fun d => d.parameters.length) = some n) (hn : As.length = n) (hst : st0 = As.reverse ++ .ref b :: rest) (d : decode cc pc = .ok (.invokespecial index, 3)) (hy : y.name = "<init>" := by rfl) (hrc : rm.cells = mc := by rfl) (hrs : rm.slots = ms := by rfl)
    (hR : rm.frames + 1 ≤ R.frames ∧ 8 + (maxL + 11) + rm.locals ≤ R.locals := by exact ⟨Nat.le_of_ble_eq_true rfl, Nat.le_of_ble_eq_true rfl⟩) (hW : (rest.map fun v => v.category).sum ≤ 8 := by first | exact Nat.le_of_ble_eq_true rfl | decide) (hf : cells + mc ≤ R.cells ∧ slots + ms ≤ R.slots := by exact ⟨Nat.le_of_ble_eq_true rfl, Nat.le_of_ble_eq_true rfl⟩) : va_Run p l e R s m args below meth c H locs cells slots mc ms (F0 m pc ls st0) rest (Qc (Value.ref b :: As).toArray) free :=
  va_runI (As := As) (rest := rest) S hM (cwI n S.2.2.2.2 hG rfl hrc hrs (S.2.2.2.2 _ hini) (S.2.2.2.2 _ hl) (S.2.2.2.2 _ hin) hy hd.2 hR) ⟨xP_blind hXb, xP_at hH hK hX⟩ rfl hn hsz hst (lv_room hW) d hf
theorem x_runS (S : CallFix p m c cc nL s args lw_all own) (hH : XV G A M H0 H locs) (hK : va_K G.1 clA (tyA G.2.1) s) (hX : ∀ U : State, U.heap = H → s.WarmedH U.vm → X U) (hXb : XB X) (hsz : ls.size = nL)
    (hM : Met l y (ws_ y bytes maxL ret) rm (xP G X As M H.size) Qc mc ms free) (hG : GoodIn lw_all (va_wsS own index y (ws_ y bytes maxL ret))) (hd : y.cls = C ∧ y.cls ≠ "java/lang/invoke/MethodHandle" ∧ y.cls ≠ "java/lang/invoke/VarHandle" ∧ (parseMethodDescriptor y.desc).map (fun d => d.parameters.length) = some n) (hn : As.length = n) (hst : st0 = As.reverse ++ rest) (d : decode cc pc = .ok (.invokestatic index, 3)) (hrc : rm.cells = mc := by rfl) (hrs : rm.slots = ms := by rfl)
    (hR : rm.frames + 1 ≤ R.frames ∧ 8 + (maxL + 11) + rm.locals ≤ R.locals := by exact ⟨Nat.le_of_ble_eq_true rfl, Nat.le_of_ble_eq_true rfl⟩) (hW : (rest.map fun v => v.category).sum ≤ 8 := by first | exact Nat.le_of_ble_eq_true rfl | decide) (hf : cells + mc ≤ R.cells ∧ slots + ms ≤ R.slots := by exact ⟨Nat.le_of_ble_eq_true rfl, Nat.le_of_ble_eq_true rfl⟩) : va_Run p l e R s m args below meth c H locs cells slots mc ms (F0 m pc ls st0) rest (Qc As.toArray) free :=
  va_runS (As := As) (rest := rest) S hM (va_cwS n S.2.2.2.2 hG rfl hrc hrs hd.2 hR) ⟨xP_blind hXb, xP_at hH hK hX⟩ rfl hn hsz hst (lv_room hW) d hf
theorem x_calli {post : Int → Hp → Prop} {av : Array Value} (hr : va_Run p l e R s m args below meth c H locs cells slots mc ms (F0 m pc ls st0) rest (xQi G (DA M H.size) post av) (DA M H.size)) (hH : XV G A M H0 H locs) (hA : ∀ q, H0.size ≤ q → A q)
    (kk : ∀ (z : Int) (M' : Hp) (H1 : Heap) (locs1 : List Loc), post z M' → XV G A M' H0 H1 locs1 → H.size ≤ H1.size → W p l e R s m args below meth c H1 locs1 (cells + mc) (slots + ms) Q (F0 m (pc + 3) ls (.int (iI z) :: rest))) : W p l e R s m args below meth c H locs cells slots Q (F0 m pc ls st0) := by
  refine va_calli hr hH.2 (fun q _ hq => hH.sub hA q hq) (fun q hq => hH.sub hA q hq) ?_
  intro r u t H1 locs1 ht hvm hp hB hsz hk hS
  obtain ⟨rfl, hp⟩ := hp
  rw [ht] at hB
  exact kk u.1 u.2 H1 locs1 hp ⟨hB.weaken (fun q _ hq => hH.sub hA q hq), hS⟩ hsz
theorem x_calll {post : Int → Hp → Prop} {av : Array Value} (hr : va_Run p l e R s m args below meth c H locs cells slots mc ms (F0 m pc ls st0) rest (xQl G (DA M H.size) post av) (DA M H.size)) (hH : XV G A M H0 H locs) (hA : ∀ q, H0.size ≤ q → A q)
    (kk : ∀ (z : Int) (M' : Hp) (H1 : Heap) (locs1 : List Loc), post z M' → XV G A M' H0 H1 locs1 → H.size ≤ H1.size → W p l e R s m args below meth c H1 locs1 (cells + mc) (slots + ms) Q (F0 m (pc + 3) ls (.long (lI z) :: rest))) : W p l e R s m args below meth c H locs cells slots Q (F0 m pc ls st0) := by
  refine va_calll hr hH.2 (fun q _ hq => hH.sub hA q hq) (fun q hq => hH.sub hA q hq) ?_
  intro r u t H1 locs1 ht hvm hp hB hsz hk hS
  obtain ⟨rfl, hp⟩ := hp
  rw [ht] at hB
  exact kk u.1 u.2 H1 locs1 hp ⟨hB.weaken (fun q _ hq => hH.sub hA q hq), hS⟩ hsz
theorem x_callv {post : Hp → Prop} {av : Array Value} (hr : va_Run p l e R s m args below meth c H locs cells slots mc ms (F0 m pc ls st0) rest (xQv G (DA M H.size) post av) (DA M H.size)) (hH : XV G A M H0 H locs) (hA : ∀ q, H0.size ≤ q → A q)
    (kk : ∀ (M' : Hp) (H1 : Heap) (locs1 : List Loc), post M' → XV G A M' H0 H1 locs1 → H.size ≤ H1.size → W p l e R s m args below meth c H1 locs1 (cells + mc) (slots + ms) Q (F0 m (pc + 3) ls rest)) : W p l e R s m args below meth c H locs cells slots Q (F0 m pc ls st0) := by
  refine va_callv hr hH.2 (fun q _ hq => hH.sub hA q hq) (fun q hq => hH.sub hA q hq) ?_
  intro u t H1 locs1 ht hvm hp hB hsz hk hS
  rw [ht] at hB
  exact kk u H1 locs1 hp ⟨hB.weaken (fun q _ hq => hH.sub hA q hq), hS⟩ hsz
theorem x_callq {post : Option Nat → Hp → Prop} {av : Array Value} (hr : va_Run p l e R s m args below meth c H locs cells slots mc ms (F0 m pc ls st0) rest (xQq G (DA M H.size) post av) (DA M H.size)) (hH : XV G A M H0 H locs) (hA : ∀ q, H0.size ≤ q → A q)
    (kk : ∀ (r : Option Nat) (M' : Hp) (H1 : Heap) (locs1 : List Loc), post r M' → XV G A M' H0 H1 locs1 → H.size ≤ H1.size → W p l e R s m args below meth c H1 locs1 (cells + mc) (slots + ms) Q (F0 m (pc + 3) ls (va_rf r :: rest))) : W p l e R s m args below meth c H locs cells slots Q (F0 m pc ls st0) := by
  refine va_callq hr hH.2 (fun q _ hq => hH.sub hA q hq) (fun q hq => hH.sub hA q hq) ?_
  intro r u t H1 locs1 ht hvm hp hB hsz hk hS
  rw [ht] at hB
  exact kk r u H1 locs1 hp ⟨hB.weaken (fun q _ hq => hH.sub hA q hq), hS⟩ hsz
/-! cells -/
theorem x_get (hx : p.tables.exec = Jvm.exec) (hb : c.code = cc) {ref : String} {T : u_T} {N ci : Nat} (hts : ∀ w ∈ lw_all, w.before args s = true) (hin : ∀ w ∈ u_ws C T N, w ∈ lw_all) (hown : s.vm.findClass own = some m.cls) (hK : va_K G.1 clA (tyA G.2.1) s) (hH : XV G A M H0 H locs) {fs : List Value} (he : M a = some (oB ci fs)) (hc : clA[ci]? = some (C, T, N)) (k : Nat) (hk : k < N) (hlink : (Cond.fieldLink own index ref (T k).2.1 (T k).2.2.1) ∈ lw_all) (hsame : ∀ x, s.fieldFound? (T k).1 (T k).2.1 (T k).2.2.1 = some x → s.fieldFound? ref (T k).2.1 (T k).2.2.1 = some x) {v : Value} (hv : fs[k]? = some v) (hsc : k ≠ scx ci) (d : decode cc pc = .ok (.getfield index, 3))
    (kk : W p l e R s m args below meth c H locs cells slots Q (F0 m (pc + 3) ls (v :: rest))) : W p l e R s m args below meth c H locs cells slots Q (F0 m pc ls (.ref a :: rest)) := by
  obtain ⟨⟨h, hn, hV⟩, hS⟩ := hH
  obtain ⟨fs0, h0, -, h2, -⟩ := nX hn he
  exact g_get (H0 := H0) (locs := locs) hx hb hts hin hown hK ⟨hV, hS⟩ h0 hc k hk (hts _ hlink) hsame (v := v) (by rw [h2 k hsc]; exact hv) d kk
theorem x_getN (hx : p.tables.exec = Jvm.exec) (hb : c.code = cc) {ref host : String} {T : u_T} {N ci : Nat} (hts : ∀ w ∈ lw_all, w.before args s = true) (hin : ∀ w ∈ u_ws C T N, w ∈ lw_all) (hown : s.vm.findClass own = some m.cls) (hK : va_K G.1 clA (tyA G.2.1) s) (hH : XV G A M H0 H locs) {fs : List Value} (he : M a = some (oB ci fs)) (hc : clA[ci]? = some (C, T, N)) (k : Nat) (hk : k < N) (hXs : XN s) (hlink : (Cond.fieldLinkNest own index ref (T k).2.1 (T k).2.2.1 host) ∈ lw_tbl) (hsame : ∀ x, s.fieldFound? (T k).1 (T k).2.1 (T k).2.2.1 = some x → s.fieldFound? ref (T k).2.1 (T k).2.2.1 = some x) {v : Value} (hv : fs[k]? = some v) (hsc : k ≠ scx ci) (d : decode cc pc = .ok (.getfield index, 3))
    (kk : W p l e R s m args below meth c H locs cells slots Q (F0 m (pc + 3) ls (v :: rest))) : W p l e R s m args below meth c H locs cells slots Q (F0 m pc ls (.ref a :: rest)) := by
  obtain ⟨⟨h, hn, hV⟩, hS⟩ := hH
  obtain ⟨fs0, h0, -, h2, -⟩ := nX hn he
  exact g_getN (H0 := H0) (locs := locs) hx hb hts hin hown hK ⟨hV, hS⟩ h0 hc k hk (hXs.1 _ hlink rfl) hsame (v := v) (by rw [h2 k hsc]; exact hv) d kk
theorem x_put (hx : p.tables.exec = Jvm.exec) (hb : c.code = cc) {ref : String} {T : u_T} {N ci : Nat} (hts : ∀ w ∈ lw_all, w.before args s = true) (hin : ∀ w ∈ u_ws C T N, w ∈ lw_all) (ty0 : Nat → FieldType) (hty : ∀ k, k < N → parseFieldDescriptor (T k).2.2.1 = some (ty0 k)) (hnm : ∀ a, a < N → ∀ b, b < N → a ≠ b → (T a).2.1 ≠ (T b).2.1) (hown : s.vm.findClass own = some m.cls) (hK : va_K G.1 clA (tyA G.2.1) s) (hH : XV G A M H0 H locs) {fs : List Value} (he : M a = some (oB ci fs)) (hc : clA[ci]? = some (C, T, N)) (k : Nat) (hk : k < N) (hlink : (Cond.fieldLink own index ref (T k).2.1 (T k).2.2.1) ∈ lw_all) (hsame : ∀ x, s.fieldFound? (T k).1 (T k).2.1 (T k).2.2.1 = some x → s.fieldFound? ref (T k).2.1 (T k).2.2.1 = some x) (hfin : (T k).2.2.2 = false) {ty : FieldType} {v : Value} (hd : parseFieldDescriptor (T k).2.2.1 = some ty) (hn : narrow ty v = v) (hfit : fits ty v = true) (hl : k < fs.length) (hsc : k ≠ scx ci) (d : decode cc pc = .ok (.putfield index, 3))
    (kk : ∀ (H1 : Heap) (locs1 : List Loc), XV G A (hs M a (oB ci (fs.set k v))) H0 H1 locs1 → W p l e R s m args below meth c H1 locs1 cells slots Q (F0 m (pc + 3) ls rest)) : W p l e R s m args below meth c H locs cells slots Q (F0 m pc ls (v :: .ref a :: rest)) := by
  obtain ⟨⟨h, hn', hV⟩, hS⟩ := hH
  obtain ⟨fs0, h0, hl0, -, h3⟩ := nX hn' he
  exact g_put (H0 := H0) (locs := locs) hx hb hts hin ty0 hty hnm hown hK ⟨hV, hS⟩ h0 hc k hk (hts _ hlink) hsame hfin hd hn hfit (by omega) d (fun H1 locs1 hH1 => kk H1 locs1 ⟨⟨_, by rw [hN_set, hn', h3 k v hsc], hH1.1⟩, hH1.2⟩)
theorem x_putN (hx : p.tables.exec = Jvm.exec) (hb : c.code = cc) {ref host : String} {T : u_T} {N ci : Nat} (hts : ∀ w ∈ lw_all, w.before args s = true) (hin : ∀ w ∈ u_ws C T N, w ∈ lw_all) (ty0 : Nat → FieldType) (hty : ∀ k, k < N → parseFieldDescriptor (T k).2.2.1 = some (ty0 k)) (hnm : ∀ a, a < N → ∀ b, b < N → a ≠ b → (T a).2.1 ≠ (T b).2.1) (hown : s.vm.findClass own = some m.cls) (hK : va_K G.1 clA (tyA G.2.1) s) (hH : XV G A M H0 H locs) {fs : List Value} (he : M a = some (oB ci fs)) (hc : clA[ci]? = some (C, T, N)) (k : Nat) (hk : k < N) (hXs : XN s) (hlink : (Cond.fieldLinkNest own index ref (T k).2.1 (T k).2.2.1 host) ∈ lw_tbl) (hsame : ∀ x, s.fieldFound? (T k).1 (T k).2.1 (T k).2.2.1 = some x → s.fieldFound? ref (T k).2.1 (T k).2.2.1 = some x) (hfin : (T k).2.2.2 = false) {ty : FieldType} {v : Value} (hd : parseFieldDescriptor (T k).2.2.1 = some ty) (hn : narrow ty v = v) (hfit : fits ty v = true) (hl : k < fs.length) (hsc : k ≠ scx ci) (d : decode cc pc = .ok (.putfield index, 3))
    (kk : ∀ (H1 : Heap) (locs1 : List Loc), XV G A (hs M a (oB ci (fs.set k v))) H0 H1 locs1 → W p l e R s m args below meth c H1 locs1 cells slots Q (F0 m (pc + 3) ls rest)) : W p l e R s m args below meth c H locs cells slots Q (F0 m pc ls (v :: .ref a :: rest)) := by
  obtain ⟨⟨h, hn', hV⟩, hS⟩ := hH
  obtain ⟨fs0, h0, hl0, -, h3⟩ := nX hn' he
  exact g_putN (H0 := H0) (locs := locs) hx hb hts hin ty0 hty hnm hown hK ⟨hV, hS⟩ h0 hc k hk (hXs.1 _ hlink rfl) hsame hfin hd hn hfit (by omega) d (fun H1 locs1 hH1 => kk H1 locs1 ⟨⟨_, by rw [hN_set, hn', h3 k v hsc], hH1.1⟩, hH1.2⟩)
theorem x_putF (hx : p.tables.exec = Jvm.exec) (hb : c.code = cc) {ref : String} {T : u_T} {N ci : Nat} (hts : ∀ w ∈ lw_all, w.before args s = true) (hin : ∀ w ∈ u_ws C T N, w ∈ lw_all) (ty0 : Nat → FieldType) (hty : ∀ k, k < N → parseFieldDescriptor (T k).2.2.1 = some (ty0 k)) (hnm : ∀ a, a < N → ∀ b, b < N → a ≠ b → (T a).2.1 ≠ (T b).2.1) (hown : s.vm.findClass own = some m.cls) (hK : va_K G.1 clA (tyA G.2.1) s) (hH : XV G A M H0 H locs) {fs : List Value} (he : M a = some (oB ci fs)) (hc : clA[ci]? = some (C, T, N)) (k : Nat) (hk : k < N) (hlink : (Cond.fieldLink own index ref (T k).2.1 (T k).2.2.1) ∈ lw_all) (hsame : ∀ x, s.fieldFound? (T k).1 (T k).2.1 (T k).2.2.1 = some x → s.fieldFound? ref (T k).2.1 (T k).2.2.1 = some x) (hfin : (T k).2.2.2 = true) (hin2 : meth.name = "<init>") (hdecl : (T k).1 = own) {ty : FieldType} {v : Value} (hd : parseFieldDescriptor (T k).2.2.1 = some ty) (hn : narrow ty v = v) (hfit : fits ty v = true) (hl : k < fs.length) (hsc : k ≠ scx ci) (d : decode cc pc = .ok (.putfield index, 3))
    (kk : ∀ (H1 : Heap) (locs1 : List Loc), XV G A (hs M a (oB ci (fs.set k v))) H0 H1 locs1 → W p l e R s m args below meth c H1 locs1 cells slots Q (F0 m (pc + 3) ls rest)) : W p l e R s m args below meth c H locs cells slots Q (F0 m pc ls (v :: .ref a :: rest)) := by
  obtain ⟨⟨h, hn', hV⟩, hS⟩ := hH
  obtain ⟨fs0, h0, hl0, -, h3⟩ := nX hn' he
  exact g_putF (H0 := H0) (locs := locs) hx hb hts hin ty0 hty hnm hown hK ⟨hV, hS⟩ h0 hc k hk (hts _ hlink) hsame hfin hin2 hdecl hd hn hfit (by omega) d (fun H1 locs1 hH1 => kk H1 locs1 ⟨⟨_, by rw [hN_set, hn', h3 k v hsc], hH1.1⟩, hH1.2⟩)
theorem x_iald (hx : p.tables.exec = Jvm.exec) (hb : c.code = cc) (hK : va_K G.1 clA (tyA G.2.1) s) (hH : XV G A M H0 H locs) {n : Nat} {f : Int → Int} (ha : M a = some (aI (G.2.1 0) n f)) {i : Int} (h0 : 0 ≤ i) (hi : i < n) (hn : n < 2147483648) (d : decode cc pc = .ok (.iaload, 1))
    (kk : W p l e R s m args below meth c H locs cells slots Q (F0 m (pc + 1) ls (.int (iI (f i)) :: rest))) : W p l e R s m args below meth c H locs cells slots Q (F0 m pc ls (.int (iI i) :: .ref a :: rest)) := by
  obtain ⟨⟨h, hn', hV⟩, hS⟩ := hH
  exact g_iald (H0 := H0) (locs := locs) hx hb hK ⟨hV, hS⟩ 0 (nA hn' ha) rfl h0 hi hn d kk
theorem x_bald (hx : p.tables.exec = Jvm.exec) (hb : c.code = cc) (hK : va_K G.1 clA (tyA G.2.1) s) (hH : XV G A M H0 H locs) {n : Nat} {f : Int → Int} (ha : M a = some (aI (G.2.1 1) n f)) {i : Int} (h0 : 0 ≤ i) (hi : i < n) (hn : n < 2147483648) (d : decode cc pc = .ok (.baload, 1))
    (kk : W p l e R s m args below meth c H locs cells slots Q (F0 m (pc + 1) ls (.int (iI (f i)) :: rest))) : W p l e R s m args below meth c H locs cells slots Q (F0 m pc ls (.int (iI i) :: .ref a :: rest)) := by
  obtain ⟨⟨h, hn', hV⟩, hS⟩ := hH
  exact g_bald (H0 := H0) (locs := locs) hx hb hK ⟨hV, hS⟩ 1 (nA hn' ha) rfl h0 hi hn d kk
theorem x_lald (hx : p.tables.exec = Jvm.exec) (hb : c.code = cc) (hK : va_K G.1 clA (tyA G.2.1) s) (hH : XV G A M H0 H locs) {n : Nat} {f : Int → Int} (ha : M a = some (aL (G.2.1 3) n f)) {i : Int} (h0 : 0 ≤ i) (hi : i < n) (hn : n < 2147483648) (d : decode cc pc = .ok (.laload, 1))
    (kk : W p l e R s m args below meth c H locs cells slots Q (F0 m (pc + 1) ls (.long (lI (f i)) :: rest))) : W p l e R s m args below meth c H locs cells slots Q (F0 m pc ls (.int (iI i) :: .ref a :: rest)) := by
  obtain ⟨⟨h, hn', hV⟩, hS⟩ := hH
  exact g_lald (H0 := H0) (locs := locs) hx hb hK ⟨hV, hS⟩ 3 (nA hn' ha) rfl h0 hi hn d kk
theorem x_aald (hx : p.tables.exec = Jvm.exec) (hb : c.code = cc) (hK : va_K G.1 clA (tyA G.2.1) s) (hH : XV G A M H0 H locs) (t0 : Nat) {E : String} {n : Nat} {f : Int → Option Nat} (ha : M a = some (aQ (G.2.1 t0) n f)) (ht : (tyA G.2.1)[t0]? = some (G.2.1 t0, .object E)) {i : Int} (h0 : 0 ≤ i) (hi : i < n) (hn : n < 2147483648) {v : Option Nat} (hv : f i = v) (d : decode cc pc = .ok (.aaload, 1))
    (kk : W p l e R s m args below meth c H locs cells slots Q (F0 m (pc + 1) ls (va_rf v :: rest))) : W p l e R s m args below meth c H locs cells slots Q (F0 m pc ls (.int (iI i) :: .ref a :: rest)) := by
  obtain ⟨⟨h, hn', hV⟩, hS⟩ := hH
  exact g_aald (H0 := H0) (locs := locs) hx hb hK ⟨hV, hS⟩ t0 (nA hn' ha) ht h0 hi hn hv d kk
theorem x_alen (hx : p.tables.exec = Jvm.exec) (hb : c.code = cc) (hK : va_K G.1 clA (tyA G.2.1) s) (hH : XV G A M H0 H locs) (t0 : Nat) {x : vp_A} (ha : M a = some (.inl (G.2.1 t0, x))) {ty : FieldType} (ht : (tyA G.2.1)[t0]? = some (G.2.1 t0, ty)) {n : Int} (hv : (x.1 : Int) = n) (d : decode cc pc = .ok (.arraylength, 1))
    (kk : W p l e R s m args below meth c H locs cells slots Q (F0 m (pc + 1) ls (.int (iI n) :: rest))) : W p l e R s m args below meth c H locs cells slots Q (F0 m pc ls (.ref a :: rest)) := by
  obtain ⟨⟨h, hn', hV⟩, hS⟩ := hH
  exact g_alenI (H0 := H0) (locs := locs) hx hb hK ⟨hV, hS⟩ t0 (nA hn' ha) ht hv d kk
theorem x_iast (hx : p.tables.exec = Jvm.exec) (hb : c.code = cc) (hK : va_K G.1 clA (tyA G.2.1) s) (hH : XV G A M H0 H locs) {n : Nat} {f : Int → Int} (ha : M a = some (aI (G.2.1 0) n f)) {i x : Int} (h0 : 0 ≤ i) (hi : i < n) (hn : n < 2147483648) (d : decode cc pc = .ok (.iastore, 1))
    (kk : ∀ (H1 : Heap) (locs1 : List Loc), XV G A (hs M a (aI (G.2.1 0) n (up f i x))) H0 H1 locs1 → W p l e R s m args below meth c H1 locs1 cells slots Q (F0 m (pc + 1) ls rest)) : W p l e R s m args below meth c H locs cells slots Q (F0 m pc ls (.int (iI x) :: .int (iI i) :: .ref a :: rest)) := by
  obtain ⟨⟨h, hn', hV⟩, hS⟩ := hH
  exact g_iast (H0 := H0) (locs := locs) hx hb hK ⟨hV, hS⟩ 0 (nA hn' ha) rfl h0 hi hn d (fun H1 locs1 hH1 => kk H1 locs1 ⟨⟨_, by rw [hN_set, hn']; rfl, hH1.1⟩, hH1.2⟩)
theorem x_bast (hx : p.tables.exec = Jvm.exec) (hb : c.code = cc) (hK : va_K G.1 clA (tyA G.2.1) s) (hH : XV G A M H0 H locs) {n : Nat} {f : Int → Int} (ha : M a = some (aI (G.2.1 1) n f)) {i x : Int} (hbx : -128 ≤ x ∧ x < 128) (h0 : 0 ≤ i) (hi : i < n) (hn : n < 2147483648) (d : decode cc pc = .ok (.bastore, 1))
    (kk : ∀ (H1 : Heap) (locs1 : List Loc), XV G A (hs M a (aI (G.2.1 1) n (up f i x))) H0 H1 locs1 → W p l e R s m args below meth c H1 locs1 cells slots Q (F0 m (pc + 1) ls rest)) : W p l e R s m args below meth c H locs cells slots Q (F0 m pc ls (.int (iI x) :: .int (iI i) :: .ref a :: rest)) := by
  obtain ⟨⟨h, hn', hV⟩, hS⟩ := hH
  exact g_bast (H0 := H0) (locs := locs) hx hb hK ⟨hV, hS⟩ 1 (nA hn' ha) rfl hbx h0 hi hn d (fun H1 locs1 hH1 => kk H1 locs1 ⟨⟨_, by rw [hN_set, hn']; rfl, hH1.1⟩, hH1.2⟩)
theorem x_last (hx : p.tables.exec = Jvm.exec) (hb : c.code = cc) (hK : va_K G.1 clA (tyA G.2.1) s) (hH : XV G A M H0 H locs) {n : Nat} {f : Int → Int} (ha : M a = some (aL (G.2.1 3) n f)) {i x : Int} (h0 : 0 ≤ i) (hi : i < n) (hn : n < 2147483648) (d : decode cc pc = .ok (.lastore, 1))
    (kk : ∀ (H1 : Heap) (locs1 : List Loc), XV G A (hs M a (aL (G.2.1 3) n (up f i x))) H0 H1 locs1 → W p l e R s m args below meth c H1 locs1 cells slots Q (F0 m (pc + 1) ls rest)) : W p l e R s m args below meth c H locs cells slots Q (F0 m pc ls (.long (lI x) :: .int (iI i) :: .ref a :: rest)) := by
  obtain ⟨⟨h, hn', hV⟩, hS⟩ := hH
  exact g_last (H0 := H0) (locs := locs) hx hb hK ⟨hV, hS⟩ 3 (nA hn' ha) rfl h0 hi hn d (fun H1 locs1 hH1 => kk H1 locs1 ⟨⟨_, by rw [hN_set, hn']; rfl, hH1.1⟩, hH1.2⟩)
end XR
/-! groups of cells: by owner codes they are apart -/
def upc (cell : Nat → va_E) (k : Nat) (e : va_E) : Nat → va_E := fun j => if j = k then e else cell j
def Gp (M : Hp) (w : Nat → Nat) (c : Nat) (L : List Nat) (B : Nat → Nat) (cell : Nat → va_E) : Prop := ∀ k ∈ L, M (B k) = some (cell k) ∧ w (B k) = c + k
theorem Gp_cg {M : Hp} {w : Nat → Nat} {c : Nat} {L : List Nat} {B : Nat → Nat} {cell cell' : Nat → va_E} (h : Gp M w c L B cell) (he : ∀ k ∈ L, cell k = cell' k) : Gp M w c L B cell' := fun k hk => by rw [← he k hk]; exact h k hk
theorem Gp_up {M : Hp} {w : Nat → Nat} {c : Nat} {L : List Nat} {B : Nat → Nat} {cell : Nat → va_E} (h : Gp M w c L B cell) {k0 : Nat} (h0 : k0 ∈ L) {e : va_E} : Gp (hs M (B k0) e) w c L B (upc cell k0 e) := fun k hk => by
  refine ⟨?_, (h k hk).2⟩
  by_cases z : k = k0
  · subst z
    rw [hs_s]
    unfold upc
    rw [if_pos rfl]
  · have n : B k ≠ B k0 := fun q => by
      have h1 := (h k hk).2
      rw [q, (h k0 h0).2] at h1
      omega
    rw [hs_n n]
    unfold upc
    rw [if_neg z]
    exact (h k hk).1
theorem Gp_out {M : Hp} {w : Nat → Nat} {c : Nat} {L : List Nat} {B : Nat → Nat} {cell : Nat → va_E} (h : Gp M w c L B cell) {a : Nat} {e : va_E} (hw : ∀ k ∈ L, w a ≠ c + k) : Gp (hs M a e) w c L B cell := fun k hk => by
  refine ⟨?_, (h k hk).2⟩
  rw [hs_n (fun q => hw k hk (by rw [← q]; exact (h k hk).2))]
  exact (h k hk).1
/-- a part of the heap that no store touches -/
def Sub (I M : Hp) (w : Nat → Nat) : Prop := ∀ a e, I a = some e → M a = some e ∧ w a = 0
theorem Sub_st {I M : Hp} {w : Nat → Nat} (h : Sub I M w) {a : Nat} {e : va_E} (hw : w a ≠ 0) : Sub I (hs M a e) w := fun q x hq => by
  refine ⟨?_, (h q x hq).2⟩
  rw [hs_n (fun z => hw (by rw [← z]; exact (h q x hq).2))]
  exact (h q x hq).1
