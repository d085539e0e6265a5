/-! CONTRACTS over the heap as a function -/
def gP (D : va_G) (cl : List vw_C) (tys : List (ClassId × FieldType)) (X : State → Prop) (av : List Value) (h : Hp) (sz : Nat) : Array Value → State → Prop := va_Pc av (fun U => U.heap.size = sz ∧ HVd D cl (fun _ => True) h U.heap ∧ va_K D cl tys U ∧ X U)
def gQi (D : va_G) (cl : List vw_C) (A : Nat → Prop) (post : Int → Hp → Prop) : Array Value → State → Outcome → State → Prop := va_Qi (S := Int × Hp) (fun r u => r = iI u.1 ∧ post u.1 u.2) (fun u t => HVd D cl A u.2 t.heap) A
def gQl (D : va_G) (cl : List vw_C) (A : Nat → Prop) (post : Int → Hp → Prop) : Array Value → State → Outcome → State → Prop := va_Ql (S := Int × Hp) (fun r u => r = lI u.1 ∧ post u.1 u.2) (fun u t => HVd D cl A u.2 t.heap) A
def gQv (D : va_G) (cl : List vw_C) (A : Nat → Prop) (post : Hp → Prop) : Array Value → State → Outcome → State → Prop := va_Qv (S := Hp) post (fun u t => HVd D cl A u t.heap) A
def gQq (D : va_G) (cl : List vw_C) (A : Nat → Prop) (post : Option Nat → Hp → Prop) : Array Value → State → Outcome → State → Prop := va_Qq (S := Hp) post (fun u t => HVd D cl A u t.heap) A
def XB (X : State → Prop) : Prop := ∀ (U : State) (g : JFrame) (mk : MethodId) (a : Array Value), X U → X (U.calling g mk a)
theorem XB_t : XB (fun _ => True) := fun _ _ _ _ _ => trivial
theorem gP_blind {D : va_G} {cl : List vw_C} {tys : List (ClassId × FieldType)} {X : State → Prop} {av : List Value} {h : Hp} {sz : Nat} (hX : XB X) : FrameBlind (gP D cl tys X av h sz) := by
  intro a U g mk q
  obtain ⟨q0, q1, q2, q3, q4⟩ := q
  exact ⟨q0, q1, q2, va_K.moved (u := U) (U := U.calling g mk a) (Vm.Alike.refl U.vm) q3, hX _ _ _ _ q4⟩
/-- what a method's body has at its entry -/
def GC (p : Program) (s : State) (m : MethodId) (args : Array Value) (meth : Method) (c : Code) (y : MethodName) (cc : ByteArray) (maxL : Nat) (ret : Option FieldType) (D : va_G) (cl : List vw_C) (tys : List (ClassId × FieldType)) (X : State → Prop) (h : Hp) (sz : Nat) : Prop :=
  CallFix p m c cc maxL s args lw_all y.cls ∧ meth.sig.returnType = ret ∧ meth.locks = false ∧ HV D cl (DA h sz) h s.heap s.heap [] ∧ va_K D cl tys s ∧ X s ∧ s.heap.size = sz ∧ meth.name = y.name
theorem g_start {l : Launch} {y : MethodName} {cc : ByteArray} {maxL : Nat} {ret : Option FieldType} {rm : Room} {D : va_G} {cl : List vw_C} {tys : List (ClassId × FieldType)} {X : State → Prop} {av : List Value} {h : Hp} {sz mc ms : Nat} {Qc : Array Value → State → Outcome → State → Prop} {free : Addr → Prop} (hy : plainName y.cls = true) (hl : (lg_sl av).length ≤ maxL)
    (body : ∀ (p : Program) (e : Env) (s : State) (m : MethodId) (below : List Frame) (meth : Method) (c : Code), GC p s m av.toArray meth c y cc maxL ret D cl tys X h sz → ∀ ls : Array Slot, lv_has ls maxL (lv_args 0 av) → W p l e rm s m av.toArray below meth c s.heap [] 0 0 (MQ below Qc av.toArray s mc ms free) (F0 m 0 ls [])) : Met l y (ws_ y cc maxL ret) rm (gP D cl tys X av h sz) Qc mc ms free := by
  refine Met.ofW (cc := cc) (maxL := maxL) (ret := ret) hy rfl ?_
  intro p e s m args below meth c s₁ B hml hv
  obtain ⟨rfl, hsz, hH, hK, hX⟩ := hv
  have hts := atoms_spec (ws := ws_ y cc maxL ret) B.pre
  have hts : ∀ w ∈ lw_all, w.before _ s = true := fun w h => hts w (List.mem_cons_of_mem _ h)
  rw [lg_entry_eq]
  exact body p e s m below meth c ⟨⟨B.exec, B.bytes, hml, findClass_of_methodNamed B.named, hts⟩, B.returns, B.notSynchronized, ⟨hH.self sz, va_S.rf⟩, hK, hX, hsz, (name_of_methodNamed B.named B.method).1⟩ _ (lv_entry av hl)
theorem HVd.cg {D : va_G} {cl : List vw_C} {A : Nat → Prop} {h : Hp} {H : Heap} {t : State} (ht : t.heap = H) (hH : HVd D cl A h H) : HVd D cl A h t.heap := by rw [ht]; exact hH
section GR2
variable {p : Program} {l : Launch} {e : Env} {R : Room} {s : State} {m : MethodId} {args : Array Value} {below : List Frame} {meth : Method} {c : Code} {H : Heap} {locs : List Loc} {cells slots : Nat} {Q : State → Prop}
variable {cc : ByteArray} {pc : Nat} {ls : Array Slot} {rest st0 : List Value} {D : va_G} {cl : List vw_C} {A : Nat → Prop} {a : Nat} {tys : List (ClassId × FieldType)} {h : Hp} {H0 : Heap} {X : State → Prop}
theorem g_iret {post : Int → Hp → Prop} {z : Int} (hx : p.tables.exec = Jvm.exec) (hb : c.code = cc) (hr : meth.sig.returnType = some .int) (hlk : meth.locks = false) (hH : HV D cl A h s.heap H locs) (d : decode cc pc = .ok (.ireturn, 1)) (hp : post z h) : W p l e R s m args below meth c H locs cells slots (MQ below (gQi D cl A post) args s cells slots A) (F0 m pc ls [.int (iI z)]) :=
  W.iret hx hb hr (fun t ht _ => ⟨⟨iI z, (z, h), rfl, ⟨rfl, hp⟩, HVd.cg ht hH.1⟩, hH.2.F ht⟩) hH.2.2.2 d hlk
theorem g_zret {post : Int → Hp → Prop} {z : Int} (hx : p.tables.exec = Jvm.exec) (hb : c.code = cc) (hr : meth.sig.returnType = some .boolean) (hlk : meth.locks = false) (hH : HV D cl A h s.heap H locs) (d : decode cc pc = .ok (.ireturn, 1)) (hz : z = 0 ∨ z = 1) (hp : post z h) : W p l e R s m args below meth c H locs cells slots (MQ below (gQi D cl A post) args s cells slots A) (F0 m pc ls [.int (iI z)]) :=
  W.zret hx hb hr (by rcases hz with q | q <;> subst q <;> rfl) (fun t ht _ => ⟨⟨iI z, (z, h), rfl, ⟨rfl, hp⟩, HVd.cg ht hH.1⟩, hH.2.F ht⟩) hH.2.2.2 d hlk
theorem g_lret {post : Int → Hp → Prop} {z : Int} (hx : p.tables.exec = Jvm.exec) (hb : c.code = cc) (hr : meth.sig.returnType = some .long) (hlk : meth.locks = false) (hH : HV D cl A h s.heap H locs) (d : decode cc pc = .ok (.lreturn, 1)) (hp : post z h) : W p l e R s m args below meth c H locs cells slots (MQ below (gQl D cl A post) args s cells slots A) (F0 m pc ls [.long (lI z)]) :=
  W.lret hx hb hr (fun t ht _ => ⟨⟨lI z, (z, h), rfl, ⟨rfl, hp⟩, HVd.cg ht hH.1⟩, hH.2.F ht⟩) hH.2.2.2 d hlk
theorem g_vret {post : Hp → Prop} (hx : p.tables.exec = Jvm.exec) (hb : c.code = cc) (hr : meth.sig.returnType = none) (hlk : meth.locks = false) (hH : HV D cl A h s.heap H locs) (d : decode cc pc = .ok (.return_, 1)) (hp : post h) : W p l e R s m args below meth c H locs cells slots (MQ below (gQv D cl A post) args s cells slots A) (F0 m pc ls []) :=
  W.vret hx hb hr (fun t ht _ => ⟨⟨h, rfl, hp, HVd.cg ht hH.1⟩, hH.2.F ht⟩) hH.2.2.2 d hlk
theorem g_aret {post : Option Nat → Hp → Prop} {r : Option Nat} {rt : FieldType} (hx : p.tables.exec = Jvm.exec) (hb : c.code = cc) (hr : meth.sig.returnType = some rt) (hrt : (∃ n, rt = .object n) ∨ ∃ t, rt = .array t) (hlk : meth.locks = false) (hH : HV D cl A h s.heap H locs) (d : decode cc pc = .ok (.areturn, 1)) (hp : post r h) : W p l e R s m args below meth c H locs cells slots (MQ below (gQq D cl A post) args s cells slots A) (F0 m pc ls [va_rf r]) :=
  W.aret hx hb hr hrt (va_rf_or r) (fun t ht _ => ⟨⟨r, h, rfl, hp, HVd.cg ht hH.1⟩, hH.2.F ht⟩) hH.2.2.2 d hlk
theorem gP_at {av : List Value} (hH : HV D cl A h H0 H locs) (hK : va_K D cl tys s) (hX : ∀ U : State, U.heap = H → s.WarmedH U.vm → X U) : ∀ U : State, U.heap = H → s.WarmedH U.vm → gP D cl tys X av h H.size av.toArray U := fun U hU hW => ⟨rfl, by rw [hU], by rw [hU]; exact hH.1.weaken (fun _ _ _ => trivial), va_K.moved hW.alike hK, hX U hU hW⟩
theorem HV.recv {b ci : Nat} {fs : List Value} {q : vw_C} (hH : HV D cl A h H0 H locs) (hK : va_K D cl tys s) (hr : h b = some (oB ci fs)) (hc : cl[ci]? = some q) : ∃ cell : Cell, H[b]? = some cell ∧ cell.vm.isStatics = false ∧ s.vm.findClass q.1 = some cell.cls := by
  obtain ⟨⟨ws, hR, hP, hD⟩, hS⟩ := hH
  obtain ⟨q0, hq⟩ := (hR _ _).mp hr
  exact va_recv hK hP hc hq
variable {y : MethodName} {bytes : ByteArray} {maxL nL mc ms n index : Nat} {ret : Option FieldType} {rm : Room} {Qc : Array Value → State → Outcome → State → Prop} {free : Addr → Prop} {own C : String} {b : Addr} {As : List Value}
theorem g_runV {ci : Nat} {fs : List Value} {q : vw_C} (S : CallFix p m c cc nL s args lw_all own) (hH : HV D cl A h H0 H locs) (hK : va_K D cl tys s) (hX : ∀ U : State, U.heap = H → s.WarmedH U.vm → X U) (hXb : XB X) (hr : h b = some (oB ci fs)) (hc : cl[ci]? = some q) (hsz : ls.size = nL)
    (hM : Met l y (ws_ y bytes maxL ret) rm (gP D cl tys X (.ref b :: As) h H.size) Qc mc ms free) (hG : GoodIn lw_all (wsV own index C y (ws_ y bytes maxL ret))) (hd : y.cls = C ∧ y.cls ≠ "java/lang/invoke/MethodHandle" ∧ y.cls ≠ "java/lang/invoke/VarHandle" ∧ (parseMethodDescriptor y.desc).map (fun d => d.parameters.length) = some n) (hn : As.length = n) (hst : st0 = As.reverse ++ .ref b :: rest) (d : decode cc pc = .ok (.invokevirtual index, 3)) (hqC : q.1 = C := by rfl) (hrc : rm.cells = mc := by rfl) (hrs : rm.slots = ms := by rfl)
    (hR : rm.frames + 1 ≤ R.frames ∧ 8 + (maxL + 11) + rm.locals ≤ R.locals := by exact ⟨Nat.le_of_ble_eq_true rfl, Nat.le_of_ble_eq_true rfl⟩) (hW : (rest.map fun v => v.category).sum ≤ 8 := by first | exact Nat.le_of_ble_eq_true rfl | decide) (hf : cells + mc ≤ R.cells ∧ slots + ms ≤ R.slots := by exact ⟨Nat.le_of_ble_eq_true rfl, Nat.le_of_ble_eq_true rfl⟩) : va_Run p l e R s m args below meth c H locs cells slots mc ms (F0 m pc ls st0) rest (Qc (Value.ref b :: As).toArray) free :=
  va_runV (As := As) (rest := rest) (C := C) S hM (cwV n S.2.2.2.2 hG rfl hrc hrs hd hR) ⟨gP_blind hXb, by rw [← hqC]; exact hH.recv hK hr hc, gP_at hH hK hX⟩ rfl hn hsz hst (lv_room hW) d hf
theorem g_runI (S : CallFix p m c cc nL s args lw_all own) (hH : HV D cl A h H0 H locs) (hK : va_K D cl tys s) (hX : ∀ U : State, U.heap = H → s.WarmedH U.vm → X U) (hXb : XB X) (hsz : ls.size = nL)
    (hM : Met l y (ws_ y bytes maxL none) rm (gP D cl tys X (.ref b :: As) h H.size) Qc mc ms free) (hG : GoodIn lw_all (ws_ y bytes maxL none)) (hini : (Cond.initialized y.cls) ∈ lw_all) (hl : (Cond.methodLink own index y) ∈ lw_all) (hin : (Cond.instanceMethod y) ∈ lw_all) (hd : y.cls = C ∧ y.cls ≠ "java/lang/invoke/MethodHandle" ∧ y.cls ≠ "java/lang/invoke/VarHandle" ∧ (parseMethodDescriptor y.desc).map (fun d => d.parameters.length) = some n) (hn : As.length = n) (hst : st0 = As.reverse ++ .ref b :: rest) (d : decode cc pc = .ok (.invokespecial index, 3)) (hy : y.name = "<init>" := by rfl) (hrc : rm.cells = mc := by rfl) (hrs : rm.slots = ms := by rfl)
    (hR : rm.frames + 1 ≤ R.frames ∧ 8 + (maxL + 11) + rm.locals ≤ R.locals := by exact ⟨Nat.le_of_ble_eq_true rfl, Nat.le_of_ble_eq_true rfl⟩) (hW : (rest.map fun v => v.category).sum ≤ 8 := by first | exact Nat.le_of_ble_eq_true rfl | decide) (hf : cells + mc ≤ R.cells ∧ slots + ms ≤ R.slots := by exact ⟨Nat.le_of_ble_eq_true rfl, Nat.le_of_ble_eq_true rfl⟩) : va_Run p l e R s m args below meth c H locs cells slots mc ms (F0 m pc ls st0) rest (Qc (Value.ref b :: As).toArray) free :=
  va_runI (As := As) (rest := rest) S hM (cwI n S.2.2.2.2 hG rfl hrc hrs (S.2.2.2.2 _ hini) (S.2.2.2.2 _ hl) (S.2.2.2.2 _ hin) hy hd.2 hR) ⟨gP_blind hXb, gP_at hH hK hX⟩ rfl hn hsz hst (lv_room hW) d hf
theorem g_runS (S : CallFix p m c cc nL s args lw_all own) (hH : HV D cl A h H0 H locs) (hK : va_K D cl tys s) (hX : ∀ U : State, U.heap = H → s.WarmedH U.vm → X U) (hXb : XB X) (hsz : ls.size = nL)
    (hM : Met l y (ws_ y bytes maxL ret) rm (gP D cl tys X As h H.size) Qc mc ms free) (hG : GoodIn lw_all (va_wsS own index y (ws_ y bytes maxL ret))) (hd : y.cls = C ∧ y.cls ≠ "java/lang/invoke/MethodHandle" ∧ y.cls ≠ "java/lang/invoke/VarHandle" ∧ (parseMethodDescriptor y.desc).map (fun d => d.parameters.length) = some n) (hn : As.length = n) (hst : st0 = As.reverse ++ rest) (d : decode cc pc = .ok (.invokestatic index, 3)) (hrc : rm.cells = mc := by rfl) (hrs : rm.slots = ms := by rfl)
    (hR : rm.frames + 1 ≤ R.frames ∧ 8 + (maxL + 11) + rm.locals ≤ R.locals := by exact ⟨Nat.le_of_ble_eq_true rfl, Nat.le_of_ble_eq_true rfl⟩) (hW : (rest.map fun v => v.category).sum ≤ 8 := by first | exact Nat.le_of_ble_eq_true rfl | decide) (hf : cells + mc ≤ R.cells ∧ slots + ms ≤ R.slots := by exact ⟨Nat.le_of_ble_eq_true rfl, Nat.le_of_ble_eq_true rfl⟩) : va_Run p l e R s m args below meth c H locs cells slots mc ms (F0 m pc ls st0) rest (Qc As.toArray) free :=
  va_runS (As := As) (rest := rest) S hM (va_cwS n S.2.2.2.2 hG rfl hrc hrs hd.2 hR) ⟨gP_blind hXb, gP_at hH hK hX⟩ rfl hn hsz hst (lv_room hW) d hf
theorem g_calli {post : Int → Hp → Prop} {av : Array Value} (hr : va_Run p l e R s m args below meth c H locs cells slots mc ms (F0 m pc ls st0) rest (gQi D cl (DA h H.size) post av) (DA h H.size)) (hH : HV D cl A h H0 H locs) (hA : ∀ q, H0.size ≤ q → A q)
    (kk : ∀ (z : Int) (h' : Hp) (H1 : Heap) (locs1 : List Loc), post z h' → HV D cl A h' H0 H1 locs1 → H.size ≤ H1.size → W p l e R s m args below meth c H1 locs1 (cells + mc) (slots + ms) Q (F0 m (pc + 3) ls (.int (iI z) :: rest))) : W p l e R s m args below meth c H locs cells slots Q (F0 m pc ls st0) := by
  refine va_calli hr hH.2 (fun q _ hq => hH.sub hA q hq) (fun q hq => hH.sub hA q hq) ?_
  intro r u t H1 locs1 ht hvm hp hB hsz hk hS
  obtain ⟨rfl, hp⟩ := hp
  rw [ht] at hB
  exact kk u.1 u.2 H1 locs1 hp ⟨hB.weaken (fun q _ hq => hH.sub hA q hq), hS⟩ hsz
theorem g_calll {post : Int → Hp → Prop} {av : Array Value} (hr : va_Run p l e R s m args below meth c H locs cells slots mc ms (F0 m pc ls st0) rest (gQl D cl (DA h H.size) post av) (DA h H.size)) (hH : HV D cl A h H0 H locs) (hA : ∀ q, H0.size ≤ q → A q)
    (kk : ∀ (z : Int) (h' : Hp) (H1 : Heap) (locs1 : List Loc), post z h' → HV D cl A h' H0 H1 locs1 → H.size ≤ H1.size → W p l e R s m args below meth c H1 locs1 (cells + mc) (slots + ms) Q (F0 m (pc + 3) ls (.long (lI z) :: rest))) : W p l e R s m args below meth c H locs cells slots Q (F0 m pc ls st0) := by
  refine va_calll hr hH.2 (fun q _ hq => hH.sub hA q hq) (fun q hq => hH.sub hA q hq) ?_
  intro r u t H1 locs1 ht hvm hp hB hsz hk hS
  obtain ⟨rfl, hp⟩ := hp
  rw [ht] at hB
  exact kk u.1 u.2 H1 locs1 hp ⟨hB.weaken (fun q _ hq => hH.sub hA q hq), hS⟩ hsz
theorem g_callv {post : Hp → Prop} {av : Array Value} (hr : va_Run p l e R s m args below meth c H locs cells slots mc ms (F0 m pc ls st0) rest (gQv D cl (DA h H.size) post av) (DA h H.size)) (hH : HV D cl A h H0 H locs) (hA : ∀ q, H0.size ≤ q → A q)
    (kk : ∀ (h' : Hp) (H1 : Heap) (locs1 : List Loc), post h' → HV D cl A h' H0 H1 locs1 → H.size ≤ H1.size → W p l e R s m args below meth c H1 locs1 (cells + mc) (slots + ms) Q (F0 m (pc + 3) ls rest)) : W p l e R s m args below meth c H locs cells slots Q (F0 m pc ls st0) := by
  refine va_callv hr hH.2 (fun q _ hq => hH.sub hA q hq) (fun q hq => hH.sub hA q hq) ?_
  intro u t H1 locs1 ht hvm hp hB hsz hk hS
  rw [ht] at hB
  exact kk u H1 locs1 hp ⟨hB.weaken (fun q _ hq => hH.sub hA q hq), hS⟩ hsz
theorem g_callq {post : Option Nat → Hp → Prop} {av : Array Value} (hr : va_Run p l e R s m args below meth c H locs cells slots mc ms (F0 m pc ls st0) rest (gQq D cl (DA h H.size) post av) (DA h H.size)) (hH : HV D cl A h H0 H locs) (hA : ∀ q, H0.size ≤ q → A q)
    (kk : ∀ (r : Option Nat) (h' : Hp) (H1 : Heap) (locs1 : List Loc), post r h' → HV D cl A h' H0 H1 locs1 → H.size ≤ H1.size → W p l e R s m args below meth c H1 locs1 (cells + mc) (slots + ms) Q (F0 m (pc + 3) ls (va_rf r :: rest))) : W p l e R s m args below meth c H locs cells slots Q (F0 m pc ls st0) := by
  refine va_callq hr hH.2 (fun q _ hq => hH.sub hA q hq) (fun q hq => hH.sub hA q hq) ?_
  intro r u t H1 locs1 ht hvm hp hB hsz hk hS
  rw [ht] at hB
  exact kk r u H1 locs1 hp ⟨hB.weaken (fun q _ hq => hH.sub hA q hq), hS⟩ hsz
end GR2
