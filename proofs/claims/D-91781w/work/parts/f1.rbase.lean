/-! the reader: texts, statics, and methods that may throw -/
def sIx : List Nat := [23, 25, 27, 29, 31, 33, 35, 37, 39, 45, 47, 49, 51, 53, 55, 57, 62, 64, 66, 68, 70, 101, 159, 175, 184, 191, 193, 197, 209, 211, 213, 227, 229, 237, 239, 241, 243]
def sTx : List String := ["broth", "sort", "heat", "minutes", "since", "place", "open", "TIPPED", "hand", "swan", "sealed", "plugged", "mercury", "living", "tipped", "air", "clear", "turned", "odds", "save", "fair", ";", "if", "or", "and", "not", "(", ")", "<", ">", "=", "+", "-", "*", "/", "[", "]"]
def sLen : List Nat := [5, 4, 4, 7, 5, 5, 4, 6, 4, 4, 6, 7, 7, 6, 6, 3, 5, 6, 4, 4, 4, 1, 2, 2, 3, 3, 1, 1, 1, 1, 1, 1, 1, 1, 1, 1, 1]
def sBy : List (List Int) := [[98, 114, 111, 116, 104], [115, 111, 114, 116], [104, 101, 97, 116], [109, 105, 110, 117, 116, 101, 115], [115, 105, 110, 99, 101], [112, 108, 97, 99, 101], [111, 112, 101, 110], [84, 73, 80, 80, 69, 68], [104, 97, 110, 100], [115, 119, 97, 110], [115, 101, 97, 108, 101, 100], [112, 108, 117, 103, 103, 101, 100], [109, 101, 114, 99, 117, 114, 121], [108, 105, 118, 105, 110, 103], [116, 105, 112, 112, 101, 100], [97, 105, 114], [99, 108, 101, 97, 114], [116, 117, 114, 110, 101, 100], [111, 100, 100, 115], [115, 97, 118, 101], [102, 97, 105, 114], [59], [105, 102], [111, 114], [97, 110, 100], [110, 111, 116], [40], [41], [60], [62], [61], [43], [45], [42], [47], [91], [93]]
def sByt : List (List Int32) := sBy.map (fun l => l.map iI)
/-- the world of texts and statics, A: what may change -/
def StrW (K : (Nat → Nat) × (Nat → Nat)) (A : Nat → Prop) (U : State) (H : Heap) : Prop := vk_S 37 sLen sByt K.1 K.2 A U H ∧ va_Z "java/lang/String" "COMPACT_STRINGS" "Z" (.int 1) A U H ∧ (∃ t : Nat, va_Z "jdk/internal/util/Preconditions" "SIOOBE_FORMATTER" "Ljava/util/function/BiFunction;" (.ref t) A U H) ∧ (∃ t : Nat, va_Z "java/lang/Throwable" "UNASSIGNED_STACK" "[Ljava/lang/StackTraceElement;" (.ref t) A U H) ∧ ∃ t : Nat, va_Z "java/lang/Throwable" "SUPPRESSED_SENTINEL" "Ljava/util/List;" (.ref t) A U H
def XRd (K : (Nat → Nat) × (Nat → Nat)) (M : Hp) (U : State) : Prop := XN U ∧ (∀ i, i < 37 → vk_R "BrothFlasks$Reader" (sIx.getD i 0) (sTx.getD i "") (K.1 i) U) ∧ StrW K (DA M U.heap.size) U U.heap
theorem StrW.moved {K : (Nat → Nat) × (Nat → Nat)} {A : Nat → Prop} {u U : State} {H : Heap} (hvm : u.vm.Alike U.vm) (h : StrW K A u H) : StrW K A U H := by
  obtain ⟨h1, h2, ⟨t3, h3⟩, ⟨t4, h4⟩, t5, h5⟩ := h
  exact ⟨h1.moved hvm, h2.moved hvm, ⟨t3, h3.moved hvm⟩, ⟨t4, h4.moved hvm⟩, t5, h5.moved hvm⟩
theorem StrW.kept {K : (Nat → Nat) × (Nat → Nat)} {A : Nat → Prop} {U : State} {H H1 : Heap} (h : StrW K A U H) (hq : ∀ a : Nat, a < H.size → ¬ A a → H1[a]? = H[a]?) : StrW K A U H1 := by
  obtain ⟨h1, h2, ⟨t3, h3⟩, ⟨t4, h4⟩, t5, h5⟩ := h
  exact ⟨h1.kept hq, h2.kept hq, ⟨t3, h3.kept hq⟩, ⟨t4, h4.kept hq⟩, t5, h5.kept hq⟩
theorem StrW.narrow {K : (Nat → Nat) × (Nat → Nat)} {A B : Nat → Prop} {U : State} {H : Heap} (h : StrW K A U H) (hAB : ∀ q, B q → A q) : StrW K B U H := by
  obtain ⟨h1, h2, ⟨t3, h3⟩, ⟨t4, h4⟩, t5, h5⟩ := h
  exact ⟨h1.narrow hAB, h2.narrow hAB, ⟨t3, h3.narrow hAB⟩, ⟨t4, h4.narrow hAB⟩, t5, h5.narrow hAB⟩
theorem XRd_b {K : (Nat → Nat) × (Nat → Nat)} {M : Hp} : XB (XRd K M) := fun U g mk a h => ⟨XN_b U g mk a h.1, fun i hi => vk_R.same rfl (h.2.1 i hi), StrW.moved (u := U) (Vm.Alike.refl U.vm) h.2.2⟩
/-- at a call -/
theorem XRd.at {K : (Nat → Nat) × (Nat → Nat)} {G : MG} {M M1 : Hp} {s : State} {H : Heap} {locs : List Loc} (h : XRd K M s) (hH : XV G (DA M s.heap.size) M1 s.heap H locs) : ∀ U : State, U.heap = H → s.WarmedH U.vm → XRd K M1 U := fun U hU hW => by
  refine ⟨XN.warm hW h.1, fun i hi => vk_R.warm hW (h.2.1 i hi), ?_⟩
  rw [hU]
  exact ((h.2.2.kept hH.2.2.1).moved hW.alike).narrow (hH.sub (fun q hq => Or.inr hq))
theorem XRd.N {K : (Nat → Nat) × (Nat → Nat)} {G : MG} {M : Hp} {s : State} {H : Heap} (h : XRd K M s) : ∀ U : State, U.heap = H → s.WarmedH U.vm → XN U := fun U _ hW => XN.warm hW h.1
/-- an exception's object -/
def wrE (pl : Int) : va_E := oB 10 [.null, .null, .null, .null, .null, .int (iI 0), .int (iI pl)]
def rXc (G : MG) (A : Nat → Prop) (px : Int → Hp → Prop) : String → Addr → State → State → Prop := vx_X (S := Int × Hp) (fun u => px u.1 u.2) (fun E q u t => (E = "BrothFlasks$Wrong" ∧ u.2 q = some (wrE u.1)) ∧ XVd G A u.2 t.heap) A
/-- a contract of a method that may throw -/
theorem r_start {l : Launch} {y : MethodName} {cc : ByteArray} {maxL : Nat} {ret : Option FieldType} {rm : Room} {G : MG} {X : State → Prop} {av : List Value} {M : Hp} {sz mc ms : Nat} {Qc : Array Value → State → Outcome → State → Prop} {Xc : String → Addr → State → State → Prop} {free : Addr → Prop} (hy : plainName y.cls = true) (hl : (lg_sl av).length ≤ maxL)
    (body : ∀ (p : Program) (e : Env) (s : State) (m : MethodId) (below : List Frame) (meth : Method) (c : Code), XC p s m av.toArray meth c y cc maxL ret G X M sz → (∀ x ∈ c.exceptionTable.toList, False) → ∀ ls : Array Slot, lv_has ls maxL (lv_args 0 av) → W p l e rm s m av.toArray below meth c s.heap [] 0 0 (vx_MQ below Qc Xc av.toArray s mc ms free) (F0 m 0 ls [])) : vx_Met l y (ws_ y cc maxL ret) rm (xP G X av M sz) Qc Xc mc ms free := by
  refine vx_ofW (cc := cc) (maxL := maxL) (ret := ret) hy rfl ?_
  intro p e s m args below meth c s₁ B hml hto hv
  obtain ⟨rfl, hsz, hH, hK, hX⟩ := hv
  have hts := atoms_spec (ws := ws_ y cc maxL ret) B.pre
  have hts : ∀ w ∈ lw_all, w.before _ s = true := fun w h => hts w (List.mem_cons_of_mem _ h)
  rw [lg_entry_eq]
  exact body p e s m below meth c ⟨⟨B.exec, B.bytes, hml, findClass_of_methodNamed B.named, hts⟩, B.returns, B.notSynchronized, ⟨hH.self sz, va_S.rf⟩, hK, hX, hsz, (name_of_methodNamed B.named B.method).1⟩ hto _ (lv_entry av hl)
section RDR
variable {p : Program} {l : Launch} {e : Env} {R : Room} {s : State} {m : MethodId} {args : Array Value} {below : List Frame} {meth : Method} {c : Code} {H : Heap} {locs : List Loc} {cells slots : Nat} {Q : State → Prop}
variable {cc : ByteArray} {pc : Nat} {ls : Array Slot} {rest st0 : List Value} {G : MG} {A : Nat → Prop} {a : Nat} {M : Hp} {H0 : Heap} {X : State → Prop} {px : Int → Hp → Prop}
variable {y : MethodName} {bytes : ByteArray} {maxL nL mc ms n index : Nat} {ret : Option FieldType} {rm : Room} {Qc : Array Value → State → Outcome → State → Prop} {Xc : String → Addr → State → State → Prop} {free : Addr → Prop} {own C : String} {b : Addr} {As : List Value}
theorem r_runV {ci : Nat} {fs : List Value} {q : vw_C} (S : CallFix p m c cc nL s args lw_all own) (hH : XV G A M H0 H locs) (hK : va_K G.1 clA (tyA G.2.1) s) (hX : ∀ U : State, U.heap = H → s.WarmedH U.vm → X U) (hXb : XB X) (hsz : ls.size = nL) (hr : M b = some (oB ci fs)) (hc : clA[ci]? = some q)
    (hM : vx_Met l y (ws_ y bytes maxL ret) rm (xP G X (.ref b :: As) M H.size) Qc Xc mc ms free) (hG : GoodIn lw_all (wsV own index C y (ws_ y bytes maxL ret))) (hd : y.cls = C ∧ y.cls ≠ "java/lang/invoke/MethodHandle" ∧ y.cls ≠ "java/lang/invoke/VarHandle" ∧ (parseMethodDescriptor y.desc).map (fun d => d.parameters.length) = some n) (hn : As.length = n) (hst : st0 = As.reverse ++ .ref b :: rest) (d : decode cc pc = .ok (.invokevirtual index, 3)) (hqC : q.1 = C := by rfl) (hrc : rm.cells = mc := by rfl) (hrs : rm.slots = ms := by rfl)
    (hR : rm.frames + 1 ≤ R.frames ∧ 8 + (maxL + 11) + rm.locals ≤ R.locals := by exact ⟨Nat.le_of_ble_eq_true rfl, Nat.le_of_ble_eq_true rfl⟩) (hW : (rest.map fun v => v.category).sum ≤ 8 := by first | exact Nat.le_of_ble_eq_true rfl | decide) (hf : cells + mc ≤ R.cells ∧ slots + ms ≤ R.slots := by exact ⟨Nat.le_of_ble_eq_true rfl, Nat.le_of_ble_eq_true rfl⟩) : vx_Run p l e R s m args below meth c H locs cells slots mc ms (F0 m pc ls st0) rest (Qc (Value.ref b :: As).toArray) Xc free :=
  vx_runV (As := As) (rest := rest) (C := C) S hM (cwV n S.2.2.2.2 hG rfl hrc hrs hd hR) ⟨xP_blind hXb, by rw [← hqC]; exact hH.recv hK hr hc, xP_at hH hK hX⟩ rfl hn hsz hst (lv_room hW) d hf
/-- what is known where a callee has thrown -/
abbrev RThr (G : MG) (A : Nat → Prop) (px : Int → Hp → Prop) (s : State) (H0 H1 : Heap) (locs1 : List Loc) (q9 : Nat) (M' : Hp) (pl : Int) : Prop := px pl M' ∧ XV G A M' H0 H1 locs1 ∧ M' q9 = some (wrE pl) ∧ ∃ ce : Cell, H1[q9]? = some ce ∧ ce.vm = .none ∧ s.vm.findClass "BrothFlasks$Wrong" = some ce.cls
theorem r_callv {post : Hp → Prop} {av : Array Value} (hr : vx_Run p l e R s m args below meth c H locs cells slots mc ms (F0 m pc ls st0) rest (xQv G (DA M H.size) post av) (rXc G (DA M H.size) px) (DA M H.size)) (hH : XV G A M H0 H locs) (hA : ∀ q, H0.size ≤ q → A q)
    (kx : ∀ (q9 : Nat) (pl : Int) (M' : Hp) (H1 : Heap) (locs1 : List Loc), RThr G A px s H0 H1 locs1 q9 M' pl → vx_W p l e R s m args below meth c H1 locs1 (cells + mc) (slots + ms) Q (F0 m pc ls rest) q9)
    (kk : ∀ (M' : Hp) (H1 : Heap) (locs1 : List Loc), post M' → XV G A M' H0 H1 locs1 → H.size ≤ H1.size → W p l e R s m args below meth c H1 locs1 (cells + mc) (slots + ms) Q (F0 m (pc + 3) ls rest)) : W p l e R s m args below meth c H locs cells slots Q (F0 m pc ls st0) := by
  refine vx_callv hr hH.2 (fun q _ hq => hH.sub hA q hq) (fun q hq => hH.sub hA q hq) (fun q _ hq => hH.sub hA q hq) ?_ ?_
  · intro E ce q9 u t H1 locs1 ht hvm hp hB hsz hk hS hce hcv hcl
    obtain ⟨⟨rfl, hq9⟩, hB⟩ := hB
    rw [ht] at hB
    exact kx q9 u.1 u.2 H1 locs1 ⟨hp, ⟨hB.weaken (fun q _ hq => hH.sub hA q hq), hS⟩, hq9, ce, hce, hcv, hcl⟩
  · intro u t H1 locs1 ht hvm hp hB hsz hk hS
    rw [ht] at hB
    exact kk u H1 locs1 hp ⟨hB.weaken (fun q _ hq => hH.sub hA q hq), hS⟩ hsz
theorem r_calli {post : Int → Hp → Prop} {av : Array Value} (hr : vx_Run p l e R s m args below meth c H locs cells slots mc ms (F0 m pc ls st0) rest (xQi G (DA M H.size) post av) (rXc G (DA M H.size) px) (DA M H.size)) (hH : XV G A M H0 H locs) (hA : ∀ q, H0.size ≤ q → A q)
    (kx : ∀ (q9 : Nat) (pl : Int) (M' : Hp) (H1 : Heap) (locs1 : List Loc), RThr G A px s H0 H1 locs1 q9 M' pl → vx_W p l e R s m args below meth c H1 locs1 (cells + mc) (slots + ms) Q (F0 m pc ls rest) q9)
    (kk : ∀ (z : Int) (M' : Hp) (H1 : Heap) (locs1 : List Loc), post z M' → XV G A M' H0 H1 locs1 → H.size ≤ H1.size → W p l e R s m args below meth c H1 locs1 (cells + mc) (slots + ms) Q (F0 m (pc + 3) ls (.int (iI z) :: rest))) : W p l e R s m args below meth c H locs cells slots Q (F0 m pc ls st0) := by
  refine vx_calli hr hH.2 (fun q _ hq => hH.sub hA q hq) (fun q hq => hH.sub hA q hq) (fun q _ hq => hH.sub hA q hq) ?_ ?_
  · intro E ce q9 u t H1 locs1 ht hvm hp hB hsz hk hS hce hcv hcl
    obtain ⟨⟨rfl, hq9⟩, hB⟩ := hB
    rw [ht] at hB
    exact kx q9 u.1 u.2 H1 locs1 ⟨hp, ⟨hB.weaken (fun q _ hq => hH.sub hA q hq), hS⟩, hq9, ce, hce, hcv, hcl⟩
  · intro r u t H1 locs1 ht hvm hp hB hsz hk hS
    obtain ⟨rfl, hp⟩ := hp
    rw [ht] at hB
    exact kk u.1 u.2 H1 locs1 hp ⟨hB.weaken (fun q _ hq => hH.sub hA q hq), hS⟩ hsz
theorem r_callq {post : Option Nat → Hp → Prop} {av : Array Value} (hr : vx_Run p l e R s m args below meth c H locs cells slots mc ms (F0 m pc ls st0) rest (xQq G (DA M H.size) post av) (rXc G (DA M H.size) px) (DA M H.size)) (hH : XV G A M H0 H locs) (hA : ∀ q, H0.size ≤ q → A q)
    (kx : ∀ (q9 : Nat) (pl : Int) (M' : Hp) (H1 : Heap) (locs1 : List Loc), RThr G A px s H0 H1 locs1 q9 M' pl → vx_W p l e R s m args below meth c H1 locs1 (cells + mc) (slots + ms) Q (F0 m pc ls rest) q9)
    (kk : ∀ (r : Option Nat) (M' : Hp) (H1 : Heap) (locs1 : List Loc), post r M' → XV G A M' H0 H1 locs1 → H.size ≤ H1.size → W p l e R s m args below meth c H1 locs1 (cells + mc) (slots + ms) Q (F0 m (pc + 3) ls (va_rf r :: rest))) : W p l e R s m args below meth c H locs cells slots Q (F0 m pc ls st0) := by
  refine vx_callq hr hH.2 (fun q _ hq => hH.sub hA q hq) (fun q hq => hH.sub hA q hq) (fun q _ hq => hH.sub hA q hq) ?_ ?_
  · intro E ce q9 u t H1 locs1 ht hvm hp hB hsz hk hS hce hcv hcl
    obtain ⟨⟨rfl, hq9⟩, hB⟩ := hB
    rw [ht] at hB
    exact kx q9 u.1 u.2 H1 locs1 ⟨hp, ⟨hB.weaken (fun q _ hq => hH.sub hA q hq), hS⟩, hq9, ce, hce, hcv, hcl⟩
  · intro r u t H1 locs1 ht hvm hp hB hsz hk hS
    rw [ht] at hB
    exact kk r u H1 locs1 hp ⟨hB.weaken (fun q _ hq => hH.sub hA q hq), hS⟩ hsz
/-- not caught here -/
theorem r_out {px' : Int → Hp → Prop} {q9 : Nat} {M' : Hp} {pl : Int} (hto : ∀ x ∈ c.exceptionTable.toList, False) (hlk : meth.locks = false) (hT : RThr G A px s s.heap H locs q9 M' pl) (hp : px' pl M') (hc : cells ≤ mc) (hs : slots ≤ ms) : vx_W p l e R s m args below meth c H locs cells slots (vx_MQ below Qc (rXc G A px') args s mc ms A) (F0 m pc ls rest) q9 := by
  obtain ⟨-, hH, hq, ce, h1, h2, h3⟩ := hT
  exact vx_out (fun x hx => (hto x hx).elim) hlk h1 h2 h3 (fun t ht _ => ⟨(pl, M'), hp, ⟨⟨rfl, hq⟩, XVd.cg ht hH.1⟩, hH.2.F ht⟩) hH.2.2.2 hc hs
theorem XV.recvN {b ci : Nat} {fs : List Value} {q : vw_C} (hH : XV G A M H0 H locs) (hK : va_K G.1 clA (tyA G.2.1) s) (hr : M b = some (oB ci fs)) (hc : clA[ci]? = some q) : ∃ cell : Cell, H[b]? = some cell ∧ cell.vm = .none ∧ s.vm.findClass q.1 = some cell.cls := by
  obtain ⟨⟨h, hn, hV⟩, hS⟩ := hH
  obtain ⟨fs0, h0, -⟩ := nX hn hr
  obtain ⟨q', h1, cell, g1, g2, g3, -⟩ := hV.at h0
  exact ⟨cell, g1, g3, by rw [g2]; exact (hK.1 ci q hc).2.1⟩
/-- thrown here -/
theorem r_throw {q9 : Nat} {pl : Int} (hx : p.tables.exec = Jvm.exec) (hb : c.code = cc) (hto : ∀ x ∈ c.exceptionTable.toList, False) (hlk : meth.locks = false) (hK : va_K G.1 clA (tyA G.2.1) s) (hH : XV G A M s.heap H locs) (hq : M q9 = some (wrE pl)) (d : decode cc pc = .ok (.athrow, 1)) (hp : px pl M) (hc : cells ≤ mc) (hs : slots ≤ ms) : W p l e R s m args below meth c H locs cells slots (vx_MQ below Qc (rXc G A px) args s mc ms A) (F0 m pc ls (.ref q9 :: rest)) := by
  obtain ⟨ce, h1, h2, h3⟩ := hH.recvN hK hq rfl
  exact vx_athrow hx hb d (r_out hto hlk ⟨hp, hH, hq, ce, h1, h2, h3⟩ hp hc hs)
end RDR
