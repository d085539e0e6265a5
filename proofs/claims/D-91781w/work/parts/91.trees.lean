/-! ASKING TREES: cases, sums and tests of the component -/
theorem HV_to {G : MG} {A : Nat → Prop} {h h' : Hp} {H0 H : Heap} {locs : List Loc} (hH : HV G.1 clA A h H0 H locs) (e : h = h') : HV G.1 clA A h' H0 H locs := e ▸ hH
theorem neW {w : Nat → Nat} {a b x y : Nat} (ha : w a = x) (hb : w b = y) (h : x ≠ y) : a ≠ b := fun e => h (by rw [← ha, ← hb, e])
theorem ne_oo {h : Hp} {a b ci cj : Nat} {fs gs : List Value} (ha : h a = some (oB ci fs)) (hb : h b = some (oB cj gs)) (hc : ci ≠ cj) : a ≠ b := fun e => by
  rw [e, hb] at ha
  unfold oB at ha
  cases ha
  exact hc rfl
theorem ne_oa {h : Hp} {a b ci : Nat} {fs : List Value} {x : ClassId × vp_A} (ha : h a = some (oB ci fs)) (hb : h b = some (.inl x)) : a ≠ b := fun e => by
  rw [e, hb] at ha
  cases ha
theorem ne_ao {h : Hp} {a b ci : Nat} {fs : List Value} {x : ClassId × vp_A} (hb : h b = some (.inl x)) (ha : h a = some (oB ci fs)) : b ≠ a := Ne.symm (ne_oa ha hb)
def csE (ci n : Nat) (b t : Int) : va_E := if ci = 3 then oB 3 [.ref n, .int (iI b)] else oB 9 [.ref n, .int (iI b), .int (iI t)]
theorem csE_o {ci n : Nat} {b t : Int} (hci : ci = 3 ∨ ci = 9) : ∃ fs, csE ci n b t = oB ci fs := by
  rcases hci with h | h <;> subst h
  · exact ⟨_, rfl⟩
  · exact ⟨_, rfl⟩
theorem ne_ac {h : Hp} {a b ci n : Nat} {u t : Int} {x : ClassId × vp_A} (hb : h b = some (.inl x)) (ha : h a = some (csE ci n u t)) : b ≠ a := fun e => by
  rw [e, ha] at hb
  unfold csE at hb
  split at hb <;> cases hb
theorem ne_oc {h : Hp} {a b ci cj n : Nat} {u t : Int} {gs : List Value} (hb : h b = some (oB cj gs)) (ha : h a = some (csE ci n u t)) (hci : ci = 3 ∨ ci = 9) (hc : cj ≠ 3 ∧ cj ≠ 9) : b ≠ a := fun e => by
  rw [e, ha] at hb
  rcases hci with q | q <;> subst q
  · have hb : oB 3 [.ref n, .int (iI u)] = oB cj gs := Option.some.inj hb
    unfold oB at hb
    cases hb
    exact hc.1 rfl
  · have hb : oB 9 [.ref n, .int (iI u), .int (iI t)] = oB cj gs := Option.some.inj hb
    unfold oB at hb
    cases hb
    exact hc.2 rfl
theorem eN_cs {ci n : Nat} {b t : Int} : eN (csE ci n b t) = csE ci n 0 t := by
  unfold csE
  split <;> rfl
theorem hN_brk {h : Hp} {c ci n : Nat} {b b' t : Int} (hc : h c = some (csE ci n b t)) : hN (hs h c (csE ci n b' t)) = hN h := by
  rw [hN_set, eN_cs]
  funext q
  by_cases z : q = c
  · subst z
    rw [hs_s]
    unfold hN
    rw [hc]
    show _ = some (eN _)
    rw [eN_cs]
  · rw [hs_n z]
theorem hs_hs {h : Hp} {a : Nat} {e e' : va_E} : hs (hs h a e) a e' = hs h a e' := by
  funext q
  unfold hs
  split <;> rfl
theorem hs_id {h : Hp} {a : Nat} {e : va_E} (ha : h a = some e) : hs h a e = h := by
  funext q
  unfold hs
  split
  · rename_i z; rw [z, ha]
  · rfl
theorem zfit {z : Int} (h : z = 0 ∨ z = 1) : narrow .boolean (.int (iI z)) = .int (iI z) ∧ fits .boolean (.int (iI z)) = true := by
  rcases h with h | h <;> subst h <;> exact ⟨rfl, rfl⟩
section ER
variable {p : Program} {l : Launch} {e : Env} {R : Room} {s : State} {m : MethodId} {args : Array Value} {below : List Frame} {meth : Method} {c : Code} {H : Heap} {locs : List Loc} {cells slots : Nat} {Q : State → Prop}
variable {cc : ByteArray} {pc : Nat} {ls : Array Slot} {rest st0 : List Value} {G : MG} {A : Nat → Prop} {a ci n index : Nat} {b t : Int} {h : Hp} {H0 : Heap} {own : String}
theorem e_num (hx : p.tables.exec = Jvm.exec) (hb : c.code = cc) (hts : ∀ w ∈ lw_all, w.before args s = true) (hown : s.vm.findClass own = some m.cls) (hK : va_K G.1 clA (tyA G.2.1) s) (hH : HV G.1 clA A h H0 H locs) (he : h a = some (csE ci n b t)) (hci : ci = 3 ∨ ci = 9) (hq : (Cond.fieldLink own index "BrothFlasks$Case" "numbers" "[I") ∈ lw_all) (d : decode cc pc = .ok (.getfield index, 3))
    (kk : W p l e R s m args below meth c H locs cells slots Q (F0 m (pc + 3) ls (.ref n :: rest))) : W p l e R s m args below meth c H locs cells slots Q (F0 m pc ls (.ref a :: rest)) := by
  rcases hci with q | q <;> subst q
  · exact g_get (ci := 3) (fs := [.ref n, .int (iI b)]) hx hb hts in_X2 hown hK hH he rfl 0 (by decide) (hts _ hq) (fun _ h9 => h9) rfl d kk
  · exact g_get (ci := 9) (fs := [.ref n, .int (iI b), .int (iI t)]) hx hb hts in_X10 hown hK hH he rfl 0 (by decide) (hts _ hq) (fun _ h9 => h9) rfl d kk
theorem e_brk (hx : p.tables.exec = Jvm.exec) (hb : c.code = cc) (hts : ∀ w ∈ lw_all, w.before args s = true) (hown : s.vm.findClass own = some m.cls) (hK : va_K G.1 clA (tyA G.2.1) s) (hH : HV G.1 clA A h H0 H locs) (he : h a = some (csE ci n b t)) (hci : ci = 3 ∨ ci = 9) (hq : (Cond.fieldLink own index "BrothFlasks$Case" "isBroken" "Z") ∈ lw_all) (d : decode cc pc = .ok (.getfield index, 3))
    (kk : W p l e R s m args below meth c H locs cells slots Q (F0 m (pc + 3) ls (.int (iI b) :: rest))) : W p l e R s m args below meth c H locs cells slots Q (F0 m pc ls (.ref a :: rest)) := by
  rcases hci with q | q <;> subst q
  · exact g_get (ci := 3) (fs := [.ref n, .int (iI b)]) hx hb hts in_X2 hown hK hH he rfl 1 (by decide) (hts _ hq) (fun _ h9 => h9) rfl d kk
  · exact g_get (ci := 9) (fs := [.ref n, .int (iI b), .int (iI t)]) hx hb hts in_X10 hown hK hH he rfl 1 (by decide) (hts _ hq) (fun _ h9 => h9) rfl d kk
theorem e_setb (hx : p.tables.exec = Jvm.exec) (hb : c.code = cc) (hts : ∀ w ∈ lw_all, w.before args s = true) (hown : s.vm.findClass own = some m.cls) (hK : va_K G.1 clA (tyA G.2.1) s) (hH : HV G.1 clA A h H0 H locs) (he : h a = some (csE ci n b t)) (hci : ci = 3 ∨ ci = 9) (hq : (Cond.fieldLink own index "BrothFlasks$Case" "isBroken" "Z") ∈ lw_all) {v : Int} (hv : v = 0 ∨ v = 1) (d : decode cc pc = .ok (.putfield index, 3))
    (kk : ∀ (H1 : Heap) (locs1 : List Loc), HV G.1 clA A (hs h a (csE ci n v t)) H0 H1 locs1 → W p l e R s m args below meth c H1 locs1 cells slots Q (F0 m (pc + 3) ls rest)) : W p l e R s m args below meth c H locs cells slots Q (F0 m pc ls (.int (iI v) :: .ref a :: rest)) := by
  rcases hci with q | q <;> subst q
  · exact g_put (ci := 3) (fs := [.ref n, .int (iI b)]) hx hb hts in_X2 tyX2 tyX2_ok nmX2 hown hK hH he rfl 1 (by decide) (hts _ hq) (fun _ h9 => h9) rfl (by decide +kernel) (zfit hv).1 (zfit hv).2 (Nat.le_of_ble_eq_true rfl) d kk
  · exact g_put (ci := 9) (fs := [.ref n, .int (iI b), .int (iI t)]) hx hb hts in_X10 tyX10 tyX10_ok nmX10 hown hK hH he rfl 1 (by decide) (hts _ hq) (fun _ h9 => h9) rfl (by decide +kernel) (zfit hv).1 (zfit hv).2 (Nat.le_of_ble_eq_true rfl) d kk
theorem g_calliF {res : Int} {av : Array Value} (hr : va_Run p l e R s m args below meth c H locs cells slots 0 0 (F0 m pc ls st0) rest (gQi G.1 clA (DA h H.size) (fun z h' => z = res ∧ h' = h) av) (DA h H.size)) (hH : HV G.1 clA A h H0 H locs) (hA : ∀ q, H0.size ≤ q → A q)
    (kk : ∀ (H1 : Heap) (locs1 : List Loc), HV G.1 clA A h H0 H1 locs1 → W p l e R s m args below meth c H1 locs1 cells slots Q (F0 m (pc + 3) ls (.int (iI res) :: rest))) : W p l e R s m args below meth c H locs cells slots Q (F0 m pc ls st0) :=
  g_calli hr hH hA (fun z h' H1 locs1 q hH1 _ => by obtain ⟨rfl, rfl⟩ := q; exact kk H1 locs1 hH1)
theorem g_calllF {res : Int} {av : Array Value} (hr : va_Run p l e R s m args below meth c H locs cells slots 0 0 (F0 m pc ls st0) rest (gQl G.1 clA (DA h H.size) (fun z h' => z = res ∧ h' = h) av) (DA h H.size)) (hH : HV G.1 clA A h H0 H locs) (hA : ∀ q, H0.size ≤ q → A q)
    (kk : ∀ (H1 : Heap) (locs1 : List Loc), HV G.1 clA A h H0 H1 locs1 → W p l e R s m args below meth c H1 locs1 cells slots Q (F0 m (pc + 3) ls (.long (lI res) :: rest))) : W p l e R s m args below meth c H locs cells slots Q (F0 m pc ls st0) :=
  g_calll hr hH hA (fun z h' H1 locs1 q hH1 _ => by obtain ⟨rfl, rfl⟩ := q; exact kk H1 locs1 hH1)
variable {M : Hp}
theorem x_calliF {res : Int} {av : Array Value} (hr : va_Run p l e R s m args below meth c H locs cells slots 0 0 (F0 m pc ls st0) rest (xQi G (DA M H.size) (fun z M' => z = res ∧ M' = M) av) (DA M H.size)) (hH : XV G A M H0 H locs) (hA : ∀ q, H0.size ≤ q → A q)
    (kk : ∀ (H1 : Heap) (locs1 : List Loc), XV G A M H0 H1 locs1 → W p l e R s m args below meth c H1 locs1 cells slots Q (F0 m (pc + 3) ls (.int (iI res) :: rest))) : W p l e R s m args below meth c H locs cells slots Q (F0 m pc ls st0) :=
  x_calli hr hH hA (fun z h' H1 locs1 q hH1 _ => by obtain ⟨rfl, rfl⟩ := q; exact kk H1 locs1 hH1)
theorem x_calllF {res : Int} {av : Array Value} (hr : va_Run p l e R s m args below meth c H locs cells slots 0 0 (F0 m pc ls st0) rest (xQl G (DA M H.size) (fun z M' => z = res ∧ M' = M) av) (DA M H.size)) (hH : XV G A M H0 H locs) (hA : ∀ q, H0.size ≤ q → A q)
    (kk : ∀ (H1 : Heap) (locs1 : List Loc), XV G A M H0 H1 locs1 → W p l e R s m args below meth c H1 locs1 cells slots Q (F0 m (pc + 3) ls (.long (lI res) :: rest))) : W p l e R s m args below meth c H locs cells slots Q (F0 m pc ls st0) :=
  x_calll hr hH hA (fun z h' H1 locs1 q hH1 _ => by obtain ⟨rfl, rfl⟩ := q; exact kk H1 locs1 hH1)
end ER
/-- a room that makes k cells of n slots -/
abbrev rmX (d k n : Nat) : Room := { frames := d, cells := k, slots := n, locals := 64 * d }
/-- what comes of asking -/
def oE (f : Mean) (g : Int → Int) (h : Hp) (c ci n : Nat) (t z : Int) (h' : Hp) : Prop := (f g = some z ∧ h' = h) ∨ (f g = none ∧ h' = hs h c (csE ci n 1 t))
def oT2 (f : Mean) (g : Int → Int) (h : Hp) (c ci n : Nat) (t z : Int) (h' : Hp) : Prop := (z = 0 ∨ z = 1) ∧ oE f g h c ci n t z h'
def SumAt : Nat → Hp → Nat → Mean → Prop
  | 0, _, _, _ => False
  | n + 1, M, a, f => (∃ v : Int, M a = some (oB 11 [.int (iI v)]) ∧ (0 ≤ v ∧ v ≤ 100000) ∧ f = fun _ => some v) ∨ (∃ k : Int, M a = some (oB 12 [.int (iI k)]) ∧ (0 ≤ k ∧ k < 9) ∧ f = fun g => some (g k)) ∨ ∃ (q r : Nat) (sg : Int) (f1 f2 : Mean), M a = some (oB 13 [.ref q, .ref r, .int (iI sg)]) ∧ (sg = 43 ∨ sg = 45 ∨ sg = 42 ∨ sg = 47) ∧ SumAt n M q f1 ∧ SumAt n M r f2 ∧ f = joinF (100 + sg) f1 f2
def foldF (all : Int) (f : Mean) (l : List Mean) : Mean := l.foldl (fun x y => if all = 0 then orF x y else andF x y) f
def TestAt (G : MG) : Nat → Hp → Nat → Mean → Prop
  | 0, _, _, _ => False
  | n + 1, M, a, f => (∃ k : Int, M a = some (oB 14 [.int (iI k)]) ∧ (0 ≤ k ∧ k < 7) ∧ f = factF (k + 10)) ∨ (∃ (q r : Nat) (sg : Int) (f1 f2 : Mean), M a = some (oB 15 [.ref q, .ref r, .int (iI sg)]) ∧ (sg = 60 ∨ sg = 61 ∨ sg = 62) ∧ SumAt n M q f1 ∧ SumAt n M r f2 ∧ f = cmpF (100 + sg) f1 f2) ∨ (∃ (q : Nat) (f1 : Mean), M a = some (oB 16 [.ref q]) ∧ TestAt G n M q f1 ∧ f = notF f1) ∨ ∃ (all : Int) (ar k : Nat) (F : Int → Option Nat) (f0 : Mean) (fl : List Mean), M a = some (oB 17 [.int (iI all), .ref ar]) ∧ (all = 0 ∨ all = 1) ∧ M ar = some (aQ (G.2.1 10) k F) ∧ k < 2147483648 ∧ (k : Int) = fl.length + 1 ∧ (∀ i : Nat, i < k → ∃ q, F i = some q ∧ TestAt G n M q ((f0 :: fl).getD i f0)) ∧ f = foldF all f0 fl
def CsH (G : MG) (h : Hp) (c ci nb : Nat) (b t : Int) (g : Int → Int) : Prop := h c = some (csE ci nb b t) ∧ (ci = 3 ∨ ci = 9) ∧ h nb = some (aI (G.2.1 0) 9 g) ∧ caseOK g
theorem caseOK_b {g : Int → Int} {k : Int} (h : caseOK g) (h0 : 0 ≤ k) (h1 : k < 9) : 0 ≤ g k ∧ g k ≤ 255 := by
  unfold caseOK at h
  have q : k = 0 ∨ k = 1 ∨ k = 2 ∨ k = 3 ∨ k = 4 ∨ k = 5 ∨ k = 6 ∨ k = 7 ∨ k = 8 := by omega
  rcases q with q | q | q | q | q | q | q | q | q <;> subst q <;> omega
theorem SumAt_B {M : Hp} {g : Int → Int} (hg : caseOK g) : ∀ {n : Nat} {a : Nat} {f : Mean}, SumAt n M a f → mB f g
  | 0, _, _, h => h.elim
  | n + 1, a, f, h => by
    rcases h with ⟨v, -, hv, rfl⟩ | ⟨k, -, hk, rfl⟩ | ⟨q, r, sg, f1, f2, -, -, h1, h2, rfl⟩
    · intro x e
      cases e
      omega
    · intro x e
      have := caseOK_b hg hk.1 hk.2
      cases e
      omega
    · exact mB_join (SumAt_B hg h1)
theorem lw_U {own : String} {idx : Nat} {C owner : String} {x y : MethodName} {b : ByteArray} {L : Nat} {r : Option FieldType} (h1 : Cond.methodLink own idx x ∈ lw_all) (h2 : Cond.sameMethod x.cls owner x.name x.desc ∈ lw_all) (h3 : Cond.selects C x y ∈ lw_all) (h4 : Cond.instanceMethod y ∈ lw_all) (h5 : Cond.initialized y.cls ∈ lw_all) (h6 : Cond.code y b L r ∈ lw_all) : GoodIn lw_all (va_wsU own idx C owner x y (ws_ y b L r)) := by
  refine lw_app ?_ (lw_meth h6)
  intro w hw
  simp only [List.mem_cons, List.not_mem_nil, or_false] at hw
  rcases hw with e | e | e | e | e
  · rw [e]; exact h1
  · rw [e]; exact h2
  · rw [e]; exact h3
  · rw [e]; exact h4
  · rw [e]; exact h5
section EU
variable {p : Program} {l : Launch} {e : Env} {R : Room} {s : State} {m : MethodId} {args : Array Value} {below : List Frame} {meth : Method} {c : Code} {H : Heap} {locs : List Loc} {cells slots : Nat} {Q : State → Prop}
variable {cc : ByteArray} {pc : Nat} {ls : Array Slot} {rest st0 : List Value} {G : MG} {A : Nat → Prop} {b ci n index nL maxL mc ms : Nat} {h : Hp} {H0 : Heap} {own C owner : String} {x y : MethodName} {bytes : ByteArray} {ret : Option FieldType} {rm : Room} {Qc : Array Value → State → Outcome → State → Prop} {free : Addr → Prop} {As : List Value}
/-- a call of an abstract method, the receiver's class known -/
theorem g_runA {fs : List Value} {q : vw_C} (S : CallFix p m c cc nL s args lw_all own) (hH : HV G.1 clA A h H0 H locs) (hK : va_K G.1 clA (tyA G.2.1) s) (hXN : XN s) (hsz : ls.size = nL) (hr : h b = some (oB ci fs)) (hc : clA[ci]? = some q)
    (hM : Met l y (ws_ y bytes maxL ret) rm (gP G.1 clA (tyA G.2.1) XN (.ref b :: As) h H.size) Qc mc ms free) (hG : GoodIn lw_all (va_wsU own index C owner x y (ws_ y bytes maxL ret))) (hz : Cond.declares ⟨owner, x.name, x.desc⟩ ∈ lw_tbl) (hd : owner ≠ "java/lang/invoke/MethodHandle" ∧ owner ≠ "java/lang/invoke/VarHandle" ∧ (parseMethodDescriptor x.desc).map (fun d => d.parameters.length) = some n) (hn : As.length = n) (hst : st0 = As.reverse ++ .ref b :: rest) (d : decode cc pc = .ok (.invokevirtual index, 3)) (hqC : q.1 = C) (hrc : rm.cells = mc) (hrs : rm.slots = ms)
    (hR : rm.frames + 1 ≤ R.frames ∧ 8 + (maxL + 11) + rm.locals ≤ R.locals) (hW : (rest.map fun v => v.category).sum ≤ 8) (hf : cells + mc ≤ R.cells ∧ slots + ms ≤ R.slots) : va_Run p l e R s m args below meth c H locs cells slots mc ms (F0 m pc ls st0) rest (Qc (Value.ref b :: As).toArray) free :=
  va_runU (As := As) (rest := rest) (C := C) S hM (va_cwA n S.2.2.2.2 hG rfl hrc hrs (hXN.1 _ hz rfl) hd hR) ⟨gP_blind XN_b, by rw [← hqC]; exact hH.recv hK hr hc, gP_at hH hK (fun U _ hW => XN.warm hW hXN)⟩ rfl hn hsz hst (lv_room hW) d hf
/-- a call of an inherited method -/
theorem g_runU {fs : List Value} {q : vw_C} (S : CallFix p m c cc nL s args lw_all own) (hH : HV G.1 clA A h H0 H locs) (hK : va_K G.1 clA (tyA G.2.1) s) (hXN : XN s) (hsz : ls.size = nL) (hr : h b = some (oB ci fs)) (hc : clA[ci]? = some q)
    (hM : Met l y (ws_ y bytes maxL ret) rm (gP G.1 clA (tyA G.2.1) XN (.ref b :: As) h H.size) Qc mc ms free) (hG : GoodIn lw_all (va_wsU own index C owner x y (ws_ y bytes maxL ret))) (hyx : y = ⟨owner, x.name, x.desc⟩) (hd : owner ≠ "java/lang/invoke/MethodHandle" ∧ owner ≠ "java/lang/invoke/VarHandle" ∧ (parseMethodDescriptor x.desc).map (fun d => d.parameters.length) = some n) (hn : As.length = n) (hst : st0 = As.reverse ++ .ref b :: rest) (d : decode cc pc = .ok (.invokevirtual index, 3)) (hqC : q.1 = C) (hrc : rm.cells = mc) (hrs : rm.slots = ms)
    (hR : rm.frames + 1 ≤ R.frames ∧ 8 + (maxL + 11) + rm.locals ≤ R.locals) (hW : (rest.map fun v => v.category).sum ≤ 8) (hf : cells + mc ≤ R.cells ∧ slots + ms ≤ R.slots) : va_Run p l e R s m args below meth c H locs cells slots mc ms (F0 m pc ls st0) rest (Qc (Value.ref b :: As).toArray) free :=
  va_runU (As := As) (rest := rest) (C := C) S hM (va_cwU n S.2.2.2.2 hG rfl hrc hrs hyx hd hR) ⟨gP_blind XN_b, by rw [← hqC]; exact hH.recv hK hr hc, gP_at hH hK (fun U _ hW => XN.warm hW hXN)⟩ rfl hn hsz hst (lv_room hW) d hf
end EU
