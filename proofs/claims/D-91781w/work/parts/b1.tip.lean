section XUA
variable {p : Program} {l : Launch} {e : Env} {R : Room} {s : State} {m : MethodId} {args : Array Value} {below : List Frame} {meth : Method} {c : Code} {H : Heap} {locs : List Loc} {cells slots : Nat} {Q : State → Prop}
variable {cc : ByteArray} {pc : Nat} {ls : Array Slot} {rest st0 : List Value} {G : MG} {A : Nat → Prop} {M : Hp} {H0 : Heap}
variable {x y : MethodName} {bytes : ByteArray} {maxL nL mc ms n index ci : Nat} {ret : Option FieldType} {rm : Room} {Qc : Array Value → State → Outcome → State → Prop} {free : Addr → Prop} {own C owner : String} {b : Addr} {As : List Value}
theorem x_runA {fs : List Value} {q : vw_C} (S : CallFix p m c cc nL s args lw_all own) (hH : XV G A M H0 H locs) (hK : va_K G.1 clA (tyA G.2.1) s) (hXN : XN s) (hsz : ls.size = nL) (hr : M b = some (oB ci fs)) (hc : clA[ci]? = some q)
    (hM : Met l y (ws_ y bytes maxL ret) rm (xP G XN (.ref b :: As) M H.size) Qc mc ms free) (hG : GoodIn lw_all (va_wsU own index C owner x y (ws_ y bytes maxL ret))) (hz : Cond.declares ⟨owner, x.name, x.desc⟩ ∈ lw_tbl) (hd : owner ≠ "java/lang/invoke/MethodHandle" ∧ owner ≠ "java/lang/invoke/VarHandle" ∧ (parseMethodDescriptor x.desc).map (fun d => d.parameters.length) = some n) (hn : As.length = n) (hst : st0 = As.reverse ++ .ref b :: rest) (d : decode cc pc = .ok (.invokevirtual index, 3)) (hqC : q.1 = C) (hrc : rm.cells = mc) (hrs : rm.slots = ms)
    (hR : rm.frames + 1 ≤ R.frames ∧ 8 + (maxL + 11) + rm.locals ≤ R.locals) (hW : (rest.map fun v => v.category).sum ≤ 8) (hf : cells + mc ≤ R.cells ∧ slots + ms ≤ R.slots) : va_Run p l e R s m args below meth c H locs cells slots mc ms (F0 m pc ls st0) rest (Qc (Value.ref b :: As).toArray) free :=
  va_runU (As := As) (rest := rest) (C := C) S hM (va_cwA n S.2.2.2.2 hG rfl hrc hrs (hXN.1 _ hz rfl) hd hR) ⟨xP_blind XN_b, by rw [← hqC]; exact hH.recv hK hr hc, xP_at hH hK (fun U _ hW => XN.warm hW hXN)⟩ rfl hn hsz hst (lv_room hW) d hf
theorem lw_O {own : String} {idx : Nat} {C owner : String} {x y : MethodName} {b : ByteArray} {L : Nat} {r : Option FieldType} (h1 : Cond.methodLink own idx x ∈ lw_all) (h2 : Cond.sameMethod x.cls owner x.name x.desc ∈ lw_all) (h9 : Cond.instanceMethod ⟨owner, x.name, x.desc⟩ ∈ lw_all) (h3 : Cond.selects C x y ∈ lw_all) (h4 : Cond.instanceMethod y ∈ lw_all) (h5 : Cond.initialized y.cls ∈ lw_all) (h6 : Cond.code y b L r ∈ lw_all) : GoodIn lw_all (va_wsO own idx C owner x y (ws_ y b L r)) := by
  refine lw_app ?_ (lw_meth h6)
  intro w hw
  simp only [List.mem_cons, List.not_mem_nil, or_false] at hw
  rcases hw with e | e | e | e | e | e
  · rw [e]; exact h1
  · rw [e]; exact h2
  · rw [e]; exact h9
  · rw [e]; exact h3
  · rw [e]; exact h4
  · rw [e]; exact h5
/-- a call of a method that the receiver's class overrides -/
theorem x_runO {fs : List Value} {q : vw_C} {b0 : ByteArray} {m0 : Nat} {r0 : Option FieldType} (S : CallFix p m c cc nL s args lw_all own) (hH : XV G A M H0 H locs) (hK : va_K G.1 clA (tyA G.2.1) s) (hXN : XN s) (hsz : ls.size = nL) (hr : M b = some (oB ci fs)) (hc : clA[ci]? = some q)
    (hM : Met l y (ws_ y bytes maxL ret) rm (xP G XN (.ref b :: As) M H.size) Qc mc ms free) (hG : GoodIn lw_all (va_wsO own index C owner x y (ws_ y bytes maxL ret))) (h0 : Cond.code ⟨owner, x.name, x.desc⟩ b0 m0 r0 ∈ lw_all) (hd : owner ≠ "java/lang/invoke/MethodHandle" ∧ owner ≠ "java/lang/invoke/VarHandle" ∧ (parseMethodDescriptor x.desc).map (fun d => d.parameters.length) = some n) (hn : As.length = n) (hst : st0 = As.reverse ++ .ref b :: rest) (d : decode cc pc = .ok (.invokevirtual index, 3)) (hqC : q.1 = C) (hrc : rm.cells = mc) (hrs : rm.slots = ms)
    (hR : rm.frames + 1 ≤ R.frames ∧ 8 + (maxL + 11) + rm.locals ≤ R.locals) (hW : (rest.map fun v => v.category).sum ≤ 8) (hf : cells + mc ≤ R.cells ∧ slots + ms ≤ R.slots) : va_Run p l e R s m args below meth c H locs cells slots mc ms (F0 m pc ls st0) rest (Qc (Value.ref b :: As).toArray) free :=
  va_runU (As := As) (rest := rest) (C := C) S hM (va_cwO n S.2.2.2.2 hG rfl hrc hrs h0 hd hR) ⟨xP_blind XN_b, by rw [← hqC]; exact hH.recv hK hr hc, xP_at hH hK (fun U _ hW => XN.warm hW hXN)⟩ rfl hn hsz hst (lv_room hW) d hf
end XUA
theorem kd_X8_mayTip : yX8_mayTip.cls = RX8 ∧ yX8_mayTip.cls ≠ "java/lang/invoke/MethodHandle" ∧ yX8_mayTip.cls ≠ "java/lang/invoke/VarHandle" ∧ (parseMethodDescriptor yX8_mayTip.desc).map (fun d => d.parameters.length) = some 0 := by decide +kernel
theorem xm_X8_mayTip (l : Launch) (G : MG) (M : Hp) (y_ : Nat) (sz : Nat) : Met l yX8_mayTip (ws_ yX8_mayTip cX8_mayTip 1 (some .boolean)) (rmD 1) (xP G XN [.ref y_] M sz) (xQi G (DA M sz) (fun z M' => z = 1 ∧ M' = M)) 0 0 (DA M sz) := by
  refine x_start (by decide) (Nat.le_of_ble_eq_true rfl) ?_
  intro p e s m below meth c ⟨S, hr, hlk, hH, hK, hXN, hsz, hnm⟩ ls hl
  subst hsz
  obtain ⟨hx, hb, hml, hown, hts⟩ := S
  have S : CallFix p m c _ _ s _ lw_all RX8 := ⟨hx, hb, hml, hown, hts⟩
  have hA : ∀ q, s.heap.size ≤ q → DA M s.heap.size q := fun q hq => Or.inr hq
  have hl : lv_has ls 1 [(0, .ref y_)] := hl
  refine n_iconst hx hb dX8_mayTip_0 ?_
  refine x_zret hx hb hr hlk hH dX8_mayTip_1 (Or.inr rfl) ?_
  exact ⟨rfl, rfl⟩
theorem kd_X6_mayTip : yX6_mayTip.cls = RX6 ∧ yX6_mayTip.cls ≠ "java/lang/invoke/MethodHandle" ∧ yX6_mayTip.cls ≠ "java/lang/invoke/VarHandle" ∧ (parseMethodDescriptor yX6_mayTip.desc).map (fun d => d.parameters.length) = some 0 := by decide +kernel
theorem xm_X6_mayTip (l : Launch) (G : MG) (M : Hp) (y_ : Nat) (sz : Nat) : Met l yX6_mayTip (ws_ yX6_mayTip cX6_mayTip 1 (some .boolean)) (rmD 1) (xP G XN [.ref y_] M sz) (xQi G (DA M sz) (fun z M' => z = 0 ∧ M' = M)) 0 0 (DA M sz) := by
  refine x_start (by decide) (Nat.le_of_ble_eq_true rfl) ?_
  intro p e s m below meth c ⟨S, hr, hlk, hH, hK, hXN, hsz, hnm⟩ ls hl
  subst hsz
  obtain ⟨hx, hb, hml, hown, hts⟩ := S
  have S : CallFix p m c _ _ s _ lw_all RX6 := ⟨hx, hb, hml, hown, hts⟩
  have hA : ∀ q, s.heap.size ≤ q → DA M s.heap.size q := fun q hq => Or.inr hq
  have hl : lv_has ls 1 [(0, .ref y_)] := hl
  refine n_iconst hx hb dX6_mayTip_0 ?_
  refine x_zret hx hb hr hlk hH dX6_mayTip_1 (Or.inl rfl) ?_
  exact ⟨rfl, rfl⟩
section TIPR
variable {p : Program} {l : Launch} {e : Env} {R : Room} {s : State} {m : MethodId} {args : Array Value} {below : List Frame} {meth : Method} {c : Code} {H : Heap} {locs : List Loc} {cells slots : Nat} {Q : State → Prop}
variable {cc : ByteArray} {pc : Nat} {ls : Array Slot} {rest : List Value} {G : MG} {A : Nat → Prop} {M : Hp} {H0 : Heap} {index nL : Nat} {own : String} {b : Nat} {t : Int} {fs : List Value}
theorem kd_tip : "BrothFlasks$Flask" ≠ "java/lang/invoke/MethodHandle" ∧ "BrothFlasks$Flask" ≠ "java/lang/invoke/VarHandle" ∧ (parseMethodDescriptor "()Z").map (fun d => d.parameters.length) = some 0 := by decide +kernel
theorem tip_run (S : CallFix p m c cc nL s args lw_all own) (hH : XV G A M H0 H locs) (hK : va_K G.1 clA (tyA G.2.1) s) (hXN : XN s) (hsz : ls.size = nL) (hr : M b = some (oB (fci t) fs)) (hq : (Cond.methodLink own index yX6_mayTip) ∈ lw_all) (d : decode cc pc = .ok (.invokevirtual index, 3)) (hR : 1 + 1 ≤ R.frames ∧ 8 + (1 + 11) + 64 ≤ R.locals) (hf : cells ≤ R.cells ∧ slots ≤ R.slots) (hW : (rest.map fun v => v.category).sum ≤ 8) :
    va_Run p l e R s m args below meth c H locs cells slots 0 0 (F0 m pc ls (.ref b :: rest)) rest (xQi G (DA M H.size) (fun z M' => z = zb (t = 1) ∧ M' = M) [.ref b].toArray) (DA M H.size) := by
  by_cases h1 : t = 1
  · rw [zb_t h1]
    have e1 : fci t = 7 := if_pos h1
    rw [e1] at hr
    exact x_runO (As := []) (n := 0) S hH hK hXN hsz hr rfl (xm_X8_mayTip l G M b H.size) (lw_O hq q668 q667 q671 q672 q113 q673) q674 kd_tip rfl rfl d rfl rfl rfl hR hW hf
  · rw [zb_f h1]
    by_cases h2 : t = 0 ∨ t = 3
    · have e1 : fci t = 6 := by unfold fci; rw [if_neg h1, if_pos h2]
      rw [e1] at hr
      exact x_runU (As := []) (n := 0) S hH hK hXN hsz hr rfl (xm_X6_mayTip l G M b H.size) (lw_U hq q668 q669 q667 q111 q674) rfl kd_tip rfl rfl d rfl rfl rfl hR hW hf
    · have e1 : fci t = 8 := by unfold fci; rw [if_neg h1, if_neg h2]
      rw [e1] at hr
      exact x_runU (As := []) (n := 0) S hH hK hXN hsz hr rfl (xm_X6_mayTip l G M b H.size) (lw_U hq q668 q670 q667 q111 q674) rfl kd_tip rfl rfl d rfl rfl rfl hR hW hf
end TIPR
