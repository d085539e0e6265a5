theorem kd_X7_breathes : yX7_breathes.cls = RX7 ∧ yX7_breathes.cls ≠ "java/lang/invoke/MethodHandle" ∧ yX7_breathes.cls ≠ "java/lang/invoke/VarHandle" ∧ (parseMethodDescriptor yX7_breathes.desc).map (fun d => d.parameters.length) = some 0 := by decide +kernel
theorem xm_X7_breathes (l : Launch) (G : MG) (M : Hp) (y_ : Nat) (sz : Nat) : Met l yX7_breathes (ws_ yX7_breathes cX7_breathes 1 (some .boolean)) (rmD 1) (xP G XN [.ref y_] M sz) (xQi G (DA M sz) (fun z M' => z = 1 ∧ M' = M)) 0 0 (DA M sz) := by
  refine x_start (by decide) (Nat.le_of_ble_eq_true rfl) ?_
  intro p e s m below meth c ⟨S, hr, hlk, hH, hK, hXN, hsz, hnm⟩ ls hl
  subst hsz
  obtain ⟨hx, hb, hml, hown, hts⟩ := S
  have S : CallFix p m c _ _ s _ lw_all RX7 := ⟨hx, hb, hml, hown, hts⟩
  have hA : ∀ q, s.heap.size ≤ q → DA M s.heap.size q := fun q hq => Or.inr hq
  have hl : lv_has ls 1 [(0, .ref y_)] := hl
  refine n_iconst hx hb dX7_breathes_0 ?_
  refine x_zret hx hb hr hlk hH dX7_breathes_1 (Or.inr rfl) ?_
  exact ⟨rfl, rfl⟩
theorem kd_X9_breathes : yX9_breathes.cls = RX9 ∧ yX9_breathes.cls ≠ "java/lang/invoke/MethodHandle" ∧ yX9_breathes.cls ≠ "java/lang/invoke/VarHandle" ∧ (parseMethodDescriptor yX9_breathes.desc).map (fun d => d.parameters.length) = some 0 := by decide +kernel
theorem xm_X9_breathes (l : Launch) (G : MG) (M : Hp) (y_ : Nat) (sz : Nat) : Met l yX9_breathes (ws_ yX9_breathes cX9_breathes 1 (some .boolean)) (rmD 1) (xP G XN [.ref y_] M sz) (xQi G (DA M sz) (fun z M' => z = 0 ∧ M' = M)) 0 0 (DA M sz) := by
  refine x_start (by decide) (Nat.le_of_ble_eq_true rfl) ?_
  intro p e s m below meth c ⟨S, hr, hlk, hH, hK, hXN, hsz, hnm⟩ ls hl
  subst hsz
  obtain ⟨hx, hb, hml, hown, hts⟩ := S
  have S : CallFix p m c _ _ s _ lw_all RX9 := ⟨hx, hb, hml, hown, hts⟩
  have hA : ∀ q, s.heap.size ≤ q → DA M s.heap.size q := fun q hq => Or.inr hq
  have hl : lv_has ls 1 [(0, .ref y_)] := hl
  refine n_iconst hx hb dX9_breathes_0 ?_
  refine x_zret hx hb hr hlk hH dX9_breathes_1 (Or.inl rfl) ?_
  exact ⟨rfl, rfl⟩
section BRR
variable {p : Program} {l : Launch} {e : Env} {R : Room} {s : State} {m : MethodId} {args : Array Value} {below : List Frame} {meth : Method} {c : Code} {H : Heap} {locs : List Loc} {cells slots : Nat} {Q : State → Prop}
variable {cc : ByteArray} {pc : Nat} {ls : Array Slot} {rest : List Value} {G : MG} {A : Nat → Prop} {M : Hp} {H0 : Heap} {index nL : Nat} {own : String} {b : Nat} {t : Int} {fs : List Value}
theorem br_run (S : CallFix p m c cc nL s args lw_all own) (hH : XV G A M H0 H locs) (hK : va_K G.1 clA (tyA G.2.1) s) (hXN : XN s) (hsz : ls.size = nL) (hr : M b = some (oB (fci t) fs)) (hq : (Cond.methodLink own index ⟨"BrothFlasks$Flask", "breathes", "()Z"⟩) ∈ lw_all) (d : decode cc pc = .ok (.invokevirtual index, 3)) (hR : 1 + 1 ≤ R.frames ∧ 8 + (1 + 11) + 64 ≤ R.locals) (hf : cells ≤ R.cells ∧ slots ≤ R.slots) (hW : (rest.map fun v => v.category).sum ≤ 8) :
    va_Run p l e R s m args below meth c H locs cells slots 0 0 (F0 m pc ls (.ref b :: rest)) rest (xQi G (DA M H.size) (fun z M' => z = zb (t = 0 ∨ t = 1 ∨ t = 3) ∧ M' = M) [.ref b].toArray) (DA M H.size) := by
  by_cases h1 : t = 1
  · rw [zb_t (by omega)]
    have e1 : fci t = 7 := if_pos h1
    rw [e1] at hr
    exact x_runA (As := []) (n := 0) S hH hK hXN hsz hr rfl (xm_X7_breathes l G M b H.size) (lw_U hq q710 q717 q712 q112 q713) q709 kd_tip rfl rfl d rfl rfl rfl hR hW hf
  · by_cases h2 : t = 0 ∨ t = 3
    · rw [zb_t (by omega)]
      have e1 : fci t = 6 := by unfold fci; rw [if_neg h1, if_pos h2]
      rw [e1] at hr
      exact x_runA (As := []) (n := 0) S hH hK hXN hsz hr rfl (xm_X7_breathes l G M b H.size) (lw_U hq q710 q711 q712 q112 q713) q709 kd_tip rfl rfl d rfl rfl rfl hR hW hf
    · rw [zb_f (by omega)]
      have e1 : fci t = 8 := by unfold fci; rw [if_neg h1, if_neg h2]
      rw [e1] at hr
      exact x_runA (As := []) (n := 0) S hH hK hXN hsz hr rfl (xm_X9_breathes l G M b H.size) (lw_U hq q710 q714 q715 q114 q716) q709 kd_tip rfl rfl d rfl rfl rfl hR hW hf
/-- a method that Flask has for all its sorts -/
theorem fl_run {y : MethodName} {bytes : ByteArray} {maxL n : Nat} {ret : Option FieldType} {rm : Room} {Qc : Array Value → State → Outcome → State → Prop} {free : Addr → Prop} {As st0 : List Value} {mc ms : Nat} (S : CallFix p m c cc nL s args lw_all own) (hH : XV G A M H0 H locs) (hK : va_K G.1 clA (tyA G.2.1) s) (hXN : XN s) (hsz : ls.size = nL) (hr : M b = some (oB (fci t) fs))
    (hM : Met l y (ws_ y bytes maxL ret) rm (xP G XN (.ref b :: As) M H.size) Qc mc ms free) (hy : y = ⟨"BrothFlasks$Flask", y.name, y.desc⟩) (h1 : Cond.methodLink own index y ∈ lw_all) (h2 : Cond.sameMethod y.cls "BrothFlasks$Flask" y.name y.desc ∈ lw_all) (h3 : Cond.selects "BrothFlasks$Swan" y y ∈ lw_all) (h3b : Cond.selects "BrothFlasks$Airy" y y ∈ lw_all) (h3c : Cond.selects "BrothFlasks$Shut" y y ∈ lw_all) (h4 : Cond.instanceMethod y ∈ lw_all) (h5 : Cond.initialized y.cls ∈ lw_all) (h6 : Cond.code y bytes maxL ret ∈ lw_all)
    (hd : "BrothFlasks$Flask" ≠ "java/lang/invoke/MethodHandle" ∧ "BrothFlasks$Flask" ≠ "java/lang/invoke/VarHandle" ∧ (parseMethodDescriptor y.desc).map (fun d => d.parameters.length) = some n) (hn : As.length = n) (hst : st0 = As.reverse ++ .ref b :: rest) (d : decode cc pc = .ok (.invokevirtual index, 3)) (hrc : rm.cells = mc) (hrs : rm.slots = ms) (hR : rm.frames + 1 ≤ R.frames ∧ 8 + (maxL + 11) + rm.locals ≤ R.locals) (hW : (rest.map fun v => v.category).sum ≤ 8) (hf : cells + mc ≤ R.cells ∧ slots + ms ≤ R.slots) : va_Run p l e R s m args below meth c H locs cells slots mc ms (F0 m pc ls st0) rest (Qc (Value.ref b :: As).toArray) free := by
  by_cases a1 : t = 1
  · have e1 : fci t = 7 := if_pos a1
    rw [e1] at hr
    exact x_runU S hH hK hXN hsz hr rfl hM (lw_U h1 h2 h3 h4 h5 h6) hy hd hn hst d rfl hrc hrs hR hW hf
  · by_cases a2 : t = 0 ∨ t = 3
    · have e1 : fci t = 6 := by unfold fci; rw [if_neg a1, if_pos a2]
      rw [e1] at hr
      exact x_runU S hH hK hXN hsz hr rfl hM (lw_U h1 h2 h3b h4 h5 h6) hy hd hn hst d rfl hrc hrs hR hW hf
    · have e1 : fci t = 8 := by unfold fci; rw [if_neg a1, if_neg a2]
      rw [e1] at hr
      exact x_runU S hH hK hXN hsz hr rfl hM (lw_U h1 h2 h3c h4 h5 h6) hy hd hn hst d rfl hrc hrs hR hW hf
end BRR
