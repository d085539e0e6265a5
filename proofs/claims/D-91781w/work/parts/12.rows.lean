section GR
variable {p : Program} {l : Launch} {e : Env} {R : Room} {s : State} {m : MethodId} {args : Array Value} {below : List Frame} {meth : Method} {c : Code} {H : Heap} {locs : List Loc} {cells slots : Nat} {Q : State → Prop}
variable {cc : ByteArray} {pc : Nat} {ls : Array Slot} {rest : List Value} {D : va_G} {cl : List vw_C} {A : Nat → Prop} {a : Nat} {tys : List (ClassId × FieldType)} {h : Hp} {H0 : Heap}
/-! rows over integers -/
theorem n_iconst (hx : p.tables.exec = Jvm.exec) (hb : c.code = cc) {n : Int} (d : decode cc pc = .ok (.iconst n, 1)) (k : W p l e R s m args below meth c H locs cells slots Q (F0 m (pc + 1) ls (.int (iI n) :: rest))) : W p l e R s m args below meth c H locs cells slots Q (F0 m pc ls rest) := lv_iconst hx hb d rfl k
theorem n_bipush (hx : p.tables.exec = Jvm.exec) (hb : c.code = cc) {n z : Int} (d : decode cc pc = .ok (.bipush n, 2)) (hz : (Int8.ofInt n).toInt32 = iI z) (k : W p l e R s m args below meth c H locs cells slots Q (F0 m (pc + 2) ls (.int (iI z) :: rest))) : W p l e R s m args below meth c H locs cells slots Q (F0 m pc ls rest) := lv_bipush hx hb d hz k
theorem n_sipush (hx : p.tables.exec = Jvm.exec) (hb : c.code = cc) {n z : Int} (d : decode cc pc = .ok (.sipush n, 3)) (hz : (Int16.ofInt n).toInt32 = iI z) (k : W p l e R s m args below meth c H locs cells slots Q (F0 m (pc + 3) ls (.int (iI z) :: rest))) : W p l e R s m args below meth c H locs cells slots Q (F0 m pc ls rest) := lv_sipush hx hb d hz k
theorem n_lconst (hx : p.tables.exec = Jvm.exec) (hb : c.code = cc) {n : Fin 2} {z : Int} (d : decode cc pc = .ok (.lconst n, 1)) (hz : Int64.ofNat n = lI z) (k : W p l e R s m args below meth c H locs cells slots Q (F0 m (pc + 1) ls (.long (lI z) :: rest))) : W p l e R s m args below meth c H locs cells slots Q (F0 m pc ls rest) := lv_lconst hx hb d hz k
theorem n_iadd (hx : p.tables.exec = Jvm.exec) (hb : c.code = cc) {x y : Int} (d : decode cc pc = .ok (.iadd, 1)) (k : W p l e R s m args below meth c H locs cells slots Q (F0 m (pc + 1) ls (.int (iI (x + y)) :: rest))) : W p l e R s m args below meth c H locs cells slots Q (F0 m pc ls (.int (iI y) :: .int (iI x) :: rest)) := lv_iadd hx hb d (by rw [iI_add]; exact k)
theorem n_isub (hx : p.tables.exec = Jvm.exec) (hb : c.code = cc) {x y : Int} (d : decode cc pc = .ok (.isub, 1)) (k : W p l e R s m args below meth c H locs cells slots Q (F0 m (pc + 1) ls (.int (iI (x - y)) :: rest))) : W p l e R s m args below meth c H locs cells slots Q (F0 m pc ls (.int (iI y) :: .int (iI x) :: rest)) := lv_isub hx hb d (by rw [iI_sub]; exact k)
theorem n_imul (hx : p.tables.exec = Jvm.exec) (hb : c.code = cc) {x y : Int} (d : decode cc pc = .ok (.imul, 1)) (k : W p l e R s m args below meth c H locs cells slots Q (F0 m (pc + 1) ls (.int (iI (x * y)) :: rest))) : W p l e R s m args below meth c H locs cells slots Q (F0 m pc ls (.int (iI y) :: .int (iI x) :: rest)) := lv_imul hx hb d (by rw [iI_mul]; exact k)
theorem n_ineg (hx : p.tables.exec = Jvm.exec) (hb : c.code = cc) {x : Int} (d : decode cc pc = .ok (.ineg, 1)) (k : W p l e R s m args below meth c H locs cells slots Q (F0 m (pc + 1) ls (.int (iI (-x)) :: rest))) : W p l e R s m args below meth c H locs cells slots Q (F0 m pc ls (.int (iI x) :: rest)) := lv_ineg hx hb d (by rw [iI_neg]; exact k)
theorem n_ladd (hx : p.tables.exec = Jvm.exec) (hb : c.code = cc) {x y : Int} (d : decode cc pc = .ok (.ladd, 1)) (k : W p l e R s m args below meth c H locs cells slots Q (F0 m (pc + 1) ls (.long (lI (x + y)) :: rest))) : W p l e R s m args below meth c H locs cells slots Q (F0 m pc ls (.long (lI y) :: .long (lI x) :: rest)) := lv_ladd hx hb d (by rw [lI_add]; exact k)
theorem n_lsub (hx : p.tables.exec = Jvm.exec) (hb : c.code = cc) {x y : Int} (d : decode cc pc = .ok (.lsub, 1)) (k : W p l e R s m args below meth c H locs cells slots Q (F0 m (pc + 1) ls (.long (lI (x - y)) :: rest))) : W p l e R s m args below meth c H locs cells slots Q (F0 m pc ls (.long (lI y) :: .long (lI x) :: rest)) := lv_lsub hx hb d (by rw [lI_sub]; exact k)
theorem n_lmul (hx : p.tables.exec = Jvm.exec) (hb : c.code = cc) {x y : Int} (d : decode cc pc = .ok (.lmul, 1)) (k : W p l e R s m args below meth c H locs cells slots Q (F0 m (pc + 1) ls (.long (lI (x * y)) :: rest))) : W p l e R s m args below meth c H locs cells slots Q (F0 m pc ls (.long (lI y) :: .long (lI x) :: rest)) := lv_lmul hx hb d (by rw [lI_mul]; exact k)
theorem n_i2l (hx : p.tables.exec = Jvm.exec) (hb : c.code = cc) {x : Int} (hr : R32 x) (d : decode cc pc = .ok (.i2l, 1)) (k : W p l e R s m args below meth c H locs cells slots Q (F0 m (pc + 1) ls (.long (lI x) :: rest))) : W p l e R s m args below meth c H locs cells slots Q (F0 m pc ls (.int (iI x) :: rest)) := lv_i2l hx hb d (i2l_I hr) k
theorem n_l2i (hx : p.tables.exec = Jvm.exec) (hb : c.code = cc) {x : Int} (d : decode cc pc = .ok (.l2i, 1)) (k : W p l e R s m args below meth c H locs cells slots Q (F0 m (pc + 1) ls (.int (iI x) :: rest))) : W p l e R s m args below meth c H locs cells slots Q (F0 m pc ls (.long (lI x) :: rest)) := lv_l2i hx hb d (l2i_I x) k
theorem n_iinc (hx : p.tables.exec = Jvm.exec) (hb : c.code = cc) {i nL k : Nat} {n x : Int} {lv lv' : List (Nat × Value)} (d : decode cc pc = .ok (.iinc i n, 3)) (hl : lv_has ls nL lv) (hk : lv[k]? = some (i, .int (iI x))) (hn : i < nL) (hl' : (i, Value.int (iI (x + n))) :: lv.filter (fun q => !(q.1 == i) && !(q.1 + 1 == i && q.2.category == 2)) = lv')
    (kk : ∀ ls' : Array Slot, lv_has ls' nL lv' → W p l e R s m args below meth c H locs cells slots Q (F0 m (pc + 3) ls' rest)) : W p l e R s m args below meth c H locs cells slots Q (F0 m pc ls rest) := lv_iinc hx hb d hl hk (iI_add x n) hn hl' kk
theorem n_if_eq (hx : p.tables.exec = Jvm.exec) (hb : c.code = cc) {x : Int} {off : Int} {tgt : Nat} (hr : R32 x) (d : decode cc pc = .ok (.ifCond .eq off, 3)) (ht : (pc : Int) + off = (tgt : Int))
    (kt : x = 0 → W p l e R s m args below meth c H locs cells slots Q (F0 m tgt ls rest)) (kf : ¬ x = 0 → W p l e R s m args below meth c H locs cells slots Q (F0 m (pc + 3) ls rest)) : W p l e R s m args below meth c H locs cells slots Q (F0 m pc ls (.int (iI x) :: rest)) :=
  lv_if_eq hx hb d ht (fun q => kt ((iI_eq hr (b := 0) (by unfold R32; omega)).mp q)) (fun q => kf (fun z => q ((iI_eq hr (b := 0) (by unfold R32; omega)).mpr z)))
theorem n_if_ne (hx : p.tables.exec = Jvm.exec) (hb : c.code = cc) {x : Int} {off : Int} {tgt : Nat} (hr : R32 x) (d : decode cc pc = .ok (.ifCond .ne off, 3)) (ht : (pc : Int) + off = (tgt : Int))
    (kt : ¬ x = 0 → W p l e R s m args below meth c H locs cells slots Q (F0 m tgt ls rest)) (kf : x = 0 → W p l e R s m args below meth c H locs cells slots Q (F0 m (pc + 3) ls rest)) : W p l e R s m args below meth c H locs cells slots Q (F0 m pc ls (.int (iI x) :: rest)) :=
  lv_if_ne hx hb d ht (fun q => kt (fun z => q ((iI_eq hr (b := 0) (by unfold R32; omega)).mpr z))) (fun q => kf ((iI_eq hr (b := 0) (by unfold R32; omega)).mp q))
theorem n_if_lt (hx : p.tables.exec = Jvm.exec) (hb : c.code = cc) {x : Int} {off : Int} {tgt : Nat} (hr : R32 x) (d : decode cc pc = .ok (.ifCond .lt off, 3)) (ht : (pc : Int) + off = (tgt : Int))
    (kt : x < 0 → W p l e R s m args below meth c H locs cells slots Q (F0 m tgt ls rest)) (kf : ¬ x < 0 → W p l e R s m args below meth c H locs cells slots Q (F0 m (pc + 3) ls rest)) : W p l e R s m args below meth c H locs cells slots Q (F0 m pc ls (.int (iI x) :: rest)) :=
  lv_if_lt hx hb d ht (fun q => kt ((iI_lt hr (b := 0) (by unfold R32; omega)).mp q)) (fun q => kf (fun z => q ((iI_lt hr (b := 0) (by unfold R32; omega)).mpr z)))
theorem n_if_ge (hx : p.tables.exec = Jvm.exec) (hb : c.code = cc) {x : Int} {off : Int} {tgt : Nat} (hr : R32 x) (d : decode cc pc = .ok (.ifCond .ge off, 3)) (ht : (pc : Int) + off = (tgt : Int))
    (kt : 0 ≤ x → W p l e R s m args below meth c H locs cells slots Q (F0 m tgt ls rest)) (kf : ¬ 0 ≤ x → W p l e R s m args below meth c H locs cells slots Q (F0 m (pc + 3) ls rest)) : W p l e R s m args below meth c H locs cells slots Q (F0 m pc ls (.int (iI x) :: rest)) :=
  lv_if_ge hx hb d ht (fun q => kt ((iI_le (a := 0) (by unfold R32; omega) hr).mp q)) (fun q => kf (fun z => q ((iI_le (a := 0) (by unfold R32; omega) hr).mpr z)))
theorem n_if_gt (hx : p.tables.exec = Jvm.exec) (hb : c.code = cc) {x : Int} {off : Int} {tgt : Nat} (hr : R32 x) (d : decode cc pc = .ok (.ifCond .gt off, 3)) (ht : (pc : Int) + off = (tgt : Int))
    (kt : 0 < x → W p l e R s m args below meth c H locs cells slots Q (F0 m tgt ls rest)) (kf : ¬ 0 < x → W p l e R s m args below meth c H locs cells slots Q (F0 m (pc + 3) ls rest)) : W p l e R s m args below meth c H locs cells slots Q (F0 m pc ls (.int (iI x) :: rest)) :=
  lv_if_gt hx hb d ht (fun q => kt ((iI_lt (a := 0) (by unfold R32; omega) hr).mp q)) (fun q => kf (fun z => q ((iI_lt (a := 0) (by unfold R32; omega) hr).mpr z)))
theorem n_if_le (hx : p.tables.exec = Jvm.exec) (hb : c.code = cc) {x : Int} {off : Int} {tgt : Nat} (hr : R32 x) (d : decode cc pc = .ok (.ifCond .le off, 3)) (ht : (pc : Int) + off = (tgt : Int))
    (kt : x ≤ 0 → W p l e R s m args below meth c H locs cells slots Q (F0 m tgt ls rest)) (kf : ¬ x ≤ 0 → W p l e R s m args below meth c H locs cells slots Q (F0 m (pc + 3) ls rest)) : W p l e R s m args below meth c H locs cells slots Q (F0 m pc ls (.int (iI x) :: rest)) :=
  lv_if_le hx hb d ht (fun q => kt ((iI_le hr (b := 0) (by unfold R32; omega)).mp q)) (fun q => kf (fun z => q ((iI_le hr (b := 0) (by unfold R32; omega)).mpr z)))
/-- a truth on the stack -/
theorem z_if_eq (hx : p.tables.exec = Jvm.exec) (hb : c.code = cc) {P : Prop} [Decidable P] {off : Int} {tgt : Nat} (d : decode cc pc = .ok (.ifCond .eq off, 3)) (ht : (pc : Int) + off = (tgt : Int))
    (kt : ¬ P → W p l e R s m args below meth c H locs cells slots Q (F0 m tgt ls rest)) (kf : P → W p l e R s m args below meth c H locs cells slots Q (F0 m (pc + 3) ls rest)) : W p l e R s m args below meth c H locs cells slots Q (F0 m pc ls (.int (iI (zb P)) :: rest)) :=
  n_if_eq hx hb zb_r d ht (fun q => kt (fun z => by rw [zb_t z] at q; exact absurd q (by decide))) (fun q => kf (Classical.byContradiction fun z => q (zb_f z)))
theorem z_if_ne (hx : p.tables.exec = Jvm.exec) (hb : c.code = cc) {P : Prop} [Decidable P] {off : Int} {tgt : Nat} (d : decode cc pc = .ok (.ifCond .ne off, 3)) (ht : (pc : Int) + off = (tgt : Int))
    (kt : P → W p l e R s m args below meth c H locs cells slots Q (F0 m tgt ls rest)) (kf : ¬ P → W p l e R s m args below meth c H locs cells slots Q (F0 m (pc + 3) ls rest)) : W p l e R s m args below meth c H locs cells slots Q (F0 m pc ls (.int (iI (zb P)) :: rest)) :=
  n_if_ne hx hb zb_r d ht (fun q => kt (Classical.byContradiction fun z => q (zb_f z))) (fun q => kf (fun z => by rw [zb_t z] at q; exact absurd q (by decide)))
theorem n_icmp_eq (hx : p.tables.exec = Jvm.exec) (hb : c.code = cc) {x y : Int} {off : Int} {tgt : Nat} (hr : R32 x) (hy : R32 y) (d : decode cc pc = .ok (.if_icmp .eq off, 3)) (ht : (pc : Int) + off = (tgt : Int))
    (kt : x = y → W p l e R s m args below meth c H locs cells slots Q (F0 m tgt ls rest)) (kf : ¬ x = y → W p l e R s m args below meth c H locs cells slots Q (F0 m (pc + 3) ls rest)) : W p l e R s m args below meth c H locs cells slots Q (F0 m pc ls (.int (iI y) :: .int (iI x) :: rest)) :=
  lv_icmp_eq hx hb d ht (fun q => kt ((iI_eq hr hy).mp q)) (fun q => kf (fun z => q ((iI_eq hr hy).mpr z)))
theorem n_icmp_ne (hx : p.tables.exec = Jvm.exec) (hb : c.code = cc) {x y : Int} {off : Int} {tgt : Nat} (hr : R32 x) (hy : R32 y) (d : decode cc pc = .ok (.if_icmp .ne off, 3)) (ht : (pc : Int) + off = (tgt : Int))
    (kt : ¬ x = y → W p l e R s m args below meth c H locs cells slots Q (F0 m tgt ls rest)) (kf : x = y → W p l e R s m args below meth c H locs cells slots Q (F0 m (pc + 3) ls rest)) : W p l e R s m args below meth c H locs cells slots Q (F0 m pc ls (.int (iI y) :: .int (iI x) :: rest)) :=
  lv_icmp_ne hx hb d ht (fun q => kt (fun z => q ((iI_eq hr hy).mpr z))) (fun q => kf ((iI_eq hr hy).mp q))
theorem n_icmp_lt (hx : p.tables.exec = Jvm.exec) (hb : c.code = cc) {x y : Int} {off : Int} {tgt : Nat} (hr : R32 x) (hy : R32 y) (d : decode cc pc = .ok (.if_icmp .lt off, 3)) (ht : (pc : Int) + off = (tgt : Int))
    (kt : x < y → W p l e R s m args below meth c H locs cells slots Q (F0 m tgt ls rest)) (kf : ¬ x < y → W p l e R s m args below meth c H locs cells slots Q (F0 m (pc + 3) ls rest)) : W p l e R s m args below meth c H locs cells slots Q (F0 m pc ls (.int (iI y) :: .int (iI x) :: rest)) :=
  lv_icmp_lt hx hb d ht (fun q => kt ((iI_lt hr hy).mp q)) (fun q => kf (fun z => q ((iI_lt hr hy).mpr z)))
theorem n_icmp_ge (hx : p.tables.exec = Jvm.exec) (hb : c.code = cc) {x y : Int} {off : Int} {tgt : Nat} (hr : R32 x) (hy : R32 y) (d : decode cc pc = .ok (.if_icmp .ge off, 3)) (ht : (pc : Int) + off = (tgt : Int))
    (kt : y ≤ x → W p l e R s m args below meth c H locs cells slots Q (F0 m tgt ls rest)) (kf : ¬ y ≤ x → W p l e R s m args below meth c H locs cells slots Q (F0 m (pc + 3) ls rest)) : W p l e R s m args below meth c H locs cells slots Q (F0 m pc ls (.int (iI y) :: .int (iI x) :: rest)) :=
  lv_icmp_ge hx hb d ht (fun q => kt ((iI_le hy hr).mp q)) (fun q => kf (fun z => q ((iI_le hy hr).mpr z)))
theorem n_icmp_gt (hx : p.tables.exec = Jvm.exec) (hb : c.code = cc) {x y : Int} {off : Int} {tgt : Nat} (hr : R32 x) (hy : R32 y) (d : decode cc pc = .ok (.if_icmp .gt off, 3)) (ht : (pc : Int) + off = (tgt : Int))
    (kt : y < x → W p l e R s m args below meth c H locs cells slots Q (F0 m tgt ls rest)) (kf : ¬ y < x → W p l e R s m args below meth c H locs cells slots Q (F0 m (pc + 3) ls rest)) : W p l e R s m args below meth c H locs cells slots Q (F0 m pc ls (.int (iI y) :: .int (iI x) :: rest)) :=
  lv_icmp_gt hx hb d ht (fun q => kt ((iI_lt hy hr).mp q)) (fun q => kf (fun z => q ((iI_lt hy hr).mpr z)))
theorem n_icmp_le (hx : p.tables.exec = Jvm.exec) (hb : c.code = cc) {x y : Int} {off : Int} {tgt : Nat} (hr : R32 x) (hy : R32 y) (d : decode cc pc = .ok (.if_icmp .le off, 3)) (ht : (pc : Int) + off = (tgt : Int))
    (kt : x ≤ y → W p l e R s m args below meth c H locs cells slots Q (F0 m tgt ls rest)) (kf : ¬ x ≤ y → W p l e R s m args below meth c H locs cells slots Q (F0 m (pc + 3) ls rest)) : W p l e R s m args below meth c H locs cells slots Q (F0 m pc ls (.int (iI y) :: .int (iI x) :: rest)) :=
  lv_icmp_le hx hb d ht (fun q => kt ((iI_le hr hy).mp q)) (fun q => kf (fun z => q ((iI_le hr hy).mpr z)))
/-! rows over the heap as a function -/
theorem g_get (hx : p.tables.exec = Jvm.exec) (hb : c.code = cc) {own ref C : String} {T : u_T} {N ci index : Nat} {Ts : List Cond} (hts : ∀ w ∈ Ts, w.before args s = true) (hin : ∀ w ∈ u_ws C T N, w ∈ Ts) (hown : s.vm.findClass own = some m.cls) (hK : va_K D cl tys s) (hH : HV D cl A h H0 H locs) {fs : List Value} (he : h a = some (oB ci fs)) (hc : cl[ci]? = some (C, T, N)) (k : Nat) (hk : k < N) (hlink : (Cond.fieldLink own index ref (T k).2.1 (T k).2.2.1).before args s = true) (hsame : ∀ x, s.fieldFound? (T k).1 (T k).2.1 (T k).2.2.1 = some x → s.fieldFound? ref (T k).2.1 (T k).2.2.1 = some x) {v : Value} (hv : fs[k]? = some v) (d : decode cc pc = .ok (.getfield index, 3))
    (kk : W p l e R s m args below meth c H locs cells slots Q (F0 m (pc + 3) ls (v :: rest))) : W p l e R s m args below meth c H locs cells slots Q (F0 m pc ls (.ref a :: rest)) := by
  obtain ⟨⟨ws, hR, hP, hD⟩, hS⟩ := hH
  obtain ⟨q0, hq⟩ := (hR _ _).mp he
  exact va_get hx hb hts hin hown hK hP q0 hq hc k hk hlink hsame hv d kk
theorem g_getN (hx : p.tables.exec = Jvm.exec) (hb : c.code = cc) {own ref C host : String} {T : u_T} {N ci index : Nat} {Ts : List Cond} (hts : ∀ w ∈ Ts, w.before args s = true) (hin : ∀ w ∈ u_ws C T N, w ∈ Ts) (hown : s.vm.findClass own = some m.cls) (hK : va_K D cl tys s) (hH : HV D cl A h H0 H locs) {fs : List Value} (he : h a = some (oB ci fs)) (hc : cl[ci]? = some (C, T, N)) (k : Nat) (hk : k < N) (hlink : va_Nw (Cond.fieldLinkNest own index ref (T k).2.1 (T k).2.2.1 host) s) (hsame : ∀ x, s.fieldFound? (T k).1 (T k).2.1 (T k).2.2.1 = some x → s.fieldFound? ref (T k).2.1 (T k).2.2.1 = some x) {v : Value} (hv : fs[k]? = some v) (d : decode cc pc = .ok (.getfield index, 3))
    (kk : W p l e R s m args below meth c H locs cells slots Q (F0 m (pc + 3) ls (v :: rest))) : W p l e R s m args below meth c H locs cells slots Q (F0 m pc ls (.ref a :: rest)) := by
  obtain ⟨⟨ws, hR, hP, hD⟩, hS⟩ := hH
  obtain ⟨q0, hq⟩ := (hR _ _).mp he
  exact va_getN hx hb hts hin hown hK hP q0 hq hc k hk (va_Nw.use rfl hlink) hsame hv d kk
theorem g_put (hx : p.tables.exec = Jvm.exec) (hb : c.code = cc) {own ref C : String} {T : u_T} {N ci index : Nat} {Ts : List Cond} (hts : ∀ w ∈ Ts, w.before args s = true) (hin : ∀ w ∈ u_ws C T N, w ∈ Ts) (ty0 : Nat → FieldType) (hty : ∀ k, k < N → parseFieldDescriptor (T k).2.2.1 = some (ty0 k)) (hnm : ∀ a, a < N → ∀ b, b < N → a ≠ b → (T a).2.1 ≠ (T b).2.1) (hown : s.vm.findClass own = some m.cls) (hK : va_K D cl tys s) (hH : HV D cl A h H0 H locs) {fs : List Value} (he : h a = some (oB ci fs)) (hc : cl[ci]? = some (C, T, N)) (k : Nat) (hk : k < N) (hlink : (Cond.fieldLink own index ref (T k).2.1 (T k).2.2.1).before args s = true) (hsame : ∀ x, s.fieldFound? (T k).1 (T k).2.1 (T k).2.2.1 = some x → s.fieldFound? ref (T k).2.1 (T k).2.2.1 = some x) (hfin : (T k).2.2.2 = false) {ty : FieldType} {v : Value} (hd : parseFieldDescriptor (T k).2.2.1 = some ty) (hn : narrow ty v = v) (hfit : fits ty v = true) (hl : k < fs.length) (d : decode cc pc = .ok (.putfield index, 3))
    (kk : ∀ (H1 : Heap) (locs1 : List Loc), HV D cl A (hs h a (oB ci (fs.set k v))) H0 H1 locs1 → W p l e R s m args below meth c H1 locs1 cells slots Q (F0 m (pc + 3) ls rest)) : W p l e R s m args below meth c H locs cells slots Q (F0 m pc ls (v :: .ref a :: rest)) := by
  obtain ⟨⟨ws, hR, hP, hD⟩, hS⟩ := hH
  obtain ⟨q0, hq⟩ := (hR _ _).mp he
  exact va_put hx hb hts hin ty0 hty hnm hown hK hP hD hS q0 hq hc k hk hlink hsame hfin hd hn hfit hl d fun H1 locs1 hP1 hD1 hS1 => kk H1 locs1 ⟨⟨_, hR.set hD hq, hP1, hD1⟩, hS1⟩
theorem g_putN (hx : p.tables.exec = Jvm.exec) (hb : c.code = cc) {own ref C host : String} {T : u_T} {N ci index : Nat} {Ts : List Cond} (hts : ∀ w ∈ Ts, w.before args s = true) (hin : ∀ w ∈ u_ws C T N, w ∈ Ts) (ty0 : Nat → FieldType) (hty : ∀ k, k < N → parseFieldDescriptor (T k).2.2.1 = some (ty0 k)) (hnm : ∀ a, a < N → ∀ b, b < N → a ≠ b → (T a).2.1 ≠ (T b).2.1) (hown : s.vm.findClass own = some m.cls) (hK : va_K D cl tys s) (hH : HV D cl A h H0 H locs) {fs : List Value} (he : h a = some (oB ci fs)) (hc : cl[ci]? = some (C, T, N)) (k : Nat) (hk : k < N) (hlink : va_Nw (Cond.fieldLinkNest own index ref (T k).2.1 (T k).2.2.1 host) s) (hsame : ∀ x, s.fieldFound? (T k).1 (T k).2.1 (T k).2.2.1 = some x → s.fieldFound? ref (T k).2.1 (T k).2.2.1 = some x) (hfin : (T k).2.2.2 = false) {ty : FieldType} {v : Value} (hd : parseFieldDescriptor (T k).2.2.1 = some ty) (hn : narrow ty v = v) (hfit : fits ty v = true) (hl : k < fs.length) (d : decode cc pc = .ok (.putfield index, 3))
    (kk : ∀ (H1 : Heap) (locs1 : List Loc), HV D cl A (hs h a (oB ci (fs.set k v))) H0 H1 locs1 → W p l e R s m args below meth c H1 locs1 cells slots Q (F0 m (pc + 3) ls rest)) : W p l e R s m args below meth c H locs cells slots Q (F0 m pc ls (v :: .ref a :: rest)) := by
  obtain ⟨⟨ws, hR, hP, hD⟩, hS⟩ := hH
  obtain ⟨q0, hq⟩ := (hR _ _).mp he
  exact va_putN hx hb hts hin ty0 hty hnm hown hK hP hD hS q0 hq hc k hk (va_Nw.use rfl hlink) hsame hfin hd hn hfit hl d fun H1 locs1 hP1 hD1 hS1 => kk H1 locs1 ⟨⟨_, hR.set hD hq, hP1, hD1⟩, hS1⟩
theorem g_putF (hx : p.tables.exec = Jvm.exec) (hb : c.code = cc) {own ref C : String} {T : u_T} {N ci index : Nat} {Ts : List Cond} (hts : ∀ w ∈ Ts, w.before args s = true) (hin : ∀ w ∈ u_ws C T N, w ∈ Ts) (ty0 : Nat → FieldType) (hty : ∀ k, k < N → parseFieldDescriptor (T k).2.2.1 = some (ty0 k)) (hnm : ∀ a, a < N → ∀ b, b < N → a ≠ b → (T a).2.1 ≠ (T b).2.1) (hown : s.vm.findClass own = some m.cls) (hK : va_K D cl tys s) (hH : HV D cl A h H0 H locs) {fs : List Value} (he : h a = some (oB ci fs)) (hc : cl[ci]? = some (C, T, N)) (k : Nat) (hk : k < N) (hlink : (Cond.fieldLink own index ref (T k).2.1 (T k).2.2.1).before args s = true) (hsame : ∀ x, s.fieldFound? (T k).1 (T k).2.1 (T k).2.2.1 = some x → s.fieldFound? ref (T k).2.1 (T k).2.2.1 = some x) (hfin : (T k).2.2.2 = true) (hin2 : meth.name = "<init>") (hdecl : (T k).1 = own) {ty : FieldType} {v : Value} (hd : parseFieldDescriptor (T k).2.2.1 = some ty) (hn : narrow ty v = v) (hfit : fits ty v = true) (hl : k < fs.length) (d : decode cc pc = .ok (.putfield index, 3))
    (kk : ∀ (H1 : Heap) (locs1 : List Loc), HV D cl A (hs h a (oB ci (fs.set k v))) H0 H1 locs1 → W p l e R s m args below meth c H1 locs1 cells slots Q (F0 m (pc + 3) ls rest)) : W p l e R s m args below meth c H locs cells slots Q (F0 m pc ls (v :: .ref a :: rest)) := by
  obtain ⟨⟨ws, hR, hP, hD⟩, hS⟩ := hH
  obtain ⟨q0, hq⟩ := (hR _ _).mp he
  exact va_putF hx hb hts hin ty0 hty hnm hown hK hP hD hS q0 hq hc k hk hlink hsame hfin hin2 hdecl hd hn hfit hl d fun H1 locs1 hP1 hD1 hS1 => kk H1 locs1 ⟨⟨_, hR.set hD hq, hP1, hD1⟩, hS1⟩
theorem g_iald (hx : p.tables.exec = Jvm.exec) (hb : c.code = cc) (hK : va_K D cl tys s) (hH : HV D cl A h H0 H locs) (t0 : Nat) {cA : ClassId} {n : Nat} {f : Int → Int} (ha : h a = some (aI cA n f)) (ht : tys[t0]? = some (cA, .int)) {i : Int} (h0 : 0 ≤ i) (hi : i < n) (hn : n < 2147483648) (d : decode cc pc = .ok (.iaload, 1))
    (kk : W p l e R s m args below meth c H locs cells slots Q (F0 m (pc + 1) ls (.int (iI (f i)) :: rest))) : W p l e R s m args below meth c H locs cells slots Q (F0 m pc ls (.int (iI i) :: .ref a :: rest)) := by
  obtain ⟨⟨ws, hR, hP, hD⟩, hS⟩ := hH
  obtain ⟨q0, hq⟩ := (hR _ _).mp ha
  refine va_iald hx hb hK hP q0 t0 hq ht (iI_vp h0 hi hn) d ?_
  rw [iI_cl h0 (by omega), Int.toNat_of_nonneg h0]
  exact kk
theorem g_bald (hx : p.tables.exec = Jvm.exec) (hb : c.code = cc) (hK : va_K D cl tys s) (hH : HV D cl A h H0 H locs) (t0 : Nat) {cA : ClassId} {n : Nat} {f : Int → Int} (ha : h a = some (aI cA n f)) (ht : tys[t0]? = some (cA, .byte)) {i : Int} (h0 : 0 ≤ i) (hi : i < n) (hn : n < 2147483648) (d : decode cc pc = .ok (.baload, 1))
    (kk : W p l e R s m args below meth c H locs cells slots Q (F0 m (pc + 1) ls (.int (iI (f i)) :: rest))) : W p l e R s m args below meth c H locs cells slots Q (F0 m pc ls (.int (iI i) :: .ref a :: rest)) := by
  obtain ⟨⟨ws, hR, hP, hD⟩, hS⟩ := hH
  obtain ⟨q0, hq⟩ := (hR _ _).mp ha
  refine va_bald hx hb hK hP q0 t0 hq ht (iI_vp h0 hi hn) d ?_
  rw [iI_cl h0 (by omega), Int.toNat_of_nonneg h0]
  exact kk
theorem g_zald (hx : p.tables.exec = Jvm.exec) (hb : c.code = cc) (hK : va_K D cl tys s) (hH : HV D cl A h H0 H locs) (t0 : Nat) {cA : ClassId} {n : Nat} {f : Int → Int} (ha : h a = some (aI cA n f)) (ht : tys[t0]? = some (cA, .boolean)) {i : Int} (h0 : 0 ≤ i) (hi : i < n) (hn : n < 2147483648) (d : decode cc pc = .ok (.baload, 1))
    (kk : W p l e R s m args below meth c H locs cells slots Q (F0 m (pc + 1) ls (.int (iI (f i)) :: rest))) : W p l e R s m args below meth c H locs cells slots Q (F0 m pc ls (.int (iI i) :: .ref a :: rest)) := by
  obtain ⟨⟨ws, hR, hP, hD⟩, hS⟩ := hH
  obtain ⟨q0, hq⟩ := (hR _ _).mp ha
  refine va_zald hx hb hK hP q0 t0 hq ht (iI_vp h0 hi hn) d ?_
  rw [iI_cl h0 (by omega), Int.toNat_of_nonneg h0]
  exact kk
theorem g_lald (hx : p.tables.exec = Jvm.exec) (hb : c.code = cc) (hK : va_K D cl tys s) (hH : HV D cl A h H0 H locs) (t0 : Nat) {cA : ClassId} {n : Nat} {f : Int → Int} (ha : h a = some (aL cA n f)) (ht : tys[t0]? = some (cA, .long)) {i : Int} (h0 : 0 ≤ i) (hi : i < n) (hn : n < 2147483648) (d : decode cc pc = .ok (.laload, 1))
    (kk : W p l e R s m args below meth c H locs cells slots Q (F0 m (pc + 1) ls (.long (lI (f i)) :: rest))) : W p l e R s m args below meth c H locs cells slots Q (F0 m pc ls (.int (iI i) :: .ref a :: rest)) := by
  obtain ⟨⟨ws, hR, hP, hD⟩, hS⟩ := hH
  obtain ⟨q0, hq⟩ := (hR _ _).mp ha
  refine va_lald hx hb hK hP q0 t0 hq ht (iI_vp h0 hi hn) d ?_
  rw [iI_cl h0 (by omega), Int.toNat_of_nonneg h0]
  exact kk
theorem g_aald (hx : p.tables.exec = Jvm.exec) (hb : c.code = cc) (hK : va_K D cl tys s) (hH : HV D cl A h H0 H locs) (t0 : Nat) {cA : ClassId} {C : String} {n : Nat} {f : Int → Option Nat} (ha : h a = some (aQ cA n f)) (ht : tys[t0]? = some (cA, .object C)) {i : Int} (h0 : 0 ≤ i) (hi : i < n) (hn : n < 2147483648) {v : Option Nat} (hv : f i = v) (d : decode cc pc = .ok (.aaload, 1))
    (kk : W p l e R s m args below meth c H locs cells slots Q (F0 m (pc + 1) ls (va_rf v :: rest))) : W p l e R s m args below meth c H locs cells slots Q (F0 m pc ls (.int (iI i) :: .ref a :: rest)) := by
  obtain ⟨⟨ws, hR, hP, hD⟩, hS⟩ := hH
  obtain ⟨q0, hq⟩ := (hR _ _).mp ha
  refine va_aldq hx hb hK hP q0 t0 hq ht (iI_vp h0 hi hn) d ?_
  rw [iI_cl h0 (by omega), Int.toNat_of_nonneg h0, hv]
  exact kk
theorem g_alenI (hx : p.tables.exec = Jvm.exec) (hb : c.code = cc) (hK : va_K D cl tys s) (hH : HV D cl A h H0 H locs) (t0 : Nat) {cA : ClassId} {x : vp_A} (ha : h a = some (.inl (cA, x))) {ty : FieldType} (ht : tys[t0]? = some (cA, ty)) {n : Int} (hv : (x.1 : Int) = n) (d : decode cc pc = .ok (.arraylength, 1))
    (kk : W p l e R s m args below meth c H locs cells slots Q (F0 m (pc + 1) ls (.int (iI n) :: rest))) : W p l e R s m args below meth c H locs cells slots Q (F0 m pc ls (.ref a :: rest)) := by
  obtain ⟨⟨ws, hR, hP, hD⟩, hS⟩ := hH
  obtain ⟨q0, hq⟩ := (hR _ _).mp ha
  exact va_alen hx hb hK hP q0 t0 hq ht (v := iI n) (by rw [← hv]; exact Int32.ofInt_eq_ofNat.symm) d kk
theorem g_iast (hx : p.tables.exec = Jvm.exec) (hb : c.code = cc) (hK : va_K D cl tys s) (hH : HV D cl A h H0 H locs) (t0 : Nat) {cA : ClassId} {n : Nat} {f : Int → Int} (ha : h a = some (aI cA n f)) (ht : tys[t0]? = some (cA, .int)) {i x : Int} (h0 : 0 ≤ i) (hi : i < n) (hn : n < 2147483648) (d : decode cc pc = .ok (.iastore, 1))
    (kk : ∀ (H1 : Heap) (locs1 : List Loc), HV D cl A (hs h a (aI cA n (up f i x))) H0 H1 locs1 → W p l e R s m args below meth c H1 locs1 cells slots Q (F0 m (pc + 1) ls rest)) : W p l e R s m args below meth c H locs cells slots Q (F0 m pc ls (.int (iI x) :: .int (iI i) :: .ref a :: rest)) := by
  obtain ⟨⟨ws, hR, hP, hD⟩, hS⟩ := hH
  obtain ⟨q0, hq⟩ := (hR _ _).mp ha
  refine va_iast hx hb hK hP hD hS q0 t0 hq ht (iI_vp h0 hi hn) d fun H1 locs1 hP1 hD1 hS1 => kk H1 locs1 ⟨⟨_, hR.set hD hq, ?_, ?_⟩, hS1⟩
  · rw [up_f h0 (by omega)] at hP1; exact hP1
  · rw [up_f h0 (by omega)] at hD1; exact hD1
theorem nar_b {x : Int} (h : -128 ≤ x ∧ x < 128) : vp_nar .byte (iI x) = iI x := by
  rw [vp_nar_byte]
  apply Int32.toInt_inj.mp
  rw [Int8.toInt_toInt32, iI_ti ⟨by omega, by omega⟩, show (iI x).toInt8 = Int8.ofInt x from Int32.toInt8_ofInt]
  exact Int8.toInt_ofInt_of_le (by omega) (by omega)
theorem nar_z {x : Int} (h : x = 0 ∨ x = 1) : vp_nar .boolean (iI x) = iI x := by
  rcases h with h | h <;> subst h <;> rfl
theorem g_bast (hx : p.tables.exec = Jvm.exec) (hb : c.code = cc) (hK : va_K D cl tys s) (hH : HV D cl A h H0 H locs) (t0 : Nat) {cA : ClassId} {n : Nat} {f : Int → Int} (ha : h a = some (aI cA n f)) (ht : tys[t0]? = some (cA, .byte)) {i x : Int} (hbx : -128 ≤ x ∧ x < 128) (h0 : 0 ≤ i) (hi : i < n) (hn : n < 2147483648) (d : decode cc pc = .ok (.bastore, 1))
    (kk : ∀ (H1 : Heap) (locs1 : List Loc), HV D cl A (hs h a (aI cA n (up f i x))) H0 H1 locs1 → W p l e R s m args below meth c H1 locs1 cells slots Q (F0 m (pc + 1) ls rest)) : W p l e R s m args below meth c H locs cells slots Q (F0 m pc ls (.int (iI x) :: .int (iI i) :: .ref a :: rest)) := by
  obtain ⟨⟨ws, hR, hP, hD⟩, hS⟩ := hH
  obtain ⟨q0, hq⟩ := (hR _ _).mp ha
  refine va_bast hx hb hK hP hD hS q0 t0 hq ht (iI_vp h0 hi hn) d fun H1 locs1 hP1 hD1 hS1 => kk H1 locs1 ⟨⟨_, hR.set hD hq, ?_, ?_⟩, hS1⟩
  · rw [nar_b hbx, up_f h0 (by omega)] at hP1; exact hP1
  · rw [nar_b hbx, up_f h0 (by omega)] at hD1; exact hD1
theorem g_zast (hx : p.tables.exec = Jvm.exec) (hb : c.code = cc) (hK : va_K D cl tys s) (hH : HV D cl A h H0 H locs) (t0 : Nat) {cA : ClassId} {n : Nat} {f : Int → Int} (ha : h a = some (aI cA n f)) (ht : tys[t0]? = some (cA, .boolean)) {i x : Int} (hbx : x = 0 ∨ x = 1) (h0 : 0 ≤ i) (hi : i < n) (hn : n < 2147483648) (d : decode cc pc = .ok (.bastore, 1))
    (kk : ∀ (H1 : Heap) (locs1 : List Loc), HV D cl A (hs h a (aI cA n (up f i x))) H0 H1 locs1 → W p l e R s m args below meth c H1 locs1 cells slots Q (F0 m (pc + 1) ls rest)) : W p l e R s m args below meth c H locs cells slots Q (F0 m pc ls (.int (iI x) :: .int (iI i) :: .ref a :: rest)) := by
  obtain ⟨⟨ws, hR, hP, hD⟩, hS⟩ := hH
  obtain ⟨q0, hq⟩ := (hR _ _).mp ha
  refine va_zast hx hb hK hP hD hS q0 t0 hq ht (iI_vp h0 hi hn) d fun H1 locs1 hP1 hD1 hS1 => kk H1 locs1 ⟨⟨_, hR.set hD hq, ?_, ?_⟩, hS1⟩
  · rw [nar_z hbx, up_f h0 (by omega)] at hP1; exact hP1
  · rw [nar_z hbx, up_f h0 (by omega)] at hD1; exact hD1
theorem g_last (hx : p.tables.exec = Jvm.exec) (hb : c.code = cc) (hK : va_K D cl tys s) (hH : HV D cl A h H0 H locs) (t0 : Nat) {cA : ClassId} {n : Nat} {f : Int → Int} (ha : h a = some (aL cA n f)) (ht : tys[t0]? = some (cA, .long)) {i x : Int} (h0 : 0 ≤ i) (hi : i < n) (hn : n < 2147483648) (d : decode cc pc = .ok (.lastore, 1))
    (kk : ∀ (H1 : Heap) (locs1 : List Loc), HV D cl A (hs h a (aL cA n (up f i x))) H0 H1 locs1 → W p l e R s m args below meth c H1 locs1 cells slots Q (F0 m (pc + 1) ls rest)) : W p l e R s m args below meth c H locs cells slots Q (F0 m pc ls (.long (lI x) :: .int (iI i) :: .ref a :: rest)) := by
  obtain ⟨⟨ws, hR, hP, hD⟩, hS⟩ := hH
  obtain ⟨q0, hq⟩ := (hR _ _).mp ha
  refine va_last hx hb hK hP hD hS q0 t0 hq ht (iI_vp h0 hi hn) d fun H1 locs1 hP1 hD1 hS1 => kk H1 locs1 ⟨⟨_, hR.set hD hq, ?_, ?_⟩, hS1⟩
  · rw [up_fl h0 (by omega)] at hP1; exact hP1
  · rw [up_fl h0 (by omega)] at hD1; exact hD1
end GR
