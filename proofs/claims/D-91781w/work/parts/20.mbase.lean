/-! THE WORLD: all classes by number, all arrays by number; the model's cells by the numbers of its fields -/
abbrev clA : List vw_C := [(RX4, TX4, 30), (RX0, TX0, 13), (RX1, TX1, 22), (RX2, TX2, 2), (RX3, TX3, 10), (RX5, TX5, 6), (RX7, TX7, 19), (RX8, TX8, 19), (RX9, TX9, 19), (RX10, TX10, 3), (RX11, TX11, 7), (RX13, TX13, 1), (RX14, TX14, 1), (RX15, TX15, 3), (RX17, TX17, 1), (RX18, TX18, 3), (RX19, TX19, 1), (RX20, TX20, 2), (RX21, TX21, 4), (RX22, TX22, 1)]
def tyA (dA : Nat → ClassId) : List (ClassId × FieldType) := [(dA 0, .int), (dA 1, .byte), (dA 2, .boolean), (dA 3, .long), (dA 4, .object "BrothFlasks$Bench"), (dA 5, .object "BrothFlasks$Kind"), (dA 6, .object "BrothFlasks$Flask"), (dA 7, .object "BrothFlasks$Look"), (dA 8, .object "BrothFlasks$Case"), (dA 9, .object "BrothFlasks$Text"), (dA 10, .object "BrothFlasks$Test"), (dA 11, .object "BrothFlasks$Clause"), (dA 12, .object "java/lang/String")]
abbrev St : Type := Nat → Int → Int
def sa (σ : St) (f : Nat) (a : Int → Int) : St := fun g => if g = f then a else σ g
def st (σ : St) (f : Nat) (i v : Int) : St := sa σ f (up (σ f) i v)
theorem sa_s {σ : St} {f : Nat} {a : Int → Int} : sa σ f a f = a := if_pos rfl
theorem sa_n {σ : St} {f g : Nat} {a : Int → Int} (h : g ≠ f) : sa σ f a g = σ g := if_neg h
theorem st_s {σ : St} {f : Nat} {i v : Int} : st σ f i v f i = v := by unfold st; rw [sa_s]; exact up_s
theorem st_f {σ : St} {f : Nat} {i v : Int} : st σ f i v f = up (σ f) i v := sa_s
theorem st_n {σ : St} {f g : Nat} {i v : Int} (h : g ≠ f) : st σ f i v g = σ g := sa_n h
theorem st_i {σ : St} {f : Nat} {i j v : Int} (h : j ≠ i) : st σ f i v f j = σ f j := by rw [st_f]; exact up_n h
abbrev MG : Type := va_G × (Nat → ClassId) × (Nat → Nat)
abbrev mI : List Nat := [0, 1, 2, 3, 4, 5, 6, 7, 8, 11, 12, 13, 22, 23, 24, 25, 26, 27, 29]
def mobj (G : MG) (σ : St) : List Value := [.int (iI (σ 0 0)), .ref (G.2.2 1), .ref (G.2.2 2), .ref (G.2.2 3), .ref (G.2.2 4), .ref (G.2.2 5), .ref (G.2.2 6), .ref (G.2.2 7), .ref (G.2.2 8), .int (iI (σ 9 0)), .int (iI (σ 10 0)), .ref (G.2.2 11), .ref (G.2.2 12), .ref (G.2.2 13), .int (iI (σ 14 0)), .int (iI (σ 15 0)), .int (iI (σ 16 0)), .int (iI (σ 17 0)), .int (iI (σ 18 0)), .int (iI (σ 19 0)), .int (iI (σ 20 0)), .int (iI (σ 21 0)), .ref (G.2.2 22), .ref (G.2.2 23), .ref (G.2.2 24), .ref (G.2.2 25), .ref (G.2.2 26), .ref (G.2.2 27), .int (iI (σ 28 0)), .ref (G.2.2 29)]
def mcell (G : MG) (σ : St) (k : Nat) : va_E := match k with
  | 0 => oB 0 (mobj G σ)
  | 1 => aI (G.2.1 0) 7 (σ 1)
  | 2 => aI (G.2.1 0) 11370 (σ 2)
  | 3 => aI (G.2.1 0) 22740 (σ 3)
  | 4 => aI (G.2.1 2) 2 (σ 4)
  | 5 => aI (G.2.1 0) 9 (σ 5)
  | 6 => aI (G.2.1 1) 134 (σ 6)
  | 7 => aI (G.2.1 1) 400 (σ 7)
  | 8 => aI (G.2.1 0) 5 (σ 8)
  | 11 => aI (G.2.1 0) 401 (σ 11)
  | 12 => aI (G.2.1 0) 401 (σ 12)
  | 13 => aI (G.2.1 0) 401 (σ 13)
  | 22 => aI (G.2.1 0) 12 (σ 22)
  | 23 => aI (G.2.1 2) 12 (σ 23)
  | 24 => aL (G.2.1 3) 12 (σ 24)
  | 25 => aI (G.2.1 0) 144 (σ 25)
  | 26 => aI (G.2.1 0) 4096 (σ 26)
  | 27 => aI (G.2.1 0) 12 (σ 27)
  | 29 => aL (G.2.1 3) 11 (σ 29)
  | _ => aI (G.2.1 0) 0 (fun _ => 0)
def mJ (G : MG) : Prop := ∀ i ∈ mI, ∀ j ∈ mI, G.2.2 i = G.2.2 j → i = j
noncomputable def mh (G : MG) (σ : St) : Hp := fun a => @dite _ (∃ k, k ∈ mI ∧ G.2.2 k = a) (Classical.propDecidable _) (fun q => some (mcell G σ (Classical.choose q))) (fun _ => none)
theorem mh_at {G : MG} (σ : St) (hj : mJ G) {k : Nat} (hk : k ∈ mI) : mh G σ (G.2.2 k) = some (mcell G σ k) := by
  unfold mh
  have q : ∃ i, i ∈ mI ∧ G.2.2 i = G.2.2 k := ⟨k, hk, rfl⟩
  rw [dif_pos q]
  have e := hj _ (Classical.choose_spec q).1 _ hk (Classical.choose_spec q).2
  rw [e]
theorem mh_no {G : MG} (σ : St) {a : Nat} (h : ∀ k ∈ mI, G.2.2 k ≠ a) : mh G σ a = none := by
  unfold mh
  exact dif_neg (fun ⟨k, hk, e⟩ => h k hk e)
theorem mh_set {G : MG} {σ σ' : St} (hj : mJ G) {k : Nat} (hk : k ∈ mI) {e : va_E} (he : mcell G σ' k = e) (hc : ∀ j ∈ mI, j ≠ k → mcell G σ' j = mcell G σ j) : hs (mh G σ) (G.2.2 k) e = mh G σ' := by
  funext a
  by_cases q : ∃ i, i ∈ mI ∧ G.2.2 i = a
  · obtain ⟨i, hi, rfl⟩ := q
    rw [mh_at σ' hj hi]
    by_cases z : i = k
    · subst z
      rw [hs_s, he]
    · rw [hs_n (fun w => z (hj _ hi _ hk w)), mh_at σ hj hi, hc i hi z]
  · have h1 : ∀ i ∈ mI, G.2.2 i ≠ a := fun i hi w => q ⟨i, hi, w⟩
    rw [hs_n (fun w => h1 k hk w.symm), mh_no σ h1, mh_no σ' h1]
theorem MH_to {G : MG} {A : Nat → Prop} {σ τ : St} {H0 H : Heap} {locs : List Loc} (hH : HV G.1 clA A (mh G σ) H0 H locs) (e : σ = τ) : HV G.1 clA A (mh G τ) H0 H locs := e ▸ hH
def mP (G : MG) (av : List Value) (σ : St) (sz : Nat) : Array Value → State → Prop := gP G.1 clA (tyA G.2.1) (fun _ => mJ G) av (mh G σ) sz
def mA (G : MG) (σ : St) (sz : Nat) : Nat → Prop := DA (mh G σ) sz
def mQi (G : MG) (σ : St) (sz : Nat) (post : Int → St → Prop) : Array Value → State → Outcome → State → Prop := gQi G.1 clA (mA G σ sz) (fun z h => ∃ σ', h = mh G σ' ∧ post z σ')
def mQl (G : MG) (σ : St) (sz : Nat) (post : Int → St → Prop) : Array Value → State → Outcome → State → Prop := gQl G.1 clA (mA G σ sz) (fun z h => ∃ σ', h = mh G σ' ∧ post z σ')
def mQv (G : MG) (σ : St) (sz : Nat) (post : St → Prop) : Array Value → State → Outcome → State → Prop := gQv G.1 clA (mA G σ sz) (fun h => ∃ σ', h = mh G σ' ∧ post σ')
/-- the heap holds the model's world in the state σ -/
abbrev MH (G : MG) (A : Nat → Prop) (σ : St) (H0 H : Heap) (locs : List Loc) : Prop := HV G.1 clA A (mh G σ) H0 H locs
abbrev MC (p : Program) (s : State) (m : MethodId) (args : Array Value) (meth : Method) (c : Code) (y : MethodName) (cc : ByteArray) (maxL : Nat) (ret : Option FieldType) (G : MG) (σ : St) (sz : Nat) : Prop := GC p s m args meth c y cc maxL ret G.1 clA (tyA G.2.1) (fun _ => mJ G) (mh G σ) sz
/-- a room of depth d, that makes nothing -/
abbrev rmD (d : Nat) : Room := { frames := d, cells := 0, slots := 0, locals := 64 * d }
theorem m_start {l : Launch} {y : MethodName} {cc : ByteArray} {maxL : Nat} {ret : Option FieldType} {rm : Room} {G : MG} {av : List Value} {σ : St} {sz mc ms : Nat} {Qc : Array Value → State → Outcome → State → Prop} {free : Addr → Prop} (hy : plainName y.cls = true) (hl : (lg_sl av).length ≤ maxL)
    (body : ∀ (p : Program) (e : Env) (s : State) (m : MethodId) (below : List Frame) (meth : Method) (c : Code), MC p s m av.toArray meth c y cc maxL ret G σ sz → ∀ ls : Array Slot, lv_has ls maxL (lv_args 0 av) → W p l e rm s m av.toArray below meth c s.heap [] 0 0 (MQ below Qc av.toArray s mc ms free) (F0 m 0 ls [])) : Met l y (ws_ y cc maxL ret) rm (mP G av σ sz) Qc mc ms free := g_start hy hl body
section MR
variable {p : Program} {l : Launch} {e : Env} {R : Room} {s : State} {m : MethodId} {args : Array Value} {below : List Frame} {meth : Method} {c : Code} {H : Heap} {locs : List Loc} {cells slots : Nat} {Q : State → Prop}
variable {cc : ByteArray} {pc : Nat} {ls : Array Slot} {rest st0 : List Value} {G : MG} {A : Nat → Prop} {σ : St} {H0 : Heap}
theorem m_iret {post : Int → St → Prop} {z : Int} {σ0 : St} {sz : Nat} (hx : p.tables.exec = Jvm.exec) (hb : c.code = cc) (hr : meth.sig.returnType = some .int) (hlk : meth.locks = false) (hH : MH G (mA G σ0 sz) σ s.heap H locs) (d : decode cc pc = .ok (.ireturn, 1)) (hp : post z σ) : W p l e R s m args below meth c H locs cells slots (MQ below (mQi G σ0 sz post) args s cells slots (mA G σ0 sz)) (F0 m pc ls [.int (iI z)]) := g_iret hx hb hr hlk hH d ⟨σ, rfl, hp⟩
theorem m_zret {post : Int → St → Prop} {z : Int} {σ0 : St} {sz : Nat} (hx : p.tables.exec = Jvm.exec) (hb : c.code = cc) (hr : meth.sig.returnType = some .boolean) (hlk : meth.locks = false) (hH : MH G (mA G σ0 sz) σ s.heap H locs) (d : decode cc pc = .ok (.ireturn, 1)) (hz : z = 0 ∨ z = 1) (hp : post z σ) : W p l e R s m args below meth c H locs cells slots (MQ below (mQi G σ0 sz post) args s cells slots (mA G σ0 sz)) (F0 m pc ls [.int (iI z)]) := g_zret hx hb hr hlk hH d hz ⟨σ, rfl, hp⟩
theorem m_lret {post : Int → St → Prop} {z : Int} {σ0 : St} {sz : Nat} (hx : p.tables.exec = Jvm.exec) (hb : c.code = cc) (hr : meth.sig.returnType = some .long) (hlk : meth.locks = false) (hH : MH G (mA G σ0 sz) σ s.heap H locs) (d : decode cc pc = .ok (.lreturn, 1)) (hp : post z σ) : W p l e R s m args below meth c H locs cells slots (MQ below (mQl G σ0 sz post) args s cells slots (mA G σ0 sz)) (F0 m pc ls [.long (lI z)]) := g_lret hx hb hr hlk hH d ⟨σ, rfl, hp⟩
theorem m_vret {post : St → Prop} {σ0 : St} {sz : Nat} (hx : p.tables.exec = Jvm.exec) (hb : c.code = cc) (hr : meth.sig.returnType = none) (hlk : meth.locks = false) (hH : MH G (mA G σ0 sz) σ s.heap H locs) (d : decode cc pc = .ok (.return_, 1)) (hp : post σ) : W p l e R s m args below meth c H locs cells slots (MQ below (mQv G σ0 sz post) args s cells slots (mA G σ0 sz)) (F0 m pc ls []) := g_vret hx hb hr hlk hH d ⟨σ, rfl, hp⟩
theorem m_get (f : Nat) (hf : f < 30) (hx : p.tables.exec = Jvm.exec) (hb : c.code = cc) {own ref : String} {index : Nat} (hts : ∀ w ∈ lw_all, w.before args s = true) (hown : s.vm.findClass own = some m.cls) (hK : va_K G.1 clA (tyA G.2.1) s) (hj : mJ G) (hH : MH G A σ H0 H locs) (hq : (Cond.fieldLink own index ref (TX4 f).2.1 (TX4 f).2.2.1) ∈ lw_all) (hsame : ∀ x, s.fieldFound? (TX4 f).1 (TX4 f).2.1 (TX4 f).2.2.1 = some x → s.fieldFound? ref (TX4 f).2.1 (TX4 f).2.2.1 = some x) {v : Value} (hv : (mobj G σ)[f]? = some v) (d : decode cc pc = .ok (.getfield index, 3))
    (kk : W p l e R s m args below meth c H locs cells slots Q (F0 m (pc + 3) ls (v :: rest))) : W p l e R s m args below meth c H locs cells slots Q (F0 m pc ls (.ref (G.2.2 0) :: rest)) :=
  g_get (ci := 0) hx hb hts in_X4 hown hK hH (mh_at σ hj (k := 0) (by decide)) rfl f hf (hts _ hq) hsame hv d kk
theorem mp_0 (hx : p.tables.exec = Jvm.exec) (hb : c.code = cc) {own ref : String} {index : Nat} (hts : ∀ w ∈ lw_all, w.before args s = true) (hown : s.vm.findClass own = some m.cls) (hK : va_K G.1 clA (tyA G.2.1) s) (hj : mJ G) (hH : MH G A σ H0 H locs) (hq : (Cond.fieldLink own index ref (TX4 0).2.1 (TX4 0).2.2.1) ∈ lw_all) (hsame : ∀ x, s.fieldFound? (TX4 0).1 (TX4 0).2.1 (TX4 0).2.2.1 = some x → s.fieldFound? ref (TX4 0).2.1 (TX4 0).2.2.1 = some x) {x : Int} (d : decode cc pc = .ok (.putfield index, 3))
    (kk : ∀ (H1 : Heap) (locs1 : List Loc), MH G A (st σ 0 0 x) H0 H1 locs1 → W p l e R s m args below meth c H1 locs1 cells slots Q (F0 m (pc + 3) ls rest)) : W p l e R s m args below meth c H locs cells slots Q (F0 m pc ls (.int (iI x) :: .ref (G.2.2 0) :: rest)) := by
  refine g_put (ci := 0) (ty := .int) (fs := mobj G σ) hx hb hts in_X4 tyX4 tyX4_ok nmX4 hown hK hH (mh_at σ hj (k := 0) (by decide)) rfl 0 (by decide) (hts _ hq) hsame rfl (by decide +kernel) rfl rfl (Nat.le_of_ble_eq_true rfl) d (fun H1 locs1 hH1 => kk H1 locs1 ?_)
  have e0 : mcell G (st σ 0 0 x) 0 = oB 0 ((mobj G σ).set 0 (.int (iI x))) := rfl
  rw [mh_set hj (k := 0) (by decide) e0 (fun j hj hn => by
    simp only [mI, List.mem_cons, List.not_mem_nil, or_false] at hj
    rcases hj with q | q | q | q | q | q | q | q | q | q | q | q | q | q | q | q | q | q | q <;> subst q <;> first | exact absurd rfl hn | rfl)] at hH1
  exact hH1
theorem mp_9 (hx : p.tables.exec = Jvm.exec) (hb : c.code = cc) {own ref : String} {index : Nat} (hts : ∀ w ∈ lw_all, w.before args s = true) (hown : s.vm.findClass own = some m.cls) (hK : va_K G.1 clA (tyA G.2.1) s) (hj : mJ G) (hH : MH G A σ H0 H locs) (hq : (Cond.fieldLink own index ref (TX4 9).2.1 (TX4 9).2.2.1) ∈ lw_all) (hsame : ∀ x, s.fieldFound? (TX4 9).1 (TX4 9).2.1 (TX4 9).2.2.1 = some x → s.fieldFound? ref (TX4 9).2.1 (TX4 9).2.2.1 = some x) {x : Int} (d : decode cc pc = .ok (.putfield index, 3))
    (kk : ∀ (H1 : Heap) (locs1 : List Loc), MH G A (st σ 9 0 x) H0 H1 locs1 → W p l e R s m args below meth c H1 locs1 cells slots Q (F0 m (pc + 3) ls rest)) : W p l e R s m args below meth c H locs cells slots Q (F0 m pc ls (.int (iI x) :: .ref (G.2.2 0) :: rest)) := by
  refine g_put (ci := 0) (ty := .int) (fs := mobj G σ) hx hb hts in_X4 tyX4 tyX4_ok nmX4 hown hK hH (mh_at σ hj (k := 0) (by decide)) rfl 9 (by decide) (hts _ hq) hsame rfl (by decide +kernel) rfl rfl (Nat.le_of_ble_eq_true rfl) d (fun H1 locs1 hH1 => kk H1 locs1 ?_)
  have e0 : mcell G (st σ 9 0 x) 0 = oB 0 ((mobj G σ).set 9 (.int (iI x))) := rfl
  rw [mh_set hj (k := 0) (by decide) e0 (fun j hj hn => by
    simp only [mI, List.mem_cons, List.not_mem_nil, or_false] at hj
    rcases hj with q | q | q | q | q | q | q | q | q | q | q | q | q | q | q | q | q | q | q <;> subst q <;> first | exact absurd rfl hn | rfl)] at hH1
  exact hH1
theorem mp_10 (hx : p.tables.exec = Jvm.exec) (hb : c.code = cc) {own ref : String} {index : Nat} (hts : ∀ w ∈ lw_all, w.before args s = true) (hown : s.vm.findClass own = some m.cls) (hK : va_K G.1 clA (tyA G.2.1) s) (hj : mJ G) (hH : MH G A σ H0 H locs) (hq : (Cond.fieldLink own index ref (TX4 10).2.1 (TX4 10).2.2.1) ∈ lw_all) (hsame : ∀ x, s.fieldFound? (TX4 10).1 (TX4 10).2.1 (TX4 10).2.2.1 = some x → s.fieldFound? ref (TX4 10).2.1 (TX4 10).2.2.1 = some x) {x : Int} (d : decode cc pc = .ok (.putfield index, 3))
    (kk : ∀ (H1 : Heap) (locs1 : List Loc), MH G A (st σ 10 0 x) H0 H1 locs1 → W p l e R s m args below meth c H1 locs1 cells slots Q (F0 m (pc + 3) ls rest)) : W p l e R s m args below meth c H locs cells slots Q (F0 m pc ls (.int (iI x) :: .ref (G.2.2 0) :: rest)) := by
  refine g_put (ci := 0) (ty := .int) (fs := mobj G σ) hx hb hts in_X4 tyX4 tyX4_ok nmX4 hown hK hH (mh_at σ hj (k := 0) (by decide)) rfl 10 (by decide) (hts _ hq) hsame rfl (by decide +kernel) rfl rfl (Nat.le_of_ble_eq_true rfl) d (fun H1 locs1 hH1 => kk H1 locs1 ?_)
  have e0 : mcell G (st σ 10 0 x) 0 = oB 0 ((mobj G σ).set 10 (.int (iI x))) := rfl
  rw [mh_set hj (k := 0) (by decide) e0 (fun j hj hn => by
    simp only [mI, List.mem_cons, List.not_mem_nil, or_false] at hj
    rcases hj with q | q | q | q | q | q | q | q | q | q | q | q | q | q | q | q | q | q | q <;> subst q <;> first | exact absurd rfl hn | rfl)] at hH1
  exact hH1
theorem mp_14 (hx : p.tables.exec = Jvm.exec) (hb : c.code = cc) {own ref : String} {index : Nat} (hts : ∀ w ∈ lw_all, w.before args s = true) (hown : s.vm.findClass own = some m.cls) (hK : va_K G.1 clA (tyA G.2.1) s) (hj : mJ G) (hH : MH G A σ H0 H locs) (hq : (Cond.fieldLink own index ref (TX4 14).2.1 (TX4 14).2.2.1) ∈ lw_all) (hsame : ∀ x, s.fieldFound? (TX4 14).1 (TX4 14).2.1 (TX4 14).2.2.1 = some x → s.fieldFound? ref (TX4 14).2.1 (TX4 14).2.2.1 = some x) {x : Int} (d : decode cc pc = .ok (.putfield index, 3))
    (kk : ∀ (H1 : Heap) (locs1 : List Loc), MH G A (st σ 14 0 x) H0 H1 locs1 → W p l e R s m args below meth c H1 locs1 cells slots Q (F0 m (pc + 3) ls rest)) : W p l e R s m args below meth c H locs cells slots Q (F0 m pc ls (.int (iI x) :: .ref (G.2.2 0) :: rest)) := by
  refine g_put (ci := 0) (ty := .int) (fs := mobj G σ) hx hb hts in_X4 tyX4 tyX4_ok nmX4 hown hK hH (mh_at σ hj (k := 0) (by decide)) rfl 14 (by decide) (hts _ hq) hsame rfl (by decide +kernel) rfl rfl (Nat.le_of_ble_eq_true rfl) d (fun H1 locs1 hH1 => kk H1 locs1 ?_)
  have e0 : mcell G (st σ 14 0 x) 0 = oB 0 ((mobj G σ).set 14 (.int (iI x))) := rfl
  rw [mh_set hj (k := 0) (by decide) e0 (fun j hj hn => by
    simp only [mI, List.mem_cons, List.not_mem_nil, or_false] at hj
    rcases hj with q | q | q | q | q | q | q | q | q | q | q | q | q | q | q | q | q | q | q <;> subst q <;> first | exact absurd rfl hn | rfl)] at hH1
  exact hH1
theorem mp_15 (hx : p.tables.exec = Jvm.exec) (hb : c.code = cc) {own ref : String} {index : Nat} (hts : ∀ w ∈ lw_all, w.before args s = true) (hown : s.vm.findClass own = some m.cls) (hK : va_K G.1 clA (tyA G.2.1) s) (hj : mJ G) (hH : MH G A σ H0 H locs) (hq : (Cond.fieldLink own index ref (TX4 15).2.1 (TX4 15).2.2.1) ∈ lw_all) (hsame : ∀ x, s.fieldFound? (TX4 15).1 (TX4 15).2.1 (TX4 15).2.2.1 = some x → s.fieldFound? ref (TX4 15).2.1 (TX4 15).2.2.1 = some x) {x : Int} (d : decode cc pc = .ok (.putfield index, 3))
    (kk : ∀ (H1 : Heap) (locs1 : List Loc), MH G A (st σ 15 0 x) H0 H1 locs1 → W p l e R s m args below meth c H1 locs1 cells slots Q (F0 m (pc + 3) ls rest)) : W p l e R s m args below meth c H locs cells slots Q (F0 m pc ls (.int (iI x) :: .ref (G.2.2 0) :: rest)) := by
  refine g_put (ci := 0) (ty := .int) (fs := mobj G σ) hx hb hts in_X4 tyX4 tyX4_ok nmX4 hown hK hH (mh_at σ hj (k := 0) (by decide)) rfl 15 (by decide) (hts _ hq) hsame rfl (by decide +kernel) rfl rfl (Nat.le_of_ble_eq_true rfl) d (fun H1 locs1 hH1 => kk H1 locs1 ?_)
  have e0 : mcell G (st σ 15 0 x) 0 = oB 0 ((mobj G σ).set 15 (.int (iI x))) := rfl
  rw [mh_set hj (k := 0) (by decide) e0 (fun j hj hn => by
    simp only [mI, List.mem_cons, List.not_mem_nil, or_false] at hj
    rcases hj with q | q | q | q | q | q | q | q | q | q | q | q | q | q | q | q | q | q | q <;> subst q <;> first | exact absurd rfl hn | rfl)] at hH1
  exact hH1
theorem mp_16 (hx : p.tables.exec = Jvm.exec) (hb : c.code = cc) {own ref : String} {index : Nat} (hts : ∀ w ∈ lw_all, w.before args s = true) (hown : s.vm.findClass own = some m.cls) (hK : va_K G.1 clA (tyA G.2.1) s) (hj : mJ G) (hH : MH G A σ H0 H locs) (hq : (Cond.fieldLink own index ref (TX4 16).2.1 (TX4 16).2.2.1) ∈ lw_all) (hsame : ∀ x, s.fieldFound? (TX4 16).1 (TX4 16).2.1 (TX4 16).2.2.1 = some x → s.fieldFound? ref (TX4 16).2.1 (TX4 16).2.2.1 = some x) {x : Int} (d : decode cc pc = .ok (.putfield index, 3))
    (kk : ∀ (H1 : Heap) (locs1 : List Loc), MH G A (st σ 16 0 x) H0 H1 locs1 → W p l e R s m args below meth c H1 locs1 cells slots Q (F0 m (pc + 3) ls rest)) : W p l e R s m args below meth c H locs cells slots Q (F0 m pc ls (.int (iI x) :: .ref (G.2.2 0) :: rest)) := by
  refine g_put (ci := 0) (ty := .int) (fs := mobj G σ) hx hb hts in_X4 tyX4 tyX4_ok nmX4 hown hK hH (mh_at σ hj (k := 0) (by decide)) rfl 16 (by decide) (hts _ hq) hsame rfl (by decide +kernel) rfl rfl (Nat.le_of_ble_eq_true rfl) d (fun H1 locs1 hH1 => kk H1 locs1 ?_)
  have e0 : mcell G (st σ 16 0 x) 0 = oB 0 ((mobj G σ).set 16 (.int (iI x))) := rfl
  rw [mh_set hj (k := 0) (by decide) e0 (fun j hj hn => by
    simp only [mI, List.mem_cons, List.not_mem_nil, or_false] at hj
    rcases hj with q | q | q | q | q | q | q | q | q | q | q | q | q | q | q | q | q | q | q <;> subst q <;> first | exact absurd rfl hn | rfl)] at hH1
  exact hH1
theorem mp_17 (hx : p.tables.exec = Jvm.exec) (hb : c.code = cc) {own ref : String} {index : Nat} (hts : ∀ w ∈ lw_all, w.before args s = true) (hown : s.vm.findClass own = some m.cls) (hK : va_K G.1 clA (tyA G.2.1) s) (hj : mJ G) (hH : MH G A σ H0 H locs) (hq : (Cond.fieldLink own index ref (TX4 17).2.1 (TX4 17).2.2.1) ∈ lw_all) (hsame : ∀ x, s.fieldFound? (TX4 17).1 (TX4 17).2.1 (TX4 17).2.2.1 = some x → s.fieldFound? ref (TX4 17).2.1 (TX4 17).2.2.1 = some x) {x : Int} (d : decode cc pc = .ok (.putfield index, 3))
    (kk : ∀ (H1 : Heap) (locs1 : List Loc), MH G A (st σ 17 0 x) H0 H1 locs1 → W p l e R s m args below meth c H1 locs1 cells slots Q (F0 m (pc + 3) ls rest)) : W p l e R s m args below meth c H locs cells slots Q (F0 m pc ls (.int (iI x) :: .ref (G.2.2 0) :: rest)) := by
  refine g_put (ci := 0) (ty := .int) (fs := mobj G σ) hx hb hts in_X4 tyX4 tyX4_ok nmX4 hown hK hH (mh_at σ hj (k := 0) (by decide)) rfl 17 (by decide) (hts _ hq) hsame rfl (by decide +kernel) rfl rfl (Nat.le_of_ble_eq_true rfl) d (fun H1 locs1 hH1 => kk H1 locs1 ?_)
  have e0 : mcell G (st σ 17 0 x) 0 = oB 0 ((mobj G σ).set 17 (.int (iI x))) := rfl
  rw [mh_set hj (k := 0) (by decide) e0 (fun j hj hn => by
    simp only [mI, List.mem_cons, List.not_mem_nil, or_false] at hj
    rcases hj with q | q | q | q | q | q | q | q | q | q | q | q | q | q | q | q | q | q | q <;> subst q <;> first | exact absurd rfl hn | rfl)] at hH1
  exact hH1
theorem mp_18 (hx : p.tables.exec = Jvm.exec) (hb : c.code = cc) {own ref : String} {index : Nat} (hts : ∀ w ∈ lw_all, w.before args s = true) (hown : s.vm.findClass own = some m.cls) (hK : va_K G.1 clA (tyA G.2.1) s) (hj : mJ G) (hH : MH G A σ H0 H locs) (hq : (Cond.fieldLink own index ref (TX4 18).2.1 (TX4 18).2.2.1) ∈ lw_all) (hsame : ∀ x, s.fieldFound? (TX4 18).1 (TX4 18).2.1 (TX4 18).2.2.1 = some x → s.fieldFound? ref (TX4 18).2.1 (TX4 18).2.2.1 = some x) {x : Int} (d : decode cc pc = .ok (.putfield index, 3))
    (kk : ∀ (H1 : Heap) (locs1 : List Loc), MH G A (st σ 18 0 x) H0 H1 locs1 → W p l e R s m args below meth c H1 locs1 cells slots Q (F0 m (pc + 3) ls rest)) : W p l e R s m args below meth c H locs cells slots Q (F0 m pc ls (.int (iI x) :: .ref (G.2.2 0) :: rest)) := by
  refine g_put (ci := 0) (ty := .int) (fs := mobj G σ) hx hb hts in_X4 tyX4 tyX4_ok nmX4 hown hK hH (mh_at σ hj (k := 0) (by decide)) rfl 18 (by decide) (hts _ hq) hsame rfl (by decide +kernel) rfl rfl (Nat.le_of_ble_eq_true rfl) d (fun H1 locs1 hH1 => kk H1 locs1 ?_)
  have e0 : mcell G (st σ 18 0 x) 0 = oB 0 ((mobj G σ).set 18 (.int (iI x))) := rfl
  rw [mh_set hj (k := 0) (by decide) e0 (fun j hj hn => by
    simp only [mI, List.mem_cons, List.not_mem_nil, or_false] at hj
    rcases hj with q | q | q | q | q | q | q | q | q | q | q | q | q | q | q | q | q | q | q <;> subst q <;> first | exact absurd rfl hn | rfl)] at hH1
  exact hH1
theorem mp_19 (hx : p.tables.exec = Jvm.exec) (hb : c.code = cc) {own ref : String} {index : Nat} (hts : ∀ w ∈ lw_all, w.before args s = true) (hown : s.vm.findClass own = some m.cls) (hK : va_K G.1 clA (tyA G.2.1) s) (hj : mJ G) (hH : MH G A σ H0 H locs) (hq : (Cond.fieldLink own index ref (TX4 19).2.1 (TX4 19).2.2.1) ∈ lw_all) (hsame : ∀ x, s.fieldFound? (TX4 19).1 (TX4 19).2.1 (TX4 19).2.2.1 = some x → s.fieldFound? ref (TX4 19).2.1 (TX4 19).2.2.1 = some x) {x : Int} (d : decode cc pc = .ok (.putfield index, 3))
    (kk : ∀ (H1 : Heap) (locs1 : List Loc), MH G A (st σ 19 0 x) H0 H1 locs1 → W p l e R s m args below meth c H1 locs1 cells slots Q (F0 m (pc + 3) ls rest)) : W p l e R s m args below meth c H locs cells slots Q (F0 m pc ls (.int (iI x) :: .ref (G.2.2 0) :: rest)) := by
  refine g_put (ci := 0) (ty := .int) (fs := mobj G σ) hx hb hts in_X4 tyX4 tyX4_ok nmX4 hown hK hH (mh_at σ hj (k := 0) (by decide)) rfl 19 (by decide) (hts _ hq) hsame rfl (by decide +kernel) rfl rfl (Nat.le_of_ble_eq_true rfl) d (fun H1 locs1 hH1 => kk H1 locs1 ?_)
  have e0 : mcell G (st σ 19 0 x) 0 = oB 0 ((mobj G σ).set 19 (.int (iI x))) := rfl
  rw [mh_set hj (k := 0) (by decide) e0 (fun j hj hn => by
    simp only [mI, List.mem_cons, List.not_mem_nil, or_false] at hj
    rcases hj with q | q | q | q | q | q | q | q | q | q | q | q | q | q | q | q | q | q | q <;> subst q <;> first | exact absurd rfl hn | rfl)] at hH1
  exact hH1
theorem mp_20 (hx : p.tables.exec = Jvm.exec) (hb : c.code = cc) {own ref : String} {index : Nat} (hts : ∀ w ∈ lw_all, w.before args s = true) (hown : s.vm.findClass own = some m.cls) (hK : va_K G.1 clA (tyA G.2.1) s) (hj : mJ G) (hH : MH G A σ H0 H locs) (hq : (Cond.fieldLink own index ref (TX4 20).2.1 (TX4 20).2.2.1) ∈ lw_all) (hsame : ∀ x, s.fieldFound? (TX4 20).1 (TX4 20).2.1 (TX4 20).2.2.1 = some x → s.fieldFound? ref (TX4 20).2.1 (TX4 20).2.2.1 = some x) {x : Int} (hz : x = 0 ∨ x = 1) (d : decode cc pc = .ok (.putfield index, 3))
    (kk : ∀ (H1 : Heap) (locs1 : List Loc), MH G A (st σ 20 0 x) H0 H1 locs1 → W p l e R s m args below meth c H1 locs1 cells slots Q (F0 m (pc + 3) ls rest)) : W p l e R s m args below meth c H locs cells slots Q (F0 m pc ls (.int (iI x) :: .ref (G.2.2 0) :: rest)) := by
  refine g_put (ci := 0) (ty := .boolean) (fs := mobj G σ) hx hb hts in_X4 tyX4 tyX4_ok nmX4 hown hK hH (mh_at σ hj (k := 0) (by decide)) rfl 20 (by decide) (hts _ hq) hsame rfl (by decide +kernel) (by rcases hz with q | q <;> subst q <;> rfl) (by rcases hz with q | q <;> subst q <;> rfl) (Nat.le_of_ble_eq_true rfl) d (fun H1 locs1 hH1 => kk H1 locs1 ?_)
  have e0 : mcell G (st σ 20 0 x) 0 = oB 0 ((mobj G σ).set 20 (.int (iI x))) := rfl
  rw [mh_set hj (k := 0) (by decide) e0 (fun j hj hn => by
    simp only [mI, List.mem_cons, List.not_mem_nil, or_false] at hj
    rcases hj with q | q | q | q | q | q | q | q | q | q | q | q | q | q | q | q | q | q | q <;> subst q <;> first | exact absurd rfl hn | rfl)] at hH1
  exact hH1
theorem mp_21 (hx : p.tables.exec = Jvm.exec) (hb : c.code = cc) {own ref : String} {index : Nat} (hts : ∀ w ∈ lw_all, w.before args s = true) (hown : s.vm.findClass own = some m.cls) (hK : va_K G.1 clA (tyA G.2.1) s) (hj : mJ G) (hH : MH G A σ H0 H locs) (hq : (Cond.fieldLink own index ref (TX4 21).2.1 (TX4 21).2.2.1) ∈ lw_all) (hsame : ∀ x, s.fieldFound? (TX4 21).1 (TX4 21).2.1 (TX4 21).2.2.1 = some x → s.fieldFound? ref (TX4 21).2.1 (TX4 21).2.2.1 = some x) {x : Int} (d : decode cc pc = .ok (.putfield index, 3))
    (kk : ∀ (H1 : Heap) (locs1 : List Loc), MH G A (st σ 21 0 x) H0 H1 locs1 → W p l e R s m args below meth c H1 locs1 cells slots Q (F0 m (pc + 3) ls rest)) : W p l e R s m args below meth c H locs cells slots Q (F0 m pc ls (.int (iI x) :: .ref (G.2.2 0) :: rest)) := by
  refine g_put (ci := 0) (ty := .int) (fs := mobj G σ) hx hb hts in_X4 tyX4 tyX4_ok nmX4 hown hK hH (mh_at σ hj (k := 0) (by decide)) rfl 21 (by decide) (hts _ hq) hsame rfl (by decide +kernel) rfl rfl (Nat.le_of_ble_eq_true rfl) d (fun H1 locs1 hH1 => kk H1 locs1 ?_)
  have e0 : mcell G (st σ 21 0 x) 0 = oB 0 ((mobj G σ).set 21 (.int (iI x))) := rfl
  rw [mh_set hj (k := 0) (by decide) e0 (fun j hj hn => by
    simp only [mI, List.mem_cons, List.not_mem_nil, or_false] at hj
    rcases hj with q | q | q | q | q | q | q | q | q | q | q | q | q | q | q | q | q | q | q <;> subst q <;> first | exact absurd rfl hn | rfl)] at hH1
  exact hH1
theorem mp_28 (hx : p.tables.exec = Jvm.exec) (hb : c.code = cc) {own ref : String} {index : Nat} (hts : ∀ w ∈ lw_all, w.before args s = true) (hown : s.vm.findClass own = some m.cls) (hK : va_K G.1 clA (tyA G.2.1) s) (hj : mJ G) (hH : MH G A σ H0 H locs) (hq : (Cond.fieldLink own index ref (TX4 28).2.1 (TX4 28).2.2.1) ∈ lw_all) (hsame : ∀ x, s.fieldFound? (TX4 28).1 (TX4 28).2.1 (TX4 28).2.2.1 = some x → s.fieldFound? ref (TX4 28).2.1 (TX4 28).2.2.1 = some x) {x : Int} (d : decode cc pc = .ok (.putfield index, 3))
    (kk : ∀ (H1 : Heap) (locs1 : List Loc), MH G A (st σ 28 0 x) H0 H1 locs1 → W p l e R s m args below meth c H1 locs1 cells slots Q (F0 m (pc + 3) ls rest)) : W p l e R s m args below meth c H locs cells slots Q (F0 m pc ls (.int (iI x) :: .ref (G.2.2 0) :: rest)) := by
  refine g_put (ci := 0) (ty := .int) (fs := mobj G σ) hx hb hts in_X4 tyX4 tyX4_ok nmX4 hown hK hH (mh_at σ hj (k := 0) (by decide)) rfl 28 (by decide) (hts _ hq) hsame rfl (by decide +kernel) rfl rfl (Nat.le_of_ble_eq_true rfl) d (fun H1 locs1 hH1 => kk H1 locs1 ?_)
  have e0 : mcell G (st σ 28 0 x) 0 = oB 0 ((mobj G σ).set 28 (.int (iI x))) := rfl
  rw [mh_set hj (k := 0) (by decide) e0 (fun j hj hn => by
    simp only [mI, List.mem_cons, List.not_mem_nil, or_false] at hj
    rcases hj with q | q | q | q | q | q | q | q | q | q | q | q | q | q | q | q | q | q | q <;> subst q <;> first | exact absurd rfl hn | rfl)] at hH1
  exact hH1
theorem ml_1 (hx : p.tables.exec = Jvm.exec) (hb : c.code = cc) (hK : va_K G.1 clA (tyA G.2.1) s) (hj : mJ G) (hH : MH G A σ H0 H locs) {i : Int} (h0 : 0 ≤ i) (hi : i < 7) (d : decode cc pc = .ok (.iaload, 1))
    (kk : W p l e R s m args below meth c H locs cells slots Q (F0 m (pc + 1) ls (.int (iI (σ 1 i)) :: rest))) : W p l e R s m args below meth c H locs cells slots Q (F0 m pc ls (.int (iI i) :: .ref (G.2.2 1) :: rest)) :=
  g_iald hx hb hK hH 0 (mh_at σ hj (k := 1) (by decide)) rfl h0 (show i < ((7 : Nat) : Int) from hi) (by decide) d kk
theorem ms_1 (hx : p.tables.exec = Jvm.exec) (hb : c.code = cc) (hK : va_K G.1 clA (tyA G.2.1) s) (hj : mJ G) (hH : MH G A σ H0 H locs) {i x : Int} (h0 : 0 ≤ i) (hi : i < 7) (d : decode cc pc = .ok (.iastore, 1))
    (kk : ∀ (H1 : Heap) (locs1 : List Loc), MH G A (st σ 1 i x) H0 H1 locs1 → W p l e R s m args below meth c H1 locs1 cells slots Q (F0 m (pc + 1) ls rest)) : W p l e R s m args below meth c H locs cells slots Q (F0 m pc ls (.int (iI x) :: .int (iI i) :: .ref (G.2.2 1) :: rest)) := by
  refine g_iast hx hb hK hH 0 (mh_at σ hj (k := 1) (by decide)) rfl h0 (show i < ((7 : Nat) : Int) from hi) (by decide) d (fun H1 locs1 hH1 => kk H1 locs1 ?_)
  have e0 : mcell G (st σ 1 i x) 1 = aI (G.2.1 0) 7 (up (σ 1) i x) := rfl
  rw [mh_set hj (k := 1) (by decide) e0 (fun j hj hn => by
    simp only [mI, List.mem_cons, List.not_mem_nil, or_false] at hj
    rcases hj with q | q | q | q | q | q | q | q | q | q | q | q | q | q | q | q | q | q | q <;> subst q <;> first | exact absurd rfl hn | rfl)] at hH1
  exact hH1
theorem ml_2 (hx : p.tables.exec = Jvm.exec) (hb : c.code = cc) (hK : va_K G.1 clA (tyA G.2.1) s) (hj : mJ G) (hH : MH G A σ H0 H locs) {i : Int} (h0 : 0 ≤ i) (hi : i < 11370) (d : decode cc pc = .ok (.iaload, 1))
    (kk : W p l e R s m args below meth c H locs cells slots Q (F0 m (pc + 1) ls (.int (iI (σ 2 i)) :: rest))) : W p l e R s m args below meth c H locs cells slots Q (F0 m pc ls (.int (iI i) :: .ref (G.2.2 2) :: rest)) :=
  g_iald hx hb hK hH 0 (mh_at σ hj (k := 2) (by decide)) rfl h0 (show i < ((11370 : Nat) : Int) from hi) (by decide) d kk
theorem ms_2 (hx : p.tables.exec = Jvm.exec) (hb : c.code = cc) (hK : va_K G.1 clA (tyA G.2.1) s) (hj : mJ G) (hH : MH G A σ H0 H locs) {i x : Int} (h0 : 0 ≤ i) (hi : i < 11370) (d : decode cc pc = .ok (.iastore, 1))
    (kk : ∀ (H1 : Heap) (locs1 : List Loc), MH G A (st σ 2 i x) H0 H1 locs1 → W p l e R s m args below meth c H1 locs1 cells slots Q (F0 m (pc + 1) ls rest)) : W p l e R s m args below meth c H locs cells slots Q (F0 m pc ls (.int (iI x) :: .int (iI i) :: .ref (G.2.2 2) :: rest)) := by
  refine g_iast hx hb hK hH 0 (mh_at σ hj (k := 2) (by decide)) rfl h0 (show i < ((11370 : Nat) : Int) from hi) (by decide) d (fun H1 locs1 hH1 => kk H1 locs1 ?_)
  have e0 : mcell G (st σ 2 i x) 2 = aI (G.2.1 0) 11370 (up (σ 2) i x) := rfl
  rw [mh_set hj (k := 2) (by decide) e0 (fun j hj hn => by
    simp only [mI, List.mem_cons, List.not_mem_nil, or_false] at hj
    rcases hj with q | q | q | q | q | q | q | q | q | q | q | q | q | q | q | q | q | q | q <;> subst q <;> first | exact absurd rfl hn | rfl)] at hH1
  exact hH1
theorem ml_3 (hx : p.tables.exec = Jvm.exec) (hb : c.code = cc) (hK : va_K G.1 clA (tyA G.2.1) s) (hj : mJ G) (hH : MH G A σ H0 H locs) {i : Int} (h0 : 0 ≤ i) (hi : i < 22740) (d : decode cc pc = .ok (.iaload, 1))
    (kk : W p l e R s m args below meth c H locs cells slots Q (F0 m (pc + 1) ls (.int (iI (σ 3 i)) :: rest))) : W p l e R s m args below meth c H locs cells slots Q (F0 m pc ls (.int (iI i) :: .ref (G.2.2 3) :: rest)) :=
  g_iald hx hb hK hH 0 (mh_at σ hj (k := 3) (by decide)) rfl h0 (show i < ((22740 : Nat) : Int) from hi) (by decide) d kk
theorem ms_3 (hx : p.tables.exec = Jvm.exec) (hb : c.code = cc) (hK : va_K G.1 clA (tyA G.2.1) s) (hj : mJ G) (hH : MH G A σ H0 H locs) {i x : Int} (h0 : 0 ≤ i) (hi : i < 22740) (d : decode cc pc = .ok (.iastore, 1))
    (kk : ∀ (H1 : Heap) (locs1 : List Loc), MH G A (st σ 3 i x) H0 H1 locs1 → W p l e R s m args below meth c H1 locs1 cells slots Q (F0 m (pc + 1) ls rest)) : W p l e R s m args below meth c H locs cells slots Q (F0 m pc ls (.int (iI x) :: .int (iI i) :: .ref (G.2.2 3) :: rest)) := by
  refine g_iast hx hb hK hH 0 (mh_at σ hj (k := 3) (by decide)) rfl h0 (show i < ((22740 : Nat) : Int) from hi) (by decide) d (fun H1 locs1 hH1 => kk H1 locs1 ?_)
  have e0 : mcell G (st σ 3 i x) 3 = aI (G.2.1 0) 22740 (up (σ 3) i x) := rfl
  rw [mh_set hj (k := 3) (by decide) e0 (fun j hj hn => by
    simp only [mI, List.mem_cons, List.not_mem_nil, or_false] at hj
    rcases hj with q | q | q | q | q | q | q | q | q | q | q | q | q | q | q | q | q | q | q <;> subst q <;> first | exact absurd rfl hn | rfl)] at hH1
  exact hH1
theorem ml_4 (hx : p.tables.exec = Jvm.exec) (hb : c.code = cc) (hK : va_K G.1 clA (tyA G.2.1) s) (hj : mJ G) (hH : MH G A σ H0 H locs) {i : Int} (h0 : 0 ≤ i) (hi : i < 2) (d : decode cc pc = .ok (.baload, 1))
    (kk : W p l e R s m args below meth c H locs cells slots Q (F0 m (pc + 1) ls (.int (iI (σ 4 i)) :: rest))) : W p l e R s m args below meth c H locs cells slots Q (F0 m pc ls (.int (iI i) :: .ref (G.2.2 4) :: rest)) :=
  g_zald hx hb hK hH 2 (mh_at σ hj (k := 4) (by decide)) rfl h0 (show i < ((2 : Nat) : Int) from hi) (by decide) d kk
theorem ms_4 (hx : p.tables.exec = Jvm.exec) (hb : c.code = cc) (hK : va_K G.1 clA (tyA G.2.1) s) (hj : mJ G) (hH : MH G A σ H0 H locs) {i x : Int} (hv : x = 0 ∨ x = 1) (h0 : 0 ≤ i) (hi : i < 2) (d : decode cc pc = .ok (.bastore, 1))
    (kk : ∀ (H1 : Heap) (locs1 : List Loc), MH G A (st σ 4 i x) H0 H1 locs1 → W p l e R s m args below meth c H1 locs1 cells slots Q (F0 m (pc + 1) ls rest)) : W p l e R s m args below meth c H locs cells slots Q (F0 m pc ls (.int (iI x) :: .int (iI i) :: .ref (G.2.2 4) :: rest)) := by
  refine g_zast hx hb hK hH 2 (mh_at σ hj (k := 4) (by decide)) rfl hv h0 (show i < ((2 : Nat) : Int) from hi) (by decide) d (fun H1 locs1 hH1 => kk H1 locs1 ?_)
  have e0 : mcell G (st σ 4 i x) 4 = aI (G.2.1 2) 2 (up (σ 4) i x) := rfl
  rw [mh_set hj (k := 4) (by decide) e0 (fun j hj hn => by
    simp only [mI, List.mem_cons, List.not_mem_nil, or_false] at hj
    rcases hj with q | q | q | q | q | q | q | q | q | q | q | q | q | q | q | q | q | q | q <;> subst q <;> first | exact absurd rfl hn | rfl)] at hH1
  exact hH1
theorem ml_5 (hx : p.tables.exec = Jvm.exec) (hb : c.code = cc) (hK : va_K G.1 clA (tyA G.2.1) s) (hj : mJ G) (hH : MH G A σ H0 H locs) {i : Int} (h0 : 0 ≤ i) (hi : i < 9) (d : decode cc pc = .ok (.iaload, 1))
    (kk : W p l e R s m args below meth c H locs cells slots Q (F0 m (pc + 1) ls (.int (iI (σ 5 i)) :: rest))) : W p l e R s m args below meth c H locs cells slots Q (F0 m pc ls (.int (iI i) :: .ref (G.2.2 5) :: rest)) :=
  g_iald hx hb hK hH 0 (mh_at σ hj (k := 5) (by decide)) rfl h0 (show i < ((9 : Nat) : Int) from hi) (by decide) d kk
theorem ms_5 (hx : p.tables.exec = Jvm.exec) (hb : c.code = cc) (hK : va_K G.1 clA (tyA G.2.1) s) (hj : mJ G) (hH : MH G A σ H0 H locs) {i x : Int} (h0 : 0 ≤ i) (hi : i < 9) (d : decode cc pc = .ok (.iastore, 1))
    (kk : ∀ (H1 : Heap) (locs1 : List Loc), MH G A (st σ 5 i x) H0 H1 locs1 → W p l e R s m args below meth c H1 locs1 cells slots Q (F0 m (pc + 1) ls rest)) : W p l e R s m args below meth c H locs cells slots Q (F0 m pc ls (.int (iI x) :: .int (iI i) :: .ref (G.2.2 5) :: rest)) := by
  refine g_iast hx hb hK hH 0 (mh_at σ hj (k := 5) (by decide)) rfl h0 (show i < ((9 : Nat) : Int) from hi) (by decide) d (fun H1 locs1 hH1 => kk H1 locs1 ?_)
  have e0 : mcell G (st σ 5 i x) 5 = aI (G.2.1 0) 9 (up (σ 5) i x) := rfl
  rw [mh_set hj (k := 5) (by decide) e0 (fun j hj hn => by
    simp only [mI, List.mem_cons, List.not_mem_nil, or_false] at hj
    rcases hj with q | q | q | q | q | q | q | q | q | q | q | q | q | q | q | q | q | q | q <;> subst q <;> first | exact absurd rfl hn | rfl)] at hH1
  exact hH1
theorem ml_6 (hx : p.tables.exec = Jvm.exec) (hb : c.code = cc) (hK : va_K G.1 clA (tyA G.2.1) s) (hj : mJ G) (hH : MH G A σ H0 H locs) {i : Int} (h0 : 0 ≤ i) (hi : i < 134) (d : decode cc pc = .ok (.baload, 1))
    (kk : W p l e R s m args below meth c H locs cells slots Q (F0 m (pc + 1) ls (.int (iI (σ 6 i)) :: rest))) : W p l e R s m args below meth c H locs cells slots Q (F0 m pc ls (.int (iI i) :: .ref (G.2.2 6) :: rest)) :=
  g_bald hx hb hK hH 1 (mh_at σ hj (k := 6) (by decide)) rfl h0 (show i < ((134 : Nat) : Int) from hi) (by decide) d kk
theorem ms_6 (hx : p.tables.exec = Jvm.exec) (hb : c.code = cc) (hK : va_K G.1 clA (tyA G.2.1) s) (hj : mJ G) (hH : MH G A σ H0 H locs) {i x : Int} (hv : -128 ≤ x ∧ x < 128) (h0 : 0 ≤ i) (hi : i < 134) (d : decode cc pc = .ok (.bastore, 1))
    (kk : ∀ (H1 : Heap) (locs1 : List Loc), MH G A (st σ 6 i x) H0 H1 locs1 → W p l e R s m args below meth c H1 locs1 cells slots Q (F0 m (pc + 1) ls rest)) : W p l e R s m args below meth c H locs cells slots Q (F0 m pc ls (.int (iI x) :: .int (iI i) :: .ref (G.2.2 6) :: rest)) := by
  refine g_bast hx hb hK hH 1 (mh_at σ hj (k := 6) (by decide)) rfl hv h0 (show i < ((134 : Nat) : Int) from hi) (by decide) d (fun H1 locs1 hH1 => kk H1 locs1 ?_)
  have e0 : mcell G (st σ 6 i x) 6 = aI (G.2.1 1) 134 (up (σ 6) i x) := rfl
  rw [mh_set hj (k := 6) (by decide) e0 (fun j hj hn => by
    simp only [mI, List.mem_cons, List.not_mem_nil, or_false] at hj
    rcases hj with q | q | q | q | q | q | q | q | q | q | q | q | q | q | q | q | q | q | q <;> subst q <;> first | exact absurd rfl hn | rfl)] at hH1
  exact hH1
theorem ml_7 (hx : p.tables.exec = Jvm.exec) (hb : c.code = cc) (hK : va_K G.1 clA (tyA G.2.1) s) (hj : mJ G) (hH : MH G A σ H0 H locs) {i : Int} (h0 : 0 ≤ i) (hi : i < 400) (d : decode cc pc = .ok (.baload, 1))
    (kk : W p l e R s m args below meth c H locs cells slots Q (F0 m (pc + 1) ls (.int (iI (σ 7 i)) :: rest))) : W p l e R s m args below meth c H locs cells slots Q (F0 m pc ls (.int (iI i) :: .ref (G.2.2 7) :: rest)) :=
  g_bald hx hb hK hH 1 (mh_at σ hj (k := 7) (by decide)) rfl h0 (show i < ((400 : Nat) : Int) from hi) (by decide) d kk
theorem ms_7 (hx : p.tables.exec = Jvm.exec) (hb : c.code = cc) (hK : va_K G.1 clA (tyA G.2.1) s) (hj : mJ G) (hH : MH G A σ H0 H locs) {i x : Int} (hv : -128 ≤ x ∧ x < 128) (h0 : 0 ≤ i) (hi : i < 400) (d : decode cc pc = .ok (.bastore, 1))
    (kk : ∀ (H1 : Heap) (locs1 : List Loc), MH G A (st σ 7 i x) H0 H1 locs1 → W p l e R s m args below meth c H1 locs1 cells slots Q (F0 m (pc + 1) ls rest)) : W p l e R s m args below meth c H locs cells slots Q (F0 m pc ls (.int (iI x) :: .int (iI i) :: .ref (G.2.2 7) :: rest)) := by
  refine g_bast hx hb hK hH 1 (mh_at σ hj (k := 7) (by decide)) rfl hv h0 (show i < ((400 : Nat) : Int) from hi) (by decide) d (fun H1 locs1 hH1 => kk H1 locs1 ?_)
  have e0 : mcell G (st σ 7 i x) 7 = aI (G.2.1 1) 400 (up (σ 7) i x) := rfl
  rw [mh_set hj (k := 7) (by decide) e0 (fun j hj hn => by
    simp only [mI, List.mem_cons, List.not_mem_nil, or_false] at hj
    rcases hj with q | q | q | q | q | q | q | q | q | q | q | q | q | q | q | q | q | q | q <;> subst q <;> first | exact absurd rfl hn | rfl)] at hH1
  exact hH1
theorem ml_8 (hx : p.tables.exec = Jvm.exec) (hb : c.code = cc) (hK : va_K G.1 clA (tyA G.2.1) s) (hj : mJ G) (hH : MH G A σ H0 H locs) {i : Int} (h0 : 0 ≤ i) (hi : i < 5) (d : decode cc pc = .ok (.iaload, 1))
    (kk : W p l e R s m args below meth c H locs cells slots Q (F0 m (pc + 1) ls (.int (iI (σ 8 i)) :: rest))) : W p l e R s m args below meth c H locs cells slots Q (F0 m pc ls (.int (iI i) :: .ref (G.2.2 8) :: rest)) :=
  g_iald hx hb hK hH 0 (mh_at σ hj (k := 8) (by decide)) rfl h0 (show i < ((5 : Nat) : Int) from hi) (by decide) d kk
theorem ms_8 (hx : p.tables.exec = Jvm.exec) (hb : c.code = cc) (hK : va_K G.1 clA (tyA G.2.1) s) (hj : mJ G) (hH : MH G A σ H0 H locs) {i x : Int} (h0 : 0 ≤ i) (hi : i < 5) (d : decode cc pc = .ok (.iastore, 1))
    (kk : ∀ (H1 : Heap) (locs1 : List Loc), MH G A (st σ 8 i x) H0 H1 locs1 → W p l e R s m args below meth c H1 locs1 cells slots Q (F0 m (pc + 1) ls rest)) : W p l e R s m args below meth c H locs cells slots Q (F0 m pc ls (.int (iI x) :: .int (iI i) :: .ref (G.2.2 8) :: rest)) := by
  refine g_iast hx hb hK hH 0 (mh_at σ hj (k := 8) (by decide)) rfl h0 (show i < ((5 : Nat) : Int) from hi) (by decide) d (fun H1 locs1 hH1 => kk H1 locs1 ?_)
  have e0 : mcell G (st σ 8 i x) 8 = aI (G.2.1 0) 5 (up (σ 8) i x) := rfl
  rw [mh_set hj (k := 8) (by decide) e0 (fun j hj hn => by
    simp only [mI, List.mem_cons, List.not_mem_nil, or_false] at hj
    rcases hj with q | q | q | q | q | q | q | q | q | q | q | q | q | q | q | q | q | q | q <;> subst q <;> first | exact absurd rfl hn | rfl)] at hH1
  exact hH1
theorem ml_11 (hx : p.tables.exec = Jvm.exec) (hb : c.code = cc) (hK : va_K G.1 clA (tyA G.2.1) s) (hj : mJ G) (hH : MH G A σ H0 H locs) {i : Int} (h0 : 0 ≤ i) (hi : i < 401) (d : decode cc pc = .ok (.iaload, 1))
    (kk : W p l e R s m args below meth c H locs cells slots Q (F0 m (pc + 1) ls (.int (iI (σ 11 i)) :: rest))) : W p l e R s m args below meth c H locs cells slots Q (F0 m pc ls (.int (iI i) :: .ref (G.2.2 11) :: rest)) :=
  g_iald hx hb hK hH 0 (mh_at σ hj (k := 11) (by decide)) rfl h0 (show i < ((401 : Nat) : Int) from hi) (by decide) d kk
theorem ms_11 (hx : p.tables.exec = Jvm.exec) (hb : c.code = cc) (hK : va_K G.1 clA (tyA G.2.1) s) (hj : mJ G) (hH : MH G A σ H0 H locs) {i x : Int} (h0 : 0 ≤ i) (hi : i < 401) (d : decode cc pc = .ok (.iastore, 1))
    (kk : ∀ (H1 : Heap) (locs1 : List Loc), MH G A (st σ 11 i x) H0 H1 locs1 → W p l e R s m args below meth c H1 locs1 cells slots Q (F0 m (pc + 1) ls rest)) : W p l e R s m args below meth c H locs cells slots Q (F0 m pc ls (.int (iI x) :: .int (iI i) :: .ref (G.2.2 11) :: rest)) := by
  refine g_iast hx hb hK hH 0 (mh_at σ hj (k := 11) (by decide)) rfl h0 (show i < ((401 : Nat) : Int) from hi) (by decide) d (fun H1 locs1 hH1 => kk H1 locs1 ?_)
  have e0 : mcell G (st σ 11 i x) 11 = aI (G.2.1 0) 401 (up (σ 11) i x) := rfl
  rw [mh_set hj (k := 11) (by decide) e0 (fun j hj hn => by
    simp only [mI, List.mem_cons, List.not_mem_nil, or_false] at hj
    rcases hj with q | q | q | q | q | q | q | q | q | q | q | q | q | q | q | q | q | q | q <;> subst q <;> first | exact absurd rfl hn | rfl)] at hH1
  exact hH1
theorem ml_12 (hx : p.tables.exec = Jvm.exec) (hb : c.code = cc) (hK : va_K G.1 clA (tyA G.2.1) s) (hj : mJ G) (hH : MH G A σ H0 H locs) {i : Int} (h0 : 0 ≤ i) (hi : i < 401) (d : decode cc pc = .ok (.iaload, 1))
    (kk : W p l e R s m args below meth c H locs cells slots Q (F0 m (pc + 1) ls (.int (iI (σ 12 i)) :: rest))) : W p l e R s m args below meth c H locs cells slots Q (F0 m pc ls (.int (iI i) :: .ref (G.2.2 12) :: rest)) :=
  g_iald hx hb hK hH 0 (mh_at σ hj (k := 12) (by decide)) rfl h0 (show i < ((401 : Nat) : Int) from hi) (by decide) d kk
theorem ms_12 (hx : p.tables.exec = Jvm.exec) (hb : c.code = cc) (hK : va_K G.1 clA (tyA G.2.1) s) (hj : mJ G) (hH : MH G A σ H0 H locs) {i x : Int} (h0 : 0 ≤ i) (hi : i < 401) (d : decode cc pc = .ok (.iastore, 1))
    (kk : ∀ (H1 : Heap) (locs1 : List Loc), MH G A (st σ 12 i x) H0 H1 locs1 → W p l e R s m args below meth c H1 locs1 cells slots Q (F0 m (pc + 1) ls rest)) : W p l e R s m args below meth c H locs cells slots Q (F0 m pc ls (.int (iI x) :: .int (iI i) :: .ref (G.2.2 12) :: rest)) := by
  refine g_iast hx hb hK hH 0 (mh_at σ hj (k := 12) (by decide)) rfl h0 (show i < ((401 : Nat) : Int) from hi) (by decide) d (fun H1 locs1 hH1 => kk H1 locs1 ?_)
  have e0 : mcell G (st σ 12 i x) 12 = aI (G.2.1 0) 401 (up (σ 12) i x) := rfl
  rw [mh_set hj (k := 12) (by decide) e0 (fun j hj hn => by
    simp only [mI, List.mem_cons, List.not_mem_nil, or_false] at hj
    rcases hj with q | q | q | q | q | q | q | q | q | q | q | q | q | q | q | q | q | q | q <;> subst q <;> first | exact absurd rfl hn | rfl)] at hH1
  exact hH1
theorem ml_13 (hx : p.tables.exec = Jvm.exec) (hb : c.code = cc) (hK : va_K G.1 clA (tyA G.2.1) s) (hj : mJ G) (hH : MH G A σ H0 H locs) {i : Int} (h0 : 0 ≤ i) (hi : i < 401) (d : decode cc pc = .ok (.iaload, 1))
    (kk : W p l e R s m args below meth c H locs cells slots Q (F0 m (pc + 1) ls (.int (iI (σ 13 i)) :: rest))) : W p l e R s m args below meth c H locs cells slots Q (F0 m pc ls (.int (iI i) :: .ref (G.2.2 13) :: rest)) :=
  g_iald hx hb hK hH 0 (mh_at σ hj (k := 13) (by decide)) rfl h0 (show i < ((401 : Nat) : Int) from hi) (by decide) d kk
theorem ms_13 (hx : p.tables.exec = Jvm.exec) (hb : c.code = cc) (hK : va_K G.1 clA (tyA G.2.1) s) (hj : mJ G) (hH : MH G A σ H0 H locs) {i x : Int} (h0 : 0 ≤ i) (hi : i < 401) (d : decode cc pc = .ok (.iastore, 1))
    (kk : ∀ (H1 : Heap) (locs1 : List Loc), MH G A (st σ 13 i x) H0 H1 locs1 → W p l e R s m args below meth c H1 locs1 cells slots Q (F0 m (pc + 1) ls rest)) : W p l e R s m args below meth c H locs cells slots Q (F0 m pc ls (.int (iI x) :: .int (iI i) :: .ref (G.2.2 13) :: rest)) := by
  refine g_iast hx hb hK hH 0 (mh_at σ hj (k := 13) (by decide)) rfl h0 (show i < ((401 : Nat) : Int) from hi) (by decide) d (fun H1 locs1 hH1 => kk H1 locs1 ?_)
  have e0 : mcell G (st σ 13 i x) 13 = aI (G.2.1 0) 401 (up (σ 13) i x) := rfl
  rw [mh_set hj (k := 13) (by decide) e0 (fun j hj hn => by
    simp only [mI, List.mem_cons, List.not_mem_nil, or_false] at hj
    rcases hj with q | q | q | q | q | q | q | q | q | q | q | q | q | q | q | q | q | q | q <;> subst q <;> first | exact absurd rfl hn | rfl)] at hH1
  exact hH1
theorem ml_22 (hx : p.tables.exec = Jvm.exec) (hb : c.code = cc) (hK : va_K G.1 clA (tyA G.2.1) s) (hj : mJ G) (hH : MH G A σ H0 H locs) {i : Int} (h0 : 0 ≤ i) (hi : i < 12) (d : decode cc pc = .ok (.iaload, 1))
    (kk : W p l e R s m args below meth c H locs cells slots Q (F0 m (pc + 1) ls (.int (iI (σ 22 i)) :: rest))) : W p l e R s m args below meth c H locs cells slots Q (F0 m pc ls (.int (iI i) :: .ref (G.2.2 22) :: rest)) :=
  g_iald hx hb hK hH 0 (mh_at σ hj (k := 22) (by decide)) rfl h0 (show i < ((12 : Nat) : Int) from hi) (by decide) d kk
theorem ms_22 (hx : p.tables.exec = Jvm.exec) (hb : c.code = cc) (hK : va_K G.1 clA (tyA G.2.1) s) (hj : mJ G) (hH : MH G A σ H0 H locs) {i x : Int} (h0 : 0 ≤ i) (hi : i < 12) (d : decode cc pc = .ok (.iastore, 1))
    (kk : ∀ (H1 : Heap) (locs1 : List Loc), MH G A (st σ 22 i x) H0 H1 locs1 → W p l e R s m args below meth c H1 locs1 cells slots Q (F0 m (pc + 1) ls rest)) : W p l e R s m args below meth c H locs cells slots Q (F0 m pc ls (.int (iI x) :: .int (iI i) :: .ref (G.2.2 22) :: rest)) := by
  refine g_iast hx hb hK hH 0 (mh_at σ hj (k := 22) (by decide)) rfl h0 (show i < ((12 : Nat) : Int) from hi) (by decide) d (fun H1 locs1 hH1 => kk H1 locs1 ?_)
  have e0 : mcell G (st σ 22 i x) 22 = aI (G.2.1 0) 12 (up (σ 22) i x) := rfl
  rw [mh_set hj (k := 22) (by decide) e0 (fun j hj hn => by
    simp only [mI, List.mem_cons, List.not_mem_nil, or_false] at hj
    rcases hj with q | q | q | q | q | q | q | q | q | q | q | q | q | q | q | q | q | q | q <;> subst q <;> first | exact absurd rfl hn | rfl)] at hH1
  exact hH1
theorem ml_23 (hx : p.tables.exec = Jvm.exec) (hb : c.code = cc) (hK : va_K G.1 clA (tyA G.2.1) s) (hj : mJ G) (hH : MH G A σ H0 H locs) {i : Int} (h0 : 0 ≤ i) (hi : i < 12) (d : decode cc pc = .ok (.baload, 1))
    (kk : W p l e R s m args below meth c H locs cells slots Q (F0 m (pc + 1) ls (.int (iI (σ 23 i)) :: rest))) : W p l e R s m args below meth c H locs cells slots Q (F0 m pc ls (.int (iI i) :: .ref (G.2.2 23) :: rest)) :=
  g_zald hx hb hK hH 2 (mh_at σ hj (k := 23) (by decide)) rfl h0 (show i < ((12 : Nat) : Int) from hi) (by decide) d kk
theorem ms_23 (hx : p.tables.exec = Jvm.exec) (hb : c.code = cc) (hK : va_K G.1 clA (tyA G.2.1) s) (hj : mJ G) (hH : MH G A σ H0 H locs) {i x : Int} (hv : x = 0 ∨ x = 1) (h0 : 0 ≤ i) (hi : i < 12) (d : decode cc pc = .ok (.bastore, 1))
    (kk : ∀ (H1 : Heap) (locs1 : List Loc), MH G A (st σ 23 i x) H0 H1 locs1 → W p l e R s m args below meth c H1 locs1 cells slots Q (F0 m (pc + 1) ls rest)) : W p l e R s m args below meth c H locs cells slots Q (F0 m pc ls (.int (iI x) :: .int (iI i) :: .ref (G.2.2 23) :: rest)) := by
  refine g_zast hx hb hK hH 2 (mh_at σ hj (k := 23) (by decide)) rfl hv h0 (show i < ((12 : Nat) : Int) from hi) (by decide) d (fun H1 locs1 hH1 => kk H1 locs1 ?_)
  have e0 : mcell G (st σ 23 i x) 23 = aI (G.2.1 2) 12 (up (σ 23) i x) := rfl
  rw [mh_set hj (k := 23) (by decide) e0 (fun j hj hn => by
    simp only [mI, List.mem_cons, List.not_mem_nil, or_false] at hj
    rcases hj with q | q | q | q | q | q | q | q | q | q | q | q | q | q | q | q | q | q | q <;> subst q <;> first | exact absurd rfl hn | rfl)] at hH1
  exact hH1
theorem ml_24 (hx : p.tables.exec = Jvm.exec) (hb : c.code = cc) (hK : va_K G.1 clA (tyA G.2.1) s) (hj : mJ G) (hH : MH G A σ H0 H locs) {i : Int} (h0 : 0 ≤ i) (hi : i < 12) (d : decode cc pc = .ok (.laload, 1))
    (kk : W p l e R s m args below meth c H locs cells slots Q (F0 m (pc + 1) ls (.long (lI (σ 24 i)) :: rest))) : W p l e R s m args below meth c H locs cells slots Q (F0 m pc ls (.int (iI i) :: .ref (G.2.2 24) :: rest)) :=
  g_lald hx hb hK hH 3 (mh_at σ hj (k := 24) (by decide)) rfl h0 (show i < ((12 : Nat) : Int) from hi) (by decide) d kk
theorem ms_24 (hx : p.tables.exec = Jvm.exec) (hb : c.code = cc) (hK : va_K G.1 clA (tyA G.2.1) s) (hj : mJ G) (hH : MH G A σ H0 H locs) {i x : Int} (h0 : 0 ≤ i) (hi : i < 12) (d : decode cc pc = .ok (.lastore, 1))
    (kk : ∀ (H1 : Heap) (locs1 : List Loc), MH G A (st σ 24 i x) H0 H1 locs1 → W p l e R s m args below meth c H1 locs1 cells slots Q (F0 m (pc + 1) ls rest)) : W p l e R s m args below meth c H locs cells slots Q (F0 m pc ls (.long (lI x) :: .int (iI i) :: .ref (G.2.2 24) :: rest)) := by
  refine g_last hx hb hK hH 3 (mh_at σ hj (k := 24) (by decide)) rfl h0 (show i < ((12 : Nat) : Int) from hi) (by decide) d (fun H1 locs1 hH1 => kk H1 locs1 ?_)
  have e0 : mcell G (st σ 24 i x) 24 = aL (G.2.1 3) 12 (up (σ 24) i x) := rfl
  rw [mh_set hj (k := 24) (by decide) e0 (fun j hj hn => by
    simp only [mI, List.mem_cons, List.not_mem_nil, or_false] at hj
    rcases hj with q | q | q | q | q | q | q | q | q | q | q | q | q | q | q | q | q | q | q <;> subst q <;> first | exact absurd rfl hn | rfl)] at hH1
  exact hH1
theorem ml_25 (hx : p.tables.exec = Jvm.exec) (hb : c.code = cc) (hK : va_K G.1 clA (tyA G.2.1) s) (hj : mJ G) (hH : MH G A σ H0 H locs) {i : Int} (h0 : 0 ≤ i) (hi : i < 144) (d : decode cc pc = .ok (.iaload, 1))
    (kk : W p l e R s m args below meth c H locs cells slots Q (F0 m (pc + 1) ls (.int (iI (σ 25 i)) :: rest))) : W p l e R s m args below meth c H locs cells slots Q (F0 m pc ls (.int (iI i) :: .ref (G.2.2 25) :: rest)) :=
  g_iald hx hb hK hH 0 (mh_at σ hj (k := 25) (by decide)) rfl h0 (show i < ((144 : Nat) : Int) from hi) (by decide) d kk
theorem ms_25 (hx : p.tables.exec = Jvm.exec) (hb : c.code = cc) (hK : va_K G.1 clA (tyA G.2.1) s) (hj : mJ G) (hH : MH G A σ H0 H locs) {i x : Int} (h0 : 0 ≤ i) (hi : i < 144) (d : decode cc pc = .ok (.iastore, 1))
    (kk : ∀ (H1 : Heap) (locs1 : List Loc), MH G A (st σ 25 i x) H0 H1 locs1 → W p l e R s m args below meth c H1 locs1 cells slots Q (F0 m (pc + 1) ls rest)) : W p l e R s m args below meth c H locs cells slots Q (F0 m pc ls (.int (iI x) :: .int (iI i) :: .ref (G.2.2 25) :: rest)) := by
  refine g_iast hx hb hK hH 0 (mh_at σ hj (k := 25) (by decide)) rfl h0 (show i < ((144 : Nat) : Int) from hi) (by decide) d (fun H1 locs1 hH1 => kk H1 locs1 ?_)
  have e0 : mcell G (st σ 25 i x) 25 = aI (G.2.1 0) 144 (up (σ 25) i x) := rfl
  rw [mh_set hj (k := 25) (by decide) e0 (fun j hj hn => by
    simp only [mI, List.mem_cons, List.not_mem_nil, or_false] at hj
    rcases hj with q | q | q | q | q | q | q | q | q | q | q | q | q | q | q | q | q | q | q <;> subst q <;> first | exact absurd rfl hn | rfl)] at hH1
  exact hH1
theorem ml_26 (hx : p.tables.exec = Jvm.exec) (hb : c.code = cc) (hK : va_K G.1 clA (tyA G.2.1) s) (hj : mJ G) (hH : MH G A σ H0 H locs) {i : Int} (h0 : 0 ≤ i) (hi : i < 4096) (d : decode cc pc = .ok (.iaload, 1))
    (kk : W p l e R s m args below meth c H locs cells slots Q (F0 m (pc + 1) ls (.int (iI (σ 26 i)) :: rest))) : W p l e R s m args below meth c H locs cells slots Q (F0 m pc ls (.int (iI i) :: .ref (G.2.2 26) :: rest)) :=
  g_iald hx hb hK hH 0 (mh_at σ hj (k := 26) (by decide)) rfl h0 (show i < ((4096 : Nat) : Int) from hi) (by decide) d kk
theorem ms_26 (hx : p.tables.exec = Jvm.exec) (hb : c.code = cc) (hK : va_K G.1 clA (tyA G.2.1) s) (hj : mJ G) (hH : MH G A σ H0 H locs) {i x : Int} (h0 : 0 ≤ i) (hi : i < 4096) (d : decode cc pc = .ok (.iastore, 1))
    (kk : ∀ (H1 : Heap) (locs1 : List Loc), MH G A (st σ 26 i x) H0 H1 locs1 → W p l e R s m args below meth c H1 locs1 cells slots Q (F0 m (pc + 1) ls rest)) : W p l e R s m args below meth c H locs cells slots Q (F0 m pc ls (.int (iI x) :: .int (iI i) :: .ref (G.2.2 26) :: rest)) := by
  refine g_iast hx hb hK hH 0 (mh_at σ hj (k := 26) (by decide)) rfl h0 (show i < ((4096 : Nat) : Int) from hi) (by decide) d (fun H1 locs1 hH1 => kk H1 locs1 ?_)
  have e0 : mcell G (st σ 26 i x) 26 = aI (G.2.1 0) 4096 (up (σ 26) i x) := rfl
  rw [mh_set hj (k := 26) (by decide) e0 (fun j hj hn => by
    simp only [mI, List.mem_cons, List.not_mem_nil, or_false] at hj
    rcases hj with q | q | q | q | q | q | q | q | q | q | q | q | q | q | q | q | q | q | q <;> subst q <;> first | exact absurd rfl hn | rfl)] at hH1
  exact hH1
theorem ml_27 (hx : p.tables.exec = Jvm.exec) (hb : c.code = cc) (hK : va_K G.1 clA (tyA G.2.1) s) (hj : mJ G) (hH : MH G A σ H0 H locs) {i : Int} (h0 : 0 ≤ i) (hi : i < 12) (d : decode cc pc = .ok (.iaload, 1))
    (kk : W p l e R s m args below meth c H locs cells slots Q (F0 m (pc + 1) ls (.int (iI (σ 27 i)) :: rest))) : W p l e R s m args below meth c H locs cells slots Q (F0 m pc ls (.int (iI i) :: .ref (G.2.2 27) :: rest)) :=
  g_iald hx hb hK hH 0 (mh_at σ hj (k := 27) (by decide)) rfl h0 (show i < ((12 : Nat) : Int) from hi) (by decide) d kk
theorem ms_27 (hx : p.tables.exec = Jvm.exec) (hb : c.code = cc) (hK : va_K G.1 clA (tyA G.2.1) s) (hj : mJ G) (hH : MH G A σ H0 H locs) {i x : Int} (h0 : 0 ≤ i) (hi : i < 12) (d : decode cc pc = .ok (.iastore, 1))
    (kk : ∀ (H1 : Heap) (locs1 : List Loc), MH G A (st σ 27 i x) H0 H1 locs1 → W p l e R s m args below meth c H1 locs1 cells slots Q (F0 m (pc + 1) ls rest)) : W p l e R s m args below meth c H locs cells slots Q (F0 m pc ls (.int (iI x) :: .int (iI i) :: .ref (G.2.2 27) :: rest)) := by
  refine g_iast hx hb hK hH 0 (mh_at σ hj (k := 27) (by decide)) rfl h0 (show i < ((12 : Nat) : Int) from hi) (by decide) d (fun H1 locs1 hH1 => kk H1 locs1 ?_)
  have e0 : mcell G (st σ 27 i x) 27 = aI (G.2.1 0) 12 (up (σ 27) i x) := rfl
  rw [mh_set hj (k := 27) (by decide) e0 (fun j hj hn => by
    simp only [mI, List.mem_cons, List.not_mem_nil, or_false] at hj
    rcases hj with q | q | q | q | q | q | q | q | q | q | q | q | q | q | q | q | q | q | q <;> subst q <;> first | exact absurd rfl hn | rfl)] at hH1
  exact hH1
theorem ml_29 (hx : p.tables.exec = Jvm.exec) (hb : c.code = cc) (hK : va_K G.1 clA (tyA G.2.1) s) (hj : mJ G) (hH : MH G A σ H0 H locs) {i : Int} (h0 : 0 ≤ i) (hi : i < 11) (d : decode cc pc = .ok (.laload, 1))
    (kk : W p l e R s m args below meth c H locs cells slots Q (F0 m (pc + 1) ls (.long (lI (σ 29 i)) :: rest))) : W p l e R s m args below meth c H locs cells slots Q (F0 m pc ls (.int (iI i) :: .ref (G.2.2 29) :: rest)) :=
  g_lald hx hb hK hH 3 (mh_at σ hj (k := 29) (by decide)) rfl h0 (show i < ((11 : Nat) : Int) from hi) (by decide) d kk
theorem ms_29 (hx : p.tables.exec = Jvm.exec) (hb : c.code = cc) (hK : va_K G.1 clA (tyA G.2.1) s) (hj : mJ G) (hH : MH G A σ H0 H locs) {i x : Int} (h0 : 0 ≤ i) (hi : i < 11) (d : decode cc pc = .ok (.lastore, 1))
    (kk : ∀ (H1 : Heap) (locs1 : List Loc), MH G A (st σ 29 i x) H0 H1 locs1 → W p l e R s m args below meth c H1 locs1 cells slots Q (F0 m (pc + 1) ls rest)) : W p l e R s m args below meth c H locs cells slots Q (F0 m pc ls (.long (lI x) :: .int (iI i) :: .ref (G.2.2 29) :: rest)) := by
  refine g_last hx hb hK hH 3 (mh_at σ hj (k := 29) (by decide)) rfl h0 (show i < ((11 : Nat) : Int) from hi) (by decide) d (fun H1 locs1 hH1 => kk H1 locs1 ?_)
  have e0 : mcell G (st σ 29 i x) 29 = aL (G.2.1 3) 11 (up (σ 29) i x) := rfl
  rw [mh_set hj (k := 29) (by decide) e0 (fun j hj hn => by
    simp only [mI, List.mem_cons, List.not_mem_nil, or_false] at hj
    rcases hj with q | q | q | q | q | q | q | q | q | q | q | q | q | q | q | q | q | q | q <;> subst q <;> first | exact absurd rfl hn | rfl)] at hH1
  exact hH1
variable {y : MethodName} {bytes : ByteArray} {maxL nL n index : Nat} {ret : Option FieldType} {rm : Room} {Qc : Array Value → State → Outcome → State → Prop} {free : Addr → Prop} {own C : String} {As : List Value}
theorem m_runV {mc ms : Nat} (S : CallFix p m c cc nL s args lw_all own) (hH : MH G A σ H0 H locs) (hK : va_K G.1 clA (tyA G.2.1) s) (hj : mJ G) (hsz : ls.size = nL)
    (hM : Met l y (ws_ y bytes maxL ret) rm (mP G (.ref (G.2.2 0) :: As) σ H.size) Qc mc ms free) (hG : GoodIn lw_all (wsV own index RX4 y (ws_ y bytes maxL ret))) (hd : y.cls = RX4 ∧ y.cls ≠ "java/lang/invoke/MethodHandle" ∧ y.cls ≠ "java/lang/invoke/VarHandle" ∧ (parseMethodDescriptor y.desc).map (fun d => d.parameters.length) = some n) (hn : As.length = n) (hst : st0 = As.reverse ++ .ref (G.2.2 0) :: rest) (d : decode cc pc = .ok (.invokevirtual index, 3)) (hrc : rm.cells = mc := by rfl) (hrs : rm.slots = ms := by rfl)
    (hR : rm.frames + 1 ≤ R.frames ∧ 8 + (maxL + 11) + rm.locals ≤ R.locals := by exact ⟨Nat.le_of_ble_eq_true rfl, Nat.le_of_ble_eq_true rfl⟩) (hW : (rest.map fun v => v.category).sum ≤ 8 := by first | exact Nat.le_of_ble_eq_true rfl | decide) (hf : cells + mc ≤ R.cells ∧ slots + ms ≤ R.slots := by exact ⟨Nat.le_of_ble_eq_true rfl, Nat.le_of_ble_eq_true rfl⟩) : va_Run p l e R s m args below meth c H locs cells slots mc ms (F0 m pc ls st0) rest (Qc (Value.ref (G.2.2 0) :: As).toArray) free :=
  g_runV (q := (RX4, TX4, 30)) (ci := 0) (C := RX4) S hH hK (fun _ _ _ => hj) (fun _ _ _ _ h => h) (mh_at σ hj (k := 0) (by decide)) rfl hsz hM hG hd hn hst d rfl hrc hrs hR hW hf
theorem m_runS {mc ms : Nat} (S : CallFix p m c cc nL s args lw_all own) (hH : MH G A σ H0 H locs) (hK : va_K G.1 clA (tyA G.2.1) s) (hj : mJ G) (hsz : ls.size = nL)
    (hM : Met l y (ws_ y bytes maxL ret) rm (mP G As σ H.size) Qc mc ms free) (hG : GoodIn lw_all (va_wsS own index y (ws_ y bytes maxL ret))) (hd : y.cls = C ∧ y.cls ≠ "java/lang/invoke/MethodHandle" ∧ y.cls ≠ "java/lang/invoke/VarHandle" ∧ (parseMethodDescriptor y.desc).map (fun d => d.parameters.length) = some n) (hn : As.length = n) (hst : st0 = As.reverse ++ rest) (d : decode cc pc = .ok (.invokestatic index, 3)) (hrc : rm.cells = mc := by rfl) (hrs : rm.slots = ms := by rfl)
    (hR : rm.frames + 1 ≤ R.frames ∧ 8 + (maxL + 11) + rm.locals ≤ R.locals := by exact ⟨Nat.le_of_ble_eq_true rfl, Nat.le_of_ble_eq_true rfl⟩) (hW : (rest.map fun v => v.category).sum ≤ 8 := by first | exact Nat.le_of_ble_eq_true rfl | decide) (hf : cells + mc ≤ R.cells ∧ slots + ms ≤ R.slots := by exact ⟨Nat.le_of_ble_eq_true rfl, Nat.le_of_ble_eq_true rfl⟩) : va_Run p l e R s m args below meth c H locs cells slots mc ms (F0 m pc ls st0) rest (Qc As.toArray) free :=
  g_runS S hH hK (fun _ _ _ => hj) (fun _ _ _ _ h => h) hsz hM hG hd hn hst d hrc hrs hR hW hf
theorem m_calli {post : Int → St → Prop} {av : Array Value} (hr : va_Run p l e R s m args below meth c H locs cells slots 0 0 (F0 m pc ls st0) rest (mQi G σ H.size post av) (mA G σ H.size)) (hH : MH G A σ H0 H locs) (hA : ∀ q, H0.size ≤ q → A q)
    (kk : ∀ (z : Int) (σ' : St) (H1 : Heap) (locs1 : List Loc), post z σ' → MH G A σ' H0 H1 locs1 → W p l e R s m args below meth c H1 locs1 cells slots Q (F0 m (pc + 3) ls (.int (iI z) :: rest))) : W p l e R s m args below meth c H locs cells slots Q (F0 m pc ls st0) :=
  g_calli hr hH hA (fun z _ H1 locs1 ⟨σ', he, hp⟩ hH' _ => kk z σ' H1 locs1 hp (by subst he; exact hH'))
theorem m_calll {post : Int → St → Prop} {av : Array Value} (hr : va_Run p l e R s m args below meth c H locs cells slots 0 0 (F0 m pc ls st0) rest (mQl G σ H.size post av) (mA G σ H.size)) (hH : MH G A σ H0 H locs) (hA : ∀ q, H0.size ≤ q → A q)
    (kk : ∀ (z : Int) (σ' : St) (H1 : Heap) (locs1 : List Loc), post z σ' → MH G A σ' H0 H1 locs1 → W p l e R s m args below meth c H1 locs1 cells slots Q (F0 m (pc + 3) ls (.long (lI z) :: rest))) : W p l e R s m args below meth c H locs cells slots Q (F0 m pc ls st0) :=
  g_calll hr hH hA (fun z _ H1 locs1 ⟨σ', he, hp⟩ hH' _ => kk z σ' H1 locs1 hp (by subst he; exact hH'))
theorem m_callv {post : St → Prop} {av : Array Value} (hr : va_Run p l e R s m args below meth c H locs cells slots 0 0 (F0 m pc ls st0) rest (mQv G σ H.size post av) (mA G σ H.size)) (hH : MH G A σ H0 H locs) (hA : ∀ q, H0.size ≤ q → A q)
    (kk : ∀ (σ' : St) (H1 : Heap) (locs1 : List Loc), post σ' → MH G A σ' H0 H1 locs1 → W p l e R s m args below meth c H1 locs1 cells slots Q (F0 m (pc + 3) ls rest)) : W p l e R s m args below meth c H locs cells slots Q (F0 m pc ls st0) :=
  g_callv hr hH hA (fun _ H1 locs1 ⟨σ', he, hp⟩ hH' _ => kk σ' H1 locs1 hp (by subst he; exact hH'))
theorem m_calliF {res : Int} {τ : St} {av : Array Value} (hr : va_Run p l e R s m args below meth c H locs cells slots 0 0 (F0 m pc ls st0) rest (mQi G σ H.size (fun z σ' => z = res ∧ σ' = τ) av) (mA G σ H.size)) (hH : MH G A σ H0 H locs) (hA : ∀ q, H0.size ≤ q → A q)
    (kk : ∀ (H1 : Heap) (locs1 : List Loc), MH G A τ H0 H1 locs1 → W p l e R s m args below meth c H1 locs1 cells slots Q (F0 m (pc + 3) ls (.int (iI res) :: rest))) : W p l e R s m args below meth c H locs cells slots Q (F0 m pc ls st0) :=
  m_calli hr hH hA (fun z σ' H1 locs1 hp hH' => by obtain ⟨e1, e2⟩ := hp; rw [e2] at hH'; rw [e1]; exact kk H1 locs1 hH')
theorem m_calllF {res : Int} {τ : St} {av : Array Value} (hr : va_Run p l e R s m args below meth c H locs cells slots 0 0 (F0 m pc ls st0) rest (mQl G σ H.size (fun z σ' => z = res ∧ σ' = τ) av) (mA G σ H.size)) (hH : MH G A σ H0 H locs) (hA : ∀ q, H0.size ≤ q → A q)
    (kk : ∀ (H1 : Heap) (locs1 : List Loc), MH G A τ H0 H1 locs1 → W p l e R s m args below meth c H1 locs1 cells slots Q (F0 m (pc + 3) ls (.long (lI res) :: rest))) : W p l e R s m args below meth c H locs cells slots Q (F0 m pc ls st0) :=
  m_calll hr hH hA (fun z σ' H1 locs1 hp hH' => by obtain ⟨e1, e2⟩ := hp; rw [e2] at hH'; rw [e1]; exact kk H1 locs1 hH')
theorem m_callvF {τ : St} {av : Array Value} (hr : va_Run p l e R s m args below meth c H locs cells slots 0 0 (F0 m pc ls st0) rest (mQv G σ H.size (fun σ' => σ' = τ) av) (mA G σ H.size)) (hH : MH G A σ H0 H locs) (hA : ∀ q, H0.size ≤ q → A q)
    (kk : ∀ (H1 : Heap) (locs1 : List Loc), MH G A τ H0 H1 locs1 → W p l e R s m args below meth c H1 locs1 cells slots Q (F0 m (pc + 3) ls rest)) : W p l e R s m args below meth c H locs cells slots Q (F0 m pc ls st0) :=
  m_callv hr hH hA (fun σ' H1 locs1 hp hH' => by rw [hp] at hH'; exact kk H1 locs1 hH')
theorem n_name {x : Int} (k : ∀ y : Int, y = x → W p l e R s m args below meth c H locs cells slots Q (F0 m pc ls (.int (iI y) :: rest))) : W p l e R s m args below meth c H locs cells slots Q (F0 m pc ls (.int (iI x) :: rest)) := k x rfl
theorem n_nameL {x : Int} (k : ∀ y : Int, y = x → W p l e R s m args below meth c H locs cells slots Q (F0 m pc ls (.long (lI y) :: rest))) : W p l e R s m args below meth c H locs cells slots Q (F0 m pc ls (.long (lI x) :: rest)) := k x rfl
theorem m_name (hH : MH G A σ H0 H locs) (k : ∀ σ' : St, σ' = σ → MH G A σ' H0 H locs → W p l e R s m args below meth c H locs cells slots Q (F0 m pc ls rest)) : W p l e R s m args below meth c H locs cells slots Q (F0 m pc ls rest) := k σ rfl hH
end MR
