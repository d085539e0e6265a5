/-! tests, by their depth -/
theorem foldF_cg {all : Int} {g : Int → Int} : ∀ (l : List Mean) (f f' : Mean), f g = f' g → foldF all f l g = foldF all f' l g
  | [], _, _, h => h
  | x :: l, f, f', h => by
    show foldF all _ l g = foldF all _ l g
    refine foldF_cg l _ _ ?_
    show (if all = 0 then orF f x else andF f x) g = (if all = 0 then orF f' x else andF f' x) g
    by_cases q : all = 0
    · rw [if_pos q, if_pos q]; unfold orF; rw [h]
    · rw [if_neg q, if_neg q]; unfold andF; rw [h]
theorem fold_n {all : Int} {g : Int → Int} : ∀ (l : List Mean) (f : Mean), f g = none → foldF all f l g = none
  | [], _, h => h
  | x :: l, f, h => by
    show foldF all _ l g = none
    refine fold_n l _ ?_
    show (if all = 0 then orF f x else andF f x) g = none
    by_cases q : all = 0
    · rw [if_pos q]; unfold orF; rw [h]; rfl
    · rw [if_neg q]; unfold andF; rw [h]; rfl
theorem fold_d {all x : Int} {g : Int → Int} (hall : all = 0 ∨ all = 1) (hx : x = 0 ∨ x = 1) (hn : x ≠ all) : ∀ (l : List Mean) (f : Mean), f g = some x → foldF all f l g = some x
  | [], _, h => h
  | y :: l, f, h => by
    show foldF all _ l g = some x
    refine fold_d hall hx hn l _ ?_
    show (if all = 0 then orF f y else andF f y) g = some x
    by_cases q : all = 0
    · rw [if_pos q]; unfold orF; rw [h]; show (if x = 0 then y g else some 1) = some x; rw [if_neg (by omega), show x = 1 by omega]
    · rw [if_neg q]; unfold andF; rw [h]; show (if x = 0 then some 0 else y g) = some x; rw [if_pos (by omega), show x = 0 by omega]
theorem fold_c {all : Int} {g : Int → Int} (hall : all = 0 ∨ all = 1) {f y : Mean} {l : List Mean} (h : f g = some all) : foldF all f (y :: l) g = foldF all y l g := by
  show foldF all _ l g = foldF all y l g
  refine foldF_cg l _ _ ?_
  show (if all = 0 then orF f y else andF f y) g = y g
  by_cases q : all = 0
  · rw [if_pos q]; unfold orF; rw [h]; show (if all = 0 then y g else some 1) = y g; rw [if_pos q]
  · rw [if_neg q]; unfold andF; rw [h]; show (if all = 0 then some 0 else y g) = y g; rw [if_neg q]
theorem fold_dr {f0 : Mean} {fl : List Mean} {i : Int} (h : i + 1 < (fl.length : Int) + 1) (h0 : 0 ≤ i) : fl.drop i.toNat = ((f0 :: fl).getD (i + 1).toNat f0) :: fl.drop (i + 1).toNat := by
  have hl : i.toNat < fl.length := by omega
  rw [List.drop_eq_getElem_cons hl, show (i + 1).toNat = i.toNat + 1 by omega, List.getD_cons_succ, List.getD_eq_getElem?_getD, List.getElem?_eq_getElem hl]
  rfl
def VT (l : Launch) (G : MG) (n : Nat) : Prop := ∀ (h : Hp) (a c_ ci nb : Nat) (t : Int) (g : Int → Int) (f : Mean) (sz : Nat), TestAt G n (hN h) a f → CsH G h c_ ci nb 0 t g →
  (∃ fs, h a = some (oB 14 fs) ∧ Met l yX17_of (ws_ yX17_of cX17_of 2 (some .boolean)) (rmD (n + 3)) (gP G.1 clA (tyA G.2.1) XN [.ref a, .ref c_] h sz) (gQi G.1 clA (DA h sz) (fun z h' => oT2 f g h c_ ci nb t z h')) 0 0 (DA h sz)) ∨ (∃ fs, h a = some (oB 15 fs) ∧ Met l yX18_of (ws_ yX18_of cX18_of 6 (some .boolean)) (rmD (n + 3)) (gP G.1 clA (tyA G.2.1) XN [.ref a, .ref c_] h sz) (gQi G.1 clA (DA h sz) (fun z h' => oT2 f g h c_ ci nb t z h')) 0 0 (DA h sz)) ∨ (∃ fs, h a = some (oB 16 fs) ∧ Met l yX19_of (ws_ yX19_of cX19_of 2 (some .boolean)) (rmD (n + 3)) (gP G.1 clA (tyA G.2.1) XN [.ref a, .ref c_] h sz) (gQi G.1 clA (DA h sz) (fun z h' => oT2 f g h c_ ci nb t z h')) 0 0 (DA h sz)) ∨ (∃ fs, h a = some (oB 17 fs) ∧ Met l yX20_of (ws_ yX20_of cX20_of 7 (some .boolean)) (rmD (n + 3)) (gP G.1 clA (tyA G.2.1) XN [.ref a, .ref c_] h sz) (gQi G.1 clA (DA h sz) (fun z h' => oT2 f g h c_ ci nb t z h')) 0 0 (DA h sz))
section TRUN
variable {p : Program} {l : Launch} {e : Env} {R : Room} {s : State} {m : MethodId} {args : Array Value} {below : List Frame} {meth : Method} {c : Code} {H : Heap} {locs : List Loc} {cells slots : Nat} {Q : State → Prop}
variable {cc : ByteArray} {pc : Nat} {ls : Array Slot} {rest st0 : List Value} {G : MG} {A : Nat → Prop} {a c_ ci nb n index nL : Nat} {b t : Int} {h : Hp} {H0 : Heap} {own : String} {g : Int → Int} {f : Mean}
theorem test_run (S : CallFix p m c cc nL s args lw_all own) (hH : HV G.1 clA A h H0 H locs) (hK : va_K G.1 clA (tyA G.2.1) s) (hXN : XN s) (hsz : ls.size = nL) (V : VT l G n) (hs : TestAt G n (hN h) a f) (hC : CsH G h c_ ci nb 0 t g) (hq : (Cond.methodLink own index ⟨"BrothFlasks$Test", "of", "(LBrothFlasks$Case;)Z"⟩) ∈ lw_all) (d : decode cc pc = .ok (.invokevirtual index, 3)) (hR : n + 3 + 1 ≤ R.frames ∧ 8 + (7 + 11) + 64 * (n + 3) ≤ R.locals) (hf : cells ≤ R.cells ∧ slots ≤ R.slots) (hW : (rest.map fun v => v.category).sum ≤ 8) :
    va_Run p l e R s m args below meth c H locs cells slots 0 0 (F0 m pc ls (.ref c_ :: .ref a :: rest)) rest (gQi G.1 clA (DA h H.size) (fun z h' => oT2 f g h c_ ci nb t z h') [.ref a, .ref c_].toArray) (DA h H.size) := by
  rcases V h a c_ ci nb t g f H.size hs hC with ⟨fs, h1, hM⟩ | ⟨fs, h1, hM⟩ | ⟨fs, h1, hM⟩ | ⟨fs, h1, hM⟩
  · exact g_runA (As := [.ref c_]) (n := 1) S hH hK hXN hsz h1 rfl hM (lw_U hq q1179 q1204 q1205 q130 q1206) q1178 kd_Test rfl rfl d rfl rfl rfl ⟨hR.1, by have := hR.2; show 8 + (2 + 11) + 64 * (n + 3) ≤ _; omega⟩ hW hf
  · exact g_runA (As := [.ref c_]) (n := 1) S hH hK hXN hsz h1 rfl hM (lw_U hq q1179 q1180 q1181 q131 q1182) q1178 kd_Test rfl rfl d rfl rfl rfl ⟨hR.1, by have := hR.2; show 8 + (6 + 11) + 64 * (n + 3) ≤ _; omega⟩ hW hf
  · exact g_runA (As := [.ref c_]) (n := 1) S hH hK hXN hsz h1 rfl hM (lw_U hq q1179 q1213 q1214 q132 q1215) q1178 kd_Test rfl rfl d rfl rfl rfl ⟨hR.1, by have := hR.2; show 8 + (2 + 11) + 64 * (n + 3) ≤ _; omega⟩ hW hf
  · exact g_runA (As := [.ref c_]) (n := 1) S hH hK hXN hsz h1 rfl hM (lw_U hq q1179 q1220 q1217 q133 q1218) q1178 kd_Test rfl rfl d rfl rfl rfl ⟨hR.1, by have := hR.2; show 8 + (7 + 11) + 64 * (n + 3) ≤ _; omega⟩ hW hf
end TRUN
theorem kd_X17_of : yX17_of.cls = RX17 ∧ yX17_of.cls ≠ "java/lang/invoke/MethodHandle" ∧ yX17_of.cls ≠ "java/lang/invoke/VarHandle" ∧ (parseMethodDescriptor yX17_of.desc).map (fun d => d.parameters.length) = some 1 := by decide +kernel
theorem xm_X17_of (l : Launch) (G : MG) (M : Hp) (n : Nat) (k : Int) (ci : Nat) (nb : Nat) (t : Int) (g : Int → Int) (a : Nat) (c_ : Nat) (sz : Nat) (fa : M a = some (oB 14 [.int (iI k)])) (hk : 0 ≤ k ∧ k < 7) (hC : CsH G M c_ ci nb 0 t g) : Met l yX17_of (ws_ yX17_of cX17_of 2 (some .boolean)) (rmD (n + 3)) (gP G.1 clA (tyA G.2.1) XN [.ref a, .ref c_] M sz) (gQi G.1 clA (DA M sz) (fun z M' => oT2 (factF (k + 10)) g M c_ ci nb t z M')) 0 0 (DA M sz) := by
  refine g_start (by decide) (Nat.le_of_ble_eq_true rfl) ?_
  intro p e s m below meth c ⟨S, hr, hlk, hH, hK, hXN, hsz, hnm⟩ ls hl
  subst hsz
  obtain ⟨hx, hb, hml, hown, hts⟩ := S
  have S : CallFix p m c _ _ s _ lw_all RX17 := ⟨hx, hb, hml, hown, hts⟩
  have hA : ∀ q, s.heap.size ≤ q → DA M s.heap.size q := fun q hq => Or.inr hq
  have hl : lv_has ls 2 [(0, .ref a), (1, .ref c_)] := hl
  have hg := hC.2.2.2
  unfold caseOK at hg
  refine lv_aload_n hx hb dX17_of_0 rfl (lv_at hl 0 rfl) ?_
  refine g_get (ci := 14) hx hb hts in_X17 hown hK hH fa rfl 0 (by decide) (hts _ q1063) (fun _ h9 => h9) rfl dX17_of_1 ?_
  refine n_iconst hx hb dX17_of_4 ?_
  refine n_icmp_ge (tgt := 31) hx hb (r32 (by omega)) (r32 (by omega)) dX17_of_5 (by decide) (fun c_5 => ?_) (fun c_5 => ?_)
  · -- 5T
    refine lv_aload_n hx hb dX17_of_31 rfl (lv_at hl 0 rfl) ?_
    refine g_get (ci := 14) hx hb hts in_X17 hown hK hH fa rfl 0 (by decide) (hts _ q1063) (fun _ h9 => h9) rfl dX17_of_32 ?_
    refine n_iconst hx hb dX17_of_35 ?_
    refine n_icmp_ne (tgt := 58) hx hb (r32 (by omega)) (r32 (by omega)) dX17_of_36 (by decide) (fun c_36 => ?_) (fun c_36 => ?_)
    · -- 36T
      refine lv_aload_n hx hb dX17_of_58 rfl (lv_at hl 1 rfl) ?_
      refine g_calli (air_run S hH hK hXN hl.1 hC q1207 dX17_of_59 ⟨by dsimp only [rmD]; omega, by dsimp only [rmD]; omega⟩ ⟨Nat.le_of_ble_eq_true rfl, Nat.le_of_ble_eq_true rfl⟩ (Nat.le_of_ble_eq_true rfl)) hH hA (fun z59 M59_ H locs q_59 hH hz_59 => ?_)
      obtain ⟨e59, g59⟩ := q_59
      subst e59
      have hH := HV_to hH g59
      refine g_zret hx hb hr hlk hH dX17_of_62 zb_01 ?_
      exact ⟨zb_01, Or.inl ⟨by unfold factF zb; rw [if_neg (by omega), if_pos (by omega)], rfl⟩⟩
    · -- 36F
      refine lv_aload_n hx hb dX17_of_39 rfl (lv_at hl 1 rfl) ?_
      refine e_num hx hb hts hown hK hH hC.1 hC.2.1 q260 dX17_of_40 ?_
      refine n_bipush (z := 7) hx hb dX17_of_43 (by decide) ?_
      refine g_iald hx hb hK hH 0 hC.2.2.1 rfl (by omega) (by omega) (Nat.le_of_ble_eq_true rfl) dX17_of_45 ?_
      refine n_iconst hx hb dX17_of_46 ?_
      refine n_icmp_ne (tgt := 54) hx hb (r32 (by omega)) (r32 (by omega)) dX17_of_47 (by decide) (fun c_47 => ?_) (fun c_47 => ?_)
      · -- 47T
        refine n_iconst hx hb dX17_of_54 ?_
        refine lv_goto (tgt := 62) hx hb dX17_of_55 (by decide) ?_
        refine g_zret hx hb hr hlk hH dX17_of_62 (Or.inl rfl) ?_
        exact ⟨Or.inl rfl, Or.inl ⟨by unfold factF; rw [if_neg (by omega), if_neg (by omega), if_neg (by omega)], rfl⟩⟩
      · -- 47F
        refine n_iconst hx hb dX17_of_50 ?_
        refine lv_goto (tgt := 62) hx hb dX17_of_51 (by decide) ?_
        refine g_zret hx hb hr hlk hH dX17_of_62 (Or.inr rfl) ?_
        exact ⟨Or.inr rfl, Or.inl ⟨by unfold factF; rw [if_neg (by omega), if_neg (by omega), if_pos (by omega)], rfl⟩⟩
  · -- 5F
    refine lv_aload_n hx hb dX17_of_8 rfl (lv_at hl 1 rfl) ?_
    refine e_num hx hb hts hown hK hH hC.1 hC.2.1 q260 dX17_of_9 ?_
    refine n_iconst hx hb dX17_of_12 ?_
    refine g_iald hx hb hK hH 0 hC.2.2.1 rfl (by omega) (by omega) (Nat.le_of_ble_eq_true rfl) dX17_of_13 ?_
    refine lv_aload_n hx hb dX17_of_14 rfl (lv_at hl 0 rfl) ?_
    refine g_get (ci := 14) hx hb hts in_X17 hown hK hH fa rfl 0 (by decide) (hts _ q1063) (fun _ h9 => h9) rfl dX17_of_15 ?_
    refine n_iconst hx hb dX17_of_18 ?_
    refine n_iadd hx hb dX17_of_19 ?_
    refine n_icmp_ne (tgt := 27) hx hb (r32 (by omega)) (r32 (by omega)) dX17_of_20 (by decide) (fun c_20 => ?_) (fun c_20 => ?_)
    · -- 20T
      refine n_iconst hx hb dX17_of_27 ?_
      refine lv_goto (tgt := 62) hx hb dX17_of_28 (by decide) ?_
      refine g_zret hx hb hr hlk hH dX17_of_62 (Or.inl rfl) ?_
      exact ⟨Or.inl rfl, Or.inl ⟨by unfold factF; rw [if_pos (by omega), if_neg (by omega)], rfl⟩⟩
    · -- 20F
      refine n_iconst hx hb dX17_of_23 ?_
      refine lv_goto (tgt := 62) hx hb dX17_of_24 (by decide) ?_
      refine g_zret hx hb hr hlk hH dX17_of_62 (Or.inr rfl) ?_
      exact ⟨Or.inr rfl, Or.inl ⟨by unfold factF; rw [if_pos (by omega), if_pos (by omega)], rfl⟩⟩
theorem kd_X18_of : yX18_of.cls = RX18 ∧ yX18_of.cls ≠ "java/lang/invoke/MethodHandle" ∧ yX18_of.cls ≠ "java/lang/invoke/VarHandle" ∧ (parseMethodDescriptor yX18_of.desc).map (fun d => d.parameters.length) = some 1 := by decide +kernel
theorem xm_X18_of (l : Launch) (G : MG) (M : Hp) (n : Nat) (q_ : Nat) (r_ : Nat) (sg : Int) (f1 : Mean) (f2 : Mean) (ci : Nat) (nb : Nat) (t : Int) (g : Int → Int) (a : Nat) (c_ : Nat) (sz : Nat) (IH : VS l G n) (fa : M a = some (oB 15 [.ref q_, .ref r_, .int (iI sg)])) (hsg : sg = 60 ∨ sg = 61 ∨ sg = 62) (hs1 : SumAt n (hN M) q_ f1) (hs2 : SumAt n (hN M) r_ f2) (hC : CsH G M c_ ci nb 0 t g) : Met l yX18_of (ws_ yX18_of cX18_of 6 (some .boolean)) (rmD (n + 1 + 3)) (gP G.1 clA (tyA G.2.1) XN [.ref a, .ref c_] M sz) (gQi G.1 clA (DA M sz) (fun z M' => oT2 (cmpF (100 + sg) f1 f2) g M c_ ci nb t z M')) 0 0 (DA M sz) := by
  refine g_start (by decide) (Nat.le_of_ble_eq_true rfl) ?_
  intro p e s m below meth c ⟨S, hr, hlk, hH, hK, hXN, hsz, hnm⟩ ls hl
  subst hsz
  obtain ⟨hx, hb, hml, hown, hts⟩ := S
  have S : CallFix p m c _ _ s _ lw_all RX18 := ⟨hx, hb, hml, hown, hts⟩
  have hA : ∀ q, s.heap.size ≤ q → DA M s.heap.size q := fun q hq => Or.inr hq
  have hl : lv_has ls 6 [(0, .ref a), (1, .ref c_)] := hl
  refine lv_aload_n hx hb dX18_of_0 rfl (lv_at hl 0 rfl) ?_
  refine g_get (ci := 15) hx hb hts in_X18 hown hK hH fa rfl 0 (by decide) (hts _ q1076) (fun _ h9 => h9) rfl dX18_of_1 ?_
  refine lv_aload_n hx hb dX18_of_4 rfl (lv_at hl 1 rfl) ?_
  refine g_calll (sum_run S hH hK hXN hl.1 IH hs1 hC q1183 dX18_of_5 ⟨by dsimp only [rmD]; omega, by dsimp only [rmD]; omega⟩ ⟨Nat.le_of_ble_eq_true rfl, Nat.le_of_ble_eq_true rfl⟩ (Nat.le_of_ble_eq_true rfl)) hH hA (fun z5 M5_ H locs q_5 hH hz_5 => ?_)
  rcases q_5 with ⟨e5, g5⟩ | ⟨e5, g5⟩
  · -- 5s
    have hH := HV_to hH g5
    refine lv_lstore_n hx hb dX18_of_8 rfl hl (Nat.le_of_ble_eq_true rfl) (lv' := [(2, .long (lI z5)), (0, .ref a), (1, .ref c_)]) rfl (fun ls hl => ?_)
    refine lv_aload_n hx hb dX18_of_9 rfl (lv_at hl 2 rfl) ?_
    refine e_brk hx hb hts hown hK hH hC.1 hC.2.1 q267 dX18_of_10 ?_
    refine n_if_eq (tgt := 20) hx hb (r32 (by omega)) dX18_of_13 (by decide) (fun _ => ?_) (fun h => absurd h (by decide))
    refine lv_aload_n hx hb dX18_of_20 rfl (lv_at hl 1 rfl) ?_
    refine g_get (ci := 15) hx hb hts in_X18 hown hK hH fa rfl 1 (by decide) (hts _ q1077) (fun _ h9 => h9) rfl dX18_of_21 ?_
    refine lv_aload_n hx hb dX18_of_24 rfl (lv_at hl 2 rfl) ?_
    refine g_calll (sum_run S hH hK hXN hl.1 IH hs2 hC q1183 dX18_of_25 ⟨by dsimp only [rmD]; omega, by dsimp only [rmD]; omega⟩ ⟨Nat.le_of_ble_eq_true rfl, Nat.le_of_ble_eq_true rfl⟩ (Nat.le_of_ble_eq_true rfl)) hH hA (fun z25 M25_ H locs q_25 hH hz_25 => ?_)
    rcases q_25 with ⟨e25, g25⟩ | ⟨e25, g25⟩
    · -- 25s
      have hH := HV_to hH g25
      have hb5 := SumAt_B hC.2.2.2 hs1 z5 e5
      have hb25 := SumAt_B hC.2.2.2 hs2 z25 e25
      refine lv_lstore hx hb dX18_of_28 hl (Nat.le_of_ble_eq_true rfl) (lv' := [(4, .long (lI z25)), (2, .long (lI z5)), (0, .ref a), (1, .ref c_)]) rfl (fun ls hl => ?_)
      refine lv_aload_n hx hb dX18_of_30 rfl (lv_at hl 3 rfl) ?_
      refine e_brk hx hb hts hown hK hH hC.1 hC.2.1 q267 dX18_of_31 ?_
      refine n_if_ne (tgt := 86) hx hb (r32 (by omega)) dX18_of_34 (by decide) (fun h => absurd h (by decide)) (fun _ => ?_)
      refine lv_aload_n hx hb dX18_of_37 rfl (lv_at hl 2 rfl) ?_
      refine g_get (ci := 15) hx hb hts in_X18 hown hK hH fa rfl 2 (by decide) (hts _ q1078) (fun _ h9 => h9) rfl dX18_of_38 ?_
      refine n_bipush (z := 60) hx hb dX18_of_41 (by decide) ?_
      refine n_icmp_ne (tgt := 56) hx hb (r32 (by omega)) (r32 (by omega)) dX18_of_43 (by decide) (fun c_43 => ?_) (fun c_43 => ?_)
      · -- 43T
        refine lv_aload_n hx hb dX18_of_56 rfl (lv_at hl 2 rfl) ?_
        refine g_get (ci := 15) hx hb hts in_X18 hown hK hH fa rfl 2 (by decide) (hts _ q1078) (fun _ h9 => h9) rfl dX18_of_57 ?_
        refine n_bipush (z := 62) hx hb dX18_of_60 (by decide) ?_
        refine n_icmp_ne (tgt := 75) hx hb (r32 (by omega)) (r32 (by omega)) dX18_of_62 (by decide) (fun c_62 => ?_) (fun c_62 => ?_)
        · -- 62T
          refine lv_lload_n hx hb dX18_of_75 rfl (lv_at hl 1 rfl) ?_
          refine lv_lload hx hb dX18_of_76 (lv_at hl 0 rfl) ?_
          refine n_lcmp_ne (tgt := 86) hx hb (r64 (by omega)) (r64 (by omega)) dX18_of_78 dX18_of_79 (by decide) (fun c_78 => ?_) (fun c_78 => ?_)
          · -- 78T
            refine n_iconst hx hb dX18_of_86 ?_
            refine g_zret hx hb hr hlk hH dX18_of_87 (Or.inl rfl) ?_
            exact ⟨Or.inl rfl, Or.inl ⟨by unfold cmpF; rw [e5, e25]; show some _ = some _; rw [if_neg (by rw [if_neg (by omega), if_neg (by omega)]; omega)], rfl⟩⟩
          · -- 78F
            refine n_iconst hx hb dX18_of_82 ?_
            refine lv_goto (tgt := 87) hx hb dX18_of_83 (by decide) ?_
            refine g_zret hx hb hr hlk hH dX18_of_87 (Or.inr rfl) ?_
            exact ⟨Or.inr rfl, Or.inl ⟨by unfold cmpF; rw [e5, e25]; show some _ = some _; rw [if_pos (by rw [if_neg (by omega), if_neg (by omega)]; omega)], rfl⟩⟩
        · -- 62F
          refine lv_lload_n hx hb dX18_of_65 rfl (lv_at hl 1 rfl) ?_
          refine lv_lload hx hb dX18_of_66 (lv_at hl 0 rfl) ?_
          refine n_lcmp_le (tgt := 86) hx hb (r64 (by omega)) (r64 (by omega)) dX18_of_68 dX18_of_69 (by decide) (fun c_68 => ?_) (fun c_68 => ?_)
          · -- 68T
            refine n_iconst hx hb dX18_of_86 ?_
            refine g_zret hx hb hr hlk hH dX18_of_87 (Or.inl rfl) ?_
            exact ⟨Or.inl rfl, Or.inl ⟨by unfold cmpF; rw [e5, e25]; show some _ = some _; rw [if_neg (by rw [if_neg (by omega), if_pos (by omega)]; omega)], rfl⟩⟩
          · -- 68F
            refine lv_goto (tgt := 82) hx hb dX18_of_72 (by decide) ?_
            refine n_iconst hx hb dX18_of_82 ?_
            refine lv_goto (tgt := 87) hx hb dX18_of_83 (by decide) ?_
            refine g_zret hx hb hr hlk hH dX18_of_87 (Or.inr rfl) ?_
            exact ⟨Or.inr rfl, Or.inl ⟨by unfold cmpF; rw [e5, e25]; show some _ = some _; rw [if_pos (by rw [if_neg (by omega), if_pos (by omega)]; omega)], rfl⟩⟩
      · -- 43F
        refine lv_lload_n hx hb dX18_of_46 rfl (lv_at hl 1 rfl) ?_
        refine lv_lload hx hb dX18_of_47 (lv_at hl 0 rfl) ?_
        refine n_lcmp_ge (tgt := 86) hx hb (r64 (by omega)) (r64 (by omega)) dX18_of_49 dX18_of_50 (by decide) (fun c_49 => ?_) (fun c_49 => ?_)
        · -- 49T
          refine n_iconst hx hb dX18_of_86 ?_
          refine g_zret hx hb hr hlk hH dX18_of_87 (Or.inl rfl) ?_
          exact ⟨Or.inl rfl, Or.inl ⟨by unfold cmpF; rw [e5, e25]; show some _ = some _; rw [if_neg (by rw [if_pos (by omega)]; omega)], rfl⟩⟩
        · -- 49F
          refine lv_goto (tgt := 82) hx hb dX18_of_53 (by decide) ?_
          refine n_iconst hx hb dX18_of_82 ?_
          refine lv_goto (tgt := 87) hx hb dX18_of_83 (by decide) ?_
          refine g_zret hx hb hr hlk hH dX18_of_87 (Or.inr rfl) ?_
          exact ⟨Or.inr rfl, Or.inl ⟨by unfold cmpF; rw [e5, e25]; show some _ = some _; rw [if_pos (by rw [if_pos (by omega)]; omega)], rfl⟩⟩
    · -- 25n
      have hH := HV_to hH g25
      have fa2 := (hs_n (ne_oc fa hC.1 hC.2.1 (by decide)) : hs M c_ (csE ci nb 1 t) a = _).trans fa
      refine lv_lstore hx hb dX18_of_28 hl (Nat.le_of_ble_eq_true rfl) (lv' := [(4, .long (lI z25)), (2, .long (lI z5)), (0, .ref a), (1, .ref c_)]) rfl (fun ls hl => ?_)
      refine lv_aload_n hx hb dX18_of_30 rfl (lv_at hl 3 rfl) ?_
      refine e_brk hx hb hts hown hK hH hs_s hC.2.1 q267 dX18_of_31 ?_
      refine n_if_ne (tgt := 86) hx hb (r32 (by omega)) dX18_of_34 (by decide) (fun _ => ?_) (fun h => absurd h (by decide))
      refine n_iconst hx hb dX18_of_86 ?_
      refine g_zret hx hb hr hlk hH dX18_of_87 (Or.inl rfl) ?_
      exact ⟨Or.inl rfl, Or.inr ⟨by unfold cmpF; rw [e5, e25]; rfl, rfl⟩⟩
  · -- 5n
    have hH := HV_to hH g5
    have fa2 := (hs_n (ne_oc fa hC.1 hC.2.1 (by decide)) : hs M c_ (csE ci nb 1 t) a = _).trans fa
    refine lv_lstore_n hx hb dX18_of_8 rfl hl (Nat.le_of_ble_eq_true rfl) (lv' := [(2, .long (lI z5)), (0, .ref a), (1, .ref c_)]) rfl (fun ls hl => ?_)
    refine lv_aload_n hx hb dX18_of_9 rfl (lv_at hl 2 rfl) ?_
    refine e_brk hx hb hts hown hK hH hs_s hC.2.1 q267 dX18_of_10 ?_
    refine n_if_eq (tgt := 20) hx hb (r32 (by omega)) dX18_of_13 (by decide) (fun h => absurd h (by decide)) (fun _ => ?_)
    refine n_lconst (z := 0) hx hb dX18_of_16 (by decide) ?_
    refine lv_goto (tgt := 28) hx hb dX18_of_17 (by decide) ?_
    refine lv_lstore hx hb dX18_of_28 hl (Nat.le_of_ble_eq_true rfl) (lv' := [(4, .long (lI 0)), (2, .long (lI z5)), (0, .ref a), (1, .ref c_)]) rfl (fun ls hl => ?_)
    refine lv_aload_n hx hb dX18_of_30 rfl (lv_at hl 3 rfl) ?_
    refine e_brk hx hb hts hown hK hH hs_s hC.2.1 q267 dX18_of_31 ?_
    refine n_if_ne (tgt := 86) hx hb (r32 (by omega)) dX18_of_34 (by decide) (fun _ => ?_) (fun h => absurd h (by decide))
    refine n_iconst hx hb dX18_of_86 ?_
    refine g_zret hx hb hr hlk hH dX18_of_87 (Or.inl rfl) ?_
    exact ⟨Or.inl rfl, Or.inr ⟨by unfold cmpF; rw [e5]; rfl, rfl⟩⟩
theorem kd_X19_of : yX19_of.cls = RX19 ∧ yX19_of.cls ≠ "java/lang/invoke/MethodHandle" ∧ yX19_of.cls ≠ "java/lang/invoke/VarHandle" ∧ (parseMethodDescriptor yX19_of.desc).map (fun d => d.parameters.length) = some 1 := by decide +kernel
theorem xm_X19_of (l : Launch) (G : MG) (M : Hp) (n : Nat) (q_ : Nat) (f1 : Mean) (ci : Nat) (nb : Nat) (t : Int) (g : Int → Int) (a : Nat) (c_ : Nat) (sz : Nat) (IH : VT l G n) (fa : M a = some (oB 16 [.ref q_])) (hs1 : TestAt G n (hN M) q_ f1) (hC : CsH G M c_ ci nb 0 t g) : Met l yX19_of (ws_ yX19_of cX19_of 2 (some .boolean)) (rmD (n + 1 + 3)) (gP G.1 clA (tyA G.2.1) XN [.ref a, .ref c_] M sz) (gQi G.1 clA (DA M sz) (fun z M' => oT2 (notF f1) g M c_ ci nb t z M')) 0 0 (DA M sz) := by
  refine g_start (by decide) (Nat.le_of_ble_eq_true rfl) ?_
  intro p e s m below meth c ⟨S, hr, hlk, hH, hK, hXN, hsz, hnm⟩ ls hl
  subst hsz
  obtain ⟨hx, hb, hml, hown, hts⟩ := S
  have S : CallFix p m c _ _ s _ lw_all RX19 := ⟨hx, hb, hml, hown, hts⟩
  have hA : ∀ q, s.heap.size ≤ q → DA M s.heap.size q := fun q hq => Or.inr hq
  have hl : lv_has ls 2 [(0, .ref a), (1, .ref c_)] := hl
  refine lv_aload_n hx hb dX19_of_0 rfl (lv_at hl 0 rfl) ?_
  refine g_get (ci := 16) hx hb hts in_X19 hown hK hH fa rfl 0 (by decide) (hts _ q1092) (fun _ h9 => h9) rfl dX19_of_1 ?_
  refine lv_aload_n hx hb dX19_of_4 rfl (lv_at hl 1 rfl) ?_
  refine g_calli (test_run S hH hK hXN hl.1 IH hs1 hC q1216 dX19_of_5 ⟨by dsimp only [rmD]; omega, by dsimp only [rmD]; omega⟩ ⟨Nat.le_of_ble_eq_true rfl, Nat.le_of_ble_eq_true rfl⟩ (Nat.le_of_ble_eq_true rfl)) hH hA (fun z5 M5_ H locs q_5 hH hz_5 => ?_)
  obtain ⟨w5, q_5⟩ := q_5
  rcases q_5 with ⟨e5, g5⟩ | ⟨e5, g5⟩
  · -- 5s
    have hH := HV_to hH g5
    refine n_if_ne (tgt := 22) hx hb (r32 (by omega)) dX19_of_8 (by decide) (fun c_8 => ?_) (fun c_8 => ?_)
    · -- 8T
      refine n_iconst hx hb dX19_of_22 ?_
      refine g_zret hx hb hr hlk hH dX19_of_23 (Or.inl rfl) ?_
      exact ⟨Or.inl rfl, Or.inl ⟨by unfold notF; rw [e5]; show some (if z5 = 0 then (1 : Int) else 0) = some _; rw [if_neg (by omega)], rfl⟩⟩
    · -- 8F
      refine lv_aload_n hx hb dX19_of_11 rfl (lv_at hl 1 rfl) ?_
      refine e_brk hx hb hts hown hK hH hC.1 hC.2.1 q268 dX19_of_12 ?_
      refine n_if_ne (tgt := 22) hx hb (r32 (by omega)) dX19_of_15 (by decide) (fun h => absurd h (by decide)) (fun _ => ?_)
      refine n_iconst hx hb dX19_of_18 ?_
      refine lv_goto (tgt := 23) hx hb dX19_of_19 (by decide) ?_
      refine g_zret hx hb hr hlk hH dX19_of_23 (Or.inr rfl) ?_
      exact ⟨Or.inr rfl, Or.inl ⟨by unfold notF; rw [e5]; show some (if z5 = 0 then (1 : Int) else 0) = some _; rw [if_pos (by omega)], rfl⟩⟩
  · -- 5n
    have hH := HV_to hH g5
    have fa2 := (hs_n (ne_oc fa hC.1 hC.2.1 (by decide)) : hs M c_ (csE ci nb 1 t) a = _).trans fa
    refine n_if_ne (tgt := 22) hx hb (r32 (by omega)) dX19_of_8 (by decide) (fun c_8 => ?_) (fun c_8 => ?_)
    · -- 8T
      refine n_iconst hx hb dX19_of_22 ?_
      refine g_zret hx hb hr hlk hH dX19_of_23 (Or.inl rfl) ?_
      exact ⟨Or.inl rfl, Or.inr ⟨by unfold notF; rw [e5]; rfl, rfl⟩⟩
    · -- 8F
      refine lv_aload_n hx hb dX19_of_11 rfl (lv_at hl 1 rfl) ?_
      refine e_brk hx hb hts hown hK hH hs_s hC.2.1 q268 dX19_of_12 ?_
      refine n_if_ne (tgt := 22) hx hb (r32 (by omega)) dX19_of_15 (by decide) (fun _ => ?_) (fun h => absurd h (by decide))
      refine n_iconst hx hb dX19_of_22 ?_
      refine g_zret hx hb hr hlk hH dX19_of_23 (Or.inl rfl) ?_
      exact ⟨Or.inl rfl, Or.inr ⟨by unfold notF; rw [e5]; rfl, rfl⟩⟩
theorem kd_X20_of : yX20_of.cls = RX20 ∧ yX20_of.cls ≠ "java/lang/invoke/MethodHandle" ∧ yX20_of.cls ≠ "java/lang/invoke/VarHandle" ∧ (parseMethodDescriptor yX20_of.desc).map (fun d => d.parameters.length) = some 1 := by decide +kernel
theorem xm_X20_of (l : Launch) (G : MG) (M : Hp) (n : Nat) (all : Int) (ar : Nat) (k_ : Nat) (F : Int → Option Nat) (f0 : Mean) (fl : List Mean) (ci : Nat) (nb : Nat) (t : Int) (g : Int → Int) (a : Nat) (c_ : Nat) (sz : Nat) (IH : VT l G n) (fa : M a = some (oB 17 [.int (iI all), .ref ar])) (hall : all = 0 ∨ all = 1) (far : M ar = some (aQ (G.2.1 10) k_ F)) (hk : (k_ : Int) = fl.length + 1) (hk2 : k_ < 2147483648) (hF : ∀ i : Nat, i < k_ → ∃ q, F i = some q ∧ TestAt G n (hN M) q ((f0 :: fl).getD i f0)) (hC : CsH G M c_ ci nb 0 t g) : Met l yX20_of (ws_ yX20_of cX20_of 7 (some .boolean)) (rmD (n + 1 + 3)) (gP G.1 clA (tyA G.2.1) XN [.ref a, .ref c_] M sz) (gQi G.1 clA (DA M sz) (fun z M' => oT2 (foldF all f0 fl) g M c_ ci nb t z M')) 0 0 (DA M sz) := by
  refine g_start (by decide) (Nat.le_of_ble_eq_true rfl) ?_
  intro p e s m below meth c ⟨S, hr, hlk, hH, hK, hXN, hsz, hnm⟩ ls hl
  subst hsz
  obtain ⟨hx, hb, hml, hown, hts⟩ := S
  have S : CallFix p m c _ _ s _ lw_all RX20 := ⟨hx, hb, hml, hown, hts⟩
  have hA : ∀ q, s.heap.size ≤ q → DA M s.heap.size q := fun q hq => Or.inr hq
  have hl : lv_has ls 7 [(0, .ref a), (1, .ref c_)] := hl
  have L11 : ∀ (q : Nat) (i : Int), (hi0 : 0 ≤ i) → (hi1 : i ≤ (k_ : Int)) → (hq : (k_ : Int) < (q : Int) + i) → (he1 : i < (k_ : Int) → foldF all f0 fl g = foldF all ((f0 :: fl).getD i.toNat f0) (fl.drop i.toNat) g) → (he2 : i = (k_ : Int) → foldF all f0 fl g = some all) → ∀ (H : Heap) (locs : List Loc) (ls : Array Slot), HV G.1 clA (DA M s.heap.size) M s.heap H locs → lv_has ls 7 [(0, .ref a), (1, .ref c_), (2, .ref ar), (3, .int (iI (k_ : Int))), (4, .int (iI i))] → W p l e (rmD (n + 1 + 3)) s m ([.ref a, .ref c_] : List Value).toArray below meth c H locs 0 0 (MQ below (gQi G.1 clA (DA M s.heap.size) (fun z M' => oT2 (foldF all f0 fl) g M c_ ci nb t z M')) ([.ref a, .ref c_] : List Value).toArray s 0 0 (DA M s.heap.size)) (F0 m 11 ls []) := by
    intro q
    induction q with
    | zero => intro i hi0 hi1 hq he1 he2; exfalso; omega
    | succ q ih_11 =>
      intro i hi0 hi1 hq he1 he2 H locs ls hH hl
      refine lv_iload hx hb dX20_of_11 (lv_at hl 4 rfl) ?_
      refine lv_iload_n hx hb dX20_of_13 rfl (lv_at hl 3 rfl) ?_
      refine n_icmp_ge (tgt := 68) hx hb (r32 (by omega)) (r32 (by omega)) dX20_of_14 (by decide) (fun c_14 => ?_) (fun c_14 => ?_)
      · -- 14T
        refine lv_aload_n hx hb dX20_of_68 rfl (lv_at hl 0 rfl) ?_
        refine g_get (ci := 17) hx hb hts in_X20 hown hK hH fa rfl 0 (by decide) (hts _ q1112) (fun _ h9 => h9) rfl dX20_of_69 ?_
        refine g_zret hx hb hr hlk hH dX20_of_72 hall ?_
        exact ⟨hall, Or.inl ⟨he2 (by omega), rfl⟩⟩
      · -- 14F
        obtain ⟨y, hy1, hy2⟩ := hF i.toNat (by omega)
        rw [Int.toNat_of_nonneg hi0] at hy1
        refine lv_aload_n hx hb dX20_of_17 rfl (lv_at hl 2 rfl) ?_
        refine lv_iload hx hb dX20_of_18 (lv_at hl 4 rfl) ?_
        refine g_aald hx hb hK hH 10 far rfl (by omega) (by omega) hk2 (v := some y) hy1 dX20_of_20 ?_
        refine lv_astore hx hb dX20_of_21 hl (Nat.le_of_ble_eq_true rfl) (lv' := [(5, .ref y), (0, .ref a), (1, .ref c_), (2, .ref ar), (3, .int (iI (k_ : Int))), (4, .int (iI i))]) rfl (fun ls hl => ?_)
        refine lv_aload hx hb dX20_of_23 (lv_at hl 0 rfl) ?_
        refine lv_aload_n hx hb dX20_of_25 rfl (lv_at hl 2 rfl) ?_
        refine g_calli (test_run S hH hK hXN hl.1 IH hy2 hC q1219 dX20_of_26 ⟨by dsimp only [rmD]; omega, by dsimp only [rmD]; omega⟩ ⟨Nat.le_of_ble_eq_true rfl, Nat.le_of_ble_eq_true rfl⟩ (Nat.le_of_ble_eq_true rfl)) hH hA (fun z26 M26_ H locs q_26 hH hz_26 => ?_)
        obtain ⟨w26, q_26⟩ := q_26
        rcases q_26 with ⟨e26, g26⟩ | ⟨e26, g26⟩
        · -- 26s
          have hH := HV_to hH g26
          refine lv_istore hx hb dX20_of_29 hl (Nat.le_of_ble_eq_true rfl) (lv' := [(6, .int (iI z26)), (5, .ref y), (0, .ref a), (1, .ref c_), (2, .ref ar), (3, .int (iI (k_ : Int))), (4, .int (iI i))]) rfl (fun ls hl => ?_)
          refine lv_aload_n hx hb dX20_of_31 rfl (lv_at hl 3 rfl) ?_
          refine e_brk hx hb hts hown hK hH hC.1 hC.2.1 q269 dX20_of_32 ?_
          refine n_if_eq (tgt := 40) hx hb (r32 (by omega)) dX20_of_35 (by decide) (fun _ => ?_) (fun h => absurd h (by decide))
          refine lv_iload hx hb dX20_of_40 (lv_at hl 0 rfl) ?_
          refine lv_aload_n hx hb dX20_of_42 rfl (lv_at hl 2 rfl) ?_
          refine g_get (ci := 17) hx hb hts in_X20 hown hK hH fa rfl 0 (by decide) (hts _ q1112) (fun _ h9 => h9) rfl dX20_of_43 ?_
          refine n_icmp_eq (tgt := 62) hx hb (r32 (by omega)) (r32 (by omega)) dX20_of_46 (by decide) (fun c_46 => ?_) (fun c_46 => ?_)
          · -- 46T
            refine n_iinc hx hb dX20_of_62 hl (k := 6) rfl (Nat.le_of_ble_eq_true rfl) (lv' := [(4, .int (iI (i + 1))), (6, .int (iI z26)), (5, .ref y), (0, .ref a), (1, .ref c_), (2, .ref ar), (3, .int (iI (k_ : Int)))]) rfl (fun ls hl => ?_)
            refine lv_goto (tgt := 11) hx hb dX20_of_65 (by decide) ?_
            have hl : lv_has ls 7 [(0, .ref a), (1, .ref c_), (2, .ref ar), (3, .int (iI (k_ : Int))), (4, .int (iI (i + 1)))] := lv_sub hl [3, 4, 5, 6, 0] rfl
            refine ih_11 (i + 1) ?_ ?_ ?_ ?_ ?_ _ _ _ hH hl
            · omega
            · omega
            · omega
            · intro z
              rw [he1 (by omega), show fl.drop i.toNat = ((f0 :: fl).getD (i + 1).toNat f0) :: fl.drop (i + 1).toNat from fold_dr (by omega) hi0]
              exact fold_c hall (by rw [e26, c_46])
            · intro z
              rw [he1 (by omega), List.drop_eq_nil_of_le (show fl.length ≤ i.toNat by omega)]
              show ((f0 :: fl).getD i.toNat f0) g = _
              rw [e26, c_46]
          · -- 46F
            refine lv_aload_n hx hb dX20_of_49 rfl (lv_at hl 2 rfl) ?_
            refine g_get (ci := 17) hx hb hts in_X20 hown hK hH fa rfl 0 (by decide) (hts _ q1112) (fun _ h9 => h9) rfl dX20_of_50 ?_
            refine n_if_ne (tgt := 60) hx hb (r32 (by omega)) dX20_of_53 (by decide) (fun c_53 => ?_) (fun c_53 => ?_)
            · -- 53T
              refine n_iconst hx hb dX20_of_60 ?_
              refine g_zret hx hb hr hlk hH dX20_of_61 (Or.inl rfl) ?_
              exact ⟨Or.inl rfl, Or.inl ⟨by rw [he1 (by omega)]; exact fold_d hall (by omega) (by omega) _ _ (by rw [e26, show z26 = 0 by omega]), rfl⟩⟩
            · -- 53F
              refine n_iconst hx hb dX20_of_56 ?_
              refine lv_goto (tgt := 61) hx hb dX20_of_57 (by decide) ?_
              refine g_zret hx hb hr hlk hH dX20_of_61 (Or.inr rfl) ?_
              exact ⟨Or.inr rfl, Or.inl ⟨by rw [he1 (by omega)]; exact fold_d hall (by omega) (by omega) _ _ (by rw [e26, show z26 = 1 by omega]), rfl⟩⟩
        · -- 26n
          have hH := HV_to hH g26
          have fa2 := (hs_n (ne_oc fa hC.1 hC.2.1 (by decide)) : hs M c_ (csE ci nb 1 t) a = _).trans fa
          refine lv_istore hx hb dX20_of_29 hl (Nat.le_of_ble_eq_true rfl) (lv' := [(6, .int (iI z26)), (5, .ref y), (0, .ref a), (1, .ref c_), (2, .ref ar), (3, .int (iI (k_ : Int))), (4, .int (iI i))]) rfl (fun ls hl => ?_)
          refine lv_aload_n hx hb dX20_of_31 rfl (lv_at hl 3 rfl) ?_
          refine e_brk hx hb hts hown hK hH hs_s hC.2.1 q269 dX20_of_32 ?_
          refine n_if_eq (tgt := 40) hx hb (r32 (by omega)) dX20_of_35 (by decide) (fun h => absurd h (by decide)) (fun _ => ?_)
          refine n_iconst hx hb dX20_of_38 ?_
          refine g_zret hx hb hr hlk hH dX20_of_39 (Or.inl rfl) ?_
          exact ⟨Or.inl rfl, Or.inr ⟨by rw [he1 (by omega)]; exact fold_n _ _ e26, rfl⟩⟩
  refine lv_aload_n hx hb dX20_of_0 rfl (lv_at hl 0 rfl) ?_
  refine g_get (ci := 17) hx hb hts in_X20 hown hK hH fa rfl 1 (by decide) (hts _ q1113) (fun _ h9 => h9) rfl dX20_of_1 ?_
  refine lv_astore_n hx hb dX20_of_4 rfl hl (Nat.le_of_ble_eq_true rfl) (lv' := [(2, .ref ar), (0, .ref a), (1, .ref c_)]) rfl (fun ls hl => ?_)
  refine lv_aload_n hx hb dX20_of_5 rfl (lv_at hl 0 rfl) ?_
  refine g_alenI (n := ((k_ : Nat) : Int)) hx hb hK hH 10 far rfl rfl dX20_of_6 ?_
  refine lv_istore_n hx hb dX20_of_7 rfl hl (Nat.le_of_ble_eq_true rfl) (lv' := [(3, .int (iI ((k_ : Nat) : Int))), (2, .ref ar), (0, .ref a), (1, .ref c_)]) rfl (fun ls hl => ?_)
  refine n_iconst hx hb dX20_of_8 ?_
  refine lv_istore hx hb dX20_of_9 hl (Nat.le_of_ble_eq_true rfl) (lv' := [(4, .int (iI 0)), (3, .int (iI ((k_ : Nat) : Int))), (2, .ref ar), (0, .ref a), (1, .ref c_)]) rfl (fun ls hl => ?_)
  have hl : lv_has ls 7 [(0, .ref a), (1, .ref c_), (2, .ref ar), (3, .int (iI ((k_ : Nat) : Int))), (4, .int (iI 0))] := lv_sub hl [3, 4, 2, 1, 0] rfl
  refine L11 (k_ + 1) 0 ?_ ?_ ?_ ?_ ?_ _ _ _ hH hl
  · omega
  · omega
  · omega
  · intro _; rfl
  · intro z; omega
theorem vt_all (l : Launch) (G : MG) : ∀ n : Nat, VT l G n
  | 0 => fun h a c_ ci nb t g f sz hs _ => hs.elim
  | n + 1 => fun h a c_ ci nb t g f sz hs hC => by
    rcases hs with ⟨k, h1, hk, rfl⟩ | ⟨q_, r_, sg, f1, f2, h1, hsg, h2, h3, rfl⟩ | ⟨q_, f1, h1, h2, rfl⟩ | ⟨all, ar, k, F, f0, fl, h1, hall, h2, hk2, hk, hF, rfl⟩
    · exact Or.inl ⟨_, nO rfl h1 rfl, xm_X17_of l G h (n + 1) k ci nb t g a c_ sz (nO rfl h1 rfl) hk hC⟩
    · exact Or.inr (Or.inl ⟨_, nO rfl h1 rfl, xm_X18_of l G h n q_ r_ sg f1 f2 ci nb t g a c_ sz (vs_all l G n) (nO rfl h1 rfl) hsg h2 h3 hC⟩)
    · exact Or.inr (Or.inr (Or.inl ⟨_, nO rfl h1 rfl, xm_X19_of l G h n q_ f1 ci nb t g a c_ sz (vt_all l G n) (nO rfl h1 rfl) h2 hC⟩))
    · exact Or.inr (Or.inr (Or.inr ⟨_, nO rfl h1 rfl, xm_X20_of l G h n all ar k F f0 fl ci nb t g a c_ sz (vt_all l G n) (nO rfl h1 rfl) hall (nA rfl h2) hk hk2 hF hC⟩))
