theorem kd_X13_of : yX13_of.cls = RX13 ∧ yX13_of.cls ≠ "java/lang/invoke/MethodHandle" ∧ yX13_of.cls ≠ "java/lang/invoke/VarHandle" ∧ (parseMethodDescriptor yX13_of.desc).map (fun d => d.parameters.length) = some 1 := by decide +kernel
theorem xm_X13_of (l : Launch) (G : MG) (M : Hp) (n : Nat) (v : Int) (ci : Nat) (nb : Nat) (t : Int) (g : Int → Int) (a : Nat) (c_ : Nat) (sz : Nat) (fa : M a = some (oB 11 [.int (iI v)])) (hv : 0 ≤ v ∧ v ≤ 100000) (hC : CsH G M c_ ci nb 0 t g) : Met l yX13_of (ws_ yX13_of cX13_of 2 (some .long)) (rmD (n + 3)) (gP G.1 clA (tyA G.2.1) XN [.ref a, .ref c_] M sz) (gQl G.1 clA (DA M sz) (fun z M' => oE (fun _ => some v) g M c_ ci nb t z M')) 0 0 (DA M sz) := by
  refine g_start (by decide) (Nat.le_of_ble_eq_true rfl) ?_
  intro p e s m below meth c ⟨S, hr, hlk, hH, hK, hXN, hsz, hnm⟩ ls hl
  subst hsz
  obtain ⟨hx, hb, hml, hown, hts⟩ := S
  have S : CallFix p m c _ _ s _ lw_all RX13 := ⟨hx, hb, hml, hown, hts⟩
  have hA : ∀ q, s.heap.size ≤ q → DA M s.heap.size q := fun q hq => Or.inr hq
  have hl : lv_has ls 2 [(0, .ref a), (1, .ref c_)] := hl
  refine lv_aload_n hx hb dX13_of_0 rfl (lv_at hl 0 rfl) ?_
  refine g_get (ci := 11) hx hb hts in_X13 hown hK hH fa rfl 0 (by decide) (hts _ q1004) (fun _ h9 => h9) rfl dX13_of_1 ?_
  refine n_i2l hx hb (r32 (by omega)) dX13_of_4 ?_
  refine g_lret hx hb hr hlk hH dX13_of_5 ?_
  exact Or.inl ⟨rfl, rfl⟩
theorem kd_X14_of : yX14_of.cls = RX14 ∧ yX14_of.cls ≠ "java/lang/invoke/MethodHandle" ∧ yX14_of.cls ≠ "java/lang/invoke/VarHandle" ∧ (parseMethodDescriptor yX14_of.desc).map (fun d => d.parameters.length) = some 1 := by decide +kernel
theorem xm_X14_of (l : Launch) (G : MG) (M : Hp) (n : Nat) (k : Int) (ci : Nat) (nb : Nat) (t : Int) (g : Int → Int) (a : Nat) (c_ : Nat) (sz : Nat) (fa : M a = some (oB 12 [.int (iI k)])) (hk : 0 ≤ k ∧ k < 9) (hC : CsH G M c_ ci nb 0 t g) : Met l yX14_of (ws_ yX14_of cX14_of 2 (some .long)) (rmD (n + 3)) (gP G.1 clA (tyA G.2.1) XN [.ref a, .ref c_] M sz) (gQl G.1 clA (DA M sz) (fun z M' => oE (fun g => some (g k)) g M c_ ci nb t z M')) 0 0 (DA M sz) := by
  refine g_start (by decide) (Nat.le_of_ble_eq_true rfl) ?_
  intro p e s m below meth c ⟨S, hr, hlk, hH, hK, hXN, hsz, hnm⟩ ls hl
  subst hsz
  obtain ⟨hx, hb, hml, hown, hts⟩ := S
  have S : CallFix p m c _ _ s _ lw_all RX14 := ⟨hx, hb, hml, hown, hts⟩
  have hA : ∀ q, s.heap.size ≤ q → DA M s.heap.size q := fun q hq => Or.inr hq
  have hl : lv_has ls 2 [(0, .ref a), (1, .ref c_)] := hl
  have hg := caseOK_b hC.2.2.2 hk.1 hk.2
  refine lv_aload_n hx hb dX14_of_0 rfl (lv_at hl 1 rfl) ?_
  refine e_num hx hb hts hown hK hH hC.1 hC.2.1 q259 dX14_of_1 ?_
  refine lv_aload_n hx hb dX14_of_4 rfl (lv_at hl 0 rfl) ?_
  refine g_get (ci := 12) hx hb hts in_X14 hown hK hH fa rfl 0 (by decide) (hts _ q1014) (fun _ h9 => h9) rfl dX14_of_5 ?_
  refine g_iald hx hb hK hH 0 hC.2.2.1 rfl (by omega) (by omega) (Nat.le_of_ble_eq_true rfl) dX14_of_8 ?_
  refine n_i2l hx hb (r32 (by omega)) dX14_of_9 ?_
  refine g_lret hx hb hr hlk hH dX14_of_10 ?_
  exact Or.inl ⟨rfl, rfl⟩
theorem kd_X2_within : yX2_within.cls = RX2 ∧ yX2_within.cls ≠ "java/lang/invoke/MethodHandle" ∧ yX2_within.cls ≠ "java/lang/invoke/VarHandle" ∧ (parseMethodDescriptor yX2_within.desc).map (fun d => d.parameters.length) = some 1 := by decide +kernel
theorem xm_X2_within (l : Launch) (G : MG) (M : Hp) (ci : Nat) (nb : Nat) (t : Int) (g : Int → Int) (c_ : Nat) (v : Int) (sz : Nat) (hC : CsH G M c_ ci nb 0 t g) (hv : R64 v) : Met l yX2_within (ws_ yX2_within cX2_within 3 (some .long)) (rmD 1) (gP G.1 clA (tyA G.2.1) XN [.ref c_, .long (lI v)] M sz) (gQl G.1 clA (DA M sz) (fun z M' => oE (fun _ => bnd v) g M c_ ci nb t z M')) 0 0 (DA M sz) := by
  refine g_start (by decide) (Nat.le_of_ble_eq_true rfl) ?_
  intro p e s m below meth c ⟨S, hr, hlk, hH, hK, hXN, hsz, hnm⟩ ls hl
  subst hsz
  obtain ⟨hx, hb, hml, hown, hts⟩ := S
  have S : CallFix p m c _ _ s _ lw_all RX2 := ⟨hx, hb, hml, hown, hts⟩
  have hA : ∀ q, s.heap.size ≤ q → DA M s.heap.size q := fun q hq => Or.inr hq
  have hl : lv_has ls 3 [(0, .ref c_), (1, .long (lI v))] := hl
  have hv := hv
  unfold R64 at hv
  refine lv_aload_n hx hb dX2_within_0 rfl (lv_at hl 0 rfl) ?_
  refine lv_aload_n hx hb dX2_within_1 rfl (lv_at hl 0 rfl) ?_
  refine e_brk hx hb hts hown hK hH hC.1 hC.2.1 q270 dX2_within_2 ?_
  refine n_if_ne (tgt := 24) hx hb (r32 (by omega)) dX2_within_5 (by decide) (fun h => absurd h (by decide)) (fun _ => ?_)
  refine lv_lload_n hx hb dX2_within_8 rfl (lv_at hl 1 rfl) ?_
  refine lv_ldc2 (v := lI 1000000000) hx hb hown (hts _ q1201) dX2_within_9 ?_
  refine n_lcmp_gt (tgt := 24) hx hb (r64 (by omega)) (r64 (by omega)) dX2_within_12 dX2_within_13 (by decide) (fun c_12 => ?_) (fun c_12 => ?_)
  · -- 12T
    refine n_iconst hx hb dX2_within_24 ?_
    refine lv_goto (tgt := 29) hx hb dX2_within_25 (by decide) ?_
    refine e_setb hx hb hts hown hK hH hC.1 hC.2.1 q270 (Or.inr rfl) dX2_within_29 (fun H locs hH => ?_)
    have f1 : hs M c_ (csE ci nb 1 t) c_ = some (csE ci nb 1 t) := hs_s
    obtain ⟨M1, e_M1⟩ : ∃ M1, M1 = hs M c_ (csE ci nb 1 t) := ⟨_, rfl⟩
    have hH := HV_to hH e_M1.symm
    have f1 : M1 c_ = some (csE ci nb 1 t) := by rw [e_M1]; exact hs_s
    refine lv_aload_n hx hb dX2_within_32 rfl (lv_at hl 0 rfl) ?_
    refine e_brk hx hb hts hown hK hH f1 hC.2.1 q270 dX2_within_33 ?_
    refine n_if_eq (tgt := 43) hx hb (r32 (by omega)) dX2_within_36 (by decide) (fun h => absurd h (by decide)) (fun _ => ?_)
    refine n_lconst (z := 0) hx hb dX2_within_39 (by decide) ?_
    refine lv_goto (tgt := 44) hx hb dX2_within_40 (by decide) ?_
    refine g_lret hx hb hr hlk hH dX2_within_44 ?_
    first | exact Or.inr ⟨if_pos (by omega), by assumption⟩ | exact Or.inl ⟨if_neg (by omega), (by assumption : _ = hs M c_ _).trans (hs_id hC.1)⟩
  · -- 12F
    refine lv_lload_n hx hb dX2_within_16 rfl (lv_at hl 1 rfl) ?_
    refine lv_ldc2 (v := lI (-1000000000)) hx hb hown (by have h9 := hts _ q1202; rw [show ((-1000000000) : Int64) = lI (-1000000000) by decide +kernel] at h9; exact h9) dX2_within_17 ?_
    refine n_lcmp_ge (tgt := 28) hx hb (r64 (by omega)) (r64 (by omega)) dX2_within_20 dX2_within_21 (by decide) (fun c_20 => ?_) (fun c_20 => ?_)
    · -- 20T
      refine n_iconst hx hb dX2_within_28 ?_
      refine e_setb hx hb hts hown hK hH hC.1 hC.2.1 q270 (Or.inl rfl) dX2_within_29 (fun H locs hH => ?_)
      have f2 : hs M c_ (csE ci nb 0 t) c_ = some (csE ci nb 0 t) := hs_s
      obtain ⟨M2, e_M2⟩ : ∃ M2, M2 = hs M c_ (csE ci nb 0 t) := ⟨_, rfl⟩
      have hH := HV_to hH e_M2.symm
      have f2 : M2 c_ = some (csE ci nb 0 t) := by rw [e_M2]; exact hs_s
      refine lv_aload_n hx hb dX2_within_32 rfl (lv_at hl 0 rfl) ?_
      refine e_brk hx hb hts hown hK hH f2 hC.2.1 q270 dX2_within_33 ?_
      refine n_if_eq (tgt := 43) hx hb (r32 (by omega)) dX2_within_36 (by decide) (fun _ => ?_) (fun h => absurd h (by decide))
      refine lv_lload_n hx hb dX2_within_43 rfl (lv_at hl 1 rfl) ?_
      refine g_lret hx hb hr hlk hH dX2_within_44 ?_
      first | exact Or.inr ⟨if_pos (by omega), by assumption⟩ | exact Or.inl ⟨if_neg (by omega), (by assumption : _ = hs M c_ _).trans (hs_id hC.1)⟩
    · -- 20F
      refine n_iconst hx hb dX2_within_24 ?_
      refine lv_goto (tgt := 29) hx hb dX2_within_25 (by decide) ?_
      refine e_setb hx hb hts hown hK hH hC.1 hC.2.1 q270 (Or.inr rfl) dX2_within_29 (fun H locs hH => ?_)
      have f3 : hs M c_ (csE ci nb 1 t) c_ = some (csE ci nb 1 t) := hs_s
      obtain ⟨M3, e_M3⟩ : ∃ M3, M3 = hs M c_ (csE ci nb 1 t) := ⟨_, rfl⟩
      have hH := HV_to hH e_M3.symm
      have f3 : M3 c_ = some (csE ci nb 1 t) := by rw [e_M3]; exact hs_s
      refine lv_aload_n hx hb dX2_within_32 rfl (lv_at hl 0 rfl) ?_
      refine e_brk hx hb hts hown hK hH f3 hC.2.1 q270 dX2_within_33 ?_
      refine n_if_eq (tgt := 43) hx hb (r32 (by omega)) dX2_within_36 (by decide) (fun h => absurd h (by decide)) (fun _ => ?_)
      refine n_lconst (z := 0) hx hb dX2_within_39 (by decide) ?_
      refine lv_goto (tgt := 44) hx hb dX2_within_40 (by decide) ?_
      refine g_lret hx hb hr hlk hH dX2_within_44 ?_
      first | exact Or.inr ⟨if_pos (by omega), by assumption⟩ | exact Or.inl ⟨if_neg (by omega), (by assumption : _ = hs M c_ _).trans (hs_id hC.1)⟩
theorem kd_X2_hasAir : yX2_hasAir.cls = RX2 ∧ yX2_hasAir.cls ≠ "java/lang/invoke/MethodHandle" ∧ yX2_hasAir.cls ≠ "java/lang/invoke/VarHandle" ∧ (parseMethodDescriptor yX2_hasAir.desc).map (fun d => d.parameters.length) = some 0 := by decide +kernel
theorem xm_X2_hasAir (l : Launch) (G : MG) (M : Hp) (b : Int) (ci : Nat) (nb : Nat) (t : Int) (g : Int → Int) (c_ : Nat) (sz : Nat) (hC : CsH G M c_ ci nb b t g) : Met l yX2_hasAir (ws_ yX2_hasAir cX2_hasAir 2 (some .boolean)) (rmD 1) (gP G.1 clA (tyA G.2.1) XN [.ref c_] M sz) (gQi G.1 clA (DA M sz) (fun z M' => z = zb (airP (g 1) (g 6)) ∧ M' = M)) 0 0 (DA M sz) := by
  refine g_start (by decide) (Nat.le_of_ble_eq_true rfl) ?_
  intro p e s m below meth c ⟨S, hr, hlk, hH, hK, hXN, hsz, hnm⟩ ls hl
  subst hsz
  obtain ⟨hx, hb, hml, hown, hts⟩ := S
  have S : CallFix p m c _ _ s _ lw_all RX2 := ⟨hx, hb, hml, hown, hts⟩
  have hA : ∀ q, s.heap.size ≤ q → DA M s.heap.size q := fun q hq => Or.inr hq
  have hl : lv_has ls 2 [(0, .ref c_)] := hl
  have hg := hC.2.2.2
  unfold caseOK at hg
  refine lv_aload_n hx hb dX2_hasAir_0 rfl (lv_at hl 0 rfl) ?_
  refine e_num hx hb hts hown hK hH hC.1 hC.2.1 q258 dX2_hasAir_1 ?_
  refine n_iconst hx hb dX2_hasAir_4 ?_
  refine g_iald hx hb hK hH 0 hC.2.2.1 rfl (by omega) (by omega) (Nat.le_of_ble_eq_true rfl) dX2_hasAir_5 ?_
  refine lv_istore_n hx hb dX2_hasAir_6 rfl hl (Nat.le_of_ble_eq_true rfl) (lv' := [(1, .int (iI (g 1))), (0, .ref c_)]) rfl (fun ls hl => ?_)
  refine lv_iload_n hx hb dX2_hasAir_7 rfl (lv_at hl 0 rfl) ?_
  refine n_if_eq (tgt := 31) hx hb (r32 (by omega)) dX2_hasAir_8 (by decide) (fun c_8 => ?_) (fun c_8 => ?_)
  · -- 8T
    refine n_iconst hx hb dX2_hasAir_31 ?_
    refine lv_goto (tgt := 36) hx hb dX2_hasAir_32 (by decide) ?_
    refine g_zret hx hb hr hlk hH dX2_hasAir_36 (Or.inr rfl) ?_
    refine ⟨?_, rfl⟩
    first | exact (zb_t (by unfold airP; omega)).symm | exact (zb_f (by unfold airP; omega)).symm
  · -- 8F
    refine lv_iload_n hx hb dX2_hasAir_11 rfl (lv_at hl 0 rfl) ?_
    refine n_iconst hx hb dX2_hasAir_12 ?_
    refine n_icmp_eq (tgt := 31) hx hb (r32 (by omega)) (r32 (by omega)) dX2_hasAir_13 (by decide) (fun c_13 => ?_) (fun c_13 => ?_)
    · -- 13T
      refine n_iconst hx hb dX2_hasAir_31 ?_
      refine lv_goto (tgt := 36) hx hb dX2_hasAir_32 (by decide) ?_
      refine g_zret hx hb hr hlk hH dX2_hasAir_36 (Or.inr rfl) ?_
      refine ⟨?_, rfl⟩
      first | exact (zb_t (by unfold airP; omega)).symm | exact (zb_f (by unfold airP; omega)).symm
    · -- 13F
      refine lv_iload_n hx hb dX2_hasAir_16 rfl (lv_at hl 0 rfl) ?_
      refine n_iconst hx hb dX2_hasAir_17 ?_
      refine n_icmp_eq (tgt := 31) hx hb (r32 (by omega)) (r32 (by omega)) dX2_hasAir_18 (by decide) (fun c_18 => ?_) (fun c_18 => ?_)
      · -- 18T
        refine n_iconst hx hb dX2_hasAir_31 ?_
        refine lv_goto (tgt := 36) hx hb dX2_hasAir_32 (by decide) ?_
        refine g_zret hx hb hr hlk hH dX2_hasAir_36 (Or.inr rfl) ?_
        refine ⟨?_, rfl⟩
        first | exact (zb_t (by unfold airP; omega)).symm | exact (zb_f (by unfold airP; omega)).symm
      · -- 18F
        refine lv_aload_n hx hb dX2_hasAir_21 rfl (lv_at hl 1 rfl) ?_
        refine e_num hx hb hts hown hK hH hC.1 hC.2.1 q258 dX2_hasAir_22 ?_
        refine n_bipush (z := 6) hx hb dX2_hasAir_25 (by decide) ?_
        refine g_iald hx hb hK hH 0 hC.2.2.1 rfl (by omega) (by omega) (Nat.le_of_ble_eq_true rfl) dX2_hasAir_27 ?_
        refine n_if_le (tgt := 35) hx hb (r32 (by omega)) dX2_hasAir_28 (by decide) (fun c_28 => ?_) (fun c_28 => ?_)
        · -- 28T
          refine n_iconst hx hb dX2_hasAir_35 ?_
          refine g_zret hx hb hr hlk hH dX2_hasAir_36 (Or.inl rfl) ?_
          refine ⟨?_, rfl⟩
          first | exact (zb_t (by unfold airP; omega)).symm | exact (zb_f (by unfold airP; omega)).symm
        · -- 28F
          refine n_iconst hx hb dX2_hasAir_31 ?_
          refine lv_goto (tgt := 36) hx hb dX2_hasAir_32 (by decide) ?_
          refine g_zret hx hb hr hlk hH dX2_hasAir_36 (Or.inr rfl) ?_
          refine ⟨?_, rfl⟩
          first | exact (zb_t (by unfold airP; omega)).symm | exact (zb_f (by unfold airP; omega)).symm
/-! sums, by their depth -/
def VS (l : Launch) (G : MG) (n : Nat) : Prop := ∀ (h : Hp) (a c_ ci nb : Nat) (t : Int) (g : Int → Int) (f : Mean) (sz : Nat), SumAt n (hN h) a f → CsH G h c_ ci nb 0 t g →
  (∃ fs, h a = some (oB 11 fs) ∧ Met l yX13_of (ws_ yX13_of cX13_of 2 (some .long)) (rmD (n + 3)) (gP G.1 clA (tyA G.2.1) XN [.ref a, .ref c_] h sz) (gQl G.1 clA (DA h sz) (fun z h' => oE f g h c_ ci nb t z h')) 0 0 (DA h sz)) ∨
  (∃ fs, h a = some (oB 12 fs) ∧ Met l yX14_of (ws_ yX14_of cX14_of 2 (some .long)) (rmD (n + 3)) (gP G.1 clA (tyA G.2.1) XN [.ref a, .ref c_] h sz) (gQl G.1 clA (DA h sz) (fun z h' => oE f g h c_ ci nb t z h')) 0 0 (DA h sz)) ∨
  (∃ fs, h a = some (oB 13 fs) ∧ Met l yX15_of (ws_ yX15_of cX15_of 6 (some .long)) (rmD (n + 3)) (gP G.1 clA (tyA G.2.1) XN [.ref a, .ref c_] h sz) (gQl G.1 clA (DA h sz) (fun z h' => oE f g h c_ ci nb t z h')) 0 0 (DA h sz))
theorem nO {h M : Hp} {a ci : Nat} {fs : List Value} (hn : hN h = M) (he : M a = some (oB ci fs)) (hs : scx ci = 99) : h a = some (oB ci fs) := by
  obtain ⟨fs0, h1, h2, h3, h4⟩ := nX hn he
  have e : eN (oB ci fs0) = oB ci fs0 := by
    unfold scx at hs
    unfold eN oB
    dsimp only
    split
    · rename_i q; rw [if_pos q] at hs; omega
    · rename_i q
      rw [if_neg q] at hs
      split
      · rename_i q2; rw [if_pos q2] at hs; omega
      · rfl
  subst hn
  unfold hN at he
  rw [h1] at he
  have he : some (eN (oB ci fs0)) = some (oB ci fs) := he
  rw [e] at he
  rw [h1, Option.some.inj he]
theorem kd_Sum : "BrothFlasks$Sum" ≠ "java/lang/invoke/MethodHandle" ∧ "BrothFlasks$Sum" ≠ "java/lang/invoke/VarHandle" ∧ (parseMethodDescriptor "(LBrothFlasks$Case;)J").map (fun d => d.parameters.length) = some 1 := by decide +kernel
theorem kd_Test : "BrothFlasks$Test" ≠ "java/lang/invoke/MethodHandle" ∧ "BrothFlasks$Test" ≠ "java/lang/invoke/VarHandle" ∧ (parseMethodDescriptor "(LBrothFlasks$Case;)Z").map (fun d => d.parameters.length) = some 1 := by decide +kernel
section SRUN
variable {p : Program} {l : Launch} {e : Env} {R : Room} {s : State} {m : MethodId} {args : Array Value} {below : List Frame} {meth : Method} {c : Code} {H : Heap} {locs : List Loc} {cells slots : Nat} {Q : State → Prop}
variable {cc : ByteArray} {pc : Nat} {ls : Array Slot} {rest st0 : List Value} {G : MG} {A : Nat → Prop} {a c_ ci nb n index nL : Nat} {b t : Int} {h : Hp} {H0 : Heap} {own : String} {g : Int → Int} {f : Mean}
theorem sum_run (S : CallFix p m c cc nL s args lw_all own) (hH : HV G.1 clA A h H0 H locs) (hK : va_K G.1 clA (tyA G.2.1) s) (hXN : XN s) (hsz : ls.size = nL) (V : VS l G n) (hs : SumAt n (hN h) a f) (hC : CsH G h c_ ci nb 0 t g) (hq : (Cond.methodLink own index ⟨"BrothFlasks$Sum", "of", "(LBrothFlasks$Case;)J"⟩) ∈ lw_all) (d : decode cc pc = .ok (.invokevirtual index, 3)) (hR : n + 3 + 1 ≤ R.frames ∧ 8 + (6 + 11) + 64 * (n + 3) ≤ R.locals) (hf : cells ≤ R.cells ∧ slots ≤ R.slots) (hW : (rest.map fun v => v.category).sum ≤ 8) :
    va_Run p l e R s m args below meth c H locs cells slots 0 0 (F0 m pc ls (.ref c_ :: .ref a :: rest)) rest (gQl G.1 clA (DA h H.size) (fun z h' => oE f g h c_ ci nb t z h') [.ref a, .ref c_].toArray) (DA h H.size) := by
  rcases V h a c_ ci nb t g f H.size hs hC with ⟨fs, h1, hM⟩ | ⟨fs, h1, hM⟩ | ⟨fs, h1, hM⟩
  · exact g_runA (As := [.ref c_]) (n := 1) S hH hK hXN hsz h1 rfl hM (lw_U hq q1185 q1186 q1187 q126 q1188) q1184 kd_Sum rfl rfl d rfl rfl rfl ⟨hR.1, by have := hR.2; show 8 + (2 + 11) + 64 * (n + 3) ≤ _; omega⟩ hW hf
  · exact g_runA (As := [.ref c_]) (n := 1) S hH hK hXN hsz h1 rfl hM (lw_U hq q1185 q1203 q1193 q127 q1194) q1184 kd_Sum rfl rfl d rfl rfl rfl ⟨hR.1, by have := hR.2; show 8 + (2 + 11) + 64 * (n + 3) ≤ _; omega⟩ hW hf
  · exact g_runA (As := [.ref c_]) (n := 1) S hH hK hXN hsz h1 rfl hM (lw_U hq q1185 q1189 q1190 q128 q1191) q1184 kd_Sum rfl rfl d rfl rfl rfl ⟨hR.1, by have := hR.2; show 8 + (6 + 11) + 64 * (n + 3) ≤ _; omega⟩ hW hf
theorem wit_run {v : Int} (S : CallFix p m c cc nL s args lw_all own) (hH : HV G.1 clA A h H0 H locs) (hK : va_K G.1 clA (tyA G.2.1) s) (hXN : XN s) (hsz : ls.size = nL) (hC : CsH G h c_ ci nb 0 t g) (hv : R64 v) (hq : (Cond.methodLink own index yX2_within) ∈ lw_all) (d : decode cc pc = .ok (.invokevirtual index, 3)) (hR : 1 + 1 ≤ R.frames ∧ 8 + (3 + 11) + 64 ≤ R.locals) (hf : cells ≤ R.cells ∧ slots ≤ R.slots) (hW : (rest.map fun v => v.category).sum ≤ 8) :
    va_Run p l e R s m args below meth c H locs cells slots 0 0 (F0 m pc ls (.long (lI v) :: .ref c_ :: rest)) rest (gQl G.1 clA (DA h H.size) (fun z h' => oE (fun _ => bnd v) g h c_ ci nb t z h') [.ref c_, .long (lI v)].toArray) (DA h H.size) := by
  have hM := xm_X2_within l G h ci nb t g c_ v H.size hC hv
  obtain ⟨hc1, hci, hc3, hc4⟩ := hC
  rcases hci with z | z <;> subst z
  · exact g_runV (As := [.long (lI v)]) (ci := 3) (fs := [.ref nb, .int (iI 0)]) S hH hK (fun _ _ hW => XN.warm hW hXN) XN_b hc1 rfl hsz hM (lw_V hq q1196 q1197 q107 q1200) kd_X2_within rfl rfl d rfl rfl rfl hR hW hf
  · exact g_runU (As := [.long (lI v)]) (n := 1) (ci := 9) (fs := [.ref nb, .int (iI 0), .int (iI t)]) S hH hK hXN hsz hc1 rfl hM (lw_U hq q1198 q1199 q1196 q107 q1200) rfl kd_X2_within.2 rfl rfl d rfl rfl rfl hR hW hf
theorem air_run (S : CallFix p m c cc nL s args lw_all own) (hH : HV G.1 clA A h H0 H locs) (hK : va_K G.1 clA (tyA G.2.1) s) (hXN : XN s) (hsz : ls.size = nL) (hC : CsH G h c_ ci nb b t g) (hq : (Cond.methodLink own index yX2_hasAir) ∈ lw_all) (d : decode cc pc = .ok (.invokevirtual index, 3)) (hR : 1 + 1 ≤ R.frames ∧ 8 + (2 + 11) + 64 ≤ R.locals) (hf : cells ≤ R.cells ∧ slots ≤ R.slots) (hW : (rest.map fun v => v.category).sum ≤ 8) :
    va_Run p l e R s m args below meth c H locs cells slots 0 0 (F0 m pc ls (.ref c_ :: rest)) rest (gQi G.1 clA (DA h H.size) (fun z h' => z = zb (airP (g 1) (g 6)) ∧ h' = h) [.ref c_].toArray) (DA h H.size) := by
  have hM := xm_X2_hasAir l G h b ci nb t g c_ H.size hC
  obtain ⟨hc1, hci, hc3, hc4⟩ := hC
  rcases hci with z | z <;> subst z
  · exact g_runV (As := []) (ci := 3) (fs := [.ref nb, .int (iI b)]) S hH hK (fun _ _ hW => XN.warm hW hXN) XN_b hc1 rfl hsz hM (lw_V hq q1208 q1209 q107 q1212) kd_X2_hasAir rfl rfl d rfl rfl rfl hR hW hf
  · exact g_runU (As := []) (n := 0) (ci := 9) (fs := [.ref nb, .int (iI b), .int (iI t)]) S hH hK hXN hsz hc1 rfl hM (lw_U hq q1210 q1211 q1208 q107 q1212) rfl kd_X2_hasAir.2 rfl rfl d rfl rfl rfl hR hW hf
end SRUN
