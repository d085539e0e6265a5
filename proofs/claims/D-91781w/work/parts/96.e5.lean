theorem kd_X21_holds : yX21_holds.cls = RX21 ∧ yX21_holds.cls ≠ "java/lang/invoke/MethodHandle" ∧ yX21_holds.cls ≠ "java/lang/invoke/VarHandle" ∧ (parseMethodDescriptor yX21_holds.desc).map (fun d => d.parameters.length) = some 1 := by decide +kernel
theorem xm_X21_holds (l : Launch) (G : MG) (M : Hp) (n : Nat) (cl : Cl) (ci : Nat) (nb : Nat) (t : Int) (g : Int → Int) (a : Nat) (c_ : Nat) (sz : Nat) (hcl : ClauseAt G n (hN M) a cl) (hC : CaseN G (hN M) c_ ci nb t g) : Met l yX21_holds (ws_ yX21_holds cX21_holds 2 (some .boolean)) (rmD (n + 1 + 3)) (gP G.1 clA (tyA G.2.1) XN [.ref a, .ref c_] M sz) (gQi G.1 clA (DA M sz) (fun z M' => hN M' = hN M ∧ z = clH cl g ∧ (z = 1 → ∃ so te, M' a = some (oB 18 [.int (iI (cl.1 - 1)), va_rf so, va_rf te, .long (lI (clS cl g))])))) 0 0 (DA M sz) := by
  refine g_start (by decide) (Nat.le_of_ble_eq_true rfl) ?_
  intro p e s m below meth c ⟨S, hr, hlk, hH, hK, hXN, hsz, hnm⟩ ls hl
  subst hsz
  obtain ⟨hx, hb, hml, hown, hts⟩ := S
  have S : CallFix p m c _ _ s _ lw_all RX21 := ⟨hx, hb, hml, hown, hts⟩
  have hA : ∀ q, s.heap.size ≤ q → DA M s.heap.size q := fun q hq => Or.inr hq
  have hl : lv_has ls 2 [(0, .ref a), (1, .ref c_)] := hl
  obtain ⟨so, te, fa0, hd, hso, hte⟩ := hcl
  rcases hso with ⟨rfl, hs0⟩ | ⟨q_, f_, rfl, hs0, hs1⟩ <;> rcases hte with ⟨rfl, ht0⟩ | ⟨r_, f2_, rfl, ht0, ht1⟩
  · -- sum False test False
    obtain ⟨v3, fa⟩ := clX rfl fa0
    obtain ⟨v1, fc⟩ := csX_of rfl hC
    have fa : M a = some (oB 18 [.int (iI (cl.1 - 1)), .null, .null, v3]) := fa
    have fn := nA rfl hC.2.2.1
    refine lv_aload_n hx hb dX21_holds_0 rfl (lv_at hl 1 rfl) ?_
    refine n_iconst hx hb dX21_holds_1 ?_
    refine e_setX hx hb hts hown hK hH fc hC.2.1 q265 dX21_holds_2 (fun H locs hH => ?_)
    obtain ⟨M1, e_M1⟩ : ∃ M1, M1 = hs M c_ (csE ci nb 0 t) := ⟨_, rfl⟩
    have hH := HV_to hH e_M1.symm
    have f_M1 : M1 c_ = some (csE ci nb 0 t) := by rw [e_M1]; exact hs_s
    have f2 : M1 a = some (oB 18 [.int (iI (cl.1 - 1)), .null, .null, v3]) := by rw [e_M1]; exact (hs_n (ne_ox fa fc hC.2.1 (by decide))).trans fa
    have f3 : M1 nb = some (aI (G.2.1 0) 9 g) := by rw [e_M1]; exact (hs_n (ne_ax fn fc)).trans fn
    have n1 : hN M1 = hN M := by rw [e_M1]; exact hN_setX fc
    have hC1 : CsH G M1 c_ ci nb 0 t g := ⟨f_M1, hC.2.1, by rw [e_M1]; exact (hs_n (ne_ax fn fc)).trans fn, hC.2.2.2⟩
    refine lv_aload_n hx hb dX21_holds_5 rfl (lv_at hl 0 rfl) ?_
    refine g_get (ci := 18) hx hb hts in_X21 hown hK hH f2 rfl 2 (by decide) (hts _ q1129) (fun _ h9 => h9) rfl dX21_holds_6 ?_
    refine lv_ifnullN (tgt := 23) hx hb dX21_holds_9 (by decide) ?_
    refine lv_aload_n hx hb dX21_holds_23 rfl (lv_at hl 1 rfl) ?_
    refine e_brk hx hb hts hown hK hH f_M1 hC.2.1 q265 dX21_holds_24 ?_
    refine n_if_eq (tgt := 32) hx hb (r32 (by omega)) dX21_holds_27 (by decide) (fun _ => ?_) (fun h => absurd h (by decide))
    refine lv_aload_n hx hb dX21_holds_32 rfl (lv_at hl 0 rfl) ?_
    refine lv_aload_n hx hb dX21_holds_33 rfl (lv_at hl 0 rfl) ?_
    refine g_get (ci := 18) hx hb hts in_X21 hown hK hH f2 rfl 1 (by decide) (hts _ q1128) (fun _ h9 => h9) rfl dX21_holds_34 ?_
    refine lv_ifnonnullN hx hb dX21_holds_37 ?_
    refine n_lconst (z := 0) hx hb dX21_holds_40 (by decide) ?_
    refine lv_goto (tgt := 52) hx hb dX21_holds_41 (by decide) ?_
    refine g_put (ci := 18) (ty := .long) hx hb hts in_X21 tyX21 tyX21_ok nmX21 hown hK hH f2 rfl 3 (by decide) (hts _ q1130) (fun _ h9 => h9) rfl (by decide +kernel) rfl rfl (Nat.le_of_ble_eq_true rfl) dX21_holds_52 (fun H locs hH => ?_)
    obtain ⟨M4, e_M4⟩ : ∃ M4, M4 = hs M1 a (oB 18 [.int (iI (cl.1 - 1)), .null, .null, .long (lI 0)]) := ⟨_, rfl⟩
    have hH := HV_to hH e_M4.symm
    have f4 : M4 a = some (oB 18 [.int (iI (cl.1 - 1)), .null, .null, .long (lI 0)]) := by rw [e_M4]; exact hs_s
    have f5 : M4 c_ = some (csE ci nb 0 t) := by rw [e_M4]; exact (hs_n (Ne.symm (ne_oc f2 f_M1 hC.2.1 (by decide)))).trans f_M1
    have f6 : M4 nb = some (aI (G.2.1 0) 9 g) := by rw [e_M4]; exact (hs_n (ne_ao f3 f2)).trans f3
    have n2 : hN M4 = hN M := by rw [e_M4]; exact (hN_told f2).trans (by assumption)
    refine lv_aload_n hx hb dX21_holds_55 rfl (lv_at hl 1 rfl) ?_
    refine e_brk hx hb hts hown hK hH f5 hC.2.1 q265 dX21_holds_56 ?_
    refine n_if_ne (tgt := 66) hx hb (r32 (by omega)) dX21_holds_59 (by decide) (fun h => absurd h (by decide)) (fun _ => ?_)
    refine n_iconst hx hb dX21_holds_62 ?_
    refine lv_goto (tgt := 67) hx hb dX21_holds_63 (by decide) ?_
    refine g_zret hx hb hr hlk hH dX21_holds_67 (Or.inr rfl) ?_
    exact ⟨n2, (clH_y hs0 ht0 (fun f q => by cases q) (fun f q => by cases q)).symm, fun _ => ⟨none, none, by rw [clS_0 hs0]; exact f4⟩⟩
  · -- sum False test True
    obtain ⟨v3, fa⟩ := clX rfl fa0
    obtain ⟨v1, fc⟩ := csX_of rfl hC
    have fa : M a = some (oB 18 [.int (iI (cl.1 - 1)), .null, .ref r_, v3]) := fa
    have fn := nA rfl hC.2.2.1
    refine lv_aload_n hx hb dX21_holds_0 rfl (lv_at hl 1 rfl) ?_
    refine n_iconst hx hb dX21_holds_1 ?_
    refine e_setX hx hb hts hown hK hH fc hC.2.1 q265 dX21_holds_2 (fun H locs hH => ?_)
    obtain ⟨M1, e_M1⟩ : ∃ M1, M1 = hs M c_ (csE ci nb 0 t) := ⟨_, rfl⟩
    have hH := HV_to hH e_M1.symm
    have f_M1 : M1 c_ = some (csE ci nb 0 t) := by rw [e_M1]; exact hs_s
    have f8 : M1 a = some (oB 18 [.int (iI (cl.1 - 1)), .null, .ref r_, v3]) := by rw [e_M1]; exact (hs_n (ne_ox fa fc hC.2.1 (by decide))).trans fa
    have f9 : M1 nb = some (aI (G.2.1 0) 9 g) := by rw [e_M1]; exact (hs_n (ne_ax fn fc)).trans fn
    have n1 : hN M1 = hN M := by rw [e_M1]; exact hN_setX fc
    have hC1 : CsH G M1 c_ ci nb 0 t g := ⟨f_M1, hC.2.1, by rw [e_M1]; exact (hs_n (ne_ax fn fc)).trans fn, hC.2.2.2⟩
    refine lv_aload_n hx hb dX21_holds_5 rfl (lv_at hl 0 rfl) ?_
    refine g_get (ci := 18) hx hb hts in_X21 hown hK hH f8 rfl 2 (by decide) (hts _ q1129) (fun _ h9 => h9) rfl dX21_holds_6 ?_
    refine lv_ifnull hx hb dX21_holds_9 ?_
    refine lv_aload_n hx hb dX21_holds_12 rfl (lv_at hl 0 rfl) ?_
    refine g_get (ci := 18) hx hb hts in_X21 hown hK hH f8 rfl 2 (by decide) (hts _ q1129) (fun _ h9 => h9) rfl dX21_holds_13 ?_
    refine lv_aload_n hx hb dX21_holds_16 rfl (lv_at hl 1 rfl) ?_
    refine g_calli (test_run S hH hK hXN hl.1 (vt_all l G n) (show TestAt G n (hN M1) r_ f2_ by rw [n1]; exact ht1) hC1 q1177 dX21_holds_17 ⟨by dsimp only [rmD]; omega, by dsimp only [rmD]; omega⟩ ⟨Nat.le_of_ble_eq_true rfl, Nat.le_of_ble_eq_true rfl⟩ (Nat.le_of_ble_eq_true rfl)) hH hA (fun z17 M17_ H locs q_17 hH hz_17 => ?_)
    obtain ⟨w17, q_17⟩ := q_17
    rcases q_17 with ⟨e17, g17⟩ | ⟨e17, g17⟩
    · -- 17s
      have hH := HV_to hH g17
      refine n_if_eq (tgt := 30) hx hb (r32 (by omega)) dX21_holds_20 (by decide) (fun c_20 => ?_) (fun c_20 => ?_)
      · -- 20T
        refine n_iconst hx hb dX21_holds_30 ?_
        refine g_zret hx hb hr hlk hH dX21_holds_31 (Or.inl rfl) ?_
        exact ⟨n1, (clH_nt ht0 (by rw [e17]; intro q; cases q; omega)).symm, fun q => absurd q (by decide)⟩
      · -- 20F
        refine lv_aload_n hx hb dX21_holds_23 rfl (lv_at hl 1 rfl) ?_
        refine e_brk hx hb hts hown hK hH f_M1 hC.2.1 q265 dX21_holds_24 ?_
        refine n_if_eq (tgt := 32) hx hb (r32 (by omega)) dX21_holds_27 (by decide) (fun _ => ?_) (fun h => absurd h (by decide))
        refine lv_aload_n hx hb dX21_holds_32 rfl (lv_at hl 0 rfl) ?_
        refine lv_aload_n hx hb dX21_holds_33 rfl (lv_at hl 0 rfl) ?_
        refine g_get (ci := 18) hx hb hts in_X21 hown hK hH f8 rfl 1 (by decide) (hts _ q1128) (fun _ h9 => h9) rfl dX21_holds_34 ?_
        refine lv_ifnonnullN hx hb dX21_holds_37 ?_
        refine n_lconst (z := 0) hx hb dX21_holds_40 (by decide) ?_
        refine lv_goto (tgt := 52) hx hb dX21_holds_41 (by decide) ?_
        refine g_put (ci := 18) (ty := .long) hx hb hts in_X21 tyX21 tyX21_ok nmX21 hown hK hH f8 rfl 3 (by decide) (hts _ q1130) (fun _ h9 => h9) rfl (by decide +kernel) rfl rfl (Nat.le_of_ble_eq_true rfl) dX21_holds_52 (fun H locs hH => ?_)
        obtain ⟨M10, e_M10⟩ : ∃ M10, M10 = hs M1 a (oB 18 [.int (iI (cl.1 - 1)), .null, .ref r_, .long (lI 0)]) := ⟨_, rfl⟩
        have hH := HV_to hH e_M10.symm
        have f10 : M10 a = some (oB 18 [.int (iI (cl.1 - 1)), .null, .ref r_, .long (lI 0)]) := by rw [e_M10]; exact hs_s
        have f11 : M10 c_ = some (csE ci nb 0 t) := by rw [e_M10]; exact (hs_n (Ne.symm (ne_oc f8 f_M1 hC.2.1 (by decide)))).trans f_M1
        have f12 : M10 nb = some (aI (G.2.1 0) 9 g) := by rw [e_M10]; exact (hs_n (ne_ao f9 f8)).trans f9
        have n2 : hN M10 = hN M := by rw [e_M10]; exact (hN_told f8).trans (by assumption)
        refine lv_aload_n hx hb dX21_holds_55 rfl (lv_at hl 1 rfl) ?_
        refine e_brk hx hb hts hown hK hH f11 hC.2.1 q265 dX21_holds_56 ?_
        refine n_if_ne (tgt := 66) hx hb (r32 (by omega)) dX21_holds_59 (by decide) (fun h => absurd h (by decide)) (fun _ => ?_)
        refine n_iconst hx hb dX21_holds_62 ?_
        refine lv_goto (tgt := 67) hx hb dX21_holds_63 (by decide) ?_
        refine g_zret hx hb hr hlk hH dX21_holds_67 (Or.inr rfl) ?_
        exact ⟨n2, (clH_y hs0 ht0 (fun f q => by cases q) (fun f q => by cases q; rw [e17, show z17 = 1 by omega])).symm, fun _ => ⟨none, some r_, by rw [clS_0 hs0]; exact f10⟩⟩
    · -- 17n
      have hH := HV_to hH g17
      have n17 : hN (hs M1 c_ (csE ci nb 1 t)) = hN M := (hN_brk hC1.1).trans n1
      have fa17 := (hs_n (ne_oc f8 hC1.1 hC.2.1 (by decide)) : hs M1 c_ (csE ci nb 1 t) a = _).trans f8
      refine n_if_eq (tgt := 30) hx hb (r32 (by omega)) dX21_holds_20 (by decide) (fun c_20 => ?_) (fun c_20 => ?_)
      · -- 20T
        refine n_iconst hx hb dX21_holds_30 ?_
        refine g_zret hx hb hr hlk hH dX21_holds_31 (Or.inl rfl) ?_
        exact ⟨n17, (clH_nt ht0 (by rw [e17]; intro q; cases q)).symm, fun q => absurd q (by decide)⟩
      · -- 20F
        refine lv_aload_n hx hb dX21_holds_23 rfl (lv_at hl 1 rfl) ?_
        refine e_brk hx hb hts hown hK hH hs_s hC.2.1 q265 dX21_holds_24 ?_
        refine n_if_eq (tgt := 32) hx hb (r32 (by omega)) dX21_holds_27 (by decide) (fun h => absurd h (by decide)) (fun _ => ?_)
        refine n_iconst hx hb dX21_holds_30 ?_
        refine g_zret hx hb hr hlk hH dX21_holds_31 (Or.inl rfl) ?_
        exact ⟨n17, (clH_nt ht0 (by rw [e17]; intro q; cases q)).symm, fun q => absurd q (by decide)⟩
  · -- sum True test False
    obtain ⟨v3, fa⟩ := clX rfl fa0
    obtain ⟨v1, fc⟩ := csX_of rfl hC
    have fa : M a = some (oB 18 [.int (iI (cl.1 - 1)), .ref q_, .null, v3]) := fa
    have fn := nA rfl hC.2.2.1
    refine lv_aload_n hx hb dX21_holds_0 rfl (lv_at hl 1 rfl) ?_
    refine n_iconst hx hb dX21_holds_1 ?_
    refine e_setX hx hb hts hown hK hH fc hC.2.1 q265 dX21_holds_2 (fun H locs hH => ?_)
    obtain ⟨M1, e_M1⟩ : ∃ M1, M1 = hs M c_ (csE ci nb 0 t) := ⟨_, rfl⟩
    have hH := HV_to hH e_M1.symm
    have f_M1 : M1 c_ = some (csE ci nb 0 t) := by rw [e_M1]; exact hs_s
    have f14 : M1 a = some (oB 18 [.int (iI (cl.1 - 1)), .ref q_, .null, v3]) := by rw [e_M1]; exact (hs_n (ne_ox fa fc hC.2.1 (by decide))).trans fa
    have f15 : M1 nb = some (aI (G.2.1 0) 9 g) := by rw [e_M1]; exact (hs_n (ne_ax fn fc)).trans fn
    have n1 : hN M1 = hN M := by rw [e_M1]; exact hN_setX fc
    have hC1 : CsH G M1 c_ ci nb 0 t g := ⟨f_M1, hC.2.1, by rw [e_M1]; exact (hs_n (ne_ax fn fc)).trans fn, hC.2.2.2⟩
    refine lv_aload_n hx hb dX21_holds_5 rfl (lv_at hl 0 rfl) ?_
    refine g_get (ci := 18) hx hb hts in_X21 hown hK hH f14 rfl 2 (by decide) (hts _ q1129) (fun _ h9 => h9) rfl dX21_holds_6 ?_
    refine lv_ifnullN (tgt := 23) hx hb dX21_holds_9 (by decide) ?_
    refine lv_aload_n hx hb dX21_holds_23 rfl (lv_at hl 1 rfl) ?_
    refine e_brk hx hb hts hown hK hH f_M1 hC.2.1 q265 dX21_holds_24 ?_
    refine n_if_eq (tgt := 32) hx hb (r32 (by omega)) dX21_holds_27 (by decide) (fun _ => ?_) (fun h => absurd h (by decide))
    refine lv_aload_n hx hb dX21_holds_32 rfl (lv_at hl 0 rfl) ?_
    refine lv_aload_n hx hb dX21_holds_33 rfl (lv_at hl 0 rfl) ?_
    refine g_get (ci := 18) hx hb hts in_X21 hown hK hH f14 rfl 1 (by decide) (hts _ q1128) (fun _ h9 => h9) rfl dX21_holds_34 ?_
    refine lv_ifnonnull (tgt := 44) hx hb dX21_holds_37 (by decide) ?_
    refine lv_aload_n hx hb dX21_holds_44 rfl (lv_at hl 0 rfl) ?_
    refine g_get (ci := 18) hx hb hts in_X21 hown hK hH f14 rfl 1 (by decide) (hts _ q1128) (fun _ h9 => h9) rfl dX21_holds_45 ?_
    refine lv_aload_n hx hb dX21_holds_48 rfl (lv_at hl 1 rfl) ?_
    refine g_calll (sum_run S hH hK hXN hl.1 (vs_all l G n) (show SumAt n (hN M1) q_ f_ by rw [n1]; exact hs1) hC1 q1221 dX21_holds_49 ⟨by dsimp only [rmD]; omega, by dsimp only [rmD]; omega⟩ ⟨Nat.le_of_ble_eq_true rfl, Nat.le_of_ble_eq_true rfl⟩ (Nat.le_of_ble_eq_true rfl)) hH hA (fun z49 M49_ H locs q_49 hH hz_49 => ?_)
    rcases q_49 with ⟨e49, g49⟩ | ⟨e49, g49⟩
    · -- 49s
      have hH := HV_to hH g49
      refine g_put (ci := 18) (ty := .long) hx hb hts in_X21 tyX21 tyX21_ok nmX21 hown hK hH f14 rfl 3 (by decide) (hts _ q1130) (fun _ h9 => h9) rfl (by decide +kernel) rfl rfl (Nat.le_of_ble_eq_true rfl) dX21_holds_52 (fun H locs hH => ?_)
      obtain ⟨M16, e_M16⟩ : ∃ M16, M16 = hs M1 a (oB 18 [.int (iI (cl.1 - 1)), .ref q_, .null, .long (lI z49)]) := ⟨_, rfl⟩
      have hH := HV_to hH e_M16.symm
      have f16 : M16 a = some (oB 18 [.int (iI (cl.1 - 1)), .ref q_, .null, .long (lI z49)]) := by rw [e_M16]; exact hs_s
      have f17 : M16 c_ = some (csE ci nb 0 t) := by rw [e_M16]; exact (hs_n (Ne.symm (ne_oc f14 f_M1 hC.2.1 (by decide)))).trans f_M1
      have f18 : M16 nb = some (aI (G.2.1 0) 9 g) := by rw [e_M16]; exact (hs_n (ne_ao f15 f14)).trans f15
      have n2 : hN M16 = hN M := by rw [e_M16]; exact (hN_told f14).trans (by assumption)
      refine lv_aload_n hx hb dX21_holds_55 rfl (lv_at hl 1 rfl) ?_
      refine e_brk hx hb hts hown hK hH f17 hC.2.1 q265 dX21_holds_56 ?_
      refine n_if_ne (tgt := 66) hx hb (r32 (by omega)) dX21_holds_59 (by decide) (fun h => absurd h (by decide)) (fun _ => ?_)
      refine n_iconst hx hb dX21_holds_62 ?_
      refine lv_goto (tgt := 67) hx hb dX21_holds_63 (by decide) ?_
      refine g_zret hx hb hr hlk hH dX21_holds_67 (Or.inr rfl) ?_
      exact ⟨n2, (clH_y hs0 ht0 (fun f q => by cases q; exact ⟨_, e49⟩) (fun f q => by cases q)).symm, fun _ => ⟨some q_, none, by rw [clS_v hs0 e49]; exact f16⟩⟩
    · -- 49n
      have hH := HV_to hH g49
      have n49 : hN (hs M1 c_ (csE ci nb 1 t)) = hN M := (hN_brk hC1.1).trans n1
      have fa49 := (hs_n (ne_oc f14 hC1.1 hC.2.1 (by decide)) : hs M1 c_ (csE ci nb 1 t) a = _).trans f14
      refine g_put (ci := 18) (ty := .long) hx hb hts in_X21 tyX21 tyX21_ok nmX21 hown hK hH fa49 rfl 3 (by decide) (hts _ q1130) (fun _ h9 => h9) rfl (by decide +kernel) rfl rfl (Nat.le_of_ble_eq_true rfl) dX21_holds_52 (fun H locs hH => ?_)
      obtain ⟨M19, e_M19⟩ : ∃ M19, M19 = hs (hs M1 c_ (csE ci nb 1 t)) a (oB 18 [.int (iI (cl.1 - 1)), .ref q_, .null, .long (lI z49)]) := ⟨_, rfl⟩
      have hH := HV_to hH e_M19.symm
      have f19 : M19 a = some (oB 18 [.int (iI (cl.1 - 1)), .ref q_, .null, .long (lI z49)]) := by rw [e_M19]; exact hs_s
      have f20 : M19 c_ = some (csE ci nb 1 t) := by rw [e_M19]; exact (hs_n (Ne.symm (ne_oc fa49 hs_s hC.2.1 (by decide)))).trans hs_s
      have n2 : hN M19 = hN M := by rw [e_M19]; exact (hN_told fa49).trans (by assumption)
      refine lv_aload_n hx hb dX21_holds_55 rfl (lv_at hl 1 rfl) ?_
      refine e_brk hx hb hts hown hK hH f20 hC.2.1 q265 dX21_holds_56 ?_
      refine n_if_ne (tgt := 66) hx hb (r32 (by omega)) dX21_holds_59 (by decide) (fun _ => ?_) (fun h => absurd h (by decide))
      refine n_iconst hx hb dX21_holds_66 ?_
      refine g_zret hx hb hr hlk hH dX21_holds_67 (Or.inl rfl) ?_
      exact ⟨n2, (clH_ns hs0 e49).symm, fun q => absurd q (by decide)⟩
  · -- sum True test True
    obtain ⟨v3, fa⟩ := clX rfl fa0
    obtain ⟨v1, fc⟩ := csX_of rfl hC
    have fa : M a = some (oB 18 [.int (iI (cl.1 - 1)), .ref q_, .ref r_, v3]) := fa
    have fn := nA rfl hC.2.2.1
    refine lv_aload_n hx hb dX21_holds_0 rfl (lv_at hl 1 rfl) ?_
    refine n_iconst hx hb dX21_holds_1 ?_
    refine e_setX hx hb hts hown hK hH fc hC.2.1 q265 dX21_holds_2 (fun H locs hH => ?_)
    obtain ⟨M1, e_M1⟩ : ∃ M1, M1 = hs M c_ (csE ci nb 0 t) := ⟨_, rfl⟩
    have hH := HV_to hH e_M1.symm
    have f_M1 : M1 c_ = some (csE ci nb 0 t) := by rw [e_M1]; exact hs_s
    have f22 : M1 a = some (oB 18 [.int (iI (cl.1 - 1)), .ref q_, .ref r_, v3]) := by rw [e_M1]; exact (hs_n (ne_ox fa fc hC.2.1 (by decide))).trans fa
    have f23 : M1 nb = some (aI (G.2.1 0) 9 g) := by rw [e_M1]; exact (hs_n (ne_ax fn fc)).trans fn
    have n1 : hN M1 = hN M := by rw [e_M1]; exact hN_setX fc
    have hC1 : CsH G M1 c_ ci nb 0 t g := ⟨f_M1, hC.2.1, by rw [e_M1]; exact (hs_n (ne_ax fn fc)).trans fn, hC.2.2.2⟩
    refine lv_aload_n hx hb dX21_holds_5 rfl (lv_at hl 0 rfl) ?_
    refine g_get (ci := 18) hx hb hts in_X21 hown hK hH f22 rfl 2 (by decide) (hts _ q1129) (fun _ h9 => h9) rfl dX21_holds_6 ?_
    refine lv_ifnull hx hb dX21_holds_9 ?_
    refine lv_aload_n hx hb dX21_holds_12 rfl (lv_at hl 0 rfl) ?_
    refine g_get (ci := 18) hx hb hts in_X21 hown hK hH f22 rfl 2 (by decide) (hts _ q1129) (fun _ h9 => h9) rfl dX21_holds_13 ?_
    refine lv_aload_n hx hb dX21_holds_16 rfl (lv_at hl 1 rfl) ?_
    refine g_calli (test_run S hH hK hXN hl.1 (vt_all l G n) (show TestAt G n (hN M1) r_ f2_ by rw [n1]; exact ht1) hC1 q1177 dX21_holds_17 ⟨by dsimp only [rmD]; omega, by dsimp only [rmD]; omega⟩ ⟨Nat.le_of_ble_eq_true rfl, Nat.le_of_ble_eq_true rfl⟩ (Nat.le_of_ble_eq_true rfl)) hH hA (fun z17 M17_ H locs q_17 hH hz_17 => ?_)
    obtain ⟨w17, q_17⟩ := q_17
    rcases q_17 with ⟨e17, g17⟩ | ⟨e17, g17⟩
    · -- 17s
      have hH := HV_to hH g17
      refine n_if_eq (tgt := 30) hx hb (r32 (by omega)) dX21_holds_20 (by decide) (fun c_20 => ?_) (fun c_20 => ?_)
      · -- 20T
        refine n_iconst hx hb dX21_holds_30 ?_
        refine g_zret hx hb hr hlk hH dX21_holds_31 (Or.inl rfl) ?_
        exact ⟨n1, (clH_nt ht0 (by rw [e17]; intro q; cases q; omega)).symm, fun q => absurd q (by decide)⟩
      · -- 20F
        refine lv_aload_n hx hb dX21_holds_23 rfl (lv_at hl 1 rfl) ?_
        refine e_brk hx hb hts hown hK hH f_M1 hC.2.1 q265 dX21_holds_24 ?_
        refine n_if_eq (tgt := 32) hx hb (r32 (by omega)) dX21_holds_27 (by decide) (fun _ => ?_) (fun h => absurd h (by decide))
        refine lv_aload_n hx hb dX21_holds_32 rfl (lv_at hl 0 rfl) ?_
        refine lv_aload_n hx hb dX21_holds_33 rfl (lv_at hl 0 rfl) ?_
        refine g_get (ci := 18) hx hb hts in_X21 hown hK hH f22 rfl 1 (by decide) (hts _ q1128) (fun _ h9 => h9) rfl dX21_holds_34 ?_
        refine lv_ifnonnull (tgt := 44) hx hb dX21_holds_37 (by decide) ?_
        refine lv_aload_n hx hb dX21_holds_44 rfl (lv_at hl 0 rfl) ?_
        refine g_get (ci := 18) hx hb hts in_X21 hown hK hH f22 rfl 1 (by decide) (hts _ q1128) (fun _ h9 => h9) rfl dX21_holds_45 ?_
        refine lv_aload_n hx hb dX21_holds_48 rfl (lv_at hl 1 rfl) ?_
        refine g_calll (sum_run S hH hK hXN hl.1 (vs_all l G n) (show SumAt n (hN M1) q_ f_ by rw [n1]; exact hs1) hC1 q1221 dX21_holds_49 ⟨by dsimp only [rmD]; omega, by dsimp only [rmD]; omega⟩ ⟨Nat.le_of_ble_eq_true rfl, Nat.le_of_ble_eq_true rfl⟩ (Nat.le_of_ble_eq_true rfl)) hH hA (fun z49 M49_ H locs q_49 hH hz_49 => ?_)
        rcases q_49 with ⟨e49, g49⟩ | ⟨e49, g49⟩
        · -- 49s
          have hH := HV_to hH g49
          refine g_put (ci := 18) (ty := .long) hx hb hts in_X21 tyX21 tyX21_ok nmX21 hown hK hH f22 rfl 3 (by decide) (hts _ q1130) (fun _ h9 => h9) rfl (by decide +kernel) rfl rfl (Nat.le_of_ble_eq_true rfl) dX21_holds_52 (fun H locs hH => ?_)
          obtain ⟨M24, e_M24⟩ : ∃ M24, M24 = hs M1 a (oB 18 [.int (iI (cl.1 - 1)), .ref q_, .ref r_, .long (lI z49)]) := ⟨_, rfl⟩
          have hH := HV_to hH e_M24.symm
          have f24 : M24 a = some (oB 18 [.int (iI (cl.1 - 1)), .ref q_, .ref r_, .long (lI z49)]) := by rw [e_M24]; exact hs_s
          have f25 : M24 c_ = some (csE ci nb 0 t) := by rw [e_M24]; exact (hs_n (Ne.symm (ne_oc f22 f_M1 hC.2.1 (by decide)))).trans f_M1
          have f26 : M24 nb = some (aI (G.2.1 0) 9 g) := by rw [e_M24]; exact (hs_n (ne_ao f23 f22)).trans f23
          have n2 : hN M24 = hN M := by rw [e_M24]; exact (hN_told f22).trans (by assumption)
          refine lv_aload_n hx hb dX21_holds_55 rfl (lv_at hl 1 rfl) ?_
          refine e_brk hx hb hts hown hK hH f25 hC.2.1 q265 dX21_holds_56 ?_
          refine n_if_ne (tgt := 66) hx hb (r32 (by omega)) dX21_holds_59 (by decide) (fun h => absurd h (by decide)) (fun _ => ?_)
          refine n_iconst hx hb dX21_holds_62 ?_
          refine lv_goto (tgt := 67) hx hb dX21_holds_63 (by decide) ?_
          refine g_zret hx hb hr hlk hH dX21_holds_67 (Or.inr rfl) ?_
          exact ⟨n2, (clH_y hs0 ht0 (fun f q => by cases q; exact ⟨_, e49⟩) (fun f q => by cases q; rw [e17, show z17 = 1 by omega])).symm, fun _ => ⟨some q_, some r_, by rw [clS_v hs0 e49]; exact f24⟩⟩
        · -- 49n
          have hH := HV_to hH g49
          have n49 : hN (hs M1 c_ (csE ci nb 1 t)) = hN M := (hN_brk hC1.1).trans n1
          have fa49 := (hs_n (ne_oc f22 hC1.1 hC.2.1 (by decide)) : hs M1 c_ (csE ci nb 1 t) a = _).trans f22
          refine g_put (ci := 18) (ty := .long) hx hb hts in_X21 tyX21 tyX21_ok nmX21 hown hK hH fa49 rfl 3 (by decide) (hts _ q1130) (fun _ h9 => h9) rfl (by decide +kernel) rfl rfl (Nat.le_of_ble_eq_true rfl) dX21_holds_52 (fun H locs hH => ?_)
          obtain ⟨M27, e_M27⟩ : ∃ M27, M27 = hs (hs M1 c_ (csE ci nb 1 t)) a (oB 18 [.int (iI (cl.1 - 1)), .ref q_, .ref r_, .long (lI z49)]) := ⟨_, rfl⟩
          have hH := HV_to hH e_M27.symm
          have f27 : M27 a = some (oB 18 [.int (iI (cl.1 - 1)), .ref q_, .ref r_, .long (lI z49)]) := by rw [e_M27]; exact hs_s
          have f28 : M27 c_ = some (csE ci nb 1 t) := by rw [e_M27]; exact (hs_n (Ne.symm (ne_oc fa49 hs_s hC.2.1 (by decide)))).trans hs_s
          have n2 : hN M27 = hN M := by rw [e_M27]; exact (hN_told fa49).trans (by assumption)
          refine lv_aload_n hx hb dX21_holds_55 rfl (lv_at hl 1 rfl) ?_
          refine e_brk hx hb hts hown hK hH f28 hC.2.1 q265 dX21_holds_56 ?_
          refine n_if_ne (tgt := 66) hx hb (r32 (by omega)) dX21_holds_59 (by decide) (fun _ => ?_) (fun h => absurd h (by decide))
          refine n_iconst hx hb dX21_holds_66 ?_
          refine g_zret hx hb hr hlk hH dX21_holds_67 (Or.inl rfl) ?_
          exact ⟨n2, (clH_ns hs0 e49).symm, fun q => absurd q (by decide)⟩
    · -- 17n
      have hH := HV_to hH g17
      have n17 : hN (hs M1 c_ (csE ci nb 1 t)) = hN M := (hN_brk hC1.1).trans n1
      have fa17 := (hs_n (ne_oc f22 hC1.1 hC.2.1 (by decide)) : hs M1 c_ (csE ci nb 1 t) a = _).trans f22
      refine n_if_eq (tgt := 30) hx hb (r32 (by omega)) dX21_holds_20 (by decide) (fun c_20 => ?_) (fun c_20 => ?_)
      · -- 20T
        refine n_iconst hx hb dX21_holds_30 ?_
        refine g_zret hx hb hr hlk hH dX21_holds_31 (Or.inl rfl) ?_
        exact ⟨n17, (clH_nt ht0 (by rw [e17]; intro q; cases q)).symm, fun q => absurd q (by decide)⟩
      · -- 20F
        refine lv_aload_n hx hb dX21_holds_23 rfl (lv_at hl 1 rfl) ?_
        refine e_brk hx hb hts hown hK hH hs_s hC.2.1 q265 dX21_holds_24 ?_
        refine n_if_eq (tgt := 32) hx hb (r32 (by omega)) dX21_holds_27 (by decide) (fun h => absurd h (by decide)) (fun _ => ?_)
        refine n_iconst hx hb dX21_holds_30 ?_
        refine g_zret hx hb hr hlk hH dX21_holds_31 (Or.inl rfl) ?_
        exact ⟨n17, (clH_nt ht0 (by rw [e17]; intro q; cases q)).symm, fun q => absurd q (by decide)⟩
