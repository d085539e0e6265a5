theorem kd_X0_text : yX0_text.cls = RX0 ∧ yX0_text.cls ≠ "java/lang/invoke/MethodHandle" ∧ yX0_text.cls ≠ "java/lang/invoke/VarHandle" ∧ (parseMethodDescriptor yX0_text.desc).map (fun d => d.parameters.length) = some 0 := by decide +kernel
theorem xm_X0_text (l : Launch) (G : MG) (M : Hp) (K : (Nat → Nat) × (Nat → Nat)) (σ : St) (x : XGh) (ω : XCt) (t : Nat) (u : PS) (L_ : List Cl) (a : Nat) (sz : Nat) (hR : RX G M a σ x ω) (hTE : TE σ t) (hKG : ∀ i, i < 21 → G.2.2 (100 + i) = K.1 i) (hAll : rmAll (rC σ t) (rV σ t) (rL σ t) 60 t = some (u, L_)) (hBu : BS t u) (hI : KI (σ 2)) (hT : TT (σ 2)) (h40 : F40 σ) : Met l yX0_text (wsW_ yX0_text cX0_text 2 (some .int) [(29, 64, 67, 284)]) (rmX 90 1700 7000) (xP G (XRd K M) [.ref a] M sz) (xQi G (DA M sz) (fun z M' => z = (textF σ t u).1 ∧ ∃ x' ω', RX G M' a (textF σ t u).2 x' ω')) 1700 7000 (DA M sz) := by
  refine h_start (by decide) (Nat.le_of_ble_eq_true rfl) ?_
  intro p e s m below meth c ⟨S, hr, hlk, hH, hK, hX, hsz, hnm⟩ hto ls hl
  have hXN : XN s := hX.1
  subst hsz
  obtain ⟨hx, hb, hml, hown, hts⟩ := S
  have S : CallFix p m c _ _ s _ lw_all RX0 := ⟨hx, hb, hml, hown, hts⟩
  have hA : ∀ q, s.heap.size ≤ q → DA M s.heap.size q := fun q hq => Or.inr hq
  have hl : lv_has ls 2 [(0, .ref a)] := hl
  have b0 := hI.c
  unfold kCnt at b0
  have hXN : XN s := hX.1
  have hb9 := hBu
  unfold BS at hb9
  have ht9 := hTE.1.1
  have hn9 := hTE.2.1
  have hW := WK_of hI hT
  refine lv_aload_n hx hb dX0_text_0 rfl (lv_at hl 0 rfl) ?_
  refine x_get hx hb hts in_X0 hown hK hH hR.o rfl 0 (by decide) q339 (fun _ h9 => h9) rfl (by decide) dX0_text_1 ?_
  refine x_getN hx hb hts in_X1 hown hK hH hR.b0 rfl 5 (by decide) hXN q172 (fun _ h9 => h9) rfl (by decide) dX0_text_4 ?_
  refine n_bipush (z := 12) hx hb dX0_text_7 (by decide) ?_
  refine n_icmp_ne (tgt := 24) hx hb (r32 (by omega)) (r32 (by omega)) dX0_text_9 (by decide) (fun c_9 => ?_) (fun c_9 => ?_)
  · -- 9T
    have h12 : ¬ σ 2 1756 = 12 := c_9
    refine lv_aload_n hx hb dX0_text_24 rfl (lv_at hl 0 rfl) ?_
    refine n_iconst hx hb dX0_text_25 ?_
    refine x_put (ty := .int) hx hb hts in_X0 tyX0 tyX0_ok nmX0 hown hK hH hR.o rfl 8 (by decide) q349 (fun _ h9 => h9) rfl (by decide +kernel) rfl rfl (Nat.le_of_ble_eq_true rfl) (by decide) dX0_text_26 (fun H locs hH => ?_)
    obtain ⟨M1, e_M1⟩ : ∃ M1, M1 = hs M a (oB 1 [.ref (gb x 0 0), .ref (gp x 1), .ref (gp x 2), .int (iI (σ 0 0)), .ref (gp x 4), .ref (gp x 5), .int (iI (σ 9 0)), .ref (gp x 7), .int (iI (-1)), .ref (gp x 9), .ref (gp x 10), .ref (gp x 11), .long (lI (gl ω))]) := ⟨_, rfl⟩
    have hH := XV_to hH e_M1.symm
    have f1 : M1 a = some (oB 1 [.ref (gb x 0 0), .ref (gp x 1), .ref (gp x 2), .int (iI (σ 0 0)), .ref (gp x 4), .ref (gp x 5), .int (iI (σ 9 0)), .ref (gp x 7), .int (iI (-1)), .ref (gp x 9), .ref (gp x 10), .ref (gp x 11), .long (lI (gl ω))]) := by rw [e_M1]; exact hs_s
    obtain ⟨ω2, hR2⟩ : ∃ ω2, RX G M1 a (st σ 10 0 (-1)) x ω2 := ⟨_, by rw [e_M1]; exact hR.x0 (f := 10) (v := (-1)) (by decide)⟩
    have hW2 : WK ((st σ 10 0 (-1)) 2) := by rw [st_n (by decide)]; exact hW
    have hF2 : F40 (st σ 10 0 (-1)) := F40_o h40 (by decide)
    have e56 : st σ 10 0 (-1) 2 = σ 2 := st_n (by decide)
    refine lv_aload_n hx hb dX0_text_29 rfl (lv_at hl 0 rfl) ?_
    refine x_get hx hb hts in_X0 hown hK hH hR2.o rfl 0 (by decide) q339 (fun _ h9 => h9) rfl (by decide) dX0_text_30 ?_
    refine x_getN hx hb hts in_X1 hown hK hH hR2.b0 rfl 12 (by decide) hXN q186 (fun _ h9 => h9) rfl (by decide) dX0_text_33 ?_
    refine lv_aload_n hx hb dX0_text_36 rfl (lv_at hl 0 rfl) ?_
    refine x_get hx hb hts in_X0 hown hK hH hR2.o rfl 0 (by decide) q339 (fun _ h9 => h9) rfl (by decide) dX0_text_37 ?_
    refine x_getN hx hb hts in_X1 hown hK hH hR2.b0 rfl 5 (by decide) hXN q172 (fun _ h9 => h9) rfl (by decide) dX0_text_40 ?_
    refine W.eq (g2 := F0 m 43 ls (.int (iI (σ 2 1756)) :: .ref (gb x 0 12) :: [])) (by rw [e56]) ?_
    refine lv_aload_n hx hb dX0_text_43 rfl (lv_at hl 0 rfl) ?_
    refine x_get hx hb hts in_X0 hown hK hH hR2.o rfl 7 (by decide) q348 (fun _ h9 => h9) rfl (by decide) dX0_text_44 ?_
    have hRD9 : RD G M1 a (st σ 10 0 (-1)) (gp x) (gy ω2 5) (gb x 0 0) (gl ω2) x (gv ω2 0) (gv ω2 1) (gv ω2 2) (gv ω2 3) (gv ω2 4) (gn ω2 24) := ⟨ω2, hR2, rfl, rfl, rfl, rfl, rfl, rfl, rfl, rfl, rfl, rfl⟩
    have hf7 := hRD9.c
    refine r_callq (r_runV (As := []) (rest := [.int (iI (σ 2 1756)), .ref (gb x 0 12)]) S hH hK (hX.at hH) XRd_b hl.1 hf7 rfl (xp_X3_read l G M1 K a (st σ 10 0 (-1)) t (gp x) (gy ω2 5) (gb x 0 0) (gl ω2) x (gv ω2 0) (gv ω2 1) (gv ω2 2) (gv ω2 3) (gv ω2 4) (gn ω2 24) (u, L_) _ (TE_st hTE) hRD9 hKG (by rw [rC_st.1, rC_st.2.1, rC_st.2.2]; exact hAll)) (lw_V q817 q818 q819 q108 q820) kd_X3_read rfl rfl dX0_text_47 (hR := ⟨by dsimp only [rmX, rmD]; omega, by dsimp only [rmX, rmD]; omega⟩) (hf := ⟨by dsimp only [rmX]; omega, by dsimp only [rmX]; omega⟩)) hH hA (fun q9_ pl_ M9_ H locs hT_47 => ?_) (fun r9_ M47_ H locs q_47 hH hz_47 => ?_)
    · -- 47X
      obtain ⟨⟨hbad, hpl, x9, ω9, hR9, hgp9⟩, hH, hq9, ce, hc1, hc2, hc3⟩ := hT_47
      have hbad : u.2.2 ≠ -1 := hbad
      have hpl : pl_ = u.2.2 := hpl
      refine vx_catch (E := "BrothFlasks$Wrong") (name := "BrothFlasks$Wrong") hown [] ⟨29, 64, 67, 284⟩ [] hto (fun z hz => absurd hz (by simp)) (by decide) (by decide) (hts _ q816) (va_Nw.use rfl (hXN.1 _ q839 rfl)) hc1 hc2 hc3 ?_
      refine lv_astore_n hx hb dX0_text_67 rfl hl (Nat.le_of_ble_eq_true rfl) (lv' := [(1, .ref q9_), (0, .ref a)]) rfl (fun ls hl => ?_)
      refine lv_aload_n hx hb dX0_text_68 rfl (lv_at hl 1 rfl) ?_
      refine lv_aload_n hx hb dX0_text_69 rfl (lv_at hl 0 rfl) ?_
      refine x_getN hx hb hts in_X11 hown hK hH hq9 rfl 6 (by decide) hXN q884 (fun _ h9 => h9) rfl (by decide) dX0_text_70 ?_
      refine x_put (ty := .int) hx hb hts in_X0 tyX0 tyX0_ok nmX0 hown hK hH hR9.o rfl 8 (by decide) q349 (fun _ h9 => h9) rfl (by decide +kernel) rfl rfl (Nat.le_of_ble_eq_true rfl) (by decide) dX0_text_73 (fun H locs hH => ?_)
      obtain ⟨M3, e_M3⟩ : ∃ M3, M3 = hs M9_ a (oB 1 [.ref (gb x9 0 0), .ref (gp x9 1), .ref (gp x9 2), .int (iI ((st σ 10 0 (-1)) 0 0)), .ref (gp x9 4), .ref (gp x9 5), .int (iI ((st σ 10 0 (-1)) 9 0)), .ref (gp x9 7), .int (iI pl_), .ref (gp x9 9), .ref (gp x9 10), .ref (gp x9 11), .long (lI (gl ω9))]) := ⟨_, rfl⟩
      have hH := XV_to hH e_M3.symm
      have f3 : M3 a = some (oB 1 [.ref (gb x9 0 0), .ref (gp x9 1), .ref (gp x9 2), .int (iI ((st σ 10 0 (-1)) 0 0)), .ref (gp x9 4), .ref (gp x9 5), .int (iI ((st σ 10 0 (-1)) 9 0)), .ref (gp x9 7), .int (iI pl_), .ref (gp x9 9), .ref (gp x9 10), .ref (gp x9 11), .long (lI (gl ω9))]) := by rw [e_M3]; exact hs_s
      obtain ⟨ω4, hR4⟩ : ∃ ω4, RX G M3 a (st (st σ 10 0 (-1)) 10 0 pl_) x9 ω4 := ⟨_, by rw [e_M3]; exact hR9.x0 (f := 10) (v := pl_) (by decide)⟩
      have hW4 : WK ((st (st σ 10 0 (-1)) 10 0 pl_) 2) := by rw [st_n (by decide)]; exact hW2
      have hF4 : F40 (st (st σ 10 0 (-1)) 10 0 pl_) := F40_o hF2 (by decide)
      refine lv_aload_n hx hb dX0_text_76 rfl (lv_at hl 1 rfl) ?_
      refine n_iconst hx hb dX0_text_77 ?_
      refine x_put (ty := .int) hx hb hts in_X0 tyX0 tyX0_ok nmX0 hown hK hH hR4.o rfl 6 (by decide) q347 (fun _ h9 => h9) rfl (by decide +kernel) rfl rfl (Nat.le_of_ble_eq_true rfl) (by decide) dX0_text_78 (fun H locs hH => ?_)
      obtain ⟨M5, e_M5⟩ : ∃ M5, M5 = hs M3 a (oB 1 [.ref (gb x9 0 0), .ref (gp x9 1), .ref (gp x9 2), .int (iI ((st (st σ 10 0 (-1)) 10 0 pl_) 0 0)), .ref (gp x9 4), .ref (gp x9 5), .int (iI 0), .ref (gp x9 7), .int (iI ((st (st σ 10 0 (-1)) 10 0 pl_) 10 0)), .ref (gp x9 9), .ref (gp x9 10), .ref (gp x9 11), .long (lI (gl ω4))]) := ⟨_, rfl⟩
      have hH := XV_to hH e_M5.symm
      have f5 : M5 a = some (oB 1 [.ref (gb x9 0 0), .ref (gp x9 1), .ref (gp x9 2), .int (iI ((st (st σ 10 0 (-1)) 10 0 pl_) 0 0)), .ref (gp x9 4), .ref (gp x9 5), .int (iI 0), .ref (gp x9 7), .int (iI ((st (st σ 10 0 (-1)) 10 0 pl_) 10 0)), .ref (gp x9 9), .ref (gp x9 10), .ref (gp x9 11), .long (lI (gl ω4))]) := by rw [e_M5]; exact hs_s
      obtain ⟨ω6, hR6⟩ : ∃ ω6, RX G M5 a (st (st (st σ 10 0 (-1)) 10 0 pl_) 9 0 0) x9 ω6 := ⟨_, by rw [e_M5]; exact hR4.x0 (f := 9) (v := 0) (by decide)⟩
      have hW6 : WK ((st (st (st σ 10 0 (-1)) 10 0 pl_) 9 0 0) 2) := by rw [st_n (by decide)]; exact hW4
      have hF6 : F40 (st (st (st σ 10 0 (-1)) 10 0 pl_) 9 0 0) := F40_o hF4 (by decide)
      refine lv_aload_n hx hb dX0_text_81 rfl (lv_at hl 1 rfl) ?_
      refine x_get hx hb hts in_X0 hown hK hH hR6.o rfl 8 (by decide) q349 (fun _ h9 => h9) rfl (by decide) dX0_text_82 ?_
      refine W.eq (g2 := F0 m 85 ls (.int (iI u.2.2) :: [])) (by rw [st_n (by decide), st_s, hpl]) ?_
      refine n_iconst hx hb dX0_text_85 ?_
      refine n_icmp_ne (tgt := 105) hx hb (r32 (by omega)) (r32 (by omega)) dX0_text_86 (by decide) (fun c_86 => ?_) (fun c_86 => ?_)
      · -- 86T
        refine lv_aload_n hx hb dX0_text_105 rfl (lv_at hl 1 rfl) ?_
        refine n_bipush (z := -6) hx hb dX0_text_106 (by decide) ?_
        refine x_calli (x_runV (As := [.int (iI (-6))]) (rest := []) S hH hK (fun _ _ hW => XN.warm hW hXN) XN_b hl.1 hR6.o rfl (xm_X0_refuse l G M5 (st (st (st σ 10 0 (-1)) 10 0 pl_) 9 0 0) x9 ω6 a (-6) _ hR6 (by omega) (by omega)) (lw_V q393 q395 qs0 q105 q396) kd_X0_refuse rfl rfl dX0_text_108 (hR := ⟨by dsimp only [rmX, rmD]; omega, by dsimp only [rmX, rmD]; omega⟩) (hf := ⟨by dsimp only [rmX]; omega, by dsimp only [rmX]; omega⟩)) hH hA (fun z108 M108_ H locs q_108 hH hz_108 => ?_)
        obtain ⟨e_108, ω108x, hR108x⟩ := q_108
        subst e_108
        refine W.widen (k := 1700) (n := 7000) (by omega) (by omega) ?_
        refine vx_ret ?_
        refine x_iret hx hb hr hlk hH dX0_text_111 ?_
        exact cmd_ret2 (F := textF σ t u) ((if_neg h12).trans (if_neg hbad)) (RX.textN (v1 := -1) (by rw [← hpl]; exact hR108x))
      · -- 86F
        exact absurd (by omega) hbad
    · -- 47R
      obtain ⟨hfu, x9, q9, F9, T9, l9, d9, p9, pf9, er9, ⟨ω9, hR9, hgp9, -⟩, hE9, hTx⟩ := q_47
      subst er9
      have hfu : u.2.2 = -1 := hfu
      have hTx : TextAt G 200 (gI x9) q9 L_ := hTx
      have hgb9 : gb x9 = gb x := hE9.1.2
      obtain ⟨hls, hln, htn⟩ := rmAll_mn hTE.tk hAll hfu
      obtain ⟨ar9, k9, F19, ht19, -⟩ := id hTx
      have hm19 := hR9.sub _ _ ht19
      refine W.eq (g2 := F0 m 50 ls (.ref q9 :: .int (iI (σ 2 1756)) :: .ref (gb x9 0 12) :: [])) (by rw [hgb9]; rfl) ?_
      refine x_aast (E := "BrothFlasks$Text") hx hb hK hXN hH hR9.b12 rfl hm19 rfl (Or.inl rfl) (by omega) (by omega) (Nat.le_of_ble_eq_true rfl) dX0_text_50 (fun H locs hH => ?_)
      obtain ⟨M7, e_M7⟩ : ∃ M7, M7 = hs M47_ (gb x9 0 12) (aQ (G.2.1 9) 12 (upq (gq ω9 0 12) (σ 2 1756) (some q9))) := ⟨_, rfl⟩
      have hH := XV_to hH e_M7.symm
      have f7 : M7 (gb x9 0 12) = some (aQ (G.2.1 9) 12 (upq (gq ω9 0 12) (σ 2 1756) (some q9))) := by rw [e_M7]; exact hs_s
      obtain ⟨ω8, hR8, hQ8⟩ : ∃ ω8, RX G M7 a (st σ 10 0 (-1)) x9 ω8 ∧ gq ω8 0 12 = upq (gq ω9 0 12) (σ 2 1756) (some q9) := ⟨_, by rw [e_M7]; exact hR9.aq hF2 (k := 12) (i := (σ 2 1756)) (y := q9) (Or.inr (Or.inr (Or.inr (Or.inr ⟨rfl, Int.le_of_eq (by rw [e56]), _, ht19⟩)))) rfl, qS_s⟩
      refine lv_aload_n hx hb dX0_text_51 rfl (lv_at hl 0 rfl) ?_
      refine x_get hx hb hts in_X0 hown hK hH hR8.o rfl 0 (by decide) q339 (fun _ h9 => h9) rfl (by decide) dX0_text_52 ?_
      refine lv_dup hx hb dX0_text_55 rfl ?_
      refine x_getN hx hb hts in_X1 hown hK hH hR8.b0 rfl 5 (by decide) hXN q172 (fun _ h9 => h9) rfl (by decide) dX0_text_56 ?_
      refine n_iconst hx hb dX0_text_59 ?_
      refine n_iadd hx hb dX0_text_60 ?_
      refine W.eq (g2 := F0 m 61 ls (.int (iI (σ 2 1756 + 1)) :: .ref (gb x9 0 0) :: [])) (by rw [e56]) ?_
      refine x_putN (ty := .int) hx hb hts in_X1 tyX1 tyX1_ok nmX1 hown hK hH hR8.b0 rfl 5 (by decide) hXN q172 (fun _ h9 => h9) rfl (by decide +kernel) rfl rfl (Nat.le_of_ble_eq_true rfl) (by decide) dX0_text_61 (fun H locs hH => ?_)
      obtain ⟨M9, e_M9⟩ : ∃ M9, M9 = hs M7 (gb x9 0 0) (oB 2 [.int (iI ((st σ 10 0 (-1)) 2 1750)), .int (iI ((st σ 10 0 (-1)) 2 1752)), .int (iI ((st σ 10 0 (-1)) 2 1753)), .int (iI ((st σ 10 0 (-1)) 2 1754)), .int (iI ((st σ 10 0 (-1)) 2 1755)), .int (iI (σ 2 1756 + 1)), .int (iI ((st σ 10 0 (-1)) 2 1757)), .long (lI ((st σ 10 0 (-1)) 2 1751)), .ref (gb x9 0 8), .ref (gb x9 0 9), .ref (gb x9 0 10), .ref (gb x9 0 11), .ref (gb x9 0 12), .ref (gb x9 0 13), .ref (gb x9 0 14), .ref (gb x9 0 15), .ref (gb x9 0 16), .ref (gb x9 0 17), .ref (gb x9 0 18), .ref (gb x9 0 19), .ref (gb x9 0 20), .ref (gb x9 0 21)]) := ⟨_, rfl⟩
      have hH := XV_to hH e_M9.symm
      have f9 : M9 (gb x9 0 0) = some (oB 2 [.int (iI ((st σ 10 0 (-1)) 2 1750)), .int (iI ((st σ 10 0 (-1)) 2 1752)), .int (iI ((st σ 10 0 (-1)) 2 1753)), .int (iI ((st σ 10 0 (-1)) 2 1754)), .int (iI ((st σ 10 0 (-1)) 2 1755)), .int (iI (σ 2 1756 + 1)), .int (iI ((st σ 10 0 (-1)) 2 1757)), .long (lI ((st σ 10 0 (-1)) 2 1751)), .ref (gb x9 0 8), .ref (gb x9 0 9), .ref (gb x9 0 10), .ref (gb x9 0 11), .ref (gb x9 0 12), .ref (gb x9 0 13), .ref (gb x9 0 14), .ref (gb x9 0 15), .ref (gb x9 0 16), .ref (gb x9 0 17), .ref (gb x9 0 18), .ref (gb x9 0 19), .ref (gb x9 0 20), .ref (gb x9 0 21)]) := by rw [e_M9]; exact hs_s
      obtain ⟨ω10, hR10⟩ : ∃ ω10, RX G M9 a (sa (st σ 10 0 (-1)) 2 (txK (σ 2) t (rC σ t) (rV σ t))) x9 ω10 := ⟨_, by rw [e_M9]; exact (by have z9 := RX.textJ (C := rC σ t) (V := rV σ t) (t := (t : Int)) (L_ := L_) hR8 (by rw [e56]; exact hI) (by rw [e56]; exact hT) hF2 (by rw [e56]; exact h12) (by omega) (by omega) (rC_t hTE) hls (by rw [e56, hQ8]; exact upq_s) hTx; rw [e56] at z9; exact z9)⟩
      refine lv_goto (tgt := 76) hx hb dX0_text_64 (by decide) ?_
      refine lv_aload_n hx hb dX0_text_76 rfl (lv_at hl 0 rfl) ?_
      refine n_iconst hx hb dX0_text_77 ?_
      refine x_put (ty := .int) hx hb hts in_X0 tyX0 tyX0_ok nmX0 hown hK hH hR10.o rfl 6 (by decide) q347 (fun _ h9 => h9) rfl (by decide +kernel) rfl rfl (Nat.le_of_ble_eq_true rfl) (by decide) dX0_text_78 (fun H locs hH => ?_)
      obtain ⟨M11, e_M11⟩ : ∃ M11, M11 = hs M9 a (oB 1 [.ref (gb x9 0 0), .ref (gp x9 1), .ref (gp x9 2), .int (iI ((sa (st σ 10 0 (-1)) 2 (txK (σ 2) t (rC σ t) (rV σ t))) 0 0)), .ref (gp x9 4), .ref (gp x9 5), .int (iI 0), .ref (gp x9 7), .int (iI ((sa (st σ 10 0 (-1)) 2 (txK (σ 2) t (rC σ t) (rV σ t))) 10 0)), .ref (gp x9 9), .ref (gp x9 10), .ref (gp x9 11), .long (lI (gl ω10))]) := ⟨_, rfl⟩
      have hH := XV_to hH e_M11.symm
      have f11 : M11 a = some (oB 1 [.ref (gb x9 0 0), .ref (gp x9 1), .ref (gp x9 2), .int (iI ((sa (st σ 10 0 (-1)) 2 (txK (σ 2) t (rC σ t) (rV σ t))) 0 0)), .ref (gp x9 4), .ref (gp x9 5), .int (iI 0), .ref (gp x9 7), .int (iI ((sa (st σ 10 0 (-1)) 2 (txK (σ 2) t (rC σ t) (rV σ t))) 10 0)), .ref (gp x9 9), .ref (gp x9 10), .ref (gp x9 11), .long (lI (gl ω10))]) := by rw [e_M11]; exact hs_s
      obtain ⟨ω12, hR12⟩ : ∃ ω12, RX G M11 a (st (sa (st σ 10 0 (-1)) 2 (txK (σ 2) t (rC σ t) (rV σ t))) 9 0 0) x9 ω12 := ⟨_, by rw [e_M11]; exact hR10.x0 (f := 9) (v := 0) (by decide)⟩
      refine lv_aload_n hx hb dX0_text_81 rfl (lv_at hl 0 rfl) ?_
      refine x_get hx hb hts in_X0 hown hK hH hR12.o rfl 8 (by decide) q349 (fun _ h9 => h9) rfl (by decide) dX0_text_82 ?_
      refine W.eq (g2 := F0 m 85 ls (.int (iI (-1)) :: [])) (by rw [st_n (by decide), sa_n (by decide), st_s]) ?_
      refine n_iconst hx hb dX0_text_85 ?_
      refine n_icmp_ne (tgt := 105) hx hb (r32 (by omega)) (r32 (by omega)) dX0_text_86 (by decide) (fun h => absurd h (by decide)) (fun _ => ?_)
      refine lv_aload_n hx hb dX0_text_89 rfl (lv_at hl 0 rfl) ?_
      refine lv_aload_n hx hb dX0_text_90 rfl (lv_at hl 0 rfl) ?_
      refine x_get hx hb hts in_X0 hown hK hH hR12.o rfl 0 (by decide) q339 (fun _ h9 => h9) rfl (by decide) dX0_text_91 ?_
      refine x_getN hx hb hts in_X1 hown hK hH hR12.b0 rfl 5 (by decide) hXN q172 (fun _ h9 => h9) rfl (by decide) dX0_text_94 ?_
      refine W.eq (g2 := F0 m 97 ls (.int (iI (σ 2 1756 + 1)) :: .ref a :: [])) (by rw [st_n (by decide), sa_s, txK_c]) ?_
      refine n_iconst hx hb dX0_text_97 ?_
      refine n_isub hx hb dX0_text_98 ?_
      refine W.eq (g2 := F0 m 99 ls (.int (iI (σ 2 1756)) :: .ref a :: [])) (by rw [show σ 2 1756 + 1 - 1 = σ 2 1756 by omega]) ?_
      refine x_calli (x_runV (As := [.int (iI (σ 2 1756))]) (rest := []) S hH hK (fun _ _ hW => XN.warm hW hXN) XN_b hl.1 hR12.o rfl (xm_X0_done l G M11 (st (sa (st σ 10 0 (-1)) 2 (txK (σ 2) t (rC σ t) (rV σ t))) 9 0 0) x9 ω12 a (σ 2 1756) _ hR12) (lw_V q425 q427 qs1 q105 q428) kd_X0_done rfl rfl dX0_text_99 (hR := ⟨by dsimp only [rmX, rmD]; omega, by dsimp only [rmX, rmD]; omega⟩) (hf := ⟨by dsimp only [rmX]; omega, by dsimp only [rmX]; omega⟩)) hH hA (fun z99 M99_ H locs q_99 hH hz_99 => ?_)
      obtain ⟨e_99, ω99x, hR99x⟩ := q_99
      subst e_99
      refine lv_goto (tgt := 111) hx hb dX0_text_102 (by decide) ?_
      refine W.widen (k := 1700) (n := 7000) (by omega) (by omega) ?_
      refine vx_ret ?_
      refine x_iret hx hb hr hlk hH dX0_text_111 ?_
      exact cmd_ret2 (F := textF σ t u) ((if_neg h12).trans (if_pos hfu)) (RX.textY (v1 := 0) hfu hR99x)
  · -- 9F
    refine lv_aload_n hx hb dX0_text_12 rfl (lv_at hl 0 rfl) ?_
    refine n_iconst hx hb dX0_text_13 ?_
    refine x_put (ty := .int) hx hb hts in_X0 tyX0 tyX0_ok nmX0 hown hK hH hR.o rfl 6 (by decide) q347 (fun _ h9 => h9) rfl (by decide +kernel) rfl rfl (Nat.le_of_ble_eq_true rfl) (by decide) dX0_text_14 (fun H locs hH => ?_)
    obtain ⟨M13, e_M13⟩ : ∃ M13, M13 = hs M a (oB 1 [.ref (gb x 0 0), .ref (gp x 1), .ref (gp x 2), .int (iI (σ 0 0)), .ref (gp x 4), .ref (gp x 5), .int (iI 0), .ref (gp x 7), .int (iI (σ 10 0)), .ref (gp x 9), .ref (gp x 10), .ref (gp x 11), .long (lI (gl ω))]) := ⟨_, rfl⟩
    have hH := XV_to hH e_M13.symm
    have f13 : M13 a = some (oB 1 [.ref (gb x 0 0), .ref (gp x 1), .ref (gp x 2), .int (iI (σ 0 0)), .ref (gp x 4), .ref (gp x 5), .int (iI 0), .ref (gp x 7), .int (iI (σ 10 0)), .ref (gp x 9), .ref (gp x 10), .ref (gp x 11), .long (lI (gl ω))]) := by rw [e_M13]; exact hs_s
    obtain ⟨ω14, hR14⟩ : ∃ ω14, RX G M13 a (st σ 9 0 0) x ω14 := ⟨_, by rw [e_M13]; exact hR.x0 (f := 9) (v := 0) (by decide)⟩
    have hW14 : WK ((st σ 9 0 0) 2) := by rw [st_n (by decide)]; exact hW
    have hF14 : F40 (st σ 9 0 0) := F40_o h40 (by decide)
    refine lv_aload_n hx hb dX0_text_17 rfl (lv_at hl 0 rfl) ?_
    refine n_bipush (z := -5) hx hb dX0_text_18 (by decide) ?_
    refine x_calli (x_runV (As := [.int (iI (-5))]) (rest := []) S hH hK (fun _ _ hW => XN.warm hW hXN) XN_b hl.1 hR14.o rfl (xm_X0_refuse l G M13 (st σ 9 0 0) x ω14 a (-5) _ hR14 (by omega) (by omega)) (lw_V q393 q395 qs0 q105 q396) kd_X0_refuse rfl rfl dX0_text_20 (hR := ⟨by dsimp only [rmX, rmD]; omega, by dsimp only [rmX, rmD]; omega⟩) (hf := ⟨by dsimp only [rmX]; omega, by dsimp only [rmX]; omega⟩)) hH hA (fun z20 M20_ H locs q_20 hH hz_20 => ?_)
    obtain ⟨e_20, ω20x, hR20x⟩ := q_20
    subst e_20
    refine W.widen (k := 1700) (n := 7000) (by omega) (by omega) ?_
    refine vx_ret ?_
    refine x_iret hx hb hr hlk hH dX0_text_23 ?_
    exact cmd_ret2 (F := textF σ t u) (if_pos (by omega)) hR20x
