theorem kd_X0_flask : yX0_flask.cls = RX0 ∧ yX0_flask.cls ≠ "java/lang/invoke/MethodHandle" ∧ yX0_flask.cls ≠ "java/lang/invoke/VarHandle" ∧ (parseMethodDescriptor yX0_flask.desc).map (fun d => d.parameters.length) = some 4 := by decide +kernel
theorem xm_X0_flask (l : Launch) (G : MG) (M : Hp) (σ : St) (x : XGh) (ω : XCt) (a : Nat) (b : Int) (so : Int) (pl : Int) (hd : Int) (sz : Nat) (hR : RX G M a σ x ω) (h_b : R32 b) (h_so : R32 so) (h_pl : R32 pl) (h_hd : R32 hd) (hI : KI (σ 2)) (hT : TT (σ 2)) (h40 : F40 σ) : Met l yX0_flask (ws_ yX0_flask cX0_flask 6 (some .int)) (rmX 6 3 27) (xP G XN [.ref a, .int (iI b), .int (iI so), .int (iI pl), .int (iI hd)] M sz) (xQi G (DA M sz) (fun z M' => z = (flaskF σ b so pl hd).1 ∧ ∃ x' ω', RX G M' a (flaskF σ b so pl hd).2 x' ω')) 3 27 (DA M sz) := by
  refine x_start (by decide) (Nat.le_of_ble_eq_true rfl) ?_
  intro p e s m below meth c ⟨S, hr, hlk, hH, hK, hXN, hsz, hnm⟩ ls hl
  subst hsz
  obtain ⟨hx, hb, hml, hown, hts⟩ := S
  have S : CallFix p m c _ _ s _ lw_all RX0 := ⟨hx, hb, hml, hown, hts⟩
  have hA : ∀ q, s.heap.size ≤ q → DA M s.heap.size q := fun q hq => Or.inr hq
  have hl : lv_has ls 6 [(0, .ref a), (1, .int (iI b)), (2, .int (iI so)), (3, .int (iI pl)), (4, .int (iI hd))] := hl
  have b0 := hI.c
  unfold kCnt at b0
  have h_b := R32.n h_b
  have h_so := R32.n h_so
  have h_pl := R32.n h_pl
  have h_hd := R32.n h_hd
  have hW := WK_of hI hT
  refine lv_iload_n hx hb dX0_flask_0 rfl (lv_at hl 1 rfl) ?_
  refine n_i2l hx hb (r32 (by omega)) dX0_flask_1 ?_
  refine n_lconst (z := 0) hx hb dX0_flask_2 (by decide) ?_
  refine lv_ldc2 (v := lI 5) hx hb hown (hts _ q433) dX0_flask_3 ?_
  refine x_calliF (x_runS (As := [.long (lI b), .long (lI 0), .long (lI 5)]) (rest := []) S hH hK (fun _ _ hW => XN.warm hW hXN) XN_b hl.1 (xm_X0_in l G M b 0 5 _ (r64 (by omega)) (r64 (by omega)) (r64 (by omega))) (lw_S q386 q387 q105 q388) kd_X0_in rfl rfl dX0_flask_6) hH hA (fun H locs hH => ?_)
  refine z_if_eq (tgt := 39) hx hb dX0_flask_9 (by decide) (fun c_9 => ?_) (fun c_9 => ?_)
  · -- 9T
    refine lv_aload_n hx hb dX0_flask_39 rfl (lv_at hl 0 rfl) ?_
    refine n_iconst hx hb dX0_flask_40 ?_
    refine x_calli (x_runV (As := [.int (iI (-1))]) (rest := []) S hH hK (fun _ _ hW => XN.warm hW hXN) XN_b hl.1 hR.o rfl (xm_X0_refuse l G M σ x ω a (-1) _ hR (by omega) (by omega)) (lw_V q393 q395 qs0 q105 q396) kd_X0_refuse rfl rfl dX0_flask_41) hH hA (fun z41 M41_ H locs q_41 hH hz_41 => ?_)
    obtain ⟨e_41, ω41x, hR41x⟩ := q_41
    subst e_41
    refine W.widen (k := 3) (n := 27) (Nat.le_of_ble_eq_true rfl) (Nat.le_of_ble_eq_true rfl) ?_
    refine x_iret hx hb hr hlk hH dX0_flask_44 ?_
    exact cmd_ret2 (F := flaskF σ b so pl hd) (by unfold flaskF; (repeat' split) <;> first | rfl | (exfalso; omega)) hR41x
  · -- 9F
    refine lv_iload_n hx hb dX0_flask_12 rfl (lv_at hl 2 rfl) ?_
    refine n_i2l hx hb (r32 (by omega)) dX0_flask_13 ?_
    refine n_lconst (z := 0) hx hb dX0_flask_14 (by decide) ?_
    refine lv_ldc2 (v := lI 5) hx hb hown (hts _ q433) dX0_flask_15 ?_
    refine x_calliF (x_runS (As := [.long (lI so), .long (lI 0), .long (lI 5)]) (rest := []) S hH hK (fun _ _ hW => XN.warm hW hXN) XN_b hl.1 (xm_X0_in l G M so 0 5 _ (r64 (by omega)) (r64 (by omega)) (r64 (by omega))) (lw_S q386 q387 q105 q388) kd_X0_in rfl rfl dX0_flask_18) hH hA (fun H locs hH => ?_)
    refine z_if_eq (tgt := 39) hx hb dX0_flask_21 (by decide) (fun c_21 => ?_) (fun c_21 => ?_)
    · -- 21T
      refine lv_aload_n hx hb dX0_flask_39 rfl (lv_at hl 0 rfl) ?_
      refine n_iconst hx hb dX0_flask_40 ?_
      refine x_calli (x_runV (As := [.int (iI (-1))]) (rest := []) S hH hK (fun _ _ hW => XN.warm hW hXN) XN_b hl.1 hR.o rfl (xm_X0_refuse l G M σ x ω a (-1) _ hR (by omega) (by omega)) (lw_V q393 q395 qs0 q105 q396) kd_X0_refuse rfl rfl dX0_flask_41) hH hA (fun z41 M41_ H locs q_41 hH hz_41 => ?_)
      obtain ⟨e_41, ω41x, hR41x⟩ := q_41
      subst e_41
      refine W.widen (k := 3) (n := 27) (Nat.le_of_ble_eq_true rfl) (Nat.le_of_ble_eq_true rfl) ?_
      refine x_iret hx hb hr hlk hH dX0_flask_44 ?_
      exact cmd_ret2 (F := flaskF σ b so pl hd) (by unfold flaskF; (repeat' split) <;> first | rfl | (exfalso; omega)) hR41x
    · -- 21F
      refine lv_iload_n hx hb dX0_flask_24 rfl (lv_at hl 3 rfl) ?_
      refine x_calliF (x_runS (As := [.int (iI pl)]) (rest := []) S hH hK (fun _ _ hW => XN.warm hW hXN) XN_b hl.1 (xm_X0_isPlace l G M pl _ (r32 (by omega))) (lw_S q444 q445 q105 q446) kd_X0_isPlace rfl rfl dX0_flask_25) hH hA (fun H locs hH => ?_)
      refine z_if_eq (tgt := 39) hx hb dX0_flask_28 (by decide) (fun c_28 => ?_) (fun c_28 => ?_)
      · -- 28T
        refine lv_aload_n hx hb dX0_flask_39 rfl (lv_at hl 0 rfl) ?_
        refine n_iconst hx hb dX0_flask_40 ?_
        refine x_calli (x_runV (As := [.int (iI (-1))]) (rest := []) S hH hK (fun _ _ hW => XN.warm hW hXN) XN_b hl.1 hR.o rfl (xm_X0_refuse l G M σ x ω a (-1) _ hR (by omega) (by omega)) (lw_V q393 q395 qs0 q105 q396) kd_X0_refuse rfl rfl dX0_flask_41) hH hA (fun z41 M41_ H locs q_41 hH hz_41 => ?_)
        obtain ⟨e_41, ω41x, hR41x⟩ := q_41
        subst e_41
        refine W.widen (k := 3) (n := 27) (Nat.le_of_ble_eq_true rfl) (Nat.le_of_ble_eq_true rfl) ?_
        refine x_iret hx hb hr hlk hH dX0_flask_44 ?_
        exact cmd_ret2 (F := flaskF σ b so pl hd) (by unfold flaskF; (repeat' split) <;> first | rfl | (exfalso; omega)) hR41x
      · -- 28F
        refine lv_iload hx hb dX0_flask_31 (lv_at hl 4 rfl) ?_
        refine x_calliF (x_runS (As := [.int (iI hd)]) (rest := []) S hH hK (fun _ _ hW => XN.warm hW hXN) XN_b hl.1 (xm_X0_isHand l G M hd _ (r32 (by omega))) (lw_S q461 q462 q105 q463) kd_X0_isHand rfl rfl dX0_flask_33) hH hA (fun H locs hH => ?_)
        refine z_if_ne (tgt := 45) hx hb dX0_flask_36 (by decide) (fun c_36 => ?_) (fun c_36 => ?_)
        · -- 36T
          refine lv_aload_n hx hb dX0_flask_45 rfl (lv_at hl 0 rfl) ?_
          refine x_get hx hb hts in_X0 hown hK hH hR.o rfl 0 (by decide) q339 (fun _ h9 => h9) rfl (by decide) dX0_flask_46 ?_
          refine x_getN hx hb hts in_X1 hown hK hH hR.b0 rfl 2 (by decide) hXN q166 (fun _ h9 => h9) rfl (by decide) dX0_flask_49 ?_
          refine n_bipush (z := 40) hx hb dX0_flask_52 (by decide) ?_
          refine n_icmp_ne (tgt := 64) hx hb (r32 (by omega)) (r32 (by omega)) dX0_flask_54 (by decide) (fun c_54 => ?_) (fun c_54 => ?_)
          · -- 54T
            refine lv_aload_n hx hb dX0_flask_64 rfl (lv_at hl 0 rfl) ?_
            refine x_get hx hb hts in_X0 hown hK hH hR.o rfl 0 (by decide) q339 (fun _ h9 => h9) rfl (by decide) dX0_flask_65 ?_
            refine x_getN hx hb hts in_X1 hown hK hH hR.b0 rfl 0 (by decide) hXN q162 (fun _ h9 => h9) rfl (by decide) dX0_flask_68 ?_
            refine lv_istore hx hb dX0_flask_71 hl (Nat.le_of_ble_eq_true rfl) (lv' := [(5, .int (iI (σ 2 1750))), (0, .ref a), (1, .int (iI b)), (2, .int (iI so)), (3, .int (iI pl)), (4, .int (iI hd))]) rfl (fun ls hl => ?_)
            refine lv_aload_n hx hb dX0_flask_73 rfl (lv_at hl 1 rfl) ?_
            refine x_get hx hb hts in_X0 hown hK hH hR.o rfl 0 (by decide) q339 (fun _ h9 => h9) rfl (by decide) dX0_flask_74 ?_
            refine x_getN hx hb hts in_X1 hown hK hH hR.b0 rfl 9 (by decide) hXN q180 (fun _ h9 => h9) rfl (by decide) dX0_flask_77 ?_
            refine lv_aload_n hx hb dX0_flask_80 rfl (lv_at hl 1 rfl) ?_
            refine x_get hx hb hts in_X0 hown hK hH hR.o rfl 0 (by decide) q339 (fun _ h9 => h9) rfl (by decide) dX0_flask_81 ?_
            refine x_getN hx hb hts in_X1 hown hK hH hR.b0 rfl 2 (by decide) hXN q166 (fun _ h9 => h9) rfl (by decide) dX0_flask_84 ?_
            refine lv_iload_n hx hb dX0_flask_87 rfl (lv_at hl 3 rfl) ?_
            refine n_iconst hx hb dX0_flask_88 ?_
            refine n_icmp_ne (tgt := 108) hx hb (r32 (by omega)) (r32 (by omega)) dX0_flask_89 (by decide) (fun c_89 => ?_) (fun c_89 => ?_)
            · -- 89T
              refine lv_iload_n hx hb dX0_flask_108 rfl (lv_at hl 3 rfl) ?_
              refine n_if_eq (tgt := 117) hx hb (r32 (by omega)) dX0_flask_109 (by decide) (fun c_109 => ?_) (fun c_109 => ?_)
              · -- 109T
                refine x_new (ci := 6) hx hb hts in_X7 tyX7 tyX7_ok hown q586 q587 q112 hK hH hA rfl [.int (iI 0), .int (iI 0), .int (iI 0), .int (iI 0), .int (iI 0), .int (iI 0), .int (iI 0), .int (iI 0), .int (iI 0), .int (iI 0), .int (iI 0), .int (iI 0), .int (iI 0), .int (iI 0), .int (iI 0), .int (iI 0), .int (iI 0), .null, .null] (fun j hj => by rcases (show j = 0 ∨ j = 1 ∨ j = 2 ∨ j = 3 ∨ j = 4 ∨ j = 5 ∨ j = 6 ∨ j = 7 ∨ j = 8 ∨ j = 9 ∨ j = 10 ∨ j = 11 ∨ j = 12 ∨ j = 13 ∨ j = 14 ∨ j = 15 ∨ j = 16 ∨ j = 17 ∨ j = 18 by omega) with rfl | rfl | rfl | rfl | rfl | rfl | rfl | rfl | rfl | rfl | rfl | rfl | rfl | rfl | rfl | rfl | rfl | rfl | rfl <;> rfl) (eN_id (by decide)) (Nat.le_of_ble_eq_true rfl) (Nat.le_of_ble_eq_true rfl) dX0_flask_117 (fun q1 H hq1 hH => ?_)
                obtain ⟨M1, e_M1⟩ : ∃ M1, M1 = hs M q1 (oB 6 [.int (iI 0), .int (iI 0), .int (iI 0), .int (iI 0), .int (iI 0), .int (iI 0), .int (iI 0), .int (iI 0), .int (iI 0), .int (iI 0), .int (iI 0), .int (iI 0), .int (iI 0), .int (iI 0), .int (iI 0), .int (iI 0), .int (iI 0), .null, .null]) := ⟨_, rfl⟩
                have hH := XV_to hH e_M1.symm
                have f1 : M1 q1 = some (oB 6 [.int (iI 0), .int (iI 0), .int (iI 0), .int (iI 0), .int (iI 0), .int (iI 0), .int (iI 0), .int (iI 0), .int (iI 0), .int (iI 0), .int (iI 0), .int (iI 0), .int (iI 0), .int (iI 0), .int (iI 0), .int (iI 0), .int (iI 0), .null, .null]) := by rw [e_M1]; exact hs_s
                have hR2 : RX G M1 a σ (xw x q1 1) ω := by rw [e_M1]; exact hR.al hq1 1
                have hw2_q1 : gw (xw x q1 1) q1 = 1 := xw_s
                refine lv_dup hx hb dX0_flask_120 rfl ?_
                refine lv_iload_n hx hb dX0_flask_121 rfl (lv_at hl 2 rfl) ?_
                refine lv_iload_n hx hb dX0_flask_122 rfl (lv_at hl 3 rfl) ?_
                refine lv_iload_n hx hb dX0_flask_123 rfl (lv_at hl 4 rfl) ?_
                refine lv_iload hx hb dX0_flask_124 (lv_at hl 5 rfl) ?_
                refine lv_iload hx hb dX0_flask_126 (lv_at hl 0 rfl) ?_
                refine x_callv (x_runI (As := [.int (iI b), .int (iI so), .int (iI pl), .int (iI hd), .int (iI (σ 2 1750))]) (rest := [.ref q1, .int (iI (σ 2 1753)), .ref (gb x 0 9)]) S hH hK (fun _ _ hW => XN.warm hW hXN) XN_b hl.1 (xm_X7_init l G M1 6 q1 b so pl hd (σ 2 1750) _ (by decide) f1) (lw_meth q471) q112 q588 q470 kd_X7_init rfl rfl dX0_flask_128) hH hA (fun M128_ H locs q_128 hH hz_128 => ?_)
                obtain ⟨q3a, q3b, hq3a, h0q3b, ne0_3, e0_3⟩ := q_128
                obtain ⟨M3, e_M3⟩ : ∃ M3, M3 = hs M1 q3a (aI (G.2.1 0) 4 (fun (_ : Int) => (0 : Int))) := ⟨_, rfl⟩
                have f3 : M3 q3a = some (aI (G.2.1 0) 4 (fun (_ : Int) => (0 : Int))) := by rw [e_M3]; exact hs_s
                have hR4 : RX G M3 a σ (xw (xw x q1 1) q3a 1) ω := by rw [e_M3]; exact hR2.al hq3a 1
                have ne_q1_q3a : q1 ≠ q3a := fun z => by have h9 := f1; rw [z, hq3a] at h9; cases h9
                have hw4_q1 := (xw_n (x := (xw x q1 1)) (c := 1) ne_q1_q3a).trans hw2_q1
                have hw4_q3a : gw (xw (xw x q1 1) q3a 1) q3a = 1 := xw_s
                have f5 : M3 q1 = some (oB 6 [.int (iI 0), .int (iI 0), .int (iI 0), .int (iI 0), .int (iI 0), .int (iI 0), .int (iI 0), .int (iI 0), .int (iI 0), .int (iI 0), .int (iI 0), .int (iI 0), .int (iI 0), .int (iI 0), .int (iI 0), .int (iI 0), .int (iI 0), .null, .null]) := by rw [e_M3]; exact (hs_n ne_q1_q3a).trans f1
                have hq3b : M3 q3b = none := by rw [e_M3]; exact (hs_n ne0_3.symm).trans h0q3b
                obtain ⟨M6, e_M6⟩ : ∃ M6, M6 = hs M3 q3b (aI (G.2.1 0) 4 (fun (_ : Int) => (0 : Int))) := ⟨_, rfl⟩
                have f6 : M6 q3b = some (aI (G.2.1 0) 4 (fun (_ : Int) => (0 : Int))) := by rw [e_M6]; exact hs_s
                have hR7 : RX G M6 a σ (xw (xw (xw x q1 1) q3a 1) q3b 1) ω := by rw [e_M6]; exact hR4.al hq3b 1
                have ne_q1_q3b : q1 ≠ q3b := fun z => by have h9 := f5; rw [z, hq3b] at h9; cases h9
                have ne_q3a_q3b : q3a ≠ q3b := fun z => by have h9 := f3; rw [z, hq3b] at h9; cases h9
                have hw7_q1 := (xw_n (x := (xw (xw x q1 1) q3a 1)) (c := 1) ne_q1_q3b).trans hw4_q1
                have hw7_q3a := (xw_n (x := (xw (xw x q1 1) q3a 1)) (c := 1) ne_q3a_q3b).trans hw4_q3a
                have hw7_q3b : gw (xw (xw (xw x q1 1) q3a 1) q3b 1) q3b = 1 := xw_s
                have f8 : M6 q1 = some (oB 6 [.int (iI 0), .int (iI 0), .int (iI 0), .int (iI 0), .int (iI 0), .int (iI 0), .int (iI 0), .int (iI 0), .int (iI 0), .int (iI 0), .int (iI 0), .int (iI 0), .int (iI 0), .int (iI 0), .int (iI 0), .int (iI 0), .int (iI 0), .null, .null]) := by rw [e_M6]; exact (hs_n ne_q1_q3b).trans f5
                have f9 : M6 q3a = some (aI (G.2.1 0) 4 (fun (_ : Int) => (0 : Int))) := by rw [e_M6]; exact (hs_n ne_q3a_q3b).trans f3
                have q_128 : M128_ = hs M6 q1 (oB 6 [.int (iI b), .int (iI so), .int (iI hd), .int (iI (σ 2 1750)), .int (iI pl), .int (iI 0), .int (iI 0), .int (iI (σ 2 1750)), .int (iI (-1)), .int (iI 0), .int (iI 0), .int (iI (-1)), .int (iI (-1)), .int (iI (-1)), .int (iI 0), .int (iI 0), .int (iI 0), .ref q3a, .ref q3b]) := by rw [e_M6, e_M3]; exact e0_3
                have e_M128_ := q_128
                have f10 : M128_ q1 = some (oB 6 [.int (iI b), .int (iI so), .int (iI hd), .int (iI (σ 2 1750)), .int (iI pl), .int (iI 0), .int (iI 0), .int (iI (σ 2 1750)), .int (iI (-1)), .int (iI 0), .int (iI 0), .int (iI (-1)), .int (iI (-1)), .int (iI (-1)), .int (iI 0), .int (iI 0), .int (iI 0), .ref q3a, .ref q3b]) := by rw [e_M128_]; exact hs_s
                have hR11 : RX G M128_ a σ (xw (xw (xw x q1 1) q3a 1) q3b 1) ω := by rw [e_M128_]; exact hR7.tmp hw7_q1
                have f12 : M128_ q3a = some (aI (G.2.1 0) 4 (fun (_ : Int) => (0 : Int))) := by rw [e_M128_]; exact (hs_n ne_q1_q3a.symm).trans f9
                have f13 : M128_ q3b = some (aI (G.2.1 0) 4 (fun (_ : Int) => (0 : Int))) := by rw [e_M128_]; exact (hs_n ne_q1_q3b.symm).trans f6
                refine lv_goto (tgt := 148) hx hb dX0_flask_131 (by decide) ?_
                refine x_aast (E := "BrothFlasks$Flask") hx hb hK hXN hH hR11.b9 rfl f10 rfl (Or.inr q2060) (by omega) (by omega) (Nat.le_of_ble_eq_true rfl) dX0_flask_148 (fun H locs hH => ?_)
                obtain ⟨M14, e_M14⟩ : ∃ M14, M14 = hs M128_ (gb x 0 9) (aQ (G.2.1 6) 40 (upq (gq ω 0 9) (σ 2 1753) (some q1))) := ⟨_, rfl⟩
                have hH := XV_to hH e_M14.symm
                have f14 : M14 (gb x 0 9) = some (aQ (G.2.1 6) 40 (upq (gq ω 0 9) (σ 2 1753) (some q1))) := by rw [e_M14]; exact hs_s
                obtain ⟨ω15, hR15, hQ15⟩ : ∃ ω15, RX G M14 a σ (xw (xw (xw x q1 1) q3a 1) q3b 1) ω15 ∧ gq ω15 0 9 = upq (gq ω 0 9) (σ 2 1753) (some q1) := ⟨_, by rw [e_M14]; exact hR11.aq h40 (k := 9) (i := (σ 2 1753)) (y := q1) (Or.inr (Or.inl ⟨rfl, Int.le_refl _⟩)) rfl, qS_s⟩
                have f16 : M14 q1 = some (oB 6 [.int (iI b), .int (iI so), .int (iI hd), .int (iI (σ 2 1750)), .int (iI pl), .int (iI 0), .int (iI 0), .int (iI (σ 2 1750)), .int (iI (-1)), .int (iI 0), .int (iI 0), .int (iI (-1)), .int (iI (-1)), .int (iI (-1)), .int (iI 0), .int (iI 0), .int (iI 0), .ref q3a, .ref q3b]) := by rw [e_M14]; exact (hs_n (neW hw7_q1 (hR11.wb (k := 9) (by decide)) (by decide))).trans f10
                have f17 : M14 q3a = some (aI (G.2.1 0) 4 (fun (_ : Int) => (0 : Int))) := by rw [e_M14]; exact (hs_n (neW hw7_q3a (hR11.wb (k := 9) (by decide)) (by decide))).trans f12
                have f18 : M14 q3b = some (aI (G.2.1 0) 4 (fun (_ : Int) => (0 : Int))) := by rw [e_M14]; exact (hs_n (neW hw7_q3b (hR11.wb (k := 9) (by decide)) (by decide))).trans f13
                refine lv_aload_n hx hb dX0_flask_149 rfl (lv_at hl 1 rfl) ?_
                refine x_get hx hb hts in_X0 hown hK hH hR15.o rfl 0 (by decide) q339 (fun _ h9 => h9) rfl (by decide) dX0_flask_150 ?_
                refine lv_dup hx hb dX0_flask_153 rfl ?_
                refine x_getN hx hb hts in_X1 hown hK hH hR15.b0 rfl 2 (by decide) hXN q166 (fun _ h9 => h9) rfl (by decide) dX0_flask_154 ?_
                refine n_iconst hx hb dX0_flask_157 ?_
                refine n_iadd hx hb dX0_flask_158 ?_
                refine x_putN (ty := .int) hx hb hts in_X1 tyX1 tyX1_ok nmX1 hown hK hH hR15.b0 rfl 2 (by decide) hXN q166 (fun _ h9 => h9) rfl (by decide +kernel) rfl rfl (Nat.le_of_ble_eq_true rfl) (by decide) dX0_flask_159 (fun H locs hH => ?_)
                obtain ⟨M19, e_M19⟩ : ∃ M19, M19 = hs M14 (gb x 0 0) (oB 2 [.int (iI (σ 2 1750)), .int (iI (σ 2 1752)), .int (iI ((σ 2 1753) + 1)), .int (iI (σ 2 1754)), .int (iI (σ 2 1755)), .int (iI (σ 2 1756)), .int (iI (σ 2 1757)), .long (lI (σ 2 1751)), .ref (gb x 0 8), .ref (gb x 0 9), .ref (gb x 0 10), .ref (gb x 0 11), .ref (gb x 0 12), .ref (gb x 0 13), .ref (gb x 0 14), .ref (gb x 0 15), .ref (gb x 0 16), .ref (gb x 0 17), .ref (gb x 0 18), .ref (gb x 0 19), .ref (gb x 0 20), .ref (gb x 0 21)]) := ⟨_, rfl⟩
                have hH := XV_to hH e_M19.symm
                have f19 : M19 (gb x 0 0) = some (oB 2 [.int (iI (σ 2 1750)), .int (iI (σ 2 1752)), .int (iI ((σ 2 1753) + 1)), .int (iI (σ 2 1754)), .int (iI (σ 2 1755)), .int (iI (σ 2 1756)), .int (iI (σ 2 1757)), .long (lI (σ 2 1751)), .ref (gb x 0 8), .ref (gb x 0 9), .ref (gb x 0 10), .ref (gb x 0 11), .ref (gb x 0 12), .ref (gb x 0 13), .ref (gb x 0 14), .ref (gb x 0 15), .ref (gb x 0 16), .ref (gb x 0 17), .ref (gb x 0 18), .ref (gb x 0 19), .ref (gb x 0 20), .ref (gb x 0 21)]) := by rw [e_M19]; exact hs_s
                obtain ⟨x20x, ω20, hR20⟩ : ∃ x20x ω20, RX G M19 a (flaskS σ b so pl hd) x20x ω20 := by rw [e_M19]; exact hR15.flaskJ hW h40 (by omega) (by rw [hQ15]; exact upq_s) hw7_q1 hw7_q3a hw7_q3b ne_q3a_q3b (by rw [show fci so = 6 from (if_neg (by omega)).trans (if_pos (by omega))]; exact f16) f17 f18
                refine lv_aload_n hx hb dX0_flask_162 rfl (lv_at hl 1 rfl) ?_
                refine lv_aload_n hx hb dX0_flask_163 rfl (lv_at hl 1 rfl) ?_
                refine x_get hx hb hts in_X0 hown hK hH hR20.o rfl 0 (by decide) q339 (fun _ h9 => h9) rfl (by decide) dX0_flask_164 ?_
                refine x_getN hx hb hts in_X1 hown hK hH hR20.b0 rfl 2 (by decide) hXN q166 (fun _ h9 => h9) rfl (by decide) dX0_flask_167 ?_
                refine W.eq (g2 := F0 m 170 ls (.int (iI (σ 2 1753 + 1)) :: .ref a :: [])) (by rw [flaskS_c]) ?_
                refine n_iconst hx hb dX0_flask_170 ?_
                refine n_isub hx hb dX0_flask_171 ?_
                refine W.eq (g2 := F0 m 172 ls (.int (iI (σ 2 1753)) :: .ref a :: [])) (by rw [show σ 2 1753 + 1 - 1 = σ 2 1753 by omega]) ?_
                refine x_calli (x_runV (As := [.int (iI (σ 2 1753))]) (rest := []) S hH hK (fun _ _ hW => XN.warm hW hXN) XN_b hl.1 hR20.o rfl (xm_X0_done l G M19 (flaskS σ b so pl hd) x20x ω20 a (σ 2 1753) _ hR20) (lw_V q425 q427 qs1 q105 q428) kd_X0_done rfl rfl dX0_flask_172) hH hA (fun z172 M172_ H locs q_172 hH hz_172 => ?_)
                obtain ⟨e_172, ω172x, hR172x⟩ := q_172
                subst e_172
                refine W.widen (k := 3) (n := 27) (Nat.le_of_ble_eq_true rfl) (Nat.le_of_ble_eq_true rfl) ?_
                refine x_iret hx hb hr hlk hH dX0_flask_175 ?_
                exact cmd_ret2 (F := flaskF σ b so pl hd) (by unfold flaskF; (repeat' split) <;> first | rfl | (exfalso; omega)) hR172x
              · -- 109F
                refine lv_iload_n hx hb dX0_flask_112 rfl (lv_at hl 3 rfl) ?_
                refine n_iconst hx hb dX0_flask_113 ?_
                refine n_icmp_ne (tgt := 134) hx hb (r32 (by omega)) (r32 (by omega)) dX0_flask_114 (by decide) (fun c_114 => ?_) (fun c_114 => ?_)
                · -- 114T
                  refine x_new (ci := 8) hx hb hts in_X9 tyX9 tyX9_ok hown q609 q610 q114 hK hH hA rfl [.int (iI 0), .int (iI 0), .int (iI 0), .int (iI 0), .int (iI 0), .int (iI 0), .int (iI 0), .int (iI 0), .int (iI 0), .int (iI 0), .int (iI 0), .int (iI 0), .int (iI 0), .int (iI 0), .int (iI 0), .int (iI 0), .int (iI 0), .null, .null] (fun j hj => by rcases (show j = 0 ∨ j = 1 ∨ j = 2 ∨ j = 3 ∨ j = 4 ∨ j = 5 ∨ j = 6 ∨ j = 7 ∨ j = 8 ∨ j = 9 ∨ j = 10 ∨ j = 11 ∨ j = 12 ∨ j = 13 ∨ j = 14 ∨ j = 15 ∨ j = 16 ∨ j = 17 ∨ j = 18 by omega) with rfl | rfl | rfl | rfl | rfl | rfl | rfl | rfl | rfl | rfl | rfl | rfl | rfl | rfl | rfl | rfl | rfl | rfl | rfl <;> rfl) (eN_id (by decide)) (Nat.le_of_ble_eq_true rfl) (Nat.le_of_ble_eq_true rfl) dX0_flask_134 (fun q21 H hq21 hH => ?_)
                  obtain ⟨M21, e_M21⟩ : ∃ M21, M21 = hs M q21 (oB 8 [.int (iI 0), .int (iI 0), .int (iI 0), .int (iI 0), .int (iI 0), .int (iI 0), .int (iI 0), .int (iI 0), .int (iI 0), .int (iI 0), .int (iI 0), .int (iI 0), .int (iI 0), .int (iI 0), .int (iI 0), .int (iI 0), .int (iI 0), .null, .null]) := ⟨_, rfl⟩
                  have hH := XV_to hH e_M21.symm
                  have f21 : M21 q21 = some (oB 8 [.int (iI 0), .int (iI 0), .int (iI 0), .int (iI 0), .int (iI 0), .int (iI 0), .int (iI 0), .int (iI 0), .int (iI 0), .int (iI 0), .int (iI 0), .int (iI 0), .int (iI 0), .int (iI 0), .int (iI 0), .int (iI 0), .int (iI 0), .null, .null]) := by rw [e_M21]; exact hs_s
                  have hR22 : RX G M21 a σ (xw x q21 1) ω := by rw [e_M21]; exact hR.al hq21 1
                  have hw22_q21 : gw (xw x q21 1) q21 = 1 := xw_s
                  refine lv_dup hx hb dX0_flask_137 rfl ?_
                  refine lv_iload_n hx hb dX0_flask_138 rfl (lv_at hl 2 rfl) ?_
                  refine lv_iload_n hx hb dX0_flask_139 rfl (lv_at hl 3 rfl) ?_
                  refine lv_iload_n hx hb dX0_flask_140 rfl (lv_at hl 4 rfl) ?_
                  refine lv_iload hx hb dX0_flask_141 (lv_at hl 5 rfl) ?_
                  refine lv_iload hx hb dX0_flask_143 (lv_at hl 0 rfl) ?_
                  refine x_callv (x_runI (As := [.int (iI b), .int (iI so), .int (iI pl), .int (iI hd), .int (iI (σ 2 1750))]) (rest := [.ref q21, .int (iI (σ 2 1753)), .ref (gb x 0 9)]) S hH hK (fun _ _ hW => XN.warm hW hXN) XN_b hl.1 (xm_X9_init l G M21 8 q21 b so pl hd (σ 2 1750) _ (by decide) f21) (lw_meth q613) q114 q611 q612 kd_X9_init rfl rfl dX0_flask_145) hH hA (fun M145_ H locs q_145 hH hz_145 => ?_)
                  obtain ⟨q23a, q23b, hq23a, h0q23b, ne0_23, e0_23⟩ := q_145
                  obtain ⟨M23, e_M23⟩ : ∃ M23, M23 = hs M21 q23a (aI (G.2.1 0) 4 (fun (_ : Int) => (0 : Int))) := ⟨_, rfl⟩
                  have f23 : M23 q23a = some (aI (G.2.1 0) 4 (fun (_ : Int) => (0 : Int))) := by rw [e_M23]; exact hs_s
                  have hR24 : RX G M23 a σ (xw (xw x q21 1) q23a 1) ω := by rw [e_M23]; exact hR22.al hq23a 1
                  have ne_q21_q23a : q21 ≠ q23a := fun z => by have h9 := f21; rw [z, hq23a] at h9; cases h9
                  have hw24_q21 := (xw_n (x := (xw x q21 1)) (c := 1) ne_q21_q23a).trans hw22_q21
                  have hw24_q23a : gw (xw (xw x q21 1) q23a 1) q23a = 1 := xw_s
                  have f25 : M23 q21 = some (oB 8 [.int (iI 0), .int (iI 0), .int (iI 0), .int (iI 0), .int (iI 0), .int (iI 0), .int (iI 0), .int (iI 0), .int (iI 0), .int (iI 0), .int (iI 0), .int (iI 0), .int (iI 0), .int (iI 0), .int (iI 0), .int (iI 0), .int (iI 0), .null, .null]) := by rw [e_M23]; exact (hs_n ne_q21_q23a).trans f21
                  have hq23b : M23 q23b = none := by rw [e_M23]; exact (hs_n ne0_23.symm).trans h0q23b
                  obtain ⟨M26, e_M26⟩ : ∃ M26, M26 = hs M23 q23b (aI (G.2.1 0) 4 (fun (_ : Int) => (0 : Int))) := ⟨_, rfl⟩
                  have f26 : M26 q23b = some (aI (G.2.1 0) 4 (fun (_ : Int) => (0 : Int))) := by rw [e_M26]; exact hs_s
                  have hR27 : RX G M26 a σ (xw (xw (xw x q21 1) q23a 1) q23b 1) ω := by rw [e_M26]; exact hR24.al hq23b 1
                  have ne_q21_q23b : q21 ≠ q23b := fun z => by have h9 := f25; rw [z, hq23b] at h9; cases h9
                  have ne_q23a_q23b : q23a ≠ q23b := fun z => by have h9 := f23; rw [z, hq23b] at h9; cases h9
                  have hw27_q21 := (xw_n (x := (xw (xw x q21 1) q23a 1)) (c := 1) ne_q21_q23b).trans hw24_q21
                  have hw27_q23a := (xw_n (x := (xw (xw x q21 1) q23a 1)) (c := 1) ne_q23a_q23b).trans hw24_q23a
                  have hw27_q23b : gw (xw (xw (xw x q21 1) q23a 1) q23b 1) q23b = 1 := xw_s
                  have f28 : M26 q21 = some (oB 8 [.int (iI 0), .int (iI 0), .int (iI 0), .int (iI 0), .int (iI 0), .int (iI 0), .int (iI 0), .int (iI 0), .int (iI 0), .int (iI 0), .int (iI 0), .int (iI 0), .int (iI 0), .int (iI 0), .int (iI 0), .int (iI 0), .int (iI 0), .null, .null]) := by rw [e_M26]; exact (hs_n ne_q21_q23b).trans f25
                  have f29 : M26 q23a = some (aI (G.2.1 0) 4 (fun (_ : Int) => (0 : Int))) := by rw [e_M26]; exact (hs_n ne_q23a_q23b).trans f23
                  have q_145 : M145_ = hs M26 q21 (oB 8 [.int (iI b), .int (iI so), .int (iI hd), .int (iI (σ 2 1750)), .int (iI pl), .int (iI 0), .int (iI 0), .int (iI (σ 2 1750)), .int (iI (-1)), .int (iI 0), .int (iI 0), .int (iI (-1)), .int (iI (-1)), .int (iI (-1)), .int (iI 0), .int (iI 0), .int (iI 0), .ref q23a, .ref q23b]) := by rw [e_M26, e_M23]; exact e0_23
                  have e_M145_ := q_145
                  have f30 : M145_ q21 = some (oB 8 [.int (iI b), .int (iI so), .int (iI hd), .int (iI (σ 2 1750)), .int (iI pl), .int (iI 0), .int (iI 0), .int (iI (σ 2 1750)), .int (iI (-1)), .int (iI 0), .int (iI 0), .int (iI (-1)), .int (iI (-1)), .int (iI (-1)), .int (iI 0), .int (iI 0), .int (iI 0), .ref q23a, .ref q23b]) := by rw [e_M145_]; exact hs_s
                  have hR31 : RX G M145_ a σ (xw (xw (xw x q21 1) q23a 1) q23b 1) ω := by rw [e_M145_]; exact hR27.tmp hw27_q21
                  have f32 : M145_ q23a = some (aI (G.2.1 0) 4 (fun (_ : Int) => (0 : Int))) := by rw [e_M145_]; exact (hs_n ne_q21_q23a.symm).trans f29
                  have f33 : M145_ q23b = some (aI (G.2.1 0) 4 (fun (_ : Int) => (0 : Int))) := by rw [e_M145_]; exact (hs_n ne_q21_q23b.symm).trans f26
                  refine x_aast (E := "BrothFlasks$Flask") hx hb hK hXN hH hR31.b9 rfl f30 rfl (Or.inr q2061) (by omega) (by omega) (Nat.le_of_ble_eq_true rfl) dX0_flask_148 (fun H locs hH => ?_)
                  obtain ⟨M34, e_M34⟩ : ∃ M34, M34 = hs M145_ (gb x 0 9) (aQ (G.2.1 6) 40 (upq (gq ω 0 9) (σ 2 1753) (some q21))) := ⟨_, rfl⟩
                  have hH := XV_to hH e_M34.symm
                  have f34 : M34 (gb x 0 9) = some (aQ (G.2.1 6) 40 (upq (gq ω 0 9) (σ 2 1753) (some q21))) := by rw [e_M34]; exact hs_s
                  obtain ⟨ω35, hR35, hQ35⟩ : ∃ ω35, RX G M34 a σ (xw (xw (xw x q21 1) q23a 1) q23b 1) ω35 ∧ gq ω35 0 9 = upq (gq ω 0 9) (σ 2 1753) (some q21) := ⟨_, by rw [e_M34]; exact hR31.aq h40 (k := 9) (i := (σ 2 1753)) (y := q21) (Or.inr (Or.inl ⟨rfl, Int.le_refl _⟩)) rfl, qS_s⟩
                  have f36 : M34 q21 = some (oB 8 [.int (iI b), .int (iI so), .int (iI hd), .int (iI (σ 2 1750)), .int (iI pl), .int (iI 0), .int (iI 0), .int (iI (σ 2 1750)), .int (iI (-1)), .int (iI 0), .int (iI 0), .int (iI (-1)), .int (iI (-1)), .int (iI (-1)), .int (iI 0), .int (iI 0), .int (iI 0), .ref q23a, .ref q23b]) := by rw [e_M34]; exact (hs_n (neW hw27_q21 (hR31.wb (k := 9) (by decide)) (by decide))).trans f30
                  have f37 : M34 q23a = some (aI (G.2.1 0) 4 (fun (_ : Int) => (0 : Int))) := by rw [e_M34]; exact (hs_n (neW hw27_q23a (hR31.wb (k := 9) (by decide)) (by decide))).trans f32
                  have f38 : M34 q23b = some (aI (G.2.1 0) 4 (fun (_ : Int) => (0 : Int))) := by rw [e_M34]; exact (hs_n (neW hw27_q23b (hR31.wb (k := 9) (by decide)) (by decide))).trans f33
                  refine lv_aload_n hx hb dX0_flask_149 rfl (lv_at hl 1 rfl) ?_
                  refine x_get hx hb hts in_X0 hown hK hH hR35.o rfl 0 (by decide) q339 (fun _ h9 => h9) rfl (by decide) dX0_flask_150 ?_
                  refine lv_dup hx hb dX0_flask_153 rfl ?_
                  refine x_getN hx hb hts in_X1 hown hK hH hR35.b0 rfl 2 (by decide) hXN q166 (fun _ h9 => h9) rfl (by decide) dX0_flask_154 ?_
                  refine n_iconst hx hb dX0_flask_157 ?_
                  refine n_iadd hx hb dX0_flask_158 ?_
                  refine x_putN (ty := .int) hx hb hts in_X1 tyX1 tyX1_ok nmX1 hown hK hH hR35.b0 rfl 2 (by decide) hXN q166 (fun _ h9 => h9) rfl (by decide +kernel) rfl rfl (Nat.le_of_ble_eq_true rfl) (by decide) dX0_flask_159 (fun H locs hH => ?_)
                  obtain ⟨M39, e_M39⟩ : ∃ M39, M39 = hs M34 (gb x 0 0) (oB 2 [.int (iI (σ 2 1750)), .int (iI (σ 2 1752)), .int (iI ((σ 2 1753) + 1)), .int (iI (σ 2 1754)), .int (iI (σ 2 1755)), .int (iI (σ 2 1756)), .int (iI (σ 2 1757)), .long (lI (σ 2 1751)), .ref (gb x 0 8), .ref (gb x 0 9), .ref (gb x 0 10), .ref (gb x 0 11), .ref (gb x 0 12), .ref (gb x 0 13), .ref (gb x 0 14), .ref (gb x 0 15), .ref (gb x 0 16), .ref (gb x 0 17), .ref (gb x 0 18), .ref (gb x 0 19), .ref (gb x 0 20), .ref (gb x 0 21)]) := ⟨_, rfl⟩
                  have hH := XV_to hH e_M39.symm
                  have f39 : M39 (gb x 0 0) = some (oB 2 [.int (iI (σ 2 1750)), .int (iI (σ 2 1752)), .int (iI ((σ 2 1753) + 1)), .int (iI (σ 2 1754)), .int (iI (σ 2 1755)), .int (iI (σ 2 1756)), .int (iI (σ 2 1757)), .long (lI (σ 2 1751)), .ref (gb x 0 8), .ref (gb x 0 9), .ref (gb x 0 10), .ref (gb x 0 11), .ref (gb x 0 12), .ref (gb x 0 13), .ref (gb x 0 14), .ref (gb x 0 15), .ref (gb x 0 16), .ref (gb x 0 17), .ref (gb x 0 18), .ref (gb x 0 19), .ref (gb x 0 20), .ref (gb x 0 21)]) := by rw [e_M39]; exact hs_s
                  obtain ⟨x40x, ω40, hR40⟩ : ∃ x40x ω40, RX G M39 a (flaskS σ b so pl hd) x40x ω40 := by rw [e_M39]; exact hR35.flaskJ hW h40 (by omega) (by rw [hQ35]; exact upq_s) hw27_q21 hw27_q23a hw27_q23b ne_q23a_q23b (by rw [show fci so = 8 from (if_neg (by omega)).trans (if_neg (by omega))]; exact f36) f37 f38
                  refine lv_aload_n hx hb dX0_flask_162 rfl (lv_at hl 1 rfl) ?_
                  refine lv_aload_n hx hb dX0_flask_163 rfl (lv_at hl 1 rfl) ?_
                  refine x_get hx hb hts in_X0 hown hK hH hR40.o rfl 0 (by decide) q339 (fun _ h9 => h9) rfl (by decide) dX0_flask_164 ?_
                  refine x_getN hx hb hts in_X1 hown hK hH hR40.b0 rfl 2 (by decide) hXN q166 (fun _ h9 => h9) rfl (by decide) dX0_flask_167 ?_
                  refine W.eq (g2 := F0 m 170 ls (.int (iI (σ 2 1753 + 1)) :: .ref a :: [])) (by rw [flaskS_c]) ?_
                  refine n_iconst hx hb dX0_flask_170 ?_
                  refine n_isub hx hb dX0_flask_171 ?_
                  refine W.eq (g2 := F0 m 172 ls (.int (iI (σ 2 1753)) :: .ref a :: [])) (by rw [show σ 2 1753 + 1 - 1 = σ 2 1753 by omega]) ?_
                  refine x_calli (x_runV (As := [.int (iI (σ 2 1753))]) (rest := []) S hH hK (fun _ _ hW => XN.warm hW hXN) XN_b hl.1 hR40.o rfl (xm_X0_done l G M39 (flaskS σ b so pl hd) x40x ω40 a (σ 2 1753) _ hR40) (lw_V q425 q427 qs1 q105 q428) kd_X0_done rfl rfl dX0_flask_172) hH hA (fun z172 M172_ H locs q_172 hH hz_172 => ?_)
                  obtain ⟨e_172, ω172x, hR172x⟩ := q_172
                  subst e_172
                  refine W.widen (k := 3) (n := 27) (Nat.le_of_ble_eq_true rfl) (Nat.le_of_ble_eq_true rfl) ?_
                  refine x_iret hx hb hr hlk hH dX0_flask_175 ?_
                  exact cmd_ret2 (F := flaskF σ b so pl hd) (by unfold flaskF; (repeat' split) <;> first | rfl | (exfalso; omega)) hR172x
                · -- 114F
                  refine x_new (ci := 6) hx hb hts in_X7 tyX7 tyX7_ok hown q586 q587 q112 hK hH hA rfl [.int (iI 0), .int (iI 0), .int (iI 0), .int (iI 0), .int (iI 0), .int (iI 0), .int (iI 0), .int (iI 0), .int (iI 0), .int (iI 0), .int (iI 0), .int (iI 0), .int (iI 0), .int (iI 0), .int (iI 0), .int (iI 0), .int (iI 0), .null, .null] (fun j hj => by rcases (show j = 0 ∨ j = 1 ∨ j = 2 ∨ j = 3 ∨ j = 4 ∨ j = 5 ∨ j = 6 ∨ j = 7 ∨ j = 8 ∨ j = 9 ∨ j = 10 ∨ j = 11 ∨ j = 12 ∨ j = 13 ∨ j = 14 ∨ j = 15 ∨ j = 16 ∨ j = 17 ∨ j = 18 by omega) with rfl | rfl | rfl | rfl | rfl | rfl | rfl | rfl | rfl | rfl | rfl | rfl | rfl | rfl | rfl | rfl | rfl | rfl | rfl <;> rfl) (eN_id (by decide)) (Nat.le_of_ble_eq_true rfl) (Nat.le_of_ble_eq_true rfl) dX0_flask_117 (fun q41 H hq41 hH => ?_)
                  obtain ⟨M41, e_M41⟩ : ∃ M41, M41 = hs M q41 (oB 6 [.int (iI 0), .int (iI 0), .int (iI 0), .int (iI 0), .int (iI 0), .int (iI 0), .int (iI 0), .int (iI 0), .int (iI 0), .int (iI 0), .int (iI 0), .int (iI 0), .int (iI 0), .int (iI 0), .int (iI 0), .int (iI 0), .int (iI 0), .null, .null]) := ⟨_, rfl⟩
                  have hH := XV_to hH e_M41.symm
                  have f41 : M41 q41 = some (oB 6 [.int (iI 0), .int (iI 0), .int (iI 0), .int (iI 0), .int (iI 0), .int (iI 0), .int (iI 0), .int (iI 0), .int (iI 0), .int (iI 0), .int (iI 0), .int (iI 0), .int (iI 0), .int (iI 0), .int (iI 0), .int (iI 0), .int (iI 0), .null, .null]) := by rw [e_M41]; exact hs_s
                  have hR42 : RX G M41 a σ (xw x q41 1) ω := by rw [e_M41]; exact hR.al hq41 1
                  have hw42_q41 : gw (xw x q41 1) q41 = 1 := xw_s
                  refine lv_dup hx hb dX0_flask_120 rfl ?_
                  refine lv_iload_n hx hb dX0_flask_121 rfl (lv_at hl 2 rfl) ?_
                  refine lv_iload_n hx hb dX0_flask_122 rfl (lv_at hl 3 rfl) ?_
                  refine lv_iload_n hx hb dX0_flask_123 rfl (lv_at hl 4 rfl) ?_
                  refine lv_iload hx hb dX0_flask_124 (lv_at hl 5 rfl) ?_
                  refine lv_iload hx hb dX0_flask_126 (lv_at hl 0 rfl) ?_
                  refine x_callv (x_runI (As := [.int (iI b), .int (iI so), .int (iI pl), .int (iI hd), .int (iI (σ 2 1750))]) (rest := [.ref q41, .int (iI (σ 2 1753)), .ref (gb x 0 9)]) S hH hK (fun _ _ hW => XN.warm hW hXN) XN_b hl.1 (xm_X7_init l G M41 6 q41 b so pl hd (σ 2 1750) _ (by decide) f41) (lw_meth q471) q112 q588 q470 kd_X7_init rfl rfl dX0_flask_128) hH hA (fun M128_ H locs q_128 hH hz_128 => ?_)
                  obtain ⟨q43a, q43b, hq43a, h0q43b, ne0_43, e0_43⟩ := q_128
                  obtain ⟨M43, e_M43⟩ : ∃ M43, M43 = hs M41 q43a (aI (G.2.1 0) 4 (fun (_ : Int) => (0 : Int))) := ⟨_, rfl⟩
                  have f43 : M43 q43a = some (aI (G.2.1 0) 4 (fun (_ : Int) => (0 : Int))) := by rw [e_M43]; exact hs_s
                  have hR44 : RX G M43 a σ (xw (xw x q41 1) q43a 1) ω := by rw [e_M43]; exact hR42.al hq43a 1
                  have ne_q41_q43a : q41 ≠ q43a := fun z => by have h9 := f41; rw [z, hq43a] at h9; cases h9
                  have hw44_q41 := (xw_n (x := (xw x q41 1)) (c := 1) ne_q41_q43a).trans hw42_q41
                  have hw44_q43a : gw (xw (xw x q41 1) q43a 1) q43a = 1 := xw_s
                  have f45 : M43 q41 = some (oB 6 [.int (iI 0), .int (iI 0), .int (iI 0), .int (iI 0), .int (iI 0), .int (iI 0), .int (iI 0), .int (iI 0), .int (iI 0), .int (iI 0), .int (iI 0), .int (iI 0), .int (iI 0), .int (iI 0), .int (iI 0), .int (iI 0), .int (iI 0), .null, .null]) := by rw [e_M43]; exact (hs_n ne_q41_q43a).trans f41
                  have hq43b : M43 q43b = none := by rw [e_M43]; exact (hs_n ne0_43.symm).trans h0q43b
                  obtain ⟨M46, e_M46⟩ : ∃ M46, M46 = hs M43 q43b (aI (G.2.1 0) 4 (fun (_ : Int) => (0 : Int))) := ⟨_, rfl⟩
                  have f46 : M46 q43b = some (aI (G.2.1 0) 4 (fun (_ : Int) => (0 : Int))) := by rw [e_M46]; exact hs_s
                  have hR47 : RX G M46 a σ (xw (xw (xw x q41 1) q43a 1) q43b 1) ω := by rw [e_M46]; exact hR44.al hq43b 1
                  have ne_q41_q43b : q41 ≠ q43b := fun z => by have h9 := f45; rw [z, hq43b] at h9; cases h9
                  have ne_q43a_q43b : q43a ≠ q43b := fun z => by have h9 := f43; rw [z, hq43b] at h9; cases h9
                  have hw47_q41 := (xw_n (x := (xw (xw x q41 1) q43a 1)) (c := 1) ne_q41_q43b).trans hw44_q41
                  have hw47_q43a := (xw_n (x := (xw (xw x q41 1) q43a 1)) (c := 1) ne_q43a_q43b).trans hw44_q43a
                  have hw47_q43b : gw (xw (xw (xw x q41 1) q43a 1) q43b 1) q43b = 1 := xw_s
                  have f48 : M46 q41 = some (oB 6 [.int (iI 0), .int (iI 0), .int (iI 0), .int (iI 0), .int (iI 0), .int (iI 0), .int (iI 0), .int (iI 0), .int (iI 0), .int (iI 0), .int (iI 0), .int (iI 0), .int (iI 0), .int (iI 0), .int (iI 0), .int (iI 0), .int (iI 0), .null, .null]) := by rw [e_M46]; exact (hs_n ne_q41_q43b).trans f45
                  have f49 : M46 q43a = some (aI (G.2.1 0) 4 (fun (_ : Int) => (0 : Int))) := by rw [e_M46]; exact (hs_n ne_q43a_q43b).trans f43
                  have q_128 : M128_ = hs M46 q41 (oB 6 [.int (iI b), .int (iI so), .int (iI hd), .int (iI (σ 2 1750)), .int (iI pl), .int (iI 0), .int (iI 0), .int (iI (σ 2 1750)), .int (iI (-1)), .int (iI 0), .int (iI 0), .int (iI (-1)), .int (iI (-1)), .int (iI (-1)), .int (iI 0), .int (iI 0), .int (iI 0), .ref q43a, .ref q43b]) := by rw [e_M46, e_M43]; exact e0_43
                  have e_M128_ := q_128
                  have f50 : M128_ q41 = some (oB 6 [.int (iI b), .int (iI so), .int (iI hd), .int (iI (σ 2 1750)), .int (iI pl), .int (iI 0), .int (iI 0), .int (iI (σ 2 1750)), .int (iI (-1)), .int (iI 0), .int (iI 0), .int (iI (-1)), .int (iI (-1)), .int (iI (-1)), .int (iI 0), .int (iI 0), .int (iI 0), .ref q43a, .ref q43b]) := by rw [e_M128_]; exact hs_s
                  have hR51 : RX G M128_ a σ (xw (xw (xw x q41 1) q43a 1) q43b 1) ω := by rw [e_M128_]; exact hR47.tmp hw47_q41
                  have f52 : M128_ q43a = some (aI (G.2.1 0) 4 (fun (_ : Int) => (0 : Int))) := by rw [e_M128_]; exact (hs_n ne_q41_q43a.symm).trans f49
                  have f53 : M128_ q43b = some (aI (G.2.1 0) 4 (fun (_ : Int) => (0 : Int))) := by rw [e_M128_]; exact (hs_n ne_q41_q43b.symm).trans f46
                  refine lv_goto (tgt := 148) hx hb dX0_flask_131 (by decide) ?_
                  refine x_aast (E := "BrothFlasks$Flask") hx hb hK hXN hH hR51.b9 rfl f50 rfl (Or.inr q2060) (by omega) (by omega) (Nat.le_of_ble_eq_true rfl) dX0_flask_148 (fun H locs hH => ?_)
                  obtain ⟨M54, e_M54⟩ : ∃ M54, M54 = hs M128_ (gb x 0 9) (aQ (G.2.1 6) 40 (upq (gq ω 0 9) (σ 2 1753) (some q41))) := ⟨_, rfl⟩
                  have hH := XV_to hH e_M54.symm
                  have f54 : M54 (gb x 0 9) = some (aQ (G.2.1 6) 40 (upq (gq ω 0 9) (σ 2 1753) (some q41))) := by rw [e_M54]; exact hs_s
                  obtain ⟨ω55, hR55, hQ55⟩ : ∃ ω55, RX G M54 a σ (xw (xw (xw x q41 1) q43a 1) q43b 1) ω55 ∧ gq ω55 0 9 = upq (gq ω 0 9) (σ 2 1753) (some q41) := ⟨_, by rw [e_M54]; exact hR51.aq h40 (k := 9) (i := (σ 2 1753)) (y := q41) (Or.inr (Or.inl ⟨rfl, Int.le_refl _⟩)) rfl, qS_s⟩
                  have f56 : M54 q41 = some (oB 6 [.int (iI b), .int (iI so), .int (iI hd), .int (iI (σ 2 1750)), .int (iI pl), .int (iI 0), .int (iI 0), .int (iI (σ 2 1750)), .int (iI (-1)), .int (iI 0), .int (iI 0), .int (iI (-1)), .int (iI (-1)), .int (iI (-1)), .int (iI 0), .int (iI 0), .int (iI 0), .ref q43a, .ref q43b]) := by rw [e_M54]; exact (hs_n (neW hw47_q41 (hR51.wb (k := 9) (by decide)) (by decide))).trans f50
                  have f57 : M54 q43a = some (aI (G.2.1 0) 4 (fun (_ : Int) => (0 : Int))) := by rw [e_M54]; exact (hs_n (neW hw47_q43a (hR51.wb (k := 9) (by decide)) (by decide))).trans f52
                  have f58 : M54 q43b = some (aI (G.2.1 0) 4 (fun (_ : Int) => (0 : Int))) := by rw [e_M54]; exact (hs_n (neW hw47_q43b (hR51.wb (k := 9) (by decide)) (by decide))).trans f53
                  refine lv_aload_n hx hb dX0_flask_149 rfl (lv_at hl 1 rfl) ?_
                  refine x_get hx hb hts in_X0 hown hK hH hR55.o rfl 0 (by decide) q339 (fun _ h9 => h9) rfl (by decide) dX0_flask_150 ?_
                  refine lv_dup hx hb dX0_flask_153 rfl ?_
                  refine x_getN hx hb hts in_X1 hown hK hH hR55.b0 rfl 2 (by decide) hXN q166 (fun _ h9 => h9) rfl (by decide) dX0_flask_154 ?_
                  refine n_iconst hx hb dX0_flask_157 ?_
                  refine n_iadd hx hb dX0_flask_158 ?_
                  refine x_putN (ty := .int) hx hb hts in_X1 tyX1 tyX1_ok nmX1 hown hK hH hR55.b0 rfl 2 (by decide) hXN q166 (fun _ h9 => h9) rfl (by decide +kernel) rfl rfl (Nat.le_of_ble_eq_true rfl) (by decide) dX0_flask_159 (fun H locs hH => ?_)
                  obtain ⟨M59, e_M59⟩ : ∃ M59, M59 = hs M54 (gb x 0 0) (oB 2 [.int (iI (σ 2 1750)), .int (iI (σ 2 1752)), .int (iI ((σ 2 1753) + 1)), .int (iI (σ 2 1754)), .int (iI (σ 2 1755)), .int (iI (σ 2 1756)), .int (iI (σ 2 1757)), .long (lI (σ 2 1751)), .ref (gb x 0 8), .ref (gb x 0 9), .ref (gb x 0 10), .ref (gb x 0 11), .ref (gb x 0 12), .ref (gb x 0 13), .ref (gb x 0 14), .ref (gb x 0 15), .ref (gb x 0 16), .ref (gb x 0 17), .ref (gb x 0 18), .ref (gb x 0 19), .ref (gb x 0 20), .ref (gb x 0 21)]) := ⟨_, rfl⟩
                  have hH := XV_to hH e_M59.symm
                  have f59 : M59 (gb x 0 0) = some (oB 2 [.int (iI (σ 2 1750)), .int (iI (σ 2 1752)), .int (iI ((σ 2 1753) + 1)), .int (iI (σ 2 1754)), .int (iI (σ 2 1755)), .int (iI (σ 2 1756)), .int (iI (σ 2 1757)), .long (lI (σ 2 1751)), .ref (gb x 0 8), .ref (gb x 0 9), .ref (gb x 0 10), .ref (gb x 0 11), .ref (gb x 0 12), .ref (gb x 0 13), .ref (gb x 0 14), .ref (gb x 0 15), .ref (gb x 0 16), .ref (gb x 0 17), .ref (gb x 0 18), .ref (gb x 0 19), .ref (gb x 0 20), .ref (gb x 0 21)]) := by rw [e_M59]; exact hs_s
                  obtain ⟨x60x, ω60, hR60⟩ : ∃ x60x ω60, RX G M59 a (flaskS σ b so pl hd) x60x ω60 := by rw [e_M59]; exact hR55.flaskJ hW h40 (by omega) (by rw [hQ55]; exact upq_s) hw47_q41 hw47_q43a hw47_q43b ne_q43a_q43b (by rw [show fci so = 6 from (if_neg (by omega)).trans (if_pos (by omega))]; exact f56) f57 f58
                  refine lv_aload_n hx hb dX0_flask_162 rfl (lv_at hl 1 rfl) ?_
                  refine lv_aload_n hx hb dX0_flask_163 rfl (lv_at hl 1 rfl) ?_
                  refine x_get hx hb hts in_X0 hown hK hH hR60.o rfl 0 (by decide) q339 (fun _ h9 => h9) rfl (by decide) dX0_flask_164 ?_
                  refine x_getN hx hb hts in_X1 hown hK hH hR60.b0 rfl 2 (by decide) hXN q166 (fun _ h9 => h9) rfl (by decide) dX0_flask_167 ?_
                  refine W.eq (g2 := F0 m 170 ls (.int (iI (σ 2 1753 + 1)) :: .ref a :: [])) (by rw [flaskS_c]) ?_
                  refine n_iconst hx hb dX0_flask_170 ?_
                  refine n_isub hx hb dX0_flask_171 ?_
                  refine W.eq (g2 := F0 m 172 ls (.int (iI (σ 2 1753)) :: .ref a :: [])) (by rw [show σ 2 1753 + 1 - 1 = σ 2 1753 by omega]) ?_
                  refine x_calli (x_runV (As := [.int (iI (σ 2 1753))]) (rest := []) S hH hK (fun _ _ hW => XN.warm hW hXN) XN_b hl.1 hR60.o rfl (xm_X0_done l G M59 (flaskS σ b so pl hd) x60x ω60 a (σ 2 1753) _ hR60) (lw_V q425 q427 qs1 q105 q428) kd_X0_done rfl rfl dX0_flask_172) hH hA (fun z172 M172_ H locs q_172 hH hz_172 => ?_)
                  obtain ⟨e_172, ω172x, hR172x⟩ := q_172
                  subst e_172
                  refine W.widen (k := 3) (n := 27) (Nat.le_of_ble_eq_true rfl) (Nat.le_of_ble_eq_true rfl) ?_
                  refine x_iret hx hb hr hlk hH dX0_flask_175 ?_
                  exact cmd_ret2 (F := flaskF σ b so pl hd) (by unfold flaskF; (repeat' split) <;> first | rfl | (exfalso; omega)) hR172x
            · -- 89F
              refine x_new (ci := 7) hx hb hts in_X8 tyX8 tyX8_ok hown q464 q465 q113 hK hH hA rfl [.int (iI 0), .int (iI 0), .int (iI 0), .int (iI 0), .int (iI 0), .int (iI 0), .int (iI 0), .int (iI 0), .int (iI 0), .int (iI 0), .int (iI 0), .int (iI 0), .int (iI 0), .int (iI 0), .int (iI 0), .int (iI 0), .int (iI 0), .null, .null] (fun j hj => by rcases (show j = 0 ∨ j = 1 ∨ j = 2 ∨ j = 3 ∨ j = 4 ∨ j = 5 ∨ j = 6 ∨ j = 7 ∨ j = 8 ∨ j = 9 ∨ j = 10 ∨ j = 11 ∨ j = 12 ∨ j = 13 ∨ j = 14 ∨ j = 15 ∨ j = 16 ∨ j = 17 ∨ j = 18 by omega) with rfl | rfl | rfl | rfl | rfl | rfl | rfl | rfl | rfl | rfl | rfl | rfl | rfl | rfl | rfl | rfl | rfl | rfl | rfl <;> rfl) (eN_id (by decide)) (Nat.le_of_ble_eq_true rfl) (Nat.le_of_ble_eq_true rfl) dX0_flask_92 (fun q61 H hq61 hH => ?_)
              obtain ⟨M61, e_M61⟩ : ∃ M61, M61 = hs M q61 (oB 7 [.int (iI 0), .int (iI 0), .int (iI 0), .int (iI 0), .int (iI 0), .int (iI 0), .int (iI 0), .int (iI 0), .int (iI 0), .int (iI 0), .int (iI 0), .int (iI 0), .int (iI 0), .int (iI 0), .int (iI 0), .int (iI 0), .int (iI 0), .null, .null]) := ⟨_, rfl⟩
              have hH := XV_to hH e_M61.symm
              have f61 : M61 q61 = some (oB 7 [.int (iI 0), .int (iI 0), .int (iI 0), .int (iI 0), .int (iI 0), .int (iI 0), .int (iI 0), .int (iI 0), .int (iI 0), .int (iI 0), .int (iI 0), .int (iI 0), .int (iI 0), .int (iI 0), .int (iI 0), .int (iI 0), .int (iI 0), .null, .null]) := by rw [e_M61]; exact hs_s
              have hR62 : RX G M61 a σ (xw x q61 1) ω := by rw [e_M61]; exact hR.al hq61 1
              have hw62_q61 : gw (xw x q61 1) q61 = 1 := xw_s
              refine lv_dup hx hb dX0_flask_95 rfl ?_
              refine lv_iload_n hx hb dX0_flask_96 rfl (lv_at hl 2 rfl) ?_
              refine lv_iload_n hx hb dX0_flask_97 rfl (lv_at hl 4 rfl) ?_
              refine lv_iload hx hb dX0_flask_98 (lv_at hl 5 rfl) ?_
              refine lv_iload hx hb dX0_flask_100 (lv_at hl 0 rfl) ?_
              refine x_callv (x_runI (As := [.int (iI b), .int (iI pl), .int (iI hd), .int (iI (σ 2 1750))]) (rest := [.ref q61, .int (iI (σ 2 1753)), .ref (gb x 0 9)]) S hH hK (fun _ _ hW => XN.warm hW hXN) XN_b hl.1 (xm_X8_init l G M61 7 q61 b pl hd (σ 2 1750) _ (by decide) f61) (lw_meth q468) q113 q466 q467 kd_X8_init rfl rfl dX0_flask_102) hH hA (fun M102_ H locs q_102 hH hz_102 => ?_)
              obtain ⟨q63a, q63b, hq63a, h0q63b, ne0_63, e0_63⟩ := q_102
              obtain ⟨M63, e_M63⟩ : ∃ M63, M63 = hs M61 q63a (aI (G.2.1 0) 4 (fun (_ : Int) => (0 : Int))) := ⟨_, rfl⟩
              have f63 : M63 q63a = some (aI (G.2.1 0) 4 (fun (_ : Int) => (0 : Int))) := by rw [e_M63]; exact hs_s
              have hR64 : RX G M63 a σ (xw (xw x q61 1) q63a 1) ω := by rw [e_M63]; exact hR62.al hq63a 1
              have ne_q61_q63a : q61 ≠ q63a := fun z => by have h9 := f61; rw [z, hq63a] at h9; cases h9
              have hw64_q61 := (xw_n (x := (xw x q61 1)) (c := 1) ne_q61_q63a).trans hw62_q61
              have hw64_q63a : gw (xw (xw x q61 1) q63a 1) q63a = 1 := xw_s
              have f65 : M63 q61 = some (oB 7 [.int (iI 0), .int (iI 0), .int (iI 0), .int (iI 0), .int (iI 0), .int (iI 0), .int (iI 0), .int (iI 0), .int (iI 0), .int (iI 0), .int (iI 0), .int (iI 0), .int (iI 0), .int (iI 0), .int (iI 0), .int (iI 0), .int (iI 0), .null, .null]) := by rw [e_M63]; exact (hs_n ne_q61_q63a).trans f61
              have hq63b : M63 q63b = none := by rw [e_M63]; exact (hs_n ne0_63.symm).trans h0q63b
              obtain ⟨M66, e_M66⟩ : ∃ M66, M66 = hs M63 q63b (aI (G.2.1 0) 4 (fun (_ : Int) => (0 : Int))) := ⟨_, rfl⟩
              have f66 : M66 q63b = some (aI (G.2.1 0) 4 (fun (_ : Int) => (0 : Int))) := by rw [e_M66]; exact hs_s
              have hR67 : RX G M66 a σ (xw (xw (xw x q61 1) q63a 1) q63b 1) ω := by rw [e_M66]; exact hR64.al hq63b 1
              have ne_q61_q63b : q61 ≠ q63b := fun z => by have h9 := f65; rw [z, hq63b] at h9; cases h9
              have ne_q63a_q63b : q63a ≠ q63b := fun z => by have h9 := f63; rw [z, hq63b] at h9; cases h9
              have hw67_q61 := (xw_n (x := (xw (xw x q61 1) q63a 1)) (c := 1) ne_q61_q63b).trans hw64_q61
              have hw67_q63a := (xw_n (x := (xw (xw x q61 1) q63a 1)) (c := 1) ne_q63a_q63b).trans hw64_q63a
              have hw67_q63b : gw (xw (xw (xw x q61 1) q63a 1) q63b 1) q63b = 1 := xw_s
              have f68 : M66 q61 = some (oB 7 [.int (iI 0), .int (iI 0), .int (iI 0), .int (iI 0), .int (iI 0), .int (iI 0), .int (iI 0), .int (iI 0), .int (iI 0), .int (iI 0), .int (iI 0), .int (iI 0), .int (iI 0), .int (iI 0), .int (iI 0), .int (iI 0), .int (iI 0), .null, .null]) := by rw [e_M66]; exact (hs_n ne_q61_q63b).trans f65
              have f69 : M66 q63a = some (aI (G.2.1 0) 4 (fun (_ : Int) => (0 : Int))) := by rw [e_M66]; exact (hs_n ne_q63a_q63b).trans f63
              have q_102 : M102_ = hs M66 q61 (oB 7 [.int (iI b), .int (iI 1), .int (iI hd), .int (iI (σ 2 1750)), .int (iI pl), .int (iI 0), .int (iI 0), .int (iI (σ 2 1750)), .int (iI (-1)), .int (iI 0), .int (iI 0), .int (iI (-1)), .int (iI (-1)), .int (iI (-1)), .int (iI 0), .int (iI 0), .int (iI 0), .ref q63a, .ref q63b]) := by rw [e_M66, e_M63]; exact e0_63
              have e_M102_ := q_102
              have f70 : M102_ q61 = some (oB 7 [.int (iI b), .int (iI 1), .int (iI hd), .int (iI (σ 2 1750)), .int (iI pl), .int (iI 0), .int (iI 0), .int (iI (σ 2 1750)), .int (iI (-1)), .int (iI 0), .int (iI 0), .int (iI (-1)), .int (iI (-1)), .int (iI (-1)), .int (iI 0), .int (iI 0), .int (iI 0), .ref q63a, .ref q63b]) := by rw [e_M102_]; exact hs_s
              have hR71 : RX G M102_ a σ (xw (xw (xw x q61 1) q63a 1) q63b 1) ω := by rw [e_M102_]; exact hR67.tmp hw67_q61
              have f72 : M102_ q63a = some (aI (G.2.1 0) 4 (fun (_ : Int) => (0 : Int))) := by rw [e_M102_]; exact (hs_n ne_q61_q63a.symm).trans f69
              have f73 : M102_ q63b = some (aI (G.2.1 0) 4 (fun (_ : Int) => (0 : Int))) := by rw [e_M102_]; exact (hs_n ne_q61_q63b.symm).trans f66
              refine lv_goto (tgt := 148) hx hb dX0_flask_105 (by decide) ?_
              refine x_aast (E := "BrothFlasks$Flask") hx hb hK hXN hH hR71.b9 rfl f70 rfl (Or.inr q2059) (by omega) (by omega) (Nat.le_of_ble_eq_true rfl) dX0_flask_148 (fun H locs hH => ?_)
              obtain ⟨M74, e_M74⟩ : ∃ M74, M74 = hs M102_ (gb x 0 9) (aQ (G.2.1 6) 40 (upq (gq ω 0 9) (σ 2 1753) (some q61))) := ⟨_, rfl⟩
              have hH := XV_to hH e_M74.symm
              have f74 : M74 (gb x 0 9) = some (aQ (G.2.1 6) 40 (upq (gq ω 0 9) (σ 2 1753) (some q61))) := by rw [e_M74]; exact hs_s
              obtain ⟨ω75, hR75, hQ75⟩ : ∃ ω75, RX G M74 a σ (xw (xw (xw x q61 1) q63a 1) q63b 1) ω75 ∧ gq ω75 0 9 = upq (gq ω 0 9) (σ 2 1753) (some q61) := ⟨_, by rw [e_M74]; exact hR71.aq h40 (k := 9) (i := (σ 2 1753)) (y := q61) (Or.inr (Or.inl ⟨rfl, Int.le_refl _⟩)) rfl, qS_s⟩
              have f76 : M74 q61 = some (oB 7 [.int (iI b), .int (iI 1), .int (iI hd), .int (iI (σ 2 1750)), .int (iI pl), .int (iI 0), .int (iI 0), .int (iI (σ 2 1750)), .int (iI (-1)), .int (iI 0), .int (iI 0), .int (iI (-1)), .int (iI (-1)), .int (iI (-1)), .int (iI 0), .int (iI 0), .int (iI 0), .ref q63a, .ref q63b]) := by rw [e_M74]; exact (hs_n (neW hw67_q61 (hR71.wb (k := 9) (by decide)) (by decide))).trans f70
              have f77 : M74 q63a = some (aI (G.2.1 0) 4 (fun (_ : Int) => (0 : Int))) := by rw [e_M74]; exact (hs_n (neW hw67_q63a (hR71.wb (k := 9) (by decide)) (by decide))).trans f72
              have f78 : M74 q63b = some (aI (G.2.1 0) 4 (fun (_ : Int) => (0 : Int))) := by rw [e_M74]; exact (hs_n (neW hw67_q63b (hR71.wb (k := 9) (by decide)) (by decide))).trans f73
              refine lv_aload_n hx hb dX0_flask_149 rfl (lv_at hl 1 rfl) ?_
              refine x_get hx hb hts in_X0 hown hK hH hR75.o rfl 0 (by decide) q339 (fun _ h9 => h9) rfl (by decide) dX0_flask_150 ?_
              refine lv_dup hx hb dX0_flask_153 rfl ?_
              refine x_getN hx hb hts in_X1 hown hK hH hR75.b0 rfl 2 (by decide) hXN q166 (fun _ h9 => h9) rfl (by decide) dX0_flask_154 ?_
              refine n_iconst hx hb dX0_flask_157 ?_
              refine n_iadd hx hb dX0_flask_158 ?_
              refine x_putN (ty := .int) hx hb hts in_X1 tyX1 tyX1_ok nmX1 hown hK hH hR75.b0 rfl 2 (by decide) hXN q166 (fun _ h9 => h9) rfl (by decide +kernel) rfl rfl (Nat.le_of_ble_eq_true rfl) (by decide) dX0_flask_159 (fun H locs hH => ?_)
              obtain ⟨M79, e_M79⟩ : ∃ M79, M79 = hs M74 (gb x 0 0) (oB 2 [.int (iI (σ 2 1750)), .int (iI (σ 2 1752)), .int (iI ((σ 2 1753) + 1)), .int (iI (σ 2 1754)), .int (iI (σ 2 1755)), .int (iI (σ 2 1756)), .int (iI (σ 2 1757)), .long (lI (σ 2 1751)), .ref (gb x 0 8), .ref (gb x 0 9), .ref (gb x 0 10), .ref (gb x 0 11), .ref (gb x 0 12), .ref (gb x 0 13), .ref (gb x 0 14), .ref (gb x 0 15), .ref (gb x 0 16), .ref (gb x 0 17), .ref (gb x 0 18), .ref (gb x 0 19), .ref (gb x 0 20), .ref (gb x 0 21)]) := ⟨_, rfl⟩
              have hH := XV_to hH e_M79.symm
              have f79 : M79 (gb x 0 0) = some (oB 2 [.int (iI (σ 2 1750)), .int (iI (σ 2 1752)), .int (iI ((σ 2 1753) + 1)), .int (iI (σ 2 1754)), .int (iI (σ 2 1755)), .int (iI (σ 2 1756)), .int (iI (σ 2 1757)), .long (lI (σ 2 1751)), .ref (gb x 0 8), .ref (gb x 0 9), .ref (gb x 0 10), .ref (gb x 0 11), .ref (gb x 0 12), .ref (gb x 0 13), .ref (gb x 0 14), .ref (gb x 0 15), .ref (gb x 0 16), .ref (gb x 0 17), .ref (gb x 0 18), .ref (gb x 0 19), .ref (gb x 0 20), .ref (gb x 0 21)]) := by rw [e_M79]; exact hs_s
              obtain ⟨x80x, ω80, hR80⟩ : ∃ x80x ω80, RX G M79 a (flaskS σ b so pl hd) x80x ω80 := by rw [e_M79]; exact hR75.flaskJ hW h40 (by omega) (by rw [hQ75]; exact upq_s) hw67_q61 hw67_q63a hw67_q63b ne_q63a_q63b (by rw [show fci so = 7 from if_pos (by omega), show so = 1 by omega]; exact f76) f77 f78
              refine lv_aload_n hx hb dX0_flask_162 rfl (lv_at hl 1 rfl) ?_
              refine lv_aload_n hx hb dX0_flask_163 rfl (lv_at hl 1 rfl) ?_
              refine x_get hx hb hts in_X0 hown hK hH hR80.o rfl 0 (by decide) q339 (fun _ h9 => h9) rfl (by decide) dX0_flask_164 ?_
              refine x_getN hx hb hts in_X1 hown hK hH hR80.b0 rfl 2 (by decide) hXN q166 (fun _ h9 => h9) rfl (by decide) dX0_flask_167 ?_
              refine W.eq (g2 := F0 m 170 ls (.int (iI (σ 2 1753 + 1)) :: .ref a :: [])) (by rw [flaskS_c]) ?_
              refine n_iconst hx hb dX0_flask_170 ?_
              refine n_isub hx hb dX0_flask_171 ?_
              refine W.eq (g2 := F0 m 172 ls (.int (iI (σ 2 1753)) :: .ref a :: [])) (by rw [show σ 2 1753 + 1 - 1 = σ 2 1753 by omega]) ?_
              refine x_calli (x_runV (As := [.int (iI (σ 2 1753))]) (rest := []) S hH hK (fun _ _ hW => XN.warm hW hXN) XN_b hl.1 hR80.o rfl (xm_X0_done l G M79 (flaskS σ b so pl hd) x80x ω80 a (σ 2 1753) _ hR80) (lw_V q425 q427 qs1 q105 q428) kd_X0_done rfl rfl dX0_flask_172) hH hA (fun z172 M172_ H locs q_172 hH hz_172 => ?_)
              obtain ⟨e_172, ω172x, hR172x⟩ := q_172
              subst e_172
              refine W.widen (k := 3) (n := 27) (Nat.le_of_ble_eq_true rfl) (Nat.le_of_ble_eq_true rfl) ?_
              refine x_iret hx hb hr hlk hH dX0_flask_175 ?_
              exact cmd_ret2 (F := flaskF σ b so pl hd) (by unfold flaskF; (repeat' split) <;> first | rfl | (exfalso; omega)) hR172x
          · -- 54F
            refine lv_aload_n hx hb dX0_flask_57 rfl (lv_at hl 0 rfl) ?_
            refine n_bipush (z := -5) hx hb dX0_flask_58 (by decide) ?_
            refine x_calli (x_runV (As := [.int (iI (-5))]) (rest := []) S hH hK (fun _ _ hW => XN.warm hW hXN) XN_b hl.1 hR.o rfl (xm_X0_refuse l G M σ x ω a (-5) _ hR (by omega) (by omega)) (lw_V q393 q395 qs0 q105 q396) kd_X0_refuse rfl rfl dX0_flask_60) hH hA (fun z60 M60_ H locs q_60 hH hz_60 => ?_)
            obtain ⟨e_60, ω60x, hR60x⟩ := q_60
            subst e_60
            refine W.widen (k := 3) (n := 27) (Nat.le_of_ble_eq_true rfl) (Nat.le_of_ble_eq_true rfl) ?_
            refine x_iret hx hb hr hlk hH dX0_flask_63 ?_
            exact cmd_ret2 (F := flaskF σ b so pl hd) (by unfold flaskF; (repeat' split) <;> first | rfl | (exfalso; omega)) hR60x
        · -- 36F
          refine lv_aload_n hx hb dX0_flask_39 rfl (lv_at hl 0 rfl) ?_
          refine n_iconst hx hb dX0_flask_40 ?_
          refine x_calli (x_runV (As := [.int (iI (-1))]) (rest := []) S hH hK (fun _ _ hW => XN.warm hW hXN) XN_b hl.1 hR.o rfl (xm_X0_refuse l G M σ x ω a (-1) _ hR (by omega) (by omega)) (lw_V q393 q395 qs0 q105 q396) kd_X0_refuse rfl rfl dX0_flask_41) hH hA (fun z41 M41_ H locs q_41 hH hz_41 => ?_)
          obtain ⟨e_41, ω41x, hR41x⟩ := q_41
          subst e_41
          refine W.widen (k := 3) (n := 27) (Nat.le_of_ble_eq_true rfl) (Nat.le_of_ble_eq_true rfl) ?_
          refine x_iret hx hb hr hlk hH dX0_flask_44 ?_
          exact cmd_ret2 (F := flaskF σ b so pl hd) (by unfold flaskF; (repeat' split) <;> first | rfl | (exfalso; omega)) hR41x
