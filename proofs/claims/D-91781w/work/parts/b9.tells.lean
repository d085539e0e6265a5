theorem RX.flaskE {G : MG} {M : Hp} {a : Nat} {σ : St} {x : XGh} {ω : XCt} {f : Nat} {i : Int} (h : RX G M a σ x ω) (e : (f : Int) = i) (h1 : i < σ 2 1753) : M (gf x 0 f 0) = some (oB (fci (σ 2 (184 + 26 * i + 1))) (fFI (σ 2) x 0 f i)) := by
  subst e
  exact (h.flask h1).2.1
theorem kd_X0_tells : yX0_tells.cls = RX0 ∧ yX0_tells.cls ≠ "java/lang/invoke/MethodHandle" ∧ yX0_tells.cls ≠ "java/lang/invoke/VarHandle" ∧ (parseMethodDescriptor yX0_tells.desc).map (fun d => d.parameters.length) = some 2 := by decide +kernel
theorem xm_X0_tells (l : Launch) (G : MG) (M : Hp) (σ : St) (x : XGh) (ω : XCt) (a : Nat) (f : Int) (w : Int) (sz : Nat) (hR : RX G M a σ x ω) (h_f : R32 f) (h_w : R32 w) (hI : KI (σ 2)) : Met l yX0_tells (ws_ yX0_tells cX0_tells 4 (some .int)) (rmD 4) (xP G XN [.ref a, .int (iI f), .int (iI w)] M sz) (xQi G (DA M sz) (fun z M' => z = (tellsF σ f w).1 ∧ ∃ ω', RX G M' a (tellsF σ f w).2 x ω')) 0 0 (DA M sz) := by
  refine x_start (by decide) (Nat.le_of_ble_eq_true rfl) ?_
  intro p e s m below meth c ⟨S, hr, hlk, hH, hK, hXN, hsz, hnm⟩ ls hl
  subst hsz
  obtain ⟨hx, hb, hml, hown, hts⟩ := S
  have S : CallFix p m c _ _ s _ lw_all RX0 := ⟨hx, hb, hml, hown, hts⟩
  have hA : ∀ q, s.heap.size ≤ q → DA M s.heap.size q := fun q hq => Or.inr hq
  have hl : lv_has ls 4 [(0, .ref a), (1, .int (iI f)), (2, .int (iI w))] := hl
  have b0 := hI.c
  unfold kCnt at b0
  have h_f := R32.n h_f
  have h_w := R32.n h_w
  refine lv_aload_n hx hb dX0_tells_0 rfl (lv_at hl 0 rfl) ?_
  refine lv_iload_n hx hb dX0_tells_1 rfl (lv_at hl 1 rfl) ?_
  refine x_calliF (x_runV (As := [.int (iI f)]) (rest := []) S hH hK (fun _ _ hW => XN.warm hW hXN) XN_b hl.1 hR.o rfl (xm_X0_isFlask l G M σ x ω a f _ hR (r32 (by omega)) (by omega) (by omega)) (lw_V q639 q641 qs3 q105 q642) kd_X0_isFlask rfl rfl dX0_tells_2) hH hA (fun H locs hH => ?_)
  refine z_if_eq (tgt := 20) hx hb dX0_tells_5 (by decide) (fun c_5 => ?_) (fun c_5 => ?_)
  · -- 5T
    refine n_sipush (z := -1000) hx hb dX0_tells_20 (by decide) ?_
    refine x_iret hx hb hr hlk hH dX0_tells_23 ?_
    exact cmd_ret (F := tellsF σ f w) (if_neg (by omega)) hR
  · -- 5F
    refine lv_iload_n hx hb dX0_tells_8 rfl (lv_at hl 2 rfl) ?_
    refine n_i2l hx hb (r32 (by omega)) dX0_tells_9 ?_
    refine n_lconst (z := 0) hx hb dX0_tells_10 (by decide) ?_
    refine lv_ldc2 (v := lI 14) hx hb hown (hts _ q730) dX0_tells_11 ?_
    refine x_calliF (x_runS (As := [.long (lI w), .long (lI 0), .long (lI 14)]) (rest := []) S hH hK (fun _ _ hW => XN.warm hW hXN) XN_b hl.1 (xm_X0_in l G M w 0 14 _ (r64 (by omega)) (r64 (by omega)) (r64 (by omega))) (lw_S q386 q387 q105 q388) kd_X0_in rfl rfl dX0_tells_14) hH hA (fun H locs hH => ?_)
    refine z_if_ne (tgt := 24) hx hb dX0_tells_17 (by decide) (fun c_17 => ?_) (fun c_17 => ?_)
    · -- 17T
      have b1 := hI.f f (by omega) (by omega)
      unfold kFlask fl at b1
      refine lv_aload_n hx hb dX0_tells_24 rfl (lv_at hl 0 rfl) ?_
      refine x_get hx hb hts in_X0 hown hK hH hR.o rfl 0 (by decide) q339 (fun _ h9 => h9) rfl (by decide) dX0_tells_25 ?_
      refine x_getN hx hb hts in_X1 hown hK hH hR.b0 rfl 9 (by decide) hXN q180 (fun _ h9 => h9) rfl (by decide) dX0_tells_28 ?_
      refine lv_iload_n hx hb dX0_tells_31 rfl (lv_at hl 1 rfl) ?_
      obtain ⟨f1, ef1, u1, g1, ga1, gb1⟩ := hR.flaskI (i := f) (by omega) (by omega)
      refine x_aald hx hb hK hH 6 hR.b9 rfl (by omega) (by omega) (Nat.le_of_ble_eq_true rfl) (v := some (gf x 0 f1 0)) u1 dX0_tells_32 ?_
      refine lv_astore_n hx hb dX0_tells_33 rfl hl (Nat.le_of_ble_eq_true rfl) (lv' := [(3, .ref (gf x 0 f1 0)), (0, .ref a), (1, .int (iI f)), (2, .int (iI w))]) rfl (fun ls hl => ?_)
      refine lv_aload_n hx hb dX0_tells_34 rfl (lv_at hl 0 rfl) ?_
      refine lv_aload_n hx hb dX0_tells_35 rfl (lv_at hl 1 rfl) ?_
      refine x_get hx hb hts in_X0 hown hK hH hR.o rfl 4 (by decide) q343 (fun _ h9 => h9) rfl (by decide) dX0_tells_36 ?_
      refine lv_aload_n hx hb dX0_tells_39 rfl (lv_at hl 1 rfl) ?_
      refine x_get hx hb hts in_X0 hown hK hH hR.o rfl 0 (by decide) q339 (fun _ h9 => h9) rfl (by decide) dX0_tells_40 ?_
      refine x_getN hx hb hts in_X1 hown hK hH hR.b0 rfl 0 (by decide) hXN q162 (fun _ h9 => h9) rfl (by decide) dX0_tells_43 ?_
      refine x_callv (fl_run (As := [.ref (gp x 4), .int (iI (σ 2 1750))]) (rest := []) (n := 2) S hH hK hXN hl.1 g1 (xm_X6_fill l G M σ x f f1 (gp x 22) (gy ω 22) (gf x 0 f1 0) (gp x 4) (σ 2 1750) _ g1 hR.p4 hR.p22 ⟨by omega, by omega⟩ ⟨by omega, by omega⟩ ⟨by omega, by omega⟩ (by omega)) rfl q731 q733 q736 q734 q735 q732 q111 q737 kd_X6_fill.2 rfl rfl dX0_tells_46 rfl rfl ⟨Nat.le_of_ble_eq_true rfl, Nat.le_of_ble_eq_true rfl⟩ (Nat.le_of_ble_eq_true rfl) ⟨Nat.le_of_ble_eq_true rfl, Nat.le_of_ble_eq_true rfl⟩) hH hA (fun M46_ H locs q_46 hH hz_46 => ?_)
      obtain ⟨g9, e9, hg9⟩ := q_46
      obtain ⟨ω2, hR2, hY2⟩ : ∃ ω2, RX G M46_ a σ x ω2 ∧ gy ω2 22 = g9 := ⟨_, by rw [e9]; exact hR.scr (k := 22) (by decide) rfl (fun q => absurd q (by decide)), yS_s⟩
      refine lv_iload_n hx hb dX0_tells_49 rfl (lv_at hl 3 rfl) ?_
      rcases sw_cases (z := w) 9 14 (by decide) with c_50 | c_50
      · refine lv_tableOut (tgt := 134) hx hb dX0_tells_50 (by rw [iI_ti (r32 (by omega))]; exact c_50) (by decide) ?_
        refine lv_aload_n hx hb dX0_tells_134 rfl (lv_at hl 1 rfl) ?_
        refine x_get hx hb hts in_X0 hown hK hH hR2.o rfl 4 (by decide) q343 (fun _ h9 => h9) rfl (by decide) dX0_tells_135 ?_
        refine x_get hx hb hts in_X2 hown hK hH hR2.p4 rfl 0 (by decide) q262 (fun _ h9 => h9) rfl (by decide) dX0_tells_138 ?_
        refine lv_iload_n hx hb dX0_tells_141 rfl (lv_at hl 3 rfl) ?_
        refine x_iald hx hb hK hH hR2.p22 (by omega) (by omega) (Nat.le_of_ble_eq_true rfl) dX0_tells_142 ?_
        refine x_iret hx hb hr hlk hH dX0_tells_143 ?_
        have e9f : tellsF σ f w = (_, sa σ 5 (caseF σ f)) := if_pos ⟨by omega, by omega⟩
        rw [e9f]
        refine ⟨?_, _, RX.sg hR2 rfl (fun _ _ _ => rfl) rfl rfl rfl (fun _ _ _ => rfl) rfl rfl⟩
        first
        | (rw [if_neg (by omega)]; (repeat' split) <;> first | rfl | omega | (exfalso; omega))
        | (show _ = if w < 9 then caseF σ f w else _
           rw [if_pos (by omega), hY2, hg9 w (by omega) (by omega)]
           unfold caseF
           dsimp only
           (repeat' split) <;> first | rfl | omega | (exfalso; omega))
      · have c_50 : w = 9 ∨ w = 10 ∨ w = 11 ∨ w = 12 ∨ w = 13 ∨ w = 14 := by omega
        rcases c_50 with c_50 | c_50 | c_50 | c_50 | c_50 | c_50
        · refine lv_tableIn (off := 38) (tgt := 88) hx hb dX0_tells_50 (by rw [c_50]; decide) (by rw [c_50]; decide) (by rw [c_50]; decide) (by decide) ?_
          refine lv_aload_n hx hb dX0_tells_88 rfl (lv_at hl 0 rfl) ?_
          refine x_getFl hx hb hts hown hK hH (hR2.flaskE ef1 (by omega)) (fci_c _) 16 (by decide) q542 rfl rfl rfl rfl dX0_tells_89 ?_
          refine n_if_eq (tgt := 99) hx hb (r32 (by omega)) dX0_tells_92 (by decide) (fun c_92 => ?_) (fun c_92 => ?_)
          · -- 92T
            refine n_iconst hx hb dX0_tells_99 ?_
            refine x_iret hx hb hr hlk hH dX0_tells_100 ?_
            have e9f : tellsF σ f w = (_, sa σ 5 (caseF σ f)) := if_pos ⟨by omega, by omega⟩
            rw [e9f]
            refine ⟨?_, _, RX.sg hR2 rfl (fun _ _ _ => rfl) rfl rfl rfl (fun _ _ _ => rfl) rfl rfl⟩
            first
            | (rw [if_neg (by omega)]; (repeat' split) <;> first | rfl | omega | (exfalso; omega))
            | (show _ = if w < 9 then caseF σ f w else _
               rw [if_pos (by omega), hY2, hg9 w (by omega) (by omega)]
               unfold caseF
               dsimp only
               (repeat' split) <;> first | rfl | omega | (exfalso; omega))
          · -- 92F
            refine n_iconst hx hb dX0_tells_95 ?_
            refine lv_goto (tgt := 100) hx hb dX0_tells_96 (by decide) ?_
            refine x_iret hx hb hr hlk hH dX0_tells_100 ?_
            have e9f : tellsF σ f w = (_, sa σ 5 (caseF σ f)) := if_pos ⟨by omega, by omega⟩
            rw [e9f]
            refine ⟨?_, _, RX.sg hR2 rfl (fun _ _ _ => rfl) rfl rfl rfl (fun _ _ _ => rfl) rfl rfl⟩
            first
            | (rw [if_neg (by omega)]; (repeat' split) <;> first | rfl | omega | (exfalso; omega))
            | (show _ = if w < 9 then caseF σ f w else _
               rw [if_pos (by omega), hY2, hg9 w (by omega) (by omega)]
               unfold caseF
               dsimp only
               (repeat' split) <;> first | rfl | omega | (exfalso; omega))
        · refine lv_tableIn (off := 51) (tgt := 101) hx hb dX0_tells_50 (by rw [c_50]; decide) (by rw [c_50]; decide) (by rw [c_50]; decide) (by decide) ?_
          refine lv_aload_n hx hb dX0_tells_101 rfl (lv_at hl 0 rfl) ?_
          refine x_getFl hx hb hts hown hK hH (hR2.flaskE ef1 (by omega)) (fci_c _) 12 (by decide) q531 rfl rfl rfl rfl dX0_tells_102 ?_
          refine x_iret hx hb hr hlk hH dX0_tells_105 ?_
          have e9f : tellsF σ f w = (_, sa σ 5 (caseF σ f)) := if_pos ⟨by omega, by omega⟩
          rw [e9f]
          refine ⟨?_, _, RX.sg hR2 rfl (fun _ _ _ => rfl) rfl rfl rfl (fun _ _ _ => rfl) rfl rfl⟩
          first
          | (rw [if_neg (by omega)]; (repeat' split) <;> first | rfl | omega | (exfalso; omega))
          | (show _ = if w < 9 then caseF σ f w else _
             rw [if_pos (by omega), hY2, hg9 w (by omega) (by omega)]
             unfold caseF
             dsimp only
             (repeat' split) <;> first | rfl | omega | (exfalso; omega))
        · refine lv_tableIn (off := 56) (tgt := 106) hx hb dX0_tells_50 (by rw [c_50]; decide) (by rw [c_50]; decide) (by rw [c_50]; decide) (by decide) ?_
          refine lv_aload_n hx hb dX0_tells_106 rfl (lv_at hl 0 rfl) ?_
          refine x_getFl hx hb hts hown hK hH (hR2.flaskE ef1 (by omega)) (fci_c _) 14 (by decide) q537 rfl rfl rfl rfl dX0_tells_107 ?_
          refine x_iret hx hb hr hlk hH dX0_tells_110 ?_
          have e9f : tellsF σ f w = (_, sa σ 5 (caseF σ f)) := if_pos ⟨by omega, by omega⟩
          rw [e9f]
          refine ⟨?_, _, RX.sg hR2 rfl (fun _ _ _ => rfl) rfl rfl rfl (fun _ _ _ => rfl) rfl rfl⟩
          first
          | (rw [if_neg (by omega)]; (repeat' split) <;> first | rfl | omega | (exfalso; omega))
          | (show _ = if w < 9 then caseF σ f w else _
             rw [if_pos (by omega), hY2, hg9 w (by omega) (by omega)]
             unfold caseF
             dsimp only
             (repeat' split) <;> first | rfl | omega | (exfalso; omega))
        · refine lv_tableIn (off := 61) (tgt := 111) hx hb dX0_tells_50 (by rw [c_50]; decide) (by rw [c_50]; decide) (by rw [c_50]; decide) (by decide) ?_
          refine lv_aload_n hx hb dX0_tells_111 rfl (lv_at hl 0 rfl) ?_
          refine x_getFl hx hb hts hown hK hH (hR2.flaskE ef1 (by omega)) (fci_c _) 3 (by decide) q506 rfl rfl rfl rfl dX0_tells_112 ?_
          refine x_iret hx hb hr hlk hH dX0_tells_115 ?_
          have e9f : tellsF σ f w = (_, sa σ 5 (caseF σ f)) := if_pos ⟨by omega, by omega⟩
          rw [e9f]
          refine ⟨?_, _, RX.sg hR2 rfl (fun _ _ _ => rfl) rfl rfl rfl (fun _ _ _ => rfl) rfl rfl⟩
          first
          | (rw [if_neg (by omega)]; (repeat' split) <;> first | rfl | omega | (exfalso; omega))
          | (show _ = if w < 9 then caseF σ f w else _
             rw [if_pos (by omega), hY2, hg9 w (by omega) (by omega)]
             unfold caseF
             dsimp only
             (repeat' split) <;> first | rfl | omega | (exfalso; omega))
        · refine lv_tableIn (off := 66) (tgt := 116) hx hb dX0_tells_50 (by rw [c_50]; decide) (by rw [c_50]; decide) (by rw [c_50]; decide) (by decide) ?_
          refine lv_aload_n hx hb dX0_tells_116 rfl (lv_at hl 0 rfl) ?_
          refine x_calliF (fl_run (As := []) (rest := []) (n := 0) S hH hK hXN hl.1 (hR2.flaskE ef1 (by omega)) (xm_X6_hasAir l G M46_ σ x f f1 (gf x 0 f1 0) _ (hR2.flaskE ef1 (by omega)) ⟨by omega, by omega⟩ ⟨by omega, by omega⟩) rfl q739 q703 q706 q704 q705 q702 q111 q707 kd_X6_hasAir.2 rfl rfl dX0_tells_117 rfl rfl ⟨Nat.le_of_ble_eq_true rfl, Nat.le_of_ble_eq_true rfl⟩ (Nat.le_of_ble_eq_true rfl) ⟨Nat.le_of_ble_eq_true rfl, Nat.le_of_ble_eq_true rfl⟩) hH hA (fun H locs hH => ?_)
          refine z_if_eq (tgt := 127) hx hb dX0_tells_120 (by decide) (fun c_120 => ?_) (fun c_120 => ?_)
          · -- 120T
            refine n_iconst hx hb dX0_tells_127 ?_
            refine x_iret hx hb hr hlk hH dX0_tells_128 ?_
            have e9f : tellsF σ f w = (_, sa σ 5 (caseF σ f)) := if_pos ⟨by omega, by omega⟩
            rw [e9f]
            refine ⟨?_, _, RX.sg hR2 rfl (fun _ _ _ => rfl) rfl rfl rfl (fun _ _ _ => rfl) rfl rfl⟩
            have hx9 : airP (caseF σ f 1) (caseF σ f 6) ↔ airP (σ 2 (184 + 26 * f + 1)) (σ 2 (184 + 26 * f + 6)) := by
              have q1 : caseF σ f 1 = σ 2 (184 + 26 * f + 1) := rfl
              have q2 : caseF σ f 6 = min 255 (σ 2 (184 + 26 * f + 6)) := rfl
              rw [q1, q2]
              unfold airP
              omega
            rw [if_neg (show ¬ w < 9 by omega), if_neg (show ¬ w = 9 by omega), if_neg (show ¬ w = 10 by omega), if_neg (show ¬ w = 11 by omega), if_neg (show ¬ w = 12 by omega), if_pos (show w = 13 by omega)]
            exact (if_neg (fun h => c_120 (hx9.mp h))).symm
          · -- 120F
            refine n_iconst hx hb dX0_tells_123 ?_
            refine lv_goto (tgt := 128) hx hb dX0_tells_124 (by decide) ?_
            refine x_iret hx hb hr hlk hH dX0_tells_128 ?_
            have e9f : tellsF σ f w = (_, sa σ 5 (caseF σ f)) := if_pos ⟨by omega, by omega⟩
            rw [e9f]
            refine ⟨?_, _, RX.sg hR2 rfl (fun _ _ _ => rfl) rfl rfl rfl (fun _ _ _ => rfl) rfl rfl⟩
            have hx9 : airP (caseF σ f 1) (caseF σ f 6) ↔ airP (σ 2 (184 + 26 * f + 1)) (σ 2 (184 + 26 * f + 6)) := by
              have q1 : caseF σ f 1 = σ 2 (184 + 26 * f + 1) := rfl
              have q2 : caseF σ f 6 = min 255 (σ 2 (184 + 26 * f + 6)) := rfl
              rw [q1, q2]
              unfold airP
              omega
            rw [if_neg (show ¬ w < 9 by omega), if_neg (show ¬ w = 9 by omega), if_neg (show ¬ w = 10 by omega), if_neg (show ¬ w = 11 by omega), if_neg (show ¬ w = 12 by omega), if_pos (show w = 13 by omega)]
            exact (if_pos (hx9.mpr c_120)).symm
        · refine lv_tableIn (off := 79) (tgt := 129) hx hb dX0_tells_50 (by rw [c_50]; decide) (by rw [c_50]; decide) (by rw [c_50]; decide) (by decide) ?_
          refine lv_aload_n hx hb dX0_tells_129 rfl (lv_at hl 0 rfl) ?_
          refine x_getFl hx hb hts hown hK hH (hR2.flaskE ef1 (by omega)) (fci_c _) 13 (by decide) q534 rfl rfl rfl rfl dX0_tells_130 ?_
          refine x_iret hx hb hr hlk hH dX0_tells_133 ?_
          have e9f : tellsF σ f w = (_, sa σ 5 (caseF σ f)) := if_pos ⟨by omega, by omega⟩
          rw [e9f]
          refine ⟨?_, _, RX.sg hR2 rfl (fun _ _ _ => rfl) rfl rfl rfl (fun _ _ _ => rfl) rfl rfl⟩
          first
          | (rw [if_neg (by omega)]; (repeat' split) <;> first | rfl | omega | (exfalso; omega))
          | (show _ = if w < 9 then caseF σ f w else _
             rw [if_pos (by omega), hY2, hg9 w (by omega) (by omega)]
             unfold caseF
             dsimp only
             (repeat' split) <;> first | rfl | omega | (exfalso; omega))
    · -- 17F
      refine n_sipush (z := -1000) hx hb dX0_tells_20 (by decide) ?_
      refine x_iret hx hb hr hlk hH dX0_tells_23 ?_
      exact cmd_ret (F := tellsF σ f w) (if_neg (by omega)) hR
