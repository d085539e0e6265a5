theorem kd_X4_draws : yX4_draws.cls = RX4 ∧ yX4_draws.cls ≠ "java/lang/invoke/MethodHandle" ∧ yX4_draws.cls ≠ "java/lang/invoke/VarHandle" ∧ (parseMethodDescriptor yX4_draws.desc).map (fun d => d.parameters.length) = some 1 := by decide +kernel
theorem mm_draws (l : Launch) (G : MG) (σ : St) (n : Int) (sz : Nat) (hn : 0 < n) (hn2 : n < 2147483648) (h0 : 0 ≤ σ 2 1751) (h1 : σ 2 1751 ≤ 1000002) : Met l yX4_draws (ws_ yX4_draws cX4_draws 2 (some .int)) (rmD 1) (mP G [.ref (G.2.2 0), .int (iI n)] σ sz) (mQi G σ sz (fun z σ' => z = drawF (σ 2) % n ∧ σ' = st σ 2 1751 (drawF (σ 2)))) 0 0 (mA G σ sz) := by
  refine m_start (by decide) (Nat.le_of_ble_eq_true rfl) ?_
  intro p e s m below meth c ⟨S, hr, hlk, hH, hK, hj, hsz, hnm⟩ ls hl
  subst hsz
  obtain ⟨hx, hb, hml, hown, hts⟩ := S
  have S : CallFix p m c _ _ s _ lw_all RX4 := ⟨hx, hb, hml, hown, hts⟩
  have hA : ∀ q, s.heap.size ≤ q → mA G σ s.heap.size q := fun q hq => Or.inr hq
  have hl : lv_has ls 2 [(0, .ref (G.2.2 0)), (1, .int (iI n))] := hl
  have hd := drawF_r (σ 2)
  refine lv_aload_n hx hb dX4_draws_0 rfl (lv_at hl 0 rfl) ?_
  refine m_get 2 (by decide) hx hb hts hown hK hj hH q1475 (fun _ h9 => h9) rfl dX4_draws_1 ?_
  refine n_sipush (z := 1751) hx hb dX4_draws_4 (by decide) ?_
  refine lv_ldc2 (v := lI 1103) hx hb hown (hts _ q1660) dX4_draws_7 ?_
  refine lv_aload_n hx hb dX4_draws_10 rfl (lv_at hl 0 rfl) ?_
  refine m_get 2 (by decide) hx hb hts hown hK hj hH q1475 (fun _ h9 => h9) rfl dX4_draws_11 ?_
  refine n_sipush (z := 1751) hx hb dX4_draws_14 (by decide) ?_
  refine ml_2 hx hb hK hj hH (by omega) (by omega) dX4_draws_17 ?_
  refine n_i2l hx hb (r32 (by omega)) dX4_draws_18 ?_
  refine n_lmul hx hb dX4_draws_19 ?_
  refine lv_ldc2 (v := lI 12345) hx hb hown (hts _ q1661) dX4_draws_20 ?_
  refine n_ladd hx hb dX4_draws_23 ?_
  refine lv_ldc2 (v := lI 1000003) hx hb hown (hts _ q1662) dX4_draws_24 ?_
  refine n_lrem hx hb (by decide) (r64 (by omega)) (r64 (by omega)) (tdiv_r (by omega) (by omega) (by omega)) dX4_draws_27 ?_
  refine W.eq (g2 := F0 m 28 ls (.long (lI (drawF (σ 2))) :: .int (iI 1751) :: .ref (G.2.2 2) :: [])) (by rw [drawF_e h0]) ?_
  refine n_l2i hx hb dX4_draws_28 ?_
  refine ms_2 hx hb hK hj hH (by omega) (by omega) dX4_draws_29 (fun H locs hH => ?_)
  refine lv_aload_n hx hb dX4_draws_30 rfl (lv_at hl 0 rfl) ?_
  refine m_get 2 (by decide) hx hb hts hown hK hj hH q1475 (fun _ h9 => h9) rfl dX4_draws_31 ?_
  refine n_sipush (z := 1751) hx hb dX4_draws_34 (by decide) ?_
  refine ml_2 hx hb hK hj hH (by omega) (by omega) dX4_draws_37 ?_
  refine W.eq (g2 := F0 m 38 ls (.int (iI (drawF (σ 2))) :: [])) (by rw [st_s]) ?_
  refine lv_iload_n hx hb dX4_draws_38 rfl (lv_at hl 1 rfl) ?_
  refine n_irem hx hb (by omega) (by omega) (r32 (by omega)) (by omega) dX4_draws_39 ?_
  refine m_iret hx hb hr hlk hH dX4_draws_40 ?_
  exact ⟨rfl, rfl⟩
theorem kd_X4_tells : yX4_tells.cls = RX4 ∧ yX4_tells.cls ≠ "java/lang/invoke/MethodHandle" ∧ yX4_tells.cls ≠ "java/lang/invoke/VarHandle" ∧ (parseMethodDescriptor yX4_tells.desc).map (fun d => d.parameters.length) = some 2 := by decide +kernel
theorem mm_tells (l : Launch) (G : MG) (σ : St) (f : Int) (w : Int) (sz : Nat) (h_f : R32 f) (h_w : R32 w) (hI : KI (σ 2)) : Met l yX4_tells (ws_ yX4_tells cX4_tells 3 (some .int)) (rmD 3) (mP G [.ref (G.2.2 0), .int (iI f), .int (iI w)] σ sz) (mQi G σ sz (fun z σ' => (z, σ') = tellsF σ f w)) 0 0 (mA G σ sz) := by
  refine m_start (by decide) (Nat.le_of_ble_eq_true rfl) ?_
  intro p e s m below meth c ⟨S, hr, hlk, hH, hK, hj, hsz, hnm⟩ ls hl
  subst hsz
  obtain ⟨hx, hb, hml, hown, hts⟩ := S
  have S : CallFix p m c _ _ s _ lw_all RX4 := ⟨hx, hb, hml, hown, hts⟩
  have hA : ∀ q, s.heap.size ≤ q → mA G σ s.heap.size q := fun q hq => Or.inr hq
  have hl : lv_has ls 3 [(0, .ref (G.2.2 0)), (1, .int (iI f)), (2, .int (iI w))] := hl
  have b0 := hI.c
  unfold kCnt at b0
  have h_f := R32.n h_f
  have h_w := R32.n h_w
  refine lv_aload_n hx hb dX4_tells_0 rfl (lv_at hl 0 rfl) ?_
  refine lv_iload_n hx hb dX4_tells_1 rfl (lv_at hl 1 rfl) ?_
  refine m_calliF (m_runV (As := [.int (iI f)]) (rest := []) S hH hK hj hl.1 (mm_isFlask l G σ f _ (r32 (by omega)) (by omega) (by omega)) (lw_V q1621 q1623 qs47 q109 q1624) kd_X4_isFlask rfl rfl dX4_tells_2) hH hA (fun H locs hH => ?_)
  refine z_if_eq (tgt := 18) hx hb dX4_tells_5 (by decide) (fun c_5 => ?_) (fun c_5 => ?_)
  · -- 5T
    refine n_sipush (z := -1000) hx hb dX4_tells_18 (by decide) ?_
    refine m_iret hx hb hr hlk hH dX4_tells_21 ?_
    unfold tellsF
    rw [if_neg (by omega)]
  · -- 5F
    have b1 := hI.f f (by omega) (by omega)
    unfold kFlask fl at b1
    have b2 := caseF_ok (by omega : 0 ≤ f) (by omega) hI
    unfold caseOK at b2
    refine lv_iload_n hx hb dX4_tells_8 rfl (lv_at hl 2 rfl) ?_
    refine n_iconst hx hb dX4_tells_9 ?_
    refine n_bipush (z := 14) hx hb dX4_tells_10 (by decide) ?_
    refine m_calliF (m_runS (As := [.int (iI w), .int (iI 0), .int (iI 14)]) (rest := []) S hH hK hj hl.1 (mm_in l G σ w 0 14 _ (r32 (by omega)) (r32 (by omega)) (r32 (by omega))) (lw_S q1569 q1570 q109 q1571) kd_X4_in rfl rfl dX4_tells_12) hH hA (fun H locs hH => ?_)
    refine z_if_ne (tgt := 22) hx hb dX4_tells_15 (by decide) (fun c_15 => ?_) (fun c_15 => ?_)
    · -- 15T
      refine lv_aload_n hx hb dX4_tells_22 rfl (lv_at hl 0 rfl) ?_
      refine lv_iload_n hx hb dX4_tells_23 rfl (lv_at hl 1 rfl) ?_
      refine m_callvF (m_runV (As := [.int (iI f)]) (rest := []) S hH hK hj hl.1 (mm_takesFlask l G σ f _ (by omega) (by omega) hI (by omega)) (lw_V q1671 q1673 qs53 q109 q1674) kd_X4_takesFlask rfl rfl dX4_tells_24) hH hA (fun H locs hH => ?_)
      refine lv_iload_n hx hb dX4_tells_27 rfl (lv_at hl 2 rfl) ?_
      refine n_bipush (z := 9) hx hb dX4_tells_28 (by decide) ?_
      refine n_icmp_ge (tgt := 40) hx hb (r32 (by omega)) (r32 (by omega)) dX4_tells_30 (by decide) (fun c_30 => ?_) (fun c_30 => ?_)
      · -- 30T
        refine lv_iload_n hx hb dX4_tells_40 rfl (lv_at hl 2 rfl) ?_
        rcases sw_cases (z := w) 9 13 (by decide) with c_41 | c_41
        · refine lv_tableOut (tgt := 133) hx hb dX4_tells_41 (by rw [iI_ti (r32 (by omega))]; exact c_41) (by decide) ?_
          refine lv_aload_n hx hb dX4_tells_133 rfl (lv_at hl 0 rfl) ?_
          refine lv_iload_n hx hb dX4_tells_134 rfl (lv_at hl 1 rfl) ?_
          refine n_bipush (z := 15) hx hb dX4_tells_135 (by decide) ?_
          refine m_calliF (m_runV (As := [.int (iI f), .int (iI 15)]) (rest := []) S hH hK hj hl.1 (mm_flaskOf l G (sa σ 5 (caseF σ f)) f 15 _ (by omega) (by omega) (by omega) (by omega)) (lw_V q1625 q1627 qs48 q109 q1628) kd_X4_flaskOf rfl rfl dX4_tells_137) hH hA (fun H locs hH => ?_)
          refine m_iret hx hb hr hlk hH dX4_tells_140 ?_
          unfold tellsF
          first | rw [if_pos (by omega)] | rw [if_neg (by omega)]
          all_goals (repeat' split) <;> first | (exfalso; omega) | contradiction | rfl
        · have c_41 : w = 9 ∨ w = 10 ∨ w = 11 ∨ w = 12 ∨ w = 13 := by omega
          rcases c_41 with c_41 | c_41 | c_41 | c_41 | c_41
          · refine lv_tableIn (off := 35) (tgt := 76) hx hb dX4_tells_41 (by rw [c_41]; decide) (by rw [c_41]; decide) (by rw [c_41]; decide) (by decide) ?_
            refine lv_aload_n hx hb dX4_tells_76 rfl (lv_at hl 0 rfl) ?_
            refine lv_iload_n hx hb dX4_tells_77 rfl (lv_at hl 1 rfl) ?_
            refine n_bipush (z := 13) hx hb dX4_tells_78 (by decide) ?_
            refine m_calliF (m_runV (As := [.int (iI f), .int (iI 13)]) (rest := []) S hH hK hj hl.1 (mm_flaskOf l G (sa σ 5 (caseF σ f)) f 13 _ (by omega) (by omega) (by omega) (by omega)) (lw_V q1625 q1627 qs48 q109 q1628) kd_X4_flaskOf rfl rfl dX4_tells_80) hH hA (fun H locs hH => ?_)
            refine m_iret hx hb hr hlk hH dX4_tells_83 ?_
            unfold tellsF
            first | rw [if_pos (by omega)] | rw [if_neg (by omega)]
            all_goals (repeat' split) <;> first | (exfalso; omega) | contradiction | rfl
          · refine lv_tableIn (off := 43) (tgt := 84) hx hb dX4_tells_41 (by rw [c_41]; decide) (by rw [c_41]; decide) (by rw [c_41]; decide) (by decide) ?_
            refine lv_aload_n hx hb dX4_tells_84 rfl (lv_at hl 0 rfl) ?_
            refine lv_iload_n hx hb dX4_tells_85 rfl (lv_at hl 1 rfl) ?_
            refine n_bipush (z := 14) hx hb dX4_tells_86 (by decide) ?_
            refine m_calliF (m_runV (As := [.int (iI f), .int (iI 14)]) (rest := []) S hH hK hj hl.1 (mm_flaskOf l G (sa σ 5 (caseF σ f)) f 14 _ (by omega) (by omega) (by omega) (by omega)) (lw_V q1625 q1627 qs48 q109 q1628) kd_X4_flaskOf rfl rfl dX4_tells_88) hH hA (fun H locs hH => ?_)
            refine m_iret hx hb hr hlk hH dX4_tells_91 ?_
            unfold tellsF
            first | rw [if_pos (by omega)] | rw [if_neg (by omega)]
            all_goals (repeat' split) <;> first | (exfalso; omega) | contradiction | rfl
          · refine lv_tableIn (off := 51) (tgt := 92) hx hb dX4_tells_41 (by rw [c_41]; decide) (by rw [c_41]; decide) (by rw [c_41]; decide) (by decide) ?_
            refine lv_aload_n hx hb dX4_tells_92 rfl (lv_at hl 0 rfl) ?_
            refine lv_iload_n hx hb dX4_tells_93 rfl (lv_at hl 1 rfl) ?_
            refine n_bipush (z := 16) hx hb dX4_tells_94 (by decide) ?_
            refine m_calliF (m_runV (As := [.int (iI f), .int (iI 16)]) (rest := []) S hH hK hj hl.1 (mm_flaskOf l G (sa σ 5 (caseF σ f)) f 16 _ (by omega) (by omega) (by omega) (by omega)) (lw_V q1625 q1627 qs48 q109 q1628) kd_X4_flaskOf rfl rfl dX4_tells_96) hH hA (fun H locs hH => ?_)
            refine m_iret hx hb hr hlk hH dX4_tells_99 ?_
            unfold tellsF
            first | rw [if_pos (by omega)] | rw [if_neg (by omega)]
            all_goals (repeat' split) <;> first | (exfalso; omega) | contradiction | rfl
          · refine lv_tableIn (off := 59) (tgt := 100) hx hb dX4_tells_41 (by rw [c_41]; decide) (by rw [c_41]; decide) (by rw [c_41]; decide) (by decide) ?_
            refine lv_aload_n hx hb dX4_tells_100 rfl (lv_at hl 0 rfl) ?_
            refine lv_iload_n hx hb dX4_tells_101 rfl (lv_at hl 1 rfl) ?_
            refine n_bipush (z := 9) hx hb dX4_tells_102 (by decide) ?_
            refine m_calliF (m_runV (As := [.int (iI f), .int (iI 9)]) (rest := []) S hH hK hj hl.1 (mm_flaskOf l G (sa σ 5 (caseF σ f)) f 9 _ (by omega) (by omega) (by omega) (by omega)) (lw_V q1625 q1627 qs48 q109 q1628) kd_X4_flaskOf rfl rfl dX4_tells_104) hH hA (fun H locs hH => ?_)
            refine m_iret hx hb hr hlk hH dX4_tells_107 ?_
            unfold tellsF
            first | rw [if_pos (by omega)] | rw [if_neg (by omega)]
            all_goals (repeat' split) <;> first | (exfalso; omega) | contradiction | rfl
          · refine lv_tableIn (off := 67) (tgt := 108) hx hb dX4_tells_41 (by rw [c_41]; decide) (by rw [c_41]; decide) (by rw [c_41]; decide) (by decide) ?_
            refine lv_aload_n hx hb dX4_tells_108 rfl (lv_at hl 0 rfl) ?_
            refine m_get 5 (by decide) hx hb hts hown hK hj hH q1478 (fun _ h9 => h9) rfl dX4_tells_109 ?_
            refine n_iconst hx hb dX4_tells_112 ?_
            refine ml_5 hx hb hK hj hH (by omega) (by omega) dX4_tells_113 ?_
            refine W.eq (g2 := F0 m 114 ls (.int (iI (caseF σ f 1)) :: [])) (by rfl) ?_
            refine lv_aload_n hx hb dX4_tells_114 rfl (lv_at hl 0 rfl) ?_
            refine m_get 5 (by decide) hx hb hts hown hK hj hH q1478 (fun _ h9 => h9) rfl dX4_tells_115 ?_
            refine n_bipush (z := 6) hx hb dX4_tells_118 (by decide) ?_
            refine ml_5 hx hb hK hj hH (by omega) (by omega) dX4_tells_120 ?_
            refine W.eq (g2 := F0 m 121 ls (.int (iI (caseF σ f 6)) :: .int (iI (caseF σ f 1)) :: [])) (by rfl) ?_
            refine m_calliF (m_runS (As := [.int (iI (caseF σ f 1)), .int (iI (caseF σ f 6))]) (rest := []) S hH hK hj hl.1 (mm_hasAir l G (sa σ 5 (caseF σ f)) (caseF σ f 1) (caseF σ f 6) _ (r32 (by omega)) (r32 (by omega))) (lw_S q1653 q1654 q109 q1655) kd_X4_hasAir rfl rfl dX4_tells_121) hH hA (fun H locs hH => ?_)
            refine z_if_eq (tgt := 131) hx hb dX4_tells_124 (by decide) (fun c_124 => ?_) (fun c_124 => ?_)
            · -- 124T
              refine n_iconst hx hb dX4_tells_131 ?_
              refine m_iret hx hb hr hlk hH dX4_tells_132 ?_
              unfold tellsF
              first | rw [if_pos (by omega)] | rw [if_neg (by omega)]
              all_goals (repeat' split) <;> first | (exfalso; omega) | contradiction | rfl
            · -- 124F
              refine n_iconst hx hb dX4_tells_127 ?_
              refine lv_goto (tgt := 132) hx hb dX4_tells_128 (by decide) ?_
              refine m_iret hx hb hr hlk hH dX4_tells_132 ?_
              unfold tellsF
              first | rw [if_pos (by omega)] | rw [if_neg (by omega)]
              all_goals (repeat' split) <;> first | (exfalso; omega) | contradiction | rfl
      · -- 30F
        refine lv_aload_n hx hb dX4_tells_33 rfl (lv_at hl 0 rfl) ?_
        refine m_get 5 (by decide) hx hb hts hown hK hj hH q1478 (fun _ h9 => h9) rfl dX4_tells_34 ?_
        refine lv_iload_n hx hb dX4_tells_37 rfl (lv_at hl 2 rfl) ?_
        refine ml_5 hx hb hK hj hH (by omega) (by omega) dX4_tells_38 ?_
        refine m_iret hx hb hr hlk hH dX4_tells_39 ?_
        unfold tellsF
        first | rw [if_pos (by omega)] | rw [if_neg (by omega)]
        all_goals (repeat' split) <;> first | (exfalso; omega) | contradiction | rfl
    · -- 15F
      refine n_sipush (z := -1000) hx hb dX4_tells_18 (by decide) ?_
      refine m_iret hx hb hr hlk hH dX4_tells_21 ?_
      unfold tellsF
      rw [if_neg (by omega)]
theorem kd_X4_look : yX4_look.cls = RX4 ∧ yX4_look.cls ≠ "java/lang/invoke/MethodHandle" ∧ yX4_look.cls ≠ "java/lang/invoke/VarHandle" ∧ (parseMethodDescriptor yX4_look.desc).map (fun d => d.parameters.length) = some 1 := by decide +kernel
theorem mm_look (l : Launch) (G : MG) (σ : St) (f : Int) (sz : Nat) (h_f : R32 f) (hI : KI (σ 2)) : Met l yX4_look (ws_ yX4_look cX4_look 4 (some .int)) (rmD 3) (mP G [.ref (G.2.2 0), .int (iI f)] σ sz) (mQi G σ sz (fun z σ' => (z, σ') = lookF σ f)) 0 0 (mA G σ sz) := by
  refine m_start (by decide) (Nat.le_of_ble_eq_true rfl) ?_
  intro p e s m below meth c ⟨S, hr, hlk, hH, hK, hj, hsz, hnm⟩ ls hl
  subst hsz
  obtain ⟨hx, hb, hml, hown, hts⟩ := S
  have S : CallFix p m c _ _ s _ lw_all RX4 := ⟨hx, hb, hml, hown, hts⟩
  have hA : ∀ q, s.heap.size ≤ q → mA G σ s.heap.size q := fun q hq => Or.inr hq
  have hl : lv_has ls 4 [(0, .ref (G.2.2 0)), (1, .int (iI f))] := hl
  have b0 := hI.c
  unfold kCnt at b0
  have h_f := R32.n h_f
  have L51 : ∀ (n : Nat) (i : Int), (h0 : 0 ≤ i) → (h1 : i ≤ 9) → (hn : 9 < (n : Int) + i) → (hf : 0 ≤ f ∧ f ≤ σ 2 1753 - 1) → (h8 : ¬ σ 2 1754 = 40) → ∀ (H : Heap) (locs : List Loc) (ls : Array Slot), MH G (mA G σ s.heap.size) (sa (sa σ 5 (caseF σ f)) 2 (cpA (σ 2) (1224 + 10 * σ 2 1754) i (caseF σ f))) s.heap H locs → lv_has ls 4 [(0, .ref (G.2.2 0)), (1, .int (iI f)), (2, .int (iI (σ 2 1754))), (3, .int (iI i))] → W p l e (rmD 3) s m ([.ref (G.2.2 0), .int (iI f)] : List Value).toArray below meth c H locs 0 0 (MQ below (mQi G σ s.heap.size (fun z σ' => (z, σ') = lookF σ f)) ([.ref (G.2.2 0), .int (iI f)] : List Value).toArray s 0 0 (mA G σ s.heap.size)) (F0 m 51 ls []) := by
    intro n
    induction n with
    | zero => intro i h0 h1 hn hf h8; exfalso; omega
    | succ n ih_51 =>
      intro i h0 h1 hn hf h8 H locs ls hH hl
      refine lv_iload_n hx hb dX4_look_51 rfl (lv_at hl 3 rfl) ?_
      refine n_bipush (z := 9) hx hb dX4_look_52 (by decide) ?_
      refine n_icmp_ge (tgt := 81) hx hb (r32 (by omega)) (r32 (by omega)) dX4_look_54 (by decide) (fun c_54 => ?_) (fun c_54 => ?_)
      · -- 54T
        obtain rfl : i = 9 := by omega
        refine lv_aload_n hx hb dX4_look_81 rfl (lv_at hl 0 rfl) ?_
        refine m_get 2 (by decide) hx hb hts hown hK hj hH q1475 (fun _ h9 => h9) rfl dX4_look_82 ?_
        refine lv_aload_n hx hb dX4_look_85 rfl (lv_at hl 0 rfl) ?_
        refine lv_iload_n hx hb dX4_look_86 rfl (lv_at hl 2 rfl) ?_
        refine m_calliF (m_runV (As := [.int (iI (σ 2 1754))]) (rest := [.ref (G.2.2 2)]) S hH hK hj hl.1 (mm_lookAt l G (sa (sa σ 5 (caseF σ f)) 2 (cpA (σ 2) (1224 + 10 * σ 2 1754) 9 (caseF σ f))) (σ 2 1754) _ ) (lw_V q1682 q1684 qs54 q109 q1685) kd_X4_lookAt rfl rfl dX4_look_87) hH hA (fun H locs hH => ?_)
        refine n_bipush (z := 9) hx hb dX4_look_90 (by decide) ?_
        refine n_iadd hx hb dX4_look_92 ?_
        refine lv_aload_n hx hb dX4_look_93 rfl (lv_at hl 0 rfl) ?_
        refine lv_iload_n hx hb dX4_look_94 rfl (lv_at hl 1 rfl) ?_
        refine n_bipush (z := 13) hx hb dX4_look_95 (by decide) ?_
        refine m_calliF (m_runV (As := [.int (iI f), .int (iI 13)]) (rest := [.int (iI ((1224 + 10 * (σ 2 1754)) + 9)), .ref (G.2.2 2)]) S hH hK hj hl.1 (mm_flaskOf l G (sa (sa σ 5 (caseF σ f)) 2 (cpA (σ 2) (1224 + 10 * σ 2 1754) 9 (caseF σ f))) f 13 _ (by omega) (by omega) (by omega) (by omega)) (lw_V q1625 q1627 qs48 q109 q1628) kd_X4_flaskOf rfl rfl dX4_look_97) hH hA (fun H locs hH => ?_)
        refine W.eq (g2 := F0 m 100 ls (.int (iI (σ 2 (184 + 26 * f + 13))) :: .int (iI ((1224 + 10 * (σ 2 1754)) + 9)) :: .ref (G.2.2 2) :: [])) (by rw [show sa _ 2 _ 2 (184 + 26 * f + 13) = _ from (by rw [sa_s, cpA_out (by omega)])]) ?_
        refine n_name (fun v13 e_v13 => ?_)
        refine ms_2 hx hb hK hj hH (by omega) (by omega) dX4_look_100 (fun H locs hH => ?_)
        refine lv_aload_n hx hb dX4_look_101 rfl (lv_at hl 0 rfl) ?_
        refine m_get 2 (by decide) hx hb hts hown hK hj hH q1475 (fun _ h9 => h9) rfl dX4_look_102 ?_
        refine n_sipush (z := 1754) hx hb dX4_look_105 (by decide) ?_
        refine lv_dup2_11 hx hb dX4_look_108 rfl rfl ?_
        refine ml_2 hx hb hK hj hH (by omega) (by omega) dX4_look_109 ?_
        refine W.eq (g2 := F0 m 110 ls (.int (iI (σ 2 1754)) :: .int (iI 1754) :: .ref (G.2.2 2) :: [])) (by rw [st_i (by omega), sa_s, cpA_out (by omega)]) ?_
        refine n_iconst hx hb dX4_look_110 ?_
        refine n_iadd hx hb dX4_look_111 ?_
        refine ms_2 hx hb hK hj hH (by omega) (by omega) dX4_look_112 (fun H locs hH => ?_)
        refine lv_aload_n hx hb dX4_look_113 rfl (lv_at hl 0 rfl) ?_
        refine lv_iload_n hx hb dX4_look_114 rfl (lv_at hl 2 rfl) ?_
        refine m_calliF (m_runV (As := [.int (iI (σ 2 1754))]) (rest := []) S hH hK hj hl.1 (mm_good l G (st (st (sa (sa σ 5 (caseF σ f)) 2 (cpA (σ 2) (1224 + 10 * σ 2 1754) 9 (caseF σ f))) 2 ((1224 + 10 * (σ 2 1754)) + 9) v13) 2 1754 ((σ 2 1754) + 1)) (σ 2 1754) _ ) (lw_V q1576 q1578 qs44 q109 q1579) kd_X4_good rfl rfl dX4_look_115) hH hA (fun H locs hH => ?_)
        refine m_iret hx hb hr hlk hH dX4_look_118 ?_
        subst e_v13
        unfold lookF
        rw [if_pos hf, if_neg h8]
        all_goals rfl
      · -- 54F
        refine lv_aload_n hx hb dX4_look_57 rfl (lv_at hl 0 rfl) ?_
        refine m_get 2 (by decide) hx hb hts hown hK hj hH q1475 (fun _ h9 => h9) rfl dX4_look_58 ?_
        refine lv_aload_n hx hb dX4_look_61 rfl (lv_at hl 0 rfl) ?_
        refine lv_iload_n hx hb dX4_look_62 rfl (lv_at hl 2 rfl) ?_
        refine m_calliF (m_runV (As := [.int (iI (σ 2 1754))]) (rest := [.ref (G.2.2 2)]) S hH hK hj hl.1 (mm_lookAt l G (sa (sa σ 5 (caseF σ f)) 2 (cpA (σ 2) (1224 + 10 * σ 2 1754) i (caseF σ f))) (σ 2 1754) _ ) (lw_V q1682 q1684 qs54 q109 q1685) kd_X4_lookAt rfl rfl dX4_look_63) hH hA (fun H locs hH => ?_)
        refine lv_iload_n hx hb dX4_look_66 rfl (lv_at hl 3 rfl) ?_
        refine n_iadd hx hb dX4_look_67 ?_
        refine lv_aload_n hx hb dX4_look_68 rfl (lv_at hl 0 rfl) ?_
        refine m_get 5 (by decide) hx hb hts hown hK hj hH q1478 (fun _ h9 => h9) rfl dX4_look_69 ?_
        refine lv_iload_n hx hb dX4_look_72 rfl (lv_at hl 3 rfl) ?_
        refine ml_5 hx hb hK hj hH (by omega) (by omega) dX4_look_73 ?_
        refine ms_2 hx hb hK hj hH (by omega) (by omega) dX4_look_74 (fun H locs hH => ?_)
        refine n_iinc hx hb dX4_look_75 hl (k := 3) rfl (Nat.le_of_ble_eq_true rfl) (lv' := [(3, .int (iI (i + 1))), (0, .ref (G.2.2 0)), (1, .int (iI f)), (2, .int (iI (σ 2 1754)))]) rfl (fun ls hl => ?_)
        refine lv_goto (tgt := 51) hx hb dX4_look_78 (by decide) ?_
        have hl : lv_has ls 4 [(0, .ref (G.2.2 0)), (1, .int (iI f)), (2, .int (iI (σ 2 1754))), (3, .int (iI (i + 1)))] := lv_sub hl [1, 2, 3, 0] rfl
        have hH := MH_to hH (τ := sa (sa σ 5 (caseF σ f)) 2 (cpA (σ 2) (1224 + 10 * σ 2 1754) (i + 1) (caseF σ f))) (st_cp (by omega) rfl)
        refine ih_51 (i + 1) ?_ ?_ ?_ ?_ ?_ _ _ _ hH hl
        · omega
        · omega
        · omega
        · omega
        · omega
  refine lv_aload_n hx hb dX4_look_0 rfl (lv_at hl 0 rfl) ?_
  refine lv_iload_n hx hb dX4_look_1 rfl (lv_at hl 1 rfl) ?_
  refine m_calliF (m_runV (As := [.int (iI f)]) (rest := []) S hH hK hj hl.1 (mm_isFlask l G σ f _ (r32 (by omega)) (by omega) (by omega)) (lw_V q1621 q1623 qs47 q109 q1624) kd_X4_isFlask rfl rfl dX4_look_2) hH hA (fun H locs hH => ?_)
  refine z_if_ne (tgt := 15) hx hb dX4_look_5 (by decide) (fun c_5 => ?_) (fun c_5 => ?_)
  · -- 5T
    refine lv_aload_n hx hb dX4_look_15 rfl (lv_at hl 0 rfl) ?_
    refine m_get 2 (by decide) hx hb hts hown hK hj hH q1475 (fun _ h9 => h9) rfl dX4_look_16 ?_
    refine n_sipush (z := 1754) hx hb dX4_look_19 (by decide) ?_
    refine ml_2 hx hb hK hj hH (by omega) (by omega) dX4_look_22 ?_
    refine n_bipush (z := 40) hx hb dX4_look_23 (by decide) ?_
    refine n_icmp_ne (tgt := 35) hx hb (r32 (by omega)) (r32 (by omega)) dX4_look_25 (by decide) (fun c_25 => ?_) (fun c_25 => ?_)
    · -- 25T
      have b1 := hI.f f (by omega) (by omega)
      unfold kFlask fl at b1
      refine lv_aload_n hx hb dX4_look_35 rfl (lv_at hl 0 rfl) ?_
      refine lv_iload_n hx hb dX4_look_36 rfl (lv_at hl 1 rfl) ?_
      refine m_callvF (m_runV (As := [.int (iI f)]) (rest := []) S hH hK hj hl.1 (mm_takesFlask l G σ f _ (by omega) (by omega) hI (by omega)) (lw_V q1671 q1673 qs53 q109 q1674) kd_X4_takesFlask rfl rfl dX4_look_37) hH hA (fun H locs hH => ?_)
      refine lv_aload_n hx hb dX4_look_40 rfl (lv_at hl 0 rfl) ?_
      refine m_get 2 (by decide) hx hb hts hown hK hj hH q1475 (fun _ h9 => h9) rfl dX4_look_41 ?_
      refine n_sipush (z := 1754) hx hb dX4_look_44 (by decide) ?_
      refine ml_2 hx hb hK hj hH (by omega) (by omega) dX4_look_47 ?_
      refine W.eq (g2 := F0 m 48 ls (.int (iI (σ 2 1754)) :: [])) (by rfl) ?_
      refine lv_istore_n hx hb dX4_look_48 rfl hl (Nat.le_of_ble_eq_true rfl) (lv' := [(2, .int (iI (σ 2 1754))), (0, .ref (G.2.2 0)), (1, .int (iI f))]) rfl (fun ls hl => ?_)
      refine n_iconst hx hb dX4_look_49 ?_
      refine lv_istore_n hx hb dX4_look_50 rfl hl (Nat.le_of_ble_eq_true rfl) (lv' := [(3, .int (iI 0)), (2, .int (iI (σ 2 1754))), (0, .ref (G.2.2 0)), (1, .int (iI f))]) rfl (fun ls hl => ?_)
      have hl : lv_has ls 4 [(0, .ref (G.2.2 0)), (1, .int (iI f)), (2, .int (iI (σ 2 1754))), (3, .int (iI 0))] := lv_sub hl [2, 3, 1, 0] rfl
      have hH := MH_to hH (τ := sa (sa σ 5 (caseF σ f)) 2 (cpA (σ 2) (1224 + 10 * σ 2 1754) 0 (caseF σ f))) (sa_0.symm)
      refine L51 10 0 ?_ ?_ ?_ ?_ ?_ _ _ _ hH hl
      · omega
      · omega
      · omega
      · omega
      · omega
    · -- 25F
      refine lv_aload_n hx hb dX4_look_28 rfl (lv_at hl 0 rfl) ?_
      refine n_bipush (z := -5) hx hb dX4_look_29 (by decide) ?_
      refine m_calliF (m_runV (As := [.int (iI (-5))]) (rest := []) S hH hK hj hl.1 (mm_refuses l G σ (-5) _ (by omega) (by omega)) (lw_V q1572 q1574 qs43 q109 q1575) kd_X4_refuses rfl rfl dX4_look_31) hH hA (fun H locs hH => ?_)
      refine m_iret hx hb hr hlk hH dX4_look_34 ?_
      unfold lookF
      (repeat' split) <;> first | (exfalso; omega) | rfl
  · -- 5F
    refine lv_aload_n hx hb dX4_look_8 rfl (lv_at hl 0 rfl) ?_
    refine n_bipush (z := -2) hx hb dX4_look_9 (by decide) ?_
    refine m_calliF (m_runV (As := [.int (iI (-2))]) (rest := []) S hH hK hj hl.1 (mm_refuses l G σ (-2) _ (by omega) (by omega)) (lw_V q1572 q1574 qs43 q109 q1575) kd_X4_refuses rfl rfl dX4_look_11) hH hA (fun H locs hH => ?_)
    refine m_iret hx hb hr hlk hH dX4_look_14 ?_
    unfold lookF
    (repeat' split) <;> first | (exfalso; omega) | rfl
theorem kd_X4_trial : yX4_trial.cls = RX4 ∧ yX4_trial.cls ≠ "java/lang/invoke/MethodHandle" ∧ yX4_trial.cls ≠ "java/lang/invoke/VarHandle" ∧ (parseMethodDescriptor yX4_trial.desc).map (fun d => d.parameters.length) = some 1 := by decide +kernel
theorem mm_trial (l : Launch) (G : MG) (σ : St) (f : Int) (sz : Nat) (h_f : R32 f) (hI : KI (σ 2)) : Met l yX4_trial (ws_ yX4_trial cX4_trial 4 (some .int)) (rmD 3) (mP G [.ref (G.2.2 0), .int (iI f)] σ sz) (mQi G σ sz (fun z σ' => (z, σ') = trialF σ f)) 0 0 (mA G σ sz) := by
  refine m_start (by decide) (Nat.le_of_ble_eq_true rfl) ?_
  intro p e s m below meth c ⟨S, hr, hlk, hH, hK, hj, hsz, hnm⟩ ls hl
  subst hsz
  obtain ⟨hx, hb, hml, hown, hts⟩ := S
  have S : CallFix p m c _ _ s _ lw_all RX4 := ⟨hx, hb, hml, hown, hts⟩
  have hA : ∀ q, s.heap.size ≤ q → mA G σ s.heap.size q := fun q hq => Or.inr hq
  have hl : lv_has ls 4 [(0, .ref (G.2.2 0)), (1, .int (iI f))] := hl
  have b0 := hI.c
  unfold kCnt at b0
  have h_f := R32.n h_f
  have L51 : ∀ (n : Nat) (i : Int), (h0 : 0 ≤ i) → (h1 : i ≤ 9) → (hn : 9 < (n : Int) + i) → (hf : 0 ≤ f ∧ f ≤ σ 2 1753 - 1) → (h8 : ¬ σ 2 1755 = 12) → ∀ (H : Heap) (locs : List Loc) (ls : Array Slot), MH G (mA G σ s.heap.size) (sa (sa σ 5 (caseF σ f)) 2 (cpA (σ 2) (1624 + 9 * σ 2 1755) i (caseF σ f))) s.heap H locs → lv_has ls 4 [(0, .ref (G.2.2 0)), (1, .int (iI f)), (2, .int (iI (σ 2 1755))), (3, .int (iI i))] → W p l e (rmD 3) s m ([.ref (G.2.2 0), .int (iI f)] : List Value).toArray below meth c H locs 0 0 (MQ below (mQi G σ s.heap.size (fun z σ' => (z, σ') = trialF σ f)) ([.ref (G.2.2 0), .int (iI f)] : List Value).toArray s 0 0 (mA G σ s.heap.size)) (F0 m 51 ls []) := by
    intro n
    induction n with
    | zero => intro i h0 h1 hn hf h8; exfalso; omega
    | succ n ih_51 =>
      intro i h0 h1 hn hf h8 H locs ls hH hl
      refine lv_iload_n hx hb dX4_trial_51 rfl (lv_at hl 3 rfl) ?_
      refine n_bipush (z := 9) hx hb dX4_trial_52 (by decide) ?_
      refine n_icmp_ge (tgt := 81) hx hb (r32 (by omega)) (r32 (by omega)) dX4_trial_54 (by decide) (fun c_54 => ?_) (fun c_54 => ?_)
      · -- 54T
        obtain rfl : i = 9 := by omega
        refine lv_aload_n hx hb dX4_trial_81 rfl (lv_at hl 0 rfl) ?_
        refine m_get 2 (by decide) hx hb hts hown hK hj hH q1475 (fun _ h9 => h9) rfl dX4_trial_82 ?_
        refine n_sipush (z := 1755) hx hb dX4_trial_85 (by decide) ?_
        refine lv_dup2_11 hx hb dX4_trial_88 rfl rfl ?_
        refine ml_2 hx hb hK hj hH (by omega) (by omega) dX4_trial_89 ?_
        refine W.eq (g2 := F0 m 90 ls (.int (iI (σ 2 1755)) :: .int (iI 1755) :: .ref (G.2.2 2) :: [])) (by rw [show sa _ 2 _ 2 1755 = _ from (by rw [sa_s, cpA_out (by omega)])]) ?_
        refine n_iconst hx hb dX4_trial_90 ?_
        refine n_iadd hx hb dX4_trial_91 ?_
        refine ms_2 hx hb hK hj hH (by omega) (by omega) dX4_trial_92 (fun H locs hH => ?_)
        refine lv_aload_n hx hb dX4_trial_93 rfl (lv_at hl 0 rfl) ?_
        refine lv_iload_n hx hb dX4_trial_94 rfl (lv_at hl 2 rfl) ?_
        refine m_calliF (m_runV (As := [.int (iI (σ 2 1755))]) (rest := []) S hH hK hj hl.1 (mm_good l G (st (sa (sa σ 5 (caseF σ f)) 2 (cpA (σ 2) (1624 + 9 * σ 2 1755) 9 (caseF σ f))) 2 1755 ((σ 2 1755) + 1)) (σ 2 1755) _ ) (lw_V q1576 q1578 qs44 q109 q1579) kd_X4_good rfl rfl dX4_trial_95) hH hA (fun H locs hH => ?_)
        refine m_iret hx hb hr hlk hH dX4_trial_98 ?_
        unfold trialF
        rw [if_pos hf, if_neg h8]
        all_goals rfl
      · -- 54F
        refine lv_aload_n hx hb dX4_trial_57 rfl (lv_at hl 0 rfl) ?_
        refine m_get 2 (by decide) hx hb hts hown hK hj hH q1475 (fun _ h9 => h9) rfl dX4_trial_58 ?_
        refine lv_aload_n hx hb dX4_trial_61 rfl (lv_at hl 0 rfl) ?_
        refine lv_iload_n hx hb dX4_trial_62 rfl (lv_at hl 2 rfl) ?_
        refine m_calliF (m_runV (As := [.int (iI (σ 2 1755))]) (rest := [.ref (G.2.2 2)]) S hH hK hj hl.1 (mm_trialAt l G (sa (sa σ 5 (caseF σ f)) 2 (cpA (σ 2) (1624 + 9 * σ 2 1755) i (caseF σ f))) (σ 2 1755) _ ) (lw_V q1690 q1692 qs55 q109 q1693) kd_X4_trialAt rfl rfl dX4_trial_63) hH hA (fun H locs hH => ?_)
        refine lv_iload_n hx hb dX4_trial_66 rfl (lv_at hl 3 rfl) ?_
        refine n_iadd hx hb dX4_trial_67 ?_
        refine lv_aload_n hx hb dX4_trial_68 rfl (lv_at hl 0 rfl) ?_
        refine m_get 5 (by decide) hx hb hts hown hK hj hH q1478 (fun _ h9 => h9) rfl dX4_trial_69 ?_
        refine lv_iload_n hx hb dX4_trial_72 rfl (lv_at hl 3 rfl) ?_
        refine ml_5 hx hb hK hj hH (by omega) (by omega) dX4_trial_73 ?_
        refine ms_2 hx hb hK hj hH (by omega) (by omega) dX4_trial_74 (fun H locs hH => ?_)
        refine n_iinc hx hb dX4_trial_75 hl (k := 3) rfl (Nat.le_of_ble_eq_true rfl) (lv' := [(3, .int (iI (i + 1))), (0, .ref (G.2.2 0)), (1, .int (iI f)), (2, .int (iI (σ 2 1755)))]) rfl (fun ls hl => ?_)
        refine lv_goto (tgt := 51) hx hb dX4_trial_78 (by decide) ?_
        have hl : lv_has ls 4 [(0, .ref (G.2.2 0)), (1, .int (iI f)), (2, .int (iI (σ 2 1755))), (3, .int (iI (i + 1)))] := lv_sub hl [1, 2, 3, 0] rfl
        have hH := MH_to hH (τ := sa (sa σ 5 (caseF σ f)) 2 (cpA (σ 2) (1624 + 9 * σ 2 1755) (i + 1) (caseF σ f))) (st_cp (by omega) rfl)
        refine ih_51 (i + 1) ?_ ?_ ?_ ?_ ?_ _ _ _ hH hl
        · omega
        · omega
        · omega
        · omega
        · omega
  refine lv_aload_n hx hb dX4_trial_0 rfl (lv_at hl 0 rfl) ?_
  refine lv_iload_n hx hb dX4_trial_1 rfl (lv_at hl 1 rfl) ?_
  refine m_calliF (m_runV (As := [.int (iI f)]) (rest := []) S hH hK hj hl.1 (mm_isFlask l G σ f _ (r32 (by omega)) (by omega) (by omega)) (lw_V q1621 q1623 qs47 q109 q1624) kd_X4_isFlask rfl rfl dX4_trial_2) hH hA (fun H locs hH => ?_)
  refine z_if_ne (tgt := 15) hx hb dX4_trial_5 (by decide) (fun c_5 => ?_) (fun c_5 => ?_)
  · -- 5T
    refine lv_aload_n hx hb dX4_trial_15 rfl (lv_at hl 0 rfl) ?_
    refine m_get 2 (by decide) hx hb hts hown hK hj hH q1475 (fun _ h9 => h9) rfl dX4_trial_16 ?_
    refine n_sipush (z := 1755) hx hb dX4_trial_19 (by decide) ?_
    refine ml_2 hx hb hK hj hH (by omega) (by omega) dX4_trial_22 ?_
    refine n_bipush (z := 12) hx hb dX4_trial_23 (by decide) ?_
    refine n_icmp_ne (tgt := 35) hx hb (r32 (by omega)) (r32 (by omega)) dX4_trial_25 (by decide) (fun c_25 => ?_) (fun c_25 => ?_)
    · -- 25T
      have b1 := hI.f f (by omega) (by omega)
      unfold kFlask fl at b1
      refine lv_aload_n hx hb dX4_trial_35 rfl (lv_at hl 0 rfl) ?_
      refine lv_iload_n hx hb dX4_trial_36 rfl (lv_at hl 1 rfl) ?_
      refine m_callvF (m_runV (As := [.int (iI f)]) (rest := []) S hH hK hj hl.1 (mm_takesFlask l G σ f _ (by omega) (by omega) hI (by omega)) (lw_V q1671 q1673 qs53 q109 q1674) kd_X4_takesFlask rfl rfl dX4_trial_37) hH hA (fun H locs hH => ?_)
      refine lv_aload_n hx hb dX4_trial_40 rfl (lv_at hl 0 rfl) ?_
      refine m_get 2 (by decide) hx hb hts hown hK hj hH q1475 (fun _ h9 => h9) rfl dX4_trial_41 ?_
      refine n_sipush (z := 1755) hx hb dX4_trial_44 (by decide) ?_
      refine ml_2 hx hb hK hj hH (by omega) (by omega) dX4_trial_47 ?_
      refine W.eq (g2 := F0 m 48 ls (.int (iI (σ 2 1755)) :: [])) (by rfl) ?_
      refine lv_istore_n hx hb dX4_trial_48 rfl hl (Nat.le_of_ble_eq_true rfl) (lv' := [(2, .int (iI (σ 2 1755))), (0, .ref (G.2.2 0)), (1, .int (iI f))]) rfl (fun ls hl => ?_)
      refine n_iconst hx hb dX4_trial_49 ?_
      refine lv_istore_n hx hb dX4_trial_50 rfl hl (Nat.le_of_ble_eq_true rfl) (lv' := [(3, .int (iI 0)), (2, .int (iI (σ 2 1755))), (0, .ref (G.2.2 0)), (1, .int (iI f))]) rfl (fun ls hl => ?_)
      have hl : lv_has ls 4 [(0, .ref (G.2.2 0)), (1, .int (iI f)), (2, .int (iI (σ 2 1755))), (3, .int (iI 0))] := lv_sub hl [2, 3, 1, 0] rfl
      have hH := MH_to hH (τ := sa (sa σ 5 (caseF σ f)) 2 (cpA (σ 2) (1624 + 9 * σ 2 1755) 0 (caseF σ f))) (sa_0.symm)
      refine L51 10 0 ?_ ?_ ?_ ?_ ?_ _ _ _ hH hl
      · omega
      · omega
      · omega
      · omega
      · omega
    · -- 25F
      refine lv_aload_n hx hb dX4_trial_28 rfl (lv_at hl 0 rfl) ?_
      refine n_bipush (z := -5) hx hb dX4_trial_29 (by decide) ?_
      refine m_calliF (m_runV (As := [.int (iI (-5))]) (rest := []) S hH hK hj hl.1 (mm_refuses l G σ (-5) _ (by omega) (by omega)) (lw_V q1572 q1574 qs43 q109 q1575) kd_X4_refuses rfl rfl dX4_trial_31) hH hA (fun H locs hH => ?_)
      refine m_iret hx hb hr hlk hH dX4_trial_34 ?_
      unfold trialF
      (repeat' split) <;> first | (exfalso; omega) | rfl
  · -- 5F
    refine lv_aload_n hx hb dX4_trial_8 rfl (lv_at hl 0 rfl) ?_
    refine n_bipush (z := -2) hx hb dX4_trial_9 (by decide) ?_
    refine m_calliF (m_runV (As := [.int (iI (-2))]) (rest := []) S hH hK hj hl.1 (mm_refuses l G σ (-2) _ (by omega) (by omega)) (lw_V q1572 q1574 qs43 q109 q1575) kd_X4_refuses rfl rfl dX4_trial_11) hH hA (fun H locs hH => ?_)
    refine m_iret hx hb hr hlk hH dX4_trial_14 ?_
    unfold trialF
    (repeat' split) <;> first | (exfalso; omega) | rfl
theorem kd_X4_of : yX4_of.cls = RX4 ∧ yX4_of.cls ≠ "java/lang/invoke/MethodHandle" ∧ yX4_of.cls ≠ "java/lang/invoke/VarHandle" ∧ (parseMethodDescriptor yX4_of.desc).map (fun d => d.parameters.length) = some 3 := by decide +kernel
theorem mm_of (l : Launch) (G : MG) (σ : St) (w : Int) (n : Int) (q : Int) (sz : Nat) (h_w : R32 w) (h_n : R32 n) (h_q : R32 q) (hI : KI (σ 2)) : Met l yX4_of (ws_ yX4_of cX4_of 4 (some .int)) (rmD 3) (mP G [.ref (G.2.2 0), .int (iI w), .int (iI n), .int (iI q)] σ sz) (mQi G σ sz (fun z σ' => z = ofF σ w n q ∧ σ' = σ)) 0 0 (mA G σ sz) := by
  refine m_start (by decide) (Nat.le_of_ble_eq_true rfl) ?_
  intro p e s m below meth c ⟨S, hr, hlk, hH, hK, hj, hsz, hnm⟩ ls hl
  subst hsz
  obtain ⟨hx, hb, hml, hown, hts⟩ := S
  have S : CallFix p m c _ _ s _ lw_all RX4 := ⟨hx, hb, hml, hown, hts⟩
  have hA : ∀ q, s.heap.size ≤ q → mA G σ s.heap.size q := fun q hq => Or.inr hq
  have hl : lv_has ls 4 [(0, .ref (G.2.2 0)), (1, .int (iI w)), (2, .int (iI n)), (3, .int (iI q))] := hl
  have b0 := hI.c
  unfold kCnt at b0
  have h_w := R32.n h_w
  have h_n := R32.n h_n
  have h_q := R32.n h_q
  refine lv_iload_n hx hb dX4_of_0 rfl (lv_at hl 1 rfl) ?_
  refine n_iconst hx hb dX4_of_1 ?_
  refine n_iconst hx hb dX4_of_2 ?_
  refine m_calliF (m_runS (As := [.int (iI w), .int (iI 0), .int (iI 1)]) (rest := []) S hH hK hj hl.1 (mm_in l G σ w 0 1 _ (r32 (by omega)) (r32 (by omega)) (r32 (by omega))) (lw_S q1569 q1570 q109 q1571) kd_X4_in rfl rfl dX4_of_3) hH hA (fun H locs hH => ?_)
  refine z_if_eq (tgt := 51) hx hb dX4_of_6 (by decide) (fun c_6 => ?_) (fun c_6 => ?_)
  · -- 6T
    refine n_iconst hx hb dX4_of_51 ?_
    refine m_iret hx hb hr hlk hH dX4_of_52 ?_
    refine ⟨?_, rfl⟩
    unfold ofF
    (repeat' split) <;> first | (exfalso; omega) | rfl
  · -- 6F
    refine lv_iload_n hx hb dX4_of_9 rfl (lv_at hl 3 rfl) ?_
    refine n_iconst hx hb dX4_of_10 ?_
    refine lv_iload_n hx hb dX4_of_11 rfl (lv_at hl 1 rfl) ?_
    refine n_if_ne (tgt := 20) hx hb (r32 (by omega)) dX4_of_12 (by decide) (fun c_12 => ?_) (fun c_12 => ?_)
    · -- 12T
      refine n_bipush (z := 8) hx hb dX4_of_20 (by decide) ?_
      refine m_calliF (m_runS (As := [.int (iI q), .int (iI 0), .int (iI 8)]) (rest := []) S hH hK hj hl.1 (mm_in l G σ q 0 8 _ (r32 (by omega)) (r32 (by omega)) (r32 (by omega))) (lw_S q1569 q1570 q109 q1571) kd_X4_in rfl rfl dX4_of_22) hH hA (fun H locs hH => ?_)
      refine z_if_eq (tgt := 51) hx hb dX4_of_25 (by decide) (fun c_25 => ?_) (fun c_25 => ?_)
      · -- 25T
        refine n_iconst hx hb dX4_of_51 ?_
        refine m_iret hx hb hr hlk hH dX4_of_52 ?_
        refine ⟨?_, rfl⟩
        unfold ofF
        (repeat' split) <;> first | (exfalso; omega) | rfl
      · -- 25F
        refine lv_iload_n hx hb dX4_of_28 rfl (lv_at hl 1 rfl) ?_
        refine n_if_ne (tgt := 43) hx hb (r32 (by omega)) dX4_of_29 (by decide) (fun c_29 => ?_) (fun c_29 => ?_)
        · -- 29T
          refine lv_aload_n hx hb dX4_of_43 rfl (lv_at hl 0 rfl) ?_
          refine lv_iload_n hx hb dX4_of_44 rfl (lv_at hl 2 rfl) ?_
          refine m_calliF (m_runV (As := [.int (iI n)]) (rest := []) S hH hK hj hl.1 (mm_isTrial l G σ n _ (r32 (by omega)) (by omega) (by omega)) (lw_V q1709 q1711 qs57 q109 q1712) kd_X4_isTrial rfl rfl dX4_of_45) hH hA (fun H locs hH => ?_)
          refine z_if_ne (tgt := 53) hx hb dX4_of_48 (by decide) (fun c_48 => ?_) (fun c_48 => ?_)
          · -- 48T
            refine lv_aload_n hx hb dX4_of_53 rfl (lv_at hl 0 rfl) ?_
            refine m_get 2 (by decide) hx hb hts hown hK hj hH q1475 (fun _ h9 => h9) rfl dX4_of_54 ?_
            refine lv_iload_n hx hb dX4_of_57 rfl (lv_at hl 1 rfl) ?_
            refine n_if_ne (tgt := 69) hx hb (r32 (by omega)) dX4_of_58 (by decide) (fun c_58 => ?_) (fun c_58 => ?_)
            · -- 58T
              refine lv_aload_n hx hb dX4_of_69 rfl (lv_at hl 0 rfl) ?_
              refine lv_iload_n hx hb dX4_of_70 rfl (lv_at hl 2 rfl) ?_
              refine m_calliF (m_runV (As := [.int (iI n)]) (rest := [.ref (G.2.2 2)]) S hH hK hj hl.1 (mm_trialAt l G σ n _ ) (lw_V q1690 q1692 qs55 q109 q1693) kd_X4_trialAt rfl rfl dX4_of_71) hH hA (fun H locs hH => ?_)
              refine lv_iload_n hx hb dX4_of_74 rfl (lv_at hl 3 rfl) ?_
              refine n_iadd hx hb dX4_of_75 ?_
              refine ml_2 hx hb hK hj hH (by omega) (by omega) dX4_of_76 ?_
              refine m_iret hx hb hr hlk hH dX4_of_77 ?_
              refine ⟨?_, rfl⟩
              unfold ofF
              (repeat' split) <;> first | (exfalso; omega) | rfl
            · exact absurd c_58 c_29
          · -- 48F
            refine n_iconst hx hb dX4_of_51 ?_
            refine m_iret hx hb hr hlk hH dX4_of_52 ?_
            refine ⟨?_, rfl⟩
            unfold ofF
            (repeat' split) <;> first | (exfalso; omega) | rfl
        · exact absurd c_29 c_12
    · -- 12F
      refine n_bipush (z := 9) hx hb dX4_of_15 (by decide) ?_
      refine lv_goto (tgt := 22) hx hb dX4_of_17 (by decide) ?_
      refine m_calliF (m_runS (As := [.int (iI q), .int (iI 0), .int (iI 9)]) (rest := []) S hH hK hj hl.1 (mm_in l G σ q 0 9 _ (r32 (by omega)) (r32 (by omega)) (r32 (by omega))) (lw_S q1569 q1570 q109 q1571) kd_X4_in rfl rfl dX4_of_22) hH hA (fun H locs hH => ?_)
      refine z_if_eq (tgt := 51) hx hb dX4_of_25 (by decide) (fun c_25 => ?_) (fun c_25 => ?_)
      · -- 25T
        refine n_iconst hx hb dX4_of_51 ?_
        refine m_iret hx hb hr hlk hH dX4_of_52 ?_
        refine ⟨?_, rfl⟩
        unfold ofF
        (repeat' split) <;> first | (exfalso; omega) | rfl
      · -- 25F
        refine lv_iload_n hx hb dX4_of_28 rfl (lv_at hl 1 rfl) ?_
        refine n_if_ne (tgt := 43) hx hb (r32 (by omega)) dX4_of_29 (by decide) (fun c_29 => ?_) (fun c_29 => ?_)
        · exact absurd c_12 c_29
        · -- 29F
          refine lv_aload_n hx hb dX4_of_32 rfl (lv_at hl 0 rfl) ?_
          refine lv_iload_n hx hb dX4_of_33 rfl (lv_at hl 2 rfl) ?_
          refine m_calliF (m_runV (As := [.int (iI n)]) (rest := []) S hH hK hj hl.1 (mm_isLook l G σ n _ (r32 (by omega)) (by omega) (by omega)) (lw_V q1705 q1707 qs56 q109 q1708) kd_X4_isLook rfl rfl dX4_of_34) hH hA (fun H locs hH => ?_)
          refine z_if_ne (tgt := 53) hx hb dX4_of_37 (by decide) (fun c_37 => ?_) (fun c_37 => ?_)
          · -- 37T
            refine lv_aload_n hx hb dX4_of_53 rfl (lv_at hl 0 rfl) ?_
            refine m_get 2 (by decide) hx hb hts hown hK hj hH q1475 (fun _ h9 => h9) rfl dX4_of_54 ?_
            refine lv_iload_n hx hb dX4_of_57 rfl (lv_at hl 1 rfl) ?_
            refine n_if_ne (tgt := 69) hx hb (r32 (by omega)) dX4_of_58 (by decide) (fun c_58 => ?_) (fun c_58 => ?_)
            · exact absurd c_29 c_58
            · -- 58F
              refine lv_aload_n hx hb dX4_of_61 rfl (lv_at hl 0 rfl) ?_
              refine lv_iload_n hx hb dX4_of_62 rfl (lv_at hl 2 rfl) ?_
              refine m_calliF (m_runV (As := [.int (iI n)]) (rest := [.ref (G.2.2 2)]) S hH hK hj hl.1 (mm_lookAt l G σ n _ ) (lw_V q1682 q1684 qs54 q109 q1685) kd_X4_lookAt rfl rfl dX4_of_63) hH hA (fun H locs hH => ?_)
              refine lv_goto (tgt := 74) hx hb dX4_of_66 (by decide) ?_
              refine lv_iload_n hx hb dX4_of_74 rfl (lv_at hl 3 rfl) ?_
              refine n_iadd hx hb dX4_of_75 ?_
              refine ml_2 hx hb hK hj hH (by omega) (by omega) dX4_of_76 ?_
              refine m_iret hx hb hr hlk hH dX4_of_77 ?_
              refine ⟨?_, rfl⟩
              unfold ofF
              (repeat' split) <;> first | (exfalso; omega) | rfl
          · -- 37F
            refine lv_goto (tgt := 51) hx hb dX4_of_40 (by decide) ?_
            refine n_iconst hx hb dX4_of_51 ?_
            refine m_iret hx hb hr hlk hH dX4_of_52 ?_
            refine ⟨?_, rfl⟩
            unfold ofF
            (repeat' split) <;> first | (exfalso; omega) | rfl
theorem kd_X4_feed : yX4_feed.cls = RX4 ∧ yX4_feed.cls ≠ "java/lang/invoke/MethodHandle" ∧ yX4_feed.cls ≠ "java/lang/invoke/VarHandle" ∧ (parseMethodDescriptor yX4_feed.desc).map (fun d => d.parameters.length) = some 5 := by decide +kernel
theorem mm_feed (l : Launch) (G : MG) (σ : St) (a : Int) (b : Int) (c_ : Int) (d_ : Int) (e_ : Int) (sz : Nat) (h_a : R32 a) (h_b : R32 b) (h_c_ : R32 c_) (h_d_ : R32 d_) (h_e_ : R32 e_) (h0 : 0 ≤ σ 9 0) (h1 : σ 9 0 ≤ 400) : Met l yX4_feed (ws_ yX4_feed cX4_feed 7 (some .int)) (rmD 1) (mP G [.ref (G.2.2 0), .int (iI a), .int (iI b), .int (iI c_), .int (iI d_), .int (iI e_)] σ sz) (mQi G σ sz (fun z σ' => (z, σ') = feedF σ a b c_ d_ e_)) 0 0 (mA G σ sz) := by
  refine m_start (by decide) (Nat.le_of_ble_eq_true rfl) ?_
  intro p e s m below meth c ⟨S, hr, hlk, hH, hK, hj, hsz, hnm⟩ ls hl
  subst hsz
  obtain ⟨hx, hb, hml, hown, hts⟩ := S
  have S : CallFix p m c _ _ s _ lw_all RX4 := ⟨hx, hb, hml, hown, hts⟩
  have hA : ∀ q, s.heap.size ≤ q → mA G σ s.heap.size q := fun q hq => Or.inr hq
  have hl : lv_has ls 7 [(0, .ref (G.2.2 0)), (1, .int (iI a)), (2, .int (iI b)), (3, .int (iI c_)), (4, .int (iI d_)), (5, .int (iI e_))] := hl
  have L55 : ∀ (n : Nat) (i : Int), (h0 : 0 ≤ i) → (h1 : i ≤ 20) → (hn : 20 < (n : Int) + i) → (hr9 : σ 9 0 + 20 ≤ 400) → ∀ (H : Heap) (locs : List Loc) (ls : Array Slot), MH G (mA G σ s.heap.size) (sa (fiveS σ a b c_ d_ e_) 7 (cpA (σ 7) (σ 9 0) i (fiveB (fiveS σ a b c_ d_ e_)))) s.heap H locs → lv_has ls 7 [(0, .ref (G.2.2 0)), (6, .int (iI i))] → W p l e (rmD 1) s m ([.ref (G.2.2 0), .int (iI a), .int (iI b), .int (iI c_), .int (iI d_), .int (iI e_)] : List Value).toArray below meth c H locs 0 0 (MQ below (mQi G σ s.heap.size (fun z σ' => (z, σ') = feedF σ a b c_ d_ e_)) ([.ref (G.2.2 0), .int (iI a), .int (iI b), .int (iI c_), .int (iI d_), .int (iI e_)] : List Value).toArray s 0 0 (mA G σ s.heap.size)) (F0 m 55 ls []) := by
    intro n
    induction n with
    | zero => intro i h0 h1 hn hr9; exfalso; omega
    | succ n ih_55 =>
      intro i h0 h1 hn hr9 H locs ls hH hl
      refine lv_iload hx hb dX4_feed_55 (lv_at hl 1 rfl) ?_
      refine n_bipush (z := 20) hx hb dX4_feed_57 (by decide) ?_
      refine n_icmp_ge (tgt := 101) hx hb (r32 (by omega)) (r32 (by omega)) dX4_feed_59 (by decide) (fun c_59 => ?_) (fun c_59 => ?_)
      · -- 59T
        obtain rfl : i = 20 := by omega
        refine lv_aload_n hx hb dX4_feed_101 rfl (lv_at hl 0 rfl) ?_
        refine lv_dup hx hb dX4_feed_102 rfl ?_
        refine m_get 9 (by decide) hx hb hts hown hK hj hH q1482 (fun _ h9 => h9) rfl dX4_feed_103 ?_
        refine W.eq (g2 := F0 m 106 ls (.int (iI (σ 9 0)) :: .ref (G.2.2 0) :: [])) (by rfl) ?_
        refine n_bipush (z := 20) hx hb dX4_feed_106 (by decide) ?_
        refine n_iadd hx hb dX4_feed_108 ?_
        refine mp_9 hx hb hts hown hK hj hH q1482 (fun _ h9 => h9) dX4_feed_109 (fun H locs hH => ?_)
        refine lv_aload_n hx hb dX4_feed_112 rfl (lv_at hl 0 rfl) ?_
        refine m_get 9 (by decide) hx hb hts hown hK hj hH q1482 (fun _ h9 => h9) rfl dX4_feed_113 ?_
        refine W.eq (g2 := F0 m 116 ls (.int (iI (σ 9 0 + 20)) :: [])) (by rfl) ?_
        refine m_iret hx hb hr hlk hH dX4_feed_116 ?_
        unfold feedF
        (repeat' split) <;> first | (exfalso; omega) | rfl
      · -- 59F
        refine lv_aload_n hx hb dX4_feed_62 rfl (lv_at hl 0 rfl) ?_
        refine m_get 7 (by decide) hx hb hts hown hK hj hH q1480 (fun _ h9 => h9) rfl dX4_feed_63 ?_
        refine lv_aload_n hx hb dX4_feed_66 rfl (lv_at hl 0 rfl) ?_
        refine m_get 9 (by decide) hx hb hts hown hK hj hH q1482 (fun _ h9 => h9) rfl dX4_feed_67 ?_
        refine W.eq (g2 := F0 m 70 ls (.int (iI (σ 9 0)) :: .ref (G.2.2 7) :: [])) (by rfl) ?_
        refine lv_iload hx hb dX4_feed_70 (lv_at hl 1 rfl) ?_
        refine n_iadd hx hb dX4_feed_72 ?_
        refine lv_aload_n hx hb dX4_feed_73 rfl (lv_at hl 0 rfl) ?_
        refine m_get 8 (by decide) hx hb hts hown hK hj hH q1481 (fun _ h9 => h9) rfl dX4_feed_74 ?_
        refine lv_iload hx hb dX4_feed_77 (lv_at hl 1 rfl) ?_
        refine n_iconst hx hb dX4_feed_79 ?_
        refine n_idiv hx hb (by omega) (by omega) (r32 (by omega)) (by omega) dX4_feed_80 ?_
        refine ml_8 hx hb hK hj hH (by omega) (by omega) dX4_feed_81 ?_
        refine W.eq (g2 := F0 m 82 ls (.int (iI (fiveS σ a b c_ d_ e_ 8 (i / 4))) :: .int (iI ((σ 9 0) + i)) :: .ref (G.2.2 7) :: [])) (by rfl) ?_
        have hf := R32.n (fiveS_r (σ := σ) h_a h_b h_c_ h_d_ h_e_ (by omega : 0 ≤ i / 4) (by omega))
        refine n_bipush (z := 24) hx hb dX4_feed_82 (by decide) ?_
        refine n_bipush (z := 8) hx hb dX4_feed_84 (by decide) ?_
        refine lv_iload hx hb dX4_feed_86 (lv_at hl 1 rfl) ?_
        refine n_iconst hx hb dX4_feed_88 ?_
        refine n_irem hx hb (by omega) (by omega) (r32 (by omega)) (by omega) dX4_feed_89 ?_
        refine n_imul hx hb dX4_feed_90 ?_
        refine n_isub hx hb dX4_feed_91 ?_
        refine n_ishr hx hb (r32 (by omega)) (by omega) (by omega) dX4_feed_92 ?_
        refine n_i2b hx hb dX4_feed_93 ?_
        refine ms_7 hx hb hK hj hH (b8_r _) (by omega) (by omega) dX4_feed_94 (fun H locs hH => ?_)
        refine n_iinc hx hb dX4_feed_95 hl (k := 1) rfl (Nat.le_of_ble_eq_true rfl) (lv' := [(6, .int (iI (i + 1))), (0, .ref (G.2.2 0))]) rfl (fun ls hl => ?_)
        refine lv_goto (tgt := 55) hx hb dX4_feed_98 (by decide) ?_
        have hl : lv_has ls 7 [(0, .ref (G.2.2 0)), (6, .int (iI (i + 1)))] := lv_sub hl [1, 0] rfl
        have hH := MH_to hH (τ := sa (fiveS σ a b c_ d_ e_) 7 (cpA (σ 7) (σ 9 0) (i + 1) (fiveB (fiveS σ a b c_ d_ e_)))) (st_cp (by omega) rfl)
        refine ih_55 (i + 1) ?_ ?_ ?_ ?_ _ _ _ hH hl
        · omega
        · omega
        · omega
        · omega
  refine lv_aload_n hx hb dX4_feed_0 rfl (lv_at hl 0 rfl) ?_
  refine m_get 9 (by decide) hx hb hts hown hK hj hH q1482 (fun _ h9 => h9) rfl dX4_feed_1 ?_
  refine n_bipush (z := 20) hx hb dX4_feed_4 (by decide) ?_
  refine n_iadd hx hb dX4_feed_6 ?_
  refine n_sipush (z := 400) hx hb dX4_feed_7 (by decide) ?_
  refine n_icmp_le (tgt := 15) hx hb (r32 (by omega)) (r32 (by omega)) dX4_feed_10 (by decide) (fun c_10 => ?_) (fun c_10 => ?_)
  · -- 10T
    refine lv_aload_n hx hb dX4_feed_15 rfl (lv_at hl 0 rfl) ?_
    refine m_get 8 (by decide) hx hb hts hown hK hj hH q1481 (fun _ h9 => h9) rfl dX4_feed_16 ?_
    refine n_iconst hx hb dX4_feed_19 ?_
    refine lv_iload_n hx hb dX4_feed_20 rfl (lv_at hl 1 rfl) ?_
    refine ms_8 hx hb hK hj hH (by omega) (by omega) dX4_feed_21 (fun H locs hH => ?_)
    refine lv_aload_n hx hb dX4_feed_22 rfl (lv_at hl 0 rfl) ?_
    refine m_get 8 (by decide) hx hb hts hown hK hj hH q1481 (fun _ h9 => h9) rfl dX4_feed_23 ?_
    refine n_iconst hx hb dX4_feed_26 ?_
    refine lv_iload_n hx hb dX4_feed_27 rfl (lv_at hl 2 rfl) ?_
    refine ms_8 hx hb hK hj hH (by omega) (by omega) dX4_feed_28 (fun H locs hH => ?_)
    refine lv_aload_n hx hb dX4_feed_29 rfl (lv_at hl 0 rfl) ?_
    refine m_get 8 (by decide) hx hb hts hown hK hj hH q1481 (fun _ h9 => h9) rfl dX4_feed_30 ?_
    refine n_iconst hx hb dX4_feed_33 ?_
    refine lv_iload_n hx hb dX4_feed_34 rfl (lv_at hl 3 rfl) ?_
    refine ms_8 hx hb hK hj hH (by omega) (by omega) dX4_feed_35 (fun H locs hH => ?_)
    refine lv_aload_n hx hb dX4_feed_36 rfl (lv_at hl 0 rfl) ?_
    refine m_get 8 (by decide) hx hb hts hown hK hj hH q1481 (fun _ h9 => h9) rfl dX4_feed_37 ?_
    refine n_iconst hx hb dX4_feed_40 ?_
    refine lv_iload hx hb dX4_feed_41 (lv_at hl 4 rfl) ?_
    refine ms_8 hx hb hK hj hH (by omega) (by omega) dX4_feed_43 (fun H locs hH => ?_)
    refine lv_aload_n hx hb dX4_feed_44 rfl (lv_at hl 0 rfl) ?_
    refine m_get 8 (by decide) hx hb hts hown hK hj hH q1481 (fun _ h9 => h9) rfl dX4_feed_45 ?_
    refine n_iconst hx hb dX4_feed_48 ?_
    refine lv_iload hx hb dX4_feed_49 (lv_at hl 5 rfl) ?_
    refine ms_8 hx hb hK hj hH (by omega) (by omega) dX4_feed_51 (fun H locs hH => ?_)
    refine n_iconst hx hb dX4_feed_52 ?_
    refine lv_istore hx hb dX4_feed_53 hl (Nat.le_of_ble_eq_true rfl) (lv' := [(6, .int (iI 0)), (0, .ref (G.2.2 0)), (1, .int (iI a)), (2, .int (iI b)), (3, .int (iI c_)), (4, .int (iI d_)), (5, .int (iI e_))]) rfl (fun ls hl => ?_)
    have hl : lv_has ls 7 [(0, .ref (G.2.2 0)), (6, .int (iI 0))] := lv_sub hl [1, 0] rfl
    have hH := MH_to hH (τ := sa (fiveS σ a b c_ d_ e_) 7 (cpA (σ 7) (σ 9 0) 0 (fiveB (fiveS σ a b c_ d_ e_)))) (sa_0.symm)
    refine L55 21 0 ?_ ?_ ?_ ?_ _ _ _ hH hl
    · omega
    · omega
    · omega
    · omega
  · -- 10F
    refine n_iconst hx hb dX4_feed_13 ?_
    refine m_iret hx hb hr hlk hH dX4_feed_14 ?_
    unfold feedF
    rw [if_neg (by omega)]
theorem kd_X4_commission : yX4_commission.cls = RX4 ∧ yX4_commission.cls ≠ "java/lang/invoke/MethodHandle" ∧ yX4_commission.cls ≠ "java/lang/invoke/VarHandle" ∧ (parseMethodDescriptor yX4_commission.desc).map (fun d => d.parameters.length) = some 2 := by decide +kernel
theorem mm_commission (l : Launch) (G : MG) (σ : St) (x : Int) (q : Int) (sz : Nat) (h_x : R32 x) (h_q : R32 q) (hI : KI (σ 2)) : Met l yX4_commission (ws_ yX4_commission cX4_commission 4 (some .int)) (rmD 3) (mP G [.ref (G.2.2 0), .int (iI x), .int (iI q)] σ sz) (mQi G σ sz (fun z σ' => (z, σ') = commF σ x q)) 0 0 (mA G σ sz) := by
  refine m_start (by decide) (Nat.le_of_ble_eq_true rfl) ?_
  intro p e s m below meth c ⟨S, hr, hlk, hH, hK, hj, hsz, hnm⟩ ls hl
  subst hsz
  obtain ⟨hx, hb, hml, hown, hts⟩ := S
  have S : CallFix p m c _ _ s _ lw_all RX4 := ⟨hx, hb, hml, hown, hts⟩
  have hA : ∀ q, s.heap.size ≤ q → mA G σ s.heap.size q := fun q hq => Or.inr hq
  have hl : lv_has ls 4 [(0, .ref (G.2.2 0)), (1, .int (iI x)), (2, .int (iI q))] := hl
  have b0 := hI.c
  unfold kCnt at b0
  have h_x := R32.n h_x
  have h_q := R32.n h_q
  have ho := onesN_r x 12
  have hp := pow_r b0.2.2.2.2.2.1.1 b0.2.2.2.2.2.1.2
  refine lv_iload_n hx hb dX4_commission_0 rfl (lv_at hl 1 rfl) ?_
  refine n_if_le (tgt := 39) hx hb (r32 (by omega)) dX4_commission_1 (by decide) (fun c_1 => ?_) (fun c_1 => ?_)
  · -- 1T
    refine lv_aload_n hx hb dX4_commission_39 rfl (lv_at hl 0 rfl) ?_
    refine n_iconst hx hb dX4_commission_40 ?_
    refine m_calliF (m_runV (As := [.int (iI (-1))]) (rest := []) S hH hK hj hl.1 (mm_refuses l G σ (-1) _ (by omega) (by omega)) (lw_V q1572 q1574 qs43 q109 q1575) kd_X4_refuses rfl rfl dX4_commission_41) hH hA (fun H locs hH => ?_)
    refine m_iret hx hb hr hlk hH dX4_commission_44 ?_
    unfold commF
    (repeat' split) <;> first | (exfalso; omega) | rfl
  · -- 1F
    refine lv_iload_n hx hb dX4_commission_4 rfl (lv_at hl 1 rfl) ?_
    refine n_iconst hx hb dX4_commission_5 ?_
    refine lv_aload_n hx hb dX4_commission_6 rfl (lv_at hl 0 rfl) ?_
    refine m_get 2 (by decide) hx hb hts hown hK hj hH q1475 (fun _ h9 => h9) rfl dX4_commission_7 ?_
    refine n_sipush (z := 1755) hx hb dX4_commission_10 (by decide) ?_
    refine ml_2 hx hb hK hj hH (by omega) (by omega) dX4_commission_13 ?_
    refine n_ishl hx hb (by omega) (by omega) dX4_commission_14 ?_
    refine W.eq (g2 := F0 m 15 ls (.int (iI (2 ^ (σ 2 1755).toNat)) :: .int (iI x) :: [])) (by rw [Int.one_mul]) ?_
    refine n_icmp_ge (tgt := 39) hx hb (r32 (by omega)) (r32 (by omega)) dX4_commission_15 (by decide) (fun c_15 => ?_) (fun c_15 => ?_)
    · -- 15T
      refine lv_aload_n hx hb dX4_commission_39 rfl (lv_at hl 0 rfl) ?_
      refine n_iconst hx hb dX4_commission_40 ?_
      refine m_calliF (m_runV (As := [.int (iI (-1))]) (rest := []) S hH hK hj hl.1 (mm_refuses l G σ (-1) _ (by omega) (by omega)) (lw_V q1572 q1574 qs43 q109 q1575) kd_X4_refuses rfl rfl dX4_commission_41) hH hA (fun H locs hH => ?_)
      refine m_iret hx hb hr hlk hH dX4_commission_44 ?_
      unfold commF
      (repeat' split) <;> first | (exfalso; omega) | rfl
    · -- 15F
      refine lv_iload_n hx hb dX4_commission_18 rfl (lv_at hl 1 rfl) ?_
      refine m_calliF (m_runS (As := [.int (iI x)]) (rest := []) S hH hK hj hl.1 (mm_ones l G σ x _ (r32 (by omega))) (lw_S q2019 q2020 q109 q2021) kd_X4_ones rfl rfl dX4_commission_19) hH hA (fun H locs hH => ?_)
      refine n_bipush (z := 9) hx hb dX4_commission_22 (by decide) ?_
      refine n_icmp_gt (tgt := 39) hx hb (r32 (by omega)) (r32 (by omega)) dX4_commission_24 (by decide) (fun c_24 => ?_) (fun c_24 => ?_)
      · -- 24T
        refine lv_aload_n hx hb dX4_commission_39 rfl (lv_at hl 0 rfl) ?_
        refine n_iconst hx hb dX4_commission_40 ?_
        refine m_calliF (m_runV (As := [.int (iI (-1))]) (rest := []) S hH hK hj hl.1 (mm_refuses l G σ (-1) _ (by omega) (by omega)) (lw_V q1572 q1574 qs43 q109 q1575) kd_X4_refuses rfl rfl dX4_commission_41) hH hA (fun H locs hH => ?_)
        refine m_iret hx hb hr hlk hH dX4_commission_44 ?_
        unfold commF
        (repeat' split) <;> first | (exfalso; omega) | rfl
      · -- 24F
        refine lv_iload_n hx hb dX4_commission_27 rfl (lv_at hl 2 rfl) ?_
        refine n_iconst hx hb dX4_commission_28 ?_
        refine lv_iload_n hx hb dX4_commission_29 rfl (lv_at hl 1 rfl) ?_
        refine m_calliF (m_runS (As := [.int (iI x)]) (rest := [.int (iI 1), .int (iI q)]) S hH hK hj hl.1 (mm_ones l G σ x _ (r32 (by omega))) (lw_S q2019 q2020 q109 q2021) kd_X4_ones rfl rfl dX4_commission_30) hH hA (fun H locs hH => ?_)
        refine m_calliF (m_runS (As := [.int (iI q), .int (iI 1), .int (iI (onesN x 12))]) (rest := []) S hH hK hj hl.1 (mm_in l G σ q 1 (onesN x 12) _ (r32 (by omega)) (r32 (by omega)) (r32 (by omega))) (lw_S q1569 q1570 q109 q1571) kd_X4_in rfl rfl dX4_commission_33) hH hA (fun H locs hH => ?_)
        refine z_if_ne (tgt := 45) hx hb dX4_commission_36 (by decide) (fun c_36 => ?_) (fun c_36 => ?_)
        · -- 36T
          refine lv_aload_n hx hb dX4_commission_45 rfl (lv_at hl 0 rfl) ?_
          refine m_get 2 (by decide) hx hb hts hown hK hj hH q1475 (fun _ h9 => h9) rfl dX4_commission_46 ?_
          refine n_sipush (z := 1757) hx hb dX4_commission_49 (by decide) ?_
          refine ml_2 hx hb hK hj hH (by omega) (by omega) dX4_commission_52 ?_
          refine lv_istore_n hx hb dX4_commission_53 rfl hl (Nat.le_of_ble_eq_true rfl) (lv' := [(3, .int (iI (σ 2 1757))), (0, .ref (G.2.2 0)), (1, .int (iI x)), (2, .int (iI q))]) rfl (fun ls hl => ?_)
          refine lv_iload_n hx hb dX4_commission_54 rfl (lv_at hl 0 rfl) ?_
          refine n_bipush (z := 9) hx hb dX4_commission_55 (by decide) ?_
          refine n_icmp_ne (tgt := 67) hx hb (r32 (by omega)) (r32 (by omega)) dX4_commission_57 (by decide) (fun c_57 => ?_) (fun c_57 => ?_)
          · -- 57T
            refine lv_aload_n hx hb dX4_commission_67 rfl (lv_at hl 1 rfl) ?_
            refine m_get 2 (by decide) hx hb hts hown hK hj hH q1475 (fun _ h9 => h9) rfl dX4_commission_68 ?_
            refine n_sipush (z := 1732) hx hb dX4_commission_71 (by decide) ?_
            refine n_iconst hx hb dX4_commission_74 ?_
            refine lv_iload_n hx hb dX4_commission_75 rfl (lv_at hl 0 rfl) ?_
            refine n_imul hx hb dX4_commission_76 ?_
            refine n_iadd hx hb dX4_commission_77 ?_
            refine lv_iload_n hx hb dX4_commission_78 rfl (lv_at hl 2 rfl) ?_
            refine ms_2 hx hb hK hj hH (by omega) (by omega) dX4_commission_79 (fun H locs hH => ?_)
            refine lv_aload_n hx hb dX4_commission_80 rfl (lv_at hl 1 rfl) ?_
            refine m_get 2 (by decide) hx hb hts hown hK hj hH q1475 (fun _ h9 => h9) rfl dX4_commission_81 ?_
            refine n_sipush (z := 1732) hx hb dX4_commission_84 (by decide) ?_
            refine n_iconst hx hb dX4_commission_87 ?_
            refine lv_iload_n hx hb dX4_commission_88 rfl (lv_at hl 0 rfl) ?_
            refine n_imul hx hb dX4_commission_89 ?_
            refine n_iadd hx hb dX4_commission_90 ?_
            refine n_iconst hx hb dX4_commission_91 ?_
            refine n_iadd hx hb dX4_commission_92 ?_
            refine lv_iload_n hx hb dX4_commission_93 rfl (lv_at hl 3 rfl) ?_
            refine ms_2 hx hb hK hj hH (by omega) (by omega) dX4_commission_94 (fun H locs hH => ?_)
            refine lv_aload_n hx hb dX4_commission_95 rfl (lv_at hl 1 rfl) ?_
            refine m_get 2 (by decide) hx hb hts hown hK hj hH q1475 (fun _ h9 => h9) rfl dX4_commission_96 ?_
            refine n_sipush (z := 1757) hx hb dX4_commission_99 (by decide) ?_
            refine lv_dup2_11 hx hb dX4_commission_102 rfl rfl ?_
            refine ml_2 hx hb hK hj hH (by omega) (by omega) dX4_commission_103 ?_
            refine W.eq (g2 := F0 m 104 ls (.int (iI (σ 2 1757)) :: .int (iI 1757) :: .ref (G.2.2 2) :: [])) (by rw [st_i (by omega), st_i (by omega)]) ?_
            refine n_iconst hx hb dX4_commission_104 ?_
            refine n_iadd hx hb dX4_commission_105 ?_
            refine ms_2 hx hb hK hj hH (by omega) (by omega) dX4_commission_106 (fun H locs hH => ?_)
            refine lv_aload_n hx hb dX4_commission_107 rfl (lv_at hl 1 rfl) ?_
            refine lv_iload_n hx hb dX4_commission_108 rfl (lv_at hl 0 rfl) ?_
            refine m_calliF (m_runV (As := [.int (iI (σ 2 1757))]) (rest := []) S hH hK hj hl.1 (mm_good l G (st (st (st σ 2 (1732 + (2 * (σ 2 1757))) x) 2 ((1732 + (2 * (σ 2 1757))) + 1) q) 2 1757 ((σ 2 1757) + 1)) (σ 2 1757) _ ) (lw_V q1576 q1578 qs44 q109 q1579) kd_X4_good rfl rfl dX4_commission_109) hH hA (fun H locs hH => ?_)
            refine m_iret hx hb hr hlk hH dX4_commission_112 ?_
            unfold commF
            (repeat' split) <;> first | (exfalso; omega) | rfl
          · -- 57F
            refine lv_aload_n hx hb dX4_commission_60 rfl (lv_at hl 1 rfl) ?_
            refine n_bipush (z := -5) hx hb dX4_commission_61 (by decide) ?_
            refine m_calliF (m_runV (As := [.int (iI (-5))]) (rest := []) S hH hK hj hl.1 (mm_refuses l G σ (-5) _ (by omega) (by omega)) (lw_V q1572 q1574 qs43 q109 q1575) kd_X4_refuses rfl rfl dX4_commission_63) hH hA (fun H locs hH => ?_)
            refine m_iret hx hb hr hlk hH dX4_commission_66 ?_
            unfold commF
            (repeat' split) <;> first | (exfalso; omega) | rfl
        · -- 36F
          refine lv_aload_n hx hb dX4_commission_39 rfl (lv_at hl 0 rfl) ?_
          refine n_iconst hx hb dX4_commission_40 ?_
          refine m_calliF (m_runV (As := [.int (iI (-1))]) (rest := []) S hH hK hj hl.1 (mm_refuses l G σ (-1) _ (by omega) (by omega)) (lw_V q1572 q1574 qs43 q109 q1575) kd_X4_refuses rfl rfl dX4_commission_41) hH hA (fun H locs hH => ?_)
          refine m_iret hx hb hr hlk hH dX4_commission_44 ?_
          unfold commF
          (repeat' split) <;> first | (exfalso; omega) | rfl
