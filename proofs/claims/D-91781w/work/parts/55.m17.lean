theorem kd_X4_partOf : yX4_partOf.cls = RX4 ∧ yX4_partOf.cls ≠ "java/lang/invoke/MethodHandle" ∧ yX4_partOf.cls ≠ "java/lang/invoke/VarHandle" ∧ (parseMethodDescriptor yX4_partOf.desc).map (fun d => d.parameters.length) = some 1 := by decide +kernel
theorem kd_X4_termOf : yX4_termOf.cls = RX4 ∧ yX4_termOf.cls ≠ "java/lang/invoke/MethodHandle" ∧ yX4_termOf.cls ≠ "java/lang/invoke/VarHandle" ∧ (parseMethodDescriptor yX4_termOf.desc).map (fun d => d.parameters.length) = some 1 := by decide +kernel
theorem kd_X4_sumOf : yX4_sumOf.cls = RX4 ∧ yX4_sumOf.cls ≠ "java/lang/invoke/MethodHandle" ∧ yX4_sumOf.cls ≠ "java/lang/invoke/VarHandle" ∧ (parseMethodDescriptor yX4_sumOf.desc).map (fun d => d.parameters.length) = some 1 := by decide +kernel
theorem kd_X4_plainOf : yX4_plainOf.cls = RX4 ∧ yX4_plainOf.cls ≠ "java/lang/invoke/MethodHandle" ∧ yX4_plainOf.cls ≠ "java/lang/invoke/VarHandle" ∧ (parseMethodDescriptor yX4_plainOf.desc).map (fun d => d.parameters.length) = some 1 := by decide +kernel
theorem kd_X4_bothOf : yX4_bothOf.cls = RX4 ∧ yX4_bothOf.cls ≠ "java/lang/invoke/MethodHandle" ∧ yX4_bothOf.cls ≠ "java/lang/invoke/VarHandle" ∧ (parseMethodDescriptor yX4_bothOf.desc).map (fun d => d.parameters.length) = some 1 := by decide +kernel
theorem kd_X4_testOf : yX4_testOf.cls = RX4 ∧ yX4_testOf.cls ≠ "java/lang/invoke/MethodHandle" ∧ yX4_testOf.cls ≠ "java/lang/invoke/VarHandle" ∧ (parseMethodDescriptor yX4_testOf.desc).map (fun d => d.parameters.length) = some 1 := by decide +kernel
theorem kd_X4_positiveOf : yX4_positiveOf.cls = RX4 ∧ yX4_positiveOf.cls ≠ "java/lang/invoke/MethodHandle" ∧ yX4_positiveOf.cls ≠ "java/lang/invoke/VarHandle" ∧ (parseMethodDescriptor yX4_positiveOf.desc).map (fun d => d.parameters.length) = some 1 := by decide +kernel
theorem mv_partOf (l : Launch) (G : MG) (n : Nat) (IH_sumOf : SEv l G yX4_sumOf cX4_sumOf 7 2 n) : SEv l G yX4_partOf cX4_partOf 4 0 (n + 1) := by
  intro σ0 g b live f j sz hV hg0 hg1 hb01 hl01 hm
  refine m_start (by decide) (Nat.le_of_ble_eq_true rfl) ?_
  intro p e s m below meth c ⟨S, hr, hlk, hH, hK, hj, hsz, hnm⟩ ls hl
  subst hsz
  obtain ⟨hx, hb, hml, hown, hts⟩ := S
  have S : CallFix p m c _ _ s _ lw_all RX4 := ⟨hx, hb, hml, hown, hts⟩
  have hA : ∀ q, s.heap.size ≤ q → mA G (evS σ0 g b) s.heap.size q := fun q hq => Or.inr hq
  have hl : lv_has ls 4 [(0, .ref (G.2.2 0)), (1, .int (iI live))] := hl
  have v0 := hV.1
  have v3 := hV.2.2.2
  unfold caseOK at v3
  have hc := cdA_r hV hg0
  simp only [mn] at hm
  refine lv_aload_n hx hb dX4_partOf_0 rfl (lv_at hl 0 rfl) ?_
  refine n_bipush (z := 91) hx hb dX4_partOf_1 (by decide) ?_
  refine m_calliF (m_runS (As := [.int (iI 91)]) (rest := [.ref (G.2.2 0)]) S hH hK hj hl.1 (mm_sign l G (evS σ0 g b) 91 _ (by omega) (by omega)) (lw_S q1767 q1768 q109 q1769) kd_X4_sign rfl rfl dX4_partOf_3 (hR := ⟨by dsimp only [rmD]; omega, by dsimp only [rmD]; omega⟩)) hH hA (fun H locs hH => ?_)
  refine W.eq (g2 := F0 m 6 ls (.int (iI 191) :: .ref (G.2.2 0) :: [])) (by rfl) ?_
  refine m_calliF (m_runV (As := [.int (iI 191)]) (rest := []) S hH hK hj hl.1 (mm_passes l G σ0 g b 191 _ hV (by omega) (by omega) hb01 (by omega)) (lw_V q1839 q1841 qs82 q109 q1842) kd_X4_passes rfl rfl dX4_partOf_6 (hR := ⟨by dsimp only [rmD]; omega, by dsimp only [rmD]; omega⟩)) hH hA (fun H locs hH => ?_)
  refine z_if_eq (tgt := 30) hx hb dX4_partOf_9 (by decide) (fun c_9 => ?_) (fun c_9 => ?_)
  · -- 9T
    rw [if_neg c_9] at hH
    rw [if_neg c_9] at hm
    obtain ⟨hcc, rfl, rfl⟩ := ifpart hm
    have hlt := cdA_lt (σ := σ0) (k := g) (by omega)
    refine lv_aload_n hx hb dX4_partOf_30 rfl (lv_at hl 0 rfl) ?_
    refine lv_aload_n hx hb dX4_partOf_31 rfl (lv_at hl 0 rfl) ?_
    refine m_get 18 (by decide) hx hb hts hown hK hj hH q1491 (fun _ h9 => h9) rfl dX4_partOf_32 ?_
    refine W.eq (g2 := F0 m 35 ls (.int (iI g) :: .ref (G.2.2 0) :: [])) rfl ?_
    refine m_calliF (m_runV (As := [.int (iI g)]) (rest := []) S hH hK hj hl.1 (mm_codeAt l G σ0 g b g _ hV (by omega) (by omega) hb01 (by omega) (by omega)) (lw_V q1823 q1825 qs78 q109 q1826) kd_X4_codeAt rfl rfl dX4_partOf_35 (hR := ⟨by dsimp only [rmD]; omega, by dsimp only [rmD]; omega⟩)) hH hA (fun H locs hH => ?_)
    refine lv_istore_n hx hb dX4_partOf_38 rfl hl (Nat.le_of_ble_eq_true rfl) (lv' := [(2, .int (iI (cdA σ0 g))), (0, .ref (G.2.2 0)), (1, .int (iI live))]) rfl (fun ls hl => ?_)
    refine lv_aload_n hx hb dX4_partOf_39 rfl (lv_at hl 1 rfl) ?_
    refine lv_dup hx hb dX4_partOf_40 rfl ?_
    refine m_get 18 (by decide) hx hb hts hown hK hj hH q1491 (fun _ h9 => h9) rfl dX4_partOf_41 ?_
    refine W.eq (g2 := F0 m 44 ls (.int (iI g) :: .ref (G.2.2 0) :: [])) rfl ?_
    refine n_iconst hx hb dX4_partOf_44 ?_
    refine n_iadd hx hb dX4_partOf_45 ?_
    refine mp_18 hx hb hts hown hK hj hH q1491 (fun _ h9 => h9) dX4_partOf_46 (fun H locs hH => ?_)
    have hH := MH_to hH (τ := evS σ0 (g + 1) b) evS_18
    refine lv_iload_n hx hb dX4_partOf_49 rfl (lv_at hl 2 rfl) ?_
    refine n_if_eq (tgt := 60) hx hb (r32 (by omega)) dX4_partOf_50 (by decide) (fun c_50 => ?_) (fun c_50 => ?_)
    · -- 50T
      refine n_lconst (z := 0) hx hb dX4_partOf_60 (by decide) ?_
      refine m_lret hx hb hr hlk hH dX4_partOf_61 ?_
      exact ⟨(lv_dead (by omega)).symm, by rw [brk_dead (by omega)]⟩
    · -- 50F
      refine lv_aload_n hx hb dX4_partOf_53 rfl (lv_at hl 1 rfl) ?_
      refine m_get 20 (by decide) hx hb hts hown hK hj hH q1493 (fun _ h9 => h9) rfl dX4_partOf_54 ?_
      refine W.eq (g2 := F0 m 57 ls (.int (iI b) :: [])) rfl ?_
      refine n_if_eq (tgt := 62) hx hb (r32 (by omega)) dX4_partOf_57 (by decide) (fun c_57 => ?_) (fun c_57 => ?_)
      · -- 57T
        refine lv_iload_n hx hb dX4_partOf_62 rfl (lv_at hl 0 rfl) ?_
        refine n_bipush (z := 50) hx hb dX4_partOf_63 (by decide) ?_
        refine n_icmp_ne (tgt := 85) hx hb (r32 (by omega)) (r32 (by omega)) dX4_partOf_65 (by decide) (fun c_65 => ?_) (fun c_65 => ?_)
        · -- 65T
          refine lv_aload_n hx hb dX4_partOf_85 rfl (lv_at hl 1 rfl) ?_
          refine m_get 5 (by decide) hx hb hts hown hK hj hH q1478 (fun _ h9 => h9) rfl dX4_partOf_86 ?_
          refine lv_iload_n hx hb dX4_partOf_89 rfl (lv_at hl 0 rfl) ?_
          refine n_bipush (z := 24) hx hb dX4_partOf_90 (by decide) ?_
          refine n_icmp_ne (tgt := 100) hx hb (r32 (by omega)) (r32 (by omega)) dX4_partOf_92 (by decide) (fun c_92 => ?_) (fun c_92 => ?_)
          · -- 92T
            have hcr := caseOK_r hV.2.2.2 (x := cdA σ0 g - 17) (by omega) (by omega)
            refine lv_iload_n hx hb dX4_partOf_100 rfl (lv_at hl 0 rfl) ?_
            refine n_bipush (z := 17) hx hb dX4_partOf_101 (by decide) ?_
            refine n_isub hx hb dX4_partOf_103 ?_
            refine ml_5 hx hb hK hj hH (by omega) (by omega) dX4_partOf_104 ?_
            refine W.eq (g2 := F0 m 105 ls (.int (iI (σ0 5 ((cdA σ0 g) - 17))) :: [])) rfl ?_
            refine n_i2l hx hb (r32 (by omega)) dX4_partOf_105 ?_
            refine m_lret hx hb hr hlk hH dX4_partOf_106 ?_
            obtain rfl : live = 1 := by omega
            obtain rfl : b = 0 := by omega
            have hp : partF (cdA σ0 g) (vlA σ0 g) (σ0 5) = some (σ0 5 (cdA σ0 g - 17)) := by
              unfold partF
              rw [if_neg c_65, if_neg c_92]
            exact ⟨(lv_some hp).symm, by rw [brk_some hp]⟩
          · -- 92F
            refine n_bipush (z := 8) hx hb dX4_partOf_95 (by decide) ?_
            refine lv_goto (tgt := 104) hx hb dX4_partOf_97 (by decide) ?_
            refine ml_5 hx hb hK hj hH (by omega) (by omega) dX4_partOf_104 ?_
            refine W.eq (g2 := F0 m 105 ls (.int (iI (σ0 5 8)) :: [])) rfl ?_
            refine n_i2l hx hb (r32 (by omega)) dX4_partOf_105 ?_
            refine m_lret hx hb hr hlk hH dX4_partOf_106 ?_
            obtain rfl : live = 1 := by omega
            obtain rfl : b = 0 := by omega
            have hp : partF (cdA σ0 g) (vlA σ0 g) (σ0 5) = some (σ0 5 8) := by
              unfold partF
              rw [if_neg c_65, if_pos c_92]
            exact ⟨(lv_some hp).symm, by rw [brk_some hp]⟩
        · -- 65F
          refine lv_aload_n hx hb dX4_partOf_68 rfl (lv_at hl 1 rfl) ?_
          refine m_get 2 (by decide) hx hb hts hown hK hj hH q1475 (fun _ h9 => h9) rfl dX4_partOf_69 ?_
          refine n_sipush (z := 6570) hx hb dX4_partOf_72 (by decide) ?_
          refine lv_aload_n hx hb dX4_partOf_75 rfl (lv_at hl 1 rfl) ?_
          refine m_get 18 (by decide) hx hb hts hown hK hj hH q1491 (fun _ h9 => h9) rfl dX4_partOf_76 ?_
          refine W.eq (g2 := F0 m 79 ls (.int (iI (g + 1)) :: .int (iI 6570) :: .ref (G.2.2 2) :: [])) rfl ?_
          refine n_iadd hx hb dX4_partOf_79 ?_
          refine n_iconst hx hb dX4_partOf_80 ?_
          refine n_isub hx hb dX4_partOf_81 ?_
          refine ml_2 hx hb hK hj hH (by omega) (by omega) dX4_partOf_82 ?_
          refine W.eq (g2 := F0 m 83 ls (.int (iI (σ0 2 ((6570 + (g + 1)) - 1))) :: [])) rfl ?_
          refine W.eq (g2 := F0 m 83 ls (.int (iI (vlA σ0 g)) :: [])) (by rw [show 6570 + (g + 1) - 1 = 6570 + g by omega]; rfl) ?_
          have hvl : 0 ≤ vlA σ0 g ∧ vlA σ0 g ≤ 100000 := hV.2.2.1 g hg0 (by omega)
          refine n_i2l hx hb (r32 (by omega)) dX4_partOf_83 ?_
          refine m_lret hx hb hr hlk hH dX4_partOf_84 ?_
          obtain rfl : live = 1 := by omega
          obtain rfl : b = 0 := by omega
          have hp : partF (cdA σ0 g) (vlA σ0 g) (σ0 5) = some (vlA σ0 g) := by
            unfold partF
            rw [if_pos c_65]
          exact ⟨(lv_some hp).symm, by rw [brk_some hp]⟩
      · -- 57F
        refine n_lconst (z := 0) hx hb dX4_partOf_60 (by decide) ?_
        refine m_lret hx hb hr hlk hH dX4_partOf_61 ?_
        exact ⟨(lv_dead (by omega)).symm, by rw [brk_dead (by omega)]⟩
  · -- 9F
    rw [if_pos c_9] at hH
    rw [if_pos c_9] at hm
    obtain ⟨⟨f1, i1⟩, e1, e2⟩ := Option.bind_eq_some_iff.mp hm
    have hlt := cdA_lt (σ := σ0) (k := g) (by omega)
    obtain ⟨c193, rfl, rfl⟩ := if193 e2
    refine lv_aload_n hx hb dX4_partOf_12 rfl (lv_at hl 0 rfl) ?_
    refine lv_iload_n hx hb dX4_partOf_13 rfl (lv_at hl 1 rfl) ?_
    refine m_calllF (m_runV (As := [.int (iI live)]) (rest := []) S hH hK hj hl.1 (IH_sumOf σ0 (g + 1) b live f1 i1 _ hV (by omega) (by omega) hb01 hl01 e1) (lw_V q1827 q1829 qs79 q109 q1830) kd_X4_sumOf rfl rfl dX4_partOf_14 (hR := ⟨by dsimp only [rmD]; omega, by dsimp only [rmD]; omega⟩)) hH hA (fun H locs hH => ?_)
    refine lv_lstore_n hx hb dX4_partOf_17 rfl hl (Nat.le_of_ble_eq_true rfl) (lv' := [(2, .long (lI (lv f1 (σ0 5) live b))), (0, .ref (G.2.2 0)), (1, .int (iI live))]) rfl (fun ls hl => ?_)
    refine lv_aload_n hx hb dX4_partOf_18 rfl (lv_at hl 1 rfl) ?_
    refine lv_dup hx hb dX4_partOf_19 rfl ?_
    refine m_get 18 (by decide) hx hb hts hown hK hj hH q1491 (fun _ h9 => h9) rfl dX4_partOf_20 ?_
    refine W.eq (g2 := F0 m 23 ls (.int (iI i1) :: .ref (G.2.2 0) :: [])) rfl ?_
    refine n_iconst hx hb dX4_partOf_23 ?_
    refine n_iadd hx hb dX4_partOf_24 ?_
    refine mp_18 hx hb hts hown hK hj hH q1491 (fun _ h9 => h9) dX4_partOf_25 (fun H locs hH => ?_)
    have hH := MH_to hH (τ := evS σ0 (i1 + 1) (brk f1 (σ0 5) live b)) evS_18
    refine lv_lload_n hx hb dX4_partOf_28 rfl (lv_at hl 0 rfl) ?_
    refine m_lret hx hb hr hlk hH dX4_partOf_29 ?_
    exact ⟨rfl, rfl⟩
theorem mv_sumOf (l : Launch) (G : MG) (n : Nat) (IH_termOf : SEv l G yX4_termOf cX4_termOf 7 1 n) : SEv l G yX4_sumOf cX4_sumOf 7 2 (n + 1) := by
  intro σ0 g b live f j sz hV hg0 hg1 hb01 hl01 hm
  refine m_start (by decide) (Nat.le_of_ble_eq_true rfl) ?_
  intro p e s m below meth c ⟨S, hr, hlk, hH, hK, hj, hsz, hnm⟩ ls hl
  subst hsz
  obtain ⟨hx, hb, hml, hown, hts⟩ := S
  have S : CallFix p m c _ _ s _ lw_all RX4 := ⟨hx, hb, hml, hown, hts⟩
  have hA : ∀ q, s.heap.size ≤ q → mA G (evS σ0 g b) s.heap.size q := fun q hq => Or.inr hq
  have hl : lv_has ls 7 [(0, .ref (G.2.2 0)), (1, .int (iI live))] := hl
  have v0 := hV.1
  have v3 := hV.2.2.2
  unfold caseOK at v3
  have hc := cdA_r hV hg0
  simp only [mn] at hm
  obtain ⟨⟨f1, i1⟩, e1, e2⟩ := Option.bind_eq_some_iff.mp hm
  have hle1 := EV_le hg1 e1
  have hfB1 := EV_B hV hg0 hg1 (by omega) e1
  have L6 : ∀ (k : Nat) (f1 : Mean) (i : Int), (hi0 : 0 ≤ i) → (hi1 : i ≤ σ0 19 0) → (hfB : mB f1 (σ0 5)) → (hlp : lpM (cdA σ0) 143 145 joinF (mn (cdA σ0) (vlA σ0) n 1) k f1 i = some (f, j)) → ∀ (H : Heap) (locs : List Loc) (ls : Array Slot), MH G (mA G (evS σ0 g b) s.heap.size) (evS σ0 i (brk f1 (σ0 5) live b)) s.heap H locs → lv_has ls 7 [(0, .ref (G.2.2 0)), (1, .int (iI live)), (2, .long (lI (lv f1 (σ0 5) live b)))] → W p l e (rmD (n + 1 + 4)) s m ([.ref (G.2.2 0), .int (iI live)] : List Value).toArray below meth c H locs 0 0 (MQ below (mQl G (evS σ0 g b) s.heap.size (fun z σ' => z = lv f (σ0 5) live b ∧ σ' = evS σ0 j (brk f (σ0 5) live b))) ([.ref (G.2.2 0), .int (iI live)] : List Value).toArray s 0 0 (mA G (evS σ0 g b) s.heap.size)) (F0 m 6 ls []) := by
    intro k
    induction k with
    | zero => intro f1 i hi0 hi1 hfB hlp; rw [lpM] at hlp; cases hlp
    | succ k ih_6 =>
      intro f1 i hi0 hi1 hfB hlp H locs ls hH hl
      rw [lpM] at hlp
      have hbr := brk_01 (f := f1) (a := σ0 5) (live := live) hb01
      have hc := cdA_r hV hi0
      refine lv_aload_n hx hb dX4_sumOf_6 rfl (lv_at hl 0 rfl) ?_
      refine lv_aload_n hx hb dX4_sumOf_7 rfl (lv_at hl 0 rfl) ?_
      refine m_get 18 (by decide) hx hb hts hown hK hj hH q1491 (fun _ h9 => h9) rfl dX4_sumOf_8 ?_
      refine W.eq (g2 := F0 m 11 ls (.int (iI i) :: .ref (G.2.2 0) :: [])) rfl ?_
      refine m_calliF (m_runV (As := [.int (iI i)]) (rest := []) S hH hK hj hl.1 (mm_codeAt l G σ0 i (brk f1 (σ0 5) live b) i _ hV (by omega) (by omega) hbr (by omega) (by omega)) (lw_V q1823 q1825 qs78 q109 q1826) kd_X4_codeAt rfl rfl dX4_sumOf_11 (hR := ⟨by dsimp only [rmD]; omega, by dsimp only [rmD]; omega⟩)) hH hA (fun H locs hH => ?_)
      refine n_bipush (z := 43) hx hb dX4_sumOf_14 (by decide) ?_
      refine m_calliF (m_runS (As := [.int (iI 43)]) (rest := [.int (iI (cdA σ0 i))]) S hH hK hj hl.1 (mm_sign l G (evS σ0 i (brk f1 (σ0 5) live b)) 43 _ (by omega) (by omega)) (lw_S q1767 q1768 q109 q1769) kd_X4_sign rfl rfl dX4_sumOf_16 (hR := ⟨by dsimp only [rmD]; omega, by dsimp only [rmD]; omega⟩)) hH hA (fun H locs hH => ?_)
      refine W.eq (g2 := F0 m 19 ls (.int (iI 143) :: .int (iI (cdA σ0 i)) :: [])) (by rfl) ?_
      refine n_icmp_eq (tgt := 38) hx hb (r32 (by omega)) (r32 (by omega)) dX4_sumOf_19 (by decide) (fun c_19 => ?_) (fun c_19 => ?_)
      · -- 19T
        rw [if_pos (Or.inl c_19)] at hlp
        obtain ⟨⟨f2, i2⟩, e3, e4⟩ := Option.bind_eq_some_iff.mp hlp
        rw [c_19] at e4
        have hlt := cdA_lt (σ := σ0) (k := i) (by omega)
        have hle := EV_le (by omega) e3
        have hf2 := EV_B hV (by omega) (by omega) (by omega) e3
        have q1 := lv_r (live := live) (b := b) hfB
        have q2 := lv_r (live := live) (b := (brk f1 (σ0 5) live b)) hf2
        have q3 := mul_b q1 q2
        refine lv_aload_n hx hb dX4_sumOf_38 rfl (lv_at hl 0 rfl) ?_
        refine lv_aload_n hx hb dX4_sumOf_39 rfl (lv_at hl 0 rfl) ?_
        refine m_get 18 (by decide) hx hb hts hown hK hj hH q1491 (fun _ h9 => h9) rfl dX4_sumOf_40 ?_
        refine W.eq (g2 := F0 m 43 ls (.int (iI i) :: .ref (G.2.2 0) :: [])) rfl ?_
        refine m_calliF (m_runV (As := [.int (iI i)]) (rest := []) S hH hK hj hl.1 (mm_codeAt l G σ0 i (brk f1 (σ0 5) live b) i _ hV (by omega) (by omega) hbr (by omega) (by omega)) (lw_V q1823 q1825 qs78 q109 q1826) kd_X4_codeAt rfl rfl dX4_sumOf_43 (hR := ⟨by dsimp only [rmD]; omega, by dsimp only [rmD]; omega⟩)) hH hA (fun H locs hH => ?_)
        refine n_bipush (z := 43) hx hb dX4_sumOf_46 (by decide) ?_
        refine m_calliF (m_runS (As := [.int (iI 43)]) (rest := [.int (iI (cdA σ0 i))]) S hH hK hj hl.1 (mm_sign l G (evS σ0 i (brk f1 (σ0 5) live b)) 43 _ (by omega) (by omega)) (lw_S q1767 q1768 q109 q1769) kd_X4_sign rfl rfl dX4_sumOf_48 (hR := ⟨by dsimp only [rmD]; omega, by dsimp only [rmD]; omega⟩)) hH hA (fun H locs hH => ?_)
        refine W.eq (g2 := F0 m 51 ls (.int (iI 143) :: .int (iI (cdA σ0 i)) :: [])) (by rfl) ?_
        refine n_icmp_ne (tgt := 58) hx hb (r32 (by omega)) (r32 (by omega)) dX4_sumOf_51 (by decide) (fun c_51 => ?_) (fun c_51 => ?_)
        · exact absurd c_19 c_51
        · -- 51F
          refine n_iconst hx hb dX4_sumOf_54 ?_
          refine lv_goto (tgt := 59) hx hb dX4_sumOf_55 (by decide) ?_
          refine lv_istore hx hb dX4_sumOf_59 hl (Nat.le_of_ble_eq_true rfl) (lv' := [(4, .int (iI 1)), (0, .ref (G.2.2 0)), (1, .int (iI live)), (2, .long (lI (lv f1 (σ0 5) live b)))]) rfl (fun ls hl => ?_)
          refine lv_aload_n hx hb dX4_sumOf_61 rfl (lv_at hl 1 rfl) ?_
          refine lv_dup hx hb dX4_sumOf_62 rfl ?_
          refine m_get 18 (by decide) hx hb hts hown hK hj hH q1491 (fun _ h9 => h9) rfl dX4_sumOf_63 ?_
          refine W.eq (g2 := F0 m 66 ls (.int (iI i) :: .ref (G.2.2 0) :: [])) rfl ?_
          refine n_iconst hx hb dX4_sumOf_66 ?_
          refine n_iadd hx hb dX4_sumOf_67 ?_
          refine mp_18 hx hb hts hown hK hj hH q1491 (fun _ h9 => h9) dX4_sumOf_68 (fun H locs hH => ?_)
          have hH := MH_to hH (τ := evS σ0 (i + 1) (brk f1 (σ0 5) live b)) evS_18
          refine lv_aload_n hx hb dX4_sumOf_71 rfl (lv_at hl 1 rfl) ?_
          refine lv_iload_n hx hb dX4_sumOf_72 rfl (lv_at hl 2 rfl) ?_
          refine m_calllF (m_runV (As := [.int (iI live)]) (rest := []) S hH hK hj hl.1 (IH_termOf σ0 (i + 1) (brk f1 (σ0 5) live b) live f2 i2 _ hV (by omega) (by omega) hbr hl01 e3) (lw_V q1831 q1833 qs80 q109 q1834) kd_X4_termOf rfl rfl dX4_sumOf_73 (hR := ⟨by dsimp only [rmD]; omega, by dsimp only [rmD]; omega⟩)) hH hA (fun H locs hH => ?_)
          refine lv_lstore hx hb dX4_sumOf_76 hl (Nat.le_of_ble_eq_true rfl) (lv' := [(5, .long (lI (lv f2 (σ0 5) live (brk f1 (σ0 5) live b)))), (4, .int (iI 1)), (0, .ref (G.2.2 0)), (1, .int (iI live)), (2, .long (lI (lv f1 (σ0 5) live b)))]) rfl (fun ls hl => ?_)
          refine lv_aload_n hx hb dX4_sumOf_78 rfl (lv_at hl 2 rfl) ?_
          refine lv_iload hx hb dX4_sumOf_79 (lv_at hl 1 rfl) ?_
          refine n_if_eq (tgt := 91) hx hb (r32 (by omega)) dX4_sumOf_81 (by decide) (fun h => absurd h (by decide)) (fun _ => ?_)
          refine lv_lload_n hx hb dX4_sumOf_84 rfl (lv_at hl 4 rfl) ?_
          refine lv_lload hx hb dX4_sumOf_85 (lv_at hl 0 rfl) ?_
          refine n_ladd hx hb dX4_sumOf_87 ?_
          refine lv_goto (tgt := 95) hx hb dX4_sumOf_88 (by decide) ?_
          refine lv_iload_n hx hb dX4_sumOf_95 rfl (lv_at hl 3 rfl) ?_
          refine m_calllF (m_runV (As := [.long (lI ((lv f1 (σ0 5) live b) + (lv f2 (σ0 5) live (brk f1 (σ0 5) live b)))), .int (iI live)]) (rest := []) S hH hK hj hl.1 (mm_bounded l G σ0 i2 (brk f2 (σ0 5) live (brk f1 (σ0 5) live b)) ((lv f1 (σ0 5) live b) + (lv f2 (σ0 5) live (brk f1 (σ0 5) live b))) live _ hV (by omega) (by omega) (brk_01 hbr) (r64 (by omega)) hl01) (lw_V q1843 q1845 qs83 q109 q1846) kd_X4_bounded rfl rfl dX4_sumOf_96 (hR := ⟨by dsimp only [rmD]; omega, by dsimp only [rmD]; omega⟩)) hH hA (fun H locs hH => ?_)
          refine lv_lstore_n hx hb dX4_sumOf_99 rfl hl (Nat.le_of_ble_eq_true rfl) (lv' := [(2, .long (lI (if (brk f2 (σ0 5) live (brk f1 (σ0 5) live b)) = 1 ∨ (live = 1 ∧ (((lv f1 (σ0 5) live b) + (lv f2 (σ0 5) live (brk f1 (σ0 5) live b))) > 1000000000 ∨ ((lv f1 (σ0 5) live b) + (lv f2 (σ0 5) live (brk f1 (σ0 5) live b))) < -1000000000)) then 0 else ((lv f1 (σ0 5) live b) + (lv f2 (σ0 5) live (brk f1 (σ0 5) live b)))))), (5, .long (lI (lv f2 (σ0 5) live (brk f1 (σ0 5) live b)))), (4, .int (iI 1)), (0, .ref (G.2.2 0)), (1, .int (iI live))]) rfl (fun ls hl => ?_)
          refine lv_goto (tgt := 6) hx hb dX4_sumOf_100 (by decide) ?_
          have hl : lv_has ls 7 [(0, .ref (G.2.2 0)), (1, .int (iI live)), (2, .long (lI (if (brk f2 (σ0 5) live (brk f1 (σ0 5) live b)) = 1 ∨ (live = 1 ∧ (((lv f1 (σ0 5) live b) + (lv f2 (σ0 5) live (brk f1 (σ0 5) live b))) > 1000000000 ∨ ((lv f1 (σ0 5) live b) + (lv f2 (σ0 5) live (brk f1 (σ0 5) live b))) < -1000000000)) then 0 else ((lv f1 (σ0 5) live b) + (lv f2 (σ0 5) live (brk f1 (σ0 5) live b))))))] := lv_sub hl [3, 4, 0] rfl
          have hl : lv_has ls 7 [(0, .ref (G.2.2 0)), (1, .int (iI live)), (2, .long (lI (lv (joinF 143 f1 f2) (σ0 5) live b)))] := by rw [← (join_step (op := 143) (by decide) hl01 hb01).2]; exact hl
          have hH := MH_to hH (τ := evS σ0 i2 (brk (joinF 143 f1 f2) (σ0 5) live b)) (congrArg (evS σ0 i2) (join_step (op := 143) (by decide) hl01 hb01).1)
          refine ih_6 (joinF 143 f1 f2) i2 ?_ ?_ ?_ ?_ _ _ _ hH hl
          · omega
          · omega
          · exact mB_join hfB
          · exact e4
      · -- 19F
        refine lv_aload_n hx hb dX4_sumOf_22 rfl (lv_at hl 0 rfl) ?_
        refine lv_aload_n hx hb dX4_sumOf_23 rfl (lv_at hl 0 rfl) ?_
        refine m_get 18 (by decide) hx hb hts hown hK hj hH q1491 (fun _ h9 => h9) rfl dX4_sumOf_24 ?_
        refine W.eq (g2 := F0 m 27 ls (.int (iI i) :: .ref (G.2.2 0) :: [])) rfl ?_
        refine m_calliF (m_runV (As := [.int (iI i)]) (rest := []) S hH hK hj hl.1 (mm_codeAt l G σ0 i (brk f1 (σ0 5) live b) i _ hV (by omega) (by omega) hbr (by omega) (by omega)) (lw_V q1823 q1825 qs78 q109 q1826) kd_X4_codeAt rfl rfl dX4_sumOf_27 (hR := ⟨by dsimp only [rmD]; omega, by dsimp only [rmD]; omega⟩)) hH hA (fun H locs hH => ?_)
        refine n_bipush (z := 45) hx hb dX4_sumOf_30 (by decide) ?_
        refine m_calliF (m_runS (As := [.int (iI 45)]) (rest := [.int (iI (cdA σ0 i))]) S hH hK hj hl.1 (mm_sign l G (evS σ0 i (brk f1 (σ0 5) live b)) 45 _ (by omega) (by omega)) (lw_S q1767 q1768 q109 q1769) kd_X4_sign rfl rfl dX4_sumOf_32 (hR := ⟨by dsimp only [rmD]; omega, by dsimp only [rmD]; omega⟩)) hH hA (fun H locs hH => ?_)
        refine W.eq (g2 := F0 m 35 ls (.int (iI 145) :: .int (iI (cdA σ0 i)) :: [])) (by rfl) ?_
        refine n_icmp_ne (tgt := 103) hx hb (r32 (by omega)) (r32 (by omega)) dX4_sumOf_35 (by decide) (fun c_35 => ?_) (fun c_35 => ?_)
        · -- 35T
          rw [if_neg (fun q => q.elim c_19 c_35)] at hlp
          refine lv_lload_n hx hb dX4_sumOf_103 rfl (lv_at hl 2 rfl) ?_
          refine m_lret hx hb hr hlk hH dX4_sumOf_104 ?_
          cases hlp
          exact ⟨rfl, rfl⟩
        · -- 35F
          rw [if_pos (Or.inr c_35)] at hlp
          obtain ⟨⟨f2, i2⟩, e3, e4⟩ := Option.bind_eq_some_iff.mp hlp
          rw [c_35] at e4
          have hlt := cdA_lt (σ := σ0) (k := i) (by omega)
          have hle := EV_le (by omega) e3
          have hf2 := EV_B hV (by omega) (by omega) (by omega) e3
          have q1 := lv_r (live := live) (b := b) hfB
          have q2 := lv_r (live := live) (b := (brk f1 (σ0 5) live b)) hf2
          have q3 := mul_b q1 q2
          refine lv_aload_n hx hb dX4_sumOf_38 rfl (lv_at hl 0 rfl) ?_
          refine lv_aload_n hx hb dX4_sumOf_39 rfl (lv_at hl 0 rfl) ?_
          refine m_get 18 (by decide) hx hb hts hown hK hj hH q1491 (fun _ h9 => h9) rfl dX4_sumOf_40 ?_
          refine W.eq (g2 := F0 m 43 ls (.int (iI i) :: .ref (G.2.2 0) :: [])) rfl ?_
          refine m_calliF (m_runV (As := [.int (iI i)]) (rest := []) S hH hK hj hl.1 (mm_codeAt l G σ0 i (brk f1 (σ0 5) live b) i _ hV (by omega) (by omega) hbr (by omega) (by omega)) (lw_V q1823 q1825 qs78 q109 q1826) kd_X4_codeAt rfl rfl dX4_sumOf_43 (hR := ⟨by dsimp only [rmD]; omega, by dsimp only [rmD]; omega⟩)) hH hA (fun H locs hH => ?_)
          refine n_bipush (z := 43) hx hb dX4_sumOf_46 (by decide) ?_
          refine m_calliF (m_runS (As := [.int (iI 43)]) (rest := [.int (iI (cdA σ0 i))]) S hH hK hj hl.1 (mm_sign l G (evS σ0 i (brk f1 (σ0 5) live b)) 43 _ (by omega) (by omega)) (lw_S q1767 q1768 q109 q1769) kd_X4_sign rfl rfl dX4_sumOf_48 (hR := ⟨by dsimp only [rmD]; omega, by dsimp only [rmD]; omega⟩)) hH hA (fun H locs hH => ?_)
          refine W.eq (g2 := F0 m 51 ls (.int (iI 143) :: .int (iI (cdA σ0 i)) :: [])) (by rfl) ?_
          refine n_icmp_ne (tgt := 58) hx hb (r32 (by omega)) (r32 (by omega)) dX4_sumOf_51 (by decide) (fun c_51 => ?_) (fun c_51 => ?_)
          · -- 51T
            refine n_iconst hx hb dX4_sumOf_58 ?_
            refine lv_istore hx hb dX4_sumOf_59 hl (Nat.le_of_ble_eq_true rfl) (lv' := [(4, .int (iI 0)), (0, .ref (G.2.2 0)), (1, .int (iI live)), (2, .long (lI (lv f1 (σ0 5) live b)))]) rfl (fun ls hl => ?_)
            refine lv_aload_n hx hb dX4_sumOf_61 rfl (lv_at hl 1 rfl) ?_
            refine lv_dup hx hb dX4_sumOf_62 rfl ?_
            refine m_get 18 (by decide) hx hb hts hown hK hj hH q1491 (fun _ h9 => h9) rfl dX4_sumOf_63 ?_
            refine W.eq (g2 := F0 m 66 ls (.int (iI i) :: .ref (G.2.2 0) :: [])) rfl ?_
            refine n_iconst hx hb dX4_sumOf_66 ?_
            refine n_iadd hx hb dX4_sumOf_67 ?_
            refine mp_18 hx hb hts hown hK hj hH q1491 (fun _ h9 => h9) dX4_sumOf_68 (fun H locs hH => ?_)
            have hH := MH_to hH (τ := evS σ0 (i + 1) (brk f1 (σ0 5) live b)) evS_18
            refine lv_aload_n hx hb dX4_sumOf_71 rfl (lv_at hl 1 rfl) ?_
            refine lv_iload_n hx hb dX4_sumOf_72 rfl (lv_at hl 2 rfl) ?_
            refine m_calllF (m_runV (As := [.int (iI live)]) (rest := []) S hH hK hj hl.1 (IH_termOf σ0 (i + 1) (brk f1 (σ0 5) live b) live f2 i2 _ hV (by omega) (by omega) hbr hl01 e3) (lw_V q1831 q1833 qs80 q109 q1834) kd_X4_termOf rfl rfl dX4_sumOf_73 (hR := ⟨by dsimp only [rmD]; omega, by dsimp only [rmD]; omega⟩)) hH hA (fun H locs hH => ?_)
            refine lv_lstore hx hb dX4_sumOf_76 hl (Nat.le_of_ble_eq_true rfl) (lv' := [(5, .long (lI (lv f2 (σ0 5) live (brk f1 (σ0 5) live b)))), (4, .int (iI 0)), (0, .ref (G.2.2 0)), (1, .int (iI live)), (2, .long (lI (lv f1 (σ0 5) live b)))]) rfl (fun ls hl => ?_)
            refine lv_aload_n hx hb dX4_sumOf_78 rfl (lv_at hl 2 rfl) ?_
            refine lv_iload hx hb dX4_sumOf_79 (lv_at hl 1 rfl) ?_
            refine n_if_eq (tgt := 91) hx hb (r32 (by omega)) dX4_sumOf_81 (by decide) (fun _ => ?_) (fun h => absurd h (by decide))
            refine lv_lload_n hx hb dX4_sumOf_91 rfl (lv_at hl 4 rfl) ?_
            refine lv_lload hx hb dX4_sumOf_92 (lv_at hl 0 rfl) ?_
            refine n_lsub hx hb dX4_sumOf_94 ?_
            refine lv_iload_n hx hb dX4_sumOf_95 rfl (lv_at hl 3 rfl) ?_
            refine m_calllF (m_runV (As := [.long (lI ((lv f1 (σ0 5) live b) - (lv f2 (σ0 5) live (brk f1 (σ0 5) live b)))), .int (iI live)]) (rest := []) S hH hK hj hl.1 (mm_bounded l G σ0 i2 (brk f2 (σ0 5) live (brk f1 (σ0 5) live b)) ((lv f1 (σ0 5) live b) - (lv f2 (σ0 5) live (brk f1 (σ0 5) live b))) live _ hV (by omega) (by omega) (brk_01 hbr) (r64 (by omega)) hl01) (lw_V q1843 q1845 qs83 q109 q1846) kd_X4_bounded rfl rfl dX4_sumOf_96 (hR := ⟨by dsimp only [rmD]; omega, by dsimp only [rmD]; omega⟩)) hH hA (fun H locs hH => ?_)
            refine lv_lstore_n hx hb dX4_sumOf_99 rfl hl (Nat.le_of_ble_eq_true rfl) (lv' := [(2, .long (lI (if (brk f2 (σ0 5) live (brk f1 (σ0 5) live b)) = 1 ∨ (live = 1 ∧ (((lv f1 (σ0 5) live b) - (lv f2 (σ0 5) live (brk f1 (σ0 5) live b))) > 1000000000 ∨ ((lv f1 (σ0 5) live b) - (lv f2 (σ0 5) live (brk f1 (σ0 5) live b))) < -1000000000)) then 0 else ((lv f1 (σ0 5) live b) - (lv f2 (σ0 5) live (brk f1 (σ0 5) live b)))))), (5, .long (lI (lv f2 (σ0 5) live (brk f1 (σ0 5) live b)))), (4, .int (iI 0)), (0, .ref (G.2.2 0)), (1, .int (iI live))]) rfl (fun ls hl => ?_)
            refine lv_goto (tgt := 6) hx hb dX4_sumOf_100 (by decide) ?_
            have hl : lv_has ls 7 [(0, .ref (G.2.2 0)), (1, .int (iI live)), (2, .long (lI (if (brk f2 (σ0 5) live (brk f1 (σ0 5) live b)) = 1 ∨ (live = 1 ∧ (((lv f1 (σ0 5) live b) - (lv f2 (σ0 5) live (brk f1 (σ0 5) live b))) > 1000000000 ∨ ((lv f1 (σ0 5) live b) - (lv f2 (σ0 5) live (brk f1 (σ0 5) live b))) < -1000000000)) then 0 else ((lv f1 (σ0 5) live b) - (lv f2 (σ0 5) live (brk f1 (σ0 5) live b))))))] := lv_sub hl [3, 4, 0] rfl
            have hl : lv_has ls 7 [(0, .ref (G.2.2 0)), (1, .int (iI live)), (2, .long (lI (lv (joinF 145 f1 f2) (σ0 5) live b)))] := by rw [← (join_step (op := 145) (by decide) hl01 hb01).2]; exact hl
            have hH := MH_to hH (τ := evS σ0 i2 (brk (joinF 145 f1 f2) (σ0 5) live b)) (congrArg (evS σ0 i2) (join_step (op := 145) (by decide) hl01 hb01).1)
            refine ih_6 (joinF 145 f1 f2) i2 ?_ ?_ ?_ ?_ _ _ _ hH hl
            · omega
            · omega
            · exact mB_join hfB
            · exact e4
          · exact absurd c_51 c_19
  refine lv_aload_n hx hb dX4_sumOf_0 rfl (lv_at hl 0 rfl) ?_
  refine lv_iload_n hx hb dX4_sumOf_1 rfl (lv_at hl 1 rfl) ?_
  refine m_calllF (m_runV (As := [.int (iI live)]) (rest := []) S hH hK hj hl.1 (IH_termOf σ0 g b live f1 i1 _ hV hg0 hg1 hb01 hl01 e1) (lw_V q1831 q1833 qs80 q109 q1834) kd_X4_termOf rfl rfl dX4_sumOf_2 (hR := ⟨by dsimp only [rmD]; omega, by dsimp only [rmD]; omega⟩)) hH hA (fun H locs hH => ?_)
  refine lv_lstore_n hx hb dX4_sumOf_5 rfl hl (Nat.le_of_ble_eq_true rfl) (lv' := [(2, .long (lI (lv f1 (σ0 5) live b))), (0, .ref (G.2.2 0)), (1, .int (iI live))]) rfl (fun ls hl => ?_)
  have hl : lv_has ls 7 [(0, .ref (G.2.2 0)), (1, .int (iI live)), (2, .long (lI (lv f1 (σ0 5) live b)))] := lv_sub hl [1, 2, 0] rfl
  refine L6 402 f1 i1 ?_ ?_ ?_ ?_ _ _ _ hH hl
  · omega
  · omega
  · exact hfB1
  · exact e2
