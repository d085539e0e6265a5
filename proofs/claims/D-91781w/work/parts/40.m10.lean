theorem kd_X4_readPart : yX4_readPart.cls = RX4 ∧ yX4_readPart.cls ≠ "java/lang/invoke/MethodHandle" ∧ yX4_readPart.cls ≠ "java/lang/invoke/VarHandle" ∧ (parseMethodDescriptor yX4_readPart.desc).map (fun d => d.parameters.length) = some 1 := by decide +kernel
theorem kd_X4_readTerm : yX4_readTerm.cls = RX4 ∧ yX4_readTerm.cls ≠ "java/lang/invoke/MethodHandle" ∧ yX4_readTerm.cls ≠ "java/lang/invoke/VarHandle" ∧ (parseMethodDescriptor yX4_readTerm.desc).map (fun d => d.parameters.length) = some 1 := by decide +kernel
theorem kd_X4_readSum : yX4_readSum.cls = RX4 ∧ yX4_readSum.cls ≠ "java/lang/invoke/MethodHandle" ∧ yX4_readSum.cls ≠ "java/lang/invoke/VarHandle" ∧ (parseMethodDescriptor yX4_readSum.desc).map (fun d => d.parameters.length) = some 1 := by decide +kernel
theorem kd_X4_readPlain : yX4_readPlain.cls = RX4 ∧ yX4_readPlain.cls ≠ "java/lang/invoke/MethodHandle" ∧ yX4_readPlain.cls ≠ "java/lang/invoke/VarHandle" ∧ (parseMethodDescriptor yX4_readPlain.desc).map (fun d => d.parameters.length) = some 1 := by decide +kernel
theorem kd_X4_readBoth : yX4_readBoth.cls = RX4 ∧ yX4_readBoth.cls ≠ "java/lang/invoke/MethodHandle" ∧ yX4_readBoth.cls ≠ "java/lang/invoke/VarHandle" ∧ (parseMethodDescriptor yX4_readBoth.desc).map (fun d => d.parameters.length) = some 1 := by decide +kernel
theorem kd_X4_readTest : yX4_readTest.cls = RX4 ∧ yX4_readTest.cls ≠ "java/lang/invoke/MethodHandle" ∧ yX4_readTest.cls ≠ "java/lang/invoke/VarHandle" ∧ (parseMethodDescriptor yX4_readTest.desc).map (fun d => d.parameters.length) = some 1 := by decide +kernel
theorem ms_readPart (l : Launch) (G : MG) (n : Nat) (IH_readSum : SRd l G yX4_readSum cX4_readSum 2 2 n) : SRd l G yX4_readPart cX4_readPart 3 0 (n + 1) := by
  intro σ0 t u u' deep sz hT hB hd0 hd8 he
  refine m_start (by decide) (Nat.le_of_ble_eq_true rfl) ?_
  intro p e s m below meth c ⟨S, hr, hlk, hH, hK, hj, hsz, hnm⟩ ls hl
  subst hsz
  obtain ⟨hx, hb, hml, hown, hts⟩ := S
  have S : CallFix p m c _ _ s _ lw_all RX4 := ⟨hx, hb, hml, hown, hts⟩
  have hA : ∀ q, s.heap.size ≤ q → mA G (psS σ0 u) s.heap.size q := fun q hq => Or.inr hq
  have hl : lv_has ls 3 [(0, .ref (G.2.2 0)), (1, .int (iI deep))] := hl
  have b0 := hB
  unfold BS at b0
  have t0 := hT
  unfold TK at t0
  have t1 := t0.2.2 u.1 (by omega) (by omega)
  simp only [rd] at he
  have L37 : ∀ (τ : St), (hτ : τ = psS σ0 (opnP (σ0 13) deep u)) → (c_4 : u.2.2 = -1) → (c_24 : σ0 11 u.1 = 191) → ∀ (H : Heap) (locs : List Loc) (ls : Array Slot), MH G (mA G (psS σ0 u) s.heap.size) τ s.heap H locs → lv_has ls 3 [(0, .ref (G.2.2 0)), (1, .int (iI deep)), (2, .int (iI (σ0 11 u.1)))] → W p l e (rmD (n + 1 + 4)) s m ([.ref (G.2.2 0), .int (iI deep)] : List Value).toArray below meth c H locs 0 0 (MQ below (mQv G (psS σ0 u) s.heap.size (fun σ' => σ' = psS σ0 u')) ([.ref (G.2.2 0), .int (iI deep)] : List Value).toArray s 0 0 (mA G (psS σ0 u) s.heap.size)) (F0 m 37 ls []) := by
    intro τ hτ c_4 c_24 H locs ls hH hl
    subst hτ
    rw [if_pos c_4, if_pos c_24] at he
    have hB2 : BS t (opnP (σ0 13) deep u) := BS_opn hT hB
    have b2 := hB2
    unfold BS at b2
    refine lv_aload_n hx hb dX4_readPart_37 rfl (lv_at hl 0 rfl) ?_
    refine m_calliF (m_runV (As := []) (rest := []) S hH hK hj hl.1 (mm_fine l G σ0 t (opnP (σ0 13) deep u) _ hT hB2) (lw_V q1751 q1753 qs63 q109 q1754) kd_X4_fine rfl rfl dX4_readPart_38 (hR := ⟨by dsimp only [rmD]; omega, by dsimp only [rmD]; omega⟩)) hH hA (fun H locs hH => ?_)
    refine z_if_ne (tgt := 45) hx hb dX4_readPart_41 (by decide) (fun c_41 => ?_) (fun c_41 => ?_)
    · -- 41T
      rw [if_pos c_41] at he
      obtain ⟨s2, e3, e4⟩ := Option.map_eq_some_iff.mp he
      have hB3 : BS t (advP (opnP (σ0 13) deep u)) := BS_adv hT hB2 (by rw [opnP_1, c_24]; omega)
      have hd7 : deep ≤ 7 := by
        rcases Int.lt_or_le deep 8 with q | q
        · omega
        · exact absurd c_41 (by unfold opnP; rw [if_pos (by omega)]; exact fauP_bad hT hB)
      refine lv_aload_n hx hb dX4_readPart_45 rfl (lv_at hl 0 rfl) ?_
      refine lv_dup hx hb dX4_readPart_46 rfl ?_
      refine m_get 15 (by decide) hx hb hts hown hK hj hH q1488 (fun _ h9 => h9) rfl dX4_readPart_47 ?_
      refine W.eq (g2 := F0 m 50 ls (.int (iI ((opnP (σ0 13) deep u).1)) :: .ref (G.2.2 0) :: [])) rfl ?_
      refine n_iconst hx hb dX4_readPart_50 ?_
      refine n_iadd hx hb dX4_readPart_51 ?_
      refine mp_15 hx hb hts hown hK hj hH q1488 (fun _ h9 => h9) dX4_readPart_52 (fun H locs hH => ?_)
      have hH := MH_to hH (τ := psS σ0 (((opnP (σ0 13) deep u).1) + 1, (opnP (σ0 13) deep u).2.1, (opnP (σ0 13) deep u).2.2)) psS_15
      refine lv_aload_n hx hb dX4_readPart_55 rfl (lv_at hl 0 rfl) ?_
      refine lv_iload_n hx hb dX4_readPart_56 rfl (lv_at hl 1 rfl) ?_
      refine n_iconst hx hb dX4_readPart_57 ?_
      refine n_iadd hx hb dX4_readPart_58 ?_
      refine m_callvF (m_runV (As := [.int (iI (deep + 1))]) (rest := []) S hH hK hj hl.1 (IH_readSum σ0 t (advP (opnP (σ0 13) deep u)) s2 (deep + 1) _ hT hB3 (by omega) (by omega) e3) (lw_V q1755 q1757 qs64 q109 q1758) kd_X4_readSum rfl rfl dX4_readPart_59 (hR := ⟨by dsimp only [rmD]; omega, by dsimp only [rmD]; omega⟩)) hH hA (fun H locs hH => ?_)
      refine lv_aload_n hx hb dX4_readPart_62 rfl (lv_at hl 0 rfl) ?_
      refine n_bipush (z := 93) hx hb dX4_readPart_63 (by decide) ?_
      refine m_calliF (m_runS (As := [.int (iI 93)]) (rest := [.ref (G.2.2 0)]) S hH hK hj hl.1 (mm_sign l G (psS σ0 s2) 93 _ (by omega) (by omega)) (lw_S q1767 q1768 q109 q1769) kd_X4_sign rfl rfl dX4_readPart_65 (hR := ⟨by dsimp only [rmD]; omega, by dsimp only [rmD]; omega⟩)) hH hA (fun H locs hH => ?_)
      refine W.eq (g2 := F0 m 68 ls (.int (iI 193) :: .ref (G.2.2 0) :: [])) (by rfl) ?_
      refine m_callvF (m_runV (As := [.int (iI 193)]) (rest := []) S hH hK hj hl.1 (mm_must l G σ0 t s2 193 _ hT (BS_rd hT _ _ _ _ _ hB3 e3) (by omega) (by omega)) (lw_V q1774 q1776 qs68 q109 q1777) kd_X4_must rfl rfl dX4_readPart_68 (hR := ⟨by dsimp only [rmD]; omega, by dsimp only [rmD]; omega⟩)) hH hA (fun H locs hH => ?_)
      refine lv_goto (tgt := 117) hx hb dX4_readPart_71 (by decide) ?_
      refine m_vret hx hb hr hlk hH dX4_readPart_117 ?_
      rw [e4]
    · -- 41F
      rw [if_neg c_41] at he
      refine m_vret hx hb hr hlk hH dX4_readPart_44 ?_
      cases he
      rfl
  refine lv_aload_n hx hb dX4_readPart_0 rfl (lv_at hl 0 rfl) ?_
  refine m_calliF (m_runV (As := []) (rest := []) S hH hK hj hl.1 (mm_fine l G σ0 t u _ hT hB) (lw_V q1751 q1753 qs63 q109 q1754) kd_X4_fine rfl rfl dX4_readPart_1 (hR := ⟨by dsimp only [rmD]; omega, by dsimp only [rmD]; omega⟩)) hH hA (fun H locs hH => ?_)
  refine z_if_ne (tgt := 8) hx hb dX4_readPart_4 (by decide) (fun c_4 => ?_) (fun c_4 => ?_)
  · -- 4T
    rw [if_pos c_4] at he
    refine lv_aload_n hx hb dX4_readPart_8 rfl (lv_at hl 0 rfl) ?_
    refine m_get 11 (by decide) hx hb hts hown hK hj hH q1484 (fun _ h9 => h9) rfl dX4_readPart_9 ?_
    refine lv_aload_n hx hb dX4_readPart_12 rfl (lv_at hl 0 rfl) ?_
    refine m_get 15 (by decide) hx hb hts hown hK hj hH q1488 (fun _ h9 => h9) rfl dX4_readPart_13 ?_
    refine W.eq (g2 := F0 m 16 ls (.int (iI u.1) :: .ref (G.2.2 11) :: [])) rfl ?_
    refine ml_11 hx hb hK hj hH (by omega) (by omega) dX4_readPart_16 ?_
    refine W.eq (g2 := F0 m 17 ls (.int (iI (σ0 11 u.1)) :: [])) rfl ?_
    refine lv_istore_n hx hb dX4_readPart_17 rfl hl (Nat.le_of_ble_eq_true rfl) (lv' := [(2, .int (iI (σ0 11 u.1))), (0, .ref (G.2.2 0)), (1, .int (iI deep))]) rfl (fun ls hl => ?_)
    refine lv_iload_n hx hb dX4_readPart_18 rfl (lv_at hl 0 rfl) ?_
    refine n_bipush (z := 91) hx hb dX4_readPart_19 (by decide) ?_
    refine m_calliF (m_runS (As := [.int (iI 91)]) (rest := [.int (iI (σ0 11 u.1))]) S hH hK hj hl.1 (mm_sign l G (psS σ0 u) 91 _ (by omega) (by omega)) (lw_S q1767 q1768 q109 q1769) kd_X4_sign rfl rfl dX4_readPart_21 (hR := ⟨by dsimp only [rmD]; omega, by dsimp only [rmD]; omega⟩)) hH hA (fun H locs hH => ?_)
    refine W.eq (g2 := F0 m 24 ls (.int (iI 191) :: .int (iI (σ0 11 u.1)) :: [])) (by rfl) ?_
    refine n_icmp_ne (tgt := 74) hx hb (r32 (by omega)) (r32 (by omega)) dX4_readPart_24 (by decide) (fun c_24 => ?_) (fun c_24 => ?_)
    · -- 24T
      rw [if_neg c_24] at he
      refine lv_iload_n hx hb dX4_readPart_74 rfl (lv_at hl 0 rfl) ?_
      refine n_bipush (z := 50) hx hb dX4_readPart_75 (by decide) ?_
      refine n_icmp_ne (tgt := 94) hx hb (r32 (by omega)) (r32 (by omega)) dX4_readPart_77 (by decide) (fun c_77 => ?_) (fun c_77 => ?_)
      · -- 77T
        refine lv_iload_n hx hb dX4_readPart_94 rfl (lv_at hl 0 rfl) ?_
        refine n_bipush (z := 17) hx hb dX4_readPart_95 (by decide) ?_
        refine n_icmp_lt (tgt := 113) hx hb (r32 (by omega)) (r32 (by omega)) dX4_readPart_97 (by decide) (fun c_97 => ?_) (fun c_97 => ?_)
        · -- 97T
          refine lv_aload_n hx hb dX4_readPart_113 rfl (lv_at hl 1 rfl) ?_
          refine m_callvF (m_runV (As := []) (rest := []) S hH hK hj hl.1 (mm_faults l G σ0 t u _ hT hB) (lw_V q1770 q1772 qs67 q109 q1773) kd_X4_faults rfl rfl dX4_readPart_114 (hR := ⟨by dsimp only [rmD]; omega, by dsimp only [rmD]; omega⟩)) hH hA (fun H locs hH => ?_)
          refine m_vret hx hb hr hlk hH dX4_readPart_117 ?_
          rw [if_neg (by omega)] at he
          cases he
          rfl
        · -- 97F
          refine lv_iload_n hx hb dX4_readPart_100 rfl (lv_at hl 0 rfl) ?_
          refine n_bipush (z := 24) hx hb dX4_readPart_101 (by decide) ?_
          refine n_icmp_gt (tgt := 113) hx hb (r32 (by omega)) (r32 (by omega)) dX4_readPart_103 (by decide) (fun c_103 => ?_) (fun c_103 => ?_)
          · -- 103T
            refine lv_aload_n hx hb dX4_readPart_113 rfl (lv_at hl 1 rfl) ?_
            refine m_callvF (m_runV (As := []) (rest := []) S hH hK hj hl.1 (mm_faults l G σ0 t u _ hT hB) (lw_V q1770 q1772 qs67 q109 q1773) kd_X4_faults rfl rfl dX4_readPart_114 (hR := ⟨by dsimp only [rmD]; omega, by dsimp only [rmD]; omega⟩)) hH hA (fun H locs hH => ?_)
            refine m_vret hx hb hr hlk hH dX4_readPart_117 ?_
            rw [if_neg (by omega)] at he
            cases he
            rfl
          · -- 103F
            refine lv_aload_n hx hb dX4_readPart_106 rfl (lv_at hl 1 rfl) ?_
            refine m_callvF (m_runV (As := []) (rest := []) S hH hK hj hl.1 (mm_leaf l G σ0 t u _ hT hB c_4) (lw_V q1779 q1781 qs69 q109 q1782) kd_X4_leaf rfl rfl dX4_readPart_107 (hR := ⟨by dsimp only [rmD]; omega, by dsimp only [rmD]; omega⟩)) hH hA (fun H locs hH => ?_)
            refine lv_goto (tgt := 117) hx hb dX4_readPart_110 (by decide) ?_
            refine m_vret hx hb hr hlk hH dX4_readPart_117 ?_
            rw [if_pos (by omega)] at he
            cases he
            rfl
      · -- 77F
        refine lv_aload_n hx hb dX4_readPart_80 rfl (lv_at hl 1 rfl) ?_
        refine m_get 12 (by decide) hx hb hts hown hK hj hH q1485 (fun _ h9 => h9) rfl dX4_readPart_81 ?_
        refine lv_aload_n hx hb dX4_readPart_84 rfl (lv_at hl 1 rfl) ?_
        refine m_get 15 (by decide) hx hb hts hown hK hj hH q1488 (fun _ h9 => h9) rfl dX4_readPart_85 ?_
        refine W.eq (g2 := F0 m 88 ls (.int (iI u.1) :: .ref (G.2.2 12) :: [])) rfl ?_
        refine ml_12 hx hb hK hj hH (by omega) (by omega) dX4_readPart_88 ?_
        refine W.eq (g2 := F0 m 89 ls (.int (iI (σ0 12 u.1)) :: [])) rfl ?_
        refine lv_ldc (v := iI 100000) hx hb hown (hts _ q1778) dX4_readPart_89 ?_
        refine n_icmp_le (tgt := 106) hx hb (r32 (by omega)) (r32 (by omega)) dX4_readPart_91 (by decide) (fun c_91 => ?_) (fun c_91 => ?_)
        · -- 91T
          refine lv_aload_n hx hb dX4_readPart_106 rfl (lv_at hl 1 rfl) ?_
          refine m_callvF (m_runV (As := []) (rest := []) S hH hK hj hl.1 (mm_leaf l G σ0 t u _ hT hB c_4) (lw_V q1779 q1781 qs69 q109 q1782) kd_X4_leaf rfl rfl dX4_readPart_107 (hR := ⟨by dsimp only [rmD]; omega, by dsimp only [rmD]; omega⟩)) hH hA (fun H locs hH => ?_)
          refine lv_goto (tgt := 117) hx hb dX4_readPart_110 (by decide) ?_
          refine m_vret hx hb hr hlk hH dX4_readPart_117 ?_
          rw [if_pos (by omega)] at he
          cases he
          rfl
        · -- 91F
          refine lv_iload_n hx hb dX4_readPart_94 rfl (lv_at hl 0 rfl) ?_
          refine n_bipush (z := 17) hx hb dX4_readPart_95 (by decide) ?_
          refine n_icmp_lt (tgt := 113) hx hb (r32 (by omega)) (r32 (by omega)) dX4_readPart_97 (by decide) (fun c_97 => ?_) (fun c_97 => ?_)
          · -- 97T
            refine lv_aload_n hx hb dX4_readPart_113 rfl (lv_at hl 1 rfl) ?_
            refine m_callvF (m_runV (As := []) (rest := []) S hH hK hj hl.1 (mm_faults l G σ0 t u _ hT hB) (lw_V q1770 q1772 qs67 q109 q1773) kd_X4_faults rfl rfl dX4_readPart_114 (hR := ⟨by dsimp only [rmD]; omega, by dsimp only [rmD]; omega⟩)) hH hA (fun H locs hH => ?_)
            refine m_vret hx hb hr hlk hH dX4_readPart_117 ?_
            rw [if_neg (by omega)] at he
            cases he
            rfl
          · -- 97F
            refine lv_iload_n hx hb dX4_readPart_100 rfl (lv_at hl 0 rfl) ?_
            refine n_bipush (z := 24) hx hb dX4_readPart_101 (by decide) ?_
            refine n_icmp_gt (tgt := 113) hx hb (r32 (by omega)) (r32 (by omega)) dX4_readPart_103 (by decide) (fun c_103 => ?_) (fun c_103 => ?_)
            · -- 103T
              refine lv_aload_n hx hb dX4_readPart_113 rfl (lv_at hl 1 rfl) ?_
              refine m_callvF (m_runV (As := []) (rest := []) S hH hK hj hl.1 (mm_faults l G σ0 t u _ hT hB) (lw_V q1770 q1772 qs67 q109 q1773) kd_X4_faults rfl rfl dX4_readPart_114 (hR := ⟨by dsimp only [rmD]; omega, by dsimp only [rmD]; omega⟩)) hH hA (fun H locs hH => ?_)
              refine m_vret hx hb hr hlk hH dX4_readPart_117 ?_
              rw [if_neg (by omega)] at he
              cases he
              rfl
            · -- 103F
              refine lv_aload_n hx hb dX4_readPart_106 rfl (lv_at hl 1 rfl) ?_
              refine m_callvF (m_runV (As := []) (rest := []) S hH hK hj hl.1 (mm_leaf l G σ0 t u _ hT hB c_4) (lw_V q1779 q1781 qs69 q109 q1782) kd_X4_leaf rfl rfl dX4_readPart_107 (hR := ⟨by dsimp only [rmD]; omega, by dsimp only [rmD]; omega⟩)) hH hA (fun H locs hH => ?_)
              refine lv_goto (tgt := 117) hx hb dX4_readPart_110 (by decide) ?_
              refine m_vret hx hb hr hlk hH dX4_readPart_117 ?_
              rw [if_pos (by omega)] at he
              cases he
              rfl
    · -- 24F
      refine lv_iload_n hx hb dX4_readPart_27 rfl (lv_at hl 2 rfl) ?_
      refine n_bipush (z := 8) hx hb dX4_readPart_28 (by decide) ?_
      refine n_icmp_ne (tgt := 37) hx hb (r32 (by omega)) (r32 (by omega)) dX4_readPart_30 (by decide) (fun c_30 => ?_) (fun c_30 => ?_)
      · -- 30T
        have hl : lv_has ls 3 [(0, .ref (G.2.2 0)), (1, .int (iI deep)), (2, .int (iI (σ0 11 u.1)))] := lv_sub hl [1, 2, 0] rfl
        refine L37 (psS σ0 u) ?_ ?_ ?_ _ _ _ hH hl
        · unfold opnP
          first | rw [if_pos c_30] | rw [if_neg c_30]
        · omega
        · omega
      · -- 30F
        refine lv_aload_n hx hb dX4_readPart_33 rfl (lv_at hl 1 rfl) ?_
        refine m_callvF (m_runV (As := []) (rest := []) S hH hK hj hl.1 (mm_faults l G σ0 t u _ hT hB) (lw_V q1770 q1772 qs67 q109 q1773) kd_X4_faults rfl rfl dX4_readPart_34 (hR := ⟨by dsimp only [rmD]; omega, by dsimp only [rmD]; omega⟩)) hH hA (fun H locs hH => ?_)
        have hl : lv_has ls 3 [(0, .ref (G.2.2 0)), (1, .int (iI deep)), (2, .int (iI (σ0 11 u.1)))] := lv_sub hl [1, 2, 0] rfl
        refine L37 (psS σ0 (fauP (σ0 13) u)) ?_ ?_ ?_ _ _ _ hH hl
        · unfold opnP
          first | rw [if_pos c_30] | rw [if_neg c_30]
        · omega
        · omega
  · -- 4F
    rw [if_neg c_4] at he
    refine m_vret hx hb hr hlk hH dX4_readPart_7 ?_
    cases he
    rfl
theorem ms_readTerm (l : Launch) (G : MG) (n : Nat) (IH_readPart : SRd l G yX4_readPart cX4_readPart 3 0 n) : SRd l G yX4_readTerm cX4_readTerm 2 1 (n + 1) := by
  intro σ0 t u u' deep sz hT hB hd0 hd8 he
  refine m_start (by decide) (Nat.le_of_ble_eq_true rfl) ?_
  intro p e s m below meth c ⟨S, hr, hlk, hH, hK, hj, hsz, hnm⟩ ls hl
  subst hsz
  obtain ⟨hx, hb, hml, hown, hts⟩ := S
  have S : CallFix p m c _ _ s _ lw_all RX4 := ⟨hx, hb, hml, hown, hts⟩
  have hA : ∀ q, s.heap.size ≤ q → mA G (psS σ0 u) s.heap.size q := fun q hq => Or.inr hq
  have hl : lv_has ls 2 [(0, .ref (G.2.2 0)), (1, .int (iI deep))] := hl
  have b0 := hB
  unfold BS at b0
  have t0 := hT
  unfold TK at t0
  have t1 := t0.2.2 u.1 (by omega) (by omega)
  simp only [rd] at he
  obtain ⟨s1, e1, e2⟩ := Option.bind_eq_some_iff.mp he
  have L5 : ∀ (k : Nat) (v : PS), (hBv : BS t v) → (hlp : lpR (σ0 11) 142 147 (rd (σ0 11) (σ0 12) (σ0 13) n 0 deep) k v = some u') → ∀ (H : Heap) (locs : List Loc) (ls : Array Slot), MH G (mA G (psS σ0 u) s.heap.size) (psS σ0 v) s.heap H locs → lv_has ls 2 [(0, .ref (G.2.2 0)), (1, .int (iI deep))] → W p l e (rmD (n + 1 + 4)) s m ([.ref (G.2.2 0), .int (iI deep)] : List Value).toArray below meth c H locs 0 0 (MQ below (mQv G (psS σ0 u) s.heap.size (fun σ' => σ' = psS σ0 u')) ([.ref (G.2.2 0), .int (iI deep)] : List Value).toArray s 0 0 (mA G (psS σ0 u) s.heap.size)) (F0 m 5 ls []) := by
    intro k
    induction k with
    | zero => intro v hBv hlp; rw [lpR] at hlp; cases hlp
    | succ k ih_5 =>
      intro v hBv hlp H locs ls hH hl
      rw [lpR] at hlp
      refine lv_aload_n hx hb dX4_readTerm_5 rfl (lv_at hl 0 rfl) ?_
      refine n_bipush (z := 42) hx hb dX4_readTerm_6 (by decide) ?_
      refine m_calliF (m_runS (As := [.int (iI 42)]) (rest := [.ref (G.2.2 0)]) S hH hK hj hl.1 (mm_sign l G (psS σ0 v) 42 _ (by omega) (by omega)) (lw_S q1767 q1768 q109 q1769) kd_X4_sign rfl rfl dX4_readTerm_8 (hR := ⟨by dsimp only [rmD]; omega, by dsimp only [rmD]; omega⟩)) hH hA (fun H locs hH => ?_)
      refine W.eq (g2 := F0 m 11 ls (.int (iI 142) :: .ref (G.2.2 0) :: [])) (by rfl) ?_
      refine m_calliF (m_runV (As := [.int (iI 142)]) (rest := []) S hH hK hj hl.1 (mm_takes l G σ0 t v 142 _ hT hBv (by omega) (by omega)) (lw_V q1747 q1749 qs62 q109 q1750) kd_X4_takes rfl rfl dX4_readTerm_11 (hR := ⟨by dsimp only [rmD]; omega, by dsimp only [rmD]; omega⟩)) hH hA (fun H locs hH => ?_)
      refine z_if_ne (tgt := 29) hx hb dX4_readTerm_14 (by decide) (fun c_14 => ?_) (fun c_14 => ?_)
      · -- 14T
        rw [if_pos c_14] at hH
        rw [if_pos (Or.inl c_14)] at hlp
        obtain ⟨s2, e3, e4⟩ := Option.bind_eq_some_iff.mp hlp
        have hB3 : BS t (advP v) := BS_adv hT hBv (by rw [c_14.2]; omega)
        refine lv_aload_n hx hb dX4_readTerm_29 rfl (lv_at hl 0 rfl) ?_
        refine lv_iload_n hx hb dX4_readTerm_30 rfl (lv_at hl 1 rfl) ?_
        refine m_callvF (m_runV (As := [.int (iI deep)]) (rest := []) S hH hK hj hl.1 (IH_readPart σ0 t (advP v) s2 deep _ hT hB3 hd0 hd8 e3) (lw_V q1763 q1765 qs66 q109 q1766) kd_X4_readPart rfl rfl dX4_readTerm_31 (hR := ⟨by dsimp only [rmD]; omega, by dsimp only [rmD]; omega⟩)) hH hA (fun H locs hH => ?_)
        refine lv_goto (tgt := 5) hx hb dX4_readTerm_34 (by decide) ?_
        have hl : lv_has ls 2 [(0, .ref (G.2.2 0)), (1, .int (iI deep))] := lv_sub hl [0, 1] rfl
        refine ih_5 s2 ?_ ?_ _ _ _ hH hl
        · exact BS_rd hT _ _ _ _ _ hB3 e3
        · exact e4
      · -- 14F
        rw [if_neg c_14] at hH
        refine lv_aload_n hx hb dX4_readTerm_17 rfl (lv_at hl 0 rfl) ?_
        refine n_bipush (z := 47) hx hb dX4_readTerm_18 (by decide) ?_
        refine m_calliF (m_runS (As := [.int (iI 47)]) (rest := [.ref (G.2.2 0)]) S hH hK hj hl.1 (mm_sign l G (psS σ0 v) 47 _ (by omega) (by omega)) (lw_S q1767 q1768 q109 q1769) kd_X4_sign rfl rfl dX4_readTerm_20 (hR := ⟨by dsimp only [rmD]; omega, by dsimp only [rmD]; omega⟩)) hH hA (fun H locs hH => ?_)
        refine W.eq (g2 := F0 m 23 ls (.int (iI 147) :: .ref (G.2.2 0) :: [])) (by rfl) ?_
        refine m_calliF (m_runV (As := [.int (iI 147)]) (rest := []) S hH hK hj hl.1 (mm_takes l G σ0 t v 147 _ hT hBv (by omega) (by omega)) (lw_V q1747 q1749 qs62 q109 q1750) kd_X4_takes rfl rfl dX4_readTerm_23 (hR := ⟨by dsimp only [rmD]; omega, by dsimp only [rmD]; omega⟩)) hH hA (fun H locs hH => ?_)
        refine z_if_eq (tgt := 37) hx hb dX4_readTerm_26 (by decide) (fun c_26 => ?_) (fun c_26 => ?_)
        · -- 26T
          rw [if_neg c_26] at hH
          rw [if_neg (fun q => q.elim c_14 c_26)] at hlp
          refine m_vret hx hb hr hlk hH dX4_readTerm_37 ?_
          cases hlp
          rfl
        · -- 26F
          rw [if_pos c_26] at hH
          rw [if_pos (Or.inr c_26)] at hlp
          obtain ⟨s2, e3, e4⟩ := Option.bind_eq_some_iff.mp hlp
          have hB3 : BS t (advP v) := BS_adv hT hBv (by rw [c_26.2]; omega)
          refine lv_aload_n hx hb dX4_readTerm_29 rfl (lv_at hl 0 rfl) ?_
          refine lv_iload_n hx hb dX4_readTerm_30 rfl (lv_at hl 1 rfl) ?_
          refine m_callvF (m_runV (As := [.int (iI deep)]) (rest := []) S hH hK hj hl.1 (IH_readPart σ0 t (advP v) s2 deep _ hT hB3 hd0 hd8 e3) (lw_V q1763 q1765 qs66 q109 q1766) kd_X4_readPart rfl rfl dX4_readTerm_31 (hR := ⟨by dsimp only [rmD]; omega, by dsimp only [rmD]; omega⟩)) hH hA (fun H locs hH => ?_)
          refine lv_goto (tgt := 5) hx hb dX4_readTerm_34 (by decide) ?_
          have hl : lv_has ls 2 [(0, .ref (G.2.2 0)), (1, .int (iI deep))] := lv_sub hl [0, 1] rfl
          refine ih_5 s2 ?_ ?_ _ _ _ hH hl
          · exact BS_rd hT _ _ _ _ _ hB3 e3
          · exact e4
  refine lv_aload_n hx hb dX4_readTerm_0 rfl (lv_at hl 0 rfl) ?_
  refine lv_iload_n hx hb dX4_readTerm_1 rfl (lv_at hl 1 rfl) ?_
  refine m_callvF (m_runV (As := [.int (iI deep)]) (rest := []) S hH hK hj hl.1 (IH_readPart σ0 t u s1 deep _ hT hB hd0 hd8 e1) (lw_V q1763 q1765 qs66 q109 q1766) kd_X4_readPart rfl rfl dX4_readTerm_2 (hR := ⟨by dsimp only [rmD]; omega, by dsimp only [rmD]; omega⟩)) hH hA (fun H locs hH => ?_)
  have hl : lv_has ls 2 [(0, .ref (G.2.2 0)), (1, .int (iI deep))] := lv_sub hl [0, 1] rfl
  refine L5 402 s1 ?_ ?_ _ _ _ hH hl
  · exact BS_rd hT _ _ _ _ _ hB e1
  · exact e2
theorem ms_readSum (l : Launch) (G : MG) (n : Nat) (IH_readTerm : SRd l G yX4_readTerm cX4_readTerm 2 1 n) : SRd l G yX4_readSum cX4_readSum 2 2 (n + 1) := by
  intro σ0 t u u' deep sz hT hB hd0 hd8 he
  refine m_start (by decide) (Nat.le_of_ble_eq_true rfl) ?_
  intro p e s m below meth c ⟨S, hr, hlk, hH, hK, hj, hsz, hnm⟩ ls hl
  subst hsz
  obtain ⟨hx, hb, hml, hown, hts⟩ := S
  have S : CallFix p m c _ _ s _ lw_all RX4 := ⟨hx, hb, hml, hown, hts⟩
  have hA : ∀ q, s.heap.size ≤ q → mA G (psS σ0 u) s.heap.size q := fun q hq => Or.inr hq
  have hl : lv_has ls 2 [(0, .ref (G.2.2 0)), (1, .int (iI deep))] := hl
  have b0 := hB
  unfold BS at b0
  have t0 := hT
  unfold TK at t0
  have t1 := t0.2.2 u.1 (by omega) (by omega)
  simp only [rd] at he
  obtain ⟨s1, e1, e2⟩ := Option.bind_eq_some_iff.mp he
  have L5 : ∀ (k : Nat) (v : PS), (hBv : BS t v) → (hlp : lpR (σ0 11) 143 145 (rd (σ0 11) (σ0 12) (σ0 13) n 1 deep) k v = some u') → ∀ (H : Heap) (locs : List Loc) (ls : Array Slot), MH G (mA G (psS σ0 u) s.heap.size) (psS σ0 v) s.heap H locs → lv_has ls 2 [(0, .ref (G.2.2 0)), (1, .int (iI deep))] → W p l e (rmD (n + 1 + 4)) s m ([.ref (G.2.2 0), .int (iI deep)] : List Value).toArray below meth c H locs 0 0 (MQ below (mQv G (psS σ0 u) s.heap.size (fun σ' => σ' = psS σ0 u')) ([.ref (G.2.2 0), .int (iI deep)] : List Value).toArray s 0 0 (mA G (psS σ0 u) s.heap.size)) (F0 m 5 ls []) := by
    intro k
    induction k with
    | zero => intro v hBv hlp; rw [lpR] at hlp; cases hlp
    | succ k ih_5 =>
      intro v hBv hlp H locs ls hH hl
      rw [lpR] at hlp
      refine lv_aload_n hx hb dX4_readSum_5 rfl (lv_at hl 0 rfl) ?_
      refine n_bipush (z := 43) hx hb dX4_readSum_6 (by decide) ?_
      refine m_calliF (m_runS (As := [.int (iI 43)]) (rest := [.ref (G.2.2 0)]) S hH hK hj hl.1 (mm_sign l G (psS σ0 v) 43 _ (by omega) (by omega)) (lw_S q1767 q1768 q109 q1769) kd_X4_sign rfl rfl dX4_readSum_8 (hR := ⟨by dsimp only [rmD]; omega, by dsimp only [rmD]; omega⟩)) hH hA (fun H locs hH => ?_)
      refine W.eq (g2 := F0 m 11 ls (.int (iI 143) :: .ref (G.2.2 0) :: [])) (by rfl) ?_
      refine m_calliF (m_runV (As := [.int (iI 143)]) (rest := []) S hH hK hj hl.1 (mm_takes l G σ0 t v 143 _ hT hBv (by omega) (by omega)) (lw_V q1747 q1749 qs62 q109 q1750) kd_X4_takes rfl rfl dX4_readSum_11 (hR := ⟨by dsimp only [rmD]; omega, by dsimp only [rmD]; omega⟩)) hH hA (fun H locs hH => ?_)
      refine z_if_ne (tgt := 29) hx hb dX4_readSum_14 (by decide) (fun c_14 => ?_) (fun c_14 => ?_)
      · -- 14T
        rw [if_pos c_14] at hH
        rw [if_pos (Or.inl c_14)] at hlp
        obtain ⟨s2, e3, e4⟩ := Option.bind_eq_some_iff.mp hlp
        have hB3 : BS t (advP v) := BS_adv hT hBv (by rw [c_14.2]; omega)
        refine lv_aload_n hx hb dX4_readSum_29 rfl (lv_at hl 0 rfl) ?_
        refine lv_iload_n hx hb dX4_readSum_30 rfl (lv_at hl 1 rfl) ?_
        refine m_callvF (m_runV (As := [.int (iI deep)]) (rest := []) S hH hK hj hl.1 (IH_readTerm σ0 t (advP v) s2 deep _ hT hB3 hd0 hd8 e3) (lw_V q1759 q1761 qs65 q109 q1762) kd_X4_readTerm rfl rfl dX4_readSum_31 (hR := ⟨by dsimp only [rmD]; omega, by dsimp only [rmD]; omega⟩)) hH hA (fun H locs hH => ?_)
        refine lv_goto (tgt := 5) hx hb dX4_readSum_34 (by decide) ?_
        have hl : lv_has ls 2 [(0, .ref (G.2.2 0)), (1, .int (iI deep))] := lv_sub hl [0, 1] rfl
        refine ih_5 s2 ?_ ?_ _ _ _ hH hl
        · exact BS_rd hT _ _ _ _ _ hB3 e3
        · exact e4
      · -- 14F
        rw [if_neg c_14] at hH
        refine lv_aload_n hx hb dX4_readSum_17 rfl (lv_at hl 0 rfl) ?_
        refine n_bipush (z := 45) hx hb dX4_readSum_18 (by decide) ?_
        refine m_calliF (m_runS (As := [.int (iI 45)]) (rest := [.ref (G.2.2 0)]) S hH hK hj hl.1 (mm_sign l G (psS σ0 v) 45 _ (by omega) (by omega)) (lw_S q1767 q1768 q109 q1769) kd_X4_sign rfl rfl dX4_readSum_20 (hR := ⟨by dsimp only [rmD]; omega, by dsimp only [rmD]; omega⟩)) hH hA (fun H locs hH => ?_)
        refine W.eq (g2 := F0 m 23 ls (.int (iI 145) :: .ref (G.2.2 0) :: [])) (by rfl) ?_
        refine m_calliF (m_runV (As := [.int (iI 145)]) (rest := []) S hH hK hj hl.1 (mm_takes l G σ0 t v 145 _ hT hBv (by omega) (by omega)) (lw_V q1747 q1749 qs62 q109 q1750) kd_X4_takes rfl rfl dX4_readSum_23 (hR := ⟨by dsimp only [rmD]; omega, by dsimp only [rmD]; omega⟩)) hH hA (fun H locs hH => ?_)
        refine z_if_eq (tgt := 37) hx hb dX4_readSum_26 (by decide) (fun c_26 => ?_) (fun c_26 => ?_)
        · -- 26T
          rw [if_neg c_26] at hH
          rw [if_neg (fun q => q.elim c_14 c_26)] at hlp
          refine m_vret hx hb hr hlk hH dX4_readSum_37 ?_
          cases hlp
          rfl
        · -- 26F
          rw [if_pos c_26] at hH
          rw [if_pos (Or.inr c_26)] at hlp
          obtain ⟨s2, e3, e4⟩ := Option.bind_eq_some_iff.mp hlp
          have hB3 : BS t (advP v) := BS_adv hT hBv (by rw [c_26.2]; omega)
          refine lv_aload_n hx hb dX4_readSum_29 rfl (lv_at hl 0 rfl) ?_
          refine lv_iload_n hx hb dX4_readSum_30 rfl (lv_at hl 1 rfl) ?_
          refine m_callvF (m_runV (As := [.int (iI deep)]) (rest := []) S hH hK hj hl.1 (IH_readTerm σ0 t (advP v) s2 deep _ hT hB3 hd0 hd8 e3) (lw_V q1759 q1761 qs65 q109 q1762) kd_X4_readTerm rfl rfl dX4_readSum_31 (hR := ⟨by dsimp only [rmD]; omega, by dsimp only [rmD]; omega⟩)) hH hA (fun H locs hH => ?_)
          refine lv_goto (tgt := 5) hx hb dX4_readSum_34 (by decide) ?_
          have hl : lv_has ls 2 [(0, .ref (G.2.2 0)), (1, .int (iI deep))] := lv_sub hl [0, 1] rfl
          refine ih_5 s2 ?_ ?_ _ _ _ hH hl
          · exact BS_rd hT _ _ _ _ _ hB3 e3
          · exact e4
  refine lv_aload_n hx hb dX4_readSum_0 rfl (lv_at hl 0 rfl) ?_
  refine lv_iload_n hx hb dX4_readSum_1 rfl (lv_at hl 1 rfl) ?_
  refine m_callvF (m_runV (As := [.int (iI deep)]) (rest := []) S hH hK hj hl.1 (IH_readTerm σ0 t u s1 deep _ hT hB hd0 hd8 e1) (lw_V q1759 q1761 qs65 q109 q1762) kd_X4_readTerm rfl rfl dX4_readSum_2 (hR := ⟨by dsimp only [rmD]; omega, by dsimp only [rmD]; omega⟩)) hH hA (fun H locs hH => ?_)
  have hl : lv_has ls 2 [(0, .ref (G.2.2 0)), (1, .int (iI deep))] := lv_sub hl [0, 1] rfl
  refine L5 402 s1 ?_ ?_ _ _ _ hH hl
  · exact BS_rd hT _ _ _ _ _ hB e1
  · exact e2
theorem ms_readPlain (l : Launch) (G : MG) (n : Nat) (IH_readTest : SRd l G yX4_readTest cX4_readTest 2 5 n) (IH_readSum : SRd l G yX4_readSum cX4_readSum 2 2 n) : SRd l G yX4_readPlain cX4_readPlain 4 3 (n + 1) := by
  intro σ0 t u u' deep sz hT hB hd0 hd8 he
  refine m_start (by decide) (Nat.le_of_ble_eq_true rfl) ?_
  intro p e s m below meth c ⟨S, hr, hlk, hH, hK, hj, hsz, hnm⟩ ls hl
  subst hsz
  obtain ⟨hx, hb, hml, hown, hts⟩ := S
  have S : CallFix p m c _ _ s _ lw_all RX4 := ⟨hx, hb, hml, hown, hts⟩
  have hA : ∀ q, s.heap.size ≤ q → mA G (psS σ0 u) s.heap.size q := fun q hq => Or.inr hq
  have hl : lv_has ls 4 [(0, .ref (G.2.2 0)), (1, .int (iI deep))] := hl
  have b0 := hB
  unfold BS at b0
  have t0 := hT
  unfold TK at t0
  have t1 := t0.2.2 u.1 (by omega) (by omega)
  simp only [rd] at he
  obtain ⟨s1, e1, e2⟩ := Option.bind_eq_some_iff.mp he
  have hB1 : BS t s1 := BS_lp (c1 := 9) (c2 := 9) hT (by omega) (by omega) (fun a b ha hb => by cases hb; exact ha) _ _ _ hB e1
  have L16 :  ∀ (H : Heap) (locs : List Loc) (ls : Array Slot), MH G (mA G (psS σ0 u) s.heap.size) (psS σ0 s1) s.heap H locs → lv_has ls 4 [(0, .ref (G.2.2 0)), (1, .int (iI deep))] → W p l e (rmD (n + 1 + 4)) s m ([.ref (G.2.2 0), .int (iI deep)] : List Value).toArray below meth c H locs 0 0 (MQ below (mQv G (psS σ0 u) s.heap.size (fun σ' => σ' = psS σ0 u')) ([.ref (G.2.2 0), .int (iI deep)] : List Value).toArray s 0 0 (mA G (psS σ0 u) s.heap.size)) (F0 m 16 ls []) := by
    intro  H locs ls hH hl
    have b1 := hB1
    unfold BS at b1
    have t2 := t0.2.2 s1.1 (by omega) (by omega)
    have L147 : ∀ (v2 : PS), (hB5 : BS t v2) → (e5 : rd (σ0 11) (σ0 12) (σ0 13) n 2 deep v2 = some u') → ∀ (H : Heap) (locs : List Loc) (ls : Array Slot), MH G (mA G (psS σ0 u) s.heap.size) (psS σ0 v2) s.heap H locs → lv_has ls 4 [(0, .ref (G.2.2 0)), (1, .int (iI deep))] → W p l e (rmD (n + 1 + 4)) s m ([.ref (G.2.2 0), .int (iI deep)] : List Value).toArray below meth c H locs 0 0 (MQ below (mQv G (psS σ0 u) s.heap.size (fun σ' => σ' = psS σ0 u')) ([.ref (G.2.2 0), .int (iI deep)] : List Value).toArray s 0 0 (mA G (psS σ0 u) s.heap.size)) (F0 m 147 ls []) := by
      intro v2 hB5 e5 H locs ls hH hl
      refine lv_aload_n hx hb dX4_readPlain_147 rfl (lv_at hl 0 rfl) ?_
      refine lv_iload_n hx hb dX4_readPlain_148 rfl (lv_at hl 1 rfl) ?_
      refine m_callvF (m_runV (As := [.int (iI deep)]) (rest := []) S hH hK hj hl.1 (IH_readSum σ0 t v2 u' deep _ hT hB5 hd0 hd8 e5) (lw_V q1755 q1757 qs64 q109 q1758) kd_X4_readSum rfl rfl dX4_readPlain_149 (hR := ⟨by dsimp only [rmD]; omega, by dsimp only [rmD]; omega⟩)) hH hA (fun H locs hH => ?_)
      refine m_vret hx hb hr hlk hH dX4_readPlain_152 ?_
      rfl
    have L53 : ∀ (τ : St), (hτ : τ = psS σ0 (opnP (σ0 13) deep s1)) → (c_20 : s1.2.2 = -1) → (c_40 : σ0 11 s1.1 = 140) → ∀ (H : Heap) (locs : List Loc) (ls : Array Slot), MH G (mA G (psS σ0 u) s.heap.size) τ s.heap H locs → lv_has ls 4 [(0, .ref (G.2.2 0)), (1, .int (iI deep))] → W p l e (rmD (n + 1 + 4)) s m ([.ref (G.2.2 0), .int (iI deep)] : List Value).toArray below meth c H locs 0 0 (MQ below (mQv G (psS σ0 u) s.heap.size (fun σ' => σ' = psS σ0 u')) ([.ref (G.2.2 0), .int (iI deep)] : List Value).toArray s 0 0 (mA G (psS σ0 u) s.heap.size)) (F0 m 53 ls []) := by
      intro τ hτ c_20 c_40 H locs ls hH hl
      subst hτ
      rw [if_pos c_20, if_pos c_40] at e2
      have hB2 : BS t (opnP (σ0 13) deep s1) := BS_opn hT hB1
      have b2 := hB2
      unfold BS at b2
      refine lv_aload_n hx hb dX4_readPlain_53 rfl (lv_at hl 0 rfl) ?_
      refine m_calliF (m_runV (As := []) (rest := []) S hH hK hj hl.1 (mm_fine l G σ0 t (opnP (σ0 13) deep s1) _ hT hB2) (lw_V q1751 q1753 qs63 q109 q1754) kd_X4_fine rfl rfl dX4_readPlain_54 (hR := ⟨by dsimp only [rmD]; omega, by dsimp only [rmD]; omega⟩)) hH hA (fun H locs hH => ?_)
      refine z_if_ne (tgt := 61) hx hb dX4_readPlain_57 (by decide) (fun c_57 => ?_) (fun c_57 => ?_)
      · -- 57T
        rw [if_pos c_57] at e2
        obtain ⟨s2, e3, e4⟩ := Option.map_eq_some_iff.mp e2
        have hB3 : BS t (advP (opnP (σ0 13) deep s1)) := BS_adv hT hB2 (by rw [opnP_1, c_40]; omega)
        have hd7 : deep ≤ 7 := by
          rcases Int.lt_or_le deep 8 with q | q
          · omega
          · exact absurd c_57 (by unfold opnP; rw [if_pos (by omega)]; exact fauP_bad hT hB1)
        refine lv_aload_n hx hb dX4_readPlain_61 rfl (lv_at hl 0 rfl) ?_
        refine lv_dup hx hb dX4_readPlain_62 rfl ?_
        refine m_get 15 (by decide) hx hb hts hown hK hj hH q1488 (fun _ h9 => h9) rfl dX4_readPlain_63 ?_
        refine W.eq (g2 := F0 m 66 ls (.int (iI ((opnP (σ0 13) deep s1).1)) :: .ref (G.2.2 0) :: [])) rfl ?_
        refine n_iconst hx hb dX4_readPlain_66 ?_
        refine n_iadd hx hb dX4_readPlain_67 ?_
        refine mp_15 hx hb hts hown hK hj hH q1488 (fun _ h9 => h9) dX4_readPlain_68 (fun H locs hH => ?_)
        have hH := MH_to hH (τ := psS σ0 (((opnP (σ0 13) deep s1).1) + 1, (opnP (σ0 13) deep s1).2.1, (opnP (σ0 13) deep s1).2.2)) psS_15
        refine lv_aload_n hx hb dX4_readPlain_71 rfl (lv_at hl 0 rfl) ?_
        refine lv_iload_n hx hb dX4_readPlain_72 rfl (lv_at hl 1 rfl) ?_
        refine n_iconst hx hb dX4_readPlain_73 ?_
        refine n_iadd hx hb dX4_readPlain_74 ?_
        refine m_callvF (m_runV (As := [.int (iI (deep + 1))]) (rest := []) S hH hK hj hl.1 (IH_readTest σ0 t (advP (opnP (σ0 13) deep s1)) s2 (deep + 1) _ hT hB3 (by omega) (by omega) e3) (lw_V q1783 q1785 qs70 q109 q1786) kd_X4_readTest rfl rfl dX4_readPlain_75 (hR := ⟨by dsimp only [rmD]; omega, by dsimp only [rmD]; omega⟩)) hH hA (fun H locs hH => ?_)
        refine lv_aload_n hx hb dX4_readPlain_78 rfl (lv_at hl 0 rfl) ?_
        refine n_bipush (z := 41) hx hb dX4_readPlain_79 (by decide) ?_
        refine m_calliF (m_runS (As := [.int (iI 41)]) (rest := [.ref (G.2.2 0)]) S hH hK hj hl.1 (mm_sign l G (psS σ0 s2) 41 _ (by omega) (by omega)) (lw_S q1767 q1768 q109 q1769) kd_X4_sign rfl rfl dX4_readPlain_81 (hR := ⟨by dsimp only [rmD]; omega, by dsimp only [rmD]; omega⟩)) hH hA (fun H locs hH => ?_)
        refine W.eq (g2 := F0 m 84 ls (.int (iI 141) :: .ref (G.2.2 0) :: [])) (by rfl) ?_
        refine m_callvF (m_runV (As := [.int (iI 141)]) (rest := []) S hH hK hj hl.1 (mm_must l G σ0 t s2 141 _ hT (BS_rd hT _ _ _ _ _ hB3 e3) (by omega) (by omega)) (lw_V q1774 q1776 qs68 q109 q1777) kd_X4_must rfl rfl dX4_readPlain_84 (hR := ⟨by dsimp only [rmD]; omega, by dsimp only [rmD]; omega⟩)) hH hA (fun H locs hH => ?_)
        refine lv_goto (tgt := 152) hx hb dX4_readPlain_87 (by decide) ?_
        refine m_vret hx hb hr hlk hH dX4_readPlain_152 ?_
        rw [e4]
      · -- 57F
        rw [if_neg c_57] at e2
        refine m_vret hx hb hr hlk hH dX4_readPlain_60 ?_
        cases e2
        rfl
    refine lv_aload_n hx hb dX4_readPlain_16 rfl (lv_at hl 0 rfl) ?_
    refine m_calliF (m_runV (As := []) (rest := []) S hH hK hj hl.1 (mm_fine l G σ0 t s1 _ hT hB1) (lw_V q1751 q1753 qs63 q109 q1754) kd_X4_fine rfl rfl dX4_readPlain_17 (hR := ⟨by dsimp only [rmD]; omega, by dsimp only [rmD]; omega⟩)) hH hA (fun H locs hH => ?_)
    refine z_if_ne (tgt := 24) hx hb dX4_readPlain_20 (by decide) (fun c_20 => ?_) (fun c_20 => ?_)
    · -- 20T
      rw [if_pos c_20] at e2
      refine lv_aload_n hx hb dX4_readPlain_24 rfl (lv_at hl 0 rfl) ?_
      refine m_get 11 (by decide) hx hb hts hown hK hj hH q1484 (fun _ h9 => h9) rfl dX4_readPlain_25 ?_
      refine lv_aload_n hx hb dX4_readPlain_28 rfl (lv_at hl 0 rfl) ?_
      refine m_get 15 (by decide) hx hb hts hown hK hj hH q1488 (fun _ h9 => h9) rfl dX4_readPlain_29 ?_
      refine W.eq (g2 := F0 m 32 ls (.int (iI s1.1) :: .ref (G.2.2 11) :: [])) rfl ?_
      refine ml_11 hx hb hK hj hH (by omega) (by omega) dX4_readPlain_32 ?_
      refine W.eq (g2 := F0 m 33 ls (.int (iI (σ0 11 s1.1)) :: [])) rfl ?_
      refine lv_istore_n hx hb dX4_readPlain_33 rfl hl (Nat.le_of_ble_eq_true rfl) (lv' := [(3, .int (iI (σ0 11 s1.1))), (0, .ref (G.2.2 0)), (1, .int (iI deep))]) rfl (fun ls hl => ?_)
      refine lv_iload_n hx hb dX4_readPlain_34 rfl (lv_at hl 0 rfl) ?_
      refine n_bipush (z := 40) hx hb dX4_readPlain_35 (by decide) ?_
      refine m_calliF (m_runS (As := [.int (iI 40)]) (rest := [.int (iI (σ0 11 s1.1))]) S hH hK hj hl.1 (mm_sign l G (psS σ0 s1) 40 _ (by omega) (by omega)) (lw_S q1767 q1768 q109 q1769) kd_X4_sign rfl rfl dX4_readPlain_37 (hR := ⟨by dsimp only [rmD]; omega, by dsimp only [rmD]; omega⟩)) hH hA (fun H locs hH => ?_)
      refine W.eq (g2 := F0 m 40 ls (.int (iI 140) :: .int (iI (σ0 11 s1.1)) :: [])) (by rfl) ?_
      refine n_icmp_ne (tgt := 90) hx hb (r32 (by omega)) (r32 (by omega)) dX4_readPlain_40 (by decide) (fun c_40 => ?_) (fun c_40 => ?_)
      · -- 40T
        rw [if_neg c_40] at e2
        refine lv_iload_n hx hb dX4_readPlain_90 rfl (lv_at hl 0 rfl) ?_
        refine n_bipush (z := 10) hx hb dX4_readPlain_91 (by decide) ?_
        refine n_icmp_lt (tgt := 109) hx hb (r32 (by omega)) (r32 (by omega)) dX4_readPlain_93 (by decide) (fun c_93 => ?_) (fun c_93 => ?_)
        · -- 93T
          rw [if_neg (by omega)] at e2
          obtain ⟨s2, e3, e4⟩ := Option.bind_eq_some_iff.mp e2
          have hB4 : BS t s2 := BS_rd hT _ _ _ _ _ hB1 e3
          refine lv_aload_n hx hb dX4_readPlain_109 rfl (lv_at hl 1 rfl) ?_
          refine lv_iload_n hx hb dX4_readPlain_110 rfl (lv_at hl 2 rfl) ?_
          refine m_callvF (m_runV (As := [.int (iI deep)]) (rest := []) S hH hK hj hl.1 (IH_readSum σ0 t s1 s2 deep _ hT hB1 hd0 hd8 e3) (lw_V q1755 q1757 qs64 q109 q1758) kd_X4_readSum rfl rfl dX4_readPlain_111 (hR := ⟨by dsimp only [rmD]; omega, by dsimp only [rmD]; omega⟩)) hH hA (fun H locs hH => ?_)
          refine lv_aload_n hx hb dX4_readPlain_114 rfl (lv_at hl 1 rfl) ?_
          refine n_bipush (z := 60) hx hb dX4_readPlain_115 (by decide) ?_
          refine m_calliF (m_runS (As := [.int (iI 60)]) (rest := [.ref (G.2.2 0)]) S hH hK hj hl.1 (mm_sign l G (psS σ0 s2) 60 _ (by omega) (by omega)) (lw_S q1767 q1768 q109 q1769) kd_X4_sign rfl rfl dX4_readPlain_117 (hR := ⟨by dsimp only [rmD]; omega, by dsimp only [rmD]; omega⟩)) hH hA (fun H locs hH => ?_)
          refine W.eq (g2 := F0 m 120 ls (.int (iI 160) :: .ref (G.2.2 0) :: [])) (by rfl) ?_
          refine m_calliF (m_runV (As := [.int (iI 160)]) (rest := []) S hH hK hj hl.1 (mm_takes l G σ0 t s2 160 _ hT hB4 (by omega) (by omega)) (lw_V q1747 q1749 qs62 q109 q1750) kd_X4_takes rfl rfl dX4_readPlain_120 (hR := ⟨by dsimp only [rmD]; omega, by dsimp only [rmD]; omega⟩)) hH hA (fun H locs hH => ?_)
          refine z_if_ne (tgt := 147) hx hb dX4_readPlain_123 (by decide) (fun c_123 => ?_) (fun c_123 => ?_)
          · -- 123T
            rw [if_pos c_123] at hH
            have hl : lv_has ls 4 [(0, .ref (G.2.2 0)), (1, .int (iI deep))] := lv_sub hl [1, 2] rfl
            refine L147 _ ?_ ?_ _ _ _ hH hl
            · exact BS_adv hT hB4 (by rw [c_123.2]; omega)
            · rw [if_pos (Or.inl c_123)] at e4
              exact e4
          · -- 123F
            rw [if_neg c_123] at hH
            refine lv_aload_n hx hb dX4_readPlain_126 rfl (lv_at hl 1 rfl) ?_
            refine n_bipush (z := 62) hx hb dX4_readPlain_127 (by decide) ?_
            refine m_calliF (m_runS (As := [.int (iI 62)]) (rest := [.ref (G.2.2 0)]) S hH hK hj hl.1 (mm_sign l G (psS σ0 s2) 62 _ (by omega) (by omega)) (lw_S q1767 q1768 q109 q1769) kd_X4_sign rfl rfl dX4_readPlain_129 (hR := ⟨by dsimp only [rmD]; omega, by dsimp only [rmD]; omega⟩)) hH hA (fun H locs hH => ?_)
            refine W.eq (g2 := F0 m 132 ls (.int (iI 162) :: .ref (G.2.2 0) :: [])) (by rfl) ?_
            refine m_calliF (m_runV (As := [.int (iI 162)]) (rest := []) S hH hK hj hl.1 (mm_takes l G σ0 t s2 162 _ hT hB4 (by omega) (by omega)) (lw_V q1747 q1749 qs62 q109 q1750) kd_X4_takes rfl rfl dX4_readPlain_132 (hR := ⟨by dsimp only [rmD]; omega, by dsimp only [rmD]; omega⟩)) hH hA (fun H locs hH => ?_)
            refine z_if_ne (tgt := 147) hx hb dX4_readPlain_135 (by decide) (fun c_135 => ?_) (fun c_135 => ?_)
            · -- 135T
              rw [if_pos c_135] at hH
              have hl : lv_has ls 4 [(0, .ref (G.2.2 0)), (1, .int (iI deep))] := lv_sub hl [1, 2] rfl
              refine L147 _ ?_ ?_ _ _ _ hH hl
              · exact BS_adv hT hB4 (by rw [c_135.2]; omega)
              · rw [if_pos (Or.inr c_135)] at e4
                exact e4
            · -- 135F
              rw [if_neg c_135] at hH
              refine lv_aload_n hx hb dX4_readPlain_138 rfl (lv_at hl 1 rfl) ?_
              refine n_bipush (z := 61) hx hb dX4_readPlain_139 (by decide) ?_
              refine m_calliF (m_runS (As := [.int (iI 61)]) (rest := [.ref (G.2.2 0)]) S hH hK hj hl.1 (mm_sign l G (psS σ0 s2) 61 _ (by omega) (by omega)) (lw_S q1767 q1768 q109 q1769) kd_X4_sign rfl rfl dX4_readPlain_141 (hR := ⟨by dsimp only [rmD]; omega, by dsimp only [rmD]; omega⟩)) hH hA (fun H locs hH => ?_)
              refine W.eq (g2 := F0 m 144 ls (.int (iI 161) :: .ref (G.2.2 0) :: [])) (by rfl) ?_
              refine m_callvF (m_runV (As := [.int (iI 161)]) (rest := []) S hH hK hj hl.1 (mm_must l G σ0 t s2 161 _ hT hB4 (by omega) (by omega)) (lw_V q1774 q1776 qs68 q109 q1777) kd_X4_must rfl rfl dX4_readPlain_144 (hR := ⟨by dsimp only [rmD]; omega, by dsimp only [rmD]; omega⟩)) hH hA (fun H locs hH => ?_)
              have hl : lv_has ls 4 [(0, .ref (G.2.2 0)), (1, .int (iI deep))] := lv_sub hl [1, 2] rfl
              refine L147 _ ?_ ?_ _ _ _ hH hl
              · exact BS_mus hT hB4 (by omega)
              · rw [if_neg (fun q => q.elim c_123 c_135)] at e4
                exact e4
        · -- 93F
          refine lv_iload_n hx hb dX4_readPlain_96 rfl (lv_at hl 0 rfl) ?_
          refine n_bipush (z := 16) hx hb dX4_readPlain_97 (by decide) ?_
          refine n_icmp_gt (tgt := 109) hx hb (r32 (by omega)) (r32 (by omega)) dX4_readPlain_99 (by decide) (fun c_99 => ?_) (fun c_99 => ?_)
          · -- 99T
            rw [if_neg (by omega)] at e2
            obtain ⟨s2, e3, e4⟩ := Option.bind_eq_some_iff.mp e2
            have hB4 : BS t s2 := BS_rd hT _ _ _ _ _ hB1 e3
            refine lv_aload_n hx hb dX4_readPlain_109 rfl (lv_at hl 1 rfl) ?_
            refine lv_iload_n hx hb dX4_readPlain_110 rfl (lv_at hl 2 rfl) ?_
            refine m_callvF (m_runV (As := [.int (iI deep)]) (rest := []) S hH hK hj hl.1 (IH_readSum σ0 t s1 s2 deep _ hT hB1 hd0 hd8 e3) (lw_V q1755 q1757 qs64 q109 q1758) kd_X4_readSum rfl rfl dX4_readPlain_111 (hR := ⟨by dsimp only [rmD]; omega, by dsimp only [rmD]; omega⟩)) hH hA (fun H locs hH => ?_)
            refine lv_aload_n hx hb dX4_readPlain_114 rfl (lv_at hl 1 rfl) ?_
            refine n_bipush (z := 60) hx hb dX4_readPlain_115 (by decide) ?_
            refine m_calliF (m_runS (As := [.int (iI 60)]) (rest := [.ref (G.2.2 0)]) S hH hK hj hl.1 (mm_sign l G (psS σ0 s2) 60 _ (by omega) (by omega)) (lw_S q1767 q1768 q109 q1769) kd_X4_sign rfl rfl dX4_readPlain_117 (hR := ⟨by dsimp only [rmD]; omega, by dsimp only [rmD]; omega⟩)) hH hA (fun H locs hH => ?_)
            refine W.eq (g2 := F0 m 120 ls (.int (iI 160) :: .ref (G.2.2 0) :: [])) (by rfl) ?_
            refine m_calliF (m_runV (As := [.int (iI 160)]) (rest := []) S hH hK hj hl.1 (mm_takes l G σ0 t s2 160 _ hT hB4 (by omega) (by omega)) (lw_V q1747 q1749 qs62 q109 q1750) kd_X4_takes rfl rfl dX4_readPlain_120 (hR := ⟨by dsimp only [rmD]; omega, by dsimp only [rmD]; omega⟩)) hH hA (fun H locs hH => ?_)
            refine z_if_ne (tgt := 147) hx hb dX4_readPlain_123 (by decide) (fun c_123 => ?_) (fun c_123 => ?_)
            · -- 123T
              rw [if_pos c_123] at hH
              have hl : lv_has ls 4 [(0, .ref (G.2.2 0)), (1, .int (iI deep))] := lv_sub hl [1, 2] rfl
              refine L147 _ ?_ ?_ _ _ _ hH hl
              · exact BS_adv hT hB4 (by rw [c_123.2]; omega)
              · rw [if_pos (Or.inl c_123)] at e4
                exact e4
            · -- 123F
              rw [if_neg c_123] at hH
              refine lv_aload_n hx hb dX4_readPlain_126 rfl (lv_at hl 1 rfl) ?_
              refine n_bipush (z := 62) hx hb dX4_readPlain_127 (by decide) ?_
              refine m_calliF (m_runS (As := [.int (iI 62)]) (rest := [.ref (G.2.2 0)]) S hH hK hj hl.1 (mm_sign l G (psS σ0 s2) 62 _ (by omega) (by omega)) (lw_S q1767 q1768 q109 q1769) kd_X4_sign rfl rfl dX4_readPlain_129 (hR := ⟨by dsimp only [rmD]; omega, by dsimp only [rmD]; omega⟩)) hH hA (fun H locs hH => ?_)
              refine W.eq (g2 := F0 m 132 ls (.int (iI 162) :: .ref (G.2.2 0) :: [])) (by rfl) ?_
              refine m_calliF (m_runV (As := [.int (iI 162)]) (rest := []) S hH hK hj hl.1 (mm_takes l G σ0 t s2 162 _ hT hB4 (by omega) (by omega)) (lw_V q1747 q1749 qs62 q109 q1750) kd_X4_takes rfl rfl dX4_readPlain_132 (hR := ⟨by dsimp only [rmD]; omega, by dsimp only [rmD]; omega⟩)) hH hA (fun H locs hH => ?_)
              refine z_if_ne (tgt := 147) hx hb dX4_readPlain_135 (by decide) (fun c_135 => ?_) (fun c_135 => ?_)
              · -- 135T
                rw [if_pos c_135] at hH
                have hl : lv_has ls 4 [(0, .ref (G.2.2 0)), (1, .int (iI deep))] := lv_sub hl [1, 2] rfl
                refine L147 _ ?_ ?_ _ _ _ hH hl
                · exact BS_adv hT hB4 (by rw [c_135.2]; omega)
                · rw [if_pos (Or.inr c_135)] at e4
                  exact e4
              · -- 135F
                rw [if_neg c_135] at hH
                refine lv_aload_n hx hb dX4_readPlain_138 rfl (lv_at hl 1 rfl) ?_
                refine n_bipush (z := 61) hx hb dX4_readPlain_139 (by decide) ?_
                refine m_calliF (m_runS (As := [.int (iI 61)]) (rest := [.ref (G.2.2 0)]) S hH hK hj hl.1 (mm_sign l G (psS σ0 s2) 61 _ (by omega) (by omega)) (lw_S q1767 q1768 q109 q1769) kd_X4_sign rfl rfl dX4_readPlain_141 (hR := ⟨by dsimp only [rmD]; omega, by dsimp only [rmD]; omega⟩)) hH hA (fun H locs hH => ?_)
                refine W.eq (g2 := F0 m 144 ls (.int (iI 161) :: .ref (G.2.2 0) :: [])) (by rfl) ?_
                refine m_callvF (m_runV (As := [.int (iI 161)]) (rest := []) S hH hK hj hl.1 (mm_must l G σ0 t s2 161 _ hT hB4 (by omega) (by omega)) (lw_V q1774 q1776 qs68 q109 q1777) kd_X4_must rfl rfl dX4_readPlain_144 (hR := ⟨by dsimp only [rmD]; omega, by dsimp only [rmD]; omega⟩)) hH hA (fun H locs hH => ?_)
                have hl : lv_has ls 4 [(0, .ref (G.2.2 0)), (1, .int (iI deep))] := lv_sub hl [1, 2] rfl
                refine L147 _ ?_ ?_ _ _ _ hH hl
                · exact BS_mus hT hB4 (by omega)
                · rw [if_neg (fun q => q.elim c_123 c_135)] at e4
                  exact e4
          · -- 99F
            refine lv_aload_n hx hb dX4_readPlain_102 rfl (lv_at hl 1 rfl) ?_
            refine m_callvF (m_runV (As := []) (rest := []) S hH hK hj hl.1 (mm_leaf l G σ0 t s1 _ hT hB1 c_20) (lw_V q1779 q1781 qs69 q109 q1782) kd_X4_leaf rfl rfl dX4_readPlain_103 (hR := ⟨by dsimp only [rmD]; omega, by dsimp only [rmD]; omega⟩)) hH hA (fun H locs hH => ?_)
            refine lv_goto (tgt := 152) hx hb dX4_readPlain_106 (by decide) ?_
            refine m_vret hx hb hr hlk hH dX4_readPlain_152 ?_
            rw [if_pos (by omega)] at e2
            cases e2
            rfl
      · -- 40F
        refine lv_iload_n hx hb dX4_readPlain_43 rfl (lv_at hl 2 rfl) ?_
        refine n_bipush (z := 8) hx hb dX4_readPlain_44 (by decide) ?_
        refine n_icmp_ne (tgt := 53) hx hb (r32 (by omega)) (r32 (by omega)) dX4_readPlain_46 (by decide) (fun c_46 => ?_) (fun c_46 => ?_)
        · -- 46T
          have hl : lv_has ls 4 [(0, .ref (G.2.2 0)), (1, .int (iI deep))] := lv_sub hl [1, 2] rfl
          refine L53 (psS σ0 s1) ?_ ?_ ?_ _ _ _ hH hl
          · unfold opnP
            first | rw [if_pos c_46] | rw [if_neg c_46]
          · omega
          · omega
        · -- 46F
          refine lv_aload_n hx hb dX4_readPlain_49 rfl (lv_at hl 1 rfl) ?_
          refine m_callvF (m_runV (As := []) (rest := []) S hH hK hj hl.1 (mm_faults l G σ0 t s1 _ hT hB1) (lw_V q1770 q1772 qs67 q109 q1773) kd_X4_faults rfl rfl dX4_readPlain_50 (hR := ⟨by dsimp only [rmD]; omega, by dsimp only [rmD]; omega⟩)) hH hA (fun H locs hH => ?_)
          have hl : lv_has ls 4 [(0, .ref (G.2.2 0)), (1, .int (iI deep))] := lv_sub hl [1, 2] rfl
          refine L53 (psS σ0 (fauP (σ0 13) s1)) ?_ ?_ ?_ _ _ _ hH hl
          · unfold opnP
            first | rw [if_pos c_46] | rw [if_neg c_46]
          · omega
          · omega
    · -- 20F
      rw [if_neg c_20] at e2
      refine m_vret hx hb hr hlk hH dX4_readPlain_23 ?_
      cases e2
      rfl
  have L6 : ∀ (k : Nat) (v : PS), (hBv : BS t v) → (hlp : lpR (σ0 11) 9 9 some k v = some s1) → ∀ (H : Heap) (locs : List Loc) (ls : Array Slot), MH G (mA G (psS σ0 u) s.heap.size) (psS σ0 v) s.heap H locs → lv_has ls 4 [(0, .ref (G.2.2 0)), (1, .int (iI deep))] → W p l e (rmD (n + 1 + 4)) s m ([.ref (G.2.2 0), .int (iI deep)] : List Value).toArray below meth c H locs 0 0 (MQ below (mQv G (psS σ0 u) s.heap.size (fun σ' => σ' = psS σ0 u')) ([.ref (G.2.2 0), .int (iI deep)] : List Value).toArray s 0 0 (mA G (psS σ0 u) s.heap.size)) (F0 m 6 ls []) := by
    intro k
    induction k with
    | zero => intro v hBv hlp; rw [lpR] at hlp; cases hlp
    | succ k ih_6 =>
      intro v hBv hlp H locs ls hH hl
      rw [lpR] at hlp
      refine lv_aload_n hx hb dX4_readPlain_6 rfl (lv_at hl 0 rfl) ?_
      refine n_bipush (z := 9) hx hb dX4_readPlain_7 (by decide) ?_
      refine m_calliF (m_runV (As := [.int (iI 9)]) (rest := []) S hH hK hj hl.1 (mm_takes l G σ0 t v 9 _ hT hBv (by omega) (by omega)) (lw_V q1747 q1749 qs62 q109 q1750) kd_X4_takes rfl rfl dX4_readPlain_9 (hR := ⟨by dsimp only [rmD]; omega, by dsimp only [rmD]; omega⟩)) hH hA (fun H locs hH => ?_)
      refine lv_istore_n hx hb dX4_readPlain_12 rfl hl (Nat.le_of_ble_eq_true rfl) (lv' := [(2, .int (iI (zb (takP (σ0 11) 9 v)))), (0, .ref (G.2.2 0)), (1, .int (iI deep))]) rfl (fun ls hl => ?_)
      refine lv_goto (tgt := 2) hx hb dX4_readPlain_13 (by decide) ?_
      refine lv_iload_n hx hb dX4_readPlain_2 rfl (lv_at hl 0 rfl) ?_
      refine z_if_eq (tgt := 16) hx hb dX4_readPlain_3 (by decide) (fun c_3 => ?_) (fun c_3 => ?_)
      · -- 3T
        rw [if_neg c_3] at hH
        rw [if_neg (fun q => q.elim c_3 c_3)] at hlp
        have hv : v = s1 := Option.some.inj hlp
        rw [hv] at hH
        have hl : lv_has ls 4 [(0, .ref (G.2.2 0)), (1, .int (iI deep))] := lv_sub hl [1, 2] rfl
        refine L16   _ _ _ hH hl
      · -- 3F
        rw [if_pos c_3] at hH
        rw [if_pos (Or.inl c_3)] at hlp
        have hl : lv_has ls 4 [(0, .ref (G.2.2 0)), (1, .int (iI deep))] := lv_sub hl [1, 2] rfl
        refine ih_6 (advP v) ?_ ?_ _ _ _ hH hl
        · exact BS_adv hT hBv (by rw [c_3.2]; omega)
        · exact hlp
  refine n_iconst hx hb dX4_readPlain_0 ?_
  refine lv_istore_n hx hb dX4_readPlain_1 rfl hl (Nat.le_of_ble_eq_true rfl) (lv' := [(2, .int (iI 1)), (0, .ref (G.2.2 0)), (1, .int (iI deep))]) rfl (fun ls hl => ?_)
  refine lv_iload_n hx hb dX4_readPlain_2 rfl (lv_at hl 0 rfl) ?_
  refine n_if_eq (tgt := 16) hx hb (r32 (by omega)) dX4_readPlain_3 (by decide) (fun h => absurd h (by decide)) (fun _ => ?_)
  have hl : lv_has ls 4 [(0, .ref (G.2.2 0)), (1, .int (iI deep))] := lv_sub hl [1, 2] rfl
  refine L6 402 u ?_ ?_ _ _ _ hH hl
  · exact hB
  · exact e1
theorem ms_readBoth (l : Launch) (G : MG) (n : Nat) (IH_readPlain : SRd l G yX4_readPlain cX4_readPlain 4 3 n) : SRd l G yX4_readBoth cX4_readBoth 2 4 (n + 1) := by
  intro σ0 t u u' deep sz hT hB hd0 hd8 he
  refine m_start (by decide) (Nat.le_of_ble_eq_true rfl) ?_
  intro p e s m below meth c ⟨S, hr, hlk, hH, hK, hj, hsz, hnm⟩ ls hl
  subst hsz
  obtain ⟨hx, hb, hml, hown, hts⟩ := S
  have S : CallFix p m c _ _ s _ lw_all RX4 := ⟨hx, hb, hml, hown, hts⟩
  have hA : ∀ q, s.heap.size ≤ q → mA G (psS σ0 u) s.heap.size q := fun q hq => Or.inr hq
  have hl : lv_has ls 2 [(0, .ref (G.2.2 0)), (1, .int (iI deep))] := hl
  have b0 := hB
  unfold BS at b0
  have t0 := hT
  unfold TK at t0
  have t1 := t0.2.2 u.1 (by omega) (by omega)
  simp only [rd] at he
  obtain ⟨s1, e1, e2⟩ := Option.bind_eq_some_iff.mp he
  have L5 : ∀ (k : Nat) (v : PS), (hBv : BS t v) → (hlp : lpR (σ0 11) 8 8 (rd (σ0 11) (σ0 12) (σ0 13) n 3 deep) k v = some u') → ∀ (H : Heap) (locs : List Loc) (ls : Array Slot), MH G (mA G (psS σ0 u) s.heap.size) (psS σ0 v) s.heap H locs → lv_has ls 2 [(0, .ref (G.2.2 0)), (1, .int (iI deep))] → W p l e (rmD (n + 1 + 4)) s m ([.ref (G.2.2 0), .int (iI deep)] : List Value).toArray below meth c H locs 0 0 (MQ below (mQv G (psS σ0 u) s.heap.size (fun σ' => σ' = psS σ0 u')) ([.ref (G.2.2 0), .int (iI deep)] : List Value).toArray s 0 0 (mA G (psS σ0 u) s.heap.size)) (F0 m 5 ls []) := by
    intro k
    induction k with
    | zero => intro v hBv hlp; rw [lpR] at hlp; cases hlp
    | succ k ih_5 =>
      intro v hBv hlp H locs ls hH hl
      rw [lpR] at hlp
      refine lv_aload_n hx hb dX4_readBoth_5 rfl (lv_at hl 0 rfl) ?_
      refine n_bipush (z := 8) hx hb dX4_readBoth_6 (by decide) ?_
      refine m_calliF (m_runV (As := [.int (iI 8)]) (rest := []) S hH hK hj hl.1 (mm_takes l G σ0 t v 8 _ hT hBv (by omega) (by omega)) (lw_V q1747 q1749 qs62 q109 q1750) kd_X4_takes rfl rfl dX4_readBoth_8 (hR := ⟨by dsimp only [rmD]; omega, by dsimp only [rmD]; omega⟩)) hH hA (fun H locs hH => ?_)
      refine z_if_eq (tgt := 22) hx hb dX4_readBoth_11 (by decide) (fun c_11 => ?_) (fun c_11 => ?_)
      · -- 11T
        rw [if_neg c_11] at hH
        rw [if_neg (fun q => q.elim c_11 c_11)] at hlp
        refine m_vret hx hb hr hlk hH dX4_readBoth_22 ?_
        cases hlp
        rfl
      · -- 11F
        rw [if_pos c_11] at hH
        rw [if_pos (Or.inl c_11)] at hlp
        obtain ⟨s2, e3, e4⟩ := Option.bind_eq_some_iff.mp hlp
        have hB3 : BS t (advP v) := BS_adv hT hBv (by rw [c_11.2]; omega)
        refine lv_aload_n hx hb dX4_readBoth_14 rfl (lv_at hl 0 rfl) ?_
        refine lv_iload_n hx hb dX4_readBoth_15 rfl (lv_at hl 1 rfl) ?_
        refine m_callvF (m_runV (As := [.int (iI deep)]) (rest := []) S hH hK hj hl.1 (IH_readPlain σ0 t (advP v) s2 deep _ hT hB3 hd0 hd8 e3) (lw_V q1791 q1793 qs72 q109 q1794) kd_X4_readPlain rfl rfl dX4_readBoth_16 (hR := ⟨by dsimp only [rmD]; omega, by dsimp only [rmD]; omega⟩)) hH hA (fun H locs hH => ?_)
        refine lv_goto (tgt := 5) hx hb dX4_readBoth_19 (by decide) ?_
        have hl : lv_has ls 2 [(0, .ref (G.2.2 0)), (1, .int (iI deep))] := lv_sub hl [0, 1] rfl
        refine ih_5 s2 ?_ ?_ _ _ _ hH hl
        · exact BS_rd hT _ _ _ _ _ hB3 e3
        · exact e4
  refine lv_aload_n hx hb dX4_readBoth_0 rfl (lv_at hl 0 rfl) ?_
  refine lv_iload_n hx hb dX4_readBoth_1 rfl (lv_at hl 1 rfl) ?_
  refine m_callvF (m_runV (As := [.int (iI deep)]) (rest := []) S hH hK hj hl.1 (IH_readPlain σ0 t u s1 deep _ hT hB hd0 hd8 e1) (lw_V q1791 q1793 qs72 q109 q1794) kd_X4_readPlain rfl rfl dX4_readBoth_2 (hR := ⟨by dsimp only [rmD]; omega, by dsimp only [rmD]; omega⟩)) hH hA (fun H locs hH => ?_)
  have hl : lv_has ls 2 [(0, .ref (G.2.2 0)), (1, .int (iI deep))] := lv_sub hl [0, 1] rfl
  refine L5 402 s1 ?_ ?_ _ _ _ hH hl
  · exact BS_rd hT _ _ _ _ _ hB e1
  · exact e2
theorem ms_readTest (l : Launch) (G : MG) (n : Nat) (IH_readBoth : SRd l G yX4_readBoth cX4_readBoth 2 4 n) : SRd l G yX4_readTest cX4_readTest 2 5 (n + 1) := by
  intro σ0 t u u' deep sz hT hB hd0 hd8 he
  refine m_start (by decide) (Nat.le_of_ble_eq_true rfl) ?_
  intro p e s m below meth c ⟨S, hr, hlk, hH, hK, hj, hsz, hnm⟩ ls hl
  subst hsz
  obtain ⟨hx, hb, hml, hown, hts⟩ := S
  have S : CallFix p m c _ _ s _ lw_all RX4 := ⟨hx, hb, hml, hown, hts⟩
  have hA : ∀ q, s.heap.size ≤ q → mA G (psS σ0 u) s.heap.size q := fun q hq => Or.inr hq
  have hl : lv_has ls 2 [(0, .ref (G.2.2 0)), (1, .int (iI deep))] := hl
  have b0 := hB
  unfold BS at b0
  have t0 := hT
  unfold TK at t0
  have t1 := t0.2.2 u.1 (by omega) (by omega)
  simp only [rd] at he
  obtain ⟨s1, e1, e2⟩ := Option.bind_eq_some_iff.mp he
  have L5 : ∀ (k : Nat) (v : PS), (hBv : BS t v) → (hlp : lpR (σ0 11) 7 7 (rd (σ0 11) (σ0 12) (σ0 13) n 4 deep) k v = some u') → ∀ (H : Heap) (locs : List Loc) (ls : Array Slot), MH G (mA G (psS σ0 u) s.heap.size) (psS σ0 v) s.heap H locs → lv_has ls 2 [(0, .ref (G.2.2 0)), (1, .int (iI deep))] → W p l e (rmD (n + 1 + 4)) s m ([.ref (G.2.2 0), .int (iI deep)] : List Value).toArray below meth c H locs 0 0 (MQ below (mQv G (psS σ0 u) s.heap.size (fun σ' => σ' = psS σ0 u')) ([.ref (G.2.2 0), .int (iI deep)] : List Value).toArray s 0 0 (mA G (psS σ0 u) s.heap.size)) (F0 m 5 ls []) := by
    intro k
    induction k with
    | zero => intro v hBv hlp; rw [lpR] at hlp; cases hlp
    | succ k ih_5 =>
      intro v hBv hlp H locs ls hH hl
      rw [lpR] at hlp
      refine lv_aload_n hx hb dX4_readTest_5 rfl (lv_at hl 0 rfl) ?_
      refine n_bipush (z := 7) hx hb dX4_readTest_6 (by decide) ?_
      refine m_calliF (m_runV (As := [.int (iI 7)]) (rest := []) S hH hK hj hl.1 (mm_takes l G σ0 t v 7 _ hT hBv (by omega) (by omega)) (lw_V q1747 q1749 qs62 q109 q1750) kd_X4_takes rfl rfl dX4_readTest_8 (hR := ⟨by dsimp only [rmD]; omega, by dsimp only [rmD]; omega⟩)) hH hA (fun H locs hH => ?_)
      refine z_if_eq (tgt := 22) hx hb dX4_readTest_11 (by decide) (fun c_11 => ?_) (fun c_11 => ?_)
      · -- 11T
        rw [if_neg c_11] at hH
        rw [if_neg (fun q => q.elim c_11 c_11)] at hlp
        refine m_vret hx hb hr hlk hH dX4_readTest_22 ?_
        cases hlp
        rfl
      · -- 11F
        rw [if_pos c_11] at hH
        rw [if_pos (Or.inl c_11)] at hlp
        obtain ⟨s2, e3, e4⟩ := Option.bind_eq_some_iff.mp hlp
        have hB3 : BS t (advP v) := BS_adv hT hBv (by rw [c_11.2]; omega)
        refine lv_aload_n hx hb dX4_readTest_14 rfl (lv_at hl 0 rfl) ?_
        refine lv_iload_n hx hb dX4_readTest_15 rfl (lv_at hl 1 rfl) ?_
        refine m_callvF (m_runV (As := [.int (iI deep)]) (rest := []) S hH hK hj hl.1 (IH_readBoth σ0 t (advP v) s2 deep _ hT hB3 hd0 hd8 e3) (lw_V q1787 q1789 qs71 q109 q1790) kd_X4_readBoth rfl rfl dX4_readTest_16 (hR := ⟨by dsimp only [rmD]; omega, by dsimp only [rmD]; omega⟩)) hH hA (fun H locs hH => ?_)
        refine lv_goto (tgt := 5) hx hb dX4_readTest_19 (by decide) ?_
        have hl : lv_has ls 2 [(0, .ref (G.2.2 0)), (1, .int (iI deep))] := lv_sub hl [0, 1] rfl
        refine ih_5 s2 ?_ ?_ _ _ _ hH hl
        · exact BS_rd hT _ _ _ _ _ hB3 e3
        · exact e4
  refine lv_aload_n hx hb dX4_readTest_0 rfl (lv_at hl 0 rfl) ?_
  refine lv_iload_n hx hb dX4_readTest_1 rfl (lv_at hl 1 rfl) ?_
  refine m_callvF (m_runV (As := [.int (iI deep)]) (rest := []) S hH hK hj hl.1 (IH_readBoth σ0 t u s1 deep _ hT hB hd0 hd8 e1) (lw_V q1787 q1789 qs71 q109 q1790) kd_X4_readBoth rfl rfl dX4_readTest_2 (hR := ⟨by dsimp only [rmD]; omega, by dsimp only [rmD]; omega⟩)) hH hA (fun H locs hH => ?_)
  have hl : lv_has ls 2 [(0, .ref (G.2.2 0)), (1, .int (iI deep))] := lv_sub hl [0, 1] rfl
  refine L5 402 s1 ?_ ?_ _ _ _ hH hl
  · exact BS_rd hT _ _ _ _ _ hB e1
  · exact e2
