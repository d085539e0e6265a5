theorem kd_X4_text : yX4_text.cls = RX4 ∧ yX4_text.cls ≠ "java/lang/invoke/MethodHandle" ∧ yX4_text.cls ≠ "java/lang/invoke/VarHandle" ∧ (parseMethodDescriptor yX4_text.desc).map (fun d => d.parameters.length) = some 0 := by decide +kernel
set_option maxHeartbeats 4000000 in
theorem mm_text (l : Launch) (G : MG) (σ : St) (sz : Nat) (hW : ∀ i : Nat, i < 134 → σ 6 i = wBy.getD i 0) (hn0 : 0 ≤ σ 9 0) (hn4 : σ 9 0 ≤ 400) (hTp : ∀ i, -128 ≤ σ 7 i ∧ σ 7 i < 128) (hI : kCnt (σ 2)) : Met l yX4_text (ws_ yX4_text cX4_text 3 (some .int)) (rmD 67) (mP G [.ref (G.2.2 0)] σ sz) (mQi G σ sz (fun z σ' => (σ 2 1756 = 12 ∧ (z, σ') = (-5, refS (st σ 9 0 0) (-5))) ∨ (σ 2 1756 ≠ 12 ∧ ∃ (t : Nat) (u : PS), ReadOK σ t u ∧ BS t u ∧ (z, σ') = textF σ t u))) 0 0 (mA G σ sz) := by
  refine m_start (by decide) (Nat.le_of_ble_eq_true rfl) ?_
  intro p e s m below meth c ⟨S, hr, hlk, hH, hK, hj, hsz, hnm⟩ ls hl
  subst hsz
  obtain ⟨hx, hb, hml, hown, hts⟩ := S
  have S : CallFix p m c _ _ s _ lw_all RX4 := ⟨hx, hb, hml, hown, hts⟩
  have hA : ∀ q, s.heap.size ≤ q → mA G σ s.heap.size q := fun q hq => Or.inr hq
  have hl : lv_has ls 3 [(0, .ref (G.2.2 0))] := hl
  have b0 := hI
  unfold kCnt at b0
  refine lv_aload_n hx hb dX4_text_0 rfl (lv_at hl 0 rfl) ?_
  refine m_get 2 (by decide) hx hb hts hown hK hj hH q1475 (fun _ h9 => h9) rfl dX4_text_1 ?_
  refine n_sipush (z := 1756) hx hb dX4_text_4 (by decide) ?_
  refine ml_2 hx hb hK hj hH (by omega) (by omega) dX4_text_7 ?_
  refine n_bipush (z := 12) hx hb dX4_text_8 (by decide) ?_
  refine n_icmp_ne (tgt := 25) hx hb (r32 (by omega)) (r32 (by omega)) dX4_text_10 (by decide) (fun c_10 => ?_) (fun c_10 => ?_)
  · -- 10T
    refine lv_aload_n hx hb dX4_text_25 rfl (lv_at hl 0 rfl) ?_
    refine m_calli (m_runV (As := []) (rest := []) S hH hK hj hl.1 (mm_reads l G σ _ hW (by omega) (by omega) hTp) (lw_V q1725 q1727 qs58 q109 q1728) kd_X4_reads rfl rfl dX4_text_26) hH hA (fun z26 σ26 H locs q_26 hH => ?_)
    obtain ⟨t, u, hRO, hBu, e1, e2⟩ := q_26
    subst e2
    subst e1
    have ht0 := hRO.1.1
    have L64 : ∀ (n : Nat) (i : Int), (hi0 : 0 ≤ i) → (hi1 : i ≤ (t : Int)) → (hi2 : (t : Int) < (n : Int) + i) → (c_10 : ¬ σ 2 1756 = 12) → (c_29 : u.2.2 = -1) → ∀ (H : Heap) (locs : List Loc) (ls : Array Slot), MH G (mA G σ s.heap.size) (textW (rdS σ t u) t i) s.heap H locs → lv_has ls 3 [(0, .ref (G.2.2 0)), (1, .int (iI (σ 2 1756))), (2, .int (iI i))] → W p l e (rmD 67) s m ([.ref (G.2.2 0)] : List Value).toArray below meth c H locs 0 0 (MQ below (mQi G σ s.heap.size (fun z σ' => (σ 2 1756 = 12 ∧ (z, σ') = (-5, refS (st σ 9 0 0) (-5))) ∨ (σ 2 1756 ≠ 12 ∧ ∃ (t : Nat) (u : PS), ReadOK σ t u ∧ BS t u ∧ (z, σ') = textF σ t u))) ([.ref (G.2.2 0)] : List Value).toArray s 0 0 (mA G σ s.heap.size)) (F0 m 64 ls []) := by
      intro n
      induction n with
      | zero => intro i hi0 hi1 hi2 c_10 c_29; exfalso; omega
      | succ n ih_64 =>
        intro i hi0 hi1 hi2 c_10 c_29 H locs ls hH hl
        refine lv_iload_n hx hb dX4_text_64 rfl (lv_at hl 2 rfl) ?_
        refine lv_aload_n hx hb dX4_text_65 rfl (lv_at hl 0 rfl) ?_
        refine m_get 14 (by decide) hx hb hts hown hK hj hH q1487 (fun _ h9 => h9) rfl dX4_text_66 ?_
        refine W.eq (g2 := F0 m 69 ls (.int (iI (t : Int)) :: .int (iI i) :: [])) (by rfl) ?_
        refine n_icmp_ge (tgt := 122) hx hb (r32 (by omega)) (r32 (by omega)) dX4_text_69 (by decide) (fun c_69 => ?_) (fun c_69 => ?_)
        · -- 69T
          obtain rfl : i = (t : Int) := by omega
          refine lv_aload_n hx hb dX4_text_122 rfl (lv_at hl 0 rfl) ?_
          refine m_get 2 (by decide) hx hb hts hown hK hj hH q1475 (fun _ h9 => h9) rfl dX4_text_123 ?_
          refine n_sipush (z := 1756) hx hb dX4_text_126 (by decide) ?_
          refine lv_dup2_11 hx hb dX4_text_129 rfl rfl ?_
          refine ml_2 hx hb hK hj hH (by omega) (by omega) dX4_text_130 ?_
          refine W.eq (g2 := F0 m 131 ls (.int (iI (σ 2 1756)) :: .int (iI 1756) :: .ref (G.2.2 2) :: [])) (by rw [textW_o (by omega) (by rw [rdS_o (by omega)]; omega), rdS_o (by omega)]) ?_
          refine n_iconst hx hb dX4_text_131 ?_
          refine n_iadd hx hb dX4_text_132 ?_
          refine ms_2 hx hb hK hj hH (by omega) (by omega) dX4_text_133 (fun H locs hH => ?_)
          refine lv_aload_n hx hb dX4_text_134 rfl (lv_at hl 0 rfl) ?_
          refine lv_iload_n hx hb dX4_text_135 rfl (lv_at hl 1 rfl) ?_
          refine m_calliF (m_runV (As := [.int (iI (σ 2 1756))]) (rest := []) S hH hK hj hl.1 (mm_good l G (st (textW (rdS σ t u) t (t : Int)) 2 1756 ((σ 2 1756) + 1)) (σ 2 1756) _ ) (lw_V q1576 q1578 qs44 q109 q1579) kd_X4_good rfl rfl dX4_text_136) hH hA (fun H locs hH => ?_)
          refine m_iret hx hb hr hlk hH dX4_text_139 ?_
          exact Or.inr ⟨c_10, t, u, hRO, hBu, by unfold textF; rw [if_neg c_10, if_pos c_29]⟩
        · -- 69F
          refine lv_aload_n hx hb dX4_text_72 rfl (lv_at hl 0 rfl) ?_
          refine m_get 2 (by decide) hx hb hts hown hK hj hH q1475 (fun _ h9 => h9) rfl dX4_text_73 ?_
          refine n_sipush (z := 1770) hx hb dX4_text_76 (by decide) ?_
          refine n_sipush (z := 400) hx hb dX4_text_79 (by decide) ?_
          refine lv_iload_n hx hb dX4_text_82 rfl (lv_at hl 1 rfl) ?_
          refine n_imul hx hb dX4_text_83 ?_
          refine n_iadd hx hb dX4_text_84 ?_
          refine lv_iload_n hx hb dX4_text_85 rfl (lv_at hl 2 rfl) ?_
          refine n_iadd hx hb dX4_text_86 ?_
          refine lv_aload_n hx hb dX4_text_87 rfl (lv_at hl 0 rfl) ?_
          refine m_get 11 (by decide) hx hb hts hown hK hj hH q1484 (fun _ h9 => h9) rfl dX4_text_88 ?_
          refine lv_iload_n hx hb dX4_text_91 rfl (lv_at hl 2 rfl) ?_
          refine ml_11 hx hb hK hj hH (by omega) (by omega) dX4_text_92 ?_
          refine ms_2 hx hb hK hj hH (by omega) (by omega) dX4_text_93 (fun H locs hH => ?_)
          refine lv_aload_n hx hb dX4_text_94 rfl (lv_at hl 0 rfl) ?_
          refine m_get 2 (by decide) hx hb hts hown hK hj hH q1475 (fun _ h9 => h9) rfl dX4_text_95 ?_
          refine n_sipush (z := 6570) hx hb dX4_text_98 (by decide) ?_
          refine n_sipush (z := 400) hx hb dX4_text_101 (by decide) ?_
          refine lv_iload_n hx hb dX4_text_104 rfl (lv_at hl 1 rfl) ?_
          refine n_imul hx hb dX4_text_105 ?_
          refine n_iadd hx hb dX4_text_106 ?_
          refine lv_iload_n hx hb dX4_text_107 rfl (lv_at hl 2 rfl) ?_
          refine n_iadd hx hb dX4_text_108 ?_
          refine lv_aload_n hx hb dX4_text_109 rfl (lv_at hl 0 rfl) ?_
          refine m_get 12 (by decide) hx hb hts hown hK hj hH q1485 (fun _ h9 => h9) rfl dX4_text_110 ?_
          refine lv_iload_n hx hb dX4_text_113 rfl (lv_at hl 2 rfl) ?_
          refine ml_12 hx hb hK hj hH (by omega) (by omega) dX4_text_114 ?_
          refine ms_2 hx hb hK hj hH (by omega) (by omega) dX4_text_115 (fun H locs hH => ?_)
          refine n_iinc hx hb dX4_text_116 hl (k := 2) rfl (Nat.le_of_ble_eq_true rfl) (lv' := [(2, .int (iI (i + 1))), (0, .ref (G.2.2 0)), (1, .int (iI (σ 2 1756)))]) rfl (fun ls hl => ?_)
          refine lv_goto (tgt := 64) hx hb dX4_text_119 (by decide) ?_
          have hl : lv_has ls 3 [(0, .ref (G.2.2 0)), (1, .int (iI (σ 2 1756))), (2, .int (iI (i + 1)))] := lv_sub hl [1, 2, 0] rfl
          have hH := MH_to hH (τ := textW (rdS σ t u) t (i + 1)) ((by have q := textW_s (τ := rdS σ t u) (t := (t : Int)) (k := i) (by omega) (by omega) (by rw [rdS_o (by omega)]; omega); rw [rdS_o (by omega)] at q; exact q))
          refine ih_64 (i + 1) ?_ ?_ ?_ ?_ ?_ _ _ _ hH hl
          · omega
          · omega
          · omega
          · exact c_10
          · exact c_29
    refine z_if_ne (tgt := 39) hx hb dX4_text_29 (by decide) (fun c_29 => ?_) (fun c_29 => ?_)
    · -- 29T
      refine lv_aload_n hx hb dX4_text_39 rfl (lv_at hl 0 rfl) ?_
      refine m_get 2 (by decide) hx hb hts hown hK hj hH q1475 (fun _ h9 => h9) rfl dX4_text_40 ?_
      refine n_sipush (z := 1756) hx hb dX4_text_43 (by decide) ?_
      refine ml_2 hx hb hK hj hH (by omega) (by omega) dX4_text_46 ?_
      refine W.eq (g2 := F0 m 47 ls (.int (iI (σ 2 1756)) :: [])) (by rw [rdS_o (by omega)]) ?_
      refine lv_istore_n hx hb dX4_text_47 rfl hl (Nat.le_of_ble_eq_true rfl) (lv' := [(1, .int (iI (σ 2 1756))), (0, .ref (G.2.2 0))]) rfl (fun ls hl => ?_)
      refine lv_aload_n hx hb dX4_text_48 rfl (lv_at hl 1 rfl) ?_
      refine m_get 2 (by decide) hx hb hts hown hK hj hH q1475 (fun _ h9 => h9) rfl dX4_text_49 ?_
      refine n_sipush (z := 1758) hx hb dX4_text_52 (by decide) ?_
      refine lv_iload_n hx hb dX4_text_55 rfl (lv_at hl 0 rfl) ?_
      refine n_iadd hx hb dX4_text_56 ?_
      refine lv_aload_n hx hb dX4_text_57 rfl (lv_at hl 1 rfl) ?_
      refine m_get 14 (by decide) hx hb hts hown hK hj hH q1487 (fun _ h9 => h9) rfl dX4_text_58 ?_
      refine W.eq (g2 := F0 m 61 ls (.int (iI (t : Int)) :: .int (iI (1758 + (σ 2 1756))) :: .ref (G.2.2 2) :: [])) (by rfl) ?_
      refine ms_2 hx hb hK hj hH (by omega) (by omega) dX4_text_61 (fun H locs hH => ?_)
      refine n_iconst hx hb dX4_text_62 ?_
      refine lv_istore_n hx hb dX4_text_63 rfl hl (Nat.le_of_ble_eq_true rfl) (lv' := [(2, .int (iI 0)), (1, .int (iI (σ 2 1756))), (0, .ref (G.2.2 0))]) rfl (fun ls hl => ?_)
      have hl : lv_has ls 3 [(0, .ref (G.2.2 0)), (1, .int (iI (σ 2 1756))), (2, .int (iI 0))] := lv_sub hl [2, 1, 0] rfl
      have hH := MH_to hH (τ := textW (rdS σ t u) t 0) ((by rw [← textW_0, rdS_o (by omega)]))
      refine L64 402 0 ?_ ?_ ?_ ?_ ?_ _ _ _ hH hl
      · omega
      · omega
      · omega
      · exact c_10
      · exact c_29
    · -- 29F
      refine lv_aload_n hx hb dX4_text_32 rfl (lv_at hl 0 rfl) ?_
      refine n_bipush (z := -6) hx hb dX4_text_33 (by decide) ?_
      refine m_calliF (m_runV (As := [.int (iI (-6))]) (rest := []) S hH hK hj hl.1 (mm_refuses l G (rdS σ t u) (-6) _ (by omega) (by omega)) (lw_V q1572 q1574 qs43 q109 q1575) kd_X4_refuses rfl rfl dX4_text_35) hH hA (fun H locs hH => ?_)
      refine m_iret hx hb hr hlk hH dX4_text_38 ?_
      exact Or.inr ⟨c_10, t, u, hRO, hBu, by unfold textF; rw [if_neg c_10, if_neg c_29]⟩
  · -- 10F
    refine lv_aload_n hx hb dX4_text_13 rfl (lv_at hl 0 rfl) ?_
    refine n_iconst hx hb dX4_text_14 ?_
    refine mp_9 hx hb hts hown hK hj hH q1482 (fun _ h9 => h9) dX4_text_15 (fun H locs hH => ?_)
    refine lv_aload_n hx hb dX4_text_18 rfl (lv_at hl 0 rfl) ?_
    refine n_bipush (z := -5) hx hb dX4_text_19 (by decide) ?_
    refine m_calliF (m_runV (As := [.int (iI (-5))]) (rest := []) S hH hK hj hl.1 (mm_refuses l G (st σ 9 0 0) (-5) _ (by omega) (by omega)) (lw_V q1572 q1574 qs43 q109 q1575) kd_X4_refuses rfl rfl dX4_text_21) hH hA (fun H locs hH => ?_)
    refine m_iret hx hb hr hlk hH dX4_text_24 ?_
    exact Or.inl ⟨by omega, rfl⟩
