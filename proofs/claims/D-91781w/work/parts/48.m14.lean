theorem kd_X4_reads : yX4_reads.cls = RX4 ∧ yX4_reads.cls ≠ "java/lang/invoke/MethodHandle" ∧ yX4_reads.cls ≠ "java/lang/invoke/VarHandle" ∧ (parseMethodDescriptor yX4_reads.desc).map (fun d => d.parameters.length) = some 0 := by decide +kernel
set_option maxHeartbeats 4000000 in
theorem mm_reads (l : Launch) (G : MG) (σ : St) (sz : Nat) (hW : ∀ i : Nat, i < 134 → σ 6 i = wBy.getD i 0) (hn0 : 0 ≤ σ 9 0) (hn4 : σ 9 0 ≤ 400) (hTp : ∀ i, -128 ≤ σ 7 i ∧ σ 7 i < 128) : Met l yX4_reads (ws_ yX4_reads cX4_reads 2 (some .boolean)) (rmD 66) (mP G [.ref (G.2.2 0)] σ sz) (mQi G σ sz (fun z σ' => ∃ (t : Nat) (u : PS), ReadOK σ t u ∧ BS t u ∧ z = zb (u.2.2 = -1) ∧ σ' = rdS σ t u)) 0 0 (mA G σ sz) := by
  refine m_start (by decide) (Nat.le_of_ble_eq_true rfl) ?_
  intro p e s m below meth c ⟨S, hr, hlk, hH, hK, hj, hsz, hnm⟩ ls hl
  subst hsz
  obtain ⟨hx, hb, hml, hown, hts⟩ := S
  have S : CallFix p m c _ _ s _ lw_all RX4 := ⟨hx, hb, hml, hown, hts⟩
  have hA : ∀ q, s.heap.size ≤ q → mA G σ s.heap.size q := fun q hq => Or.inr hq
  have hl : lv_has ls 2 [(0, .ref (G.2.2 0))] := hl
  refine lv_aload_n hx hb dX4_reads_0 rfl (lv_at hl 0 rfl) ?_
  refine lv_aload_n hx hb dX4_reads_1 rfl (lv_at hl 0 rfl) ?_
  refine m_get 9 (by decide) hx hb hts hown hK hj hH q1482 (fun _ h9 => h9) rfl dX4_reads_2 ?_
  refine m_callv (m_runV (As := [.int (iI (σ 9 0))]) (rest := []) S hH hK hj hl.1 (mm_cuts l G σ (σ 9 0) _ hW (by omega) (by omega) hTp) (lw_V q1729 q1731 qs59 q109 q1732) kd_X4_cuts rfl rfl dX4_reads_5) hH hA (fun σ5 H locs q_5 hH => ?_)
  obtain ⟨t, ht1, ht2, ht3, e5⟩ := q_5
  subst e5
  have hTk : TokN (σ 7) (σ 9 0) t := ⟨ht1, ht2, ht3⟩
  obtain ⟨ρ, hρ⟩ : ∃ ρ, ρ = st (cutE σ (σ 9 0) t) 9 0 0 := ⟨_, rfl⟩
  have hT : TK (ρ 11) (ρ 12) (ρ 13) t := by
    rw [hρ]
    exact cutE_TK hTk hn4
  have hρt : ρ 14 0 = t := by
    rw [hρ]
    rfl
  obtain ⟨u, he, hBu⟩ := rdAll_some hT
  have hRO : ReadOK σ t u := ⟨hTk, by rw [hρ] at he; exact he⟩
  unfold rdAll at he
  obtain ⟨sx, hx1, hx2⟩ := Option.map_eq_some_iff.mp he
  obtain ⟨s1, e1, e2⟩ := Option.bind_eq_some_iff.mp hx1
  have hB0 := BS_0 hT
  have hB1 := BS_clR hT hB0 e1
  have L95 :  ∀ (H : Heap) (locs : List Loc) (ls : Array Slot), MH G (mA G σ s.heap.size) (psS ρ u) s.heap H locs → lv_has ls 2 [(0, .ref (G.2.2 0))] → W p l e (rmD 66) s m ([.ref (G.2.2 0)] : List Value).toArray below meth c H locs 0 0 (MQ below (mQi G σ s.heap.size (fun z σ' => ∃ (t : Nat) (u : PS), ReadOK σ t u ∧ BS t u ∧ z = zb (u.2.2 = -1) ∧ σ' = rdS σ t u)) ([.ref (G.2.2 0)] : List Value).toArray s 0 0 (mA G σ s.heap.size)) (F0 m 95 ls []) := by
    intro  H locs ls hH hl
    have bu := hBu
    unfold BS at bu
    refine lv_aload_n hx hb dX4_reads_95 rfl (lv_at hl 0 rfl) ?_
    refine lv_aload_n hx hb dX4_reads_96 rfl (lv_at hl 0 rfl) ?_
    refine m_get 17 (by decide) hx hb hts hown hK hj hH q1490 (fun _ h9 => h9) rfl dX4_reads_97 ?_
    refine W.eq (g2 := F0 m 100 ls (.int (iI u.2.2) :: .ref (G.2.2 0) :: [])) rfl ?_
    refine mp_10 hx hb hts hown hK hj hH q1483 (fun _ h9 => h9) dX4_reads_100 (fun H locs hH => ?_)
    obtain ⟨ρ2, hρ2⟩ : ∃ q, q = st ρ 10 0 u.2.2 := ⟨_, rfl⟩
    have hH := MH_to hH (τ := psS ρ2 u) ((by rw [hρ2]; exact psS_st (by decide) (by decide) (by decide)))
    refine lv_aload_n hx hb dX4_reads_103 rfl (lv_at hl 0 rfl) ?_
    refine m_calliF (m_runV (As := []) (rest := []) S hH hK hj hl.1 (mm_fine l G ρ2 t u _ (by rw [hρ2]; exact hT) hBu) (lw_V q1751 q1753 qs63 q109 q1754) kd_X4_fine rfl rfl dX4_reads_104) hH hA (fun H locs hH => ?_)
    refine m_zret hx hb hr hlk hH dX4_reads_107 zb_01 ?_
    exact ⟨t, u, hRO, hBu, rfl, by unfold rdS; rw [hρ2, hρ]⟩
  have L34 : ∀ (m_ : Nat) (k : Int) (v : PS), (hBv : BS t v) → (hk : k + m_ = 403) → (hk1 : 1 ≤ k) → (hlp : clLp (ρ 11) (ρ 12) (ρ 13) 60 m_ k v = some sx) → ∀ (H : Heap) (locs : List Loc) (ls : Array Slot), MH G (mA G σ s.heap.size) (psS ρ v) s.heap H locs → lv_has ls 2 [(0, .ref (G.2.2 0)), (1, .int (iI k))] → W p l e (rmD 66) s m ([.ref (G.2.2 0)] : List Value).toArray below meth c H locs 0 0 (MQ below (mQi G σ s.heap.size (fun z σ' => ∃ (t : Nat) (u : PS), ReadOK σ t u ∧ BS t u ∧ z = zb (u.2.2 = -1) ∧ σ' = rdS σ t u)) ([.ref (G.2.2 0)] : List Value).toArray s 0 0 (mA G σ s.heap.size)) (F0 m 34 ls []) := by
    intro m_
    induction m_ with
    | zero => intro k v hBv hk hk1 hlp; rw [clLp] at hlp; cases hlp
    | succ m_ ih_34 =>
      intro k v hBv hk hk1 hlp H locs ls hH hl
      rw [clLp] at hlp
      have L56 : ∀ (w : PS), (hBw : BS t w) → (hlw : (if w.2.2 = -1 then clR (ρ 11) (ρ 12) (ρ 13) 60 w else some w).bind (clLp (ρ 11) (ρ 12) (ρ 13) 60 m_ (k + 1)) = some sx) → ∀ (H : Heap) (locs : List Loc) (ls : Array Slot), MH G (mA G σ s.heap.size) (psS ρ w) s.heap H locs → lv_has ls 2 [(0, .ref (G.2.2 0)), (1, .int (iI k))] → W p l e (rmD 66) s m ([.ref (G.2.2 0)] : List Value).toArray below meth c H locs 0 0 (MQ below (mQi G σ s.heap.size (fun z σ' => ∃ (t : Nat) (u : PS), ReadOK σ t u ∧ BS t u ∧ z = zb (u.2.2 = -1) ∧ σ' = rdS σ t u)) ([.ref (G.2.2 0)] : List Value).toArray s 0 0 (mA G σ s.heap.size)) (F0 m 56 ls []) := by
        intro w hBw hlw H locs ls hH hl
        have bw := hBw
        unfold BS at bw
        refine lv_aload_n hx hb dX4_reads_56 rfl (lv_at hl 0 rfl) ?_
        refine m_calliF (m_runV (As := []) (rest := []) S hH hK hj hl.1 (mm_fine l G ρ t w _ hT hBw) (lw_V q1751 q1753 qs63 q109 q1754) kd_X4_fine rfl rfl dX4_reads_57) hH hA (fun H locs hH => ?_)
        refine z_if_eq (tgt := 67) hx hb dX4_reads_60 (by decide) (fun c_60 => ?_) (fun c_60 => ?_)
        · -- 60T
          rw [if_neg c_60] at hlw
          refine n_iinc hx hb dX4_reads_67 hl (k := 1) rfl (Nat.le_of_ble_eq_true rfl) (lv' := [(1, .int (iI (k + 1))), (0, .ref (G.2.2 0))]) rfl (fun ls hl => ?_)
          refine lv_goto (tgt := 34) hx hb dX4_reads_70 (by decide) ?_
          have hl : lv_has ls 2 [(0, .ref (G.2.2 0)), (1, .int (iI (k + 1)))] := lv_sub hl [1, 0] rfl
          refine ih_34 (k + 1) w ?_ ?_ ?_ ?_ _ _ _ hH hl
          · exact hBw
          · omega
          · omega
          · exact hlw
        · -- 60F
          rw [if_pos c_60] at hlw
          obtain ⟨s3, e3, e4⟩ := Option.bind_eq_some_iff.mp hlw
          refine lv_aload_n hx hb dX4_reads_63 rfl (lv_at hl 0 rfl) ?_
          refine m_callvF (m_runV (As := []) (rest := []) S hH hK hj hl.1 (mm_readClause l G ρ t w s3 _ hT hBw e3) (lw_V q1743 q1745 qs61 q109 q1746) kd_X4_readClause rfl rfl dX4_reads_64) hH hA (fun H locs hH => ?_)
          refine n_iinc hx hb dX4_reads_67 hl (k := 1) rfl (Nat.le_of_ble_eq_true rfl) (lv' := [(1, .int (iI (k + 1))), (0, .ref (G.2.2 0))]) rfl (fun ls hl => ?_)
          refine lv_goto (tgt := 34) hx hb dX4_reads_70 (by decide) ?_
          have hl : lv_has ls 2 [(0, .ref (G.2.2 0)), (1, .int (iI (k + 1)))] := lv_sub hl [1, 0] rfl
          refine ih_34 (k + 1) s3 ?_ ?_ ?_ ?_ _ _ _ hH hl
          · exact BS_clR hT hBw e3
          · omega
          · omega
          · exact e4
      refine lv_aload_n hx hb dX4_reads_34 rfl (lv_at hl 0 rfl) ?_
      refine n_bipush (z := 59) hx hb dX4_reads_35 (by decide) ?_
      refine m_calliF (m_runS (As := [.int (iI 59)]) (rest := [.ref (G.2.2 0)]) S hH hK hj hl.1 (mm_sign l G (psS ρ v) 59 _ (by omega) (by omega)) (lw_S q1767 q1768 q109 q1769) kd_X4_sign rfl rfl dX4_reads_37) hH hA (fun H locs hH => ?_)
      refine W.eq (g2 := F0 m 40 ls (.int (iI 159) :: .ref (G.2.2 0) :: [])) (by rfl) ?_
      refine m_calliF (m_runV (As := [.int (iI 159)]) (rest := []) S hH hK hj hl.1 (mm_takes l G ρ t v 159 _ hT hBv (by omega) (by omega)) (lw_V q1747 q1749 qs62 q109 q1750) kd_X4_takes rfl rfl dX4_reads_40) hH hA (fun H locs hH => ?_)
      refine z_if_eq (tgt := 73) hx hb dX4_reads_43 (by decide) (fun c_43 => ?_) (fun c_43 => ?_)
      · -- 43T
        rw [if_neg c_43] at hH
        rw [if_neg c_43] at hlp
        have hv : v = sx := Option.some.inj hlp
        have bv := hBv
        unfold BS at bv
        refine lv_aload_n hx hb dX4_reads_73 rfl (lv_at hl 0 rfl) ?_
        refine m_calliF (m_runV (As := []) (rest := []) S hH hK hj hl.1 (mm_fine l G ρ t v _ hT hBv) (lw_V q1751 q1753 qs63 q109 q1754) kd_X4_fine rfl rfl dX4_reads_74) hH hA (fun H locs hH => ?_)
        refine z_if_eq (tgt := 95) hx hb dX4_reads_77 (by decide) (fun c_77 => ?_) (fun c_77 => ?_)
        · -- 77T
          have hl : lv_has ls 2 [(0, .ref (G.2.2 0))] := lv_sub hl [0] rfl
          have hH := MH_to hH (τ := psS ρ u) ((by rw [← hx2, hv, if_neg (fun q => c_77 (by rw [hv]; exact q.1))]))
          refine L95   _ _ _ hH hl
        · -- 77F
          refine lv_aload_n hx hb dX4_reads_80 rfl (lv_at hl 0 rfl) ?_
          refine m_get 15 (by decide) hx hb hts hown hK hj hH q1488 (fun _ h9 => h9) rfl dX4_reads_81 ?_
          refine W.eq (g2 := F0 m 84 ls (.int (iI v.1) :: [])) rfl ?_
          refine lv_aload_n hx hb dX4_reads_84 rfl (lv_at hl 0 rfl) ?_
          refine m_get 14 (by decide) hx hb hts hown hK hj hH q1487 (fun _ h9 => h9) rfl dX4_reads_85 ?_
          refine W.eq (g2 := F0 m 88 ls (.int (iI (ρ 14 0)) :: .int (iI v.1) :: [])) rfl ?_
          refine W.eq (g2 := F0 m 88 ls (.int (iI (t : Int)) :: .int (iI v.1) :: [])) (by rw [hρt]) ?_
          refine n_icmp_ge (tgt := 95) hx hb (r32 (by omega)) (r32 (by omega)) dX4_reads_88 (by decide) (fun c_88 => ?_) (fun c_88 => ?_)
          · -- 88T
            have hl : lv_has ls 2 [(0, .ref (G.2.2 0))] := lv_sub hl [0] rfl
            have hH := MH_to hH (τ := psS ρ u) ((by rw [← hx2, hv, if_neg (fun q => absurd q.2 (by rw [← hv]; omega))]))
            refine L95   _ _ _ hH hl
          · -- 88F
            refine lv_aload_n hx hb dX4_reads_91 rfl (lv_at hl 0 rfl) ?_
            refine m_callvF (m_runV (As := []) (rest := []) S hH hK hj hl.1 (mm_faults l G ρ t v _ hT hBv) (lw_V q1770 q1772 qs67 q109 q1773) kd_X4_faults rfl rfl dX4_reads_92) hH hA (fun H locs hH => ?_)
            have hl : lv_has ls 2 [(0, .ref (G.2.2 0))] := lv_sub hl [0] rfl
            have hH := MH_to hH (τ := psS ρ u) ((by rw [← hx2, hv, if_pos ⟨by rw [← hv]; exact c_77, by rw [← hv]; omega⟩]))
            refine L95   _ _ _ hH hl
      · -- 43F
        rw [if_pos c_43] at hH
        rw [if_pos c_43] at hlp
        refine lv_iload_n hx hb dX4_reads_46 rfl (lv_at hl 1 rfl) ?_
        refine n_bipush (z := 12) hx hb dX4_reads_47 (by decide) ?_
        refine n_icmp_ne (tgt := 56) hx hb (r32 (by omega)) (r32 (by omega)) dX4_reads_49 (by decide) (fun c_49 => ?_) (fun c_49 => ?_)
        · -- 49T
          have hl : lv_has ls 2 [(0, .ref (G.2.2 0)), (1, .int (iI k))] := lv_sub hl [0, 1] rfl
          refine L56 (advP v) ?_ ?_ _ _ _ hH hl
          · exact BS_adv hT hBv (by rw [c_43.2]; omega)
          · rw [if_neg c_49] at hlp
            exact hlp
        · -- 49F
          refine lv_aload_n hx hb dX4_reads_52 rfl (lv_at hl 0 rfl) ?_
          refine m_callvF (m_runV (As := []) (rest := []) S hH hK hj hl.1 (mm_faults l G ρ t (advP v) _ hT (BS_adv hT hBv (by rw [c_43.2]; omega))) (lw_V q1770 q1772 qs67 q109 q1773) kd_X4_faults rfl rfl dX4_reads_53) hH hA (fun H locs hH => ?_)
          have hl : lv_has ls 2 [(0, .ref (G.2.2 0)), (1, .int (iI k))] := lv_sub hl [0, 1] rfl
          refine L56 (fauP (ρ 13) (advP v)) ?_ ?_ _ _ _ hH hl
          · exact BS_fau hT (BS_adv hT hBv (by rw [c_43.2]; omega))
          · rw [if_pos c_49] at hlp
            exact hlp
  refine lv_aload_n hx hb dX4_reads_8 rfl (lv_at hl 0 rfl) ?_
  refine n_iconst hx hb dX4_reads_9 ?_
  refine mp_9 hx hb hts hown hK hj hH q1482 (fun _ h9 => h9) dX4_reads_10 (fun H locs hH => ?_)
  refine lv_aload_n hx hb dX4_reads_13 rfl (lv_at hl 0 rfl) ?_
  refine n_iconst hx hb dX4_reads_14 ?_
  refine mp_15 hx hb hts hown hK hj hH q1488 (fun _ h9 => h9) dX4_reads_15 (fun H locs hH => ?_)
  refine lv_aload_n hx hb dX4_reads_18 rfl (lv_at hl 0 rfl) ?_
  refine n_iconst hx hb dX4_reads_19 ?_
  refine mp_16 hx hb hts hown hK hj hH q1489 (fun _ h9 => h9) dX4_reads_20 (fun H locs hH => ?_)
  refine lv_aload_n hx hb dX4_reads_23 rfl (lv_at hl 0 rfl) ?_
  refine n_iconst hx hb dX4_reads_24 ?_
  refine mp_17 hx hb hts hown hK hj hH q1490 (fun _ h9 => h9) dX4_reads_25 (fun H locs hH => ?_)
  have hH := MH_to hH (τ := psS ρ (0, 0, -1)) ((by rw [hρ]; exact ps3))
  refine lv_aload_n hx hb dX4_reads_28 rfl (lv_at hl 0 rfl) ?_
  refine m_callvF (m_runV (As := []) (rest := []) S hH hK hj hl.1 (mm_readClause l G ρ t (0, 0, -1) s1 _ hT hB0 e1) (lw_V q1743 q1745 qs61 q109 q1746) kd_X4_readClause rfl rfl dX4_reads_29) hH hA (fun H locs hH => ?_)
  refine n_iconst hx hb dX4_reads_32 ?_
  refine lv_istore_n hx hb dX4_reads_33 rfl hl (Nat.le_of_ble_eq_true rfl) (lv' := [(1, .int (iI 1)), (0, .ref (G.2.2 0))]) rfl (fun ls hl => ?_)
  have hl : lv_has ls 2 [(0, .ref (G.2.2 0)), (1, .int (iI 1))] := lv_sub hl [1, 0] rfl
  refine L34 402 1 s1 ?_ ?_ ?_ ?_ _ _ _ hH hl
  · exact hB1
  · omega
  · omega
  · exact e2
