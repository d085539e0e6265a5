theorem kd_X4_readClause : yX4_readClause.cls = RX4 ∧ yX4_readClause.cls ≠ "java/lang/invoke/MethodHandle" ∧ yX4_readClause.cls ≠ "java/lang/invoke/VarHandle" ∧ (parseMethodDescriptor yX4_readClause.desc).map (fun d => d.parameters.length) = some 0 := by decide +kernel
theorem mm_readClause (l : Launch) (G : MG) (σ0 : St) (t : Int) (u : PS) (u' : PS) (sz : Nat) (hT : TK (σ0 11) (σ0 12) (σ0 13) t) (hB : BS t u) (he : clR (σ0 11) (σ0 12) (σ0 13) 60 u = some u') : Met l yX4_readClause (ws_ yX4_readClause cX4_readClause 1 none) (rmD 65) (mP G [.ref (G.2.2 0)] (psS σ0 u) sz) (mQv G (psS σ0 u) sz (fun σ' => σ' = psS σ0 u')) 0 0 (mA G (psS σ0 u) sz) := by
  refine m_start (by decide) (Nat.le_of_ble_eq_true rfl) ?_
  intro p e s m below meth c ⟨S, hr, hlk, hH, hK, hj, hsz, hnm⟩ ls hl
  subst hsz
  obtain ⟨hx, hb, hml, hown, hts⟩ := S
  have S : CallFix p m c _ _ s _ lw_all RX4 := ⟨hx, hb, hml, hown, hts⟩
  have hA : ∀ q, s.heap.size ≤ q → mA G (psS σ0 u) s.heap.size q := fun q hq => Or.inr hq
  have hl : lv_has ls 1 [(0, .ref (G.2.2 0))] := hl
  have b0 := hB
  unfold BS at b0
  have t0 := hT
  unfold TK at t0
  have t1 := t0.2.2 u.1 (by omega) (by omega)
  unfold clR at he
  obtain ⟨s1, e1, e2⟩ := Option.bind_eq_some_iff.mp he
  unfold clRa at e1
  have L45 : ∀ (v : PS), (hBv : BS t v) → (h45 : (if takP (σ0 11) 6 v then rd (σ0 11) (σ0 12) (σ0 13) 60 5 0 (advP v) else some v) = some u') → ∀ (H : Heap) (locs : List Loc) (ls : Array Slot), MH G (mA G (psS σ0 u) s.heap.size) (psS σ0 v) s.heap H locs → lv_has ls 1 [(0, .ref (G.2.2 0))] → W p l e (rmD 65) s m ([.ref (G.2.2 0)] : List Value).toArray below meth c H locs 0 0 (MQ below (mQv G (psS σ0 u) s.heap.size (fun σ' => σ' = psS σ0 u')) ([.ref (G.2.2 0)] : List Value).toArray s 0 0 (mA G (psS σ0 u) s.heap.size)) (F0 m 45 ls []) := by
    intro v hBv h45 H locs ls hH hl
    refine lv_aload_n hx hb dX4_readClause_45 rfl (lv_at hl 0 rfl) ?_
    refine n_bipush (z := 6) hx hb dX4_readClause_46 (by decide) ?_
    refine m_calliF (m_runV (As := [.int (iI 6)]) (rest := []) S hH hK hj hl.1 (mm_takes l G σ0 t v 6 _ hT hBv (by omega) (by omega)) (lw_V q1747 q1749 qs62 q109 q1750) kd_X4_takes rfl rfl dX4_readClause_48) hH hA (fun H locs hH => ?_)
    refine z_if_eq (tgt := 59) hx hb dX4_readClause_51 (by decide) (fun c_51 => ?_) (fun c_51 => ?_)
    · -- 51T
      rw [if_neg c_51] at hH
      rw [if_neg c_51] at h45
      refine m_vret hx hb hr hlk hH dX4_readClause_59 ?_
      cases h45
      rfl
    · -- 51F
      rw [if_pos c_51] at hH
      rw [if_pos c_51] at h45
      refine lv_aload_n hx hb dX4_readClause_54 rfl (lv_at hl 0 rfl) ?_
      refine n_iconst hx hb dX4_readClause_55 ?_
      refine m_callvF (m_runV (As := [.int (iI 0)]) (rest := []) S hH hK hj hl.1 ((rd_all l G 60).2.2.2.2.2 σ0 t (advP v) u' 0 _ hT (BS_adv hT hBv (by rw [c_51.2]; omega)) (by omega) (by omega) h45) (lw_V q1783 q1785 qs70 q109 q1786) kd_X4_readTest rfl rfl dX4_readClause_56) hH hA (fun H locs hH => ?_)
      refine m_vret hx hb hr hlk hH dX4_readClause_59 ?_
      rfl
  refine lv_aload_n hx hb dX4_readClause_0 rfl (lv_at hl 0 rfl) ?_
  refine n_iconst hx hb dX4_readClause_1 ?_
  refine m_calliF (m_runV (As := [.int (iI 3)]) (rest := []) S hH hK hj hl.1 (mm_takes l G σ0 t u 3 _ hT hB (by omega) (by omega)) (lw_V q1747 q1749 qs62 q109 q1750) kd_X4_takes rfl rfl dX4_readClause_2) hH hA (fun H locs hH => ?_)
  refine z_if_ne (tgt := 16) hx hb dX4_readClause_5 (by decide) (fun c_5 => ?_) (fun c_5 => ?_)
  · -- 5T
    rw [if_pos c_5] at hH
    rw [if_pos (Or.inl c_5)] at e1
    have hB3 : BS t (advP u) := BS_adv hT hB (by rw [c_5.2]; omega)
    refine lv_aload_n hx hb dX4_readClause_16 rfl (lv_at hl 0 rfl) ?_
    refine n_iconst hx hb dX4_readClause_17 ?_
    refine m_callvF (m_runV (As := [.int (iI 0)]) (rest := []) S hH hK hj hl.1 ((rd_all l G 60).2.2.1 σ0 t (advP u) s1 0 _ hT hB3 (by omega) (by omega) e1) (lw_V q1755 q1757 qs64 q109 q1758) kd_X4_readSum rfl rfl dX4_readClause_18) hH hA (fun H locs hH => ?_)
    refine lv_goto (tgt := 45) hx hb dX4_readClause_21 (by decide) ?_
    have hl : lv_has ls 1 [(0, .ref (G.2.2 0))] := lv_sub hl [0] rfl
    refine L45 _ ?_ ?_ _ _ _ hH hl
    · exact BS_rd hT _ _ _ _ _ hB3 e1
    · exact e2
  · -- 5F
    rw [if_neg c_5] at hH
    refine lv_aload_n hx hb dX4_readClause_8 rfl (lv_at hl 0 rfl) ?_
    refine n_iconst hx hb dX4_readClause_9 ?_
    refine m_calliF (m_runV (As := [.int (iI 4)]) (rest := []) S hH hK hj hl.1 (mm_takes l G σ0 t u 4 _ hT hB (by omega) (by omega)) (lw_V q1747 q1749 qs62 q109 q1750) kd_X4_takes rfl rfl dX4_readClause_10) hH hA (fun H locs hH => ?_)
    refine z_if_eq (tgt := 24) hx hb dX4_readClause_13 (by decide) (fun c_13 => ?_) (fun c_13 => ?_)
    · -- 13T
      rw [if_neg c_13] at hH
      rw [if_neg (fun q => q.elim c_5 c_13)] at e1
      refine lv_aload_n hx hb dX4_readClause_24 rfl (lv_at hl 0 rfl) ?_
      refine n_iconst hx hb dX4_readClause_25 ?_
      refine m_calliF (m_runV (As := [.int (iI 1)]) (rest := []) S hH hK hj hl.1 (mm_takes l G σ0 t u 1 _ hT hB (by omega) (by omega)) (lw_V q1747 q1749 qs62 q109 q1750) kd_X4_takes rfl rfl dX4_readClause_26) hH hA (fun H locs hH => ?_)
      refine z_if_ne (tgt := 45) hx hb dX4_readClause_29 (by decide) (fun c_29 => ?_) (fun c_29 => ?_)
      · -- 29T
        rw [if_pos c_29] at hH
        rw [if_pos (Or.inl c_29)] at e1
        have hl : lv_has ls 1 [(0, .ref (G.2.2 0))] := lv_sub hl [0] rfl
        refine L45 _ ?_ ?_ _ _ _ hH hl
        · exact BS_adv hT hB (by rw [c_29.2]; omega)
        · rw [Option.some.inj e1]
          exact e2
      · -- 29F
        rw [if_neg c_29] at hH
        refine lv_aload_n hx hb dX4_readClause_32 rfl (lv_at hl 0 rfl) ?_
        refine n_iconst hx hb dX4_readClause_33 ?_
        refine m_calliF (m_runV (As := [.int (iI 2)]) (rest := []) S hH hK hj hl.1 (mm_takes l G σ0 t u 2 _ hT hB (by omega) (by omega)) (lw_V q1747 q1749 qs62 q109 q1750) kd_X4_takes rfl rfl dX4_readClause_34) hH hA (fun H locs hH => ?_)
        refine z_if_ne (tgt := 45) hx hb dX4_readClause_37 (by decide) (fun c_37 => ?_) (fun c_37 => ?_)
        · -- 37T
          rw [if_pos c_37] at hH
          rw [if_pos (Or.inr c_37)] at e1
          have hl : lv_has ls 1 [(0, .ref (G.2.2 0))] := lv_sub hl [0] rfl
          refine L45 _ ?_ ?_ _ _ _ hH hl
          · exact BS_adv hT hB (by rw [c_37.2]; omega)
          · rw [Option.some.inj e1]
            exact e2
        · -- 37F
          rw [if_neg c_37] at hH
          rw [if_neg (fun q => q.elim c_29 c_37)] at e1
          refine lv_aload_n hx hb dX4_readClause_40 rfl (lv_at hl 0 rfl) ?_
          refine n_iconst hx hb dX4_readClause_41 ?_
          refine m_callvF (m_runV (As := [.int (iI 5)]) (rest := []) S hH hK hj hl.1 (mm_must l G σ0 t u 5 _ hT hB (by omega) (by omega)) (lw_V q1774 q1776 qs68 q109 q1777) kd_X4_must rfl rfl dX4_readClause_42) hH hA (fun H locs hH => ?_)
          have hl : lv_has ls 1 [(0, .ref (G.2.2 0))] := lv_sub hl [0] rfl
          refine L45 _ ?_ ?_ _ _ _ hH hl
          · exact BS_mus hT hB (by omega)
          · rw [Option.some.inj e1]
            exact e2
    · -- 13F
      rw [if_pos c_13] at hH
      rw [if_pos (Or.inr c_13)] at e1
      have hB3 : BS t (advP u) := BS_adv hT hB (by rw [c_13.2]; omega)
      refine lv_aload_n hx hb dX4_readClause_16 rfl (lv_at hl 0 rfl) ?_
      refine n_iconst hx hb dX4_readClause_17 ?_
      refine m_callvF (m_runV (As := [.int (iI 0)]) (rest := []) S hH hK hj hl.1 ((rd_all l G 60).2.2.1 σ0 t (advP u) s1 0 _ hT hB3 (by omega) (by omega) e1) (lw_V q1755 q1757 qs64 q109 q1758) kd_X4_readSum rfl rfl dX4_readClause_18) hH hA (fun H locs hH => ?_)
      refine lv_goto (tgt := 45) hx hb dX4_readClause_21 (by decide) ?_
      have hl : lv_has ls 1 [(0, .ref (G.2.2 0))] := lv_sub hl [0] rfl
      refine L45 _ ?_ ?_ _ _ _ hH hl
      · exact BS_rd hT _ _ _ _ _ hB3 e1
      · exact e2
