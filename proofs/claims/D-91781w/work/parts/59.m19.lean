theorem mv_plainOf (l : Launch) (G : MG) (n : Nat) (IH_positiveOf : TEv l G yX4_positiveOf cX4_positiveOf 8 6 n) : TEv l G yX4_plainOf cX4_plainOf 3 3 (n + 1) := by
  intro σ0 g b live f j sz hV hg0 hg1 hb01 hl01 hm
  refine m_start (by decide) (Nat.le_of_ble_eq_true rfl) ?_
  intro p e s m below meth c ⟨S, hr, hlk, hH, hK, hj, hsz, hnm⟩ ls hl
  subst hsz
  obtain ⟨hx, hb, hml, hown, hts⟩ := S
  have S : CallFix p m c _ _ s _ lw_all RX4 := ⟨hx, hb, hml, hown, hts⟩
  have hA : ∀ q, s.heap.size ≤ q → mA G (evS σ0 g b) s.heap.size q := fun q hq => Or.inr hq
  have hl : lv_has ls 3 [(0, .ref (G.2.2 0)), (1, .int (iI live))] := hl
  have v0 := hV.1
  have v3 := hV.2.2.2
  unfold caseOK at v3
  have hc := cdA_r hV hg0
  simp only [mn] at hm
  obtain ⟨⟨q1, i1⟩, e1, e2⟩ := Option.bind_eq_some_iff.mp hm
  obtain ⟨⟨f1, j1⟩, e3, e4⟩ := Option.map_eq_some_iff.mp e2
  have L2 : ∀ (k : Nat) (q : Bool) (i : Int), (hi0 : 0 ≤ i) → (hi1 : i ≤ σ0 19 0) → (hnt : ntM (cdA σ0) k q i = some (q1, i1)) → ∀ (H : Heap) (locs : List Loc) (ls : Array Slot), MH G (mA G (evS σ0 g b) s.heap.size) (evS σ0 i b) s.heap H locs → lv_has ls 3 [(0, .ref (G.2.2 0)), (1, .int (iI live)), (2, .int (iI (if q = true then (1 : Int) else 0)))] → W p l e (rmD (n + 1 + 4)) s m ([.ref (G.2.2 0), .int (iI live)] : List Value).toArray below meth c H locs 0 0 (MQ below (mQi G (evS σ0 g b) s.heap.size (fun z σ' => ((z = 0 ∨ z = 1) ∧ (live = 1 → b = 0 → ∀ x, f (σ0 5) = some x → z = x)) ∧ σ' = evS σ0 j (brk f (σ0 5) live b))) ([.ref (G.2.2 0), .int (iI live)] : List Value).toArray s 0 0 (mA G (evS σ0 g b) s.heap.size)) (F0 m 2 ls []) := by
    intro k
    induction k with
    | zero => intro q i hi0 hi1 hnt; rw [ntM] at hnt; cases hnt
    | succ k ih_2 =>
      intro q i hi0 hi1 hnt H locs ls hH hl
      rw [ntM] at hnt
      have hq01 : (if q = true then (1 : Int) else 0) = 0 ∨ (if q = true then (1 : Int) else 0) = 1 := by cases q <;> simp
      have hc := cdA_r hV hi0
      refine lv_aload_n hx hb dX4_plainOf_2 rfl (lv_at hl 0 rfl) ?_
      refine n_bipush (z := 9) hx hb dX4_plainOf_3 (by decide) ?_
      refine m_calliF (m_runV (As := [.int (iI 9)]) (rest := []) S hH hK hj hl.1 (mm_passes l G σ0 i b 9 _ hV (by omega) (by omega) hb01 (by omega)) (lw_V q1839 q1841 qs82 q109 q1842) kd_X4_passes rfl rfl dX4_plainOf_5 (hR := ⟨by dsimp only [rmD]; omega, by dsimp only [rmD]; omega⟩)) hH hA (fun H locs hH => ?_)
      refine z_if_eq (tgt := 24) hx hb dX4_plainOf_8 (by decide) (fun c_8 => ?_) (fun c_8 => ?_)
      · -- 8T
        rw [if_neg c_8] at hH
        rw [if_neg c_8] at hnt
        obtain ⟨rfl, rfl⟩ : q = q1 ∧ i = i1 := by
          cases hnt
          exact ⟨rfl, rfl⟩
        refine lv_aload_n hx hb dX4_plainOf_24 rfl (lv_at hl 0 rfl) ?_
        refine lv_iload_n hx hb dX4_plainOf_25 rfl (lv_at hl 1 rfl) ?_
        refine m_calli (m_runV (As := [.int (iI live)]) (rest := []) S hH hK hj hl.1 (IH_positiveOf σ0 i b live f1 j1 _ hV hi0 hi1 hb01 hl01 e3) (lw_V q1861 q1863 qs87 q109 q1864) kd_X4_positiveOf rfl rfl dX4_plainOf_26 (hR := ⟨by dsimp only [rmD]; omega, by dsimp only [rmD]; omega⟩)) hH hA (fun z26 σ26 H locs q_26 hH => ?_)
        obtain ⟨⟨hz0, hzv0⟩, e9⟩ := q_26
        subst e9
        refine lv_iload_n hx hb dX4_plainOf_29 rfl (lv_at hl 2 rfl) ?_
        refine n_icmp_eq (tgt := 37) hx hb (r32 (by omega)) (r32 (by omega)) dX4_plainOf_30 (by decide) (fun c_30 => ?_) (fun c_30 => ?_)
        · -- 30T
          have hst := nt_step (q := q) (f := f1) (a := σ0 5) (live := live) (b := b) (z := z26) (z' := 0) hz0 hzv0 (Or.inl ⟨rfl, c_30⟩)
          refine n_iconst hx hb dX4_plainOf_37 ?_
          refine m_zret hx hb hr hlk hH dX4_plainOf_38 (Or.inl rfl) ?_
          cases e4
          exact ⟨⟨hst.2.1, hst.2.2⟩, by rw [hst.1]⟩
        · -- 30F
          have hst := nt_step (q := q) (f := f1) (a := σ0 5) (live := live) (b := b) (z := z26) (z' := 1) hz0 hzv0 (Or.inr ⟨rfl, c_30⟩)
          refine n_iconst hx hb dX4_plainOf_33 ?_
          refine lv_goto (tgt := 38) hx hb dX4_plainOf_34 (by decide) ?_
          refine m_zret hx hb hr hlk hH dX4_plainOf_38 (Or.inr rfl) ?_
          cases e4
          exact ⟨⟨hst.2.1, hst.2.2⟩, by rw [hst.1]⟩
      · -- 8F
        rw [if_pos c_8] at hH
        rw [if_pos c_8] at hnt
        have hlt := cdA_lt (σ := σ0) (k := i) (by omega)
        refine lv_iload_n hx hb dX4_plainOf_11 rfl (lv_at hl 2 rfl) ?_
        refine n_if_ne (tgt := 19) hx hb (r32 (by omega)) dX4_plainOf_12 (by decide) (fun c_12 => ?_) (fun c_12 => ?_)
        · -- 12T
          refine n_iconst hx hb dX4_plainOf_19 ?_
          refine lv_istore_n hx hb dX4_plainOf_20 rfl hl (Nat.le_of_ble_eq_true rfl) (lv' := [(2, .int (iI 0)), (0, .ref (G.2.2 0)), (1, .int (iI live))]) rfl (fun ls hl => ?_)
          refine lv_goto (tgt := 2) hx hb dX4_plainOf_21 (by decide) ?_
          have hl : lv_has ls 3 [(0, .ref (G.2.2 0)), (1, .int (iI live)), (2, .int (iI 0))] := lv_sub hl [1, 2, 0] rfl
          have hl : lv_has ls 3 [(0, .ref (G.2.2 0)), (1, .int (iI live)), (2, .int (iI (if (!q) = true then (1 : Int) else 0)))] := by rw [show q = true from (by cases q <;> first | rfl | exact absurd rfl c_12)]; exact hl
          refine ih_2 (!q) (i + 1) ?_ ?_ ?_ _ _ _ hH hl
          · omega
          · omega
          · exact hnt
        · -- 12F
          refine n_iconst hx hb dX4_plainOf_15 ?_
          refine lv_goto (tgt := 20) hx hb dX4_plainOf_16 (by decide) ?_
          refine lv_istore_n hx hb dX4_plainOf_20 rfl hl (Nat.le_of_ble_eq_true rfl) (lv' := [(2, .int (iI 1)), (0, .ref (G.2.2 0)), (1, .int (iI live))]) rfl (fun ls hl => ?_)
          refine lv_goto (tgt := 2) hx hb dX4_plainOf_21 (by decide) ?_
          have hl : lv_has ls 3 [(0, .ref (G.2.2 0)), (1, .int (iI live)), (2, .int (iI 1))] := lv_sub hl [1, 2, 0] rfl
          have hl : lv_has ls 3 [(0, .ref (G.2.2 0)), (1, .int (iI live)), (2, .int (iI (if (!q) = true then (1 : Int) else 0)))] := by rw [show q = false from (by cases q <;> first | rfl | exact absurd c_12 (by decide))]; exact hl
          refine ih_2 (!q) (i + 1) ?_ ?_ ?_ _ _ _ hH hl
          · omega
          · omega
          · exact hnt
  refine n_iconst hx hb dX4_plainOf_0 ?_
  refine lv_istore_n hx hb dX4_plainOf_1 rfl hl (Nat.le_of_ble_eq_true rfl) (lv' := [(2, .int (iI 0)), (0, .ref (G.2.2 0)), (1, .int (iI live))]) rfl (fun ls hl => ?_)
  have hl : lv_has ls 3 [(0, .ref (G.2.2 0)), (1, .int (iI live)), (2, .int (iI 0))] := lv_sub hl [1, 2, 0] rfl
  have hl : lv_has ls 3 [(0, .ref (G.2.2 0)), (1, .int (iI live)), (2, .int (iI (if false = true then (1 : Int) else 0)))] := by rw [if_neg (by decide)]; exact hl
  refine L2 402 false g ?_ ?_ ?_ _ _ _ hH hl
  · omega
  · omega
  · exact e1
theorem mv_positiveOf (l : Launch) (G : MG) (n : Nat) (IH_testOf : TEv l G yX4_testOf cX4_testOf 4 5 n) (IH_sumOf : SEv l G yX4_sumOf cX4_sumOf 7 2 n) : TEv l G yX4_positiveOf cX4_positiveOf 8 6 (n + 1) := by
  intro σ0 g b live f j sz hV hg0 hg1 hb01 hl01 hm
  refine m_start (by decide) (Nat.le_of_ble_eq_true rfl) ?_
  intro p e s m below meth c ⟨S, hr, hlk, hH, hK, hj, hsz, hnm⟩ ls hl
  subst hsz
  obtain ⟨hx, hb, hml, hown, hts⟩ := S
  have S : CallFix p m c _ _ s _ lw_all RX4 := ⟨hx, hb, hml, hown, hts⟩
  have hA : ∀ q, s.heap.size ≤ q → mA G (evS σ0 g b) s.heap.size q := fun q hq => Or.inr hq
  have hl : lv_has ls 8 [(0, .ref (G.2.2 0)), (1, .int (iI live))] := hl
  have v0 := hV.1
  have v3 := hV.2.2.2
  unfold caseOK at v3
  have hc := cdA_r hV hg0
  simp only [mn] at hm
  refine lv_aload_n hx hb dX4_positiveOf_0 rfl (lv_at hl 0 rfl) ?_
  refine n_bipush (z := 40) hx hb dX4_positiveOf_1 (by decide) ?_
  refine m_calliF (m_runS (As := [.int (iI 40)]) (rest := [.ref (G.2.2 0)]) S hH hK hj hl.1 (mm_sign l G (evS σ0 g b) 40 _ (by omega) (by omega)) (lw_S q1767 q1768 q109 q1769) kd_X4_sign rfl rfl dX4_positiveOf_3 (hR := ⟨by dsimp only [rmD]; omega, by dsimp only [rmD]; omega⟩)) hH hA (fun H locs hH => ?_)
  refine W.eq (g2 := F0 m 6 ls (.int (iI 140) :: .ref (G.2.2 0) :: [])) (by rfl) ?_
  refine m_calliF (m_runV (As := [.int (iI 140)]) (rest := []) S hH hK hj hl.1 (mm_passes l G σ0 g b 140 _ hV (by omega) (by omega) hb01 (by omega)) (lw_V q1839 q1841 qs82 q109 q1842) kd_X4_passes rfl rfl dX4_positiveOf_6 (hR := ⟨by dsimp only [rmD]; omega, by dsimp only [rmD]; omega⟩)) hH hA (fun H locs hH => ?_)
  refine z_if_eq (tgt := 30) hx hb dX4_positiveOf_9 (by decide) (fun c_9 => ?_) (fun c_9 => ?_)
  · -- 9T
    rw [if_neg c_9] at hH
    rw [if_neg c_9] at hm
    refine lv_aload_n hx hb dX4_positiveOf_30 rfl (lv_at hl 0 rfl) ?_
    refine lv_aload_n hx hb dX4_positiveOf_31 rfl (lv_at hl 0 rfl) ?_
    refine m_get 18 (by decide) hx hb hts hown hK hj hH q1491 (fun _ h9 => h9) rfl dX4_positiveOf_32 ?_
    refine W.eq (g2 := F0 m 35 ls (.int (iI g) :: .ref (G.2.2 0) :: [])) rfl ?_
    refine m_calliF (m_runV (As := [.int (iI g)]) (rest := []) S hH hK hj hl.1 (mm_codeAt l G σ0 g b g _ hV (by omega) (by omega) hb01 (by omega) (by omega)) (lw_V q1823 q1825 qs78 q109 q1826) kd_X4_codeAt rfl rfl dX4_positiveOf_35 (hR := ⟨by dsimp only [rmD]; omega, by dsimp only [rmD]; omega⟩)) hH hA (fun H locs hH => ?_)
    refine lv_istore_n hx hb dX4_positiveOf_38 rfl hl (Nat.le_of_ble_eq_true rfl) (lv' := [(2, .int (iI (cdA σ0 g))), (0, .ref (G.2.2 0)), (1, .int (iI live))]) rfl (fun ls hl => ?_)
    refine lv_iload_n hx hb dX4_positiveOf_39 rfl (lv_at hl 0 rfl) ?_
    refine n_bipush (z := 10) hx hb dX4_positiveOf_40 (by decide) ?_
    refine n_icmp_lt (tgt := 86) hx hb (r32 (by omega)) (r32 (by omega)) dX4_positiveOf_42 (by decide) (fun c_42 => ?_) (fun c_42 => ?_)
    · -- 42T
      rw [if_neg (by omega)] at hm
      obtain ⟨⟨f1, i1⟩, e1, e2⟩ := Option.bind_eq_some_iff.mp hm
      obtain ⟨hcc, ⟨f2, i2⟩, e3, e4⟩ := ifcmp e2
      have hcc : cdA σ0 i1 = 160 ∨ cdA σ0 i1 = 161 ∨ cdA σ0 i1 = 162 := hcc
      have e3 : mn (cdA σ0) (vlA σ0) n 2 (i1 + 1) = some (f2, i2) := e3
      have e4 : (cmpF (cdA σ0 i1) f1 f2, i2) = (f, j) := e4
      have hle1 := EV_le hg1 e1
      have hlt := cdA_lt (σ := σ0) (k := i1) (by omega)
      have hle2 := EV_le (by omega) e3
      have hbr := brk_01 (f := f1) (a := σ0 5) (live := live) hb01
      have hbr2 := brk_01 (f := f2) (a := σ0 5) (live := live) hbr
      have hc1 := cdA_r hV (k := i1) (by omega)
      have hf1 := EV_B hV hg0 hg1 (by omega) e1
      have hf2 := EV_B hV (by omega) (by omega) (by omega) e3
      have q1 := lv_r (live := live) (b := b) hf1
      have q2 := lv_r (live := live) (b := brk f1 (σ0 5) live b) hf2
      refine lv_aload_n hx hb dX4_positiveOf_86 rfl (lv_at hl 1 rfl) ?_
      refine lv_iload_n hx hb dX4_positiveOf_87 rfl (lv_at hl 2 rfl) ?_
      refine m_calllF (m_runV (As := [.int (iI live)]) (rest := []) S hH hK hj hl.1 (IH_sumOf σ0 g b live f1 i1 _ hV hg0 hg1 hb01 hl01 e1) (lw_V q1827 q1829 qs79 q109 q1830) kd_X4_sumOf rfl rfl dX4_positiveOf_88 (hR := ⟨by dsimp only [rmD]; omega, by dsimp only [rmD]; omega⟩)) hH hA (fun H locs hH => ?_)
      refine lv_lstore_n hx hb dX4_positiveOf_91 rfl hl (Nat.le_of_ble_eq_true rfl) (lv' := [(3, .long (lI (lv f1 (σ0 5) live b))), (2, .int (iI (cdA σ0 g))), (0, .ref (G.2.2 0)), (1, .int (iI live))]) rfl (fun ls hl => ?_)
      refine lv_aload_n hx hb dX4_positiveOf_92 rfl (lv_at hl 2 rfl) ?_
      refine lv_aload_n hx hb dX4_positiveOf_93 rfl (lv_at hl 2 rfl) ?_
      refine m_get 18 (by decide) hx hb hts hown hK hj hH q1491 (fun _ h9 => h9) rfl dX4_positiveOf_94 ?_
      refine W.eq (g2 := F0 m 97 ls (.int (iI i1) :: .ref (G.2.2 0) :: [])) rfl ?_
      refine m_calliF (m_runV (As := [.int (iI i1)]) (rest := []) S hH hK hj hl.1 (mm_codeAt l G σ0 i1 (brk f1 (σ0 5) live b) i1 _ hV (by omega) (by omega) hbr (by omega) (by omega)) (lw_V q1823 q1825 qs78 q109 q1826) kd_X4_codeAt rfl rfl dX4_positiveOf_97 (hR := ⟨by dsimp only [rmD]; omega, by dsimp only [rmD]; omega⟩)) hH hA (fun H locs hH => ?_)
      refine lv_istore hx hb dX4_positiveOf_100 hl (Nat.le_of_ble_eq_true rfl) (lv' := [(5, .int (iI (cdA σ0 i1))), (3, .long (lI (lv f1 (σ0 5) live b))), (2, .int (iI (cdA σ0 g))), (0, .ref (G.2.2 0)), (1, .int (iI live))]) rfl (fun ls hl => ?_)
      refine lv_aload_n hx hb dX4_positiveOf_102 rfl (lv_at hl 3 rfl) ?_
      refine lv_dup hx hb dX4_positiveOf_103 rfl ?_
      refine m_get 18 (by decide) hx hb hts hown hK hj hH q1491 (fun _ h9 => h9) rfl dX4_positiveOf_104 ?_
      refine W.eq (g2 := F0 m 107 ls (.int (iI i1) :: .ref (G.2.2 0) :: [])) rfl ?_
      refine n_iconst hx hb dX4_positiveOf_107 ?_
      refine n_iadd hx hb dX4_positiveOf_108 ?_
      refine mp_18 hx hb hts hown hK hj hH q1491 (fun _ h9 => h9) dX4_positiveOf_109 (fun H locs hH => ?_)
      have hH := MH_to hH (τ := evS σ0 (i1 + 1) (brk f1 (σ0 5) live b)) evS_18
      refine lv_aload_n hx hb dX4_positiveOf_112 rfl (lv_at hl 3 rfl) ?_
      refine lv_iload_n hx hb dX4_positiveOf_113 rfl (lv_at hl 4 rfl) ?_
      refine m_calllF (m_runV (As := [.int (iI live)]) (rest := []) S hH hK hj hl.1 (IH_sumOf σ0 (i1 + 1) (brk f1 (σ0 5) live b) live f2 i2 _ hV (by omega) (by omega) hbr hl01 e3) (lw_V q1827 q1829 qs79 q109 q1830) kd_X4_sumOf rfl rfl dX4_positiveOf_114 (hR := ⟨by dsimp only [rmD]; omega, by dsimp only [rmD]; omega⟩)) hH hA (fun H locs hH => ?_)
      refine lv_lstore hx hb dX4_positiveOf_117 hl (Nat.le_of_ble_eq_true rfl) (lv' := [(6, .long (lI (lv f2 (σ0 5) live (brk f1 (σ0 5) live b)))), (5, .int (iI (cdA σ0 i1))), (3, .long (lI (lv f1 (σ0 5) live b))), (2, .int (iI (cdA σ0 g))), (0, .ref (G.2.2 0)), (1, .int (iI live))]) rfl (fun ls hl => ?_)
      refine lv_iload_n hx hb dX4_positiveOf_119 rfl (lv_at hl 5 rfl) ?_
      refine n_if_eq (tgt := 181) hx hb (r32 (by omega)) dX4_positiveOf_120 (by decide) (fun c_120 => ?_) (fun c_120 => ?_)
      · -- 120T
        refine n_iconst hx hb dX4_positiveOf_181 ?_
        refine m_zret hx hb hr hlk hH dX4_positiveOf_182 (Or.inl rfl) ?_
        cases e4
        exact ⟨⟨Or.inl rfl, fun h1 h2 x hx => by omega⟩, by rw [cmp_brk (op := cdA σ0 i1) hl01 hb01]⟩
      · -- 120F
        refine lv_aload_n hx hb dX4_positiveOf_123 rfl (lv_at hl 4 rfl) ?_
        refine m_get 20 (by decide) hx hb hts hown hK hj hH q1493 (fun _ h9 => h9) rfl dX4_positiveOf_124 ?_
        refine W.eq (g2 := F0 m 127 ls (.int (iI (brk f2 (σ0 5) live (brk f1 (σ0 5) live b))) :: [])) rfl ?_
        refine n_if_ne (tgt := 181) hx hb (r32 (by omega)) dX4_positiveOf_127 (by decide) (fun c_127 => ?_) (fun c_127 => ?_)
        · -- 127T
          refine n_iconst hx hb dX4_positiveOf_181 ?_
          refine m_zret hx hb hr hlk hH dX4_positiveOf_182 (Or.inl rfl) ?_
          cases e4
          exact ⟨⟨Or.inl rfl, fun h1 h2 x hx => (cmp_bad hl01 hb01 h1 h2 c_127 hx).elim⟩, by rw [cmp_brk (op := cdA σ0 i1) hl01 hb01]⟩
        · -- 127F
          refine lv_iload hx hb dX4_positiveOf_130 (lv_at hl 1 rfl) ?_
          refine n_bipush (z := 60) hx hb dX4_positiveOf_132 (by decide) ?_
          refine m_calliF (m_runS (As := [.int (iI 60)]) (rest := [.int (iI (cdA σ0 i1))]) S hH hK hj hl.1 (mm_sign l G (evS σ0 i2 (brk f2 (σ0 5) live (brk f1 (σ0 5) live b))) 60 _ (by omega) (by omega)) (lw_S q1767 q1768 q109 q1769) kd_X4_sign rfl rfl dX4_positiveOf_134 (hR := ⟨by dsimp only [rmD]; omega, by dsimp only [rmD]; omega⟩)) hH hA (fun H locs hH => ?_)
          refine W.eq (g2 := F0 m 137 ls (.int (iI 160) :: .int (iI (cdA σ0 i1)) :: [])) (by rfl) ?_
          refine n_icmp_ne (tgt := 150) hx hb (r32 (by omega)) (r32 (by omega)) dX4_positiveOf_137 (by decide) (fun c_137 => ?_) (fun c_137 => ?_)
          · -- 137T
            refine lv_iload hx hb dX4_positiveOf_150 (lv_at hl 1 rfl) ?_
            refine n_bipush (z := 62) hx hb dX4_positiveOf_152 (by decide) ?_
            refine m_calliF (m_runS (As := [.int (iI 62)]) (rest := [.int (iI (cdA σ0 i1))]) S hH hK hj hl.1 (mm_sign l G (evS σ0 i2 (brk f2 (σ0 5) live (brk f1 (σ0 5) live b))) 62 _ (by omega) (by omega)) (lw_S q1767 q1768 q109 q1769) kd_X4_sign rfl rfl dX4_positiveOf_154 (hR := ⟨by dsimp only [rmD]; omega, by dsimp only [rmD]; omega⟩)) hH hA (fun H locs hH => ?_)
            refine W.eq (g2 := F0 m 157 ls (.int (iI 162) :: .int (iI (cdA σ0 i1)) :: [])) (by rfl) ?_
            refine n_icmp_ne (tgt := 170) hx hb (r32 (by omega)) (r32 (by omega)) dX4_positiveOf_157 (by decide) (fun c_157 => ?_) (fun c_157 => ?_)
            · -- 157T
              refine lv_lload_n hx hb dX4_positiveOf_170 rfl (lv_at hl 2 rfl) ?_
              refine lv_lload hx hb dX4_positiveOf_171 (lv_at hl 0 rfl) ?_
              refine n_lcmp_ne (tgt := 181) hx hb (r64 (by omega)) (r64 (by omega)) dX4_positiveOf_173 dX4_positiveOf_174 (by decide) (fun c_173 => ?_) (fun c_173 => ?_)
              · -- 173T
                refine n_iconst hx hb dX4_positiveOf_181 ?_
                refine m_zret hx hb hr hlk hH dX4_positiveOf_182 (Or.inl rfl) ?_
                cases e4
                exact ⟨⟨Or.inl rfl, fun h1 h2 x hx => by rw [cmp_val h1 h2 hx, if_neg (by rw [if_neg (by omega), if_neg (by omega)]; omega)]⟩, by rw [cmp_brk (op := cdA σ0 i1) hl01 hb01]⟩
              · -- 173F
                refine n_iconst hx hb dX4_positiveOf_177 ?_
                refine lv_goto (tgt := 182) hx hb dX4_positiveOf_178 (by decide) ?_
                refine m_zret hx hb hr hlk hH dX4_positiveOf_182 (Or.inr rfl) ?_
                cases e4
                exact ⟨⟨Or.inr rfl, fun h1 h2 x hx => by rw [cmp_val h1 h2 hx, if_pos (by rw [if_neg (by omega), if_neg (by omega)]; omega)]⟩, by rw [cmp_brk (op := cdA σ0 i1) hl01 hb01]⟩
            · -- 157F
              refine lv_lload_n hx hb dX4_positiveOf_160 rfl (lv_at hl 2 rfl) ?_
              refine lv_lload hx hb dX4_positiveOf_161 (lv_at hl 0 rfl) ?_
              refine n_lcmp_le (tgt := 181) hx hb (r64 (by omega)) (r64 (by omega)) dX4_positiveOf_163 dX4_positiveOf_164 (by decide) (fun c_163 => ?_) (fun c_163 => ?_)
              · -- 163T
                refine n_iconst hx hb dX4_positiveOf_181 ?_
                refine m_zret hx hb hr hlk hH dX4_positiveOf_182 (Or.inl rfl) ?_
                cases e4
                exact ⟨⟨Or.inl rfl, fun h1 h2 x hx => by rw [cmp_val h1 h2 hx, if_neg (by rw [if_neg (by omega), if_pos (by omega)]; omega)]⟩, by rw [cmp_brk (op := cdA σ0 i1) hl01 hb01]⟩
              · -- 163F
                refine lv_goto (tgt := 177) hx hb dX4_positiveOf_167 (by decide) ?_
                refine n_iconst hx hb dX4_positiveOf_177 ?_
                refine lv_goto (tgt := 182) hx hb dX4_positiveOf_178 (by decide) ?_
                refine m_zret hx hb hr hlk hH dX4_positiveOf_182 (Or.inr rfl) ?_
                cases e4
                exact ⟨⟨Or.inr rfl, fun h1 h2 x hx => by rw [cmp_val h1 h2 hx, if_pos (by rw [if_neg (by omega), if_pos (by omega)]; omega)]⟩, by rw [cmp_brk (op := cdA σ0 i1) hl01 hb01]⟩
          · -- 137F
            refine lv_lload_n hx hb dX4_positiveOf_140 rfl (lv_at hl 2 rfl) ?_
            refine lv_lload hx hb dX4_positiveOf_141 (lv_at hl 0 rfl) ?_
            refine n_lcmp_ge (tgt := 181) hx hb (r64 (by omega)) (r64 (by omega)) dX4_positiveOf_143 dX4_positiveOf_144 (by decide) (fun c_143 => ?_) (fun c_143 => ?_)
            · -- 143T
              refine n_iconst hx hb dX4_positiveOf_181 ?_
              refine m_zret hx hb hr hlk hH dX4_positiveOf_182 (Or.inl rfl) ?_
              cases e4
              exact ⟨⟨Or.inl rfl, fun h1 h2 x hx => by rw [cmp_val h1 h2 hx, if_neg (by rw [if_pos (by omega)]; omega)]⟩, by rw [cmp_brk (op := cdA σ0 i1) hl01 hb01]⟩
            · -- 143F
              refine lv_goto (tgt := 177) hx hb dX4_positiveOf_147 (by decide) ?_
              refine n_iconst hx hb dX4_positiveOf_177 ?_
              refine lv_goto (tgt := 182) hx hb dX4_positiveOf_178 (by decide) ?_
              refine m_zret hx hb hr hlk hH dX4_positiveOf_182 (Or.inr rfl) ?_
              cases e4
              exact ⟨⟨Or.inr rfl, fun h1 h2 x hx => by rw [cmp_val h1 h2 hx, if_pos (by rw [if_pos (by omega)]; omega)]⟩, by rw [cmp_brk (op := cdA σ0 i1) hl01 hb01]⟩
    · -- 42F
      refine lv_iload_n hx hb dX4_positiveOf_45 rfl (lv_at hl 0 rfl) ?_
      refine n_bipush (z := 16) hx hb dX4_positiveOf_46 (by decide) ?_
      refine n_icmp_gt (tgt := 86) hx hb (r32 (by omega)) (r32 (by omega)) dX4_positiveOf_48 (by decide) (fun c_48 => ?_) (fun c_48 => ?_)
      · -- 48T
        rw [if_neg (by omega)] at hm
        obtain ⟨⟨f1, i1⟩, e1, e2⟩ := Option.bind_eq_some_iff.mp hm
        obtain ⟨hcc, ⟨f2, i2⟩, e3, e4⟩ := ifcmp e2
        have hcc : cdA σ0 i1 = 160 ∨ cdA σ0 i1 = 161 ∨ cdA σ0 i1 = 162 := hcc
        have e3 : mn (cdA σ0) (vlA σ0) n 2 (i1 + 1) = some (f2, i2) := e3
        have e4 : (cmpF (cdA σ0 i1) f1 f2, i2) = (f, j) := e4
        have hle1 := EV_le hg1 e1
        have hlt := cdA_lt (σ := σ0) (k := i1) (by omega)
        have hle2 := EV_le (by omega) e3
        have hbr := brk_01 (f := f1) (a := σ0 5) (live := live) hb01
        have hbr2 := brk_01 (f := f2) (a := σ0 5) (live := live) hbr
        have hc1 := cdA_r hV (k := i1) (by omega)
        have hf1 := EV_B hV hg0 hg1 (by omega) e1
        have hf2 := EV_B hV (by omega) (by omega) (by omega) e3
        have q1 := lv_r (live := live) (b := b) hf1
        have q2 := lv_r (live := live) (b := brk f1 (σ0 5) live b) hf2
        refine lv_aload_n hx hb dX4_positiveOf_86 rfl (lv_at hl 1 rfl) ?_
        refine lv_iload_n hx hb dX4_positiveOf_87 rfl (lv_at hl 2 rfl) ?_
        refine m_calllF (m_runV (As := [.int (iI live)]) (rest := []) S hH hK hj hl.1 (IH_sumOf σ0 g b live f1 i1 _ hV hg0 hg1 hb01 hl01 e1) (lw_V q1827 q1829 qs79 q109 q1830) kd_X4_sumOf rfl rfl dX4_positiveOf_88 (hR := ⟨by dsimp only [rmD]; omega, by dsimp only [rmD]; omega⟩)) hH hA (fun H locs hH => ?_)
        refine lv_lstore_n hx hb dX4_positiveOf_91 rfl hl (Nat.le_of_ble_eq_true rfl) (lv' := [(3, .long (lI (lv f1 (σ0 5) live b))), (2, .int (iI (cdA σ0 g))), (0, .ref (G.2.2 0)), (1, .int (iI live))]) rfl (fun ls hl => ?_)
        refine lv_aload_n hx hb dX4_positiveOf_92 rfl (lv_at hl 2 rfl) ?_
        refine lv_aload_n hx hb dX4_positiveOf_93 rfl (lv_at hl 2 rfl) ?_
        refine m_get 18 (by decide) hx hb hts hown hK hj hH q1491 (fun _ h9 => h9) rfl dX4_positiveOf_94 ?_
        refine W.eq (g2 := F0 m 97 ls (.int (iI i1) :: .ref (G.2.2 0) :: [])) rfl ?_
        refine m_calliF (m_runV (As := [.int (iI i1)]) (rest := []) S hH hK hj hl.1 (mm_codeAt l G σ0 i1 (brk f1 (σ0 5) live b) i1 _ hV (by omega) (by omega) hbr (by omega) (by omega)) (lw_V q1823 q1825 qs78 q109 q1826) kd_X4_codeAt rfl rfl dX4_positiveOf_97 (hR := ⟨by dsimp only [rmD]; omega, by dsimp only [rmD]; omega⟩)) hH hA (fun H locs hH => ?_)
        refine lv_istore hx hb dX4_positiveOf_100 hl (Nat.le_of_ble_eq_true rfl) (lv' := [(5, .int (iI (cdA σ0 i1))), (3, .long (lI (lv f1 (σ0 5) live b))), (2, .int (iI (cdA σ0 g))), (0, .ref (G.2.2 0)), (1, .int (iI live))]) rfl (fun ls hl => ?_)
        refine lv_aload_n hx hb dX4_positiveOf_102 rfl (lv_at hl 3 rfl) ?_
        refine lv_dup hx hb dX4_positiveOf_103 rfl ?_
        refine m_get 18 (by decide) hx hb hts hown hK hj hH q1491 (fun _ h9 => h9) rfl dX4_positiveOf_104 ?_
        refine W.eq (g2 := F0 m 107 ls (.int (iI i1) :: .ref (G.2.2 0) :: [])) rfl ?_
        refine n_iconst hx hb dX4_positiveOf_107 ?_
        refine n_iadd hx hb dX4_positiveOf_108 ?_
        refine mp_18 hx hb hts hown hK hj hH q1491 (fun _ h9 => h9) dX4_positiveOf_109 (fun H locs hH => ?_)
        have hH := MH_to hH (τ := evS σ0 (i1 + 1) (brk f1 (σ0 5) live b)) evS_18
        refine lv_aload_n hx hb dX4_positiveOf_112 rfl (lv_at hl 3 rfl) ?_
        refine lv_iload_n hx hb dX4_positiveOf_113 rfl (lv_at hl 4 rfl) ?_
        refine m_calllF (m_runV (As := [.int (iI live)]) (rest := []) S hH hK hj hl.1 (IH_sumOf σ0 (i1 + 1) (brk f1 (σ0 5) live b) live f2 i2 _ hV (by omega) (by omega) hbr hl01 e3) (lw_V q1827 q1829 qs79 q109 q1830) kd_X4_sumOf rfl rfl dX4_positiveOf_114 (hR := ⟨by dsimp only [rmD]; omega, by dsimp only [rmD]; omega⟩)) hH hA (fun H locs hH => ?_)
        refine lv_lstore hx hb dX4_positiveOf_117 hl (Nat.le_of_ble_eq_true rfl) (lv' := [(6, .long (lI (lv f2 (σ0 5) live (brk f1 (σ0 5) live b)))), (5, .int (iI (cdA σ0 i1))), (3, .long (lI (lv f1 (σ0 5) live b))), (2, .int (iI (cdA σ0 g))), (0, .ref (G.2.2 0)), (1, .int (iI live))]) rfl (fun ls hl => ?_)
        refine lv_iload_n hx hb dX4_positiveOf_119 rfl (lv_at hl 5 rfl) ?_
        refine n_if_eq (tgt := 181) hx hb (r32 (by omega)) dX4_positiveOf_120 (by decide) (fun c_120 => ?_) (fun c_120 => ?_)
        · -- 120T
          refine n_iconst hx hb dX4_positiveOf_181 ?_
          refine m_zret hx hb hr hlk hH dX4_positiveOf_182 (Or.inl rfl) ?_
          cases e4
          exact ⟨⟨Or.inl rfl, fun h1 h2 x hx => by omega⟩, by rw [cmp_brk (op := cdA σ0 i1) hl01 hb01]⟩
        · -- 120F
          refine lv_aload_n hx hb dX4_positiveOf_123 rfl (lv_at hl 4 rfl) ?_
          refine m_get 20 (by decide) hx hb hts hown hK hj hH q1493 (fun _ h9 => h9) rfl dX4_positiveOf_124 ?_
          refine W.eq (g2 := F0 m 127 ls (.int (iI (brk f2 (σ0 5) live (brk f1 (σ0 5) live b))) :: [])) rfl ?_
          refine n_if_ne (tgt := 181) hx hb (r32 (by omega)) dX4_positiveOf_127 (by decide) (fun c_127 => ?_) (fun c_127 => ?_)
          · -- 127T
            refine n_iconst hx hb dX4_positiveOf_181 ?_
            refine m_zret hx hb hr hlk hH dX4_positiveOf_182 (Or.inl rfl) ?_
            cases e4
            exact ⟨⟨Or.inl rfl, fun h1 h2 x hx => (cmp_bad hl01 hb01 h1 h2 c_127 hx).elim⟩, by rw [cmp_brk (op := cdA σ0 i1) hl01 hb01]⟩
          · -- 127F
            refine lv_iload hx hb dX4_positiveOf_130 (lv_at hl 1 rfl) ?_
            refine n_bipush (z := 60) hx hb dX4_positiveOf_132 (by decide) ?_
            refine m_calliF (m_runS (As := [.int (iI 60)]) (rest := [.int (iI (cdA σ0 i1))]) S hH hK hj hl.1 (mm_sign l G (evS σ0 i2 (brk f2 (σ0 5) live (brk f1 (σ0 5) live b))) 60 _ (by omega) (by omega)) (lw_S q1767 q1768 q109 q1769) kd_X4_sign rfl rfl dX4_positiveOf_134 (hR := ⟨by dsimp only [rmD]; omega, by dsimp only [rmD]; omega⟩)) hH hA (fun H locs hH => ?_)
            refine W.eq (g2 := F0 m 137 ls (.int (iI 160) :: .int (iI (cdA σ0 i1)) :: [])) (by rfl) ?_
            refine n_icmp_ne (tgt := 150) hx hb (r32 (by omega)) (r32 (by omega)) dX4_positiveOf_137 (by decide) (fun c_137 => ?_) (fun c_137 => ?_)
            · -- 137T
              refine lv_iload hx hb dX4_positiveOf_150 (lv_at hl 1 rfl) ?_
              refine n_bipush (z := 62) hx hb dX4_positiveOf_152 (by decide) ?_
              refine m_calliF (m_runS (As := [.int (iI 62)]) (rest := [.int (iI (cdA σ0 i1))]) S hH hK hj hl.1 (mm_sign l G (evS σ0 i2 (brk f2 (σ0 5) live (brk f1 (σ0 5) live b))) 62 _ (by omega) (by omega)) (lw_S q1767 q1768 q109 q1769) kd_X4_sign rfl rfl dX4_positiveOf_154 (hR := ⟨by dsimp only [rmD]; omega, by dsimp only [rmD]; omega⟩)) hH hA (fun H locs hH => ?_)
              refine W.eq (g2 := F0 m 157 ls (.int (iI 162) :: .int (iI (cdA σ0 i1)) :: [])) (by rfl) ?_
              refine n_icmp_ne (tgt := 170) hx hb (r32 (by omega)) (r32 (by omega)) dX4_positiveOf_157 (by decide) (fun c_157 => ?_) (fun c_157 => ?_)
              · -- 157T
                refine lv_lload_n hx hb dX4_positiveOf_170 rfl (lv_at hl 2 rfl) ?_
                refine lv_lload hx hb dX4_positiveOf_171 (lv_at hl 0 rfl) ?_
                refine n_lcmp_ne (tgt := 181) hx hb (r64 (by omega)) (r64 (by omega)) dX4_positiveOf_173 dX4_positiveOf_174 (by decide) (fun c_173 => ?_) (fun c_173 => ?_)
                · -- 173T
                  refine n_iconst hx hb dX4_positiveOf_181 ?_
                  refine m_zret hx hb hr hlk hH dX4_positiveOf_182 (Or.inl rfl) ?_
                  cases e4
                  exact ⟨⟨Or.inl rfl, fun h1 h2 x hx => by rw [cmp_val h1 h2 hx, if_neg (by rw [if_neg (by omega), if_neg (by omega)]; omega)]⟩, by rw [cmp_brk (op := cdA σ0 i1) hl01 hb01]⟩
                · -- 173F
                  refine n_iconst hx hb dX4_positiveOf_177 ?_
                  refine lv_goto (tgt := 182) hx hb dX4_positiveOf_178 (by decide) ?_
                  refine m_zret hx hb hr hlk hH dX4_positiveOf_182 (Or.inr rfl) ?_
                  cases e4
                  exact ⟨⟨Or.inr rfl, fun h1 h2 x hx => by rw [cmp_val h1 h2 hx, if_pos (by rw [if_neg (by omega), if_neg (by omega)]; omega)]⟩, by rw [cmp_brk (op := cdA σ0 i1) hl01 hb01]⟩
              · -- 157F
                refine lv_lload_n hx hb dX4_positiveOf_160 rfl (lv_at hl 2 rfl) ?_
                refine lv_lload hx hb dX4_positiveOf_161 (lv_at hl 0 rfl) ?_
                refine n_lcmp_le (tgt := 181) hx hb (r64 (by omega)) (r64 (by omega)) dX4_positiveOf_163 dX4_positiveOf_164 (by decide) (fun c_163 => ?_) (fun c_163 => ?_)
                · -- 163T
                  refine n_iconst hx hb dX4_positiveOf_181 ?_
                  refine m_zret hx hb hr hlk hH dX4_positiveOf_182 (Or.inl rfl) ?_
                  cases e4
                  exact ⟨⟨Or.inl rfl, fun h1 h2 x hx => by rw [cmp_val h1 h2 hx, if_neg (by rw [if_neg (by omega), if_pos (by omega)]; omega)]⟩, by rw [cmp_brk (op := cdA σ0 i1) hl01 hb01]⟩
                · -- 163F
                  refine lv_goto (tgt := 177) hx hb dX4_positiveOf_167 (by decide) ?_
                  refine n_iconst hx hb dX4_positiveOf_177 ?_
                  refine lv_goto (tgt := 182) hx hb dX4_positiveOf_178 (by decide) ?_
                  refine m_zret hx hb hr hlk hH dX4_positiveOf_182 (Or.inr rfl) ?_
                  cases e4
                  exact ⟨⟨Or.inr rfl, fun h1 h2 x hx => by rw [cmp_val h1 h2 hx, if_pos (by rw [if_neg (by omega), if_pos (by omega)]; omega)]⟩, by rw [cmp_brk (op := cdA σ0 i1) hl01 hb01]⟩
            · -- 137F
              refine lv_lload_n hx hb dX4_positiveOf_140 rfl (lv_at hl 2 rfl) ?_
              refine lv_lload hx hb dX4_positiveOf_141 (lv_at hl 0 rfl) ?_
              refine n_lcmp_ge (tgt := 181) hx hb (r64 (by omega)) (r64 (by omega)) dX4_positiveOf_143 dX4_positiveOf_144 (by decide) (fun c_143 => ?_) (fun c_143 => ?_)
              · -- 143T
                refine n_iconst hx hb dX4_positiveOf_181 ?_
                refine m_zret hx hb hr hlk hH dX4_positiveOf_182 (Or.inl rfl) ?_
                cases e4
                exact ⟨⟨Or.inl rfl, fun h1 h2 x hx => by rw [cmp_val h1 h2 hx, if_neg (by rw [if_pos (by omega)]; omega)]⟩, by rw [cmp_brk (op := cdA σ0 i1) hl01 hb01]⟩
              · -- 143F
                refine lv_goto (tgt := 177) hx hb dX4_positiveOf_147 (by decide) ?_
                refine n_iconst hx hb dX4_positiveOf_177 ?_
                refine lv_goto (tgt := 182) hx hb dX4_positiveOf_178 (by decide) ?_
                refine m_zret hx hb hr hlk hH dX4_positiveOf_182 (Or.inr rfl) ?_
                cases e4
                exact ⟨⟨Or.inr rfl, fun h1 h2 x hx => by rw [cmp_val h1 h2 hx, if_pos (by rw [if_pos (by omega)]; omega)]⟩, by rw [cmp_brk (op := cdA σ0 i1) hl01 hb01]⟩
      · -- 48F
        rw [if_pos (by omega)] at hm
        obtain ⟨rfl, rfl⟩ : factF (cdA σ0 g) = f ∧ g + 1 = j := by
          cases hm
          exact ⟨rfl, rfl⟩
        have hlt := cdA_lt (σ := σ0) (k := g) (by omega)
        have hbf : brk (factF (cdA σ0 g)) (σ0 5) live b = b := brk_some (x := _) rfl
        refine lv_aload_n hx hb dX4_positiveOf_51 rfl (lv_at hl 1 rfl) ?_
        refine lv_dup hx hb dX4_positiveOf_52 rfl ?_
        refine m_get 18 (by decide) hx hb hts hown hK hj hH q1491 (fun _ h9 => h9) rfl dX4_positiveOf_53 ?_
        refine W.eq (g2 := F0 m 56 ls (.int (iI g) :: .ref (G.2.2 0) :: [])) rfl ?_
        refine n_iconst hx hb dX4_positiveOf_56 ?_
        refine n_iadd hx hb dX4_positiveOf_57 ?_
        refine mp_18 hx hb hts hown hK hj hH q1491 (fun _ h9 => h9) dX4_positiveOf_58 (fun H locs hH => ?_)
        have hH := MH_to hH (τ := evS σ0 (g + 1) b) evS_18
        refine lv_iload_n hx hb dX4_positiveOf_61 rfl (lv_at hl 2 rfl) ?_
        refine n_if_eq (tgt := 84) hx hb (r32 (by omega)) dX4_positiveOf_62 (by decide) (fun c_62 => ?_) (fun c_62 => ?_)
        · -- 62T
          refine n_iconst hx hb dX4_positiveOf_84 ?_
          refine m_zret hx hb hr hlk hH dX4_positiveOf_85 (Or.inl rfl) ?_
          exact ⟨⟨Or.inl rfl, fun h1 h2 => by omega⟩, by rw [hbf]⟩
        · -- 62F
          refine lv_aload_n hx hb dX4_positiveOf_65 rfl (lv_at hl 1 rfl) ?_
          refine m_get 20 (by decide) hx hb hts hown hK hj hH q1493 (fun _ h9 => h9) rfl dX4_positiveOf_66 ?_
          refine W.eq (g2 := F0 m 69 ls (.int (iI b) :: [])) rfl ?_
          refine n_if_ne (tgt := 84) hx hb (r32 (by omega)) dX4_positiveOf_69 (by decide) (fun c_69 => ?_) (fun c_69 => ?_)
          · -- 69T
            refine n_iconst hx hb dX4_positiveOf_84 ?_
            refine m_zret hx hb hr hlk hH dX4_positiveOf_85 (Or.inl rfl) ?_
            exact ⟨⟨Or.inl rfl, fun h1 h2 => by omega⟩, by rw [hbf]⟩
          · -- 69F
            have hfl := factF_01 (c := cdA σ0 g) (a := σ0 5) rfl
            refine lv_aload_n hx hb dX4_positiveOf_72 rfl (lv_at hl 1 rfl) ?_
            refine lv_iload_n hx hb dX4_positiveOf_73 rfl (lv_at hl 0 rfl) ?_
            refine m_calliF (m_runV (As := [.int (iI (cdA σ0 g))]) (rest := []) S hH hK hj hl.1 (mm_flagged l G σ0 (g + 1) b (cdA σ0 g) _ hV (by omega) (by omega) hb01 (by omega)) (lw_V q1865 q1867 qs88 q109 q1868) kd_X4_flagged rfl rfl dX4_positiveOf_74 (hR := ⟨by dsimp only [rmD]; omega, by dsimp only [rmD]; omega⟩)) hH hA (fun H locs hH => ?_)
            refine n_if_eq (tgt := 84) hx hb (r32 (by omega)) dX4_positiveOf_77 (by decide) (fun c_77 => ?_) (fun c_77 => ?_)
            · -- 77T
              refine n_iconst hx hb dX4_positiveOf_84 ?_
              refine m_zret hx hb hr hlk hH dX4_positiveOf_85 (Or.inl rfl) ?_
              exact ⟨⟨Or.inl rfl, fun h1 h2 x hx => by rw [← c_77]; exact Option.some.inj hx⟩, by rw [hbf]⟩
            · -- 77F
              refine n_iconst hx hb dX4_positiveOf_80 ?_
              refine lv_goto (tgt := 85) hx hb dX4_positiveOf_81 (by decide) ?_
              refine m_zret hx hb hr hlk hH dX4_positiveOf_85 (Or.inr rfl) ?_
              exact ⟨⟨Or.inr rfl, fun h1 h2 x hx => by
                have h3 := factF_01 hx
                rcases h3 with h3 | h3
                · exact absurd ((Option.some.inj hx).trans h3) c_77
                · exact h3.symm⟩, by rw [hbf]⟩
  · -- 9F
    rw [if_pos c_9] at hH
    rw [if_pos c_9] at hm
    obtain ⟨⟨f1, i1⟩, e1, e2⟩ := Option.bind_eq_some_iff.mp hm
    have hlt := cdA_lt (σ := σ0) (k := g) (by omega)
    obtain ⟨c141, rfl, rfl⟩ := if193 e2
    refine lv_aload_n hx hb dX4_positiveOf_12 rfl (lv_at hl 0 rfl) ?_
    refine lv_iload_n hx hb dX4_positiveOf_13 rfl (lv_at hl 1 rfl) ?_
    refine m_calli (m_runV (As := [.int (iI live)]) (rest := []) S hH hK hj hl.1 (IH_testOf σ0 (g + 1) b live f1 i1 _ hV (by omega) (by omega) hb01 hl01 e1) (lw_V q1849 q1851 qs84 q109 q1852) kd_X4_testOf rfl rfl dX4_positiveOf_14 (hR := ⟨by dsimp only [rmD]; omega, by dsimp only [rmD]; omega⟩)) hH hA (fun z14 σ14 H locs q_14 hH => ?_)
    obtain ⟨⟨hz0, hzv0⟩, e9⟩ := q_14
    subst e9
    refine lv_istore_n hx hb dX4_positiveOf_17 rfl hl (Nat.le_of_ble_eq_true rfl) (lv' := [(2, .int (iI z14)), (0, .ref (G.2.2 0)), (1, .int (iI live))]) rfl (fun ls hl => ?_)
    refine lv_aload_n hx hb dX4_positiveOf_18 rfl (lv_at hl 1 rfl) ?_
    refine lv_dup hx hb dX4_positiveOf_19 rfl ?_
    refine m_get 18 (by decide) hx hb hts hown hK hj hH q1491 (fun _ h9 => h9) rfl dX4_positiveOf_20 ?_
    refine W.eq (g2 := F0 m 23 ls (.int (iI i1) :: .ref (G.2.2 0) :: [])) rfl ?_
    refine n_iconst hx hb dX4_positiveOf_23 ?_
    refine n_iadd hx hb dX4_positiveOf_24 ?_
    refine mp_18 hx hb hts hown hK hj hH q1491 (fun _ h9 => h9) dX4_positiveOf_25 (fun H locs hH => ?_)
    have hH := MH_to hH (τ := evS σ0 (i1 + 1) (brk f1 (σ0 5) live b)) evS_18
    refine lv_iload_n hx hb dX4_positiveOf_28 rfl (lv_at hl 0 rfl) ?_
    refine m_zret hx hb hr hlk hH dX4_positiveOf_29 hz0 ?_
    exact ⟨⟨hz0, hzv0⟩, rfl⟩
