theorem kd_X4_go : yX4_go.cls = RX4 ∧ yX4_go.cls ≠ "java/lang/invoke/MethodHandle" ∧ yX4_go.cls ≠ "java/lang/invoke/VarHandle" ∧ (parseMethodDescriptor yX4_go.desc).map (fun d => d.parameters.length) = some 1 := by decide +kernel
set_option maxHeartbeats 4000000 in
theorem mm_go (l : Launch) (G : MG) (σ : St) (d_ : Int) (sz : Nat) (h_d_ : R32 d_) (hI : KI (σ 2)) : Met l yX4_go (ws_ yX4_go cX4_go 4 (some .int)) (rmD 4) (mP G [.ref (G.2.2 0), .int (iI d_)] σ sz) (mQi G σ sz (fun z σ' => (z, σ') = goF σ d_)) 0 0 (mA G σ sz) := by
  refine m_start (by decide) (Nat.le_of_ble_eq_true rfl) ?_
  intro p e s m below meth c ⟨S, hr, hlk, hH, hK, hj, hsz, hnm⟩ ls hl
  subst hsz
  obtain ⟨hx, hb, hml, hown, hts⟩ := S
  have S : CallFix p m c _ _ s _ lw_all RX4 := ⟨hx, hb, hml, hown, hts⟩
  have hA : ∀ q, s.heap.size ≤ q → mA G σ s.heap.size q := fun q hq => Or.inr hq
  have hl : lv_has ls 4 [(0, .ref (G.2.2 0)), (1, .int (iI d_))] := hl
  have b0 := hI.c
  unfold kCnt at b0
  have h_d_ := R32.n h_d_
  have L34 : ∀ (n : Nat) (i : Int), (h0 : 0 ≤ i) → (h1 : i ≤ d_) → (hn : d_ < (n : Int) + i) → (hg : (1 ≤ d_ ∧ d_ ≤ 100) ∧ σ 2 1750 + d_ < 400) → ∀ (H : Heap) (locs : List Loc) (ls : Array Slot), MH G (mA G σ s.heap.size) (goL σ i.toNat) s.heap H locs → lv_has ls 4 [(0, .ref (G.2.2 0)), (1, .int (iI d_)), (2, .int (iI i))] → W p l e (rmD 4) s m ([.ref (G.2.2 0), .int (iI d_)] : List Value).toArray below meth c H locs 0 0 (MQ below (mQi G σ s.heap.size (fun z σ' => (z, σ') = goF σ d_)) ([.ref (G.2.2 0), .int (iI d_)] : List Value).toArray s 0 0 (mA G σ s.heap.size)) (F0 m 34 ls []) := by
    intro n
    induction n with
    | zero => intro i h0 h1 hn hg; exfalso; omega
    | succ n ih_34 =>
      intro i h0 h1 hn hg H locs ls hH hl
      have hG := goL_ok hI i.toNat (by omega)
      have g0 := hG.1.c
      unfold kCnt at g0
      have L41 : ∀ (n1 : Nat) (j : Int), (j0 : 0 ≤ j) → (j1 : j ≤ σ 2 1753) → (jn : σ 2 1753 < (n1 : Int) + j) → (hi : i < d_) → ∀ (H : Heap) (locs : List Loc) (ls : Array Slot), MH G (mA G σ s.heap.size) (dayL (goL σ i.toNat) j.toNat) s.heap H locs → lv_has ls 4 [(0, .ref (G.2.2 0)), (1, .int (iI d_)), (2, .int (iI i)), (3, .int (iI j))] → W p l e (rmD 4) s m ([.ref (G.2.2 0), .int (iI d_)] : List Value).toArray below meth c H locs 0 0 (MQ below (mQi G σ s.heap.size (fun z σ' => (z, σ') = goF σ d_)) ([.ref (G.2.2 0), .int (iI d_)] : List Value).toArray s 0 0 (mA G σ s.heap.size)) (F0 m 41 ls []) := by
        intro n1
        induction n1 with
        | zero => intro j j0 j1 jn hi; exfalso; omega
        | succ n1 ih_41 =>
          intro j j0 j1 jn hi H locs ls hH hl
          have hD := dayL_ok hG.1 j.toNat (by omega)
          have e53 := hD.2 1753 (by omega) (by omega)
          refine lv_iload_n hx hb dX4_go_41 rfl (lv_at hl 3 rfl) ?_
          refine lv_aload_n hx hb dX4_go_42 rfl (lv_at hl 0 rfl) ?_
          refine m_get 2 (by decide) hx hb hts hown hK hj hH q1475 (fun _ h9 => h9) rfl dX4_go_43 ?_
          refine n_sipush (z := 1753) hx hb dX4_go_46 (by decide) ?_
          refine ml_2 hx hb hK hj hH (by omega) (by omega) dX4_go_49 ?_
          refine W.eq (g2 := F0 m 50 ls (.int (iI (σ 2 1753)) :: .int (iI j) :: [])) (by rw [e53, hG.2.2]) ?_
          refine n_icmp_ge (tgt := 69) hx hb (r32 (by omega)) (r32 (by omega)) dX4_go_50 (by decide) (fun c_50 => ?_) (fun c_50 => ?_)
          · -- 50T
            obtain rfl : j = (σ 2 1753) := by omega
            refine lv_aload_n hx hb dX4_go_69 rfl (lv_at hl 0 rfl) ?_
            refine m_get 2 (by decide) hx hb hts hown hK hj hH q1475 (fun _ h9 => h9) rfl dX4_go_70 ?_
            refine n_sipush (z := 1750) hx hb dX4_go_73 (by decide) ?_
            refine lv_dup2_11 hx hb dX4_go_76 rfl rfl ?_
            refine ml_2 hx hb hK hj hH (by omega) (by omega) dX4_go_77 ?_
            refine W.eq (g2 := F0 m 78 ls (.int (iI (goL σ i.toNat 2 1750)) :: .int (iI 1750) :: .ref (G.2.2 2) :: [])) (by rw [hD.2 _ (by omega) (by omega)]) ?_
            refine n_iconst hx hb dX4_go_78 ?_
            refine n_iadd hx hb dX4_go_79 ?_
            refine ms_2 hx hb hK hj hH (by omega) (by omega) dX4_go_80 (fun H locs hH => ?_)
            have hH := MH_to hH (τ := dayE (goL σ i.toNat)) ((by unfold dayE; rw [hG.2.2]))
            have hgs := (goL_s (σ := σ) h0).symm
            refine n_iinc hx hb dX4_go_81 hl (k := 2) rfl (Nat.le_of_ble_eq_true rfl) (lv' := [(2, .int (iI (i + 1))), (0, .ref (G.2.2 0)), (1, .int (iI d_)), (3, .int (iI (σ 2 1753)))]) rfl (fun ls hl => ?_)
            refine lv_goto (tgt := 34) hx hb dX4_go_84 (by decide) ?_
            have hl : lv_has ls 4 [(0, .ref (G.2.2 0)), (1, .int (iI d_)), (2, .int (iI (i + 1)))] := lv_sub hl [1, 2, 0] rfl
            have hH := MH_to hH (τ := goL σ (i + 1).toNat) (hgs)
            refine ih_34 (i + 1) ?_ ?_ ?_ ?_ _ _ _ hH hl
            · omega
            · omega
            · omega
            · omega
          · -- 50F
            have hfo := fallsF_ok (f := j) hD.1 (by omega) (by omega)
            have f53 := hfo.2 1753 (by omega) (by omega)
            refine lv_aload_n hx hb dX4_go_53 rfl (lv_at hl 0 rfl) ?_
            refine lv_iload_n hx hb dX4_go_54 rfl (lv_at hl 3 rfl) ?_
            refine m_callvF (m_runV (As := [.int (iI j)]) (rest := []) S hH hK hj hl.1 (mm_falls l G (dayL (goL σ i.toNat) j.toNat) (fun q => if q < ((j.toNat : Nat) : Int) then goL σ i.toNat 2 1750 + 1 else goL σ i.toNat 2 1750) j _ hD.1 (by omega) (by omega) (by show 0 ≤ (if j < ((j.toNat : Nat) : Int) then _ else _) ∧ (if j < ((j.toNat : Nat) : Int) then _ else _) ≤ _; rw [if_neg (by omega)]; omega)) (lw_V q1649 q1651 qs50 q109 q1652) kd_X4_falls rfl rfl dX4_go_55) hH hA (fun H locs hH => ?_)
            refine lv_aload_n hx hb dX4_go_58 rfl (lv_at hl 0 rfl) ?_
            refine lv_iload_n hx hb dX4_go_59 rfl (lv_at hl 3 rfl) ?_
            refine m_callvF (m_runV (As := [.int (iI j)]) (rest := []) S hH hK hj hl.1 (mm_turns l G (fallsF (dayL (goL σ i.toNat) j.toNat) j) _ j _ hfo.1 (by omega) (by omega) (by show 0 ≤ (if j = j then (if j < ((j.toNat : Nat) : Int) then _ else _) + 1 else _) ∧ (if j = j then (if j < ((j.toNat : Nat) : Int) then _ else _) + 1 else _) ≤ _; rw [if_pos rfl, if_neg (by omega)]; omega)) (lw_V q1663 q1665 qs52 q109 q1666) kd_X4_turns rfl rfl dX4_go_60) hH hA (fun H locs hH => ?_)
            refine n_iinc hx hb dX4_go_63 hl (k := 3) rfl (Nat.le_of_ble_eq_true rfl) (lv' := [(3, .int (iI (j + 1))), (0, .ref (G.2.2 0)), (1, .int (iI d_)), (2, .int (iI i))]) rfl (fun ls hl => ?_)
            refine lv_goto (tgt := 41) hx hb dX4_go_66 (by decide) ?_
            have hl : lv_has ls 4 [(0, .ref (G.2.2 0)), (1, .int (iI d_)), (2, .int (iI i)), (3, .int (iI (j + 1)))] := lv_sub hl [1, 2, 3, 0] rfl
            have hH := MH_to hH (τ := dayL (goL σ i.toNat) (j + 1).toNat) ((dayL_s j0).symm)
            refine ih_41 (j + 1) ?_ ?_ ?_ ?_ _ _ _ hH hl
            · omega
            · omega
            · omega
            · omega
      refine lv_iload_n hx hb dX4_go_34 rfl (lv_at hl 2 rfl) ?_
      refine lv_iload_n hx hb dX4_go_35 rfl (lv_at hl 1 rfl) ?_
      refine n_icmp_ge (tgt := 87) hx hb (r32 (by omega)) (r32 (by omega)) dX4_go_36 (by decide) (fun c_36 => ?_) (fun c_36 => ?_)
      · -- 36T
        refine lv_aload_n hx hb dX4_go_87 rfl (lv_at hl 0 rfl) ?_
        refine lv_aload_n hx hb dX4_go_88 rfl (lv_at hl 0 rfl) ?_
        refine m_get 2 (by decide) hx hb hts hown hK hj hH q1475 (fun _ h9 => h9) rfl dX4_go_89 ?_
        refine n_sipush (z := 1750) hx hb dX4_go_92 (by decide) ?_
        refine ml_2 hx hb hK hj hH (by omega) (by omega) dX4_go_95 ?_
        refine W.eq (g2 := F0 m 96 ls (.int (iI (σ 2 1750 + d_)) :: .ref (G.2.2 0) :: [])) (by rw [hG.2.1, show ((i.toNat : Nat) : Int) = d_ by omega]) ?_
        refine m_calliF (m_runV (As := [.int (iI (σ 2 1750 + d_))]) (rest := []) S hH hK hj hl.1 (mm_good l G (goL σ i.toNat) (σ 2 1750 + d_) _ ) (lw_V q1576 q1578 qs44 q109 q1579) kd_X4_good rfl rfl dX4_go_96) hH hA (fun H locs hH => ?_)
        refine m_iret hx hb hr hlk hH dX4_go_99 ?_
        unfold goF
        rw [if_pos hg, show d_.toNat = i.toNat by omega]
        all_goals rfl
      · -- 36F
        refine n_iconst hx hb dX4_go_39 ?_
        refine lv_istore_n hx hb dX4_go_40 rfl hl (Nat.le_of_ble_eq_true rfl) (lv' := [(3, .int (iI 0)), (0, .ref (G.2.2 0)), (1, .int (iI d_)), (2, .int (iI i))]) rfl (fun ls hl => ?_)
        have hl : lv_has ls 4 [(0, .ref (G.2.2 0)), (1, .int (iI d_)), (2, .int (iI i)), (3, .int (iI 0))] := lv_sub hl [1, 2, 3, 0] rfl
        refine L41 42 0 ?_ ?_ ?_ ?_ _ _ _ hH hl
        · omega
        · omega
        · omega
        · omega
  refine lv_iload_n hx hb dX4_go_0 rfl (lv_at hl 1 rfl) ?_
  refine n_iconst hx hb dX4_go_1 ?_
  refine n_bipush (z := 100) hx hb dX4_go_2 (by decide) ?_
  refine m_calliF (m_runS (As := [.int (iI d_), .int (iI 1), .int (iI 100)]) (rest := []) S hH hK hj hl.1 (mm_in l G σ d_ 1 100 _ (r32 (by omega)) (r32 (by omega)) (r32 (by omega))) (lw_S q1569 q1570 q109 q1571) kd_X4_in rfl rfl dX4_go_4) hH hA (fun H locs hH => ?_)
  refine z_if_eq (tgt := 26) hx hb dX4_go_7 (by decide) (fun c_7 => ?_) (fun c_7 => ?_)
  · -- 7T
    refine lv_aload_n hx hb dX4_go_26 rfl (lv_at hl 0 rfl) ?_
    refine n_iconst hx hb dX4_go_27 ?_
    refine m_calliF (m_runV (As := [.int (iI (-1))]) (rest := []) S hH hK hj hl.1 (mm_refuses l G σ (-1) _ (by omega) (by omega)) (lw_V q1572 q1574 qs43 q109 q1575) kd_X4_refuses rfl rfl dX4_go_28) hH hA (fun H locs hH => ?_)
    refine m_iret hx hb hr hlk hH dX4_go_31 ?_
    unfold goF
    (repeat' split) <;> first | (exfalso; omega) | rfl
  · -- 7F
    refine lv_aload_n hx hb dX4_go_10 rfl (lv_at hl 0 rfl) ?_
    refine m_get 2 (by decide) hx hb hts hown hK hj hH q1475 (fun _ h9 => h9) rfl dX4_go_11 ?_
    refine n_sipush (z := 1750) hx hb dX4_go_14 (by decide) ?_
    refine ml_2 hx hb hK hj hH (by omega) (by omega) dX4_go_17 ?_
    refine lv_iload_n hx hb dX4_go_18 rfl (lv_at hl 1 rfl) ?_
    refine n_iadd hx hb dX4_go_19 ?_
    refine n_sipush (z := 400) hx hb dX4_go_20 (by decide) ?_
    refine n_icmp_lt (tgt := 32) hx hb (r32 (by omega)) (r32 (by omega)) dX4_go_23 (by decide) (fun c_23 => ?_) (fun c_23 => ?_)
    · -- 23T
      refine n_iconst hx hb dX4_go_32 ?_
      refine lv_istore_n hx hb dX4_go_33 rfl hl (Nat.le_of_ble_eq_true rfl) (lv' := [(2, .int (iI 0)), (0, .ref (G.2.2 0)), (1, .int (iI d_))]) rfl (fun ls hl => ?_)
      have hl : lv_has ls 4 [(0, .ref (G.2.2 0)), (1, .int (iI d_)), (2, .int (iI 0))] := lv_sub hl [1, 2, 0] rfl
      refine L34 102 0 ?_ ?_ ?_ ?_ _ _ _ hH hl
      · omega
      · omega
      · omega
      · omega
    · -- 23F
      refine lv_aload_n hx hb dX4_go_26 rfl (lv_at hl 0 rfl) ?_
      refine n_iconst hx hb dX4_go_27 ?_
      refine m_calliF (m_runV (As := [.int (iI (-1))]) (rest := []) S hH hK hj hl.1 (mm_refuses l G σ (-1) _ (by omega) (by omega)) (lw_V q1572 q1574 qs43 q109 q1575) kd_X4_refuses rfl rfl dX4_go_28) hH hA (fun H locs hH => ?_)
      refine m_iret hx hb hr hlk hH dX4_go_31 ?_
      unfold goF
      (repeat' split) <;> first | (exfalso; omega) | rfl
