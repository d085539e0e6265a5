theorem kd_X4_broth : yX4_broth.cls = RX4 ∧ yX4_broth.cls ≠ "java/lang/invoke/MethodHandle" ∧ yX4_broth.cls ≠ "java/lang/invoke/VarHandle" ∧ (parseMethodDescriptor yX4_broth.desc).map (fun d => d.parameters.length) = some 4 := by decide +kernel
theorem mm_broth (l : Launch) (G : MG) (σ : St) (b : Int) (g : Int) (sp : Int) (nd : Int) (sz : Nat) (h_b : R32 b) (h_g : R32 g) (h_sp : R32 sp) (h_nd : R32 nd) : Met l yX4_broth (ws_ yX4_broth cX4_broth 5 (some .int)) (rmD 3) (mP G [.ref (G.2.2 0), .int (iI b), .int (iI g), .int (iI sp), .int (iI nd)] σ sz) (mQi G σ sz (fun z σ' => (z, σ') = brothF σ b g sp nd)) 0 0 (mA G σ sz) := by
  refine m_start (by decide) (Nat.le_of_ble_eq_true rfl) ?_
  intro p e s m below meth c ⟨S, hr, hlk, hH, hK, hj, hsz, hnm⟩ ls hl
  subst hsz
  obtain ⟨hx, hb, hml, hown, hts⟩ := S
  have S : CallFix p m c _ _ s _ lw_all RX4 := ⟨hx, hb, hml, hown, hts⟩
  have hA : ∀ q, s.heap.size ≤ q → mA G σ s.heap.size q := fun q hq => Or.inr hq
  have hl : lv_has ls 5 [(0, .ref (G.2.2 0)), (1, .int (iI b)), (2, .int (iI g)), (3, .int (iI sp)), (4, .int (iI nd))] := hl
  have h_b := R32.n h_b
  have h_g := R32.n h_g
  have h_sp := R32.n h_sp
  have h_nd := R32.n h_nd
  refine lv_iload_n hx hb dX4_broth_0 rfl (lv_at hl 1 rfl) ?_
  refine n_iconst hx hb dX4_broth_1 ?_
  refine n_iconst hx hb dX4_broth_2 ?_
  refine m_calliF (m_runS (As := [.int (iI b), .int (iI 0), .int (iI 5)]) (rest := []) S hH hK hj hl.1 (mm_in l G σ b 0 5 _ (r32 (by omega)) (r32 (by omega)) (r32 (by omega))) (lw_S q1569 q1570 q109 q1571) kd_X4_in rfl rfl dX4_broth_3) hH hA (fun H locs hH => ?_)
  refine z_if_eq (tgt := 39) hx hb dX4_broth_6 (by decide) (fun c_6 => ?_) (fun c_6 => ?_)
  · -- 6T
    refine lv_aload_n hx hb dX4_broth_39 rfl (lv_at hl 0 rfl) ?_
    refine n_iconst hx hb dX4_broth_40 ?_
    refine m_calliF (m_runV (As := [.int (iI (-1))]) (rest := []) S hH hK hj hl.1 (mm_refuses l G σ (-1) _ (by omega) (by omega)) (lw_V q1572 q1574 qs43 q109 q1575) kd_X4_refuses rfl rfl dX4_broth_41) hH hA (fun H locs hH => ?_)
    refine m_iret hx hb hr hlk hH dX4_broth_44 ?_
    unfold brothF
    (repeat' split) <;> first | (exfalso; omega) | rfl
  · -- 6F
    refine lv_iload_n hx hb dX4_broth_9 rfl (lv_at hl 2 rfl) ?_
    refine n_iconst hx hb dX4_broth_10 ?_
    refine n_bipush (z := 100) hx hb dX4_broth_11 (by decide) ?_
    refine m_calliF (m_runS (As := [.int (iI g), .int (iI 0), .int (iI 100)]) (rest := []) S hH hK hj hl.1 (mm_in l G σ g 0 100 _ (r32 (by omega)) (r32 (by omega)) (r32 (by omega))) (lw_S q1569 q1570 q109 q1571) kd_X4_in rfl rfl dX4_broth_13) hH hA (fun H locs hH => ?_)
    refine z_if_eq (tgt := 39) hx hb dX4_broth_16 (by decide) (fun c_16 => ?_) (fun c_16 => ?_)
    · -- 16T
      refine lv_aload_n hx hb dX4_broth_39 rfl (lv_at hl 0 rfl) ?_
      refine n_iconst hx hb dX4_broth_40 ?_
      refine m_calliF (m_runV (As := [.int (iI (-1))]) (rest := []) S hH hK hj hl.1 (mm_refuses l G σ (-1) _ (by omega) (by omega)) (lw_V q1572 q1574 qs43 q109 q1575) kd_X4_refuses rfl rfl dX4_broth_41) hH hA (fun H locs hH => ?_)
      refine m_iret hx hb hr hlk hH dX4_broth_44 ?_
      unfold brothF
      (repeat' split) <;> first | (exfalso; omega) | rfl
    · -- 16F
      refine lv_iload_n hx hb dX4_broth_19 rfl (lv_at hl 3 rfl) ?_
      refine n_iconst hx hb dX4_broth_20 ?_
      refine n_bipush (z := 7) hx hb dX4_broth_21 (by decide) ?_
      refine m_calliF (m_runS (As := [.int (iI sp), .int (iI 0), .int (iI 7)]) (rest := []) S hH hK hj hl.1 (mm_in l G σ sp 0 7 _ (r32 (by omega)) (r32 (by omega)) (r32 (by omega))) (lw_S q1569 q1570 q109 q1571) kd_X4_in rfl rfl dX4_broth_23) hH hA (fun H locs hH => ?_)
      refine z_if_eq (tgt := 39) hx hb dX4_broth_26 (by decide) (fun c_26 => ?_) (fun c_26 => ?_)
      · -- 26T
        refine lv_aload_n hx hb dX4_broth_39 rfl (lv_at hl 0 rfl) ?_
        refine n_iconst hx hb dX4_broth_40 ?_
        refine m_calliF (m_runV (As := [.int (iI (-1))]) (rest := []) S hH hK hj hl.1 (mm_refuses l G σ (-1) _ (by omega) (by omega)) (lw_V q1572 q1574 qs43 q109 q1575) kd_X4_refuses rfl rfl dX4_broth_41) hH hA (fun H locs hH => ?_)
        refine m_iret hx hb hr hlk hH dX4_broth_44 ?_
        unfold brothF
        (repeat' split) <;> first | (exfalso; omega) | rfl
      · -- 26F
        refine lv_iload hx hb dX4_broth_29 (lv_at hl 4 rfl) ?_
        refine n_iconst hx hb dX4_broth_31 ?_
        refine n_iconst hx hb dX4_broth_32 ?_
        refine m_calliF (m_runS (As := [.int (iI nd), .int (iI 0), .int (iI 1)]) (rest := []) S hH hK hj hl.1 (mm_in l G σ nd 0 1 _ (r32 (by omega)) (r32 (by omega)) (r32 (by omega))) (lw_S q1569 q1570 q109 q1571) kd_X4_in rfl rfl dX4_broth_33) hH hA (fun H locs hH => ?_)
        refine z_if_ne (tgt := 45) hx hb dX4_broth_36 (by decide) (fun c_36 => ?_) (fun c_36 => ?_)
        · -- 36T
          refine lv_aload_n hx hb dX4_broth_45 rfl (lv_at hl 0 rfl) ?_
          refine m_get 2 (by decide) hx hb hts hown hK hj hH q1475 (fun _ h9 => h9) rfl dX4_broth_46 ?_
          refine n_iconst hx hb dX4_broth_49 ?_
          refine n_iconst hx hb dX4_broth_50 ?_
          refine lv_iload_n hx hb dX4_broth_51 rfl (lv_at hl 1 rfl) ?_
          refine n_imul hx hb dX4_broth_52 ?_
          refine n_iadd hx hb dX4_broth_53 ?_
          refine lv_iload_n hx hb dX4_broth_54 rfl (lv_at hl 2 rfl) ?_
          refine ms_2 hx hb hK hj hH (by omega) (by omega) dX4_broth_55 (fun H locs hH => ?_)
          refine lv_aload_n hx hb dX4_broth_56 rfl (lv_at hl 0 rfl) ?_
          refine m_get 2 (by decide) hx hb hts hown hK hj hH q1475 (fun _ h9 => h9) rfl dX4_broth_57 ?_
          refine n_iconst hx hb dX4_broth_60 ?_
          refine n_iconst hx hb dX4_broth_61 ?_
          refine lv_iload_n hx hb dX4_broth_62 rfl (lv_at hl 1 rfl) ?_
          refine n_imul hx hb dX4_broth_63 ?_
          refine n_iadd hx hb dX4_broth_64 ?_
          refine n_iconst hx hb dX4_broth_65 ?_
          refine n_iadd hx hb dX4_broth_66 ?_
          refine lv_iload_n hx hb dX4_broth_67 rfl (lv_at hl 3 rfl) ?_
          refine ms_2 hx hb hK hj hH (by omega) (by omega) dX4_broth_68 (fun H locs hH => ?_)
          refine lv_aload_n hx hb dX4_broth_69 rfl (lv_at hl 0 rfl) ?_
          refine m_get 2 (by decide) hx hb hts hown hK hj hH q1475 (fun _ h9 => h9) rfl dX4_broth_70 ?_
          refine n_iconst hx hb dX4_broth_73 ?_
          refine n_iconst hx hb dX4_broth_74 ?_
          refine lv_iload_n hx hb dX4_broth_75 rfl (lv_at hl 1 rfl) ?_
          refine n_imul hx hb dX4_broth_76 ?_
          refine n_iadd hx hb dX4_broth_77 ?_
          refine n_iconst hx hb dX4_broth_78 ?_
          refine n_iadd hx hb dX4_broth_79 ?_
          refine lv_iload hx hb dX4_broth_80 (lv_at hl 4 rfl) ?_
          refine ms_2 hx hb hK hj hH (by omega) (by omega) dX4_broth_82 (fun H locs hH => ?_)
          refine lv_aload_n hx hb dX4_broth_83 rfl (lv_at hl 0 rfl) ?_
          refine n_iconst hx hb dX4_broth_84 ?_
          refine m_calliF (m_runV (As := [.int (iI 0)]) (rest := []) S hH hK hj hl.1 (mm_good l G (st (st (st σ 2 (0 + (3 * b)) g) 2 ((0 + (3 * b)) + 1) sp) 2 ((0 + (3 * b)) + 2) nd) 0 _ ) (lw_V q1576 q1578 qs44 q109 q1579) kd_X4_good rfl rfl dX4_broth_85) hH hA (fun H locs hH => ?_)
          refine m_iret hx hb hr hlk hH dX4_broth_88 ?_
          unfold brothF
          (repeat' split) <;> first | (exfalso; omega) | rfl
        · -- 36F
          refine lv_aload_n hx hb dX4_broth_39 rfl (lv_at hl 0 rfl) ?_
          refine n_iconst hx hb dX4_broth_40 ?_
          refine m_calliF (m_runV (As := [.int (iI (-1))]) (rest := []) S hH hK hj hl.1 (mm_refuses l G σ (-1) _ (by omega) (by omega)) (lw_V q1572 q1574 qs43 q109 q1575) kd_X4_refuses rfl rfl dX4_broth_41) hH hA (fun H locs hH => ?_)
          refine m_iret hx hb hr hlk hH dX4_broth_44 ?_
          unfold brothF
          (repeat' split) <;> first | (exfalso; omega) | rfl
theorem kd_X4_lets : yX4_lets.cls = RX4 ∧ yX4_lets.cls ≠ "java/lang/invoke/MethodHandle" ∧ yX4_lets.cls ≠ "java/lang/invoke/VarHandle" ∧ (parseMethodDescriptor yX4_lets.desc).map (fun d => d.parameters.length) = some 3 := by decide +kernel
theorem mm_lets (l : Launch) (G : MG) (σ : St) (w : Int) (n : Int) (v : Int) (sz : Nat) (h_w : R32 w) (h_n : R32 n) (h_v : R32 v) : Met l yX4_lets (ws_ yX4_lets cX4_lets 6 (some .int)) (rmD 3) (mP G [.ref (G.2.2 0), .int (iI w), .int (iI n), .int (iI v)] σ sz) (mQi G σ sz (fun z σ' => (z, σ') = letsF σ w n v)) 0 0 (mA G σ sz) := by
  refine m_start (by decide) (Nat.le_of_ble_eq_true rfl) ?_
  intro p e s m below meth c ⟨S, hr, hlk, hH, hK, hj, hsz, hnm⟩ ls hl
  subst hsz
  obtain ⟨hx, hb, hml, hown, hts⟩ := S
  have S : CallFix p m c _ _ s _ lw_all RX4 := ⟨hx, hb, hml, hown, hts⟩
  have hA : ∀ q, s.heap.size ≤ q → mA G σ s.heap.size q := fun q hq => Or.inr hq
  have hl : lv_has ls 6 [(0, .ref (G.2.2 0)), (1, .int (iI w)), (2, .int (iI n)), (3, .int (iI v))] := hl
  have h_w := R32.n h_w
  have h_n := R32.n h_n
  have h_v := R32.n h_v
  refine lv_iload_n hx hb dX4_lets_0 rfl (lv_at hl 1 rfl) ?_
  refine n_iconst hx hb dX4_lets_1 ?_
  refine n_iconst hx hb dX4_lets_2 ?_
  refine m_calliF (m_runS (As := [.int (iI w), .int (iI 0), .int (iI 2)]) (rest := []) S hH hK hj hl.1 (mm_in l G σ w 0 2 _ (r32 (by omega)) (r32 (by omega)) (r32 (by omega))) (lw_S q1569 q1570 q109 q1571) kd_X4_in rfl rfl dX4_lets_3) hH hA (fun H locs hH => ?_)
  refine z_if_eq (tgt := 46) hx hb dX4_lets_6 (by decide) (fun c_6 => ?_) (fun c_6 => ?_)
  · -- 6T
    refine lv_aload_n hx hb dX4_lets_46 rfl (lv_at hl 0 rfl) ?_
    refine n_iconst hx hb dX4_lets_47 ?_
    refine m_calliF (m_runV (As := [.int (iI (-1))]) (rest := []) S hH hK hj hl.1 (mm_refuses l G σ (-1) _ (by omega) (by omega)) (lw_V q1572 q1574 qs43 q109 q1575) kd_X4_refuses rfl rfl dX4_lets_48) hH hA (fun H locs hH => ?_)
    refine m_iret hx hb hr hlk hH dX4_lets_51 ?_
    unfold letsF letAt
    (repeat' split) <;> first | (exfalso; omega) | rfl
  · -- 6F
    refine lv_iload_n hx hb dX4_lets_9 rfl (lv_at hl 2 rfl) ?_
    refine n_iconst hx hb dX4_lets_10 ?_
    refine lv_iload_n hx hb dX4_lets_11 rfl (lv_at hl 1 rfl) ?_
    refine n_if_ne (tgt := 19) hx hb (r32 (by omega)) dX4_lets_12 (by decide) (fun c_12 => ?_) (fun c_12 => ?_)
    · -- 12T
      refine lv_iload_n hx hb dX4_lets_19 rfl (lv_at hl 1 rfl) ?_
      refine n_iconst hx hb dX4_lets_20 ?_
      refine n_icmp_ne (tgt := 28) hx hb (r32 (by omega)) (r32 (by omega)) dX4_lets_21 (by decide) (fun c_21 => ?_) (fun c_21 => ?_)
      · -- 21T
        refine n_bipush (z := 11) hx hb dX4_lets_28 (by decide) ?_
        refine m_calliF (m_runS (As := [.int (iI n), .int (iI 0), .int (iI 11)]) (rest := []) S hH hK hj hl.1 (mm_in l G σ n 0 11 _ (r32 (by omega)) (r32 (by omega)) (r32 (by omega))) (lw_S q1569 q1570 q109 q1571) kd_X4_in rfl rfl dX4_lets_30) hH hA (fun H locs hH => ?_)
        refine z_if_eq (tgt := 46) hx hb dX4_lets_33 (by decide) (fun c_33 => ?_) (fun c_33 => ?_)
        · -- 33T
          refine lv_aload_n hx hb dX4_lets_46 rfl (lv_at hl 0 rfl) ?_
          refine n_iconst hx hb dX4_lets_47 ?_
          refine m_calliF (m_runV (As := [.int (iI (-1))]) (rest := []) S hH hK hj hl.1 (mm_refuses l G σ (-1) _ (by omega) (by omega)) (lw_V q1572 q1574 qs43 q109 q1575) kd_X4_refuses rfl rfl dX4_lets_48) hH hA (fun H locs hH => ?_)
          refine m_iret hx hb hr hlk hH dX4_lets_51 ?_
          unfold letsF letAt
          (repeat' split) <;> first | (exfalso; omega) | rfl
        · -- 33F
          refine lv_iload_n hx hb dX4_lets_36 rfl (lv_at hl 3 rfl) ?_
          refine n_iconst hx hb dX4_lets_37 ?_
          refine n_bipush (z := 100) hx hb dX4_lets_38 (by decide) ?_
          refine m_calliF (m_runS (As := [.int (iI v), .int (iI 0), .int (iI 100)]) (rest := []) S hH hK hj hl.1 (mm_in l G σ v 0 100 _ (r32 (by omega)) (r32 (by omega)) (r32 (by omega))) (lw_S q1569 q1570 q109 q1571) kd_X4_in rfl rfl dX4_lets_40) hH hA (fun H locs hH => ?_)
          refine z_if_ne (tgt := 52) hx hb dX4_lets_43 (by decide) (fun c_43 => ?_) (fun c_43 => ?_)
          · -- 43T
            refine lv_iload_n hx hb dX4_lets_52 rfl (lv_at hl 1 rfl) ?_
            refine n_if_ne (tgt := 61) hx hb (r32 (by omega)) dX4_lets_53 (by decide) (fun c_53 => ?_) (fun c_53 => ?_)
            · -- 53T
              refine lv_iload_n hx hb dX4_lets_61 rfl (lv_at hl 1 rfl) ?_
              refine n_iconst hx hb dX4_lets_62 ?_
              refine n_icmp_ne (tgt := 71) hx hb (r32 (by omega)) (r32 (by omega)) dX4_lets_63 (by decide) (fun c_63 => ?_) (fun c_63 => ?_)
              · -- 63T
                refine n_bipush (z := 28) hx hb dX4_lets_71 (by decide) ?_
                refine lv_iload_n hx hb dX4_lets_73 rfl (lv_at hl 2 rfl) ?_
                refine n_iadd hx hb dX4_lets_74 ?_
                refine lv_istore hx hb dX4_lets_75 hl (Nat.le_of_ble_eq_true rfl) (lv' := [(4, .int (iI (28 + n))), (0, .ref (G.2.2 0)), (1, .int (iI w)), (2, .int (iI n)), (3, .int (iI v))]) rfl (fun ls hl => ?_)
                refine lv_aload_n hx hb dX4_lets_77 rfl (lv_at hl 1 rfl) ?_
                refine m_get 2 (by decide) hx hb hts hown hK hj hH q1475 (fun _ h9 => h9) rfl dX4_lets_78 ?_
                refine lv_iload hx hb dX4_lets_81 (lv_at hl 0 rfl) ?_
                refine ml_2 hx hb hK hj hH (by omega) (by omega) dX4_lets_83 ?_
                refine lv_istore hx hb dX4_lets_84 hl (Nat.le_of_ble_eq_true rfl) (lv' := [(5, .int (iI (σ 2 (28 + n)))), (4, .int (iI (28 + n))), (0, .ref (G.2.2 0)), (1, .int (iI w)), (2, .int (iI n)), (3, .int (iI v))]) rfl (fun ls hl => ?_)
                refine lv_aload_n hx hb dX4_lets_86 rfl (lv_at hl 2 rfl) ?_
                refine m_get 2 (by decide) hx hb hts hown hK hj hH q1475 (fun _ h9 => h9) rfl dX4_lets_87 ?_
                refine lv_iload hx hb dX4_lets_90 (lv_at hl 1 rfl) ?_
                refine lv_iload_n hx hb dX4_lets_92 rfl (lv_at hl 5 rfl) ?_
                refine ms_2 hx hb hK hj hH (by omega) (by omega) dX4_lets_93 (fun H locs hH => ?_)
                refine lv_aload_n hx hb dX4_lets_94 rfl (lv_at hl 2 rfl) ?_
                refine lv_iload hx hb dX4_lets_95 (lv_at hl 0 rfl) ?_
                refine m_calliF (m_runV (As := [.int (iI (σ 2 (28 + n)))]) (rest := []) S hH hK hj hl.1 (mm_good l G (st σ 2 (28 + n) v) (σ 2 (28 + n)) _ ) (lw_V q1576 q1578 qs44 q109 q1579) kd_X4_good rfl rfl dX4_lets_97) hH hA (fun H locs hH => ?_)
                refine m_iret hx hb hr hlk hH dX4_lets_100 ?_
                unfold letsF letAt
                (repeat' split) <;> first | (exfalso; omega) | rfl
              · exact absurd c_63 c_21
            · exact absurd c_53 c_12
          · -- 43F
            refine lv_aload_n hx hb dX4_lets_46 rfl (lv_at hl 0 rfl) ?_
            refine n_iconst hx hb dX4_lets_47 ?_
            refine m_calliF (m_runV (As := [.int (iI (-1))]) (rest := []) S hH hK hj hl.1 (mm_refuses l G σ (-1) _ (by omega) (by omega)) (lw_V q1572 q1574 qs43 q109 q1575) kd_X4_refuses rfl rfl dX4_lets_48) hH hA (fun H locs hH => ?_)
            refine m_iret hx hb hr hlk hH dX4_lets_51 ?_
            unfold letsF letAt
            (repeat' split) <;> first | (exfalso; omega) | rfl
      · -- 21F
        refine n_iconst hx hb dX4_lets_24 ?_
        refine lv_goto (tgt := 30) hx hb dX4_lets_25 (by decide) ?_
        refine m_calliF (m_runS (As := [.int (iI n), .int (iI 0), .int (iI 3)]) (rest := []) S hH hK hj hl.1 (mm_in l G σ n 0 3 _ (r32 (by omega)) (r32 (by omega)) (r32 (by omega))) (lw_S q1569 q1570 q109 q1571) kd_X4_in rfl rfl dX4_lets_30) hH hA (fun H locs hH => ?_)
        refine z_if_eq (tgt := 46) hx hb dX4_lets_33 (by decide) (fun c_33 => ?_) (fun c_33 => ?_)
        · -- 33T
          refine lv_aload_n hx hb dX4_lets_46 rfl (lv_at hl 0 rfl) ?_
          refine n_iconst hx hb dX4_lets_47 ?_
          refine m_calliF (m_runV (As := [.int (iI (-1))]) (rest := []) S hH hK hj hl.1 (mm_refuses l G σ (-1) _ (by omega) (by omega)) (lw_V q1572 q1574 qs43 q109 q1575) kd_X4_refuses rfl rfl dX4_lets_48) hH hA (fun H locs hH => ?_)
          refine m_iret hx hb hr hlk hH dX4_lets_51 ?_
          unfold letsF letAt
          (repeat' split) <;> first | (exfalso; omega) | rfl
        · -- 33F
          refine lv_iload_n hx hb dX4_lets_36 rfl (lv_at hl 3 rfl) ?_
          refine n_iconst hx hb dX4_lets_37 ?_
          refine n_bipush (z := 100) hx hb dX4_lets_38 (by decide) ?_
          refine m_calliF (m_runS (As := [.int (iI v), .int (iI 0), .int (iI 100)]) (rest := []) S hH hK hj hl.1 (mm_in l G σ v 0 100 _ (r32 (by omega)) (r32 (by omega)) (r32 (by omega))) (lw_S q1569 q1570 q109 q1571) kd_X4_in rfl rfl dX4_lets_40) hH hA (fun H locs hH => ?_)
          refine z_if_ne (tgt := 52) hx hb dX4_lets_43 (by decide) (fun c_43 => ?_) (fun c_43 => ?_)
          · -- 43T
            refine lv_iload_n hx hb dX4_lets_52 rfl (lv_at hl 1 rfl) ?_
            refine n_if_ne (tgt := 61) hx hb (r32 (by omega)) dX4_lets_53 (by decide) (fun c_53 => ?_) (fun c_53 => ?_)
            · -- 53T
              refine lv_iload_n hx hb dX4_lets_61 rfl (lv_at hl 1 rfl) ?_
              refine n_iconst hx hb dX4_lets_62 ?_
              refine n_icmp_ne (tgt := 71) hx hb (r32 (by omega)) (r32 (by omega)) dX4_lets_63 (by decide) (fun c_63 => ?_) (fun c_63 => ?_)
              · exact absurd c_21 c_63
              · -- 63F
                refine n_bipush (z := 24) hx hb dX4_lets_66 (by decide) ?_
                refine lv_goto (tgt := 73) hx hb dX4_lets_68 (by decide) ?_
                refine lv_iload_n hx hb dX4_lets_73 rfl (lv_at hl 2 rfl) ?_
                refine n_iadd hx hb dX4_lets_74 ?_
                refine lv_istore hx hb dX4_lets_75 hl (Nat.le_of_ble_eq_true rfl) (lv' := [(4, .int (iI (24 + n))), (0, .ref (G.2.2 0)), (1, .int (iI w)), (2, .int (iI n)), (3, .int (iI v))]) rfl (fun ls hl => ?_)
                refine lv_aload_n hx hb dX4_lets_77 rfl (lv_at hl 1 rfl) ?_
                refine m_get 2 (by decide) hx hb hts hown hK hj hH q1475 (fun _ h9 => h9) rfl dX4_lets_78 ?_
                refine lv_iload hx hb dX4_lets_81 (lv_at hl 0 rfl) ?_
                refine ml_2 hx hb hK hj hH (by omega) (by omega) dX4_lets_83 ?_
                refine lv_istore hx hb dX4_lets_84 hl (Nat.le_of_ble_eq_true rfl) (lv' := [(5, .int (iI (σ 2 (24 + n)))), (4, .int (iI (24 + n))), (0, .ref (G.2.2 0)), (1, .int (iI w)), (2, .int (iI n)), (3, .int (iI v))]) rfl (fun ls hl => ?_)
                refine lv_aload_n hx hb dX4_lets_86 rfl (lv_at hl 2 rfl) ?_
                refine m_get 2 (by decide) hx hb hts hown hK hj hH q1475 (fun _ h9 => h9) rfl dX4_lets_87 ?_
                refine lv_iload hx hb dX4_lets_90 (lv_at hl 1 rfl) ?_
                refine lv_iload_n hx hb dX4_lets_92 rfl (lv_at hl 5 rfl) ?_
                refine ms_2 hx hb hK hj hH (by omega) (by omega) dX4_lets_93 (fun H locs hH => ?_)
                refine lv_aload_n hx hb dX4_lets_94 rfl (lv_at hl 2 rfl) ?_
                refine lv_iload hx hb dX4_lets_95 (lv_at hl 0 rfl) ?_
                refine m_calliF (m_runV (As := [.int (iI (σ 2 (24 + n)))]) (rest := []) S hH hK hj hl.1 (mm_good l G (st σ 2 (24 + n) v) (σ 2 (24 + n)) _ ) (lw_V q1576 q1578 qs44 q109 q1579) kd_X4_good rfl rfl dX4_lets_97) hH hA (fun H locs hH => ?_)
                refine m_iret hx hb hr hlk hH dX4_lets_100 ?_
                unfold letsF letAt
                (repeat' split) <;> first | (exfalso; omega) | rfl
            · exact absurd c_53 c_12
          · -- 43F
            refine lv_aload_n hx hb dX4_lets_46 rfl (lv_at hl 0 rfl) ?_
            refine n_iconst hx hb dX4_lets_47 ?_
            refine m_calliF (m_runV (As := [.int (iI (-1))]) (rest := []) S hH hK hj hl.1 (mm_refuses l G σ (-1) _ (by omega) (by omega)) (lw_V q1572 q1574 qs43 q109 q1575) kd_X4_refuses rfl rfl dX4_lets_48) hH hA (fun H locs hH => ?_)
            refine m_iret hx hb hr hlk hH dX4_lets_51 ?_
            unfold letsF letAt
            (repeat' split) <;> first | (exfalso; omega) | rfl
    · -- 12F
      refine n_iconst hx hb dX4_lets_15 ?_
      refine lv_goto (tgt := 30) hx hb dX4_lets_16 (by decide) ?_
      refine m_calliF (m_runS (As := [.int (iI n), .int (iI 0), .int (iI 5)]) (rest := []) S hH hK hj hl.1 (mm_in l G σ n 0 5 _ (r32 (by omega)) (r32 (by omega)) (r32 (by omega))) (lw_S q1569 q1570 q109 q1571) kd_X4_in rfl rfl dX4_lets_30) hH hA (fun H locs hH => ?_)
      refine z_if_eq (tgt := 46) hx hb dX4_lets_33 (by decide) (fun c_33 => ?_) (fun c_33 => ?_)
      · -- 33T
        refine lv_aload_n hx hb dX4_lets_46 rfl (lv_at hl 0 rfl) ?_
        refine n_iconst hx hb dX4_lets_47 ?_
        refine m_calliF (m_runV (As := [.int (iI (-1))]) (rest := []) S hH hK hj hl.1 (mm_refuses l G σ (-1) _ (by omega) (by omega)) (lw_V q1572 q1574 qs43 q109 q1575) kd_X4_refuses rfl rfl dX4_lets_48) hH hA (fun H locs hH => ?_)
        refine m_iret hx hb hr hlk hH dX4_lets_51 ?_
        unfold letsF letAt
        (repeat' split) <;> first | (exfalso; omega) | rfl
      · -- 33F
        refine lv_iload_n hx hb dX4_lets_36 rfl (lv_at hl 3 rfl) ?_
        refine n_iconst hx hb dX4_lets_37 ?_
        refine n_bipush (z := 100) hx hb dX4_lets_38 (by decide) ?_
        refine m_calliF (m_runS (As := [.int (iI v), .int (iI 0), .int (iI 100)]) (rest := []) S hH hK hj hl.1 (mm_in l G σ v 0 100 _ (r32 (by omega)) (r32 (by omega)) (r32 (by omega))) (lw_S q1569 q1570 q109 q1571) kd_X4_in rfl rfl dX4_lets_40) hH hA (fun H locs hH => ?_)
        refine z_if_ne (tgt := 52) hx hb dX4_lets_43 (by decide) (fun c_43 => ?_) (fun c_43 => ?_)
        · -- 43T
          refine lv_iload_n hx hb dX4_lets_52 rfl (lv_at hl 1 rfl) ?_
          refine n_if_ne (tgt := 61) hx hb (r32 (by omega)) dX4_lets_53 (by decide) (fun c_53 => ?_) (fun c_53 => ?_)
          · exact absurd c_12 c_53
          · -- 53F
            refine n_bipush (z := 18) hx hb dX4_lets_56 (by decide) ?_
            refine lv_goto (tgt := 73) hx hb dX4_lets_58 (by decide) ?_
            refine lv_iload_n hx hb dX4_lets_73 rfl (lv_at hl 2 rfl) ?_
            refine n_iadd hx hb dX4_lets_74 ?_
            refine lv_istore hx hb dX4_lets_75 hl (Nat.le_of_ble_eq_true rfl) (lv' := [(4, .int (iI (18 + n))), (0, .ref (G.2.2 0)), (1, .int (iI w)), (2, .int (iI n)), (3, .int (iI v))]) rfl (fun ls hl => ?_)
            refine lv_aload_n hx hb dX4_lets_77 rfl (lv_at hl 1 rfl) ?_
            refine m_get 2 (by decide) hx hb hts hown hK hj hH q1475 (fun _ h9 => h9) rfl dX4_lets_78 ?_
            refine lv_iload hx hb dX4_lets_81 (lv_at hl 0 rfl) ?_
            refine ml_2 hx hb hK hj hH (by omega) (by omega) dX4_lets_83 ?_
            refine lv_istore hx hb dX4_lets_84 hl (Nat.le_of_ble_eq_true rfl) (lv' := [(5, .int (iI (σ 2 (18 + n)))), (4, .int (iI (18 + n))), (0, .ref (G.2.2 0)), (1, .int (iI w)), (2, .int (iI n)), (3, .int (iI v))]) rfl (fun ls hl => ?_)
            refine lv_aload_n hx hb dX4_lets_86 rfl (lv_at hl 2 rfl) ?_
            refine m_get 2 (by decide) hx hb hts hown hK hj hH q1475 (fun _ h9 => h9) rfl dX4_lets_87 ?_
            refine lv_iload hx hb dX4_lets_90 (lv_at hl 1 rfl) ?_
            refine lv_iload_n hx hb dX4_lets_92 rfl (lv_at hl 5 rfl) ?_
            refine ms_2 hx hb hK hj hH (by omega) (by omega) dX4_lets_93 (fun H locs hH => ?_)
            refine lv_aload_n hx hb dX4_lets_94 rfl (lv_at hl 2 rfl) ?_
            refine lv_iload hx hb dX4_lets_95 (lv_at hl 0 rfl) ?_
            refine m_calliF (m_runV (As := [.int (iI (σ 2 (18 + n)))]) (rest := []) S hH hK hj hl.1 (mm_good l G (st σ 2 (18 + n) v) (σ 2 (18 + n)) _ ) (lw_V q1576 q1578 qs44 q109 q1579) kd_X4_good rfl rfl dX4_lets_97) hH hA (fun H locs hH => ?_)
            refine m_iret hx hb hr hlk hH dX4_lets_100 ?_
            unfold letsF letAt
            (repeat' split) <;> first | (exfalso; omega) | rfl
        · -- 43F
          refine lv_aload_n hx hb dX4_lets_46 rfl (lv_at hl 0 rfl) ?_
          refine n_iconst hx hb dX4_lets_47 ?_
          refine m_calliF (m_runV (As := [.int (iI (-1))]) (rest := []) S hH hK hj hl.1 (mm_refuses l G σ (-1) _ (by omega) (by omega)) (lw_V q1572 q1574 qs43 q109 q1575) kd_X4_refuses rfl rfl dX4_lets_48) hH hA (fun H locs hH => ?_)
          refine m_iret hx hb hr hlk hH dX4_lets_51 ?_
          unfold letsF letAt
          (repeat' split) <;> first | (exfalso; omega) | rfl
theorem kd_X4_weigh : yX4_weigh.cls = RX4 ∧ yX4_weigh.cls ≠ "java/lang/invoke/MethodHandle" ∧ yX4_weigh.cls ≠ "java/lang/invoke/VarHandle" ∧ (parseMethodDescriptor yX4_weigh.desc).map (fun d => d.parameters.length) = some 3 := by decide +kernel
theorem mm_weigh (l : Launch) (G : MG) (σ : St) (q : Int) (k : Int) (v : Int) (sz : Nat) (h_q : R32 q) (h_k : R32 k) (h_v : R32 v) (hI : KI (σ 2)) : Met l yX4_weigh (ws_ yX4_weigh cX4_weigh 6 (some .int)) (rmD 3) (mP G [.ref (G.2.2 0), .int (iI q), .int (iI k), .int (iI v)] σ sz) (mQi G σ sz (fun z σ' => (z, σ') = weighF σ q k v)) 0 0 (mA G σ sz) := by
  refine m_start (by decide) (Nat.le_of_ble_eq_true rfl) ?_
  intro p e s m below meth c ⟨S, hr, hlk, hH, hK, hj, hsz, hnm⟩ ls hl
  subst hsz
  obtain ⟨hx, hb, hml, hown, hts⟩ := S
  have S : CallFix p m c _ _ s _ lw_all RX4 := ⟨hx, hb, hml, hown, hts⟩
  have hA : ∀ q, s.heap.size ≤ q → mA G σ s.heap.size q := fun q hq => Or.inr hq
  have hl : lv_has ls 6 [(0, .ref (G.2.2 0)), (1, .int (iI q)), (2, .int (iI k)), (3, .int (iI v))] := hl
  have b0 := hI.c
  unfold kCnt at b0
  have h_q := R32.n h_q
  have h_k := R32.n h_k
  have h_v := R32.n h_v
  refine lv_iload_n hx hb dX4_weigh_0 rfl (lv_at hl 1 rfl) ?_
  refine n_iconst hx hb dX4_weigh_1 ?_
  refine n_bipush (z := 11) hx hb dX4_weigh_2 (by decide) ?_
  refine m_calliF (m_runS (As := [.int (iI q), .int (iI 0), .int (iI 11)]) (rest := []) S hH hK hj hl.1 (mm_in l G σ q 0 11 _ (r32 (by omega)) (r32 (by omega)) (r32 (by omega))) (lw_S q1569 q1570 q109 q1571) kd_X4_in rfl rfl dX4_weigh_4) hH hA (fun H locs hH => ?_)
  refine z_if_eq (tgt := 21) hx hb dX4_weigh_7 (by decide) (fun c_7 => ?_) (fun c_7 => ?_)
  · -- 7T
    refine lv_aload_n hx hb dX4_weigh_21 rfl (lv_at hl 0 rfl) ?_
    refine n_iconst hx hb dX4_weigh_22 ?_
    refine m_calliF (m_runV (As := [.int (iI (-1))]) (rest := []) S hH hK hj hl.1 (mm_refuses l G σ (-1) _ (by omega) (by omega)) (lw_V q1572 q1574 qs43 q109 q1575) kd_X4_refuses rfl rfl dX4_weigh_23) hH hA (fun H locs hH => ?_)
    refine m_iret hx hb hr hlk hH dX4_weigh_26 ?_
    unfold weighF
    (repeat' split) <;> first | (exfalso; omega) | rfl
  · -- 7F
    refine lv_iload_n hx hb dX4_weigh_10 rfl (lv_at hl 3 rfl) ?_
    refine n_iconst hx hb dX4_weigh_11 ?_
    refine n_sipush (z := 1000) hx hb dX4_weigh_12 (by decide) ?_
    refine m_calliF (m_runS (As := [.int (iI v), .int (iI 0), .int (iI 1000)]) (rest := []) S hH hK hj hl.1 (mm_in l G σ v 0 1000 _ (r32 (by omega)) (r32 (by omega)) (r32 (by omega))) (lw_S q1569 q1570 q109 q1571) kd_X4_in rfl rfl dX4_weigh_15) hH hA (fun H locs hH => ?_)
    refine z_if_ne (tgt := 27) hx hb dX4_weigh_18 (by decide) (fun c_18 => ?_) (fun c_18 => ?_)
    · -- 18T
      refine lv_aload_n hx hb dX4_weigh_27 rfl (lv_at hl 0 rfl) ?_
      refine lv_iload_n hx hb dX4_weigh_28 rfl (lv_at hl 2 rfl) ?_
      refine m_calliF (m_runV (As := [.int (iI k)]) (rest := []) S hH hK hj hl.1 (mm_isKind l G σ k _ (r32 (by omega)) (by omega) (by omega)) (lw_V q1600 q1602 qs45 q109 q1603) kd_X4_isKind rfl rfl dX4_weigh_29) hH hA (fun H locs hH => ?_)
      refine z_if_ne (tgt := 42) hx hb dX4_weigh_32 (by decide) (fun c_32 => ?_) (fun c_32 => ?_)
      · -- 32T
        refine n_bipush (z := 40) hx hb dX4_weigh_42 (by decide) ?_
        refine n_bipush (z := 8) hx hb dX4_weigh_44 (by decide) ?_
        refine lv_iload_n hx hb dX4_weigh_46 rfl (lv_at hl 1 rfl) ?_
        refine n_imul hx hb dX4_weigh_47 ?_
        refine n_iadd hx hb dX4_weigh_48 ?_
        refine lv_iload_n hx hb dX4_weigh_49 rfl (lv_at hl 2 rfl) ?_
        refine n_iadd hx hb dX4_weigh_50 ?_
        refine lv_istore hx hb dX4_weigh_51 hl (Nat.le_of_ble_eq_true rfl) (lv' := [(4, .int (iI ((40 + (8 * q)) + k))), (0, .ref (G.2.2 0)), (1, .int (iI q)), (2, .int (iI k)), (3, .int (iI v))]) rfl (fun ls hl => ?_)
        refine lv_aload_n hx hb dX4_weigh_53 rfl (lv_at hl 1 rfl) ?_
        refine m_get 2 (by decide) hx hb hts hown hK hj hH q1475 (fun _ h9 => h9) rfl dX4_weigh_54 ?_
        refine lv_iload hx hb dX4_weigh_57 (lv_at hl 0 rfl) ?_
        refine ml_2 hx hb hK hj hH (by omega) (by omega) dX4_weigh_59 ?_
        refine lv_istore hx hb dX4_weigh_60 hl (Nat.le_of_ble_eq_true rfl) (lv' := [(5, .int (iI (σ 2 ((40 + (8 * q)) + k)))), (4, .int (iI ((40 + (8 * q)) + k))), (0, .ref (G.2.2 0)), (1, .int (iI q)), (2, .int (iI k)), (3, .int (iI v))]) rfl (fun ls hl => ?_)
        refine lv_aload_n hx hb dX4_weigh_62 rfl (lv_at hl 2 rfl) ?_
        refine m_get 2 (by decide) hx hb hts hown hK hj hH q1475 (fun _ h9 => h9) rfl dX4_weigh_63 ?_
        refine lv_iload hx hb dX4_weigh_66 (lv_at hl 1 rfl) ?_
        refine lv_iload_n hx hb dX4_weigh_68 rfl (lv_at hl 5 rfl) ?_
        refine ms_2 hx hb hK hj hH (by omega) (by omega) dX4_weigh_69 (fun H locs hH => ?_)
        refine lv_aload_n hx hb dX4_weigh_70 rfl (lv_at hl 2 rfl) ?_
        refine lv_iload hx hb dX4_weigh_71 (lv_at hl 0 rfl) ?_
        refine m_calliF (m_runV (As := [.int (iI (σ 2 ((40 + (8 * q)) + k)))]) (rest := []) S hH hK hj hl.1 (mm_good l G (st σ 2 ((40 + (8 * q)) + k) v) (σ 2 ((40 + (8 * q)) + k)) _ ) (lw_V q1576 q1578 qs44 q109 q1579) kd_X4_good rfl rfl dX4_weigh_73) hH hA (fun H locs hH => ?_)
        refine m_iret hx hb hr hlk hH dX4_weigh_76 ?_
        unfold weighF
        (repeat' split) <;> first | (exfalso; omega) | rfl
      · -- 32F
        refine lv_aload_n hx hb dX4_weigh_35 rfl (lv_at hl 0 rfl) ?_
        refine n_bipush (z := -2) hx hb dX4_weigh_36 (by decide) ?_
        refine m_calliF (m_runV (As := [.int (iI (-2))]) (rest := []) S hH hK hj hl.1 (mm_refuses l G σ (-2) _ (by omega) (by omega)) (lw_V q1572 q1574 qs43 q109 q1575) kd_X4_refuses rfl rfl dX4_weigh_38) hH hA (fun H locs hH => ?_)
        refine m_iret hx hb hr hlk hH dX4_weigh_41 ?_
        unfold weighF
        (repeat' split) <;> first | (exfalso; omega) | rfl
    · -- 18F
      refine lv_aload_n hx hb dX4_weigh_21 rfl (lv_at hl 0 rfl) ?_
      refine n_iconst hx hb dX4_weigh_22 ?_
      refine m_calliF (m_runV (As := [.int (iI (-1))]) (rest := []) S hH hK hj hl.1 (mm_refuses l G σ (-1) _ (by omega) (by omega)) (lw_V q1572 q1574 qs43 q109 q1575) kd_X4_refuses rfl rfl dX4_weigh_23) hH hA (fun H locs hH => ?_)
      refine m_iret hx hb hr hlk hH dX4_weigh_26 ?_
      unfold weighF
      (repeat' split) <;> first | (exfalso; omega) | rfl
theorem kd_X4_seed : yX4_seed.cls = RX4 ∧ yX4_seed.cls ≠ "java/lang/invoke/MethodHandle" ∧ yX4_seed.cls ≠ "java/lang/invoke/VarHandle" ∧ (parseMethodDescriptor yX4_seed.desc).map (fun d => d.parameters.length) = some 1 := by decide +kernel
theorem mm_seed (l : Launch) (G : MG) (σ : St) (v : Int) (sz : Nat) (h_v : R32 v) : Met l yX4_seed (ws_ yX4_seed cX4_seed 2 (some .int)) (rmD 3) (mP G [.ref (G.2.2 0), .int (iI v)] σ sz) (mQi G σ sz (fun z σ' => (z, σ') = seedF σ v)) 0 0 (mA G σ sz) := by
  refine m_start (by decide) (Nat.le_of_ble_eq_true rfl) ?_
  intro p e s m below meth c ⟨S, hr, hlk, hH, hK, hj, hsz, hnm⟩ ls hl
  subst hsz
  obtain ⟨hx, hb, hml, hown, hts⟩ := S
  have S : CallFix p m c _ _ s _ lw_all RX4 := ⟨hx, hb, hml, hown, hts⟩
  have hA : ∀ q, s.heap.size ≤ q → mA G σ s.heap.size q := fun q hq => Or.inr hq
  have hl : lv_has ls 2 [(0, .ref (G.2.2 0)), (1, .int (iI v))] := hl
  have h_v := R32.n h_v
  refine lv_iload_n hx hb dX4_seed_0 rfl (lv_at hl 1 rfl) ?_
  refine n_iconst hx hb dX4_seed_1 ?_
  refine lv_ldc (v := iI 1000000) hx hb hown (hts _ q1608) dX4_seed_2 ?_
  refine m_calliF (m_runS (As := [.int (iI v), .int (iI 0), .int (iI 1000000)]) (rest := []) S hH hK hj hl.1 (mm_in l G σ v 0 1000000 _ (r32 (by omega)) (r32 (by omega)) (r32 (by omega))) (lw_S q1569 q1570 q109 q1571) kd_X4_in rfl rfl dX4_seed_4) hH hA (fun H locs hH => ?_)
  refine z_if_ne (tgt := 16) hx hb dX4_seed_7 (by decide) (fun c_7 => ?_) (fun c_7 => ?_)
  · -- 7T
    refine lv_aload_n hx hb dX4_seed_16 rfl (lv_at hl 0 rfl) ?_
    refine m_get 2 (by decide) hx hb hts hown hK hj hH q1475 (fun _ h9 => h9) rfl dX4_seed_17 ?_
    refine n_sipush (z := 1751) hx hb dX4_seed_20 (by decide) ?_
    refine lv_iload_n hx hb dX4_seed_23 rfl (lv_at hl 1 rfl) ?_
    refine ms_2 hx hb hK hj hH (by omega) (by omega) dX4_seed_24 (fun H locs hH => ?_)
    refine lv_aload_n hx hb dX4_seed_25 rfl (lv_at hl 0 rfl) ?_
    refine n_iconst hx hb dX4_seed_26 ?_
    refine m_calliF (m_runV (As := [.int (iI 0)]) (rest := []) S hH hK hj hl.1 (mm_good l G (st σ 2 1751 v) 0 _ ) (lw_V q1576 q1578 qs44 q109 q1579) kd_X4_good rfl rfl dX4_seed_27) hH hA (fun H locs hH => ?_)
    refine m_iret hx hb hr hlk hH dX4_seed_30 ?_
    unfold seedF
    (repeat' split) <;> first | (exfalso; omega) | rfl
  · -- 7F
    refine lv_aload_n hx hb dX4_seed_10 rfl (lv_at hl 0 rfl) ?_
    refine n_iconst hx hb dX4_seed_11 ?_
    refine m_calliF (m_runV (As := [.int (iI (-1))]) (rest := []) S hH hK hj hl.1 (mm_refuses l G σ (-1) _ (by omega) (by omega)) (lw_V q1572 q1574 qs43 q109 q1575) kd_X4_refuses rfl rfl dX4_seed_12) hH hA (fun H locs hH => ?_)
    refine m_iret hx hb hr hlk hH dX4_seed_15 ?_
    unfold seedF
    (repeat' split) <;> first | (exfalso; omega) | rfl
theorem kd_X4_move : yX4_move.cls = RX4 ∧ yX4_move.cls ≠ "java/lang/invoke/MethodHandle" ∧ yX4_move.cls ≠ "java/lang/invoke/VarHandle" ∧ (parseMethodDescriptor yX4_move.desc).map (fun d => d.parameters.length) = some 2 := by decide +kernel
theorem mm_move (l : Launch) (G : MG) (σ : St) (f : Int) (q : Int) (sz : Nat) (h_f : R32 f) (h_q : R32 q) (hI : KI (σ 2)) : Met l yX4_move (ws_ yX4_move cX4_move 3 (some .int)) (rmD 3) (mP G [.ref (G.2.2 0), .int (iI f), .int (iI q)] σ sz) (mQi G σ sz (fun z σ' => (z, σ') = moveF σ f q)) 0 0 (mA G σ sz) := by
  refine m_start (by decide) (Nat.le_of_ble_eq_true rfl) ?_
  intro p e s m below meth c ⟨S, hr, hlk, hH, hK, hj, hsz, hnm⟩ ls hl
  subst hsz
  obtain ⟨hx, hb, hml, hown, hts⟩ := S
  have S : CallFix p m c _ _ s _ lw_all RX4 := ⟨hx, hb, hml, hown, hts⟩
  have hA : ∀ q, s.heap.size ≤ q → mA G σ s.heap.size q := fun q hq => Or.inr hq
  have hl : lv_has ls 3 [(0, .ref (G.2.2 0)), (1, .int (iI f)), (2, .int (iI q))] := hl
  have b0 := hI.c
  unfold kCnt at b0
  have h_f := R32.n h_f
  have h_q := R32.n h_q
  refine lv_iload_n hx hb dX4_move_0 rfl (lv_at hl 2 rfl) ?_
  refine n_iconst hx hb dX4_move_1 ?_
  refine n_bipush (z := 11) hx hb dX4_move_2 (by decide) ?_
  refine m_calliF (m_runS (As := [.int (iI q), .int (iI 0), .int (iI 11)]) (rest := []) S hH hK hj hl.1 (mm_in l G σ q 0 11 _ (r32 (by omega)) (r32 (by omega)) (r32 (by omega))) (lw_S q1569 q1570 q109 q1571) kd_X4_in rfl rfl dX4_move_4) hH hA (fun H locs hH => ?_)
  refine z_if_ne (tgt := 16) hx hb dX4_move_7 (by decide) (fun c_7 => ?_) (fun c_7 => ?_)
  · -- 7T
    refine lv_aload_n hx hb dX4_move_16 rfl (lv_at hl 0 rfl) ?_
    refine lv_iload_n hx hb dX4_move_17 rfl (lv_at hl 1 rfl) ?_
    refine m_calliF (m_runV (As := [.int (iI f)]) (rest := []) S hH hK hj hl.1 (mm_isFlask l G σ f _ (r32 (by omega)) (by omega) (by omega)) (lw_V q1621 q1623 qs47 q109 q1624) kd_X4_isFlask rfl rfl dX4_move_18) hH hA (fun H locs hH => ?_)
    refine z_if_ne (tgt := 31) hx hb dX4_move_21 (by decide) (fun c_21 => ?_) (fun c_21 => ?_)
    · -- 21T
      refine lv_aload_n hx hb dX4_move_31 rfl (lv_at hl 0 rfl) ?_
      refine lv_iload_n hx hb dX4_move_32 rfl (lv_at hl 1 rfl) ?_
      refine n_iconst hx hb dX4_move_33 ?_
      refine lv_iload_n hx hb dX4_move_34 rfl (lv_at hl 2 rfl) ?_
      refine m_callvF (m_runV (As := [.int (iI f), .int (iI 5), .int (iI q)]) (rest := []) S hH hK hj hl.1 (mm_sets l G σ f 5 q _ (by omega) (by omega) (by omega) (by omega)) (lw_V q1613 q1615 qs46 q109 q1616) kd_X4_sets rfl rfl dX4_move_35) hH hA (fun H locs hH => ?_)
      refine lv_aload_n hx hb dX4_move_38 rfl (lv_at hl 0 rfl) ?_
      refine n_iconst hx hb dX4_move_39 ?_
      refine m_calliF (m_runV (As := [.int (iI 0)]) (rest := []) S hH hK hj hl.1 (mm_good l G (st σ 2 (184 + 26 * f + 5) q) 0 _ ) (lw_V q1576 q1578 qs44 q109 q1579) kd_X4_good rfl rfl dX4_move_40) hH hA (fun H locs hH => ?_)
      refine m_iret hx hb hr hlk hH dX4_move_43 ?_
      unfold moveF
      (repeat' split) <;> first | (exfalso; omega) | rfl
    · -- 21F
      refine lv_aload_n hx hb dX4_move_24 rfl (lv_at hl 0 rfl) ?_
      refine n_bipush (z := -2) hx hb dX4_move_25 (by decide) ?_
      refine m_calliF (m_runV (As := [.int (iI (-2))]) (rest := []) S hH hK hj hl.1 (mm_refuses l G σ (-2) _ (by omega) (by omega)) (lw_V q1572 q1574 qs43 q109 q1575) kd_X4_refuses rfl rfl dX4_move_27) hH hA (fun H locs hH => ?_)
      refine m_iret hx hb hr hlk hH dX4_move_30 ?_
      unfold moveF
      (repeat' split) <;> first | (exfalso; omega) | rfl
  · -- 7F
    refine lv_aload_n hx hb dX4_move_10 rfl (lv_at hl 0 rfl) ?_
    refine n_iconst hx hb dX4_move_11 ?_
    refine m_calliF (m_runV (As := [.int (iI (-1))]) (rest := []) S hH hK hj hl.1 (mm_refuses l G σ (-1) _ (by omega) (by omega)) (lw_V q1572 q1574 qs43 q109 q1575) kd_X4_refuses rfl rfl dX4_move_12) hH hA (fun H locs hH => ?_)
    refine m_iret hx hb hr hlk hH dX4_move_15 ?_
    unfold moveF
    (repeat' split) <;> first | (exfalso; omega) | rfl
theorem kd_X4_open : yX4_open.cls = RX4 ∧ yX4_open.cls ≠ "java/lang/invoke/MethodHandle" ∧ yX4_open.cls ≠ "java/lang/invoke/VarHandle" ∧ (parseMethodDescriptor yX4_open.desc).map (fun d => d.parameters.length) = some 2 := by decide +kernel
theorem mm_open (l : Launch) (G : MG) (σ : St) (f : Int) (dd : Int) (sz : Nat) (h_f : R32 f) (h_dd : R32 dd) (hI : KI (σ 2)) : Met l yX4_open (ws_ yX4_open cX4_open 3 (some .int)) (rmD 3) (mP G [.ref (G.2.2 0), .int (iI f), .int (iI dd)] σ sz) (mQi G σ sz (fun z σ' => (z, σ') = openF σ f dd)) 0 0 (mA G σ sz) := by
  refine m_start (by decide) (Nat.le_of_ble_eq_true rfl) ?_
  intro p e s m below meth c ⟨S, hr, hlk, hH, hK, hj, hsz, hnm⟩ ls hl
  subst hsz
  obtain ⟨hx, hb, hml, hown, hts⟩ := S
  have S : CallFix p m c _ _ s _ lw_all RX4 := ⟨hx, hb, hml, hown, hts⟩
  have hA : ∀ q, s.heap.size ≤ q → mA G σ s.heap.size q := fun q hq => Or.inr hq
  have hl : lv_has ls 3 [(0, .ref (G.2.2 0)), (1, .int (iI f)), (2, .int (iI dd))] := hl
  have b0 := hI.c
  unfold kCnt at b0
  have h_f := R32.n h_f
  have h_dd := R32.n h_dd
  refine lv_iload_n hx hb dX4_open_0 rfl (lv_at hl 2 rfl) ?_
  refine n_iconst hx hb dX4_open_1 ?_
  refine n_bipush (z := 100) hx hb dX4_open_2 (by decide) ?_
  refine m_calliF (m_runS (As := [.int (iI dd), .int (iI 1), .int (iI 100)]) (rest := []) S hH hK hj hl.1 (mm_in l G σ dd 1 100 _ (r32 (by omega)) (r32 (by omega)) (r32 (by omega))) (lw_S q1569 q1570 q109 q1571) kd_X4_in rfl rfl dX4_open_4) hH hA (fun H locs hH => ?_)
  refine z_if_ne (tgt := 16) hx hb dX4_open_7 (by decide) (fun c_7 => ?_) (fun c_7 => ?_)
  · -- 7T
    refine lv_aload_n hx hb dX4_open_16 rfl (lv_at hl 0 rfl) ?_
    refine lv_iload_n hx hb dX4_open_17 rfl (lv_at hl 1 rfl) ?_
    refine m_calliF (m_runV (As := [.int (iI f)]) (rest := []) S hH hK hj hl.1 (mm_isFlask l G σ f _ (r32 (by omega)) (by omega) (by omega)) (lw_V q1621 q1623 qs47 q109 q1624) kd_X4_isFlask rfl rfl dX4_open_18) hH hA (fun H locs hH => ?_)
    refine z_if_ne (tgt := 31) hx hb dX4_open_21 (by decide) (fun c_21 => ?_) (fun c_21 => ?_)
    · -- 21T
      have b1 := hI.f f (by omega) (by omega)
      unfold kFlask fl at b1
      refine lv_aload_n hx hb dX4_open_31 rfl (lv_at hl 0 rfl) ?_
      refine lv_iload_n hx hb dX4_open_32 rfl (lv_at hl 1 rfl) ?_
      refine n_iconst hx hb dX4_open_33 ?_
      refine m_calliF (m_runV (As := [.int (iI f), .int (iI 1)]) (rest := []) S hH hK hj hl.1 (mm_flaskOf l G σ f 1 _ (by omega) (by omega) (by omega) (by omega)) (lw_V q1625 q1627 qs48 q109 q1628) kd_X4_flaskOf rfl rfl dX4_open_34) hH hA (fun H locs hH => ?_)
      refine n_if_ne (tgt := 47) hx hb (r32 (by omega)) dX4_open_37 (by decide) (fun c_37 => ?_) (fun c_37 => ?_)
      · -- 37T
        refine lv_aload_n hx hb dX4_open_47 rfl (lv_at hl 0 rfl) ?_
        refine lv_iload_n hx hb dX4_open_48 rfl (lv_at hl 1 rfl) ?_
        refine n_bipush (z := 10) hx hb dX4_open_49 (by decide) ?_
        refine lv_aload_n hx hb dX4_open_51 rfl (lv_at hl 0 rfl) ?_
        refine m_get 2 (by decide) hx hb hts hown hK hj hH q1475 (fun _ h9 => h9) rfl dX4_open_52 ?_
        refine n_sipush (z := 1750) hx hb dX4_open_55 (by decide) ?_
        refine ml_2 hx hb hK hj hH (by omega) (by omega) dX4_open_58 ?_
        refine lv_iload_n hx hb dX4_open_59 rfl (lv_at hl 2 rfl) ?_
        refine n_iadd hx hb dX4_open_60 ?_
        refine n_iconst hx hb dX4_open_61 ?_
        refine n_isub hx hb dX4_open_62 ?_
        refine m_callvF (m_runV (As := [.int (iI f), .int (iI 10), .int (iI (((σ 2 1750) + dd) - 1))]) (rest := []) S hH hK hj hl.1 (mm_sets l G σ f 10 (((σ 2 1750) + dd) - 1) _ (by omega) (by omega) (by omega) (by omega)) (lw_V q1613 q1615 qs46 q109 q1616) kd_X4_sets rfl rfl dX4_open_63) hH hA (fun H locs hH => ?_)
        refine lv_aload_n hx hb dX4_open_66 rfl (lv_at hl 0 rfl) ?_
        refine n_iconst hx hb dX4_open_67 ?_
        refine m_calliF (m_runV (As := [.int (iI 0)]) (rest := []) S hH hK hj hl.1 (mm_good l G (st σ 2 (184 + 26 * f + 10) (((σ 2 1750) + dd) - 1)) 0 _ ) (lw_V q1576 q1578 qs44 q109 q1579) kd_X4_good rfl rfl dX4_open_68) hH hA (fun H locs hH => ?_)
        refine m_iret hx hb hr hlk hH dX4_open_71 ?_
        unfold openF
        (repeat' split) <;> first | (exfalso; omega) | rfl
      · -- 37F
        refine lv_aload_n hx hb dX4_open_40 rfl (lv_at hl 0 rfl) ?_
        refine n_bipush (z := -3) hx hb dX4_open_41 (by decide) ?_
        refine m_calliF (m_runV (As := [.int (iI (-3))]) (rest := []) S hH hK hj hl.1 (mm_refuses l G σ (-3) _ (by omega) (by omega)) (lw_V q1572 q1574 qs43 q109 q1575) kd_X4_refuses rfl rfl dX4_open_43) hH hA (fun H locs hH => ?_)
        refine m_iret hx hb hr hlk hH dX4_open_46 ?_
        unfold openF
        (repeat' split) <;> first | (exfalso; omega) | rfl
    · -- 21F
      refine lv_aload_n hx hb dX4_open_24 rfl (lv_at hl 0 rfl) ?_
      refine n_bipush (z := -2) hx hb dX4_open_25 (by decide) ?_
      refine m_calliF (m_runV (As := [.int (iI (-2))]) (rest := []) S hH hK hj hl.1 (mm_refuses l G σ (-2) _ (by omega) (by omega)) (lw_V q1572 q1574 qs43 q109 q1575) kd_X4_refuses rfl rfl dX4_open_27) hH hA (fun H locs hH => ?_)
      refine m_iret hx hb hr hlk hH dX4_open_30 ?_
      unfold openF
      (repeat' split) <;> first | (exfalso; omega) | rfl
  · -- 7F
    refine lv_aload_n hx hb dX4_open_10 rfl (lv_at hl 0 rfl) ?_
    refine n_iconst hx hb dX4_open_11 ?_
    refine m_calliF (m_runV (As := [.int (iI (-1))]) (rest := []) S hH hK hj hl.1 (mm_refuses l G σ (-1) _ (by omega) (by omega)) (lw_V q1572 q1574 qs43 q109 q1575) kd_X4_refuses rfl rfl dX4_open_12) hH hA (fun H locs hH => ?_)
    refine m_iret hx hb hr hlk hH dX4_open_15 ?_
    unfold openF
    (repeat' split) <;> first | (exfalso; omega) | rfl
theorem kd_X4_tip : yX4_tip.cls = RX4 ∧ yX4_tip.cls ≠ "java/lang/invoke/MethodHandle" ∧ yX4_tip.cls ≠ "java/lang/invoke/VarHandle" ∧ (parseMethodDescriptor yX4_tip.desc).map (fun d => d.parameters.length) = some 1 := by decide +kernel
theorem mm_tip (l : Launch) (G : MG) (σ : St) (f : Int) (sz : Nat) (h_f : R32 f) (hI : KI (σ 2)) : Met l yX4_tip (ws_ yX4_tip cX4_tip 2 (some .int)) (rmD 3) (mP G [.ref (G.2.2 0), .int (iI f)] σ sz) (mQi G σ sz (fun z σ' => (z, σ') = tipF σ f)) 0 0 (mA G σ sz) := by
  refine m_start (by decide) (Nat.le_of_ble_eq_true rfl) ?_
  intro p e s m below meth c ⟨S, hr, hlk, hH, hK, hj, hsz, hnm⟩ ls hl
  subst hsz
  obtain ⟨hx, hb, hml, hown, hts⟩ := S
  have S : CallFix p m c _ _ s _ lw_all RX4 := ⟨hx, hb, hml, hown, hts⟩
  have hA : ∀ q, s.heap.size ≤ q → mA G σ s.heap.size q := fun q hq => Or.inr hq
  have hl : lv_has ls 2 [(0, .ref (G.2.2 0)), (1, .int (iI f))] := hl
  have b0 := hI.c
  unfold kCnt at b0
  have h_f := R32.n h_f
  refine lv_aload_n hx hb dX4_tip_0 rfl (lv_at hl 0 rfl) ?_
  refine lv_iload_n hx hb dX4_tip_1 rfl (lv_at hl 1 rfl) ?_
  refine m_calliF (m_runV (As := [.int (iI f)]) (rest := []) S hH hK hj hl.1 (mm_isFlask l G σ f _ (r32 (by omega)) (by omega) (by omega)) (lw_V q1621 q1623 qs47 q109 q1624) kd_X4_isFlask rfl rfl dX4_tip_2) hH hA (fun H locs hH => ?_)
  refine z_if_ne (tgt := 15) hx hb dX4_tip_5 (by decide) (fun c_5 => ?_) (fun c_5 => ?_)
  · -- 5T
    have b1 := hI.f f (by omega) (by omega)
    unfold kFlask fl at b1
    refine lv_aload_n hx hb dX4_tip_15 rfl (lv_at hl 0 rfl) ?_
    refine lv_iload_n hx hb dX4_tip_16 rfl (lv_at hl 1 rfl) ?_
    refine n_iconst hx hb dX4_tip_17 ?_
    refine m_calliF (m_runV (As := [.int (iI f), .int (iI 1)]) (rest := []) S hH hK hj hl.1 (mm_flaskOf l G σ f 1 _ (by omega) (by omega) (by omega) (by omega)) (lw_V q1625 q1627 qs48 q109 q1628) kd_X4_flaskOf rfl rfl dX4_tip_18) hH hA (fun H locs hH => ?_)
    refine n_iconst hx hb dX4_tip_21 ?_
    refine n_icmp_eq (tgt := 32) hx hb (r32 (by omega)) (r32 (by omega)) dX4_tip_22 (by decide) (fun c_22 => ?_) (fun c_22 => ?_)
    · -- 22T
      refine lv_aload_n hx hb dX4_tip_32 rfl (lv_at hl 0 rfl) ?_
      refine lv_iload_n hx hb dX4_tip_33 rfl (lv_at hl 1 rfl) ?_
      refine n_bipush (z := 12) hx hb dX4_tip_34 (by decide) ?_
      refine lv_aload_n hx hb dX4_tip_36 rfl (lv_at hl 0 rfl) ?_
      refine m_get 2 (by decide) hx hb hts hown hK hj hH q1475 (fun _ h9 => h9) rfl dX4_tip_37 ?_
      refine n_sipush (z := 1750) hx hb dX4_tip_40 (by decide) ?_
      refine ml_2 hx hb hK hj hH (by omega) (by omega) dX4_tip_43 ?_
      refine m_callvF (m_runV (As := [.int (iI f), .int (iI 12), .int (iI (σ 2 1750))]) (rest := []) S hH hK hj hl.1 (mm_sets l G σ f 12 (σ 2 1750) _ (by omega) (by omega) (by omega) (by omega)) (lw_V q1613 q1615 qs46 q109 q1616) kd_X4_sets rfl rfl dX4_tip_44) hH hA (fun H locs hH => ?_)
      refine lv_aload_n hx hb dX4_tip_47 rfl (lv_at hl 0 rfl) ?_
      refine lv_iload_n hx hb dX4_tip_48 rfl (lv_at hl 1 rfl) ?_
      refine n_bipush (z := 7) hx hb dX4_tip_49 (by decide) ?_
      refine n_iconst hx hb dX4_tip_51 ?_
      refine m_callvF (m_runV (As := [.int (iI f), .int (iI 7), .int (iI 1)]) (rest := []) S hH hK hj hl.1 (mm_sets l G (st σ 2 (184 + 26 * f + 12) (σ 2 1750)) f 7 1 _ (by omega) (by omega) (by omega) (by omega)) (lw_V q1613 q1615 qs46 q109 q1616) kd_X4_sets rfl rfl dX4_tip_52) hH hA (fun H locs hH => ?_)
      refine lv_aload_n hx hb dX4_tip_55 rfl (lv_at hl 0 rfl) ?_
      refine n_iconst hx hb dX4_tip_56 ?_
      refine m_calliF (m_runV (As := [.int (iI 0)]) (rest := []) S hH hK hj hl.1 (mm_good l G (st (st σ 2 (184 + 26 * f + 12) (σ 2 1750)) 2 (184 + 26 * f + 7) 1) 0 _ ) (lw_V q1576 q1578 qs44 q109 q1579) kd_X4_good rfl rfl dX4_tip_57) hH hA (fun H locs hH => ?_)
      refine m_iret hx hb hr hlk hH dX4_tip_60 ?_
      unfold tipF
      (repeat' split) <;> first | (exfalso; omega) | rfl
    · -- 22F
      refine lv_aload_n hx hb dX4_tip_25 rfl (lv_at hl 0 rfl) ?_
      refine n_bipush (z := -3) hx hb dX4_tip_26 (by decide) ?_
      refine m_calliF (m_runV (As := [.int (iI (-3))]) (rest := []) S hH hK hj hl.1 (mm_refuses l G σ (-3) _ (by omega) (by omega)) (lw_V q1572 q1574 qs43 q109 q1575) kd_X4_refuses rfl rfl dX4_tip_28) hH hA (fun H locs hH => ?_)
      refine m_iret hx hb hr hlk hH dX4_tip_31 ?_
      unfold tipF
      (repeat' split) <;> first | (exfalso; omega) | rfl
  · -- 5F
    refine lv_aload_n hx hb dX4_tip_8 rfl (lv_at hl 0 rfl) ?_
    refine n_bipush (z := -2) hx hb dX4_tip_9 (by decide) ?_
    refine m_calliF (m_runV (As := [.int (iI (-2))]) (rest := []) S hH hK hj hl.1 (mm_refuses l G σ (-2) _ (by omega) (by omega)) (lw_V q1572 q1574 qs43 q109 q1575) kd_X4_refuses rfl rfl dX4_tip_11) hH hA (fun H locs hH => ?_)
    refine m_iret hx hb hr hlk hH dX4_tip_14 ?_
    unfold tipF
    (repeat' split) <;> first | (exfalso; omega) | rfl
theorem kd_X4_end : yX4_end.cls = RX4 ∧ yX4_end.cls ≠ "java/lang/invoke/MethodHandle" ∧ yX4_end.cls ≠ "java/lang/invoke/VarHandle" ∧ (parseMethodDescriptor yX4_end.desc).map (fun d => d.parameters.length) = some 1 := by decide +kernel
theorem mm_end (l : Launch) (G : MG) (σ : St) (n : Int) (sz : Nat) (h_n : R32 n) (h0 : 0 ≤ σ 9 0) (h1 : σ 9 0 ≤ 400) : Met l yX4_end (ws_ yX4_end cX4_end 2 (some .int)) (rmD 3) (mP G [.ref (G.2.2 0), .int (iI n)] σ sz) (mQi G σ sz (fun z σ' => (z, σ') = endF σ n)) 0 0 (mA G σ sz) := by
  refine m_start (by decide) (Nat.le_of_ble_eq_true rfl) ?_
  intro p e s m below meth c ⟨S, hr, hlk, hH, hK, hj, hsz, hnm⟩ ls hl
  subst hsz
  obtain ⟨hx, hb, hml, hown, hts⟩ := S
  have S : CallFix p m c _ _ s _ lw_all RX4 := ⟨hx, hb, hml, hown, hts⟩
  have hA : ∀ q, s.heap.size ≤ q → mA G σ s.heap.size q := fun q hq => Or.inr hq
  have hl : lv_has ls 2 [(0, .ref (G.2.2 0)), (1, .int (iI n))] := hl
  have h_n := R32.n h_n
  refine lv_iload_n hx hb dX4_end_0 rfl (lv_at hl 1 rfl) ?_
  refine n_iconst hx hb dX4_end_1 ?_
  refine lv_aload_n hx hb dX4_end_2 rfl (lv_at hl 0 rfl) ?_
  refine m_get 9 (by decide) hx hb hts hown hK hj hH q1482 (fun _ h9 => h9) rfl dX4_end_3 ?_
  refine m_calliF (m_runS (As := [.int (iI n), .int (iI 0), .int (iI (σ 9 0))]) (rest := []) S hH hK hj hl.1 (mm_in l G σ n 0 (σ 9 0) _ (r32 (by omega)) (r32 (by omega)) (r32 (by omega))) (lw_S q1569 q1570 q109 q1571) kd_X4_in rfl rfl dX4_end_6) hH hA (fun H locs hH => ?_)
  refine z_if_ne (tgt := 14) hx hb dX4_end_9 (by decide) (fun c_9 => ?_) (fun c_9 => ?_)
  · -- 9T
    refine lv_aload_n hx hb dX4_end_14 rfl (lv_at hl 0 rfl) ?_
    refine lv_iload_n hx hb dX4_end_15 rfl (lv_at hl 1 rfl) ?_
    refine mp_9 hx hb hts hown hK hj hH q1482 (fun _ h9 => h9) dX4_end_16 (fun H locs hH => ?_)
    refine lv_iload_n hx hb dX4_end_19 rfl (lv_at hl 1 rfl) ?_
    refine m_iret hx hb hr hlk hH dX4_end_20 ?_
    unfold endF
    (repeat' split) <;> first | (exfalso; omega) | rfl
  · -- 9F
    refine n_iconst hx hb dX4_end_12 ?_
    refine m_iret hx hb hr hlk hH dX4_end_13 ?_
    unfold endF
    (repeat' split) <;> first | (exfalso; omega) | rfl
theorem kd_X4_count : yX4_count.cls = RX4 ∧ yX4_count.cls ≠ "java/lang/invoke/MethodHandle" ∧ yX4_count.cls ≠ "java/lang/invoke/VarHandle" ∧ (parseMethodDescriptor yX4_count.desc).map (fun d => d.parameters.length) = some 1 := by decide +kernel
theorem mm_count (l : Launch) (G : MG) (σ : St) (w : Int) (sz : Nat) (h_w : R32 w) : Met l yX4_count (ws_ yX4_count cX4_count 2 (some .int)) (rmD 1) (mP G [.ref (G.2.2 0), .int (iI w)] σ sz) (mQi G σ sz (fun z σ' => z = countF σ w ∧ σ' = σ)) 0 0 (mA G σ sz) := by
  refine m_start (by decide) (Nat.le_of_ble_eq_true rfl) ?_
  intro p e s m below meth c ⟨S, hr, hlk, hH, hK, hj, hsz, hnm⟩ ls hl
  subst hsz
  obtain ⟨hx, hb, hml, hown, hts⟩ := S
  have S : CallFix p m c _ _ s _ lw_all RX4 := ⟨hx, hb, hml, hown, hts⟩
  have hA : ∀ q, s.heap.size ≤ q → mA G σ s.heap.size q := fun q hq => Or.inr hq
  have hl : lv_has ls 2 [(0, .ref (G.2.2 0)), (1, .int (iI w))] := hl
  have h_w := R32.n h_w
  refine lv_iload_n hx hb dX4_count_0 rfl (lv_at hl 1 rfl) ?_
  rcases sw_cases (z := w) 0 12 (by decide) with c_1 | c_1
  · refine lv_tableOut (tgt := 156) hx hb dX4_count_1 (by rw [iI_ti (r32 (by omega))]; exact c_1) (by decide) ?_
    refine n_iconst hx hb dX4_count_156 ?_
    refine m_iret hx hb hr hlk hH dX4_count_157 ?_
    refine ⟨?_, rfl⟩
    unfold countF
    first | (rw [c_1]; rfl) | (repeat rw [if_neg (by omega)])
  · have c_1 : w = 0 ∨ w = 1 ∨ w = 2 ∨ w = 3 ∨ w = 4 ∨ w = 5 ∨ w = 6 ∨ w = 7 ∨ w = 8 ∨ w = 9 ∨ w = 10 ∨ w = 11 ∨ w = 12 := by omega
    rcases c_1 with c_1 | c_1 | c_1 | c_1 | c_1 | c_1 | c_1 | c_1 | c_1 | c_1 | c_1 | c_1 | c_1
    · refine lv_tableIn (off := 67) (tgt := 68) hx hb dX4_count_1 (by rw [c_1]; decide) (by rw [c_1]; decide) (by rw [c_1]; decide) (by decide) ?_
      refine lv_aload_n hx hb dX4_count_68 rfl (lv_at hl 0 rfl) ?_
      refine m_get 2 (by decide) hx hb hts hown hK hj hH q1475 (fun _ h9 => h9) rfl dX4_count_69 ?_
      refine n_sipush (z := 1750) hx hb dX4_count_72 (by decide) ?_
      refine ml_2 hx hb hK hj hH (by omega) (by omega) dX4_count_75 ?_
      refine m_iret hx hb hr hlk hH dX4_count_76 ?_
      refine ⟨?_, rfl⟩
      unfold countF
      first | (rw [c_1]; rfl) | (repeat rw [if_neg (by omega)])
    · refine lv_tableIn (off := 76) (tgt := 77) hx hb dX4_count_1 (by rw [c_1]; decide) (by rw [c_1]; decide) (by rw [c_1]; decide) (by decide) ?_
      refine lv_aload_n hx hb dX4_count_77 rfl (lv_at hl 0 rfl) ?_
      refine m_get 2 (by decide) hx hb hts hown hK hj hH q1475 (fun _ h9 => h9) rfl dX4_count_78 ?_
      refine n_sipush (z := 1752) hx hb dX4_count_81 (by decide) ?_
      refine ml_2 hx hb hK hj hH (by omega) (by omega) dX4_count_84 ?_
      refine m_iret hx hb hr hlk hH dX4_count_85 ?_
      refine ⟨?_, rfl⟩
      unfold countF
      first | (rw [c_1]; rfl) | (repeat rw [if_neg (by omega)])
    · refine lv_tableIn (off := 85) (tgt := 86) hx hb dX4_count_1 (by rw [c_1]; decide) (by rw [c_1]; decide) (by rw [c_1]; decide) (by decide) ?_
      refine lv_aload_n hx hb dX4_count_86 rfl (lv_at hl 0 rfl) ?_
      refine m_get 2 (by decide) hx hb hts hown hK hj hH q1475 (fun _ h9 => h9) rfl dX4_count_87 ?_
      refine n_sipush (z := 1753) hx hb dX4_count_90 (by decide) ?_
      refine ml_2 hx hb hK hj hH (by omega) (by omega) dX4_count_93 ?_
      refine m_iret hx hb hr hlk hH dX4_count_94 ?_
      refine ⟨?_, rfl⟩
      unfold countF
      first | (rw [c_1]; rfl) | (repeat rw [if_neg (by omega)])
    · refine lv_tableIn (off := 94) (tgt := 95) hx hb dX4_count_1 (by rw [c_1]; decide) (by rw [c_1]; decide) (by rw [c_1]; decide) (by decide) ?_
      refine lv_aload_n hx hb dX4_count_95 rfl (lv_at hl 0 rfl) ?_
      refine m_get 2 (by decide) hx hb hts hown hK hj hH q1475 (fun _ h9 => h9) rfl dX4_count_96 ?_
      refine n_sipush (z := 1754) hx hb dX4_count_99 (by decide) ?_
      refine ml_2 hx hb hK hj hH (by omega) (by omega) dX4_count_102 ?_
      refine m_iret hx hb hr hlk hH dX4_count_103 ?_
      refine ⟨?_, rfl⟩
      unfold countF
      first | (rw [c_1]; rfl) | (repeat rw [if_neg (by omega)])
    · refine lv_tableIn (off := 103) (tgt := 104) hx hb dX4_count_1 (by rw [c_1]; decide) (by rw [c_1]; decide) (by rw [c_1]; decide) (by decide) ?_
      refine lv_aload_n hx hb dX4_count_104 rfl (lv_at hl 0 rfl) ?_
      refine m_get 2 (by decide) hx hb hts hown hK hj hH q1475 (fun _ h9 => h9) rfl dX4_count_105 ?_
      refine n_sipush (z := 1755) hx hb dX4_count_108 (by decide) ?_
      refine ml_2 hx hb hK hj hH (by omega) (by omega) dX4_count_111 ?_
      refine m_iret hx hb hr hlk hH dX4_count_112 ?_
      refine ⟨?_, rfl⟩
      unfold countF
      first | (rw [c_1]; rfl) | (repeat rw [if_neg (by omega)])
    · refine lv_tableIn (off := 112) (tgt := 113) hx hb dX4_count_1 (by rw [c_1]; decide) (by rw [c_1]; decide) (by rw [c_1]; decide) (by decide) ?_
      refine lv_aload_n hx hb dX4_count_113 rfl (lv_at hl 0 rfl) ?_
      refine m_get 2 (by decide) hx hb hts hown hK hj hH q1475 (fun _ h9 => h9) rfl dX4_count_114 ?_
      refine n_sipush (z := 1756) hx hb dX4_count_117 (by decide) ?_
      refine ml_2 hx hb hK hj hH (by omega) (by omega) dX4_count_120 ?_
      refine m_iret hx hb hr hlk hH dX4_count_121 ?_
      refine ⟨?_, rfl⟩
      unfold countF
      first | (rw [c_1]; rfl) | (repeat rw [if_neg (by omega)])
    · refine lv_tableIn (off := 121) (tgt := 122) hx hb dX4_count_1 (by rw [c_1]; decide) (by rw [c_1]; decide) (by rw [c_1]; decide) (by decide) ?_
      refine lv_aload_n hx hb dX4_count_122 rfl (lv_at hl 0 rfl) ?_
      refine m_get 2 (by decide) hx hb hts hown hK hj hH q1475 (fun _ h9 => h9) rfl dX4_count_123 ?_
      refine n_sipush (z := 1757) hx hb dX4_count_126 (by decide) ?_
      refine ml_2 hx hb hK hj hH (by omega) (by omega) dX4_count_129 ?_
      refine m_iret hx hb hr hlk hH dX4_count_130 ?_
      refine ⟨?_, rfl⟩
      unfold countF
      first | (rw [c_1]; rfl) | (repeat rw [if_neg (by omega)])
    · refine lv_tableIn (off := 130) (tgt := 131) hx hb dX4_count_1 (by rw [c_1]; decide) (by rw [c_1]; decide) (by rw [c_1]; decide) (by decide) ?_
      refine lv_aload_n hx hb dX4_count_131 rfl (lv_at hl 0 rfl) ?_
      refine m_get 9 (by decide) hx hb hts hown hK hj hH q1482 (fun _ h9 => h9) rfl dX4_count_132 ?_
      refine m_iret hx hb hr hlk hH dX4_count_135 ?_
      refine ⟨?_, rfl⟩
      unfold countF
      first | (rw [c_1]; rfl) | (repeat rw [if_neg (by omega)])
    · refine lv_tableIn (off := 135) (tgt := 136) hx hb dX4_count_1 (by rw [c_1]; decide) (by rw [c_1]; decide) (by rw [c_1]; decide) (by decide) ?_
      refine lv_aload_n hx hb dX4_count_136 rfl (lv_at hl 0 rfl) ?_
      refine m_get 1 (by decide) hx hb hts hown hK hj hH q1474 (fun _ h9 => h9) rfl dX4_count_137 ?_
      refine lv_iload_n hx hb dX4_count_140 rfl (lv_at hl 1 rfl) ?_
      refine n_bipush (z := 7) hx hb dX4_count_141 (by decide) ?_
      refine n_isub hx hb dX4_count_143 ?_
      refine ml_1 hx hb hK hj hH (by omega) (by omega) dX4_count_144 ?_
      refine m_iret hx hb hr hlk hH dX4_count_145 ?_
      refine ⟨?_, rfl⟩
      unfold countF
      first | (rw [c_1]; rfl) | (repeat rw [if_neg (by omega)])
    · refine lv_tableIn (off := 135) (tgt := 136) hx hb dX4_count_1 (by rw [c_1]; decide) (by rw [c_1]; decide) (by rw [c_1]; decide) (by decide) ?_
      refine lv_aload_n hx hb dX4_count_136 rfl (lv_at hl 0 rfl) ?_
      refine m_get 1 (by decide) hx hb hts hown hK hj hH q1474 (fun _ h9 => h9) rfl dX4_count_137 ?_
      refine lv_iload_n hx hb dX4_count_140 rfl (lv_at hl 1 rfl) ?_
      refine n_bipush (z := 7) hx hb dX4_count_141 (by decide) ?_
      refine n_isub hx hb dX4_count_143 ?_
      refine ml_1 hx hb hK hj hH (by omega) (by omega) dX4_count_144 ?_
      refine m_iret hx hb hr hlk hH dX4_count_145 ?_
      refine ⟨?_, rfl⟩
      unfold countF
      first | (rw [c_1]; rfl) | (repeat rw [if_neg (by omega)])
    · refine lv_tableIn (off := 135) (tgt := 136) hx hb dX4_count_1 (by rw [c_1]; decide) (by rw [c_1]; decide) (by rw [c_1]; decide) (by decide) ?_
      refine lv_aload_n hx hb dX4_count_136 rfl (lv_at hl 0 rfl) ?_
      refine m_get 1 (by decide) hx hb hts hown hK hj hH q1474 (fun _ h9 => h9) rfl dX4_count_137 ?_
      refine lv_iload_n hx hb dX4_count_140 rfl (lv_at hl 1 rfl) ?_
      refine n_bipush (z := 7) hx hb dX4_count_141 (by decide) ?_
      refine n_isub hx hb dX4_count_143 ?_
      refine ml_1 hx hb hK hj hH (by omega) (by omega) dX4_count_144 ?_
      refine m_iret hx hb hr hlk hH dX4_count_145 ?_
      refine ⟨?_, rfl⟩
      unfold countF
      first | (rw [c_1]; rfl) | (repeat rw [if_neg (by omega)])
    · refine lv_tableIn (off := 145) (tgt := 146) hx hb dX4_count_1 (by rw [c_1]; decide) (by rw [c_1]; decide) (by rw [c_1]; decide) (by decide) ?_
      refine lv_aload_n hx hb dX4_count_146 rfl (lv_at hl 0 rfl) ?_
      refine m_get 1 (by decide) hx hb hts hown hK hj hH q1474 (fun _ h9 => h9) rfl dX4_count_147 ?_
      refine lv_iload_n hx hb dX4_count_150 rfl (lv_at hl 1 rfl) ?_
      refine n_bipush (z := 6) hx hb dX4_count_151 (by decide) ?_
      refine n_isub hx hb dX4_count_153 ?_
      refine ml_1 hx hb hK hj hH (by omega) (by omega) dX4_count_154 ?_
      refine m_iret hx hb hr hlk hH dX4_count_155 ?_
      refine ⟨?_, rfl⟩
      unfold countF
      first | (rw [c_1]; rfl) | (repeat rw [if_neg (by omega)])
    · refine lv_tableIn (off := 145) (tgt := 146) hx hb dX4_count_1 (by rw [c_1]; decide) (by rw [c_1]; decide) (by rw [c_1]; decide) (by decide) ?_
      refine lv_aload_n hx hb dX4_count_146 rfl (lv_at hl 0 rfl) ?_
      refine m_get 1 (by decide) hx hb hts hown hK hj hH q1474 (fun _ h9 => h9) rfl dX4_count_147 ?_
      refine lv_iload_n hx hb dX4_count_150 rfl (lv_at hl 1 rfl) ?_
      refine n_bipush (z := 6) hx hb dX4_count_151 (by decide) ?_
      refine n_isub hx hb dX4_count_153 ?_
      refine ml_1 hx hb hK hj hH (by omega) (by omega) dX4_count_154 ?_
      refine m_iret hx hb hr hlk hH dX4_count_155 ?_
      refine ⟨?_, rfl⟩
      unfold countF
      first | (rw [c_1]; rfl) | (repeat rw [if_neg (by omega)])
