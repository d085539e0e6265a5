theorem kd_X4_isATwentieth : yX4_isATwentieth.cls = RX4 ∧ yX4_isATwentieth.cls ≠ "java/lang/invoke/MethodHandle" ∧ yX4_isATwentieth.cls ≠ "java/lang/invoke/VarHandle" ∧ (parseMethodDescriptor yX4_isATwentieth.desc).map (fun d => d.parameters.length) = some 2 := by decide +kernel
theorem mm_isATwentieth (l : Launch) (G : MG) (σ : St) (p_ : Int) (n_ : Int) (sz : Nat) (h0 : 0 ≤ p_) (h1 : p_ ≤ 1000000000000000000) (h2 : 1 ≤ n_) (h3 : n_ ≤ 18) (h4 : n_ = 1 → p_ ≤ 10) : Met l yX4_isATwentieth (ws_ yX4_isATwentieth cX4_isATwentieth 3 (some .boolean)) (rmD 2) (mP G [.long (lI p_), .int (iI n_)] σ sz) (mQi G σ sz (fun z σ' => z = zb (isAT p_ n_) ∧ σ' = σ)) 0 0 (mA G σ sz) := by
  refine m_start (by decide) (Nat.le_of_ble_eq_true rfl) ?_
  intro p e s m below meth c ⟨S, hr, hlk, hH, hK, hj, hsz, hnm⟩ ls hl
  subst hsz
  obtain ⟨hx, hb, hml, hown, hts⟩ := S
  have S : CallFix p m c _ _ s _ lw_all RX4 := ⟨hx, hb, hml, hown, hts⟩
  have hA : ∀ q, s.heap.size ≤ q → mA G σ s.heap.size q := fun q hq => Or.inr hq
  have hl : lv_has ls 3 [(0, .long (lI p_)), (2, .int (iI n_))] := hl
  have hp := p10_r h3
  have ht : 0 ≤ Int.tdiv (10 ^ n_.toNat) 20 ∧ Int.tdiv (10 ^ n_.toNat) 20 ≤ 1000000000000000000 := by rw [Int.tdiv_eq_ediv_of_nonneg hp.1]; omega
  refine lv_iload_n hx hb dX4_isATwentieth_0 rfl (lv_at hl 1 rfl) ?_
  refine n_iconst hx hb dX4_isATwentieth_1 ?_
  refine n_icmp_ne (tgt := 25) hx hb (r32 (by omega)) (r32 (by omega)) dX4_isATwentieth_2 (by decide) (fun c_2 => ?_) (fun c_2 => ?_)
  · -- 2T
    refine lv_lload_n hx hb dX4_isATwentieth_25 rfl (lv_at hl 0 rfl) ?_
    refine n_bipush (z := 10) hx hb dX4_isATwentieth_26 (by decide) ?_
    refine lv_iload_n hx hb dX4_isATwentieth_28 rfl (lv_at hl 1 rfl) ?_
    refine m_calllF (m_runS (As := [.int (iI 10), .int (iI n_)]) (rest := [.long (lI p_)]) S hH hK hj hl.1 (mm_power l G σ 10 n_ _ (r32 (by omega)) (r32 (by omega))) (lw_S q1963 q1964 q109 q1965) kd_X4_power rfl rfl dX4_isATwentieth_29) hH hA (fun H locs hH => ?_)
    refine lv_ldc2 (v := lI 20) hx hb hown (hts _ q1969) dX4_isATwentieth_32 ?_
    refine n_ldiv hx hb (by decide) (r64 (by omega)) (r64 (by omega)) (r64 (by omega)) dX4_isATwentieth_35 ?_
    refine n_lcmp_lt (tgt := 44) hx hb (r64 (by omega)) (r64 (by omega)) dX4_isATwentieth_36 dX4_isATwentieth_37 (by decide) (fun c_36 => ?_) (fun c_36 => ?_)
    · -- 36T
      refine n_iconst hx hb dX4_isATwentieth_44 ?_
      refine m_zret hx hb hr hlk hH dX4_isATwentieth_45 (Or.inl rfl) ?_
      exact ⟨(zb_f (by omega)).symm, rfl⟩
    · -- 36F
      refine n_iconst hx hb dX4_isATwentieth_40 ?_
      refine lv_goto (tgt := 45) hx hb dX4_isATwentieth_41 (by decide) ?_
      refine m_zret hx hb hr hlk hH dX4_isATwentieth_45 (Or.inr rfl) ?_
      exact ⟨(zb_t (by omega)).symm, rfl⟩
  · -- 2F
    refine lv_lload_n hx hb dX4_isATwentieth_5 rfl (lv_at hl 0 rfl) ?_
    refine lv_ldc2 (v := lI 20) hx hb hown (hts _ q1969) dX4_isATwentieth_6 ?_
    refine n_lmul hx hb dX4_isATwentieth_9 ?_
    refine lv_ldc2 (v := lI 10) hx hb hown (hts _ q1970) dX4_isATwentieth_10 ?_
    refine n_lcmp_lt (tgt := 21) hx hb (r64 (by omega)) (r64 (by omega)) dX4_isATwentieth_13 dX4_isATwentieth_14 (by decide) (fun c_13 => ?_) (fun c_13 => ?_)
    · -- 13T
      refine n_iconst hx hb dX4_isATwentieth_21 ?_
      refine lv_goto (tgt := 45) hx hb dX4_isATwentieth_22 (by decide) ?_
      refine m_zret hx hb hr hlk hH dX4_isATwentieth_45 (Or.inl rfl) ?_
      exact ⟨(zb_f (by omega)).symm, rfl⟩
    · -- 13F
      refine n_iconst hx hb dX4_isATwentieth_17 ?_
      refine lv_goto (tgt := 45) hx hb dX4_isATwentieth_18 (by decide) ?_
      refine m_zret hx hb hr hlk hH dX4_isATwentieth_45 (Or.inr rfl) ?_
      exact ⟨(zb_t (by omega)).symm, rfl⟩
theorem kd_X4_bound : yX4_bound.cls = RX4 ∧ yX4_bound.cls ≠ "java/lang/invoke/MethodHandle" ∧ yX4_bound.cls ≠ "java/lang/invoke/VarHandle" ∧ (parseMethodDescriptor yX4_bound.desc).map (fun d => d.parameters.length) = some 1 := by decide +kernel
theorem mm_bound (l : Launch) (G : MG) (σ : St) (n_ : Int) (sz : Nat) (h_n_ : R32 n_) : Met l yX4_bound (ws_ yX4_bound cX4_bound 4 (some .int)) (rmD 3) (mP G [.ref (G.2.2 0), .int (iI n_)] σ sz) (mQi G σ sz (fun z σ' => z = (boundF n_) ∧ σ' = σ)) 0 0 (mA G σ sz) := by
  refine m_start (by decide) (Nat.le_of_ble_eq_true rfl) ?_
  intro p e s m below meth c ⟨S, hr, hlk, hH, hK, hj, hsz, hnm⟩ ls hl
  subst hsz
  obtain ⟨hx, hb, hml, hown, hts⟩ := S
  have S : CallFix p m c _ _ s _ lw_all RX4 := ⟨hx, hb, hml, hown, hts⟩
  have hA : ∀ q, s.heap.size ≤ q → mA G σ s.heap.size q := fun q hq => Or.inr hq
  have hl : lv_has ls 4 [(0, .ref (G.2.2 0)), (1, .int (iI n_))] := hl
  have h_n_ := R32.n h_n_
  have L16 : ∀ (q : Nat) (i : Int), (hg : 1 ≤ n_ ∧ n_ ≤ 18) → (hi0 : 0 ≤ i) → (hi1 : i ≤ 10) → (hk : 10 < (q : Int) + i) → ∀ (H : Heap) (locs : List Loc) (ls : Array Slot), MH G (mA G σ s.heap.size) σ s.heap H locs → lv_has ls 4 [(1, .int (iI n_)), (2, .int (iI (boundN n_ i.toNat))), (3, .int (iI i))] → W p l e (rmD 3) s m ([.ref (G.2.2 0), .int (iI n_)] : List Value).toArray below meth c H locs 0 0 (MQ below (mQi G σ s.heap.size (fun z σ' => z = (boundF n_) ∧ σ' = σ)) ([.ref (G.2.2 0), .int (iI n_)] : List Value).toArray s 0 0 (mA G σ s.heap.size)) (F0 m 16 ls []) := by
    intro q
    induction q with
    | zero => intro i hg hi0 hi1 hk; exfalso; omega
    | succ q ih_16 =>
      intro i hg hi0 hi1 hk H locs ls hH hl
      refine lv_iload_n hx hb dX4_bound_16 rfl (lv_at hl 2 rfl) ?_
      refine n_bipush (z := 10) hx hb dX4_bound_17 (by decide) ?_
      refine n_icmp_ge (tgt := 45) hx hb (r32 (by omega)) (r32 (by omega)) dX4_bound_19 (by decide) (fun c_19 => ?_) (fun c_19 => ?_)
      · -- 19T
        refine lv_iload_n hx hb dX4_bound_45 rfl (lv_at hl 1 rfl) ?_
        refine m_iret hx hb hr hlk hH dX4_bound_46 ?_
        exact ⟨by rw [boundF, if_pos hg, show i.toNat = 10 by omega], rfl⟩
      · -- 19F
        have hp1 := pw_r (b := 10 - i) (n := n_) (by omega) (by omega) (by omega)
        have hp2 : n_ = 1 → (10 - i) ^ n_.toNat ≤ 10 := fun h => by subst h; show (10 - i) ^ 1 ≤ 10; rw [Int.pow_succ, Int.pow_zero]; omega
        refine n_bipush (z := 10) hx hb dX4_bound_22 (by decide) ?_
        refine lv_iload_n hx hb dX4_bound_24 rfl (lv_at hl 2 rfl) ?_
        refine n_isub hx hb dX4_bound_25 ?_
        refine lv_iload_n hx hb dX4_bound_26 rfl (lv_at hl 0 rfl) ?_
        refine m_calllF (m_runS (As := [.int (iI (10 - i)), .int (iI n_)]) (rest := []) S hH hK hj hl.1 (mm_power l G σ (10 - i) n_ _ (r32 (by omega)) (r32 (by omega))) (lw_S q1963 q1964 q109 q1965) kd_X4_power rfl rfl dX4_bound_27) hH hA (fun H locs hH => ?_)
        refine lv_iload_n hx hb dX4_bound_30 rfl (lv_at hl 0 rfl) ?_
        refine m_calliF (m_runS (As := [.long (lI ((10 - i) ^ n_.toNat)), .int (iI n_)]) (rest := []) S hH hK hj hl.1 (mm_isATwentieth l G σ ((10 - i) ^ n_.toNat) n_ _ hp1.1 hp1.2 (by omega) (by omega) hp2) (lw_S q1966 q1967 q109 q1968) kd_X4_isATwentieth rfl rfl dX4_bound_31) hH hA (fun H locs hH => ?_)
        refine z_if_eq (tgt := 39) hx hb dX4_bound_34 (by decide) (fun c_34 => ?_) (fun c_34 => ?_)
        · -- 34T
          refine n_iinc hx hb dX4_bound_39 hl (k := 2) rfl (Nat.le_of_ble_eq_true rfl) (lv' := [(3, .int (iI (i + 1))), (1, .int (iI n_)), (2, .int (iI (boundN n_ i.toNat)))]) rfl (fun ls hl => ?_)
          refine lv_goto (tgt := 16) hx hb dX4_bound_42 (by decide) ?_
          have hl : lv_has ls 4 [(1, .int (iI n_)), (2, .int (iI (boundN n_ i.toNat))), (3, .int (iI (i + 1)))] := lv_sub hl [1, 2, 0] rfl
          have hl : lv_has ls 4 [(1, .int (iI n_)), (2, .int (iI (boundN n_ (i + 1).toNat))), (3, .int (iI (i + 1)))] := by rw [show boundN n_ (i + 1).toNat = boundN n_ i.toNat from (by rw [show (i + 1).toNat = i.toNat + 1 by omega, boundN, Int.toNat_of_nonneg hi0, if_neg c_34])]; exact hl
          refine ih_16 (i + 1) ?_ ?_ ?_ ?_ _ _ _ hH hl
          · omega
          · omega
          · omega
          · omega
        · -- 34F
          refine lv_iload_n hx hb dX4_bound_37 rfl (lv_at hl 2 rfl) ?_
          refine lv_istore_n hx hb dX4_bound_38 rfl hl (Nat.le_of_ble_eq_true rfl) (lv' := [(2, .int (iI i)), (1, .int (iI n_)), (3, .int (iI i))]) rfl (fun ls hl => ?_)
          refine n_iinc hx hb dX4_bound_39 hl (k := 2) rfl (Nat.le_of_ble_eq_true rfl) (lv' := [(3, .int (iI (i + 1))), (2, .int (iI i)), (1, .int (iI n_))]) rfl (fun ls hl => ?_)
          refine lv_goto (tgt := 16) hx hb dX4_bound_42 (by decide) ?_
          have hl : lv_has ls 4 [(1, .int (iI n_)), (2, .int (iI i)), (3, .int (iI (i + 1)))] := lv_sub hl [2, 1, 0] rfl
          have hl : lv_has ls 4 [(1, .int (iI n_)), (2, .int (iI (boundN n_ (i + 1).toNat))), (3, .int (iI (i + 1)))] := by rw [show boundN n_ (i + 1).toNat = i from (by rw [show (i + 1).toNat = i.toNat + 1 by omega, boundN, Int.toNat_of_nonneg hi0, if_pos c_34])]; exact hl
          refine ih_16 (i + 1) ?_ ?_ ?_ ?_ _ _ _ hH hl
          · omega
          · omega
          · omega
          · omega
  refine lv_iload_n hx hb dX4_bound_0 rfl (lv_at hl 1 rfl) ?_
  refine n_iconst hx hb dX4_bound_1 ?_
  refine n_bipush (z := 18) hx hb dX4_bound_2 (by decide) ?_
  refine m_calliF (m_runS (As := [.int (iI n_), .int (iI 1), .int (iI 18)]) (rest := []) S hH hK hj hl.1 (mm_in l G σ n_ 1 18 _ (r32 (by omega)) (r32 (by omega)) (r32 (by omega))) (lw_S q1569 q1570 q109 q1571) kd_X4_in rfl rfl dX4_bound_4) hH hA (fun H locs hH => ?_)
  refine z_if_ne (tgt := 12) hx hb dX4_bound_7 (by decide) (fun c_7 => ?_) (fun c_7 => ?_)
  · -- 7T
    refine n_iconst hx hb dX4_bound_12 ?_
    refine lv_istore_n hx hb dX4_bound_13 rfl hl (Nat.le_of_ble_eq_true rfl) (lv' := [(2, .int (iI (-1))), (0, .ref (G.2.2 0)), (1, .int (iI n_))]) rfl (fun ls hl => ?_)
    refine n_iconst hx hb dX4_bound_14 ?_
    refine lv_istore_n hx hb dX4_bound_15 rfl hl (Nat.le_of_ble_eq_true rfl) (lv' := [(3, .int (iI 0)), (2, .int (iI (-1))), (0, .ref (G.2.2 0)), (1, .int (iI n_))]) rfl (fun ls hl => ?_)
    have hl : lv_has ls 4 [(1, .int (iI n_)), (2, .int (iI (-1))), (3, .int (iI 0))] := lv_sub hl [3, 1, 0] rfl
    have hl : lv_has ls 4 [(1, .int (iI n_)), (2, .int (iI (boundN n_ (0 : Int).toNat))), (3, .int (iI 0))] := by exact hl
    refine L16 30 0 ?_ ?_ ?_ ?_ _ _ _ hH hl
    · omega
    · omega
    · omega
    · omega
  · -- 7F
    refine n_iconst hx hb dX4_bound_10 ?_
    refine m_iret hx hb hr hlk hH dX4_bound_11 ?_
    exact ⟨(if_neg (by omega)).symm, rfl⟩
theorem kd_X4_need : yX4_need.cls = RX4 ∧ yX4_need.cls ≠ "java/lang/invoke/MethodHandle" ∧ yX4_need.cls ≠ "java/lang/invoke/VarHandle" ∧ (parseMethodDescriptor yX4_need.desc).map (fun d => d.parameters.length) = some 2 := by decide +kernel
theorem mm_need (l : Launch) (G : MG) (σ : St) (a_ : Int) (s_ : Int) (sz : Nat) (h_a_ : R32 a_) (h_s_ : R32 s_) : Met l yX4_need (ws_ yX4_need cX4_need 4 (some .int)) (rmD 3) (mP G [.ref (G.2.2 0), .int (iI a_), .int (iI s_)] σ sz) (mQi G σ sz (fun z σ' => z = (needF a_ s_) ∧ σ' = σ)) 0 0 (mA G σ sz) := by
  refine m_start (by decide) (Nat.le_of_ble_eq_true rfl) ?_
  intro p e s m below meth c ⟨S, hr, hlk, hH, hK, hj, hsz, hnm⟩ ls hl
  subst hsz
  obtain ⟨hx, hb, hml, hown, hts⟩ := S
  have S : CallFix p m c _ _ s _ lw_all RX4 := ⟨hx, hb, hml, hown, hts⟩
  have hA : ∀ q, s.heap.size ≤ q → mA G σ s.heap.size q := fun q hq => Or.inr hq
  have hl : lv_has ls 4 [(0, .ref (G.2.2 0)), (1, .int (iI a_)), (2, .int (iI s_))] := hl
  have h_a_ := R32.n h_a_
  have h_s_ := R32.n h_s_
  have L24 : ∀ (q : Nat) (i : Int), (hg : (1 ≤ a_ ∧ a_ ≤ 10) ∧ (1 ≤ s_ ∧ s_ ≤ 99)) → (hi0 : 1 ≤ i) → (hi1 : i ≤ 17) → (hk : 17 < (q : Int) + i) → (he : needN a_ s_ 16 = needN a_ s_ (17 - i).toNat) → ∀ (H : Heap) (locs : List Loc) (ls : Array Slot), MH G (mA G σ s.heap.size) σ s.heap H locs → lv_has ls 4 [(1, .int (iI a_)), (2, .int (iI s_)), (3, .int (iI i))] → W p l e (rmD 3) s m ([.ref (G.2.2 0), .int (iI a_), .int (iI s_)] : List Value).toArray below meth c H locs 0 0 (MQ below (mQi G σ s.heap.size (fun z σ' => z = (needF a_ s_) ∧ σ' = σ)) ([.ref (G.2.2 0), .int (iI a_), .int (iI s_)] : List Value).toArray s 0 0 (mA G σ s.heap.size)) (F0 m 24 ls []) := by
    intro q
    induction q with
    | zero => intro i hg hi0 hi1 hk he; exfalso; omega
    | succ q ih_24 =>
      intro i hg hi0 hi1 hk he H locs ls hH hl
      refine lv_iload_n hx hb dX4_need_24 rfl (lv_at hl 2 rfl) ?_
      refine n_bipush (z := 16) hx hb dX4_need_25 (by decide) ?_
      refine n_icmp_gt (tgt := 70) hx hb (r32 (by omega)) (r32 (by omega)) dX4_need_27 (by decide) (fun c_27 => ?_) (fun c_27 => ?_)
      · -- 27T
        refine n_iconst hx hb dX4_need_70 ?_
        refine m_iret hx hb hr hlk hH dX4_need_71 ?_
        exact ⟨by rw [needF, if_pos hg, he, show (17 - i).toNat = 0 by omega, needN], rfl⟩
      · -- 27F
        have hp1 := pw_s (b := 10) (n := i) (by omega) (by omega) (by omega) (by omega)
        have hp2 := pw_s (b := 10 - a_) (n := i) (by omega) (by omega) (by omega) (by omega)
        have hp3 := Int.mul_le_mul_of_nonneg_left hp1.2 (show 0 ≤ s_ by omega)
        have hp4 := Int.mul_nonneg (show 0 ≤ s_ by omega) hp1.1
        refine n_bipush (z := 10) hx hb dX4_need_30 (by decide) ?_
        refine lv_iload_n hx hb dX4_need_32 rfl (lv_at hl 2 rfl) ?_
        refine m_calllF (m_runS (As := [.int (iI 10), .int (iI i)]) (rest := []) S hH hK hj hl.1 (mm_power l G σ 10 i _ (r32 (by omega)) (r32 (by omega))) (lw_S q1963 q1964 q109 q1965) kd_X4_power rfl rfl dX4_need_33) hH hA (fun H locs hH => ?_)
        refine n_bipush (z := 10) hx hb dX4_need_36 (by decide) ?_
        refine lv_iload_n hx hb dX4_need_38 rfl (lv_at hl 0 rfl) ?_
        refine n_isub hx hb dX4_need_39 ?_
        refine lv_iload_n hx hb dX4_need_40 rfl (lv_at hl 2 rfl) ?_
        refine m_calllF (m_runS (As := [.int (iI (10 - a_)), .int (iI i)]) (rest := [.long (lI (10 ^ i.toNat))]) S hH hK hj hl.1 (mm_power l G σ (10 - a_) i _ (r32 (by omega)) (r32 (by omega))) (lw_S q1963 q1964 q109 q1965) kd_X4_power rfl rfl dX4_need_41) hH hA (fun H locs hH => ?_)
        refine n_lsub hx hb dX4_need_44 ?_
        refine lv_ldc2 (v := lI 100) hx hb hown (hts _ q1897) dX4_need_45 ?_
        refine n_lmul hx hb dX4_need_48 ?_
        refine lv_iload_n hx hb dX4_need_49 rfl (lv_at hl 1 rfl) ?_
        refine n_i2l hx hb (r32 (by omega)) dX4_need_50 ?_
        refine n_bipush (z := 10) hx hb dX4_need_51 (by decide) ?_
        refine lv_iload_n hx hb dX4_need_53 rfl (lv_at hl 2 rfl) ?_
        refine m_calllF (m_runS (As := [.int (iI 10), .int (iI i)]) (rest := [.long (lI s_), .long (lI (((10 ^ i.toNat) - ((10 - a_) ^ i.toNat)) * 100))]) S hH hK hj hl.1 (mm_power l G σ 10 i _ (r32 (by omega)) (r32 (by omega))) (lw_S q1963 q1964 q109 q1965) kd_X4_power rfl rfl dX4_need_54) hH hA (fun H locs hH => ?_)
        refine n_lmul hx hb dX4_need_57 ?_
        refine n_lcmp_lt (tgt := 64) hx hb (r64 (by omega)) (r64 (by omega)) dX4_need_58 dX4_need_59 (by decide) (fun c_58 => ?_) (fun c_58 => ?_)
        · -- 58T
          refine n_iinc hx hb dX4_need_64 hl (k := 2) rfl (Nat.le_of_ble_eq_true rfl) (lv' := [(3, .int (iI (i + 1))), (1, .int (iI a_)), (2, .int (iI s_))]) rfl (fun ls hl => ?_)
          refine lv_goto (tgt := 24) hx hb dX4_need_67 (by decide) ?_
          have hl : lv_has ls 4 [(1, .int (iI a_)), (2, .int (iI s_)), (3, .int (iI (i + 1)))] := lv_sub hl [1, 2, 0] rfl
          refine ih_24 (i + 1) ?_ ?_ ?_ ?_ ?_ _ _ _ hH hl
          · omega
          · omega
          · omega
          · omega
          · rw [he, show (17 - i).toNat = (17 - (i + 1)).toNat + 1 by omega, needN, show (16 : Int) - (17 - (i + 1)).toNat = i by omega, if_neg (by omega)]
        · -- 58F
          refine lv_iload_n hx hb dX4_need_62 rfl (lv_at hl 2 rfl) ?_
          refine m_iret hx hb hr hlk hH dX4_need_63 ?_
          exact ⟨by rw [needF, if_pos hg, he, show (17 - i).toNat = (16 - i).toNat + 1 by omega, needN, show (16 : Int) - (16 - i).toNat = i by omega, if_pos (by omega)], rfl⟩
  refine lv_iload_n hx hb dX4_need_0 rfl (lv_at hl 1 rfl) ?_
  refine n_iconst hx hb dX4_need_1 ?_
  refine n_bipush (z := 10) hx hb dX4_need_2 (by decide) ?_
  refine m_calliF (m_runS (As := [.int (iI a_), .int (iI 1), .int (iI 10)]) (rest := []) S hH hK hj hl.1 (mm_in l G σ a_ 1 10 _ (r32 (by omega)) (r32 (by omega)) (r32 (by omega))) (lw_S q1569 q1570 q109 q1571) kd_X4_in rfl rfl dX4_need_4) hH hA (fun H locs hH => ?_)
  refine z_if_eq (tgt := 20) hx hb dX4_need_7 (by decide) (fun c_7 => ?_) (fun c_7 => ?_)
  · -- 7T
    refine n_iconst hx hb dX4_need_20 ?_
    refine m_iret hx hb hr hlk hH dX4_need_21 ?_
    exact ⟨(if_neg (by omega)).symm, rfl⟩
  · -- 7F
    refine lv_iload_n hx hb dX4_need_10 rfl (lv_at hl 2 rfl) ?_
    refine n_iconst hx hb dX4_need_11 ?_
    refine n_bipush (z := 99) hx hb dX4_need_12 (by decide) ?_
    refine m_calliF (m_runS (As := [.int (iI s_), .int (iI 1), .int (iI 99)]) (rest := []) S hH hK hj hl.1 (mm_in l G σ s_ 1 99 _ (r32 (by omega)) (r32 (by omega)) (r32 (by omega))) (lw_S q1569 q1570 q109 q1571) kd_X4_in rfl rfl dX4_need_14) hH hA (fun H locs hH => ?_)
    refine z_if_ne (tgt := 22) hx hb dX4_need_17 (by decide) (fun c_17 => ?_) (fun c_17 => ?_)
    · -- 17T
      refine n_iconst hx hb dX4_need_22 ?_
      refine lv_istore_n hx hb dX4_need_23 rfl hl (Nat.le_of_ble_eq_true rfl) (lv' := [(3, .int (iI 1)), (0, .ref (G.2.2 0)), (1, .int (iI a_)), (2, .int (iI s_))]) rfl (fun ls hl => ?_)
      have hl : lv_has ls 4 [(1, .int (iI a_)), (2, .int (iI s_)), (3, .int (iI 1))] := lv_sub hl [2, 3, 0] rfl
      refine L24 30 1 ?_ ?_ ?_ ?_ ?_ _ _ _ hH hl
      · omega
      · omega
      · omega
      · omega
      · rfl
    · -- 17F
      refine n_iconst hx hb dX4_need_20 ?_
      refine m_iret hx hb hr hlk hH dX4_need_21 ?_
      exact ⟨(if_neg (by omega)).symm, rfl⟩
theorem kd_X4_span : yX4_span.cls = RX4 ∧ yX4_span.cls ≠ "java/lang/invoke/MethodHandle" ∧ yX4_span.cls ≠ "java/lang/invoke/VarHandle" ∧ (parseMethodDescriptor yX4_span.desc).map (fun d => d.parameters.length) = some 3 := by decide +kernel
theorem mm_span (l : Launch) (G : MG) (σ : St) (n_ : Int) (u_ : Int) (w_ : Int) (sz : Nat) (h_n_ : R32 n_) (h_u_ : R32 u_) (h_w_ : R32 w_) : Met l yX4_span (ws_ yX4_span cX4_span 13 (some .int)) (rmD 3) (mP G [.ref (G.2.2 0), .int (iI n_), .int (iI u_), .int (iI w_)] σ sz) (mQi G σ sz (fun z σ' => z = (spanF n_ u_ w_) ∧ σ' = σ)) 0 0 (mA G σ sz) := by
  refine m_start (by decide) (Nat.le_of_ble_eq_true rfl) ?_
  intro p e s m below meth c ⟨S, hr, hlk, hH, hK, hj, hsz, hnm⟩ ls hl
  subst hsz
  obtain ⟨hx, hb, hml, hown, hts⟩ := S
  have S : CallFix p m c _ _ s _ lw_all RX4 := ⟨hx, hb, hml, hown, hts⟩
  have hA : ∀ q, s.heap.size ≤ q → mA G σ s.heap.size q := fun q hq => Or.inr hq
  have hl : lv_has ls 13 [(0, .ref (G.2.2 0)), (1, .int (iI n_)), (2, .int (iI u_)), (3, .int (iI w_))] := hl
  have h_n_ := R32.n h_n_
  have h_u_ := R32.n h_u_
  have h_w_ := R32.n h_w_
  have L36 : ∀ (q : Nat) (i : Int), (hg : (1 ≤ n_ ∧ n_ ≤ 18) ∧ (0 ≤ u_ ∧ u_ ≤ n_) ∧ (0 ≤ w_ ∧ w_ ≤ 1)) → (hi0 : 0 ≤ i) → (hi1 : i ≤ 11) → (hk : 11 < (q : Int) + i) → ∀ (H : Heap) (locs : List Loc) (ls : Array Slot), MH G (mA G σ s.heap.size) σ s.heap H locs → lv_has ls 13 [(1, .int (iI n_)), (2, .int (iI u_)), (3, .int (iI w_)), (4, .int (iI (spanN n_ u_ w_ i.toNat))), (5, .int (iI i))] → W p l e (rmD 3) s m ([.ref (G.2.2 0), .int (iI n_), .int (iI u_), .int (iI w_)] : List Value).toArray below meth c H locs 0 0 (MQ below (mQi G σ s.heap.size (fun z σ' => z = (spanF n_ u_ w_) ∧ σ' = σ)) ([.ref (G.2.2 0), .int (iI n_), .int (iI u_), .int (iI w_)] : List Value).toArray s 0 0 (mA G σ s.heap.size)) (F0 m 36 ls []) := by
    intro q
    induction q with
    | zero => intro i hg hi0 hi1 hk; exfalso; omega
    | succ q ih_36 =>
      intro i hg hi0 hi1 hk H locs ls hH hl
      have hsr := spanN_r (n := n_) (u := u_) (w := w_) i.toNat
      have L52 : ∀ (q1 : Nat) (k : Int), (hi2 : i ≤ 10) → (hk0 : 0 ≤ k) → (hk1 : k ≤ n_ + 1) → (hkk : n_ + 1 < (q1 : Int) + k) → ∀ (H : Heap) (locs : List Loc) (ls : Array Slot), MH G (mA G σ s.heap.size) σ s.heap H locs → lv_has ls 13 [(1, .int (iI n_)), (2, .int (iI u_)), (3, .int (iI w_)), (4, .int (iI (spanN n_ u_ w_ i.toNat))), (5, .int (iI i)), (6, .long (lI (loS n_ i u_ k.toNat))), (8, .long (lI (hiS n_ i u_ k.toNat))), (10, .int (iI k))] → W p l e (rmD 3) s m ([.ref (G.2.2 0), .int (iI n_), .int (iI u_), .int (iI w_)] : List Value).toArray below meth c H locs 0 0 (MQ below (mQi G σ s.heap.size (fun z σ' => z = (spanF n_ u_ w_) ∧ σ' = σ)) ([.ref (G.2.2 0), .int (iI n_), .int (iI u_), .int (iI w_)] : List Value).toArray s 0 0 (mA G σ s.heap.size)) (F0 m 52 ls []) := by
        intro q1
        induction q1 with
        | zero => intro k hi2 hk0 hk1 hkk; exfalso; omega
        | succ q1 ih_52 =>
          intro k hi2 hk0 hk1 hkk H locs ls hH hl
          have hb1 := loS_r (n := n_) (t := i) (u := u_) (by omega) (by omega) (by omega) k.toNat (by omega)
          have hb2 := hiS_r (n := n_) (t := i) (u := u_) (by omega) (by omega) (by omega) k.toNat (by omega)
          have hb3 := toS_r (n := n_) (t := i) (by omega) (by omega) (by omega) (by omega) (k := k.toNat) (by omega)
          have hb4 := p10_r (n := n_) (by omega)
          have hb5 : n_ = 1 → (10 : Int) ^ n_.toNat ≤ 10 := fun h => by subst h; decide
          refine lv_iload hx hb dX4_span_52 (lv_at hl 7 rfl) ?_
          refine lv_iload_n hx hb dX4_span_54 rfl (lv_at hl 0 rfl) ?_
          refine n_icmp_gt (tgt := 100) hx hb (r32 (by omega)) (r32 (by omega)) dX4_span_55 (by decide) (fun c_55 => ?_) (fun c_55 => ?_)
          · -- 55T
            obtain rfl : k = n_ + 1 := by omega
            refine lv_lload hx hb dX4_span_100 (lv_at hl 5 rfl) ?_
            refine lv_iload_n hx hb dX4_span_102 rfl (lv_at hl 0 rfl) ?_
            refine m_calliF (m_runS (As := [.long (lI (loS n_ i u_ (n_ + 1).toNat)), .int (iI n_)]) (rest := []) S hH hK hj hl.1 (mm_isATwentieth l G σ (loS n_ i u_ (n_ + 1).toNat) n_ _ (by omega) (by omega) (by omega) (by omega) (by omega)) (lw_S q1966 q1967 q109 q1968) kd_X4_isATwentieth rfl rfl dX4_span_103) hH hA (fun H locs hH => ?_)
            refine z_if_eq (tgt := 133) hx hb dX4_span_106 (by decide) (fun c_106 => ?_) (fun c_106 => ?_)
            · -- 106T
              refine n_iinc hx hb dX4_span_133 hl (k := 4) rfl (Nat.le_of_ble_eq_true rfl) (lv' := [(5, .int (iI (i + 1))), (1, .int (iI n_)), (2, .int (iI u_)), (3, .int (iI w_)), (4, .int (iI (spanN n_ u_ w_ i.toNat))), (6, .long (lI (loS n_ i u_ (n_ + 1).toNat))), (8, .long (lI (hiS n_ i u_ (n_ + 1).toNat))), (10, .int (iI (n_ + 1)))]) rfl (fun ls hl => ?_)
              refine lv_goto (tgt := 36) hx hb dX4_span_136 (by decide) ?_
              have hl : lv_has ls 13 [(1, .int (iI n_)), (2, .int (iI u_)), (3, .int (iI w_)), (4, .int (iI (spanN n_ u_ w_ i.toNat))), (5, .int (iI (i + 1)))] := lv_sub hl [1, 2, 3, 4, 0] rfl
              have hl : lv_has ls 13 [(1, .int (iI n_)), (2, .int (iI u_)), (3, .int (iI w_)), (4, .int (iI (spanN n_ u_ w_ (i + 1).toNat))), (5, .int (iI (i + 1)))] := by rw [show spanN n_ u_ w_ (i + 1).toNat = spanN n_ u_ w_ i.toNat from (by rw [show (i + 1).toNat = i.toNat + 1 by omega, spanN, Int.toNat_of_nonneg hi0, if_neg (fun h => by first | exact c_106 h.1 | exact c_115 h.2.1 | omega)])]; exact hl
              refine ih_36 (i + 1) ?_ ?_ ?_ ?_ _ _ _ hH hl
              · omega
              · omega
              · omega
              · omega
            · -- 106F
              refine lv_lload hx hb dX4_span_109 (lv_at hl 6 rfl) ?_
              refine lv_iload_n hx hb dX4_span_111 rfl (lv_at hl 0 rfl) ?_
              refine m_calliF (m_runS (As := [.long (lI (hiS n_ i u_ (n_ + 1).toNat)), .int (iI n_)]) (rest := []) S hH hK hj hl.1 (mm_isATwentieth l G σ (hiS n_ i u_ (n_ + 1).toNat) n_ _ (by omega) (by omega) (by omega) (by omega) (by omega)) (lw_S q1966 q1967 q109 q1968) kd_X4_isATwentieth rfl rfl dX4_span_112) hH hA (fun H locs hH => ?_)
              refine z_if_eq (tgt := 133) hx hb dX4_span_115 (by decide) (fun c_115 => ?_) (fun c_115 => ?_)
              · -- 115T
                refine n_iinc hx hb dX4_span_133 hl (k := 4) rfl (Nat.le_of_ble_eq_true rfl) (lv' := [(5, .int (iI (i + 1))), (1, .int (iI n_)), (2, .int (iI u_)), (3, .int (iI w_)), (4, .int (iI (spanN n_ u_ w_ i.toNat))), (6, .long (lI (loS n_ i u_ (n_ + 1).toNat))), (8, .long (lI (hiS n_ i u_ (n_ + 1).toNat))), (10, .int (iI (n_ + 1)))]) rfl (fun ls hl => ?_)
                refine lv_goto (tgt := 36) hx hb dX4_span_136 (by decide) ?_
                have hl : lv_has ls 13 [(1, .int (iI n_)), (2, .int (iI u_)), (3, .int (iI w_)), (4, .int (iI (spanN n_ u_ w_ i.toNat))), (5, .int (iI (i + 1)))] := lv_sub hl [1, 2, 3, 4, 0] rfl
                have hl : lv_has ls 13 [(1, .int (iI n_)), (2, .int (iI u_)), (3, .int (iI w_)), (4, .int (iI (spanN n_ u_ w_ (i + 1).toNat))), (5, .int (iI (i + 1)))] := by rw [show spanN n_ u_ w_ (i + 1).toNat = spanN n_ u_ w_ i.toNat from (by rw [show (i + 1).toNat = i.toNat + 1 by omega, spanN, Int.toNat_of_nonneg hi0, if_neg (fun h => by first | exact c_106 h.1 | exact c_115 h.2.1 | omega)])]; exact hl
                refine ih_36 (i + 1) ?_ ?_ ?_ ?_ _ _ _ hH hl
                · omega
                · omega
                · omega
                · omega
              · -- 115F
                refine lv_iload_n hx hb dX4_span_118 rfl (lv_at hl 2 rfl) ?_
                refine n_iconst hx hb dX4_span_119 ?_
                refine n_icmp_eq (tgt := 129) hx hb (r32 (by omega)) (r32 (by omega)) dX4_span_120 (by decide) (fun c_120 => ?_) (fun c_120 => ?_)
                · -- 120T
                  refine lv_iload hx hb dX4_span_129 (lv_at hl 4 rfl) ?_
                  refine lv_istore hx hb dX4_span_131 hl (Nat.le_of_ble_eq_true rfl) (lv' := [(4, .int (iI i)), (1, .int (iI n_)), (2, .int (iI u_)), (3, .int (iI w_)), (5, .int (iI i)), (6, .long (lI (loS n_ i u_ (n_ + 1).toNat))), (8, .long (lI (hiS n_ i u_ (n_ + 1).toNat))), (10, .int (iI (n_ + 1)))]) rfl (fun ls hl => ?_)
                  refine n_iinc hx hb dX4_span_133 hl (k := 4) rfl (Nat.le_of_ble_eq_true rfl) (lv' := [(5, .int (iI (i + 1))), (4, .int (iI i)), (1, .int (iI n_)), (2, .int (iI u_)), (3, .int (iI w_)), (6, .long (lI (loS n_ i u_ (n_ + 1).toNat))), (8, .long (lI (hiS n_ i u_ (n_ + 1).toNat))), (10, .int (iI (n_ + 1)))]) rfl (fun ls hl => ?_)
                  refine lv_goto (tgt := 36) hx hb dX4_span_136 (by decide) ?_
                  have hl : lv_has ls 13 [(1, .int (iI n_)), (2, .int (iI u_)), (3, .int (iI w_)), (4, .int (iI i)), (5, .int (iI (i + 1)))] := lv_sub hl [2, 3, 4, 1, 0] rfl
                  have hl : lv_has ls 13 [(1, .int (iI n_)), (2, .int (iI u_)), (3, .int (iI w_)), (4, .int (iI (spanN n_ u_ w_ (i + 1).toNat))), (5, .int (iI (i + 1)))] := by rw [show spanN n_ u_ w_ (i + 1).toNat = i from (by rw [show (i + 1).toNat = i.toNat + 1 by omega, spanN, Int.toNat_of_nonneg hi0, if_pos ⟨c_106, c_115, by omega⟩])]; exact hl
                  refine ih_36 (i + 1) ?_ ?_ ?_ ?_ _ _ _ hH hl
                  · omega
                  · omega
                  · omega
                  · omega
                · -- 120F
                  refine lv_iload hx hb dX4_span_123 (lv_at hl 3 rfl) ?_
                  refine n_iconst hx hb dX4_span_125 ?_
                  refine n_icmp_ne (tgt := 133) hx hb (r32 (by omega)) (r32 (by omega)) dX4_span_126 (by decide) (fun c_126 => ?_) (fun c_126 => ?_)
                  · -- 126T
                    refine n_iinc hx hb dX4_span_133 hl (k := 4) rfl (Nat.le_of_ble_eq_true rfl) (lv' := [(5, .int (iI (i + 1))), (1, .int (iI n_)), (2, .int (iI u_)), (3, .int (iI w_)), (4, .int (iI (spanN n_ u_ w_ i.toNat))), (6, .long (lI (loS n_ i u_ (n_ + 1).toNat))), (8, .long (lI (hiS n_ i u_ (n_ + 1).toNat))), (10, .int (iI (n_ + 1)))]) rfl (fun ls hl => ?_)
                    refine lv_goto (tgt := 36) hx hb dX4_span_136 (by decide) ?_
                    have hl : lv_has ls 13 [(1, .int (iI n_)), (2, .int (iI u_)), (3, .int (iI w_)), (4, .int (iI (spanN n_ u_ w_ i.toNat))), (5, .int (iI (i + 1)))] := lv_sub hl [1, 2, 3, 4, 0] rfl
                    have hl : lv_has ls 13 [(1, .int (iI n_)), (2, .int (iI u_)), (3, .int (iI w_)), (4, .int (iI (spanN n_ u_ w_ (i + 1).toNat))), (5, .int (iI (i + 1)))] := by rw [show spanN n_ u_ w_ (i + 1).toNat = spanN n_ u_ w_ i.toNat from (by rw [show (i + 1).toNat = i.toNat + 1 by omega, spanN, Int.toNat_of_nonneg hi0, if_neg (fun h => by first | exact c_106 h.1 | exact c_115 h.2.1 | omega)])]; exact hl
                    refine ih_36 (i + 1) ?_ ?_ ?_ ?_ _ _ _ hH hl
                    · omega
                    · omega
                    · omega
                    · omega
                  · -- 126F
                    refine lv_iload hx hb dX4_span_129 (lv_at hl 4 rfl) ?_
                    refine lv_istore hx hb dX4_span_131 hl (Nat.le_of_ble_eq_true rfl) (lv' := [(4, .int (iI i)), (1, .int (iI n_)), (2, .int (iI u_)), (3, .int (iI w_)), (5, .int (iI i)), (6, .long (lI (loS n_ i u_ (n_ + 1).toNat))), (8, .long (lI (hiS n_ i u_ (n_ + 1).toNat))), (10, .int (iI (n_ + 1)))]) rfl (fun ls hl => ?_)
                    refine n_iinc hx hb dX4_span_133 hl (k := 4) rfl (Nat.le_of_ble_eq_true rfl) (lv' := [(5, .int (iI (i + 1))), (4, .int (iI i)), (1, .int (iI n_)), (2, .int (iI u_)), (3, .int (iI w_)), (6, .long (lI (loS n_ i u_ (n_ + 1).toNat))), (8, .long (lI (hiS n_ i u_ (n_ + 1).toNat))), (10, .int (iI (n_ + 1)))]) rfl (fun ls hl => ?_)
                    refine lv_goto (tgt := 36) hx hb dX4_span_136 (by decide) ?_
                    have hl : lv_has ls 13 [(1, .int (iI n_)), (2, .int (iI u_)), (3, .int (iI w_)), (4, .int (iI i)), (5, .int (iI (i + 1)))] := lv_sub hl [2, 3, 4, 1, 0] rfl
                    have hl : lv_has ls 13 [(1, .int (iI n_)), (2, .int (iI u_)), (3, .int (iI w_)), (4, .int (iI (spanN n_ u_ w_ (i + 1).toNat))), (5, .int (iI (i + 1)))] := by rw [show spanN n_ u_ w_ (i + 1).toNat = i from (by rw [show (i + 1).toNat = i.toNat + 1 by omega, spanN, Int.toNat_of_nonneg hi0, if_pos ⟨c_106, c_115, by omega⟩])]; exact hl
                    refine ih_36 (i + 1) ?_ ?_ ?_ ?_ _ _ _ hH hl
                    · omega
                    · omega
                    · omega
                    · omega
          · -- 55F
            have hj1 := j3_r (n := n_) (t := i) (by omega) (by omega) (by omega) hk0 (by omega)
            refine lv_iload_n hx hb dX4_span_58 rfl (lv_at hl 0 rfl) ?_
            refine lv_iload hx hb dX4_span_59 (lv_at hl 7 rfl) ?_
            refine lv_iload hx hb dX4_span_61 (lv_at hl 4 rfl) ?_
            refine m_calllF (m_runS (As := [.int (iI n_), .int (iI k), .int (iI i)]) (rest := []) S hH hK hj hl.1 (mm_just l G σ n_ k i _ (by omega) (by omega) (by omega) (by omega) (by omega)) (lw_S q1957 q1958 q109 q1959) kd_X4_just rfl rfl dX4_span_63) hH hA (fun H locs hH => ?_)
            refine lv_lstore hx hb dX4_span_66 hl (Nat.le_of_ble_eq_true rfl) (lv' := [(11, .long (lI (j3 n_ k i))), (1, .int (iI n_)), (2, .int (iI u_)), (3, .int (iI w_)), (4, .int (iI (spanN n_ u_ w_ i.toNat))), (5, .int (iI i)), (6, .long (lI (loS n_ i u_ k.toNat))), (8, .long (lI (hiS n_ i u_ k.toNat))), (10, .int (iI k))]) rfl (fun ls hl => ?_)
            refine lv_iload hx hb dX4_span_68 (lv_at hl 8 rfl) ?_
            refine lv_iload_n hx hb dX4_span_70 rfl (lv_at hl 2 rfl) ?_
            refine n_icmp_gt (tgt := 81) hx hb (r32 (by omega)) (r32 (by omega)) dX4_span_71 (by decide) (fun c_71 => ?_) (fun c_71 => ?_)
            · -- 71T
              refine lv_iload hx hb dX4_span_81 (lv_at hl 8 rfl) ?_
              refine lv_iload_n hx hb dX4_span_83 rfl (lv_at hl 2 rfl) ?_
              refine n_icmp_lt (tgt := 94) hx hb (r32 (by omega)) (r32 (by omega)) dX4_span_84 (by decide) (fun c_84 => ?_) (fun c_84 => ?_)
              · -- 84T
                refine n_iinc hx hb dX4_span_94 hl (k := 8) rfl (Nat.le_of_ble_eq_true rfl) (lv' := [(10, .int (iI (k + 1))), (11, .long (lI (j3 n_ k i))), (1, .int (iI n_)), (2, .int (iI u_)), (3, .int (iI w_)), (4, .int (iI (spanN n_ u_ w_ i.toNat))), (5, .int (iI i)), (6, .long (lI (loS n_ i u_ k.toNat))), (8, .long (lI (hiS n_ i u_ k.toNat)))]) rfl (fun ls hl => ?_)
                refine lv_goto (tgt := 52) hx hb dX4_span_97 (by decide) ?_
                have hl : lv_has ls 13 [(1, .int (iI n_)), (2, .int (iI u_)), (3, .int (iI w_)), (4, .int (iI (spanN n_ u_ w_ i.toNat))), (5, .int (iI i)), (6, .long (lI (loS n_ i u_ k.toNat))), (8, .long (lI (hiS n_ i u_ k.toNat))), (10, .int (iI (k + 1)))] := lv_sub hl [2, 3, 4, 5, 6, 7, 8, 0] rfl
                have hl : lv_has ls 13 [(1, .int (iI n_)), (2, .int (iI u_)), (3, .int (iI w_)), (4, .int (iI (spanN n_ u_ w_ i.toNat))), (5, .int (iI i)), (6, .long (lI (loS n_ i u_ (k + 1).toNat))), (8, .long (lI (hiS n_ i u_ (k + 1).toNat))), (10, .int (iI (k + 1)))] := by rw [show (k + 1).toNat = k.toNat + 1 by omega, loS, hiS, Int.toNat_of_nonneg hk0]; first | rw [if_pos (by omega), if_pos (by omega)]; exact hl | rw [if_pos (by omega), if_neg (by omega)]; exact hl | rw [if_neg (by omega), if_pos (by omega)]; exact hl | rw [if_neg (by omega), if_neg (by omega)]; exact hl
                refine ih_52 (k + 1) ?_ ?_ ?_ ?_ _ _ _ hH hl
                · omega
                · omega
                · omega
                · omega
              · -- 84F
                refine lv_lload hx hb dX4_span_87 (lv_at hl 7 rfl) ?_
                refine lv_lload hx hb dX4_span_89 (lv_at hl 0 rfl) ?_
                refine n_ladd hx hb dX4_span_91 ?_
                refine lv_lstore hx hb dX4_span_92 hl (Nat.le_of_ble_eq_true rfl) (lv' := [(8, .long (lI ((hiS n_ i u_ k.toNat) + (j3 n_ k i)))), (11, .long (lI (j3 n_ k i))), (1, .int (iI n_)), (2, .int (iI u_)), (3, .int (iI w_)), (4, .int (iI (spanN n_ u_ w_ i.toNat))), (5, .int (iI i)), (6, .long (lI (loS n_ i u_ k.toNat))), (10, .int (iI k))]) rfl (fun ls hl => ?_)
                refine n_iinc hx hb dX4_span_94 hl (k := 8) rfl (Nat.le_of_ble_eq_true rfl) (lv' := [(10, .int (iI (k + 1))), (8, .long (lI ((hiS n_ i u_ k.toNat) + (j3 n_ k i)))), (11, .long (lI (j3 n_ k i))), (1, .int (iI n_)), (2, .int (iI u_)), (3, .int (iI w_)), (4, .int (iI (spanN n_ u_ w_ i.toNat))), (5, .int (iI i)), (6, .long (lI (loS n_ i u_ k.toNat)))]) rfl (fun ls hl => ?_)
                refine lv_goto (tgt := 52) hx hb dX4_span_97 (by decide) ?_
                have hl : lv_has ls 13 [(1, .int (iI n_)), (2, .int (iI u_)), (3, .int (iI w_)), (4, .int (iI (spanN n_ u_ w_ i.toNat))), (5, .int (iI i)), (6, .long (lI (loS n_ i u_ k.toNat))), (8, .long (lI ((hiS n_ i u_ k.toNat) + (j3 n_ k i)))), (10, .int (iI (k + 1)))] := lv_sub hl [3, 4, 5, 6, 7, 8, 1, 0] rfl
                have hl : lv_has ls 13 [(1, .int (iI n_)), (2, .int (iI u_)), (3, .int (iI w_)), (4, .int (iI (spanN n_ u_ w_ i.toNat))), (5, .int (iI i)), (6, .long (lI (loS n_ i u_ (k + 1).toNat))), (8, .long (lI (hiS n_ i u_ (k + 1).toNat))), (10, .int (iI (k + 1)))] := by rw [show (k + 1).toNat = k.toNat + 1 by omega, loS, hiS, Int.toNat_of_nonneg hk0]; first | rw [if_pos (by omega), if_pos (by omega)]; exact hl | rw [if_pos (by omega), if_neg (by omega)]; exact hl | rw [if_neg (by omega), if_pos (by omega)]; exact hl | rw [if_neg (by omega), if_neg (by omega)]; exact hl
                refine ih_52 (k + 1) ?_ ?_ ?_ ?_ _ _ _ hH hl
                · omega
                · omega
                · omega
                · omega
            · -- 71F
              refine lv_lload hx hb dX4_span_74 (lv_at hl 6 rfl) ?_
              refine lv_lload hx hb dX4_span_76 (lv_at hl 0 rfl) ?_
              refine n_ladd hx hb dX4_span_78 ?_
              refine lv_lstore hx hb dX4_span_79 hl (Nat.le_of_ble_eq_true rfl) (lv' := [(6, .long (lI ((loS n_ i u_ k.toNat) + (j3 n_ k i)))), (11, .long (lI (j3 n_ k i))), (1, .int (iI n_)), (2, .int (iI u_)), (3, .int (iI w_)), (4, .int (iI (spanN n_ u_ w_ i.toNat))), (5, .int (iI i)), (8, .long (lI (hiS n_ i u_ k.toNat))), (10, .int (iI k))]) rfl (fun ls hl => ?_)
              refine lv_iload hx hb dX4_span_81 (lv_at hl 8 rfl) ?_
              refine lv_iload_n hx hb dX4_span_83 rfl (lv_at hl 3 rfl) ?_
              refine n_icmp_lt (tgt := 94) hx hb (r32 (by omega)) (r32 (by omega)) dX4_span_84 (by decide) (fun c_84 => ?_) (fun c_84 => ?_)
              · -- 84T
                refine n_iinc hx hb dX4_span_94 hl (k := 8) rfl (Nat.le_of_ble_eq_true rfl) (lv' := [(10, .int (iI (k + 1))), (6, .long (lI ((loS n_ i u_ k.toNat) + (j3 n_ k i)))), (11, .long (lI (j3 n_ k i))), (1, .int (iI n_)), (2, .int (iI u_)), (3, .int (iI w_)), (4, .int (iI (spanN n_ u_ w_ i.toNat))), (5, .int (iI i)), (8, .long (lI (hiS n_ i u_ k.toNat)))]) rfl (fun ls hl => ?_)
                refine lv_goto (tgt := 52) hx hb dX4_span_97 (by decide) ?_
                have hl : lv_has ls 13 [(1, .int (iI n_)), (2, .int (iI u_)), (3, .int (iI w_)), (4, .int (iI (spanN n_ u_ w_ i.toNat))), (5, .int (iI i)), (6, .long (lI ((loS n_ i u_ k.toNat) + (j3 n_ k i)))), (8, .long (lI (hiS n_ i u_ k.toNat))), (10, .int (iI (k + 1)))] := lv_sub hl [3, 4, 5, 6, 7, 1, 8, 0] rfl
                have hl : lv_has ls 13 [(1, .int (iI n_)), (2, .int (iI u_)), (3, .int (iI w_)), (4, .int (iI (spanN n_ u_ w_ i.toNat))), (5, .int (iI i)), (6, .long (lI (loS n_ i u_ (k + 1).toNat))), (8, .long (lI (hiS n_ i u_ (k + 1).toNat))), (10, .int (iI (k + 1)))] := by rw [show (k + 1).toNat = k.toNat + 1 by omega, loS, hiS, Int.toNat_of_nonneg hk0]; first | rw [if_pos (by omega), if_pos (by omega)]; exact hl | rw [if_pos (by omega), if_neg (by omega)]; exact hl | rw [if_neg (by omega), if_pos (by omega)]; exact hl | rw [if_neg (by omega), if_neg (by omega)]; exact hl
                refine ih_52 (k + 1) ?_ ?_ ?_ ?_ _ _ _ hH hl
                · omega
                · omega
                · omega
                · omega
              · -- 84F
                refine lv_lload hx hb dX4_span_87 (lv_at hl 7 rfl) ?_
                refine lv_lload hx hb dX4_span_89 (lv_at hl 1 rfl) ?_
                refine n_ladd hx hb dX4_span_91 ?_
                refine lv_lstore hx hb dX4_span_92 hl (Nat.le_of_ble_eq_true rfl) (lv' := [(8, .long (lI ((hiS n_ i u_ k.toNat) + (j3 n_ k i)))), (6, .long (lI ((loS n_ i u_ k.toNat) + (j3 n_ k i)))), (11, .long (lI (j3 n_ k i))), (1, .int (iI n_)), (2, .int (iI u_)), (3, .int (iI w_)), (4, .int (iI (spanN n_ u_ w_ i.toNat))), (5, .int (iI i)), (10, .int (iI k))]) rfl (fun ls hl => ?_)
                refine n_iinc hx hb dX4_span_94 hl (k := 8) rfl (Nat.le_of_ble_eq_true rfl) (lv' := [(10, .int (iI (k + 1))), (8, .long (lI ((hiS n_ i u_ k.toNat) + (j3 n_ k i)))), (6, .long (lI ((loS n_ i u_ k.toNat) + (j3 n_ k i)))), (11, .long (lI (j3 n_ k i))), (1, .int (iI n_)), (2, .int (iI u_)), (3, .int (iI w_)), (4, .int (iI (spanN n_ u_ w_ i.toNat))), (5, .int (iI i))]) rfl (fun ls hl => ?_)
                refine lv_goto (tgt := 52) hx hb dX4_span_97 (by decide) ?_
                have hl : lv_has ls 13 [(1, .int (iI n_)), (2, .int (iI u_)), (3, .int (iI w_)), (4, .int (iI (spanN n_ u_ w_ i.toNat))), (5, .int (iI i)), (6, .long (lI ((loS n_ i u_ k.toNat) + (j3 n_ k i)))), (8, .long (lI ((hiS n_ i u_ k.toNat) + (j3 n_ k i)))), (10, .int (iI (k + 1)))] := lv_sub hl [4, 5, 6, 7, 8, 2, 1, 0] rfl
                have hl : lv_has ls 13 [(1, .int (iI n_)), (2, .int (iI u_)), (3, .int (iI w_)), (4, .int (iI (spanN n_ u_ w_ i.toNat))), (5, .int (iI i)), (6, .long (lI (loS n_ i u_ (k + 1).toNat))), (8, .long (lI (hiS n_ i u_ (k + 1).toNat))), (10, .int (iI (k + 1)))] := by rw [show (k + 1).toNat = k.toNat + 1 by omega, loS, hiS, Int.toNat_of_nonneg hk0]; first | rw [if_pos (by omega), if_pos (by omega)]; exact hl | rw [if_pos (by omega), if_neg (by omega)]; exact hl | rw [if_neg (by omega), if_pos (by omega)]; exact hl | rw [if_neg (by omega), if_neg (by omega)]; exact hl
                refine ih_52 (k + 1) ?_ ?_ ?_ ?_ _ _ _ hH hl
                · omega
                · omega
                · omega
                · omega
      refine lv_iload hx hb dX4_span_36 (lv_at hl 4 rfl) ?_
      refine n_bipush (z := 10) hx hb dX4_span_38 (by decide) ?_
      refine n_icmp_gt (tgt := 139) hx hb (r32 (by omega)) (r32 (by omega)) dX4_span_40 (by decide) (fun c_40 => ?_) (fun c_40 => ?_)
      · -- 40T
        refine lv_iload hx hb dX4_span_139 (lv_at hl 3 rfl) ?_
        refine m_iret hx hb hr hlk hH dX4_span_141 ?_
        exact ⟨by rw [spanF, if_pos hg, show i.toNat = 11 by omega], rfl⟩
      · -- 40F
        refine n_lconst (z := 0) hx hb dX4_span_43 (by decide) ?_
        refine lv_lstore hx hb dX4_span_44 hl (Nat.le_of_ble_eq_true rfl) (lv' := [(6, .long (lI 0)), (1, .int (iI n_)), (2, .int (iI u_)), (3, .int (iI w_)), (4, .int (iI (spanN n_ u_ w_ i.toNat))), (5, .int (iI i))]) rfl (fun ls hl => ?_)
        refine n_lconst (z := 0) hx hb dX4_span_46 (by decide) ?_
        refine lv_lstore hx hb dX4_span_47 hl (Nat.le_of_ble_eq_true rfl) (lv' := [(8, .long (lI 0)), (6, .long (lI 0)), (1, .int (iI n_)), (2, .int (iI u_)), (3, .int (iI w_)), (4, .int (iI (spanN n_ u_ w_ i.toNat))), (5, .int (iI i))]) rfl (fun ls hl => ?_)
        refine n_iconst hx hb dX4_span_49 ?_
        refine lv_istore hx hb dX4_span_50 hl (Nat.le_of_ble_eq_true rfl) (lv' := [(10, .int (iI 0)), (8, .long (lI 0)), (6, .long (lI 0)), (1, .int (iI n_)), (2, .int (iI u_)), (3, .int (iI w_)), (4, .int (iI (spanN n_ u_ w_ i.toNat))), (5, .int (iI i))]) rfl (fun ls hl => ?_)
        have hl : lv_has ls 13 [(1, .int (iI n_)), (2, .int (iI u_)), (3, .int (iI w_)), (4, .int (iI (spanN n_ u_ w_ i.toNat))), (5, .int (iI i)), (6, .long (lI 0)), (8, .long (lI 0)), (10, .int (iI 0))] := lv_sub hl [3, 4, 5, 6, 7, 2, 1, 0] rfl
        have hl : lv_has ls 13 [(1, .int (iI n_)), (2, .int (iI u_)), (3, .int (iI w_)), (4, .int (iI (spanN n_ u_ w_ i.toNat))), (5, .int (iI i)), (6, .long (lI (loS n_ i u_ (0 : Int).toNat))), (8, .long (lI (hiS n_ i u_ (0 : Int).toNat))), (10, .int (iI 0))] := by exact hl
        refine L52 30 0 ?_ ?_ ?_ ?_ _ _ _ hH hl
        · omega
        · omega
        · omega
        · omega
  refine lv_iload_n hx hb dX4_span_0 rfl (lv_at hl 1 rfl) ?_
  refine n_iconst hx hb dX4_span_1 ?_
  refine n_bipush (z := 18) hx hb dX4_span_2 (by decide) ?_
  refine m_calliF (m_runS (As := [.int (iI n_), .int (iI 1), .int (iI 18)]) (rest := []) S hH hK hj hl.1 (mm_in l G σ n_ 1 18 _ (r32 (by omega)) (r32 (by omega)) (r32 (by omega))) (lw_S q1569 q1570 q109 q1571) kd_X4_in rfl rfl dX4_span_4) hH hA (fun H locs hH => ?_)
  refine z_if_eq (tgt := 28) hx hb dX4_span_7 (by decide) (fun c_7 => ?_) (fun c_7 => ?_)
  · -- 7T
    refine n_iconst hx hb dX4_span_28 ?_
    refine m_iret hx hb hr hlk hH dX4_span_29 ?_
    exact ⟨(if_neg (by omega)).symm, rfl⟩
  · -- 7F
    refine lv_iload_n hx hb dX4_span_10 rfl (lv_at hl 2 rfl) ?_
    refine n_iconst hx hb dX4_span_11 ?_
    refine lv_iload_n hx hb dX4_span_12 rfl (lv_at hl 1 rfl) ?_
    refine m_calliF (m_runS (As := [.int (iI u_), .int (iI 0), .int (iI n_)]) (rest := []) S hH hK hj hl.1 (mm_in l G σ u_ 0 n_ _ (r32 (by omega)) (r32 (by omega)) (r32 (by omega))) (lw_S q1569 q1570 q109 q1571) kd_X4_in rfl rfl dX4_span_13) hH hA (fun H locs hH => ?_)
    refine z_if_eq (tgt := 28) hx hb dX4_span_16 (by decide) (fun c_16 => ?_) (fun c_16 => ?_)
    · -- 16T
      refine n_iconst hx hb dX4_span_28 ?_
      refine m_iret hx hb hr hlk hH dX4_span_29 ?_
      exact ⟨(if_neg (by omega)).symm, rfl⟩
    · -- 16F
      refine lv_iload_n hx hb dX4_span_19 rfl (lv_at hl 3 rfl) ?_
      refine n_iconst hx hb dX4_span_20 ?_
      refine n_iconst hx hb dX4_span_21 ?_
      refine m_calliF (m_runS (As := [.int (iI w_), .int (iI 0), .int (iI 1)]) (rest := []) S hH hK hj hl.1 (mm_in l G σ w_ 0 1 _ (r32 (by omega)) (r32 (by omega)) (r32 (by omega))) (lw_S q1569 q1570 q109 q1571) kd_X4_in rfl rfl dX4_span_22) hH hA (fun H locs hH => ?_)
      refine z_if_ne (tgt := 30) hx hb dX4_span_25 (by decide) (fun c_25 => ?_) (fun c_25 => ?_)
      · -- 25T
        refine n_iconst hx hb dX4_span_30 ?_
        refine lv_istore hx hb dX4_span_31 hl (Nat.le_of_ble_eq_true rfl) (lv' := [(4, .int (iI (-1))), (0, .ref (G.2.2 0)), (1, .int (iI n_)), (2, .int (iI u_)), (3, .int (iI w_))]) rfl (fun ls hl => ?_)
        refine n_iconst hx hb dX4_span_33 ?_
        refine lv_istore hx hb dX4_span_34 hl (Nat.le_of_ble_eq_true rfl) (lv' := [(5, .int (iI 0)), (4, .int (iI (-1))), (0, .ref (G.2.2 0)), (1, .int (iI n_)), (2, .int (iI u_)), (3, .int (iI w_))]) rfl (fun ls hl => ?_)
        have hl : lv_has ls 13 [(1, .int (iI n_)), (2, .int (iI u_)), (3, .int (iI w_)), (4, .int (iI (-1))), (5, .int (iI 0))] := lv_sub hl [3, 4, 5, 1, 0] rfl
        have hl : lv_has ls 13 [(1, .int (iI n_)), (2, .int (iI u_)), (3, .int (iI w_)), (4, .int (iI (spanN n_ u_ w_ (0 : Int).toNat))), (5, .int (iI 0))] := by exact hl
        refine L36 30 0 ?_ ?_ ?_ ?_ _ _ _ hH hl
        · omega
        · omega
        · omega
        · omega
      · -- 25F
        refine n_iconst hx hb dX4_span_28 ?_
        refine m_iret hx hb hr hlk hH dX4_span_29 ?_
        exact ⟨(if_neg (by omega)).symm, rfl⟩
