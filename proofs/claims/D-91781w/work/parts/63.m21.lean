theorem kd_X4_choose : yX4_choose.cls = RX4 ∧ yX4_choose.cls ≠ "java/lang/invoke/MethodHandle" ∧ yX4_choose.cls ≠ "java/lang/invoke/VarHandle" ∧ (parseMethodDescriptor yX4_choose.desc).map (fun d => d.parameters.length) = some 2 := by decide +kernel
theorem mm_choose (l : Launch) (G : MG) (σ : St) (n_ : Int) (k_ : Int) (sz : Nat) (h0 : 0 ≤ k_) (h1 : k_ ≤ n_) (h2 : n_ ≤ 18) : Met l yX4_choose (ws_ yX4_choose cX4_choose 5 (some .long)) (rmD 1) (mP G [.int (iI n_), .int (iI k_)] σ sz) (mQl G σ sz (fun z σ' => z = (chI n_ k_ k_.toNat) ∧ σ' = σ)) 0 0 (mA G σ sz) := by
  refine m_start (by decide) (Nat.le_of_ble_eq_true rfl) ?_
  intro p e s m below meth c ⟨S, hr, hlk, hH, hK, hj, hsz, hnm⟩ ls hl
  subst hsz
  obtain ⟨hx, hb, hml, hown, hts⟩ := S
  have S : CallFix p m c _ _ s _ lw_all RX4 := ⟨hx, hb, hml, hown, hts⟩
  have hA : ∀ q, s.heap.size ≤ q → mA G σ s.heap.size q := fun q hq => Or.inr hq
  have hl : lv_has ls 5 [(0, .int (iI n_)), (1, .int (iI k_))] := hl
  have L5 : ∀ (q : Nat) (i : Int), (hi0 : 1 ≤ i) → (hi1 : i ≤ k_ + 1) → (hk : k_ + 1 < (q : Int) + i) → ∀ (H : Heap) (locs : List Loc) (ls : Array Slot), MH G (mA G σ s.heap.size) σ s.heap H locs → lv_has ls 5 [(0, .int (iI n_)), (1, .int (iI k_)), (2, .long (lI (chI n_ k_ (i - 1).toNat))), (4, .int (iI i))] → W p l e (rmD 1) s m ([.int (iI n_), .int (iI k_)] : List Value).toArray below meth c H locs 0 0 (MQ below (mQl G σ s.heap.size (fun z σ' => z = (chI n_ k_ k_.toNat) ∧ σ' = σ)) ([.int (iI n_), .int (iI k_)] : List Value).toArray s 0 0 (mA G σ s.heap.size)) (F0 m 5 ls []) := by
    intro q
    induction q with
    | zero => intro i hi0 hi1 hk; exfalso; omega
    | succ q ih_5 =>
      intro i hi0 hi1 hk H locs ls hH hl
      refine lv_iload hx hb dX4_choose_5 (lv_at hl 3 rfl) ?_
      refine lv_iload_n hx hb dX4_choose_7 rfl (lv_at hl 1 rfl) ?_
      refine n_icmp_gt (tgt := 31) hx hb (r32 (by omega)) (r32 (by omega)) dX4_choose_8 (by decide) (fun c_8 => ?_) (fun c_8 => ?_)
      · -- 8T
        refine lv_lload_n hx hb dX4_choose_31 rfl (lv_at hl 2 rfl) ?_
        refine m_lret hx hb hr hlk hH dX4_choose_32 ?_
        exact ⟨by rw [show (i - 1).toNat = k_.toNat by omega], rfl⟩
      · -- 8F
        have hb1 := chI_r (i := (i - 1).toNat) h0 h1 h2 (by omega)
        have hm := Int.mul_le_mul hb1.2 (show n_ - k_ + i ≤ 40 by omega) (by omega) (by omega)
        have hm0 := Int.mul_nonneg hb1.1 (show 0 ≤ n_ - k_ + i by omega)
        refine lv_lload_n hx hb dX4_choose_11 rfl (lv_at hl 2 rfl) ?_
        refine lv_iload_n hx hb dX4_choose_12 rfl (lv_at hl 0 rfl) ?_
        refine lv_iload_n hx hb dX4_choose_13 rfl (lv_at hl 1 rfl) ?_
        refine n_isub hx hb dX4_choose_14 ?_
        refine lv_iload hx hb dX4_choose_15 (lv_at hl 3 rfl) ?_
        refine n_iadd hx hb dX4_choose_17 ?_
        refine n_i2l hx hb (r32 (by omega)) dX4_choose_18 ?_
        refine n_lmul hx hb dX4_choose_19 ?_
        refine lv_iload hx hb dX4_choose_20 (lv_at hl 3 rfl) ?_
        refine n_i2l hx hb (r32 (by omega)) dX4_choose_22 ?_
        refine n_ldiv hx hb (by omega) (r64 (by omega)) (r64 (by omega)) (tdiv_r hm0 (by omega) (by omega)) dX4_choose_23 ?_
        refine lv_lstore_n hx hb dX4_choose_24 rfl hl (Nat.le_of_ble_eq_true rfl) (lv' := [(2, .long (lI (Int.tdiv ((chI n_ k_ (i - 1).toNat) * ((n_ - k_) + i)) i))), (0, .int (iI n_)), (1, .int (iI k_)), (4, .int (iI i))]) rfl (fun ls hl => ?_)
        refine n_iinc hx hb dX4_choose_25 hl (k := 3) rfl (Nat.le_of_ble_eq_true rfl) (lv' := [(4, .int (iI (i + 1))), (2, .long (lI (Int.tdiv ((chI n_ k_ (i - 1).toNat) * ((n_ - k_) + i)) i))), (0, .int (iI n_)), (1, .int (iI k_))]) rfl (fun ls hl => ?_)
        refine lv_goto (tgt := 5) hx hb dX4_choose_28 (by decide) ?_
        have hl : lv_has ls 5 [(0, .int (iI n_)), (1, .int (iI k_)), (2, .long (lI (Int.tdiv ((chI n_ k_ (i - 1).toNat) * ((n_ - k_) + i)) i))), (4, .int (iI (i + 1)))] := lv_sub hl [2, 3, 1, 0] rfl
        have hl : lv_has ls 5 [(0, .int (iI n_)), (1, .int (iI k_)), (2, .long (lI (chI n_ k_ (i + 1 - 1).toNat))), (4, .int (iI (i + 1)))] := by rw [show i + 1 - 1 = i by omega, chI_s (by omega)]; exact hl
        refine ih_5 (i + 1) ?_ ?_ ?_ _ _ _ hH hl
        · omega
        · omega
        · omega
  refine n_lconst (z := 1) hx hb dX4_choose_0 (by decide) ?_
  refine lv_lstore_n hx hb dX4_choose_1 rfl hl (Nat.le_of_ble_eq_true rfl) (lv' := [(2, .long (lI 1)), (0, .int (iI n_)), (1, .int (iI k_))]) rfl (fun ls hl => ?_)
  refine n_iconst hx hb dX4_choose_2 ?_
  refine lv_istore hx hb dX4_choose_3 hl (Nat.le_of_ble_eq_true rfl) (lv' := [(4, .int (iI 1)), (2, .long (lI 1)), (0, .int (iI n_)), (1, .int (iI k_))]) rfl (fun ls hl => ?_)
  have hl : lv_has ls 5 [(0, .int (iI n_)), (1, .int (iI k_)), (2, .long (lI 1)), (4, .int (iI 1))] := lv_sub hl [2, 3, 1, 0] rfl
  have hl : lv_has ls 5 [(0, .int (iI n_)), (1, .int (iI k_)), (2, .long (lI (chI n_ k_ (1 - 1 : Int).toNat))), (4, .int (iI 1))] := by exact hl
  refine L5 30 1 ?_ ?_ ?_ _ _ _ hH hl
  · omega
  · omega
  · omega
theorem kd_X4_just : yX4_just.cls = RX4 ∧ yX4_just.cls ≠ "java/lang/invoke/MethodHandle" ∧ yX4_just.cls ≠ "java/lang/invoke/VarHandle" ∧ (parseMethodDescriptor yX4_just.desc).map (fun d => d.parameters.length) = some 3 := by decide +kernel
theorem mm_just (l : Launch) (G : MG) (σ : St) (n_ : Int) (k_ : Int) (t_ : Int) (sz : Nat) (h0 : 0 ≤ k_) (h1 : k_ ≤ n_) (h2 : n_ ≤ 18) (h3 : 0 ≤ t_) (h4 : t_ ≤ 10) : Met l yX4_just (ws_ yX4_just cX4_just 3 (some .long)) (rmD 2) (mP G [.int (iI n_), .int (iI k_), .int (iI t_)] σ sz) (mQl G σ sz (fun z σ' => z = (chI n_ k_ k_.toNat * t_ ^ k_.toNat * (10 - t_) ^ (n_ - k_).toNat) ∧ σ' = σ)) 0 0 (mA G σ sz) := by
  refine m_start (by decide) (Nat.le_of_ble_eq_true rfl) ?_
  intro p e s m below meth c ⟨S, hr, hlk, hH, hK, hj, hsz, hnm⟩ ls hl
  subst hsz
  obtain ⟨hx, hb, hml, hown, hts⟩ := S
  have S : CallFix p m c _ _ s _ lw_all RX4 := ⟨hx, hb, hml, hown, hts⟩
  have hA : ∀ q, s.heap.size ≤ q → mA G σ s.heap.size q := fun q hq => Or.inr hq
  have hl : lv_has ls 3 [(0, .int (iI n_)), (1, .int (iI k_)), (2, .int (iI t_))] := hl
  refine lv_iload_n hx hb dX4_just_0 rfl (lv_at hl 0 rfl) ?_
  refine lv_iload_n hx hb dX4_just_1 rfl (lv_at hl 1 rfl) ?_
  refine m_calllF (m_runS (As := [.int (iI n_), .int (iI k_)]) (rest := []) S hH hK hj hl.1 (mm_choose l G σ n_ k_ _ (by omega) (by omega) (by omega)) (lw_S q1960 q1961 q109 q1962) kd_X4_choose rfl rfl dX4_just_2) hH hA (fun H locs hH => ?_)
  refine lv_iload_n hx hb dX4_just_5 rfl (lv_at hl 2 rfl) ?_
  refine lv_iload_n hx hb dX4_just_6 rfl (lv_at hl 1 rfl) ?_
  refine m_calllF (m_runS (As := [.int (iI t_), .int (iI k_)]) (rest := [.long (lI (chI n_ k_ k_.toNat))]) S hH hK hj hl.1 (mm_power l G σ t_ k_ _ (r32 (by omega)) (r32 (by omega))) (lw_S q1963 q1964 q109 q1965) kd_X4_power rfl rfl dX4_just_7) hH hA (fun H locs hH => ?_)
  refine n_lmul hx hb dX4_just_10 ?_
  refine n_bipush (z := 10) hx hb dX4_just_11 (by decide) ?_
  refine lv_iload_n hx hb dX4_just_13 rfl (lv_at hl 2 rfl) ?_
  refine n_isub hx hb dX4_just_14 ?_
  refine lv_iload_n hx hb dX4_just_15 rfl (lv_at hl 0 rfl) ?_
  refine lv_iload_n hx hb dX4_just_16 rfl (lv_at hl 1 rfl) ?_
  refine n_isub hx hb dX4_just_17 ?_
  refine m_calllF (m_runS (As := [.int (iI (10 - t_)), .int (iI (n_ - k_))]) (rest := [.long (lI ((chI n_ k_ k_.toNat) * (t_ ^ k_.toNat)))]) S hH hK hj hl.1 (mm_power l G σ (10 - t_) (n_ - k_) _ (r32 (by omega)) (r32 (by omega))) (lw_S q1963 q1964 q109 q1965) kd_X4_power rfl rfl dX4_just_18) hH hA (fun H locs hH => ?_)
  refine n_lmul hx hb dX4_just_21 ?_
  refine m_lret hx hb hr hlk hH dX4_just_22 ?_
  exact ⟨rfl, rfl⟩
