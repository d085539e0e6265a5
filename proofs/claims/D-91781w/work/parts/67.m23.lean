theorem kd_X4_common : yX4_common.cls = RX4 ∧ yX4_common.cls ≠ "java/lang/invoke/MethodHandle" ∧ yX4_common.cls ≠ "java/lang/invoke/VarHandle" ∧ (parseMethodDescriptor yX4_common.desc).map (fun d => d.parameters.length) = some 2 := by decide +kernel
theorem mm_common (l : Launch) (G : MG) (σ : St) (a_ : Int) (b_ : Int) (sz : Nat) (h0 : 0 ≤ a_) (h1 : 0 ≤ b_) (h2 : a_ < 9223372036854775808) (h3 : b_ < 9223372036854775808) : Met l yX4_common (ws_ yX4_common cX4_common 10 (some .long)) (rmD 1) (mP G [.long (lI a_), .long (lI b_)] σ sz) (mQl G σ sz (fun z σ' => z = ((Nat.gcd a_.toNat b_.toNat : Nat) : Int) ∧ σ' = σ)) 0 0 (mA G σ sz) := by
  refine m_start (by decide) (Nat.le_of_ble_eq_true rfl) ?_
  intro p e s m below meth c ⟨S, hr, hlk, hH, hK, hj, hsz, hnm⟩ ls hl
  subst hsz
  obtain ⟨hx, hb, hml, hown, hts⟩ := S
  have S : CallFix p m c _ _ s _ lw_all RX4 := ⟨hx, hb, hml, hown, hts⟩
  have hA : ∀ q, s.heap.size ≤ q → mA G σ s.heap.size q := fun q hq => Or.inr hq
  have hl : lv_has ls 10 [(0, .long (lI a_)), (2, .long (lI b_))] := hl
  have L6 : ∀ (q : Nat) (x : Int) (y : Int), (hx0 : 0 ≤ x) → (hy0 : 0 ≤ y) → (hx1 : x < 9223372036854775808) → (hy1 : y < 9223372036854775808) → (hg : Nat.gcd x.toNat y.toNat = Nat.gcd a_.toNat b_.toNat) → (hk : y < (q : Int)) → ∀ (H : Heap) (locs : List Loc) (ls : Array Slot), MH G (mA G σ s.heap.size) σ s.heap H locs → lv_has ls 10 [(4, .long (lI x)), (6, .long (lI y))] → W p l e (rmD 1) s m ([.long (lI a_), .long (lI b_)] : List Value).toArray below meth c H locs 0 0 (MQ below (mQl G σ s.heap.size (fun z σ' => z = ((Nat.gcd a_.toNat b_.toNat : Nat) : Int) ∧ σ' = σ)) ([.long (lI a_), .long (lI b_)] : List Value).toArray s 0 0 (mA G σ s.heap.size)) (F0 m 6 ls []) := by
    intro q
    induction q with
    | zero => intro x y hx0 hy0 hx1 hy1 hg hk; exfalso; omega
    | succ q ih_6 =>
      intro x y hx0 hy0 hx1 hy1 hg hk H locs ls hH hl
      refine lv_lload hx hb dX4_common_6 (lv_at hl 1 rfl) ?_
      refine n_lconst (z := 0) hx hb dX4_common_8 (by decide) ?_
      refine n_lcmp_eq (tgt := 31) hx hb (r64 (by omega)) (r64 (by omega)) dX4_common_9 dX4_common_10 (by decide) (fun c_9 => ?_) (fun c_9 => ?_)
      · -- 9T
        refine lv_lload hx hb dX4_common_31 (lv_at hl 0 rfl) ?_
        refine m_lret hx hb hr hlk hH dX4_common_33 ?_
        exact ⟨gcd_en hx0 c_9 hg, rfl⟩
      · -- 9F
        have hy2 : 0 < y := by omega
        have hm1 := tmod_nn hx0 hy2
        have hm2 := tmod_lt hx0 hy2
        refine lv_lload hx hb dX4_common_13 (lv_at hl 0 rfl) ?_
        refine lv_lload hx hb dX4_common_15 (lv_at hl 1 rfl) ?_
        refine n_lrem hx hb (by omega) (r64 (by omega)) (r64 (by omega)) (tdiv_r hx0 hx1 hy2) dX4_common_17 ?_
        refine lv_lstore hx hb dX4_common_18 hl (Nat.le_of_ble_eq_true rfl) (lv' := [(8, .long (lI (Int.tmod x y))), (4, .long (lI x)), (6, .long (lI y))]) rfl (fun ls hl => ?_)
        refine lv_lload hx hb dX4_common_20 (lv_at hl 2 rfl) ?_
        refine lv_lstore hx hb dX4_common_22 hl (Nat.le_of_ble_eq_true rfl) (lv' := [(4, .long (lI y)), (8, .long (lI (Int.tmod x y))), (6, .long (lI y))]) rfl (fun ls hl => ?_)
        refine lv_lload hx hb dX4_common_24 (lv_at hl 1 rfl) ?_
        refine lv_lstore hx hb dX4_common_26 hl (Nat.le_of_ble_eq_true rfl) (lv' := [(6, .long (lI (Int.tmod x y))), (4, .long (lI y)), (8, .long (lI (Int.tmod x y)))]) rfl (fun ls hl => ?_)
        refine lv_goto (tgt := 6) hx hb dX4_common_28 (by decide) ?_
        have hl : lv_has ls 10 [(4, .long (lI y)), (6, .long (lI (Int.tmod x y)))] := lv_sub hl [1, 0] rfl
        refine ih_6 y (Int.tmod x y) ?_ ?_ ?_ ?_ ?_ ?_ _ _ _ hH hl
        · omega
        · omega
        · omega
        · omega
        · exact gcd_st hx0 hy0 hg
        · omega
  refine lv_lload_n hx hb dX4_common_0 rfl (lv_at hl 0 rfl) ?_
  refine lv_lstore hx hb dX4_common_1 hl (Nat.le_of_ble_eq_true rfl) (lv' := [(4, .long (lI a_)), (0, .long (lI a_)), (2, .long (lI b_))]) rfl (fun ls hl => ?_)
  refine lv_lload_n hx hb dX4_common_3 rfl (lv_at hl 2 rfl) ?_
  refine lv_lstore hx hb dX4_common_4 hl (Nat.le_of_ble_eq_true rfl) (lv' := [(6, .long (lI b_)), (4, .long (lI a_)), (0, .long (lI a_)), (2, .long (lI b_))]) rfl (fun ls hl => ?_)
  have hl : lv_has ls 10 [(4, .long (lI a_)), (6, .long (lI b_))] := lv_sub hl [1, 0] rfl
  refine L6 (b_.toNat + 1) a_ b_ ?_ ?_ ?_ ?_ ?_ ?_ _ _ _ hH hl
  · omega
  · omega
  · omega
  · omega
  · rfl
  · omega
theorem kd_X4_part : yX4_part.cls = RX4 ∧ yX4_part.cls ≠ "java/lang/invoke/MethodHandle" ∧ yX4_part.cls ≠ "java/lang/invoke/VarHandle" ∧ (parseMethodDescriptor yX4_part.desc).map (fun d => d.parameters.length) = some 3 := by decide +kernel
theorem mm_part (l : Launch) (G : MG) (σ : St) (a_ : Int) (b_ : Int) (w_ : Int) (sz : Nat) (h0 : 0 ≤ a_) (h1 : 0 < b_) (h2 : a_ < 9223372036854775808) (h3 : b_ < 9223372036854775808) (h4 : R32 w_) : Met l yX4_part (ws_ yX4_part cX4_part 7 (some .long)) (rmD 2) (mP G [.long (lI a_), .long (lI b_), .int (iI w_)] σ sz) (mQl G σ sz (fun z σ' => z = (shareF a_ b_ w_) ∧ σ' = σ)) 0 0 (mA G σ sz) := by
  refine m_start (by decide) (Nat.le_of_ble_eq_true rfl) ?_
  intro p e s m below meth c ⟨S, hr, hlk, hH, hK, hj, hsz, hnm⟩ ls hl
  subst hsz
  obtain ⟨hx, hb, hml, hown, hts⟩ := S
  have S : CallFix p m c _ _ s _ lw_all RX4 := ⟨hx, hb, hml, hown, hts⟩
  have hA : ∀ q, s.heap.size ≤ q → mA G σ s.heap.size q := fun q hq => Or.inr hq
  have hl : lv_has ls 7 [(0, .long (lI a_)), (2, .long (lI b_)), (4, .int (iI w_))] := hl
  have h4 := R32.n h4
  have hgp := gcd_p (a := a_) h1
  refine lv_lload_n hx hb dX4_part_0 rfl (lv_at hl 0 rfl) ?_
  refine lv_lload_n hx hb dX4_part_1 rfl (lv_at hl 1 rfl) ?_
  refine m_calllF (m_runS (As := [.long (lI a_), .long (lI b_)]) (rest := []) S hH hK hj hl.1 (mm_common l G σ a_ b_ _ (by omega) (by omega) (by omega) (by omega)) (lw_S q1901 q1902 q109 q1903) kd_X4_common rfl rfl dX4_part_2) hH hA (fun H locs hH => ?_)
  refine lv_lstore hx hb dX4_part_5 hl (Nat.le_of_ble_eq_true rfl) (lv' := [(5, .long (lI ((Nat.gcd a_.toNat b_.toNat : Nat) : Int))), (0, .long (lI a_)), (2, .long (lI b_)), (4, .int (iI w_))]) rfl (fun ls hl => ?_)
  refine lv_iload hx hb dX4_part_7 (lv_at hl 3 rfl) ?_
  refine n_if_ne (tgt := 19) hx hb (r32 (by omega)) dX4_part_9 (by decide) (fun c_9 => ?_) (fun c_9 => ?_)
  · -- 9T
    refine lv_lload_n hx hb dX4_part_19 rfl (lv_at hl 2 rfl) ?_
    refine lv_lload hx hb dX4_part_20 (lv_at hl 0 rfl) ?_
    refine n_ldiv hx hb (by omega) (r64 (by omega)) (r64 (by omega)) (tdiv_r (by omega) (by omega) (by omega)) dX4_part_22 ?_
    refine m_lret hx hb hr hlk hH dX4_part_23 ?_
    exact ⟨(if_neg c_9).symm, rfl⟩
  · -- 9F
    refine lv_lload_n hx hb dX4_part_12 rfl (lv_at hl 1 rfl) ?_
    refine lv_lload hx hb dX4_part_13 (lv_at hl 0 rfl) ?_
    refine n_ldiv hx hb (by omega) (r64 (by omega)) (r64 (by omega)) (tdiv_r h0 (by omega) (by omega)) dX4_part_15 ?_
    refine lv_goto (tgt := 23) hx hb dX4_part_16 (by decide) ?_
    refine m_lret hx hb hr hlk hH dX4_part_23 ?_
    exact ⟨(if_pos c_9).symm, rfl⟩
