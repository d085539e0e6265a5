theorem kd_X4_hasAir : yX4_hasAir.cls = RX4 ∧ yX4_hasAir.cls ≠ "java/lang/invoke/MethodHandle" ∧ yX4_hasAir.cls ≠ "java/lang/invoke/VarHandle" ∧ (parseMethodDescriptor yX4_hasAir.desc).map (fun d => d.parameters.length) = some 2 := by decide +kernel
theorem mm_hasAir (l : Launch) (G : MG) (σ : St) (so : Int) (op : Int) (sz : Nat) (h_so : R32 so) (h_op : R32 op) : Met l yX4_hasAir (ws_ yX4_hasAir cX4_hasAir 2 (some .boolean)) (rmD 1) (mP G [.int (iI so), .int (iI op)] σ sz) (mQi G σ sz (fun z σ' => z = zb (airP so op) ∧ σ' = σ)) 0 0 (mA G σ sz) := by
  refine m_start (by decide) (Nat.le_of_ble_eq_true rfl) ?_
  intro p e s m below meth c ⟨S, hr, hlk, hH, hK, hj, hsz, hnm⟩ ls hl
  subst hsz
  obtain ⟨hx, hb, hml, hown, hts⟩ := S
  have S : CallFix p m c _ _ s _ lw_all RX4 := ⟨hx, hb, hml, hown, hts⟩
  have hA : ∀ q, s.heap.size ≤ q → mA G σ s.heap.size q := fun q hq => Or.inr hq
  have hl : lv_has ls 2 [(0, .int (iI so)), (1, .int (iI op))] := hl
  have h_so := R32.n h_so
  have h_op := R32.n h_op
  refine lv_iload_n hx hb dX4_hasAir_0 rfl (lv_at hl 0 rfl) ?_
  refine n_if_eq (tgt := 18) hx hb (r32 (by omega)) dX4_hasAir_1 (by decide) (fun c_1 => ?_) (fun c_1 => ?_)
  · -- 1T
    refine n_iconst hx hb dX4_hasAir_18 ?_
    refine lv_goto (tgt := 23) hx hb dX4_hasAir_19 (by decide) ?_
    refine m_zret hx hb hr hlk hH dX4_hasAir_23 (Or.inr rfl) ?_
    refine ⟨?_, rfl⟩
    first | exact (zb_t (by unfold airP; omega)).symm | exact (zb_f (by unfold airP; omega)).symm
  · -- 1F
    refine lv_iload_n hx hb dX4_hasAir_4 rfl (lv_at hl 0 rfl) ?_
    refine n_iconst hx hb dX4_hasAir_5 ?_
    refine n_icmp_eq (tgt := 18) hx hb (r32 (by omega)) (r32 (by omega)) dX4_hasAir_6 (by decide) (fun c_6 => ?_) (fun c_6 => ?_)
    · -- 6T
      refine n_iconst hx hb dX4_hasAir_18 ?_
      refine lv_goto (tgt := 23) hx hb dX4_hasAir_19 (by decide) ?_
      refine m_zret hx hb hr hlk hH dX4_hasAir_23 (Or.inr rfl) ?_
      refine ⟨?_, rfl⟩
      first | exact (zb_t (by unfold airP; omega)).symm | exact (zb_f (by unfold airP; omega)).symm
    · -- 6F
      refine lv_iload_n hx hb dX4_hasAir_9 rfl (lv_at hl 0 rfl) ?_
      refine n_iconst hx hb dX4_hasAir_10 ?_
      refine n_icmp_eq (tgt := 18) hx hb (r32 (by omega)) (r32 (by omega)) dX4_hasAir_11 (by decide) (fun c_11 => ?_) (fun c_11 => ?_)
      · -- 11T
        refine n_iconst hx hb dX4_hasAir_18 ?_
        refine lv_goto (tgt := 23) hx hb dX4_hasAir_19 (by decide) ?_
        refine m_zret hx hb hr hlk hH dX4_hasAir_23 (Or.inr rfl) ?_
        refine ⟨?_, rfl⟩
        first | exact (zb_t (by unfold airP; omega)).symm | exact (zb_f (by unfold airP; omega)).symm
      · -- 11F
        refine lv_iload_n hx hb dX4_hasAir_14 rfl (lv_at hl 1 rfl) ?_
        refine n_if_le (tgt := 22) hx hb (r32 (by omega)) dX4_hasAir_15 (by decide) (fun c_15 => ?_) (fun c_15 => ?_)
        · -- 15T
          refine n_iconst hx hb dX4_hasAir_22 ?_
          refine m_zret hx hb hr hlk hH dX4_hasAir_23 (Or.inl rfl) ?_
          refine ⟨?_, rfl⟩
          first | exact (zb_t (by unfold airP; omega)).symm | exact (zb_f (by unfold airP; omega)).symm
        · -- 15F
          refine n_iconst hx hb dX4_hasAir_18 ?_
          refine lv_goto (tgt := 23) hx hb dX4_hasAir_19 (by decide) ?_
          refine m_zret hx hb hr hlk hH dX4_hasAir_23 (Or.inr rfl) ?_
          refine ⟨?_, rfl⟩
          first | exact (zb_t (by unfold airP; omega)).symm | exact (zb_f (by unfold airP; omega)).symm
theorem kd_X4_isCase : yX4_isCase.cls = RX4 ∧ yX4_isCase.cls ≠ "java/lang/invoke/MethodHandle" ∧ yX4_isCase.cls ≠ "java/lang/invoke/VarHandle" ∧ (parseMethodDescriptor yX4_isCase.desc).map (fun d => d.parameters.length) = some 2 := by decide +kernel
theorem mm_isCase (l : Launch) (G : MG) (σ : St) (k : Int) (v : Int) (sz : Nat) (h_k : R32 k) (h_v : R32 v) : Met l yX4_isCase (ws_ yX4_isCase cX4_isCase 2 (some .boolean)) (rmD 1) (mP G [.int (iI k), .int (iI v)] σ sz) (mQi G σ sz (fun z σ' => z = zb (isCaseP k v) ∧ σ' = σ)) 0 0 (mA G σ sz) := by
  refine m_start (by decide) (Nat.le_of_ble_eq_true rfl) ?_
  intro p e s m below meth c ⟨S, hr, hlk, hH, hK, hj, hsz, hnm⟩ ls hl
  subst hsz
  obtain ⟨hx, hb, hml, hown, hts⟩ := S
  have S : CallFix p m c _ _ s _ lw_all RX4 := ⟨hx, hb, hml, hown, hts⟩
  have hA : ∀ q, s.heap.size ≤ q → mA G σ s.heap.size q := fun q hq => Or.inr hq
  have hl : lv_has ls 2 [(0, .int (iI k)), (1, .int (iI v))] := hl
  have h_k := R32.n h_k
  have h_v := R32.n h_v
  refine lv_iload_n hx hb dX4_isCase_0 rfl (lv_at hl 1 rfl) ?_
  refine lv_iload_n hx hb dX4_isCase_1 rfl (lv_at hl 0 rfl) ?_
  refine n_if_eq (tgt := 10) hx hb (r32 (by omega)) dX4_isCase_2 (by decide) (fun c_2 => ?_) (fun c_2 => ?_)
  · -- 2T
    refine n_iconst hx hb dX4_isCase_10 ?_
    refine lv_goto (tgt := 67) hx hb dX4_isCase_11 (by decide) ?_
    refine n_icmp_gt (tgt := 74) hx hb (r32 (by omega)) (r32 (by omega)) dX4_isCase_67 (by decide) (fun c_67 => ?_) (fun c_67 => ?_)
    · -- 67T
      refine n_iconst hx hb dX4_isCase_74 ?_
      refine m_zret hx hb hr hlk hH dX4_isCase_75 (Or.inl rfl) ?_
      refine ⟨?_, rfl⟩
      first | exact (zb_t (by unfold isCaseP; (repeat' split) <;> omega)).symm | exact (zb_f (by unfold isCaseP; (repeat' split) <;> omega)).symm
    · -- 67F
      refine n_iconst hx hb dX4_isCase_70 ?_
      refine lv_goto (tgt := 75) hx hb dX4_isCase_71 (by decide) ?_
      refine m_zret hx hb hr hlk hH dX4_isCase_75 (Or.inr rfl) ?_
      refine ⟨?_, rfl⟩
      first | exact (zb_t (by unfold isCaseP; (repeat' split) <;> omega)).symm | exact (zb_f (by unfold isCaseP; (repeat' split) <;> omega)).symm
  · -- 2F
    refine lv_iload_n hx hb dX4_isCase_5 rfl (lv_at hl 0 rfl) ?_
    refine n_iconst hx hb dX4_isCase_6 ?_
    refine n_icmp_ne (tgt := 14) hx hb (r32 (by omega)) (r32 (by omega)) dX4_isCase_7 (by decide) (fun c_7 => ?_) (fun c_7 => ?_)
    · -- 7T
      refine lv_iload_n hx hb dX4_isCase_14 rfl (lv_at hl 0 rfl) ?_
      refine n_iconst hx hb dX4_isCase_15 ?_
      refine n_icmp_ne (tgt := 24) hx hb (r32 (by omega)) (r32 (by omega)) dX4_isCase_16 (by decide) (fun c_16 => ?_) (fun c_16 => ?_)
      · -- 16T
        refine lv_iload_n hx hb dX4_isCase_24 rfl (lv_at hl 0 rfl) ?_
        refine n_iconst hx hb dX4_isCase_25 ?_
        refine n_icmp_ne (tgt := 34) hx hb (r32 (by omega)) (r32 (by omega)) dX4_isCase_26 (by decide) (fun c_26 => ?_) (fun c_26 => ?_)
        · -- 26T
          refine lv_iload_n hx hb dX4_isCase_34 rfl (lv_at hl 0 rfl) ?_
          refine n_bipush (z := 7) hx hb dX4_isCase_35 (by decide) ?_
          refine n_icmp_ne (tgt := 44) hx hb (r32 (by omega)) (r32 (by omega)) dX4_isCase_37 (by decide) (fun c_37 => ?_) (fun c_37 => ?_)
          · -- 37T
            refine lv_iload_n hx hb dX4_isCase_44 rfl (lv_at hl 0 rfl) ?_
            refine n_bipush (z := 8) hx hb dX4_isCase_45 (by decide) ?_
            refine n_icmp_ne (tgt := 54) hx hb (r32 (by omega)) (r32 (by omega)) dX4_isCase_47 (by decide) (fun c_47 => ?_) (fun c_47 => ?_)
            · -- 47T
              refine lv_iload_n hx hb dX4_isCase_54 rfl (lv_at hl 0 rfl) ?_
              refine n_bipush (z := 9) hx hb dX4_isCase_55 (by decide) ?_
              refine n_icmp_ne (tgt := 64) hx hb (r32 (by omega)) (r32 (by omega)) dX4_isCase_57 (by decide) (fun c_57 => ?_) (fun c_57 => ?_)
              · -- 57T
                refine n_sipush (z := 255) hx hb dX4_isCase_64 (by decide) ?_
                refine n_icmp_gt (tgt := 74) hx hb (r32 (by omega)) (r32 (by omega)) dX4_isCase_67 (by decide) (fun c_67 => ?_) (fun c_67 => ?_)
                · -- 67T
                  refine n_iconst hx hb dX4_isCase_74 ?_
                  refine m_zret hx hb hr hlk hH dX4_isCase_75 (Or.inl rfl) ?_
                  refine ⟨?_, rfl⟩
                  first | exact (zb_t (by unfold isCaseP; (repeat' split) <;> omega)).symm | exact (zb_f (by unfold isCaseP; (repeat' split) <;> omega)).symm
                · -- 67F
                  refine n_iconst hx hb dX4_isCase_70 ?_
                  refine lv_goto (tgt := 75) hx hb dX4_isCase_71 (by decide) ?_
                  refine m_zret hx hb hr hlk hH dX4_isCase_75 (Or.inr rfl) ?_
                  refine ⟨?_, rfl⟩
                  first | exact (zb_t (by unfold isCaseP; (repeat' split) <;> omega)).symm | exact (zb_f (by unfold isCaseP; (repeat' split) <;> omega)).symm
              · -- 57F
                refine n_iconst hx hb dX4_isCase_60 ?_
                refine lv_goto (tgt := 67) hx hb dX4_isCase_61 (by decide) ?_
                refine n_icmp_gt (tgt := 74) hx hb (r32 (by omega)) (r32 (by omega)) dX4_isCase_67 (by decide) (fun c_67 => ?_) (fun c_67 => ?_)
                · -- 67T
                  refine n_iconst hx hb dX4_isCase_74 ?_
                  refine m_zret hx hb hr hlk hH dX4_isCase_75 (Or.inl rfl) ?_
                  refine ⟨?_, rfl⟩
                  first | exact (zb_t (by unfold isCaseP; (repeat' split) <;> omega)).symm | exact (zb_f (by unfold isCaseP; (repeat' split) <;> omega)).symm
                · -- 67F
                  refine n_iconst hx hb dX4_isCase_70 ?_
                  refine lv_goto (tgt := 75) hx hb dX4_isCase_71 (by decide) ?_
                  refine m_zret hx hb hr hlk hH dX4_isCase_75 (Or.inr rfl) ?_
                  refine ⟨?_, rfl⟩
                  first | exact (zb_t (by unfold isCaseP; (repeat' split) <;> omega)).symm | exact (zb_f (by unfold isCaseP; (repeat' split) <;> omega)).symm
            · -- 47F
              refine n_iconst hx hb dX4_isCase_50 ?_
              refine lv_goto (tgt := 67) hx hb dX4_isCase_51 (by decide) ?_
              refine n_icmp_gt (tgt := 74) hx hb (r32 (by omega)) (r32 (by omega)) dX4_isCase_67 (by decide) (fun c_67 => ?_) (fun c_67 => ?_)
              · -- 67T
                refine n_iconst hx hb dX4_isCase_74 ?_
                refine m_zret hx hb hr hlk hH dX4_isCase_75 (Or.inl rfl) ?_
                refine ⟨?_, rfl⟩
                first | exact (zb_t (by unfold isCaseP; (repeat' split) <;> omega)).symm | exact (zb_f (by unfold isCaseP; (repeat' split) <;> omega)).symm
              · -- 67F
                refine n_iconst hx hb dX4_isCase_70 ?_
                refine lv_goto (tgt := 75) hx hb dX4_isCase_71 (by decide) ?_
                refine m_zret hx hb hr hlk hH dX4_isCase_75 (Or.inr rfl) ?_
                refine ⟨?_, rfl⟩
                first | exact (zb_t (by unfold isCaseP; (repeat' split) <;> omega)).symm | exact (zb_f (by unfold isCaseP; (repeat' split) <;> omega)).symm
          · -- 37F
            refine n_iconst hx hb dX4_isCase_40 ?_
            refine lv_goto (tgt := 67) hx hb dX4_isCase_41 (by decide) ?_
            refine n_icmp_gt (tgt := 74) hx hb (r32 (by omega)) (r32 (by omega)) dX4_isCase_67 (by decide) (fun c_67 => ?_) (fun c_67 => ?_)
            · -- 67T
              refine n_iconst hx hb dX4_isCase_74 ?_
              refine m_zret hx hb hr hlk hH dX4_isCase_75 (Or.inl rfl) ?_
              refine ⟨?_, rfl⟩
              first | exact (zb_t (by unfold isCaseP; (repeat' split) <;> omega)).symm | exact (zb_f (by unfold isCaseP; (repeat' split) <;> omega)).symm
            · -- 67F
              refine n_iconst hx hb dX4_isCase_70 ?_
              refine lv_goto (tgt := 75) hx hb dX4_isCase_71 (by decide) ?_
              refine m_zret hx hb hr hlk hH dX4_isCase_75 (Or.inr rfl) ?_
              refine ⟨?_, rfl⟩
              first | exact (zb_t (by unfold isCaseP; (repeat' split) <;> omega)).symm | exact (zb_f (by unfold isCaseP; (repeat' split) <;> omega)).symm
        · -- 26F
          refine n_bipush (z := 11) hx hb dX4_isCase_29 (by decide) ?_
          refine lv_goto (tgt := 67) hx hb dX4_isCase_31 (by decide) ?_
          refine n_icmp_gt (tgt := 74) hx hb (r32 (by omega)) (r32 (by omega)) dX4_isCase_67 (by decide) (fun c_67 => ?_) (fun c_67 => ?_)
          · -- 67T
            refine n_iconst hx hb dX4_isCase_74 ?_
            refine m_zret hx hb hr hlk hH dX4_isCase_75 (Or.inl rfl) ?_
            refine ⟨?_, rfl⟩
            first | exact (zb_t (by unfold isCaseP; (repeat' split) <;> omega)).symm | exact (zb_f (by unfold isCaseP; (repeat' split) <;> omega)).symm
          · -- 67F
            refine n_iconst hx hb dX4_isCase_70 ?_
            refine lv_goto (tgt := 75) hx hb dX4_isCase_71 (by decide) ?_
            refine m_zret hx hb hr hlk hH dX4_isCase_75 (Or.inr rfl) ?_
            refine ⟨?_, rfl⟩
            first | exact (zb_t (by unfold isCaseP; (repeat' split) <;> omega)).symm | exact (zb_f (by unfold isCaseP; (repeat' split) <;> omega)).symm
      · -- 16F
        refine n_bipush (z := 7) hx hb dX4_isCase_19 (by decide) ?_
        refine lv_goto (tgt := 67) hx hb dX4_isCase_21 (by decide) ?_
        refine n_icmp_gt (tgt := 74) hx hb (r32 (by omega)) (r32 (by omega)) dX4_isCase_67 (by decide) (fun c_67 => ?_) (fun c_67 => ?_)
        · -- 67T
          refine n_iconst hx hb dX4_isCase_74 ?_
          refine m_zret hx hb hr hlk hH dX4_isCase_75 (Or.inl rfl) ?_
          refine ⟨?_, rfl⟩
          first | exact (zb_t (by unfold isCaseP; (repeat' split) <;> omega)).symm | exact (zb_f (by unfold isCaseP; (repeat' split) <;> omega)).symm
        · -- 67F
          refine n_iconst hx hb dX4_isCase_70 ?_
          refine lv_goto (tgt := 75) hx hb dX4_isCase_71 (by decide) ?_
          refine m_zret hx hb hr hlk hH dX4_isCase_75 (Or.inr rfl) ?_
          refine ⟨?_, rfl⟩
          first | exact (zb_t (by unfold isCaseP; (repeat' split) <;> omega)).symm | exact (zb_f (by unfold isCaseP; (repeat' split) <;> omega)).symm
    · -- 7F
      refine n_iconst hx hb dX4_isCase_10 ?_
      refine lv_goto (tgt := 67) hx hb dX4_isCase_11 (by decide) ?_
      refine n_icmp_gt (tgt := 74) hx hb (r32 (by omega)) (r32 (by omega)) dX4_isCase_67 (by decide) (fun c_67 => ?_) (fun c_67 => ?_)
      · -- 67T
        refine n_iconst hx hb dX4_isCase_74 ?_
        refine m_zret hx hb hr hlk hH dX4_isCase_75 (Or.inl rfl) ?_
        refine ⟨?_, rfl⟩
        first | exact (zb_t (by unfold isCaseP; (repeat' split) <;> omega)).symm | exact (zb_f (by unfold isCaseP; (repeat' split) <;> omega)).symm
      · -- 67F
        refine n_iconst hx hb dX4_isCase_70 ?_
        refine lv_goto (tgt := 75) hx hb dX4_isCase_71 (by decide) ?_
        refine m_zret hx hb hr hlk hH dX4_isCase_75 (Or.inr rfl) ?_
        refine ⟨?_, rfl⟩
        first | exact (zb_t (by unfold isCaseP; (repeat' split) <;> omega)).symm | exact (zb_f (by unfold isCaseP; (repeat' split) <;> omega)).symm
theorem kd_X4_ones : yX4_ones.cls = RX4 ∧ yX4_ones.cls ≠ "java/lang/invoke/MethodHandle" ∧ yX4_ones.cls ≠ "java/lang/invoke/VarHandle" ∧ (parseMethodDescriptor yX4_ones.desc).map (fun d => d.parameters.length) = some 1 := by decide +kernel
theorem mm_ones (l : Launch) (G : MG) (σ : St) (x : Int) (sz : Nat) (h_x : R32 x) : Met l yX4_ones (ws_ yX4_ones cX4_ones 3 (some .int)) (rmD 1) (mP G [.int (iI x)] σ sz) (mQi G σ sz (fun z σ' => z = onesN x 12 ∧ σ' = σ)) 0 0 (mA G σ sz) := by
  refine m_start (by decide) (Nat.le_of_ble_eq_true rfl) ?_
  intro p e s m below meth c ⟨S, hr, hlk, hH, hK, hj, hsz, hnm⟩ ls hl
  subst hsz
  obtain ⟨hx, hb, hml, hown, hts⟩ := S
  have S : CallFix p m c _ _ s _ lw_all RX4 := ⟨hx, hb, hml, hown, hts⟩
  have hA : ∀ q, s.heap.size ≤ q → mA G σ s.heap.size q := fun q hq => Or.inr hq
  have hl : lv_has ls 3 [(0, .int (iI x))] := hl
  have h_x := R32.n h_x
  have L4 : ∀ (n : Nat) (i : Int), (h0 : 0 ≤ i) → (h1 : i ≤ 12) → (hn : 12 < (n : Int) + i) → (hbo : 0 ≤ onesN x i.toNat ∧ onesN x i.toNat ≤ i) → ∀ (H : Heap) (locs : List Loc) (ls : Array Slot), MH G (mA G σ s.heap.size) σ s.heap H locs → lv_has ls 3 [(0, .int (iI x)), (2, .int (iI i)), (1, .int (iI (onesN x i.toNat)))] → W p l e (rmD 1) s m ([.int (iI x)] : List Value).toArray below meth c H locs 0 0 (MQ below (mQi G σ s.heap.size (fun z σ' => z = onesN x 12 ∧ σ' = σ)) ([.int (iI x)] : List Value).toArray s 0 0 (mA G σ s.heap.size)) (F0 m 4 ls []) := by
    intro n
    induction n with
    | zero => intro i h0 h1 hn hbo; exfalso; omega
    | succ n ih_4 =>
      intro i h0 h1 hn hbo H locs ls hH hl
      refine lv_iload_n hx hb dX4_ones_4 rfl (lv_at hl 1 rfl) ?_
      refine n_bipush (z := 12) hx hb dX4_ones_5 (by decide) ?_
      refine n_icmp_ge (tgt := 24) hx hb (r32 (by omega)) (r32 (by omega)) dX4_ones_7 (by decide) (fun c_7 => ?_) (fun c_7 => ?_)
      · -- 7T
        obtain rfl : i = 12 := by omega
        refine lv_iload_n hx hb dX4_ones_24 rfl (lv_at hl 2 rfl) ?_
        refine m_iret hx hb hr hlk hH dX4_ones_25 ?_
        exact ⟨rfl, rfl⟩
      · -- 7F
        refine lv_iload_n hx hb dX4_ones_10 rfl (lv_at hl 2 rfl) ?_
        refine lv_iload_n hx hb dX4_ones_11 rfl (lv_at hl 0 rfl) ?_
        refine lv_iload_n hx hb dX4_ones_12 rfl (lv_at hl 1 rfl) ?_
        refine n_ishr hx hb (r32 (by omega)) (by omega) (by omega) dX4_ones_13 ?_
        refine n_iconst hx hb dX4_ones_14 ?_
        refine n_and1 hx hb dX4_ones_15 ?_
        refine n_iadd hx hb dX4_ones_16 ?_
        refine lv_istore_n hx hb dX4_ones_17 rfl hl (Nat.le_of_ble_eq_true rfl) (lv' := [(1, .int (iI ((onesN x i.toNat) + ((x / 2 ^ i.toNat) % 2)))), (0, .int (iI x)), (2, .int (iI i))]) rfl (fun ls hl => ?_)
        refine n_iinc hx hb dX4_ones_18 hl (k := 2) rfl (Nat.le_of_ble_eq_true rfl) (lv' := [(2, .int (iI (i + 1))), (1, .int (iI ((onesN x i.toNat) + ((x / 2 ^ i.toNat) % 2)))), (0, .int (iI x))]) rfl (fun ls hl => ?_)
        refine lv_goto (tgt := 4) hx hb dX4_ones_21 (by decide) ?_
        have hl : lv_has ls 3 [(0, .int (iI x)), (2, .int (iI (i + 1))), (1, .int (iI ((onesN x i.toNat) + ((x / 2 ^ i.toNat) % 2))))] := lv_sub hl [2, 0, 1] rfl
        have hl : lv_has ls 3 [(0, .int (iI x)), (2, .int (iI (i + 1))), (1, .int (iI (onesN x (i + 1).toNat)))] := by rw [onesN_e (by omega)]; exact hl
        refine ih_4 (i + 1) ?_ ?_ ?_ ?_ _ _ _ hH hl
        · omega
        · omega
        · omega
        · exact onesN_s h0 hbo
  refine n_iconst hx hb dX4_ones_0 ?_
  refine lv_istore_n hx hb dX4_ones_1 rfl hl (Nat.le_of_ble_eq_true rfl) (lv' := [(1, .int (iI 0)), (0, .int (iI x))]) rfl (fun ls hl => ?_)
  refine n_iconst hx hb dX4_ones_2 ?_
  refine lv_istore_n hx hb dX4_ones_3 rfl hl (Nat.le_of_ble_eq_true rfl) (lv' := [(2, .int (iI 0)), (1, .int (iI 0)), (0, .int (iI x))]) rfl (fun ls hl => ?_)
  have hl : lv_has ls 3 [(0, .int (iI x)), (2, .int (iI 0)), (1, .int (iI 0))] := lv_sub hl [2, 0, 1] rfl
  refine L4 13 0 ?_ ?_ ?_ ?_ _ _ _ hH hl
  · omega
  · omega
  · omega
  · exact ⟨Int.le_refl 0, Int.le_refl 0⟩
theorem kd_X4_takesRow : yX4_takesRow.cls = RX4 ∧ yX4_takesRow.cls ≠ "java/lang/invoke/MethodHandle" ∧ yX4_takesRow.cls ≠ "java/lang/invoke/VarHandle" ∧ (parseMethodDescriptor yX4_takesRow.desc).map (fun d => d.parameters.length) = some 1 := by decide +kernel
theorem mm_takesRow (l : Launch) (G : MG) (σ : St) (at_ : Int) (sz : Nat) (ha : 0 ≤ at_) (hb2 : at_ + 9 ≤ 11370) : Met l yX4_takesRow (ws_ yX4_takesRow cX4_takesRow 3 none) (rmD 1) (mP G [.ref (G.2.2 0), .int (iI at_)] σ sz) (mQv G σ sz (fun σ' => σ' = sa σ 5 (cpA (σ 5) 0 9 (fun j => σ 2 (at_ + j))))) 0 0 (mA G σ sz) := by
  refine m_start (by decide) (Nat.le_of_ble_eq_true rfl) ?_
  intro p e s m below meth c ⟨S, hr, hlk, hH, hK, hj, hsz, hnm⟩ ls hl
  subst hsz
  obtain ⟨hx, hb, hml, hown, hts⟩ := S
  have S : CallFix p m c _ _ s _ lw_all RX4 := ⟨hx, hb, hml, hown, hts⟩
  have hA : ∀ q, s.heap.size ≤ q → mA G σ s.heap.size q := fun q hq => Or.inr hq
  have hl : lv_has ls 3 [(0, .ref (G.2.2 0)), (1, .int (iI at_))] := hl
  have L2 : ∀ (n : Nat) (i : Int), (h0 : 0 ≤ i) → (h1 : i ≤ 9) → (hn : 9 < (n : Int) + i) → ∀ (H : Heap) (locs : List Loc) (ls : Array Slot), MH G (mA G σ s.heap.size) (sa σ 5 (cpA (σ 5) 0 i (fun j => σ 2 (at_ + j)))) s.heap H locs → lv_has ls 3 [(0, .ref (G.2.2 0)), (1, .int (iI at_)), (2, .int (iI i))] → W p l e (rmD 1) s m ([.ref (G.2.2 0), .int (iI at_)] : List Value).toArray below meth c H locs 0 0 (MQ below (mQv G σ s.heap.size (fun σ' => σ' = sa σ 5 (cpA (σ 5) 0 9 (fun j => σ 2 (at_ + j))))) ([.ref (G.2.2 0), .int (iI at_)] : List Value).toArray s 0 0 (mA G σ s.heap.size)) (F0 m 2 ls []) := by
    intro n
    induction n with
    | zero => intro i h0 h1 hn; exfalso; omega
    | succ n ih_2 =>
      intro i h0 h1 hn H locs ls hH hl
      refine lv_iload_n hx hb dX4_takesRow_2 rfl (lv_at hl 2 rfl) ?_
      refine n_bipush (z := 9) hx hb dX4_takesRow_3 (by decide) ?_
      refine n_icmp_ge (tgt := 28) hx hb (r32 (by omega)) (r32 (by omega)) dX4_takesRow_5 (by decide) (fun c_5 => ?_) (fun c_5 => ?_)
      · -- 5T
        obtain rfl : i = 9 := by omega
        refine m_vret hx hb hr hlk hH dX4_takesRow_28 ?_
        rfl
      · -- 5F
        refine lv_aload_n hx hb dX4_takesRow_8 rfl (lv_at hl 0 rfl) ?_
        refine m_get 5 (by decide) hx hb hts hown hK hj hH q1478 (fun _ h9 => h9) rfl dX4_takesRow_9 ?_
        refine lv_iload_n hx hb dX4_takesRow_12 rfl (lv_at hl 2 rfl) ?_
        refine lv_aload_n hx hb dX4_takesRow_13 rfl (lv_at hl 0 rfl) ?_
        refine m_get 2 (by decide) hx hb hts hown hK hj hH q1475 (fun _ h9 => h9) rfl dX4_takesRow_14 ?_
        refine lv_iload_n hx hb dX4_takesRow_17 rfl (lv_at hl 1 rfl) ?_
        refine lv_iload_n hx hb dX4_takesRow_18 rfl (lv_at hl 2 rfl) ?_
        refine n_iadd hx hb dX4_takesRow_19 ?_
        refine ml_2 hx hb hK hj hH (by omega) (by omega) dX4_takesRow_20 ?_
        refine ms_5 hx hb hK hj hH (by omega) (by omega) dX4_takesRow_21 (fun H locs hH => ?_)
        refine n_iinc hx hb dX4_takesRow_22 hl (k := 2) rfl (Nat.le_of_ble_eq_true rfl) (lv' := [(2, .int (iI (i + 1))), (0, .ref (G.2.2 0)), (1, .int (iI at_))]) rfl (fun ls hl => ?_)
        refine lv_goto (tgt := 2) hx hb dX4_takesRow_25 (by decide) ?_
        have hl : lv_has ls 3 [(0, .ref (G.2.2 0)), (1, .int (iI at_)), (2, .int (iI (i + 1)))] := lv_sub hl [1, 2, 0] rfl
        have hH := MH_to hH (τ := sa σ 5 (cpA (σ 5) 0 (i + 1) (fun j => σ 2 (at_ + j)))) (st_cp0 (by omega) rfl)
        refine ih_2 (i + 1) ?_ ?_ ?_ _ _ _ hH hl
        · omega
        · omega
        · omega
  refine n_iconst hx hb dX4_takesRow_0 ?_
  refine lv_istore_n hx hb dX4_takesRow_1 rfl hl (Nat.le_of_ble_eq_true rfl) (lv' := [(2, .int (iI 0)), (0, .ref (G.2.2 0)), (1, .int (iI at_))]) rfl (fun ls hl => ?_)
  have hl : lv_has ls 3 [(0, .ref (G.2.2 0)), (1, .int (iI at_)), (2, .int (iI 0))] := lv_sub hl [1, 2, 0] rfl
  have hH := MH_to hH (τ := sa σ 5 (cpA (σ 5) 0 0 (fun j => σ 2 (at_ + j)))) (sa_0.symm)
  refine L2 10 0 ?_ ?_ ?_ _ _ _ hH hl
  · omega
  · omega
  · omega
theorem kd_X4_takesFlask : yX4_takesFlask.cls = RX4 ∧ yX4_takesFlask.cls ≠ "java/lang/invoke/MethodHandle" ∧ yX4_takesFlask.cls ≠ "java/lang/invoke/VarHandle" ∧ (parseMethodDescriptor yX4_takesFlask.desc).map (fun d => d.parameters.length) = some 1 := by decide +kernel
theorem mm_takesFlask (l : Launch) (G : MG) (σ : St) (f : Int) (sz : Nat) (hf0 : 0 ≤ f) (hf1 : f < 40) (hI : KI (σ 2)) (hf2 : f < σ 2 1753) : Met l yX4_takesFlask (ws_ yX4_takesFlask cX4_takesFlask 3 none) (rmD 2) (mP G [.ref (G.2.2 0), .int (iI f)] σ sz) (mQv G σ sz (fun σ' => σ' = sa σ 5 (caseF σ f))) 0 0 (mA G σ sz) := by
  refine m_start (by decide) (Nat.le_of_ble_eq_true rfl) ?_
  intro p e s m below meth c ⟨S, hr, hlk, hH, hK, hj, hsz, hnm⟩ ls hl
  subst hsz
  obtain ⟨hx, hb, hml, hown, hts⟩ := S
  have S : CallFix p m c _ _ s _ lw_all RX4 := ⟨hx, hb, hml, hown, hts⟩
  have hA : ∀ q, s.heap.size ≤ q → mA G σ s.heap.size q := fun q hq => Or.inr hq
  have hl : lv_has ls 3 [(0, .ref (G.2.2 0)), (1, .int (iI f))] := hl
  have b0 := hI.c
  unfold kCnt at b0
  have b1 := hI.f f hf0 hf2
  unfold kFlask fl at b1
  have L2 : ∀ (n : Nat) (i : Int), (h0 : 0 ≤ i) → (h1 : i ≤ 9) → (hn : 9 < (n : Int) + i) → ∀ (H : Heap) (locs : List Loc) (ls : Array Slot), MH G (mA G σ s.heap.size) (sa σ 5 (cpA (σ 5) 0 i (fun j => σ 2 (184 + 26 * f + j)))) s.heap H locs → lv_has ls 3 [(0, .ref (G.2.2 0)), (1, .int (iI f)), (2, .int (iI i))] → W p l e (rmD 2) s m ([.ref (G.2.2 0), .int (iI f)] : List Value).toArray below meth c H locs 0 0 (MQ below (mQv G σ s.heap.size (fun σ' => σ' = sa σ 5 (caseF σ f))) ([.ref (G.2.2 0), .int (iI f)] : List Value).toArray s 0 0 (mA G σ s.heap.size)) (F0 m 2 ls []) := by
    intro n
    induction n with
    | zero => intro i h0 h1 hn; exfalso; omega
    | succ n ih_2 =>
      intro i h0 h1 hn H locs ls hH hl
      refine lv_iload_n hx hb dX4_takesFlask_2 rfl (lv_at hl 2 rfl) ?_
      refine n_bipush (z := 9) hx hb dX4_takesFlask_3 (by decide) ?_
      refine n_icmp_ge (tgt := 26) hx hb (r32 (by omega)) (r32 (by omega)) dX4_takesFlask_5 (by decide) (fun c_5 => ?_) (fun c_5 => ?_)
      · -- 5T
        obtain rfl : i = 9 := by omega
        refine lv_aload_n hx hb dX4_takesFlask_26 rfl (lv_at hl 0 rfl) ?_
        refine m_get 5 (by decide) hx hb hts hown hK hj hH q1478 (fun _ h9 => h9) rfl dX4_takesFlask_27 ?_
        refine n_iconst hx hb dX4_takesFlask_30 ?_
        refine n_sipush (z := 255) hx hb dX4_takesFlask_31 (by decide) ?_
        refine lv_aload_n hx hb dX4_takesFlask_34 rfl (lv_at hl 0 rfl) ?_
        refine m_get 2 (by decide) hx hb hts hown hK hj hH q1475 (fun _ h9 => h9) rfl dX4_takesFlask_35 ?_
        refine n_sipush (z := 1750) hx hb dX4_takesFlask_38 (by decide) ?_
        refine ml_2 hx hb hK hj hH (by omega) (by omega) dX4_takesFlask_41 ?_
        refine lv_aload_n hx hb dX4_takesFlask_42 rfl (lv_at hl 0 rfl) ?_
        refine lv_iload_n hx hb dX4_takesFlask_43 rfl (lv_at hl 1 rfl) ?_
        refine n_iconst hx hb dX4_takesFlask_44 ?_
        refine m_calliF (m_runV (As := [.int (iI f), .int (iI 4)]) (rest := [.int (iI ((sa σ 5 (cpA (σ 5) 0 9 (fun j => σ 2 (184 + 26 * f + j)))) 2 1750)), .int (iI 255), .int (iI 4), .ref (G.2.2 5)]) S hH hK hj hl.1 (mm_flaskOf l G (sa σ 5 (cpA (σ 5) 0 9 (fun j => σ 2 (184 + 26 * f + j)))) f 4 _ (by omega) (by omega) (by omega) (by omega)) (lw_V q1625 q1627 qs48 q109 q1628) kd_X4_flaskOf rfl rfl dX4_takesFlask_45) hH hA (fun H locs hH => ?_)
        refine W.eq (g2 := F0 m 48 ls (.int (iI (σ 2 (184 + 26 * f + 4))) :: .int (iI ((sa σ 5 (cpA (σ 5) 0 9 (fun j => σ 2 (184 + 26 * f + j)))) 2 1750)) :: .int (iI 255) :: .int (iI 4) :: .ref (G.2.2 5) :: [])) (by rfl) ?_
        refine n_isub hx hb dX4_takesFlask_48 ?_
        refine W.eq (g2 := F0 m 49 ls (.int (iI (σ 2 1750 - σ 2 (184 + 26 * f + 4))) :: .int (iI 255) :: .int (iI 4) :: .ref (G.2.2 5) :: [])) (by rfl) ?_
        refine m_calliF (m_runS (As := [.int (iI 255), .int (iI (σ 2 1750 - σ 2 (184 + 26 * f + 4)))]) (rest := [.int (iI 4), .ref (G.2.2 5)]) S hH hK hj hl.1 (mm_least l G (sa σ 5 (cpA (σ 5) 0 9 (fun j => σ 2 (184 + 26 * f + j)))) 255 (σ 2 1750 - σ 2 (184 + 26 * f + 4)) _ (r32 (by omega)) (r32 (by omega))) (lw_S q1675 q1676 q109 q1677) kd_X4_least rfl rfl dX4_takesFlask_49) hH hA (fun H locs hH => ?_)
        refine ms_5 hx hb hK hj hH (by omega) (by omega) dX4_takesFlask_52 (fun H locs hH => ?_)
        refine lv_aload_n hx hb dX4_takesFlask_53 rfl (lv_at hl 0 rfl) ?_
        refine m_get 5 (by decide) hx hb hts hown hK hj hH q1478 (fun _ h9 => h9) rfl dX4_takesFlask_54 ?_
        refine n_bipush (z := 6) hx hb dX4_takesFlask_57 (by decide) ?_
        refine n_sipush (z := 255) hx hb dX4_takesFlask_59 (by decide) ?_
        refine lv_aload_n hx hb dX4_takesFlask_62 rfl (lv_at hl 0 rfl) ?_
        refine m_get 5 (by decide) hx hb hts hown hK hj hH q1478 (fun _ h9 => h9) rfl dX4_takesFlask_63 ?_
        refine n_bipush (z := 6) hx hb dX4_takesFlask_66 (by decide) ?_
        refine ml_5 hx hb hK hj hH (by omega) (by omega) dX4_takesFlask_68 ?_
        refine W.eq (g2 := F0 m 69 ls (.int (iI (σ 2 (184 + 26 * f + 6))) :: .int (iI 255) :: .int (iI 6) :: .ref (G.2.2 5) :: [])) (by rfl) ?_
        refine m_calliF (m_runS (As := [.int (iI 255), .int (iI (σ 2 (184 + 26 * f + 6)))]) (rest := [.int (iI 6), .ref (G.2.2 5)]) S hH hK hj hl.1 (mm_least l G (st (sa σ 5 (cpA (σ 5) 0 9 (fun j => σ 2 (184 + 26 * f + j)))) 5 4 (min 255 (σ 2 1750 - σ 2 (184 + 26 * f + 4)))) 255 (σ 2 (184 + 26 * f + 6)) _ (r32 (by omega)) (r32 (by omega))) (lw_S q1675 q1676 q109 q1677) kd_X4_least rfl rfl dX4_takesFlask_69) hH hA (fun H locs hH => ?_)
        refine ms_5 hx hb hK hj hH (by omega) (by omega) dX4_takesFlask_72 (fun H locs hH => ?_)
        refine m_vret hx hb hr hlk hH dX4_takesFlask_73 ?_
        show st (st (sa σ 5 _) 5 4 _) 5 6 _ = _
        unfold st
        rw [sa_s, sa_sa, sa_s, sa_sa, ← caseF_eq]
      · -- 5F
        refine lv_aload_n hx hb dX4_takesFlask_8 rfl (lv_at hl 0 rfl) ?_
        refine m_get 5 (by decide) hx hb hts hown hK hj hH q1478 (fun _ h9 => h9) rfl dX4_takesFlask_9 ?_
        refine lv_iload_n hx hb dX4_takesFlask_12 rfl (lv_at hl 2 rfl) ?_
        refine lv_aload_n hx hb dX4_takesFlask_13 rfl (lv_at hl 0 rfl) ?_
        refine lv_iload_n hx hb dX4_takesFlask_14 rfl (lv_at hl 1 rfl) ?_
        refine lv_iload_n hx hb dX4_takesFlask_15 rfl (lv_at hl 2 rfl) ?_
        refine m_calliF (m_runV (As := [.int (iI f), .int (iI i)]) (rest := [.int (iI i), .ref (G.2.2 5)]) S hH hK hj hl.1 (mm_flaskOf l G (sa σ 5 (cpA (σ 5) 0 i (fun j => σ 2 (184 + 26 * f + j)))) f i _ (by omega) (by omega) (by omega) (by omega)) (lw_V q1625 q1627 qs48 q109 q1628) kd_X4_flaskOf rfl rfl dX4_takesFlask_16) hH hA (fun H locs hH => ?_)
        refine ms_5 hx hb hK hj hH (by omega) (by omega) dX4_takesFlask_19 (fun H locs hH => ?_)
        refine n_iinc hx hb dX4_takesFlask_20 hl (k := 2) rfl (Nat.le_of_ble_eq_true rfl) (lv' := [(2, .int (iI (i + 1))), (0, .ref (G.2.2 0)), (1, .int (iI f))]) rfl (fun ls hl => ?_)
        refine lv_goto (tgt := 2) hx hb dX4_takesFlask_23 (by decide) ?_
        have hl : lv_has ls 3 [(0, .ref (G.2.2 0)), (1, .int (iI f)), (2, .int (iI (i + 1)))] := lv_sub hl [1, 2, 0] rfl
        have hH := MH_to hH (τ := sa σ 5 (cpA (σ 5) 0 (i + 1) (fun j => σ 2 (184 + 26 * f + j)))) (st_cp0 (by omega) rfl)
        refine ih_2 (i + 1) ?_ ?_ ?_ _ _ _ hH hl
        · omega
        · omega
        · omega
  refine n_iconst hx hb dX4_takesFlask_0 ?_
  refine lv_istore_n hx hb dX4_takesFlask_1 rfl hl (Nat.le_of_ble_eq_true rfl) (lv' := [(2, .int (iI 0)), (0, .ref (G.2.2 0)), (1, .int (iI f))]) rfl (fun ls hl => ?_)
  have hl : lv_has ls 3 [(0, .ref (G.2.2 0)), (1, .int (iI f)), (2, .int (iI 0))] := lv_sub hl [1, 2, 0] rfl
  have hH := MH_to hH (τ := sa σ 5 (cpA (σ 5) 0 0 (fun j => σ 2 (184 + 26 * f + j)))) (sa_0.symm)
  refine L2 10 0 ?_ ?_ ?_ _ _ _ hH hl
  · omega
  · omega
  · omega
theorem kd_X4_image : yX4_image.cls = RX4 ∧ yX4_image.cls ≠ "java/lang/invoke/MethodHandle" ∧ yX4_image.cls ≠ "java/lang/invoke/VarHandle" ∧ (parseMethodDescriptor yX4_image.desc).map (fun d => d.parameters.length) = some 1 := by decide +kernel
theorem mm_image (l : Launch) (G : MG) (σ : St) (k : Int) (sz : Nat) (h_k : R32 k) : Met l yX4_image (ws_ yX4_image cX4_image 3 (some .int)) (rmD 3) (mP G [.ref (G.2.2 0), .int (iI k)] σ sz) (mQi G σ sz (fun z σ' => (z, σ') = imageF σ k)) 0 0 (mA G σ sz) := by
  refine m_start (by decide) (Nat.le_of_ble_eq_true rfl) ?_
  intro p e s m below meth c ⟨S, hr, hlk, hH, hK, hj, hsz, hnm⟩ ls hl
  subst hsz
  obtain ⟨hx, hb, hml, hown, hts⟩ := S
  have S : CallFix p m c _ _ s _ lw_all RX4 := ⟨hx, hb, hml, hown, hts⟩
  have hA : ∀ q, s.heap.size ≤ q → mA G σ s.heap.size q := fun q hq => Or.inr hq
  have hl : lv_has ls 3 [(0, .ref (G.2.2 0)), (1, .int (iI k))] := hl
  have h_k := R32.n h_k
  have L17 : ∀ (n : Nat) (i : Int), (h0 : 0 ≤ i) → (h1 : i ≤ 11370) → (hn : 11370 < (n : Int) + i) → (hk0 : 0 ≤ k) → (hk1 : k ≤ 1) → ∀ (H : Heap) (locs : List Loc) (ls : Array Slot), MH G (mA G σ s.heap.size) (sa σ 3 (cpA (σ 3) (11370 * k) i (σ 2))) s.heap H locs → lv_has ls 3 [(0, .ref (G.2.2 0)), (1, .int (iI k)), (2, .int (iI i))] → W p l e (rmD 3) s m ([.ref (G.2.2 0), .int (iI k)] : List Value).toArray below meth c H locs 0 0 (MQ below (mQi G σ s.heap.size (fun z σ' => (z, σ') = imageF σ k)) ([.ref (G.2.2 0), .int (iI k)] : List Value).toArray s 0 0 (mA G σ s.heap.size)) (F0 m 17 ls []) := by
    intro n
    induction n with
    | zero => intro i h0 h1 hn hk0 hk1; exfalso; omega
    | succ n ih_17 =>
      intro i h0 h1 hn hk0 hk1 H locs ls hH hl
      refine lv_iload_n hx hb dX4_image_17 rfl (lv_at hl 2 rfl) ?_
      refine n_sipush (z := 11370) hx hb dX4_image_18 (by decide) ?_
      refine n_icmp_ge (tgt := 48) hx hb (r32 (by omega)) (r32 (by omega)) dX4_image_21 (by decide) (fun c_21 => ?_) (fun c_21 => ?_)
      · -- 21T
        obtain rfl : i = 11370 := by omega
        refine lv_aload_n hx hb dX4_image_48 rfl (lv_at hl 0 rfl) ?_
        refine m_get 4 (by decide) hx hb hts hown hK hj hH q1477 (fun _ h9 => h9) rfl dX4_image_49 ?_
        refine lv_iload_n hx hb dX4_image_52 rfl (lv_at hl 1 rfl) ?_
        refine n_iconst hx hb dX4_image_53 ?_
        refine ms_4 hx hb hK hj hH (Or.inr rfl) (by omega) (by omega) dX4_image_54 (fun H locs hH => ?_)
        refine lv_aload_n hx hb dX4_image_55 rfl (lv_at hl 0 rfl) ?_
        refine n_iconst hx hb dX4_image_56 ?_
        refine m_calliF (m_runV (As := [.int (iI 0)]) (rest := []) S hH hK hj hl.1 (mm_good l G (st (sa σ 3 (cpA (σ 3) (11370 * k) 11370 (σ 2))) 4 k 1) 0 _ ) (lw_V q1576 q1578 qs44 q109 q1579) kd_X4_good rfl rfl dX4_image_57) hH hA (fun H locs hH => ?_)
        refine m_iret hx hb hr hlk hH dX4_image_60 ?_
        unfold imageF
        rw [if_pos (by omega)]
        all_goals rfl
      · -- 21F
        refine lv_aload_n hx hb dX4_image_24 rfl (lv_at hl 0 rfl) ?_
        refine m_get 3 (by decide) hx hb hts hown hK hj hH q1476 (fun _ h9 => h9) rfl dX4_image_25 ?_
        refine n_sipush (z := 11370) hx hb dX4_image_28 (by decide) ?_
        refine lv_iload_n hx hb dX4_image_31 rfl (lv_at hl 1 rfl) ?_
        refine n_imul hx hb dX4_image_32 ?_
        refine lv_iload_n hx hb dX4_image_33 rfl (lv_at hl 2 rfl) ?_
        refine n_iadd hx hb dX4_image_34 ?_
        refine lv_aload_n hx hb dX4_image_35 rfl (lv_at hl 0 rfl) ?_
        refine m_get 2 (by decide) hx hb hts hown hK hj hH q1475 (fun _ h9 => h9) rfl dX4_image_36 ?_
        refine lv_iload_n hx hb dX4_image_39 rfl (lv_at hl 2 rfl) ?_
        refine ml_2 hx hb hK hj hH (by omega) (by omega) dX4_image_40 ?_
        refine ms_3 hx hb hK hj hH (by omega) (by omega) dX4_image_41 (fun H locs hH => ?_)
        refine n_iinc hx hb dX4_image_42 hl (k := 2) rfl (Nat.le_of_ble_eq_true rfl) (lv' := [(2, .int (iI (i + 1))), (0, .ref (G.2.2 0)), (1, .int (iI k))]) rfl (fun ls hl => ?_)
        refine lv_goto (tgt := 17) hx hb dX4_image_45 (by decide) ?_
        have hl : lv_has ls 3 [(0, .ref (G.2.2 0)), (1, .int (iI k)), (2, .int (iI (i + 1)))] := lv_sub hl [1, 2, 0] rfl
        have hH := MH_to hH (τ := sa σ 3 (cpA (σ 3) (11370 * k) (i + 1) (σ 2))) (st_cp (by omega) rfl)
        refine ih_17 (i + 1) ?_ ?_ ?_ ?_ ?_ _ _ _ hH hl
        · omega
        · omega
        · omega
        · omega
        · omega
  refine lv_iload_n hx hb dX4_image_0 rfl (lv_at hl 1 rfl) ?_
  refine n_iconst hx hb dX4_image_1 ?_
  refine n_iconst hx hb dX4_image_2 ?_
  refine m_calliF (m_runS (As := [.int (iI k), .int (iI 0), .int (iI 1)]) (rest := []) S hH hK hj hl.1 (mm_in l G σ k 0 1 _ (r32 (by omega)) (r32 (by omega)) (r32 (by omega))) (lw_S q1569 q1570 q109 q1571) kd_X4_in rfl rfl dX4_image_3) hH hA (fun H locs hH => ?_)
  refine z_if_ne (tgt := 15) hx hb dX4_image_6 (by decide) (fun c_6 => ?_) (fun c_6 => ?_)
  · -- 6T
    refine n_iconst hx hb dX4_image_15 ?_
    refine lv_istore_n hx hb dX4_image_16 rfl hl (Nat.le_of_ble_eq_true rfl) (lv' := [(2, .int (iI 0)), (0, .ref (G.2.2 0)), (1, .int (iI k))]) rfl (fun ls hl => ?_)
    have hl : lv_has ls 3 [(0, .ref (G.2.2 0)), (1, .int (iI k)), (2, .int (iI 0))] := lv_sub hl [1, 2, 0] rfl
    have hH := MH_to hH (τ := sa σ 3 (cpA (σ 3) (11370 * k) 0 (σ 2))) (sa_0.symm)
    refine L17 11371 0 ?_ ?_ ?_ ?_ ?_ _ _ _ hH hl
    · omega
    · omega
    · omega
    · omega
    · omega
  · -- 6F
    refine lv_aload_n hx hb dX4_image_9 rfl (lv_at hl 0 rfl) ?_
    refine n_iconst hx hb dX4_image_10 ?_
    refine m_calliF (m_runV (As := [.int (iI (-1))]) (rest := []) S hH hK hj hl.1 (mm_refuses l G σ (-1) _ (by omega) (by omega)) (lw_V q1572 q1574 qs43 q109 q1575) kd_X4_refuses rfl rfl dX4_image_11) hH hA (fun H locs hH => ?_)
    refine m_iret hx hb hr hlk hH dX4_image_14 ?_
    unfold imageF
    (repeat' split) <;> first | (exfalso; omega) | rfl
theorem kd_X4_back : yX4_back.cls = RX4 ∧ yX4_back.cls ≠ "java/lang/invoke/MethodHandle" ∧ yX4_back.cls ≠ "java/lang/invoke/VarHandle" ∧ (parseMethodDescriptor yX4_back.desc).map (fun d => d.parameters.length) = some 1 := by decide +kernel
theorem mm_back (l : Launch) (G : MG) (σ : St) (k : Int) (sz : Nat) (h_k : R32 k) (hz : ∀ i, σ 4 i = 0 ∨ σ 4 i = 1) : Met l yX4_back (ws_ yX4_back cX4_back 3 (some .int)) (rmD 3) (mP G [.ref (G.2.2 0), .int (iI k)] σ sz) (mQi G σ sz (fun z σ' => (z, σ') = backF σ k)) 0 0 (mA G σ sz) := by
  refine m_start (by decide) (Nat.le_of_ble_eq_true rfl) ?_
  intro p e s m below meth c ⟨S, hr, hlk, hH, hK, hj, hsz, hnm⟩ ls hl
  subst hsz
  obtain ⟨hx, hb, hml, hown, hts⟩ := S
  have S : CallFix p m c _ _ s _ lw_all RX4 := ⟨hx, hb, hml, hown, hts⟩
  have hA : ∀ q, s.heap.size ≤ q → mA G σ s.heap.size q := fun q hq => Or.inr hq
  have hl : lv_has ls 3 [(0, .ref (G.2.2 0)), (1, .int (iI k))] := hl
  have h_k := R32.n h_k
  have L33 : ∀ (n : Nat) (i : Int), (h0 : 0 ≤ i) → (h1 : i ≤ 11370) → (hn : 11370 < (n : Int) + i) → (hk0 : 0 ≤ k) → (hk1 : k ≤ 1) → (hk2 : ¬ σ 4 k = 0) → ∀ (H : Heap) (locs : List Loc) (ls : Array Slot), MH G (mA G σ s.heap.size) (sa σ 2 (cpA (σ 2) 0 i (fun j => σ 3 (11370 * k + j)))) s.heap H locs → lv_has ls 3 [(0, .ref (G.2.2 0)), (1, .int (iI k)), (2, .int (iI i))] → W p l e (rmD 3) s m ([.ref (G.2.2 0), .int (iI k)] : List Value).toArray below meth c H locs 0 0 (MQ below (mQi G σ s.heap.size (fun z σ' => (z, σ') = backF σ k)) ([.ref (G.2.2 0), .int (iI k)] : List Value).toArray s 0 0 (mA G σ s.heap.size)) (F0 m 33 ls []) := by
    intro n
    induction n with
    | zero => intro i h0 h1 hn hk0 hk1 hk2; exfalso; omega
    | succ n ih_33 =>
      intro i h0 h1 hn hk0 hk1 hk2 H locs ls hH hl
      refine lv_iload_n hx hb dX4_back_33 rfl (lv_at hl 2 rfl) ?_
      refine n_sipush (z := 11370) hx hb dX4_back_34 (by decide) ?_
      refine n_icmp_ge (tgt := 64) hx hb (r32 (by omega)) (r32 (by omega)) dX4_back_37 (by decide) (fun c_37 => ?_) (fun c_37 => ?_)
      · -- 37T
        obtain rfl : i = 11370 := by omega
        refine lv_aload_n hx hb dX4_back_64 rfl (lv_at hl 0 rfl) ?_
        refine n_iconst hx hb dX4_back_65 ?_
        refine m_calliF (m_runV (As := [.int (iI 0)]) (rest := []) S hH hK hj hl.1 (mm_good l G (sa σ 2 (cpA (σ 2) 0 11370 (fun j => σ 3 (11370 * k + j)))) 0 _ ) (lw_V q1576 q1578 qs44 q109 q1579) kd_X4_good rfl rfl dX4_back_66) hH hA (fun H locs hH => ?_)
        refine m_iret hx hb hr hlk hH dX4_back_69 ?_
        unfold backF
        rw [if_pos (by omega), if_neg hk2]
        all_goals rfl
      · -- 37F
        refine lv_aload_n hx hb dX4_back_40 rfl (lv_at hl 0 rfl) ?_
        refine m_get 2 (by decide) hx hb hts hown hK hj hH q1475 (fun _ h9 => h9) rfl dX4_back_41 ?_
        refine lv_iload_n hx hb dX4_back_44 rfl (lv_at hl 2 rfl) ?_
        refine lv_aload_n hx hb dX4_back_45 rfl (lv_at hl 0 rfl) ?_
        refine m_get 3 (by decide) hx hb hts hown hK hj hH q1476 (fun _ h9 => h9) rfl dX4_back_46 ?_
        refine n_sipush (z := 11370) hx hb dX4_back_49 (by decide) ?_
        refine lv_iload_n hx hb dX4_back_52 rfl (lv_at hl 1 rfl) ?_
        refine n_imul hx hb dX4_back_53 ?_
        refine lv_iload_n hx hb dX4_back_54 rfl (lv_at hl 2 rfl) ?_
        refine n_iadd hx hb dX4_back_55 ?_
        refine ml_3 hx hb hK hj hH (by omega) (by omega) dX4_back_56 ?_
        refine ms_2 hx hb hK hj hH (by omega) (by omega) dX4_back_57 (fun H locs hH => ?_)
        refine n_iinc hx hb dX4_back_58 hl (k := 2) rfl (Nat.le_of_ble_eq_true rfl) (lv' := [(2, .int (iI (i + 1))), (0, .ref (G.2.2 0)), (1, .int (iI k))]) rfl (fun ls hl => ?_)
        refine lv_goto (tgt := 33) hx hb dX4_back_61 (by decide) ?_
        have hl : lv_has ls 3 [(0, .ref (G.2.2 0)), (1, .int (iI k)), (2, .int (iI (i + 1)))] := lv_sub hl [1, 2, 0] rfl
        have hH := MH_to hH (τ := sa σ 2 (cpA (σ 2) 0 (i + 1) (fun j => σ 3 (11370 * k + j)))) (st_cp0 (by omega) rfl)
        refine ih_33 (i + 1) ?_ ?_ ?_ ?_ ?_ ?_ _ _ _ hH hl
        · omega
        · omega
        · omega
        · omega
        · omega
        · omega
  refine lv_iload_n hx hb dX4_back_0 rfl (lv_at hl 1 rfl) ?_
  refine n_iconst hx hb dX4_back_1 ?_
  refine n_iconst hx hb dX4_back_2 ?_
  refine m_calliF (m_runS (As := [.int (iI k), .int (iI 0), .int (iI 1)]) (rest := []) S hH hK hj hl.1 (mm_in l G σ k 0 1 _ (r32 (by omega)) (r32 (by omega)) (r32 (by omega))) (lw_S q1569 q1570 q109 q1571) kd_X4_in rfl rfl dX4_back_3) hH hA (fun H locs hH => ?_)
  refine z_if_ne (tgt := 15) hx hb dX4_back_6 (by decide) (fun c_6 => ?_) (fun c_6 => ?_)
  · -- 6T
    refine lv_aload_n hx hb dX4_back_15 rfl (lv_at hl 0 rfl) ?_
    refine m_get 4 (by decide) hx hb hts hown hK hj hH q1477 (fun _ h9 => h9) rfl dX4_back_16 ?_
    refine lv_iload_n hx hb dX4_back_19 rfl (lv_at hl 1 rfl) ?_
    refine ml_4 hx hb hK hj hH (by omega) (by omega) dX4_back_20 ?_
    have hz1 := hz k
    refine n_if_ne (tgt := 31) hx hb (r32 (by omega)) dX4_back_21 (by decide) (fun c_21 => ?_) (fun c_21 => ?_)
    · -- 21T
      refine n_iconst hx hb dX4_back_31 ?_
      refine lv_istore_n hx hb dX4_back_32 rfl hl (Nat.le_of_ble_eq_true rfl) (lv' := [(2, .int (iI 0)), (0, .ref (G.2.2 0)), (1, .int (iI k))]) rfl (fun ls hl => ?_)
      have hl : lv_has ls 3 [(0, .ref (G.2.2 0)), (1, .int (iI k)), (2, .int (iI 0))] := lv_sub hl [1, 2, 0] rfl
      have hH := MH_to hH (τ := sa σ 2 (cpA (σ 2) 0 0 (fun j => σ 3 (11370 * k + j)))) (sa_0.symm)
      refine L33 11371 0 ?_ ?_ ?_ ?_ ?_ ?_ _ _ _ hH hl
      · omega
      · omega
      · omega
      · omega
      · omega
      · omega
    · -- 21F
      refine lv_aload_n hx hb dX4_back_24 rfl (lv_at hl 0 rfl) ?_
      refine n_bipush (z := -2) hx hb dX4_back_25 (by decide) ?_
      refine m_calliF (m_runV (As := [.int (iI (-2))]) (rest := []) S hH hK hj hl.1 (mm_refuses l G σ (-2) _ (by omega) (by omega)) (lw_V q1572 q1574 qs43 q109 q1575) kd_X4_refuses rfl rfl dX4_back_27) hH hA (fun H locs hH => ?_)
      refine m_iret hx hb hr hlk hH dX4_back_30 ?_
      unfold backF
      (repeat' split) <;> first | (exfalso; omega) | rfl
  · -- 6F
    refine lv_aload_n hx hb dX4_back_9 rfl (lv_at hl 0 rfl) ?_
    refine n_iconst hx hb dX4_back_10 ?_
    refine m_calliF (m_runV (As := [.int (iI (-1))]) (rest := []) S hH hK hj hl.1 (mm_refuses l G σ (-1) _ (by omega) (by omega)) (lw_V q1572 q1574 qs43 q109 q1575) kd_X4_refuses rfl rfl dX4_back_11) hH hA (fun H locs hH => ?_)
    refine m_iret hx hb hr hlk hH dX4_back_14 ?_
    unfold backF
    (repeat' split) <;> first | (exfalso; omega) | rfl
theorem kd_X4_kind : yX4_kind.cls = RX4 ∧ yX4_kind.cls ≠ "java/lang/invoke/MethodHandle" ∧ yX4_kind.cls ≠ "java/lang/invoke/VarHandle" ∧ (parseMethodDescriptor yX4_kind.desc).map (fun d => d.parameters.length) = some 6 := by decide +kernel
theorem mm_kind (l : Launch) (G : MG) (σ : St) (a : Int) (b : Int) (c_ : Int) (d_ : Int) (e_ : Int) (f : Int) (sz : Nat) (h_a : R32 a) (h_b : R32 b) (h_c_ : R32 c_) (h_d_ : R32 d_) (h_e_ : R32 e_) (h_f : R32 f) (hI : KI (σ 2)) : Met l yX4_kind (ws_ yX4_kind cX4_kind 10 (some .int)) (rmD 3) (mP G [.ref (G.2.2 0), .int (iI a), .int (iI b), .int (iI c_), .int (iI d_), .int (iI e_), .int (iI f)] σ sz) (mQi G σ sz (fun z σ' => (z, σ') = kindF σ a b c_ d_ e_ f)) 0 0 (mA G σ sz) := by
  refine m_start (by decide) (Nat.le_of_ble_eq_true rfl) ?_
  intro p e s m below meth c ⟨S, hr, hlk, hH, hK, hj, hsz, hnm⟩ ls hl
  subst hsz
  obtain ⟨hx, hb, hml, hown, hts⟩ := S
  have S : CallFix p m c _ _ s _ lw_all RX4 := ⟨hx, hb, hml, hown, hts⟩
  have hA : ∀ q, s.heap.size ≤ q → mA G σ s.heap.size q := fun q hq => Or.inr hq
  have hl : lv_has ls 10 [(0, .ref (G.2.2 0)), (1, .int (iI a)), (2, .int (iI b)), (3, .int (iI c_)), (4, .int (iI d_)), (5, .int (iI e_)), (6, .int (iI f))] := hl
  have b0 := hI.c
  unfold kCnt at b0
  have h_a := R32.n h_a
  have h_b := R32.n h_b
  have h_c_ := R32.n h_c_
  have h_d_ := R32.n h_d_
  have h_e_ := R32.n h_e_
  have h_f := R32.n h_f
  have L167 : ∀ (n : Nat) (i : Int), (h0 : 0 ≤ i) → (h1 : i ≤ 12) → (hn : 12 < (n : Int) + i) → (hg : (0 ≤ a ∧ a ≤ 7) ∧ (1 ≤ b ∧ b ≤ 255) ∧ (0 ≤ c_ ∧ c_ ≤ 63) ∧ (1 ≤ d_ ∧ d_ ≤ 100) ∧ (0 ≤ e_ ∧ e_ ≤ 1) ∧ (0 ≤ f ∧ f ≤ 3)) → (h8 : ¬ σ 2 1752 = 8) → ∀ (H : Heap) (locs : List Loc) (ls : Array Slot), MH G (mA G σ s.heap.size) (sa (kindW σ (σ 2 1752) a b c_ d_ e_ f) 2 (wRow (kindW σ (σ 2 1752) a b c_ d_ e_ f) (σ 2 1752) i)) s.heap H locs → lv_has ls 10 [(0, .ref (G.2.2 0)), (7, .int (iI (σ 2 1752))), (9, .int (iI i))] → W p l e (rmD 3) s m ([.ref (G.2.2 0), .int (iI a), .int (iI b), .int (iI c_), .int (iI d_), .int (iI e_), .int (iI f)] : List Value).toArray below meth c H locs 0 0 (MQ below (mQi G σ s.heap.size (fun z σ' => (z, σ') = kindF σ a b c_ d_ e_ f)) ([.ref (G.2.2 0), .int (iI a), .int (iI b), .int (iI c_), .int (iI d_), .int (iI e_), .int (iI f)] : List Value).toArray s 0 0 (mA G σ s.heap.size)) (F0 m 167 ls []) := by
    intro n
    induction n with
    | zero => intro i h0 h1 hn hg h8; exfalso; omega
    | succ n ih_167 =>
      intro i h0 h1 hn hg h8 H locs ls hH hl
      refine lv_iload hx hb dX4_kind_167 (lv_at hl 2 rfl) ?_
      refine n_bipush (z := 12) hx hb dX4_kind_169 (by decide) ?_
      refine n_icmp_ge (tgt := 197) hx hb (r32 (by omega)) (r32 (by omega)) dX4_kind_171 (by decide) (fun c_171 => ?_) (fun c_171 => ?_)
      · -- 171T
        obtain rfl : i = 12 := by omega
        refine lv_aload_n hx hb dX4_kind_197 rfl (lv_at hl 0 rfl) ?_
        refine m_get 2 (by decide) hx hb hts hown hK hj hH q1475 (fun _ h9 => h9) rfl dX4_kind_198 ?_
        refine n_sipush (z := 1752) hx hb dX4_kind_201 (by decide) ?_
        refine lv_dup2_11 hx hb dX4_kind_204 rfl rfl ?_
        refine ml_2 hx hb hK hj hH (by omega) (by omega) dX4_kind_205 ?_
        refine W.eq (g2 := F0 m 206 ls (.int (iI (σ 2 1752)) :: .int (iI 1752) :: .ref (G.2.2 2) :: [])) (by rw [show sa _ 2 _ 2 1752 = _ from kindR h8 (by omega)]) ?_
        refine n_iconst hx hb dX4_kind_206 ?_
        refine n_iadd hx hb dX4_kind_207 ?_
        refine ms_2 hx hb hK hj hH (by omega) (by omega) dX4_kind_208 (fun H locs hH => ?_)
        refine lv_aload_n hx hb dX4_kind_209 rfl (lv_at hl 0 rfl) ?_
        refine lv_iload hx hb dX4_kind_210 (lv_at hl 1 rfl) ?_
        refine m_calliF (m_runV (As := [.int (iI (σ 2 1752))]) (rest := []) S hH hK hj hl.1 (mm_good l G (st (sa (kindW σ (σ 2 1752) a b c_ d_ e_ f) 2 (wRow (kindW σ (σ 2 1752) a b c_ d_ e_ f) (σ 2 1752) 12)) 2 1752 ((σ 2 1752) + 1)) (σ 2 1752) _ ) (lw_V q1576 q1578 qs44 q109 q1579) kd_X4_good rfl rfl dX4_kind_212) hH hA (fun H locs hH => ?_)
        refine m_iret hx hb hr hlk hH dX4_kind_215 ?_
        unfold kindF
        rw [if_pos hg, if_neg h8]
        all_goals rfl
      · -- 171F
        refine lv_aload_n hx hb dX4_kind_174 rfl (lv_at hl 0 rfl) ?_
        refine m_get 2 (by decide) hx hb hts hown hK hj hH q1475 (fun _ h9 => h9) rfl dX4_kind_175 ?_
        refine n_bipush (z := 40) hx hb dX4_kind_178 (by decide) ?_
        refine n_bipush (z := 8) hx hb dX4_kind_180 (by decide) ?_
        refine lv_iload hx hb dX4_kind_182 (lv_at hl 2 rfl) ?_
        refine n_imul hx hb dX4_kind_184 ?_
        refine n_iadd hx hb dX4_kind_185 ?_
        refine lv_iload hx hb dX4_kind_186 (lv_at hl 1 rfl) ?_
        refine n_iadd hx hb dX4_kind_188 ?_
        refine n_iconst hx hb dX4_kind_189 ?_
        refine ms_2 hx hb hK hj hH (by omega) (by omega) dX4_kind_190 (fun H locs hH => ?_)
        refine n_iinc hx hb dX4_kind_191 hl (k := 2) rfl (Nat.le_of_ble_eq_true rfl) (lv' := [(9, .int (iI (i + 1))), (0, .ref (G.2.2 0)), (7, .int (iI (σ 2 1752)))]) rfl (fun ls hl => ?_)
        refine lv_goto (tgt := 167) hx hb dX4_kind_194 (by decide) ?_
        have hl : lv_has ls 10 [(0, .ref (G.2.2 0)), (7, .int (iI (σ 2 1752))), (9, .int (iI (i + 1)))] := lv_sub hl [1, 2, 0] rfl
        have hH := MH_to hH (τ := sa (kindW σ (σ 2 1752) a b c_ d_ e_ f) 2 (wRow (kindW σ (σ 2 1752) a b c_ d_ e_ f) (σ 2 1752) (i + 1))) (wRow_s (by omega) (by omega) (by omega) (by omega))
        refine ih_167 (i + 1) ?_ ?_ ?_ ?_ ?_ _ _ _ hH hl
        · omega
        · omega
        · omega
        · omega
        · omega
  refine lv_iload_n hx hb dX4_kind_0 rfl (lv_at hl 1 rfl) ?_
  refine n_iconst hx hb dX4_kind_1 ?_
  refine n_bipush (z := 7) hx hb dX4_kind_2 (by decide) ?_
  refine m_calliF (m_runS (As := [.int (iI a), .int (iI 0), .int (iI 7)]) (rest := []) S hH hK hj hl.1 (mm_in l G σ a 0 7 _ (r32 (by omega)) (r32 (by omega)) (r32 (by omega))) (lw_S q1569 q1570 q109 q1571) kd_X4_in rfl rfl dX4_kind_4) hH hA (fun H locs hH => ?_)
  refine z_if_eq (tgt := 62) hx hb dX4_kind_7 (by decide) (fun c_7 => ?_) (fun c_7 => ?_)
  · -- 7T
    refine lv_aload_n hx hb dX4_kind_62 rfl (lv_at hl 0 rfl) ?_
    refine n_iconst hx hb dX4_kind_63 ?_
    refine m_calliF (m_runV (As := [.int (iI (-1))]) (rest := []) S hH hK hj hl.1 (mm_refuses l G σ (-1) _ (by omega) (by omega)) (lw_V q1572 q1574 qs43 q109 q1575) kd_X4_refuses rfl rfl dX4_kind_64) hH hA (fun H locs hH => ?_)
    refine m_iret hx hb hr hlk hH dX4_kind_67 ?_
    unfold kindF
    (repeat' split) <;> first | (exfalso; omega) | rfl
  · -- 7F
    refine lv_iload_n hx hb dX4_kind_10 rfl (lv_at hl 2 rfl) ?_
    refine n_iconst hx hb dX4_kind_11 ?_
    refine n_sipush (z := 255) hx hb dX4_kind_12 (by decide) ?_
    refine m_calliF (m_runS (As := [.int (iI b), .int (iI 1), .int (iI 255)]) (rest := []) S hH hK hj hl.1 (mm_in l G σ b 1 255 _ (r32 (by omega)) (r32 (by omega)) (r32 (by omega))) (lw_S q1569 q1570 q109 q1571) kd_X4_in rfl rfl dX4_kind_15) hH hA (fun H locs hH => ?_)
    refine z_if_eq (tgt := 62) hx hb dX4_kind_18 (by decide) (fun c_18 => ?_) (fun c_18 => ?_)
    · -- 18T
      refine lv_aload_n hx hb dX4_kind_62 rfl (lv_at hl 0 rfl) ?_
      refine n_iconst hx hb dX4_kind_63 ?_
      refine m_calliF (m_runV (As := [.int (iI (-1))]) (rest := []) S hH hK hj hl.1 (mm_refuses l G σ (-1) _ (by omega) (by omega)) (lw_V q1572 q1574 qs43 q109 q1575) kd_X4_refuses rfl rfl dX4_kind_64) hH hA (fun H locs hH => ?_)
      refine m_iret hx hb hr hlk hH dX4_kind_67 ?_
      unfold kindF
      (repeat' split) <;> first | (exfalso; omega) | rfl
    · -- 18F
      refine lv_iload_n hx hb dX4_kind_21 rfl (lv_at hl 3 rfl) ?_
      refine n_iconst hx hb dX4_kind_22 ?_
      refine n_bipush (z := 63) hx hb dX4_kind_23 (by decide) ?_
      refine m_calliF (m_runS (As := [.int (iI c_), .int (iI 0), .int (iI 63)]) (rest := []) S hH hK hj hl.1 (mm_in l G σ c_ 0 63 _ (r32 (by omega)) (r32 (by omega)) (r32 (by omega))) (lw_S q1569 q1570 q109 q1571) kd_X4_in rfl rfl dX4_kind_25) hH hA (fun H locs hH => ?_)
      refine z_if_eq (tgt := 62) hx hb dX4_kind_28 (by decide) (fun c_28 => ?_) (fun c_28 => ?_)
      · -- 28T
        refine lv_aload_n hx hb dX4_kind_62 rfl (lv_at hl 0 rfl) ?_
        refine n_iconst hx hb dX4_kind_63 ?_
        refine m_calliF (m_runV (As := [.int (iI (-1))]) (rest := []) S hH hK hj hl.1 (mm_refuses l G σ (-1) _ (by omega) (by omega)) (lw_V q1572 q1574 qs43 q109 q1575) kd_X4_refuses rfl rfl dX4_kind_64) hH hA (fun H locs hH => ?_)
        refine m_iret hx hb hr hlk hH dX4_kind_67 ?_
        unfold kindF
        (repeat' split) <;> first | (exfalso; omega) | rfl
      · -- 28F
        refine lv_iload hx hb dX4_kind_31 (lv_at hl 4 rfl) ?_
        refine n_iconst hx hb dX4_kind_33 ?_
        refine n_bipush (z := 100) hx hb dX4_kind_34 (by decide) ?_
        refine m_calliF (m_runS (As := [.int (iI d_), .int (iI 1), .int (iI 100)]) (rest := []) S hH hK hj hl.1 (mm_in l G σ d_ 1 100 _ (r32 (by omega)) (r32 (by omega)) (r32 (by omega))) (lw_S q1569 q1570 q109 q1571) kd_X4_in rfl rfl dX4_kind_36) hH hA (fun H locs hH => ?_)
        refine z_if_eq (tgt := 62) hx hb dX4_kind_39 (by decide) (fun c_39 => ?_) (fun c_39 => ?_)
        · -- 39T
          refine lv_aload_n hx hb dX4_kind_62 rfl (lv_at hl 0 rfl) ?_
          refine n_iconst hx hb dX4_kind_63 ?_
          refine m_calliF (m_runV (As := [.int (iI (-1))]) (rest := []) S hH hK hj hl.1 (mm_refuses l G σ (-1) _ (by omega) (by omega)) (lw_V q1572 q1574 qs43 q109 q1575) kd_X4_refuses rfl rfl dX4_kind_64) hH hA (fun H locs hH => ?_)
          refine m_iret hx hb hr hlk hH dX4_kind_67 ?_
          unfold kindF
          (repeat' split) <;> first | (exfalso; omega) | rfl
        · -- 39F
          refine lv_iload hx hb dX4_kind_42 (lv_at hl 5 rfl) ?_
          refine n_iconst hx hb dX4_kind_44 ?_
          refine n_iconst hx hb dX4_kind_45 ?_
          refine m_calliF (m_runS (As := [.int (iI e_), .int (iI 0), .int (iI 1)]) (rest := []) S hH hK hj hl.1 (mm_in l G σ e_ 0 1 _ (r32 (by omega)) (r32 (by omega)) (r32 (by omega))) (lw_S q1569 q1570 q109 q1571) kd_X4_in rfl rfl dX4_kind_46) hH hA (fun H locs hH => ?_)
          refine z_if_eq (tgt := 62) hx hb dX4_kind_49 (by decide) (fun c_49 => ?_) (fun c_49 => ?_)
          · -- 49T
            refine lv_aload_n hx hb dX4_kind_62 rfl (lv_at hl 0 rfl) ?_
            refine n_iconst hx hb dX4_kind_63 ?_
            refine m_calliF (m_runV (As := [.int (iI (-1))]) (rest := []) S hH hK hj hl.1 (mm_refuses l G σ (-1) _ (by omega) (by omega)) (lw_V q1572 q1574 qs43 q109 q1575) kd_X4_refuses rfl rfl dX4_kind_64) hH hA (fun H locs hH => ?_)
            refine m_iret hx hb hr hlk hH dX4_kind_67 ?_
            unfold kindF
            (repeat' split) <;> first | (exfalso; omega) | rfl
          · -- 49F
            refine lv_iload hx hb dX4_kind_52 (lv_at hl 6 rfl) ?_
            refine n_iconst hx hb dX4_kind_54 ?_
            refine n_iconst hx hb dX4_kind_55 ?_
            refine m_calliF (m_runS (As := [.int (iI f), .int (iI 0), .int (iI 3)]) (rest := []) S hH hK hj hl.1 (mm_in l G σ f 0 3 _ (r32 (by omega)) (r32 (by omega)) (r32 (by omega))) (lw_S q1569 q1570 q109 q1571) kd_X4_in rfl rfl dX4_kind_56) hH hA (fun H locs hH => ?_)
            refine z_if_ne (tgt := 68) hx hb dX4_kind_59 (by decide) (fun c_59 => ?_) (fun c_59 => ?_)
            · -- 59T
              refine lv_aload_n hx hb dX4_kind_68 rfl (lv_at hl 0 rfl) ?_
              refine m_get 2 (by decide) hx hb hts hown hK hj hH q1475 (fun _ h9 => h9) rfl dX4_kind_69 ?_
              refine n_sipush (z := 1752) hx hb dX4_kind_72 (by decide) ?_
              refine ml_2 hx hb hK hj hH (by omega) (by omega) dX4_kind_75 ?_
              refine lv_istore hx hb dX4_kind_76 hl (Nat.le_of_ble_eq_true rfl) (lv' := [(7, .int (iI (σ 2 1752))), (0, .ref (G.2.2 0)), (1, .int (iI a)), (2, .int (iI b)), (3, .int (iI c_)), (4, .int (iI d_)), (5, .int (iI e_)), (6, .int (iI f))]) rfl (fun ls hl => ?_)
              refine lv_iload hx hb dX4_kind_78 (lv_at hl 0 rfl) ?_
              refine n_bipush (z := 8) hx hb dX4_kind_80 (by decide) ?_
              refine n_icmp_ne (tgt := 92) hx hb (r32 (by omega)) (r32 (by omega)) dX4_kind_82 (by decide) (fun c_82 => ?_) (fun c_82 => ?_)
              · -- 82T
                refine n_sipush (z := 136) hx hb dX4_kind_92 (by decide) ?_
                refine n_bipush (z := 6) hx hb dX4_kind_95 (by decide) ?_
                refine lv_iload hx hb dX4_kind_97 (lv_at hl 0 rfl) ?_
                refine n_imul hx hb dX4_kind_99 ?_
                refine n_iadd hx hb dX4_kind_100 ?_
                refine lv_istore hx hb dX4_kind_101 hl (Nat.le_of_ble_eq_true rfl) (lv' := [(8, .int (iI (136 + (6 * (σ 2 1752))))), (7, .int (iI (σ 2 1752))), (0, .ref (G.2.2 0)), (1, .int (iI a)), (2, .int (iI b)), (3, .int (iI c_)), (4, .int (iI d_)), (5, .int (iI e_)), (6, .int (iI f))]) rfl (fun ls hl => ?_)
                refine lv_aload_n hx hb dX4_kind_103 rfl (lv_at hl 2 rfl) ?_
                refine m_get 2 (by decide) hx hb hts hown hK hj hH q1475 (fun _ h9 => h9) rfl dX4_kind_104 ?_
                refine lv_iload hx hb dX4_kind_107 (lv_at hl 0 rfl) ?_
                refine lv_iload_n hx hb dX4_kind_109 rfl (lv_at hl 3 rfl) ?_
                refine ms_2 hx hb hK hj hH (by omega) (by omega) dX4_kind_110 (fun H locs hH => ?_)
                refine lv_aload_n hx hb dX4_kind_111 rfl (lv_at hl 2 rfl) ?_
                refine m_get 2 (by decide) hx hb hts hown hK hj hH q1475 (fun _ h9 => h9) rfl dX4_kind_112 ?_
                refine lv_iload hx hb dX4_kind_115 (lv_at hl 0 rfl) ?_
                refine n_iconst hx hb dX4_kind_117 ?_
                refine n_iadd hx hb dX4_kind_118 ?_
                refine lv_iload_n hx hb dX4_kind_119 rfl (lv_at hl 4 rfl) ?_
                refine ms_2 hx hb hK hj hH (by omega) (by omega) dX4_kind_120 (fun H locs hH => ?_)
                refine lv_aload_n hx hb dX4_kind_121 rfl (lv_at hl 2 rfl) ?_
                refine m_get 2 (by decide) hx hb hts hown hK hj hH q1475 (fun _ h9 => h9) rfl dX4_kind_122 ?_
                refine lv_iload hx hb dX4_kind_125 (lv_at hl 0 rfl) ?_
                refine n_iconst hx hb dX4_kind_127 ?_
                refine n_iadd hx hb dX4_kind_128 ?_
                refine lv_iload_n hx hb dX4_kind_129 rfl (lv_at hl 5 rfl) ?_
                refine ms_2 hx hb hK hj hH (by omega) (by omega) dX4_kind_130 (fun H locs hH => ?_)
                refine lv_aload_n hx hb dX4_kind_131 rfl (lv_at hl 2 rfl) ?_
                refine m_get 2 (by decide) hx hb hts hown hK hj hH q1475 (fun _ h9 => h9) rfl dX4_kind_132 ?_
                refine lv_iload hx hb dX4_kind_135 (lv_at hl 0 rfl) ?_
                refine n_iconst hx hb dX4_kind_137 ?_
                refine n_iadd hx hb dX4_kind_138 ?_
                refine lv_iload hx hb dX4_kind_139 (lv_at hl 6 rfl) ?_
                refine ms_2 hx hb hK hj hH (by omega) (by omega) dX4_kind_141 (fun H locs hH => ?_)
                refine lv_aload_n hx hb dX4_kind_142 rfl (lv_at hl 2 rfl) ?_
                refine m_get 2 (by decide) hx hb hts hown hK hj hH q1475 (fun _ h9 => h9) rfl dX4_kind_143 ?_
                refine lv_iload hx hb dX4_kind_146 (lv_at hl 0 rfl) ?_
                refine n_iconst hx hb dX4_kind_148 ?_
                refine n_iadd hx hb dX4_kind_149 ?_
                refine lv_iload hx hb dX4_kind_150 (lv_at hl 7 rfl) ?_
                refine ms_2 hx hb hK hj hH (by omega) (by omega) dX4_kind_152 (fun H locs hH => ?_)
                refine lv_aload_n hx hb dX4_kind_153 rfl (lv_at hl 2 rfl) ?_
                refine m_get 2 (by decide) hx hb hts hown hK hj hH q1475 (fun _ h9 => h9) rfl dX4_kind_154 ?_
                refine lv_iload hx hb dX4_kind_157 (lv_at hl 0 rfl) ?_
                refine n_iconst hx hb dX4_kind_159 ?_
                refine n_iadd hx hb dX4_kind_160 ?_
                refine lv_iload hx hb dX4_kind_161 (lv_at hl 8 rfl) ?_
                refine ms_2 hx hb hK hj hH (by omega) (by omega) dX4_kind_163 (fun H locs hH => ?_)
                refine n_iconst hx hb dX4_kind_164 ?_
                refine lv_istore hx hb dX4_kind_165 hl (Nat.le_of_ble_eq_true rfl) (lv' := [(9, .int (iI 0)), (8, .int (iI (136 + (6 * (σ 2 1752))))), (7, .int (iI (σ 2 1752))), (0, .ref (G.2.2 0)), (1, .int (iI a)), (2, .int (iI b)), (3, .int (iI c_)), (4, .int (iI d_)), (5, .int (iI e_)), (6, .int (iI f))]) rfl (fun ls hl => ?_)
                have hl : lv_has ls 10 [(0, .ref (G.2.2 0)), (7, .int (iI (σ 2 1752))), (9, .int (iI 0))] := lv_sub hl [3, 2, 0] rfl
                have hH := MH_to hH (τ := sa (kindW σ (σ 2 1752) a b c_ d_ e_ f) 2 (wRow (kindW σ (σ 2 1752) a b c_ d_ e_ f) (σ 2 1752) 0)) (wRow_0.symm)
                refine L167 13 0 ?_ ?_ ?_ ?_ ?_ _ _ _ hH hl
                · omega
                · omega
                · omega
                · omega
                · omega
              · -- 82F
                refine lv_aload_n hx hb dX4_kind_85 rfl (lv_at hl 1 rfl) ?_
                refine n_bipush (z := -5) hx hb dX4_kind_86 (by decide) ?_
                refine m_calliF (m_runV (As := [.int (iI (-5))]) (rest := []) S hH hK hj hl.1 (mm_refuses l G σ (-5) _ (by omega) (by omega)) (lw_V q1572 q1574 qs43 q109 q1575) kd_X4_refuses rfl rfl dX4_kind_88) hH hA (fun H locs hH => ?_)
                refine m_iret hx hb hr hlk hH dX4_kind_91 ?_
                unfold kindF
                (repeat' split) <;> first | (exfalso; omega) | rfl
            · -- 59F
              refine lv_aload_n hx hb dX4_kind_62 rfl (lv_at hl 0 rfl) ?_
              refine n_iconst hx hb dX4_kind_63 ?_
              refine m_calliF (m_runV (As := [.int (iI (-1))]) (rest := []) S hH hK hj hl.1 (mm_refuses l G σ (-1) _ (by omega) (by omega)) (lw_V q1572 q1574 qs43 q109 q1575) kd_X4_refuses rfl rfl dX4_kind_64) hH hA (fun H locs hH => ?_)
              refine m_iret hx hb hr hlk hH dX4_kind_67 ?_
              unfold kindF
              (repeat' split) <;> first | (exfalso; omega) | rfl
theorem kd_X4_flask : yX4_flask.cls = RX4 ∧ yX4_flask.cls ≠ "java/lang/invoke/MethodHandle" ∧ yX4_flask.cls ≠ "java/lang/invoke/VarHandle" ∧ (parseMethodDescriptor yX4_flask.desc).map (fun d => d.parameters.length) = some 4 := by decide +kernel
theorem mm_flask (l : Launch) (G : MG) (σ : St) (b : Int) (so : Int) (q : Int) (h : Int) (sz : Nat) (h_b : R32 b) (h_so : R32 so) (h_q : R32 q) (h_h : R32 h) (hI : KI (σ 2)) : Met l yX4_flask (ws_ yX4_flask cX4_flask 7 (some .int)) (rmD 3) (mP G [.ref (G.2.2 0), .int (iI b), .int (iI so), .int (iI q), .int (iI h)] σ sz) (mQi G σ sz (fun z σ' => (z, σ') = flaskF σ b so q h)) 0 0 (mA G σ sz) := by
  refine m_start (by decide) (Nat.le_of_ble_eq_true rfl) ?_
  intro p e s m below meth c ⟨S, hr, hlk, hH, hK, hj, hsz, hnm⟩ ls hl
  subst hsz
  obtain ⟨hx, hb, hml, hown, hts⟩ := S
  have S : CallFix p m c _ _ s _ lw_all RX4 := ⟨hx, hb, hml, hown, hts⟩
  have hA : ∀ q, s.heap.size ≤ q → mA G σ s.heap.size q := fun q hq => Or.inr hq
  have hl : lv_has ls 7 [(0, .ref (G.2.2 0)), (1, .int (iI b)), (2, .int (iI so)), (3, .int (iI q)), (4, .int (iI h))] := hl
  have b0 := hI.c
  unfold kCnt at b0
  have h_b := R32.n h_b
  have h_so := R32.n h_so
  have h_q := R32.n h_q
  have h_h := R32.n h_h
  have L71 : ∀ (n : Nat) (i : Int), (h0 : 0 ≤ i) → (h1 : i ≤ 26) → (hn : 26 < (n : Int) + i) → (hg : (0 ≤ b ∧ b ≤ 5) ∧ (0 ≤ so ∧ so ≤ 5) ∧ (0 ≤ q ∧ q ≤ 11) ∧ (0 ≤ h ∧ h ≤ 3)) → (h8 : ¬ σ 2 1753 = 40) → ∀ (H : Heap) (locs : List Loc) (ls : Array Slot), MH G (mA G σ s.heap.size) (sa σ 2 (cpA (σ 2) (184 + 26 * σ 2 1753) i (fun _ => 0))) s.heap H locs → lv_has ls 7 [(0, .ref (G.2.2 0)), (1, .int (iI b)), (2, .int (iI so)), (3, .int (iI q)), (4, .int (iI h)), (5, .int (iI (σ 2 1753))), (6, .int (iI i))] → W p l e (rmD 3) s m ([.ref (G.2.2 0), .int (iI b), .int (iI so), .int (iI q), .int (iI h)] : List Value).toArray below meth c H locs 0 0 (MQ below (mQi G σ s.heap.size (fun z σ' => (z, σ') = flaskF σ b so q h)) ([.ref (G.2.2 0), .int (iI b), .int (iI so), .int (iI q), .int (iI h)] : List Value).toArray s 0 0 (mA G σ s.heap.size)) (F0 m 71 ls []) := by
    intro n
    induction n with
    | zero => intro i h0 h1 hn hg h8; exfalso; omega
    | succ n ih_71 =>
      intro i h0 h1 hn hg h8 H locs ls hH hl
      refine lv_iload hx hb dX4_flask_71 (lv_at hl 6 rfl) ?_
      refine n_bipush (z := 26) hx hb dX4_flask_73 (by decide) ?_
      refine n_icmp_ge (tgt := 93) hx hb (r32 (by omega)) (r32 (by omega)) dX4_flask_75 (by decide) (fun c_75 => ?_) (fun c_75 => ?_)
      · -- 75T
        obtain rfl : i = 26 := by omega
        refine lv_aload_n hx hb dX4_flask_93 rfl (lv_at hl 0 rfl) ?_
        refine lv_iload hx hb dX4_flask_94 (lv_at hl 5 rfl) ?_
        refine n_iconst hx hb dX4_flask_96 ?_
        refine lv_iload_n hx hb dX4_flask_97 rfl (lv_at hl 1 rfl) ?_
        refine m_callvF (m_runV (As := [.int (iI (σ 2 1753)), .int (iI 0), .int (iI b)]) (rest := []) S hH hK hj hl.1 (mm_sets l G (sa σ 2 (cpA (σ 2) (184 + 26 * σ 2 1753) 26 (fun _ => 0))) (σ 2 1753) 0 b _ (by omega) (by omega) (by omega) (by omega)) (lw_V q1613 q1615 qs46 q109 q1616) kd_X4_sets rfl rfl dX4_flask_98) hH hA (fun H locs hH => ?_)
        refine lv_aload_n hx hb dX4_flask_101 rfl (lv_at hl 0 rfl) ?_
        refine lv_iload hx hb dX4_flask_102 (lv_at hl 5 rfl) ?_
        refine n_iconst hx hb dX4_flask_104 ?_
        refine lv_iload_n hx hb dX4_flask_105 rfl (lv_at hl 2 rfl) ?_
        refine m_callvF (m_runV (As := [.int (iI (σ 2 1753)), .int (iI 1), .int (iI so)]) (rest := []) S hH hK hj hl.1 (mm_sets l G (st (sa σ 2 (cpA (σ 2) (184 + 26 * σ 2 1753) 26 (fun _ => 0))) 2 (184 + 26 * (σ 2 1753) + 0) b) (σ 2 1753) 1 so _ (by omega) (by omega) (by omega) (by omega)) (lw_V q1613 q1615 qs46 q109 q1616) kd_X4_sets rfl rfl dX4_flask_106) hH hA (fun H locs hH => ?_)
        refine lv_aload_n hx hb dX4_flask_109 rfl (lv_at hl 0 rfl) ?_
        refine lv_iload hx hb dX4_flask_110 (lv_at hl 5 rfl) ?_
        refine n_iconst hx hb dX4_flask_112 ?_
        refine lv_aload_n hx hb dX4_flask_113 rfl (lv_at hl 0 rfl) ?_
        refine m_get 2 (by decide) hx hb hts hown hK hj hH q1475 (fun _ h9 => h9) rfl dX4_flask_114 ?_
        refine n_sipush (z := 1750) hx hb dX4_flask_117 (by decide) ?_
        refine ml_2 hx hb hK hj hH (by omega) (by omega) dX4_flask_120 ?_
        refine W.eq (g2 := F0 m 121 ls (.int (iI (σ 2 1750)) :: .int (iI 4) :: .int (iI (σ 2 1753)) :: .ref (G.2.2 0) :: [])) (by rw [st_i (by omega), st_i (by omega), sa_s, cpA_out (by omega)]) ?_
        refine m_callvF (m_runV (As := [.int (iI (σ 2 1753)), .int (iI 4), .int (iI (σ 2 1750))]) (rest := []) S hH hK hj hl.1 (mm_sets l G (st (st (sa σ 2 (cpA (σ 2) (184 + 26 * σ 2 1753) 26 (fun _ => 0))) 2 (184 + 26 * (σ 2 1753) + 0) b) 2 (184 + 26 * (σ 2 1753) + 1) so) (σ 2 1753) 4 (σ 2 1750) _ (by omega) (by omega) (by omega) (by omega)) (lw_V q1613 q1615 qs46 q109 q1616) kd_X4_sets rfl rfl dX4_flask_121) hH hA (fun H locs hH => ?_)
        refine lv_aload_n hx hb dX4_flask_124 rfl (lv_at hl 0 rfl) ?_
        refine lv_iload hx hb dX4_flask_125 (lv_at hl 5 rfl) ?_
        refine n_iconst hx hb dX4_flask_127 ?_
        refine lv_iload_n hx hb dX4_flask_128 rfl (lv_at hl 3 rfl) ?_
        refine m_callvF (m_runV (As := [.int (iI (σ 2 1753)), .int (iI 5), .int (iI q)]) (rest := []) S hH hK hj hl.1 (mm_sets l G (st (st (st (sa σ 2 (cpA (σ 2) (184 + 26 * σ 2 1753) 26 (fun _ => 0))) 2 (184 + 26 * (σ 2 1753) + 0) b) 2 (184 + 26 * (σ 2 1753) + 1) so) 2 (184 + 26 * (σ 2 1753) + 4) (σ 2 1750)) (σ 2 1753) 5 q _ (by omega) (by omega) (by omega) (by omega)) (lw_V q1613 q1615 qs46 q109 q1616) kd_X4_sets rfl rfl dX4_flask_129) hH hA (fun H locs hH => ?_)
        refine lv_aload_n hx hb dX4_flask_132 rfl (lv_at hl 0 rfl) ?_
        refine lv_iload hx hb dX4_flask_133 (lv_at hl 5 rfl) ?_
        refine n_bipush (z := 8) hx hb dX4_flask_135 (by decide) ?_
        refine lv_iload hx hb dX4_flask_137 (lv_at hl 4 rfl) ?_
        refine m_callvF (m_runV (As := [.int (iI (σ 2 1753)), .int (iI 8), .int (iI h)]) (rest := []) S hH hK hj hl.1 (mm_sets l G (st (st (st (st (sa σ 2 (cpA (σ 2) (184 + 26 * σ 2 1753) 26 (fun _ => 0))) 2 (184 + 26 * (σ 2 1753) + 0) b) 2 (184 + 26 * (σ 2 1753) + 1) so) 2 (184 + 26 * (σ 2 1753) + 4) (σ 2 1750)) 2 (184 + 26 * (σ 2 1753) + 5) q) (σ 2 1753) 8 h _ (by omega) (by omega) (by omega) (by omega)) (lw_V q1613 q1615 qs46 q109 q1616) kd_X4_sets rfl rfl dX4_flask_139) hH hA (fun H locs hH => ?_)
        refine lv_aload_n hx hb dX4_flask_142 rfl (lv_at hl 0 rfl) ?_
        refine lv_iload hx hb dX4_flask_143 (lv_at hl 5 rfl) ?_
        refine n_bipush (z := 9) hx hb dX4_flask_145 (by decide) ?_
        refine lv_aload_n hx hb dX4_flask_147 rfl (lv_at hl 0 rfl) ?_
        refine m_get 2 (by decide) hx hb hts hown hK hj hH q1475 (fun _ h9 => h9) rfl dX4_flask_148 ?_
        refine n_sipush (z := 1750) hx hb dX4_flask_151 (by decide) ?_
        refine ml_2 hx hb hK hj hH (by omega) (by omega) dX4_flask_154 ?_
        refine W.eq (g2 := F0 m 155 ls (.int (iI (σ 2 1750)) :: .int (iI 9) :: .int (iI (σ 2 1753)) :: .ref (G.2.2 0) :: [])) (by rw [st_i (by omega), st_i (by omega), st_i (by omega), st_i (by omega), st_i (by omega), sa_s, cpA_out (by omega)]) ?_
        refine m_callvF (m_runV (As := [.int (iI (σ 2 1753)), .int (iI 9), .int (iI (σ 2 1750))]) (rest := []) S hH hK hj hl.1 (mm_sets l G (st (st (st (st (st (sa σ 2 (cpA (σ 2) (184 + 26 * σ 2 1753) 26 (fun _ => 0))) 2 (184 + 26 * (σ 2 1753) + 0) b) 2 (184 + 26 * (σ 2 1753) + 1) so) 2 (184 + 26 * (σ 2 1753) + 4) (σ 2 1750)) 2 (184 + 26 * (σ 2 1753) + 5) q) 2 (184 + 26 * (σ 2 1753) + 8) h) (σ 2 1753) 9 (σ 2 1750) _ (by omega) (by omega) (by omega) (by omega)) (lw_V q1613 q1615 qs46 q109 q1616) kd_X4_sets rfl rfl dX4_flask_155) hH hA (fun H locs hH => ?_)
        refine lv_aload_n hx hb dX4_flask_158 rfl (lv_at hl 0 rfl) ?_
        refine lv_iload hx hb dX4_flask_159 (lv_at hl 5 rfl) ?_
        refine n_bipush (z := 10) hx hb dX4_flask_161 (by decide) ?_
        refine n_iconst hx hb dX4_flask_163 ?_
        refine m_callvF (m_runV (As := [.int (iI (σ 2 1753)), .int (iI 10), .int (iI (-1))]) (rest := []) S hH hK hj hl.1 (mm_sets l G (st (st (st (st (st (st (sa σ 2 (cpA (σ 2) (184 + 26 * σ 2 1753) 26 (fun _ => 0))) 2 (184 + 26 * (σ 2 1753) + 0) b) 2 (184 + 26 * (σ 2 1753) + 1) so) 2 (184 + 26 * (σ 2 1753) + 4) (σ 2 1750)) 2 (184 + 26 * (σ 2 1753) + 5) q) 2 (184 + 26 * (σ 2 1753) + 8) h) 2 (184 + 26 * (σ 2 1753) + 9) (σ 2 1750)) (σ 2 1753) 10 (-1) _ (by omega) (by omega) (by omega) (by omega)) (lw_V q1613 q1615 qs46 q109 q1616) kd_X4_sets rfl rfl dX4_flask_164) hH hA (fun H locs hH => ?_)
        refine lv_aload_n hx hb dX4_flask_167 rfl (lv_at hl 0 rfl) ?_
        refine lv_iload hx hb dX4_flask_168 (lv_at hl 5 rfl) ?_
        refine n_bipush (z := 12) hx hb dX4_flask_170 (by decide) ?_
        refine n_iconst hx hb dX4_flask_172 ?_
        refine m_callvF (m_runV (As := [.int (iI (σ 2 1753)), .int (iI 12), .int (iI (-1))]) (rest := []) S hH hK hj hl.1 (mm_sets l G (st (st (st (st (st (st (st (sa σ 2 (cpA (σ 2) (184 + 26 * σ 2 1753) 26 (fun _ => 0))) 2 (184 + 26 * (σ 2 1753) + 0) b) 2 (184 + 26 * (σ 2 1753) + 1) so) 2 (184 + 26 * (σ 2 1753) + 4) (σ 2 1750)) 2 (184 + 26 * (σ 2 1753) + 5) q) 2 (184 + 26 * (σ 2 1753) + 8) h) 2 (184 + 26 * (σ 2 1753) + 9) (σ 2 1750)) 2 (184 + 26 * (σ 2 1753) + 10) (-1)) (σ 2 1753) 12 (-1) _ (by omega) (by omega) (by omega) (by omega)) (lw_V q1613 q1615 qs46 q109 q1616) kd_X4_sets rfl rfl dX4_flask_173) hH hA (fun H locs hH => ?_)
        refine lv_aload_n hx hb dX4_flask_176 rfl (lv_at hl 0 rfl) ?_
        refine lv_iload hx hb dX4_flask_177 (lv_at hl 5 rfl) ?_
        refine n_bipush (z := 14) hx hb dX4_flask_179 (by decide) ?_
        refine n_iconst hx hb dX4_flask_181 ?_
        refine m_callvF (m_runV (As := [.int (iI (σ 2 1753)), .int (iI 14), .int (iI (-1))]) (rest := []) S hH hK hj hl.1 (mm_sets l G (st (st (st (st (st (st (st (st (sa σ 2 (cpA (σ 2) (184 + 26 * σ 2 1753) 26 (fun _ => 0))) 2 (184 + 26 * (σ 2 1753) + 0) b) 2 (184 + 26 * (σ 2 1753) + 1) so) 2 (184 + 26 * (σ 2 1753) + 4) (σ 2 1750)) 2 (184 + 26 * (σ 2 1753) + 5) q) 2 (184 + 26 * (σ 2 1753) + 8) h) 2 (184 + 26 * (σ 2 1753) + 9) (σ 2 1750)) 2 (184 + 26 * (σ 2 1753) + 10) (-1)) 2 (184 + 26 * (σ 2 1753) + 12) (-1)) (σ 2 1753) 14 (-1) _ (by omega) (by omega) (by omega) (by omega)) (lw_V q1613 q1615 qs46 q109 q1616) kd_X4_sets rfl rfl dX4_flask_182) hH hA (fun H locs hH => ?_)
        refine lv_aload_n hx hb dX4_flask_185 rfl (lv_at hl 0 rfl) ?_
        refine lv_iload hx hb dX4_flask_186 (lv_at hl 5 rfl) ?_
        refine n_bipush (z := 15) hx hb dX4_flask_188 (by decide) ?_
        refine n_iconst hx hb dX4_flask_190 ?_
        refine m_callvF (m_runV (As := [.int (iI (σ 2 1753)), .int (iI 15), .int (iI (-1))]) (rest := []) S hH hK hj hl.1 (mm_sets l G (st (st (st (st (st (st (st (st (st (sa σ 2 (cpA (σ 2) (184 + 26 * σ 2 1753) 26 (fun _ => 0))) 2 (184 + 26 * (σ 2 1753) + 0) b) 2 (184 + 26 * (σ 2 1753) + 1) so) 2 (184 + 26 * (σ 2 1753) + 4) (σ 2 1750)) 2 (184 + 26 * (σ 2 1753) + 5) q) 2 (184 + 26 * (σ 2 1753) + 8) h) 2 (184 + 26 * (σ 2 1753) + 9) (σ 2 1750)) 2 (184 + 26 * (σ 2 1753) + 10) (-1)) 2 (184 + 26 * (σ 2 1753) + 12) (-1)) 2 (184 + 26 * (σ 2 1753) + 14) (-1)) (σ 2 1753) 15 (-1) _ (by omega) (by omega) (by omega) (by omega)) (lw_V q1613 q1615 qs46 q109 q1616) kd_X4_sets rfl rfl dX4_flask_191) hH hA (fun H locs hH => ?_)
        refine lv_aload_n hx hb dX4_flask_194 rfl (lv_at hl 0 rfl) ?_
        refine m_get 2 (by decide) hx hb hts hown hK hj hH q1475 (fun _ h9 => h9) rfl dX4_flask_195 ?_
        refine n_sipush (z := 1753) hx hb dX4_flask_198 (by decide) ?_
        refine lv_dup2_11 hx hb dX4_flask_201 rfl rfl ?_
        refine ml_2 hx hb hK hj hH (by omega) (by omega) dX4_flask_202 ?_
        refine W.eq (g2 := F0 m 203 ls (.int (iI (σ 2 1753)) :: .int (iI 1753) :: .ref (G.2.2 2) :: [])) (by rw [st_i (by omega), st_i (by omega), st_i (by omega), st_i (by omega), st_i (by omega), st_i (by omega), st_i (by omega), st_i (by omega), st_i (by omega), st_i (by omega), sa_s, cpA_out (by omega)]) ?_
        refine n_iconst hx hb dX4_flask_203 ?_
        refine n_iadd hx hb dX4_flask_204 ?_
        refine ms_2 hx hb hK hj hH (by omega) (by omega) dX4_flask_205 (fun H locs hH => ?_)
        refine lv_aload_n hx hb dX4_flask_206 rfl (lv_at hl 0 rfl) ?_
        refine lv_iload hx hb dX4_flask_207 (lv_at hl 5 rfl) ?_
        refine m_calliF (m_runV (As := [.int (iI (σ 2 1753))]) (rest := []) S hH hK hj hl.1 (mm_good l G (st (st (st (st (st (st (st (st (st (st (st (sa σ 2 (cpA (σ 2) (184 + 26 * σ 2 1753) 26 (fun _ => 0))) 2 (184 + 26 * (σ 2 1753) + 0) b) 2 (184 + 26 * (σ 2 1753) + 1) so) 2 (184 + 26 * (σ 2 1753) + 4) (σ 2 1750)) 2 (184 + 26 * (σ 2 1753) + 5) q) 2 (184 + 26 * (σ 2 1753) + 8) h) 2 (184 + 26 * (σ 2 1753) + 9) (σ 2 1750)) 2 (184 + 26 * (σ 2 1753) + 10) (-1)) 2 (184 + 26 * (σ 2 1753) + 12) (-1)) 2 (184 + 26 * (σ 2 1753) + 14) (-1)) 2 (184 + 26 * (σ 2 1753) + 15) (-1)) 2 1753 ((σ 2 1753) + 1)) (σ 2 1753) _ ) (lw_V q1576 q1578 qs44 q109 q1579) kd_X4_good rfl rfl dX4_flask_209) hH hA (fun H locs hH => ?_)
        refine m_iret hx hb hr hlk hH dX4_flask_212 ?_
        unfold flaskF
        rw [if_pos hg, if_neg h8]
        all_goals rfl
      · -- 75F
        refine lv_aload_n hx hb dX4_flask_78 rfl (lv_at hl 0 rfl) ?_
        refine lv_iload hx hb dX4_flask_79 (lv_at hl 5 rfl) ?_
        refine lv_iload hx hb dX4_flask_81 (lv_at hl 6 rfl) ?_
        refine n_iconst hx hb dX4_flask_83 ?_
        refine m_callvF (m_runV (As := [.int (iI (σ 2 1753)), .int (iI i), .int (iI 0)]) (rest := []) S hH hK hj hl.1 (mm_sets l G (sa σ 2 (cpA (σ 2) (184 + 26 * σ 2 1753) i (fun _ => 0))) (σ 2 1753) i 0 _ (by omega) (by omega) (by omega) (by omega)) (lw_V q1613 q1615 qs46 q109 q1616) kd_X4_sets rfl rfl dX4_flask_84) hH hA (fun H locs hH => ?_)
        refine n_iinc hx hb dX4_flask_87 hl (k := 6) rfl (Nat.le_of_ble_eq_true rfl) (lv' := [(6, .int (iI (i + 1))), (0, .ref (G.2.2 0)), (1, .int (iI b)), (2, .int (iI so)), (3, .int (iI q)), (4, .int (iI h)), (5, .int (iI (σ 2 1753)))]) rfl (fun ls hl => ?_)
        refine lv_goto (tgt := 71) hx hb dX4_flask_90 (by decide) ?_
        have hl : lv_has ls 7 [(0, .ref (G.2.2 0)), (1, .int (iI b)), (2, .int (iI so)), (3, .int (iI q)), (4, .int (iI h)), (5, .int (iI (σ 2 1753))), (6, .int (iI (i + 1)))] := lv_sub hl [1, 2, 3, 4, 5, 6, 0] rfl
        have hH := MH_to hH (τ := sa σ 2 (cpA (σ 2) (184 + 26 * σ 2 1753) (i + 1) (fun _ => 0))) (st_cp (by omega) rfl)
        refine ih_71 (i + 1) ?_ ?_ ?_ ?_ ?_ _ _ _ hH hl
        · omega
        · omega
        · omega
        · omega
        · omega
  refine lv_iload_n hx hb dX4_flask_0 rfl (lv_at hl 1 rfl) ?_
  refine n_iconst hx hb dX4_flask_1 ?_
  refine n_iconst hx hb dX4_flask_2 ?_
  refine m_calliF (m_runS (As := [.int (iI b), .int (iI 0), .int (iI 5)]) (rest := []) S hH hK hj hl.1 (mm_in l G σ b 0 5 _ (r32 (by omega)) (r32 (by omega)) (r32 (by omega))) (lw_S q1569 q1570 q109 q1571) kd_X4_in rfl rfl dX4_flask_3) hH hA (fun H locs hH => ?_)
  refine z_if_eq (tgt := 38) hx hb dX4_flask_6 (by decide) (fun c_6 => ?_) (fun c_6 => ?_)
  · -- 6T
    refine lv_aload_n hx hb dX4_flask_38 rfl (lv_at hl 0 rfl) ?_
    refine n_iconst hx hb dX4_flask_39 ?_
    refine m_calliF (m_runV (As := [.int (iI (-1))]) (rest := []) S hH hK hj hl.1 (mm_refuses l G σ (-1) _ (by omega) (by omega)) (lw_V q1572 q1574 qs43 q109 q1575) kd_X4_refuses rfl rfl dX4_flask_40) hH hA (fun H locs hH => ?_)
    refine m_iret hx hb hr hlk hH dX4_flask_43 ?_
    unfold flaskF
    (repeat' split) <;> first | (exfalso; omega) | rfl
  · -- 6F
    refine lv_iload_n hx hb dX4_flask_9 rfl (lv_at hl 2 rfl) ?_
    refine n_iconst hx hb dX4_flask_10 ?_
    refine n_iconst hx hb dX4_flask_11 ?_
    refine m_calliF (m_runS (As := [.int (iI so), .int (iI 0), .int (iI 5)]) (rest := []) S hH hK hj hl.1 (mm_in l G σ so 0 5 _ (r32 (by omega)) (r32 (by omega)) (r32 (by omega))) (lw_S q1569 q1570 q109 q1571) kd_X4_in rfl rfl dX4_flask_12) hH hA (fun H locs hH => ?_)
    refine z_if_eq (tgt := 38) hx hb dX4_flask_15 (by decide) (fun c_15 => ?_) (fun c_15 => ?_)
    · -- 15T
      refine lv_aload_n hx hb dX4_flask_38 rfl (lv_at hl 0 rfl) ?_
      refine n_iconst hx hb dX4_flask_39 ?_
      refine m_calliF (m_runV (As := [.int (iI (-1))]) (rest := []) S hH hK hj hl.1 (mm_refuses l G σ (-1) _ (by omega) (by omega)) (lw_V q1572 q1574 qs43 q109 q1575) kd_X4_refuses rfl rfl dX4_flask_40) hH hA (fun H locs hH => ?_)
      refine m_iret hx hb hr hlk hH dX4_flask_43 ?_
      unfold flaskF
      (repeat' split) <;> first | (exfalso; omega) | rfl
    · -- 15F
      refine lv_iload_n hx hb dX4_flask_18 rfl (lv_at hl 3 rfl) ?_
      refine n_iconst hx hb dX4_flask_19 ?_
      refine n_bipush (z := 11) hx hb dX4_flask_20 (by decide) ?_
      refine m_calliF (m_runS (As := [.int (iI q), .int (iI 0), .int (iI 11)]) (rest := []) S hH hK hj hl.1 (mm_in l G σ q 0 11 _ (r32 (by omega)) (r32 (by omega)) (r32 (by omega))) (lw_S q1569 q1570 q109 q1571) kd_X4_in rfl rfl dX4_flask_22) hH hA (fun H locs hH => ?_)
      refine z_if_eq (tgt := 38) hx hb dX4_flask_25 (by decide) (fun c_25 => ?_) (fun c_25 => ?_)
      · -- 25T
        refine lv_aload_n hx hb dX4_flask_38 rfl (lv_at hl 0 rfl) ?_
        refine n_iconst hx hb dX4_flask_39 ?_
        refine m_calliF (m_runV (As := [.int (iI (-1))]) (rest := []) S hH hK hj hl.1 (mm_refuses l G σ (-1) _ (by omega) (by omega)) (lw_V q1572 q1574 qs43 q109 q1575) kd_X4_refuses rfl rfl dX4_flask_40) hH hA (fun H locs hH => ?_)
        refine m_iret hx hb hr hlk hH dX4_flask_43 ?_
        unfold flaskF
        (repeat' split) <;> first | (exfalso; omega) | rfl
      · -- 25F
        refine lv_iload hx hb dX4_flask_28 (lv_at hl 4 rfl) ?_
        refine n_iconst hx hb dX4_flask_30 ?_
        refine n_iconst hx hb dX4_flask_31 ?_
        refine m_calliF (m_runS (As := [.int (iI h), .int (iI 0), .int (iI 3)]) (rest := []) S hH hK hj hl.1 (mm_in l G σ h 0 3 _ (r32 (by omega)) (r32 (by omega)) (r32 (by omega))) (lw_S q1569 q1570 q109 q1571) kd_X4_in rfl rfl dX4_flask_32) hH hA (fun H locs hH => ?_)
        refine z_if_ne (tgt := 44) hx hb dX4_flask_35 (by decide) (fun c_35 => ?_) (fun c_35 => ?_)
        · -- 35T
          refine lv_aload_n hx hb dX4_flask_44 rfl (lv_at hl 0 rfl) ?_
          refine m_get 2 (by decide) hx hb hts hown hK hj hH q1475 (fun _ h9 => h9) rfl dX4_flask_45 ?_
          refine n_sipush (z := 1753) hx hb dX4_flask_48 (by decide) ?_
          refine ml_2 hx hb hK hj hH (by omega) (by omega) dX4_flask_51 ?_
          refine lv_istore hx hb dX4_flask_52 hl (Nat.le_of_ble_eq_true rfl) (lv' := [(5, .int (iI (σ 2 1753))), (0, .ref (G.2.2 0)), (1, .int (iI b)), (2, .int (iI so)), (3, .int (iI q)), (4, .int (iI h))]) rfl (fun ls hl => ?_)
          refine lv_iload hx hb dX4_flask_54 (lv_at hl 0 rfl) ?_
          refine n_bipush (z := 40) hx hb dX4_flask_56 (by decide) ?_
          refine n_icmp_ne (tgt := 68) hx hb (r32 (by omega)) (r32 (by omega)) dX4_flask_58 (by decide) (fun c_58 => ?_) (fun c_58 => ?_)
          · -- 58T
            refine n_iconst hx hb dX4_flask_68 ?_
            refine lv_istore hx hb dX4_flask_69 hl (Nat.le_of_ble_eq_true rfl) (lv' := [(6, .int (iI 0)), (5, .int (iI (σ 2 1753))), (0, .ref (G.2.2 0)), (1, .int (iI b)), (2, .int (iI so)), (3, .int (iI q)), (4, .int (iI h))]) rfl (fun ls hl => ?_)
            have hl : lv_has ls 7 [(0, .ref (G.2.2 0)), (1, .int (iI b)), (2, .int (iI so)), (3, .int (iI q)), (4, .int (iI h)), (5, .int (iI (σ 2 1753))), (6, .int (iI 0))] := lv_sub hl [2, 3, 4, 5, 6, 1, 0] rfl
            have hH := MH_to hH (τ := sa σ 2 (cpA (σ 2) (184 + 26 * σ 2 1753) 0 (fun _ => 0))) (sa_0.symm)
            refine L71 27 0 ?_ ?_ ?_ ?_ ?_ _ _ _ hH hl
            · omega
            · omega
            · omega
            · omega
            · omega
          · -- 58F
            refine lv_aload_n hx hb dX4_flask_61 rfl (lv_at hl 1 rfl) ?_
            refine n_bipush (z := -5) hx hb dX4_flask_62 (by decide) ?_
            refine m_calliF (m_runV (As := [.int (iI (-5))]) (rest := []) S hH hK hj hl.1 (mm_refuses l G σ (-5) _ (by omega) (by omega)) (lw_V q1572 q1574 qs43 q109 q1575) kd_X4_refuses rfl rfl dX4_flask_64) hH hA (fun H locs hH => ?_)
            refine m_iret hx hb hr hlk hH dX4_flask_67 ?_
            unfold flaskF
            (repeat' split) <;> first | (exfalso; omega) | rfl
        · -- 35F
          refine lv_aload_n hx hb dX4_flask_38 rfl (lv_at hl 0 rfl) ?_
          refine n_iconst hx hb dX4_flask_39 ?_
          refine m_calliF (m_runV (As := [.int (iI (-1))]) (rest := []) S hH hK hj hl.1 (mm_refuses l G σ (-1) _ (by omega) (by omega)) (lw_V q1572 q1574 qs43 q109 q1575) kd_X4_refuses rfl rfl dX4_flask_40) hH hA (fun H locs hH => ?_)
          refine m_iret hx hb hr hlk hH dX4_flask_43 ?_
          unfold flaskF
          (repeat' split) <;> first | (exfalso; omega) | rfl
