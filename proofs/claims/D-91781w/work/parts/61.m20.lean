theorem kd_X4_near : yX4_near.cls = RX4 ∧ yX4_near.cls ≠ "java/lang/invoke/MethodHandle" ∧ yX4_near.cls ≠ "java/lang/invoke/VarHandle" ∧ (parseMethodDescriptor yX4_near.desc).map (fun d => d.parameters.length) = some 2 := by decide +kernel
theorem mm_near (l : Launch) (G : MG) (σ : St) (v : Int) (most : Int) (sz : Nat) (hv : R64 v) (h_most : R32 most) : Met l yX4_near (ws_ yX4_near cX4_near 3 (some .int)) (rmD 1) (mP G [.long (lI v), .int (iI most)] σ sz) (mQi G σ sz (fun z σ' => z = (if v < 0 then 0 else if most < v then most else v) ∧ σ' = σ)) 0 0 (mA G σ sz) := by
  refine m_start (by decide) (Nat.le_of_ble_eq_true rfl) ?_
  intro p e s m below meth c ⟨S, hr, hlk, hH, hK, hj, hsz, hnm⟩ ls hl
  subst hsz
  obtain ⟨hx, hb, hml, hown, hts⟩ := S
  have S : CallFix p m c _ _ s _ lw_all RX4 := ⟨hx, hb, hml, hown, hts⟩
  have hA : ∀ q, s.heap.size ≤ q → mA G σ s.heap.size q := fun q hq => Or.inr hq
  have hl : lv_has ls 3 [(0, .long (lI v)), (2, .int (iI most))] := hl
  have h_most := R32.n h_most
  refine lv_lload_n hx hb dX4_near_0 rfl (lv_at hl 0 rfl) ?_
  refine n_lconst (z := 0) hx hb dX4_near_1 (by decide) ?_
  refine n_lcmp_ge (tgt := 10) hx hb hv (r64 (by omega)) dX4_near_2 dX4_near_3 (by decide) (fun c_2 => ?_) (fun c_2 => ?_)
  · -- 2T
    refine lv_lload_n hx hb dX4_near_10 rfl (lv_at hl 0 rfl) ?_
    refine lv_iload_n hx hb dX4_near_11 rfl (lv_at hl 1 rfl) ?_
    refine n_i2l hx hb (r32 (by omega)) dX4_near_12 ?_
    refine n_lcmp_le (tgt := 21) hx hb hv (r64 (by omega)) dX4_near_13 dX4_near_14 (by decide) (fun c_13 => ?_) (fun c_13 => ?_)
    · -- 13T
      refine lv_lload_n hx hb dX4_near_21 rfl (lv_at hl 0 rfl) ?_
      refine n_l2i hx hb dX4_near_22 ?_
      refine m_iret hx hb hr hlk hH dX4_near_23 ?_
      refine ⟨?_, rfl⟩
      (repeat' split) <;> first | (exfalso; omega) | rfl
    · -- 13F
      refine lv_iload_n hx hb dX4_near_17 rfl (lv_at hl 1 rfl) ?_
      refine lv_goto (tgt := 23) hx hb dX4_near_18 (by decide) ?_
      refine m_iret hx hb hr hlk hH dX4_near_23 ?_
      refine ⟨?_, rfl⟩
      (repeat' split) <;> first | (exfalso; omega) | rfl
  · -- 2F
    refine n_iconst hx hb dX4_near_6 ?_
    refine lv_goto (tgt := 23) hx hb dX4_near_7 (by decide) ?_
    refine m_iret hx hb hr hlk hH dX4_near_23 ?_
    refine ⟨?_, rfl⟩
    (repeat' split) <;> first | (exfalso; omega) | rfl
theorem kd_X4_power : yX4_power.cls = RX4 ∧ yX4_power.cls ≠ "java/lang/invoke/MethodHandle" ∧ yX4_power.cls ≠ "java/lang/invoke/VarHandle" ∧ (parseMethodDescriptor yX4_power.desc).map (fun d => d.parameters.length) = some 2 := by decide +kernel
theorem mm_power (l : Launch) (G : MG) (σ : St) (b : Int) (n_ : Int) (sz : Nat) (h_b : R32 b) (h_n_ : R32 n_) : Met l yX4_power (ws_ yX4_power cX4_power 5 (some .long)) (rmD 1) (mP G [.int (iI b), .int (iI n_)] σ sz) (mQl G σ sz (fun z σ' => z = (b ^ n_.toNat) ∧ σ' = σ)) 0 0 (mA G σ sz) := by
  refine m_start (by decide) (Nat.le_of_ble_eq_true rfl) ?_
  intro p e s m below meth c ⟨S, hr, hlk, hH, hK, hj, hsz, hnm⟩ ls hl
  subst hsz
  obtain ⟨hx, hb, hml, hown, hts⟩ := S
  have S : CallFix p m c _ _ s _ lw_all RX4 := ⟨hx, hb, hml, hown, hts⟩
  have hA : ∀ q, s.heap.size ≤ q → mA G σ s.heap.size q := fun q hq => Or.inr hq
  have hl : lv_has ls 5 [(0, .int (iI b)), (1, .int (iI n_))] := hl
  have h_b := R32.n h_b
  have h_n_ := R32.n h_n_
  have L5 : ∀ (k : Nat) (i : Int), (hi0 : 0 ≤ i) → (hi1 : i ≤ n_ ∨ i = 0) → (hk : (n_ - i).toNat < k) → ∀ (H : Heap) (locs : List Loc) (ls : Array Slot), MH G (mA G σ s.heap.size) σ s.heap H locs → lv_has ls 5 [(0, .int (iI b)), (1, .int (iI n_)), (2, .long (lI (b ^ i.toNat))), (4, .int (iI i))] → W p l e (rmD 1) s m ([.int (iI b), .int (iI n_)] : List Value).toArray below meth c H locs 0 0 (MQ below (mQl G σ s.heap.size (fun z σ' => z = (b ^ n_.toNat) ∧ σ' = σ)) ([.int (iI b), .int (iI n_)] : List Value).toArray s 0 0 (mA G σ s.heap.size)) (F0 m 5 ls []) := by
    intro k
    induction k with
    | zero => intro i hi0 hi1 hk; exfalso; omega
    | succ k ih_5 =>
      intro i hi0 hi1 hk H locs ls hH hl
      refine lv_iload hx hb dX4_power_5 (lv_at hl 3 rfl) ?_
      refine lv_iload_n hx hb dX4_power_7 rfl (lv_at hl 1 rfl) ?_
      refine n_icmp_ge (tgt := 22) hx hb (r32 (by omega)) (r32 (by omega)) dX4_power_8 (by decide) (fun c_8 => ?_) (fun c_8 => ?_)
      · -- 8T
        refine lv_lload_n hx hb dX4_power_22 rfl (lv_at hl 2 rfl) ?_
        refine m_lret hx hb hr hlk hH dX4_power_23 ?_
        exact ⟨by rw [show n_.toNat = i.toNat by omega], rfl⟩
      · -- 8F
        refine lv_lload_n hx hb dX4_power_11 rfl (lv_at hl 2 rfl) ?_
        refine lv_iload_n hx hb dX4_power_12 rfl (lv_at hl 0 rfl) ?_
        refine n_i2l hx hb (r32 (by omega)) dX4_power_13 ?_
        refine n_lmul hx hb dX4_power_14 ?_
        refine lv_lstore_n hx hb dX4_power_15 rfl hl (Nat.le_of_ble_eq_true rfl) (lv' := [(2, .long (lI ((b ^ i.toNat) * b))), (0, .int (iI b)), (1, .int (iI n_)), (4, .int (iI i))]) rfl (fun ls hl => ?_)
        refine n_iinc hx hb dX4_power_16 hl (k := 3) rfl (Nat.le_of_ble_eq_true rfl) (lv' := [(4, .int (iI (i + 1))), (2, .long (lI ((b ^ i.toNat) * b))), (0, .int (iI b)), (1, .int (iI n_))]) rfl (fun ls hl => ?_)
        refine lv_goto (tgt := 5) hx hb dX4_power_19 (by decide) ?_
        have hl : lv_has ls 5 [(0, .int (iI b)), (1, .int (iI n_)), (2, .long (lI ((b ^ i.toNat) * b))), (4, .int (iI (i + 1)))] := lv_sub hl [2, 3, 1, 0] rfl
        have hl : lv_has ls 5 [(0, .int (iI b)), (1, .int (iI n_)), (2, .long (lI (b ^ (i + 1).toNat))), (4, .int (iI (i + 1)))] := by rw [show (i + 1).toNat = i.toNat + 1 by omega, Int.pow_succ]; exact hl
        refine ih_5 (i + 1) ?_ ?_ ?_ _ _ _ hH hl
        · omega
        · omega
        · omega
  refine n_lconst (z := 1) hx hb dX4_power_0 (by decide) ?_
  refine lv_lstore_n hx hb dX4_power_1 rfl hl (Nat.le_of_ble_eq_true rfl) (lv' := [(2, .long (lI 1)), (0, .int (iI b)), (1, .int (iI n_))]) rfl (fun ls hl => ?_)
  refine n_iconst hx hb dX4_power_2 ?_
  refine lv_istore hx hb dX4_power_3 hl (Nat.le_of_ble_eq_true rfl) (lv' := [(4, .int (iI 0)), (2, .long (lI 1)), (0, .int (iI b)), (1, .int (iI n_))]) rfl (fun ls hl => ?_)
  have hl : lv_has ls 5 [(0, .int (iI b)), (1, .int (iI n_)), (2, .long (lI 1)), (4, .int (iI 0))] := lv_sub hl [2, 3, 1, 0] rfl
  have hl : lv_has ls 5 [(0, .int (iI b)), (1, .int (iI n_)), (2, .long (lI (b ^ (0 : Int).toNat))), (4, .int (iI 0))] := by rw [show b ^ (0 : Int).toNat = 1 from Int.pow_zero b]; exact hl
  refine L5 (n_.toNat + 1) 0 ?_ ?_ ?_ _ _ _ hH hl
  · omega
  · omega
  · omega
