/-- of n the ways to take k, as the component counts them -/
def cxN (n : Int) : Nat → Int
  | 0 => 1
  | i + 1 => Int.tdiv (cxN n i * (n - (i : Int))) ((i : Int) + 1)
theorem cx_t : ∀ n, n < 19 → ∀ i, i < 19 → i ≤ n → 0 ≤ cxN (n : Nat) i ∧ cxN (n : Nat) i ≤ 50000 := by decide +kernel
theorem cx_c : ∀ n, n < 19 → ∀ k, k < 19 → k ≤ n → cxN (n : Nat) k = chI (n : Nat) (k : Nat) k := by decide +kernel
theorem cx_r {n i : Int} (h0 : 0 ≤ n) (h2 : n ≤ 18) (h3 : 0 ≤ i) (hi : i ≤ n) : 0 ≤ cxN n i.toNat ∧ cxN n i.toNat ≤ 50000 := by
  obtain ⟨a, rfl⟩ : ∃ a : Nat, n = a := ⟨n.toNat, by omega⟩
  exact cx_t a (by omega) i.toNat (by omega) (by omega)
theorem cx_ch {n k : Int} (h0 : 0 ≤ k) (h1 : k ≤ n) (h2 : n ≤ 18) : cxN n k.toNat = chI n k k.toNat := by
  obtain ⟨a, rfl⟩ : ∃ a : Nat, n = a := ⟨n.toNat, by omega⟩
  obtain ⟨b, rfl⟩ : ∃ b : Nat, k = b := ⟨k.toNat, by omega⟩
  exact cx_c a (by omega) b (by omega) (by omega)
theorem tw_t : ∀ n, n < 19 → 1 ≤ n → (n = 1 ∧ Int.tdiv (10 ^ n + 19) 20 = 1) ∨ (n ≠ 1 ∧ Int.tdiv (10 ^ n + 19) 20 = Int.tdiv (10 ^ n) 20) := by decide +kernel
theorem tw_u : ∀ n, n < 19 → 0 ≤ Int.tdiv (10 ^ n + 19) 20 ∧ Int.tdiv (10 ^ n + 19) 20 ≤ 1000000000000000000 := by decide +kernel
theorem tw_r {n : Int} (h1 : 1 ≤ n) (h2 : n ≤ 18) : 0 ≤ Int.tdiv (10 ^ n.toNat + 19) 20 ∧ Int.tdiv (10 ^ n.toNat + 19) 20 ≤ 1000000000000000000 := tw_u n.toNat (by omega)
theorem tw_i {n p : Int} (h1 : 1 ≤ n) (h2 : n ≤ 18) : isAT p n ↔ Int.tdiv (10 ^ n.toNat + 19) 20 ≤ p := by
  unfold isAT
  rcases tw_t n.toNat (by omega) (by omega) with ⟨a, b⟩ | ⟨a, b⟩
  · rw [b]; omega
  · rw [b]; omega
theorem tw_v : ∀ n, n < 19 → 1 ≤ n → Int.tdiv (10 ^ n + 19) 20 ≤ 10 ^ n := by decide +kernel
theorem bound_1 {n : Int} (h : 1 ≤ n ∧ n ≤ 18) : boundN n (1 : Int).toNat = 0 := by
  show boundN n (0 + 1) = 0
  rw [boundN, if_pos]
  · rfl
  · refine (tw_i h.1 h.2).mpr ?_
    show Int.tdiv (10 ^ n.toNat + 19) 20 ≤ (10 - 0) ^ n.toNat
    have e := tw_v n.toNat (by omega) (by omega)
    rw [show (10 : Int) - 0 = 10 from rfl]
    exact e
theorem kd_X0_power : yX0_power.cls = RX0 ∧ yX0_power.cls ≠ "java/lang/invoke/MethodHandle" ∧ yX0_power.cls ≠ "java/lang/invoke/VarHandle" ∧ (parseMethodDescriptor yX0_power.desc).map (fun d => d.parameters.length) = some 2 := by decide +kernel
theorem xm_X0_power (l : Launch) (G : MG) (M : Hp) (b : Int) (n_ : Int) (sz : Nat) (h_b : -100000 ≤ b ∧ b ≤ 100000) (h_n_ : R32 n_) : Met l yX0_power (ws_ yX0_power cX0_power 6 (some .long)) (rmD 1) (xP G XN [.long (lI b), .int (iI n_)] M sz) (xQl G (DA M sz) (fun z M' => z = (b ^ n_.toNat) ∧ M' = M)) 0 0 (DA M sz) := by
  refine x_start (by decide) (Nat.le_of_ble_eq_true rfl) ?_
  intro p e s m below meth c ⟨S, hr, hlk, hH, hK, hXN, hsz, hnm⟩ ls hl
  subst hsz
  obtain ⟨hx, hb, hml, hown, hts⟩ := S
  have S : CallFix p m c _ _ s _ lw_all RX0 := ⟨hx, hb, hml, hown, hts⟩
  have hA : ∀ q, s.heap.size ≤ q → DA M s.heap.size q := fun q hq => Or.inr hq
  have hl : lv_has ls 6 [(0, .long (lI b)), (2, .int (iI n_))] := hl
  have h_n_ := R32.n h_n_
  have L5 : ∀ (k : Nat) (i : Int), (hi0 : 0 ≤ i) → (hi1 : i ≤ n_ ∨ i = 0) → (hk : (n_ - i).toNat < k) → ∀ (H : Heap) (locs : List Loc) (ls : Array Slot), XV G (DA M s.heap.size) M s.heap H locs → lv_has ls 6 [(0, .long (lI b)), (2, .int (iI n_)), (3, .long (lI (b ^ i.toNat))), (5, .int (iI i))] → W p l e (rmD 1) s m ([.long (lI b), .int (iI n_)] : List Value).toArray below meth c H locs 0 0 (MQ below (xQl G (DA M s.heap.size) (fun z M' => z = (b ^ n_.toNat) ∧ M' = M)) ([.long (lI b), .int (iI n_)] : List Value).toArray s 0 0 (DA M s.heap.size)) (F0 m 5 ls []) := by
    intro k
    induction k with
    | zero => intro i hi0 hi1 hk; exfalso; omega
    | succ k ih_5 =>
      intro i hi0 hi1 hk H locs ls hH hl
      refine lv_iload hx hb dX0_power_5 (lv_at hl 3 rfl) ?_
      refine lv_iload_n hx hb dX0_power_7 rfl (lv_at hl 1 rfl) ?_
      refine n_icmp_ge (tgt := 21) hx hb (r32 (by omega)) (r32 (by omega)) dX0_power_8 (by decide) (fun c_8 => ?_) (fun c_8 => ?_)
      · -- 8T
        refine lv_lload_n hx hb dX0_power_21 rfl (lv_at hl 2 rfl) ?_
        refine x_lret hx hb hr hlk hH dX0_power_22 ?_
        exact ⟨by rw [show n_.toNat = i.toNat by omega], rfl⟩
      · -- 8F
        refine lv_lload_n hx hb dX0_power_11 rfl (lv_at hl 2 rfl) ?_
        refine lv_lload_n hx hb dX0_power_12 rfl (lv_at hl 0 rfl) ?_
        refine n_lmul hx hb dX0_power_13 ?_
        refine lv_lstore_n hx hb dX0_power_14 rfl hl (Nat.le_of_ble_eq_true rfl) (lv' := [(3, .long (lI ((b ^ i.toNat) * b))), (0, .long (lI b)), (2, .int (iI n_)), (5, .int (iI i))]) rfl (fun ls hl => ?_)
        refine n_iinc hx hb dX0_power_15 hl (k := 3) rfl (Nat.le_of_ble_eq_true rfl) (lv' := [(5, .int (iI (i + 1))), (3, .long (lI ((b ^ i.toNat) * b))), (0, .long (lI b)), (2, .int (iI n_))]) rfl (fun ls hl => ?_)
        refine lv_goto (tgt := 5) hx hb dX0_power_18 (by decide) ?_
        have hl : lv_has ls 6 [(0, .long (lI b)), (2, .int (iI n_)), (3, .long (lI ((b ^ i.toNat) * b))), (5, .int (iI (i + 1)))] := lv_sub hl [2, 3, 1, 0] rfl
        have hl : lv_has ls 6 [(0, .long (lI b)), (2, .int (iI n_)), (3, .long (lI (b ^ (i + 1).toNat))), (5, .int (iI (i + 1)))] := by rw [show (i + 1).toNat = i.toNat + 1 by omega, Int.pow_succ]; exact hl
        refine ih_5 (i + 1) ?_ ?_ ?_ _ _ _ hH hl
        · omega
        · omega
        · omega
  refine n_lconst (z := 1) hx hb dX0_power_0 (by decide) ?_
  refine lv_lstore_n hx hb dX0_power_1 rfl hl (Nat.le_of_ble_eq_true rfl) (lv' := [(3, .long (lI 1)), (0, .long (lI b)), (2, .int (iI n_))]) rfl (fun ls hl => ?_)
  refine n_iconst hx hb dX0_power_2 ?_
  refine lv_istore hx hb dX0_power_3 hl (Nat.le_of_ble_eq_true rfl) (lv' := [(5, .int (iI 0)), (3, .long (lI 1)), (0, .long (lI b)), (2, .int (iI n_))]) rfl (fun ls hl => ?_)
  have hl : lv_has ls 6 [(0, .long (lI b)), (2, .int (iI n_)), (3, .long (lI 1)), (5, .int (iI 0))] := lv_sub hl [2, 3, 1, 0] rfl
  have hl : lv_has ls 6 [(0, .long (lI b)), (2, .int (iI n_)), (3, .long (lI (b ^ (0 : Int).toNat))), (5, .int (iI 0))] := by rw [show b ^ (0 : Int).toNat = 1 from Int.pow_zero b]; exact hl
  refine L5 (n_.toNat + 1) 0 ?_ ?_ ?_ _ _ _ hH hl
  · omega
  · omega
  · omega
theorem kd_X0_choose : yX0_choose.cls = RX0 ∧ yX0_choose.cls ≠ "java/lang/invoke/MethodHandle" ∧ yX0_choose.cls ≠ "java/lang/invoke/VarHandle" ∧ (parseMethodDescriptor yX0_choose.desc).map (fun d => d.parameters.length) = some 2 := by decide +kernel
theorem xm_X0_choose (l : Launch) (G : MG) (M : Hp) (n_ : Int) (k_ : Int) (sz : Nat) (h0 : 0 ≤ k_) (h1 : k_ ≤ n_) (h2 : n_ ≤ 18) : Met l yX0_choose (ws_ yX0_choose cX0_choose 5 (some .long)) (rmD 1) (xP G XN [.int (iI n_), .int (iI k_)] M sz) (xQl G (DA M sz) (fun z M' => z = (chI n_ k_ k_.toNat) ∧ M' = M)) 0 0 (DA M sz) := by
  refine x_start (by decide) (Nat.le_of_ble_eq_true rfl) ?_
  intro p e s m below meth c ⟨S, hr, hlk, hH, hK, hXN, hsz, hnm⟩ ls hl
  subst hsz
  obtain ⟨hx, hb, hml, hown, hts⟩ := S
  have S : CallFix p m c _ _ s _ lw_all RX0 := ⟨hx, hb, hml, hown, hts⟩
  have hA : ∀ q, s.heap.size ≤ q → DA M s.heap.size q := fun q hq => Or.inr hq
  have hl : lv_has ls 5 [(0, .int (iI n_)), (1, .int (iI k_))] := hl
  have L5 : ∀ (q : Nat) (i : Int), (hi0 : 0 ≤ i) → (hi1 : i ≤ k_) → (hk : k_ < (q : Int) + i) → ∀ (H : Heap) (locs : List Loc) (ls : Array Slot), XV G (DA M s.heap.size) M s.heap H locs → lv_has ls 5 [(0, .int (iI n_)), (1, .int (iI k_)), (2, .long (lI (cxN n_ i.toNat))), (4, .int (iI i))] → W p l e (rmD 1) s m ([.int (iI n_), .int (iI k_)] : List Value).toArray below meth c H locs 0 0 (MQ below (xQl G (DA M s.heap.size) (fun z M' => z = (chI n_ k_ k_.toNat) ∧ M' = M)) ([.int (iI n_), .int (iI k_)] : List Value).toArray s 0 0 (DA M s.heap.size)) (F0 m 5 ls []) := by
    intro q
    induction q with
    | zero => intro i hi0 hi1 hk; exfalso; omega
    | succ q ih_5 =>
      intro i hi0 hi1 hk H locs ls hH hl
      refine lv_iload hx hb dX0_choose_5 (lv_at hl 3 rfl) ?_
      refine lv_iload_n hx hb dX0_choose_7 rfl (lv_at hl 1 rfl) ?_
      refine n_icmp_ge (tgt := 31) hx hb (r32 (by omega)) (r32 (by omega)) dX0_choose_8 (by decide) (fun c_8 => ?_) (fun c_8 => ?_)
      · -- 8T
        refine lv_lload_n hx hb dX0_choose_31 rfl (lv_at hl 2 rfl) ?_
        refine x_lret hx hb hr hlk hH dX0_choose_32 ?_
        exact ⟨by rw [show i = k_ by omega]; exact cx_ch h0 h1 h2, rfl⟩
      · -- 8F
        have hb1 := cx_r (n := n_) (i := i) (by omega) (by omega) hi0 (by omega)
        have hm := Int.mul_le_mul hb1.2 (show n_ - i ≤ 40 by omega) (by omega) (by omega)
        have hm0 := Int.mul_nonneg hb1.1 (show 0 ≤ n_ - i by omega)
        refine lv_lload_n hx hb dX0_choose_11 rfl (lv_at hl 2 rfl) ?_
        refine lv_iload_n hx hb dX0_choose_12 rfl (lv_at hl 0 rfl) ?_
        refine lv_iload hx hb dX0_choose_13 (lv_at hl 3 rfl) ?_
        refine n_isub hx hb dX0_choose_15 ?_
        refine n_i2l hx hb (r32 (by omega)) dX0_choose_16 ?_
        refine n_lmul hx hb dX0_choose_17 ?_
        refine lv_iload hx hb dX0_choose_18 (lv_at hl 3 rfl) ?_
        refine n_iconst hx hb dX0_choose_20 ?_
        refine n_iadd hx hb dX0_choose_21 ?_
        refine n_i2l hx hb (r32 (by omega)) dX0_choose_22 ?_
        refine n_ldiv hx hb (by omega) (r64 (by omega)) (r64 (by omega)) (tdiv_r hm0 (by omega) (by omega)) dX0_choose_23 ?_
        refine lv_lstore_n hx hb dX0_choose_24 rfl hl (Nat.le_of_ble_eq_true rfl) (lv' := [(2, .long (lI (Int.tdiv ((cxN n_ i.toNat) * (n_ - i)) (i + 1)))), (0, .int (iI n_)), (1, .int (iI k_)), (4, .int (iI i))]) rfl (fun ls hl => ?_)
        refine n_iinc hx hb dX0_choose_25 hl (k := 3) rfl (Nat.le_of_ble_eq_true rfl) (lv' := [(4, .int (iI (i + 1))), (2, .long (lI (Int.tdiv ((cxN n_ i.toNat) * (n_ - i)) (i + 1)))), (0, .int (iI n_)), (1, .int (iI k_))]) rfl (fun ls hl => ?_)
        refine lv_goto (tgt := 5) hx hb dX0_choose_28 (by decide) ?_
        have hl : lv_has ls 5 [(0, .int (iI n_)), (1, .int (iI k_)), (2, .long (lI (Int.tdiv ((cxN n_ i.toNat) * (n_ - i)) (i + 1)))), (4, .int (iI (i + 1)))] := lv_sub hl [2, 3, 1, 0] rfl
        have hl : lv_has ls 5 [(0, .int (iI n_)), (1, .int (iI k_)), (2, .long (lI (cxN n_ (i + 1).toNat))), (4, .int (iI (i + 1)))] := by rw [show (i + 1).toNat = i.toNat + 1 by omega, cxN, Int.toNat_of_nonneg hi0]; exact hl
        refine ih_5 (i + 1) ?_ ?_ ?_ _ _ _ hH hl
        · omega
        · omega
        · omega
  refine n_lconst (z := 1) hx hb dX0_choose_0 (by decide) ?_
  refine lv_lstore_n hx hb dX0_choose_1 rfl hl (Nat.le_of_ble_eq_true rfl) (lv' := [(2, .long (lI 1)), (0, .int (iI n_)), (1, .int (iI k_))]) rfl (fun ls hl => ?_)
  refine n_iconst hx hb dX0_choose_2 ?_
  refine lv_istore hx hb dX0_choose_3 hl (Nat.le_of_ble_eq_true rfl) (lv' := [(4, .int (iI 0)), (2, .long (lI 1)), (0, .int (iI n_)), (1, .int (iI k_))]) rfl (fun ls hl => ?_)
  have hl : lv_has ls 5 [(0, .int (iI n_)), (1, .int (iI k_)), (2, .long (lI 1)), (4, .int (iI 0))] := lv_sub hl [2, 3, 1, 0] rfl
  have hl : lv_has ls 5 [(0, .int (iI n_)), (1, .int (iI k_)), (2, .long (lI (cxN n_ (0 : Int).toNat))), (4, .int (iI 0))] := by exact hl
  refine L5 30 0 ?_ ?_ ?_ _ _ _ hH hl
  · omega
  · omega
  · omega
theorem kd_X0_mayBe : yX0_mayBe.cls = RX0 ∧ yX0_mayBe.cls ≠ "java/lang/invoke/MethodHandle" ∧ yX0_mayBe.cls ≠ "java/lang/invoke/VarHandle" ∧ (parseMethodDescriptor yX0_mayBe.desc).map (fun d => d.parameters.length) = some 3 := by decide +kernel
theorem xm_X0_mayBe (l : Launch) (G : MG) (M : Hp) (n_ : Int) (u_ : Int) (t_ : Int) (sz : Nat) (h1 : 1 ≤ n_) (h2 : n_ ≤ 18) (h3 : 0 ≤ t_) (h4 : t_ ≤ 10) (hu : 0 ≤ u_ ∧ u_ ≤ 18) : Met l yX0_mayBe (ws_ yX0_mayBe cX0_mayBe 12 (some .boolean)) (rmD 2) (xP G XN [.int (iI n_), .int (iI u_), .int (iI t_)] M sz) (xQi G (DA M sz) (fun z M' => z = zb (isAT (loS n_ t_ u_ (n_ + 1).toNat) n_ ∧ isAT (hiS n_ t_ u_ (n_ + 1).toNat) n_) ∧ M' = M)) 0 0 (DA M sz) := by
  refine x_start (by decide) (Nat.le_of_ble_eq_true rfl) ?_
  intro p e s m below meth c ⟨S, hr, hlk, hH, hK, hXN, hsz, hnm⟩ ls hl
  subst hsz
  obtain ⟨hx, hb, hml, hown, hts⟩ := S
  have S : CallFix p m c _ _ s _ lw_all RX0 := ⟨hx, hb, hml, hown, hts⟩
  have hA : ∀ q, s.heap.size ≤ q → DA M s.heap.size q := fun q hq => Or.inr hq
  have hl : lv_has ls 12 [(0, .int (iI n_)), (1, .int (iI u_)), (2, .int (iI t_))] := hl
  have hb4 := p10_r (n := n_) (by omega)
  have hlt := tw_r h1 h2
  have L25 : ∀ (q1 : Nat) (k : Int), (hk0 : 0 ≤ k) → (hk1 : k ≤ n_ + 1) → (hkk : n_ + 1 < (q1 : Int) + k) → ∀ (H : Heap) (locs : List Loc) (ls : Array Slot), XV G (DA M s.heap.size) M s.heap H locs → lv_has ls 12 [(0, .int (iI n_)), (1, .int (iI u_)), (2, .int (iI t_)), (3, .long (lI (loS n_ t_ u_ k.toNat))), (5, .long (lI (hiS n_ t_ u_ k.toNat))), (7, .long (lI (Int.tdiv (10 ^ n_.toNat + 19) 20))), (9, .int (iI k))] → W p l e (rmD 2) s m ([.int (iI n_), .int (iI u_), .int (iI t_)] : List Value).toArray below meth c H locs 0 0 (MQ below (xQi G (DA M s.heap.size) (fun z M' => z = zb (isAT (loS n_ t_ u_ (n_ + 1).toNat) n_ ∧ isAT (hiS n_ t_ u_ (n_ + 1).toNat) n_) ∧ M' = M)) ([.int (iI n_), .int (iI u_), .int (iI t_)] : List Value).toArray s 0 0 (DA M s.heap.size)) (F0 m 25 ls []) := by
    intro q1
    induction q1 with
    | zero => intro k hk0 hk1 hkk; exfalso; omega
    | succ q1 ih_25 =>
      intro k hk0 hk1 hkk H locs ls hH hl
      have hb1 := loS_r (n := n_) (t := t_) (u := u_) (by omega) (by omega) (by omega) k.toNat (by omega)
      have hb2 := hiS_r (n := n_) (t := t_) (u := u_) (by omega) (by omega) (by omega) k.toNat (by omega)
      have hb3 := toS_r (n := n_) (t := t_) (by omega) (by omega) (by omega) (by omega) (k := k.toNat) (by omega)
      refine lv_iload hx hb dX0_mayBe_25 (lv_at hl 6 rfl) ?_
      refine lv_iload_n hx hb dX0_mayBe_27 rfl (lv_at hl 0 rfl) ?_
      refine n_icmp_gt (tgt := 98) hx hb (r32 (by omega)) (r32 (by omega)) dX0_mayBe_28 (by decide) (fun c_28 => ?_) (fun c_28 => ?_)
      · -- 28T
        refine lv_lload_n hx hb dX0_mayBe_98 rfl (lv_at hl 3 rfl) ?_
        refine lv_lload hx hb dX0_mayBe_99 (lv_at hl 5 rfl) ?_
        refine n_lcmp_lt (tgt := 117) hx hb (r64 (by omega)) (r64 (by omega)) dX0_mayBe_101 dX0_mayBe_102 (by decide) (fun c_101 => ?_) (fun c_101 => ?_)
        · -- 101T
          refine n_iconst hx hb dX0_mayBe_117 ?_
          refine x_zret hx hb hr hlk hH dX0_mayBe_118 (Or.inl rfl) ?_
          exact ⟨(zb_f (fun z => by have := (tw_i h1 h2).mp z.1; rw [show (n_ + 1).toNat = k.toNat by omega] at this; omega)).symm, rfl⟩
        · -- 101F
          refine lv_lload hx hb dX0_mayBe_105 (lv_at hl 4 rfl) ?_
          refine lv_lload hx hb dX0_mayBe_107 (lv_at hl 5 rfl) ?_
          refine n_lcmp_lt (tgt := 117) hx hb (r64 (by omega)) (r64 (by omega)) dX0_mayBe_109 dX0_mayBe_110 (by decide) (fun c_109 => ?_) (fun c_109 => ?_)
          · -- 109T
            refine n_iconst hx hb dX0_mayBe_117 ?_
            refine x_zret hx hb hr hlk hH dX0_mayBe_118 (Or.inl rfl) ?_
            exact ⟨(zb_f (fun z => by have := (tw_i h1 h2).mp z.2; rw [show (n_ + 1).toNat = k.toNat by omega] at this; omega)).symm, rfl⟩
          · -- 109F
            refine n_iconst hx hb dX0_mayBe_113 ?_
            refine lv_goto (tgt := 118) hx hb dX0_mayBe_114 (by decide) ?_
            refine x_zret hx hb hr hlk hH dX0_mayBe_118 (Or.inr rfl) ?_
            exact ⟨(zb_t ⟨(tw_i h1 h2).mpr (by rw [show (n_ + 1).toNat = k.toNat by omega]; omega), (tw_i h1 h2).mpr (by rw [show (n_ + 1).toNat = k.toNat by omega]; omega)⟩).symm, rfl⟩
      · -- 28F
        have hj1 := j3_r (n := n_) (t := t_) (by omega) (by omega) (by omega) hk0 (by omega)
        refine lv_iload_n hx hb dX0_mayBe_31 rfl (lv_at hl 0 rfl) ?_
        refine lv_iload hx hb dX0_mayBe_32 (lv_at hl 6 rfl) ?_
        refine x_calllF (x_runS (As := [.int (iI n_), .int (iI k)]) (rest := []) S hH hK (fun _ _ hW => XN.warm hW hXN) XN_b hl.1 (xm_X0_choose l G M n_ k _ (by omega) (by omega) (by omega)) (lw_S q1333 q1334 q105 q1335) kd_X0_choose rfl rfl dX0_mayBe_34) hH hA (fun H locs hH => ?_)
        refine lv_iload_n hx hb dX0_mayBe_37 rfl (lv_at hl 2 rfl) ?_
        refine n_i2l hx hb (r32 (by omega)) dX0_mayBe_38 ?_
        refine lv_iload hx hb dX0_mayBe_39 (lv_at hl 6 rfl) ?_
        refine x_calllF (x_runS (As := [.long (lI t_), .int (iI k)]) (rest := [.long (lI (chI n_ k k.toNat))]) S hH hK (fun _ _ hW => XN.warm hW hXN) XN_b hl.1 (xm_X0_power l G M t_ k _ (by omega) (r32 (by omega))) (lw_S q1328 q1329 q105 q1330) kd_X0_power rfl rfl dX0_mayBe_41) hH hA (fun H locs hH => ?_)
        refine n_lmul hx hb dX0_mayBe_44 ?_
        refine n_bipush (z := 10) hx hb dX0_mayBe_45 (by decide) ?_
        refine lv_iload_n hx hb dX0_mayBe_47 rfl (lv_at hl 2 rfl) ?_
        refine n_isub hx hb dX0_mayBe_48 ?_
        refine n_i2l hx hb (r32 (by omega)) dX0_mayBe_49 ?_
        refine lv_iload_n hx hb dX0_mayBe_50 rfl (lv_at hl 0 rfl) ?_
        refine lv_iload hx hb dX0_mayBe_51 (lv_at hl 6 rfl) ?_
        refine n_isub hx hb dX0_mayBe_53 ?_
        refine x_calllF (x_runS (As := [.long (lI (10 - t_)), .int (iI (n_ - k))]) (rest := [.long (lI ((chI n_ k k.toNat) * (t_ ^ k.toNat)))]) S hH hK (fun _ _ hW => XN.warm hW hXN) XN_b hl.1 (xm_X0_power l G M (10 - t_) (n_ - k) _ (by omega) (r32 (by omega))) (lw_S q1328 q1329 q105 q1330) kd_X0_power rfl rfl dX0_mayBe_54) hH hA (fun H locs hH => ?_)
        refine n_lmul hx hb dX0_mayBe_57 ?_
        refine W.eq (g2 := F0 m 58 ls (.long (lI (j3 n_ k t_)) :: [])) (by rfl) ?_
        refine lv_lstore hx hb dX0_mayBe_58 hl (Nat.le_of_ble_eq_true rfl) (lv' := [(10, .long (lI (j3 n_ k t_))), (0, .int (iI n_)), (1, .int (iI u_)), (2, .int (iI t_)), (3, .long (lI (loS n_ t_ u_ k.toNat))), (5, .long (lI (hiS n_ t_ u_ k.toNat))), (7, .long (lI (Int.tdiv (10 ^ n_.toNat + 19) 20))), (9, .int (iI k))]) rfl (fun ls hl => ?_)
        refine lv_lload_n hx hb dX0_mayBe_60 rfl (lv_at hl 4 rfl) ?_
        refine lv_iload hx hb dX0_mayBe_61 (lv_at hl 7 rfl) ?_
        refine lv_iload_n hx hb dX0_mayBe_63 rfl (lv_at hl 2 rfl) ?_
        refine n_icmp_gt (tgt := 72) hx hb (r32 (by omega)) (r32 (by omega)) dX0_mayBe_64 (by decide) (fun c_64 => ?_) (fun c_64 => ?_)
        · -- 64T
          refine n_lconst (z := 0) hx hb dX0_mayBe_72 (by decide) ?_
          refine n_ladd hx hb dX0_mayBe_73 ?_
          refine lv_lstore_n hx hb dX0_mayBe_74 rfl hl (Nat.le_of_ble_eq_true rfl) (lv' := [(3, .long (lI ((loS n_ t_ u_ k.toNat) + 0))), (10, .long (lI (j3 n_ k t_))), (0, .int (iI n_)), (1, .int (iI u_)), (2, .int (iI t_)), (5, .long (lI (hiS n_ t_ u_ k.toNat))), (7, .long (lI (Int.tdiv (10 ^ n_.toNat + 19) 20))), (9, .int (iI k))]) rfl (fun ls hl => ?_)
          refine lv_lload hx hb dX0_mayBe_75 (lv_at hl 5 rfl) ?_
          refine lv_iload hx hb dX0_mayBe_77 (lv_at hl 7 rfl) ?_
          refine lv_iload_n hx hb dX0_mayBe_79 rfl (lv_at hl 3 rfl) ?_
          refine n_icmp_lt (tgt := 88) hx hb (r32 (by omega)) (r32 (by omega)) dX0_mayBe_80 (by decide) (fun c_80 => ?_) (fun c_80 => ?_)
          · -- 80T
            refine n_lconst (z := 0) hx hb dX0_mayBe_88 (by decide) ?_
            refine n_ladd hx hb dX0_mayBe_89 ?_
            refine lv_lstore hx hb dX0_mayBe_90 hl (Nat.le_of_ble_eq_true rfl) (lv' := [(5, .long (lI ((hiS n_ t_ u_ k.toNat) + 0))), (3, .long (lI ((loS n_ t_ u_ k.toNat) + 0))), (10, .long (lI (j3 n_ k t_))), (0, .int (iI n_)), (1, .int (iI u_)), (2, .int (iI t_)), (7, .long (lI (Int.tdiv (10 ^ n_.toNat + 19) 20))), (9, .int (iI k))]) rfl (fun ls hl => ?_)
            refine n_iinc hx hb dX0_mayBe_92 hl (k := 7) rfl (Nat.le_of_ble_eq_true rfl) (lv' := [(9, .int (iI (k + 1))), (5, .long (lI ((hiS n_ t_ u_ k.toNat) + 0))), (3, .long (lI ((loS n_ t_ u_ k.toNat) + 0))), (10, .long (lI (j3 n_ k t_))), (0, .int (iI n_)), (1, .int (iI u_)), (2, .int (iI t_)), (7, .long (lI (Int.tdiv (10 ^ n_.toNat + 19) 20)))]) rfl (fun ls hl => ?_)
            refine lv_goto (tgt := 25) hx hb dX0_mayBe_95 (by decide) ?_
            have hl : lv_has ls 12 [(0, .int (iI n_)), (1, .int (iI u_)), (2, .int (iI t_)), (3, .long (lI ((loS n_ t_ u_ k.toNat) + 0))), (5, .long (lI ((hiS n_ t_ u_ k.toNat) + 0))), (7, .long (lI (Int.tdiv (10 ^ n_.toNat + 19) 20))), (9, .int (iI (k + 1)))] := lv_sub hl [4, 5, 6, 2, 1, 7, 0] rfl
            have hl : lv_has ls 12 [(0, .int (iI n_)), (1, .int (iI u_)), (2, .int (iI t_)), (3, .long (lI (loS n_ t_ u_ (k + 1).toNat))), (5, .long (lI (hiS n_ t_ u_ (k + 1).toNat))), (7, .long (lI (Int.tdiv (10 ^ n_.toNat + 19) 20))), (9, .int (iI (k + 1)))] := by rw [show (k + 1).toNat = k.toNat + 1 by omega, loS, hiS, Int.toNat_of_nonneg hk0]; first | rw [if_pos (by omega), if_pos (by omega)]; exact hl | rw [if_pos (by omega), if_neg (by omega), ← Int.add_zero (hiS _ _ _ _)]; exact hl | rw [if_neg (by omega), if_pos (by omega), ← Int.add_zero (loS _ _ _ _)]; exact hl | (exfalso; omega)
            refine ih_25 (k + 1) ?_ ?_ ?_ _ _ _ hH hl
            · omega
            · omega
            · omega
          · -- 80F
            refine lv_lload hx hb dX0_mayBe_83 (lv_at hl 1 rfl) ?_
            refine lv_goto (tgt := 89) hx hb dX0_mayBe_85 (by decide) ?_
            refine n_ladd hx hb dX0_mayBe_89 ?_
            refine lv_lstore hx hb dX0_mayBe_90 hl (Nat.le_of_ble_eq_true rfl) (lv' := [(5, .long (lI ((hiS n_ t_ u_ k.toNat) + (j3 n_ k t_)))), (3, .long (lI ((loS n_ t_ u_ k.toNat) + 0))), (10, .long (lI (j3 n_ k t_))), (0, .int (iI n_)), (1, .int (iI u_)), (2, .int (iI t_)), (7, .long (lI (Int.tdiv (10 ^ n_.toNat + 19) 20))), (9, .int (iI k))]) rfl (fun ls hl => ?_)
            refine n_iinc hx hb dX0_mayBe_92 hl (k := 7) rfl (Nat.le_of_ble_eq_true rfl) (lv' := [(9, .int (iI (k + 1))), (5, .long (lI ((hiS n_ t_ u_ k.toNat) + (j3 n_ k t_)))), (3, .long (lI ((loS n_ t_ u_ k.toNat) + 0))), (10, .long (lI (j3 n_ k t_))), (0, .int (iI n_)), (1, .int (iI u_)), (2, .int (iI t_)), (7, .long (lI (Int.tdiv (10 ^ n_.toNat + 19) 20)))]) rfl (fun ls hl => ?_)
            refine lv_goto (tgt := 25) hx hb dX0_mayBe_95 (by decide) ?_
            have hl : lv_has ls 12 [(0, .int (iI n_)), (1, .int (iI u_)), (2, .int (iI t_)), (3, .long (lI ((loS n_ t_ u_ k.toNat) + 0))), (5, .long (lI ((hiS n_ t_ u_ k.toNat) + (j3 n_ k t_)))), (7, .long (lI (Int.tdiv (10 ^ n_.toNat + 19) 20))), (9, .int (iI (k + 1)))] := lv_sub hl [4, 5, 6, 2, 1, 7, 0] rfl
            have hl : lv_has ls 12 [(0, .int (iI n_)), (1, .int (iI u_)), (2, .int (iI t_)), (3, .long (lI (loS n_ t_ u_ (k + 1).toNat))), (5, .long (lI (hiS n_ t_ u_ (k + 1).toNat))), (7, .long (lI (Int.tdiv (10 ^ n_.toNat + 19) 20))), (9, .int (iI (k + 1)))] := by rw [show (k + 1).toNat = k.toNat + 1 by omega, loS, hiS, Int.toNat_of_nonneg hk0]; first | rw [if_pos (by omega), if_pos (by omega)]; exact hl | rw [if_pos (by omega), if_neg (by omega), ← Int.add_zero (hiS _ _ _ _)]; exact hl | rw [if_neg (by omega), if_pos (by omega), ← Int.add_zero (loS _ _ _ _)]; exact hl | (exfalso; omega)
            refine ih_25 (k + 1) ?_ ?_ ?_ _ _ _ hH hl
            · omega
            · omega
            · omega
        · -- 64F
          refine lv_lload hx hb dX0_mayBe_67 (lv_at hl 0 rfl) ?_
          refine lv_goto (tgt := 73) hx hb dX0_mayBe_69 (by decide) ?_
          refine n_ladd hx hb dX0_mayBe_73 ?_
          refine lv_lstore_n hx hb dX0_mayBe_74 rfl hl (Nat.le_of_ble_eq_true rfl) (lv' := [(3, .long (lI ((loS n_ t_ u_ k.toNat) + (j3 n_ k t_)))), (10, .long (lI (j3 n_ k t_))), (0, .int (iI n_)), (1, .int (iI u_)), (2, .int (iI t_)), (5, .long (lI (hiS n_ t_ u_ k.toNat))), (7, .long (lI (Int.tdiv (10 ^ n_.toNat + 19) 20))), (9, .int (iI k))]) rfl (fun ls hl => ?_)
          refine lv_lload hx hb dX0_mayBe_75 (lv_at hl 5 rfl) ?_
          refine lv_iload hx hb dX0_mayBe_77 (lv_at hl 7 rfl) ?_
          refine lv_iload_n hx hb dX0_mayBe_79 rfl (lv_at hl 3 rfl) ?_
          refine n_icmp_lt (tgt := 88) hx hb (r32 (by omega)) (r32 (by omega)) dX0_mayBe_80 (by decide) (fun c_80 => ?_) (fun c_80 => ?_)
          · -- 80T
            refine n_lconst (z := 0) hx hb dX0_mayBe_88 (by decide) ?_
            refine n_ladd hx hb dX0_mayBe_89 ?_
            refine lv_lstore hx hb dX0_mayBe_90 hl (Nat.le_of_ble_eq_true rfl) (lv' := [(5, .long (lI ((hiS n_ t_ u_ k.toNat) + 0))), (3, .long (lI ((loS n_ t_ u_ k.toNat) + (j3 n_ k t_)))), (10, .long (lI (j3 n_ k t_))), (0, .int (iI n_)), (1, .int (iI u_)), (2, .int (iI t_)), (7, .long (lI (Int.tdiv (10 ^ n_.toNat + 19) 20))), (9, .int (iI k))]) rfl (fun ls hl => ?_)
            refine n_iinc hx hb dX0_mayBe_92 hl (k := 7) rfl (Nat.le_of_ble_eq_true rfl) (lv' := [(9, .int (iI (k + 1))), (5, .long (lI ((hiS n_ t_ u_ k.toNat) + 0))), (3, .long (lI ((loS n_ t_ u_ k.toNat) + (j3 n_ k t_)))), (10, .long (lI (j3 n_ k t_))), (0, .int (iI n_)), (1, .int (iI u_)), (2, .int (iI t_)), (7, .long (lI (Int.tdiv (10 ^ n_.toNat + 19) 20)))]) rfl (fun ls hl => ?_)
            refine lv_goto (tgt := 25) hx hb dX0_mayBe_95 (by decide) ?_
            have hl : lv_has ls 12 [(0, .int (iI n_)), (1, .int (iI u_)), (2, .int (iI t_)), (3, .long (lI ((loS n_ t_ u_ k.toNat) + (j3 n_ k t_)))), (5, .long (lI ((hiS n_ t_ u_ k.toNat) + 0))), (7, .long (lI (Int.tdiv (10 ^ n_.toNat + 19) 20))), (9, .int (iI (k + 1)))] := lv_sub hl [4, 5, 6, 2, 1, 7, 0] rfl
            have hl : lv_has ls 12 [(0, .int (iI n_)), (1, .int (iI u_)), (2, .int (iI t_)), (3, .long (lI (loS n_ t_ u_ (k + 1).toNat))), (5, .long (lI (hiS n_ t_ u_ (k + 1).toNat))), (7, .long (lI (Int.tdiv (10 ^ n_.toNat + 19) 20))), (9, .int (iI (k + 1)))] := by rw [show (k + 1).toNat = k.toNat + 1 by omega, loS, hiS, Int.toNat_of_nonneg hk0]; first | rw [if_pos (by omega), if_pos (by omega)]; exact hl | rw [if_pos (by omega), if_neg (by omega), ← Int.add_zero (hiS _ _ _ _)]; exact hl | rw [if_neg (by omega), if_pos (by omega), ← Int.add_zero (loS _ _ _ _)]; exact hl | (exfalso; omega)
            refine ih_25 (k + 1) ?_ ?_ ?_ _ _ _ hH hl
            · omega
            · omega
            · omega
          · -- 80F
            refine lv_lload hx hb dX0_mayBe_83 (lv_at hl 1 rfl) ?_
            refine lv_goto (tgt := 89) hx hb dX0_mayBe_85 (by decide) ?_
            refine n_ladd hx hb dX0_mayBe_89 ?_
            refine lv_lstore hx hb dX0_mayBe_90 hl (Nat.le_of_ble_eq_true rfl) (lv' := [(5, .long (lI ((hiS n_ t_ u_ k.toNat) + (j3 n_ k t_)))), (3, .long (lI ((loS n_ t_ u_ k.toNat) + (j3 n_ k t_)))), (10, .long (lI (j3 n_ k t_))), (0, .int (iI n_)), (1, .int (iI u_)), (2, .int (iI t_)), (7, .long (lI (Int.tdiv (10 ^ n_.toNat + 19) 20))), (9, .int (iI k))]) rfl (fun ls hl => ?_)
            refine n_iinc hx hb dX0_mayBe_92 hl (k := 7) rfl (Nat.le_of_ble_eq_true rfl) (lv' := [(9, .int (iI (k + 1))), (5, .long (lI ((hiS n_ t_ u_ k.toNat) + (j3 n_ k t_)))), (3, .long (lI ((loS n_ t_ u_ k.toNat) + (j3 n_ k t_)))), (10, .long (lI (j3 n_ k t_))), (0, .int (iI n_)), (1, .int (iI u_)), (2, .int (iI t_)), (7, .long (lI (Int.tdiv (10 ^ n_.toNat + 19) 20)))]) rfl (fun ls hl => ?_)
            refine lv_goto (tgt := 25) hx hb dX0_mayBe_95 (by decide) ?_
            have hl : lv_has ls 12 [(0, .int (iI n_)), (1, .int (iI u_)), (2, .int (iI t_)), (3, .long (lI ((loS n_ t_ u_ k.toNat) + (j3 n_ k t_)))), (5, .long (lI ((hiS n_ t_ u_ k.toNat) + (j3 n_ k t_)))), (7, .long (lI (Int.tdiv (10 ^ n_.toNat + 19) 20))), (9, .int (iI (k + 1)))] := lv_sub hl [4, 5, 6, 2, 1, 7, 0] rfl
            have hl : lv_has ls 12 [(0, .int (iI n_)), (1, .int (iI u_)), (2, .int (iI t_)), (3, .long (lI (loS n_ t_ u_ (k + 1).toNat))), (5, .long (lI (hiS n_ t_ u_ (k + 1).toNat))), (7, .long (lI (Int.tdiv (10 ^ n_.toNat + 19) 20))), (9, .int (iI (k + 1)))] := by rw [show (k + 1).toNat = k.toNat + 1 by omega, loS, hiS, Int.toNat_of_nonneg hk0]; first | rw [if_pos (by omega), if_pos (by omega)]; exact hl | rw [if_pos (by omega), if_neg (by omega), ← Int.add_zero (hiS _ _ _ _)]; exact hl | rw [if_neg (by omega), if_pos (by omega), ← Int.add_zero (loS _ _ _ _)]; exact hl | (exfalso; omega)
            refine ih_25 (k + 1) ?_ ?_ ?_ _ _ _ hH hl
            · omega
            · omega
            · omega
  refine n_lconst (z := 0) hx hb dX0_mayBe_0 (by decide) ?_
  refine lv_lstore_n hx hb dX0_mayBe_1 rfl hl (Nat.le_of_ble_eq_true rfl) (lv' := [(3, .long (lI 0)), (0, .int (iI n_)), (1, .int (iI u_)), (2, .int (iI t_))]) rfl (fun ls hl => ?_)
  refine n_lconst (z := 0) hx hb dX0_mayBe_2 (by decide) ?_
  refine lv_lstore hx hb dX0_mayBe_3 hl (Nat.le_of_ble_eq_true rfl) (lv' := [(5, .long (lI 0)), (3, .long (lI 0)), (0, .int (iI n_)), (1, .int (iI u_)), (2, .int (iI t_))]) rfl (fun ls hl => ?_)
  refine lv_ldc2 (v := lI 10) hx hb hown (hts _ q1327) dX0_mayBe_5 ?_
  refine lv_iload_n hx hb dX0_mayBe_8 rfl (lv_at hl 2 rfl) ?_
  refine x_calllF (x_runS (As := [.long (lI 10), .int (iI n_)]) (rest := []) S hH hK (fun _ _ hW => XN.warm hW hXN) XN_b hl.1 (xm_X0_power l G M 10 n_ _ (by omega) (r32 (by omega))) (lw_S q1328 q1329 q105 q1330) kd_X0_power rfl rfl dX0_mayBe_9) hH hA (fun H locs hH => ?_)
  refine lv_ldc2 (v := lI 19) hx hb hown (hts _ q1331) dX0_mayBe_12 ?_
  refine n_ladd hx hb dX0_mayBe_15 ?_
  refine lv_ldc2 (v := lI 20) hx hb hown (hts _ q1332) dX0_mayBe_16 ?_
  refine n_ldiv hx hb (by decide) (r64 (by omega)) (r64 (by omega)) (r64 (by omega)) dX0_mayBe_19 ?_
  refine lv_lstore hx hb dX0_mayBe_20 hl (Nat.le_of_ble_eq_true rfl) (lv' := [(7, .long (lI (Int.tdiv ((10 ^ n_.toNat) + 19) 20))), (5, .long (lI 0)), (3, .long (lI 0)), (0, .int (iI n_)), (1, .int (iI u_)), (2, .int (iI t_))]) rfl (fun ls hl => ?_)
  refine n_iconst hx hb dX0_mayBe_22 ?_
  refine lv_istore hx hb dX0_mayBe_23 hl (Nat.le_of_ble_eq_true rfl) (lv' := [(9, .int (iI 0)), (7, .long (lI (Int.tdiv ((10 ^ n_.toNat) + 19) 20))), (5, .long (lI 0)), (3, .long (lI 0)), (0, .int (iI n_)), (1, .int (iI u_)), (2, .int (iI t_))]) rfl (fun ls hl => ?_)
  have hl : lv_has ls 12 [(0, .int (iI n_)), (1, .int (iI u_)), (2, .int (iI t_)), (3, .long (lI 0)), (5, .long (lI 0)), (7, .long (lI (Int.tdiv ((10 ^ n_.toNat) + 19) 20))), (9, .int (iI 0))] := lv_sub hl [4, 5, 6, 3, 2, 1, 0] rfl
  have hl : lv_has ls 12 [(0, .int (iI n_)), (1, .int (iI u_)), (2, .int (iI t_)), (3, .long (lI (loS n_ t_ u_ (0 : Int).toNat))), (5, .long (lI (hiS n_ t_ u_ (0 : Int).toNat))), (7, .long (lI (Int.tdiv ((10 ^ n_.toNat) + 19) 20))), (9, .int (iI 0))] := by exact hl
  refine L25 30 0 ?_ ?_ ?_ _ _ _ hH hl
  · omega
  · omega
  · omega
theorem kd_X0_span : yX0_span.cls = RX0 ∧ yX0_span.cls ≠ "java/lang/invoke/MethodHandle" ∧ yX0_span.cls ≠ "java/lang/invoke/VarHandle" ∧ (parseMethodDescriptor yX0_span.desc).map (fun d => d.parameters.length) = some 3 := by decide +kernel
theorem xm_X0_span (l : Launch) (G : MG) (M : Hp) (σ : St) (x : XGh) (ω : XCt) (a : Nat) (n_ : Int) (u_ : Int) (w_ : Int) (sz : Nat) (hR : RX G M a σ x ω) (h_n_ : R32 n_) (h_u_ : R32 u_) (h_w_ : R32 w_) : Met l yX0_span (ws_ yX0_span cX0_span 6 (some .int)) (rmD 3) (xP G XN [.ref a, .int (iI n_), .int (iI u_), .int (iI w_)] M sz) (xQi G (DA M sz) (fun z M' => z = (spanF n_ u_ w_) ∧ M' = M)) 0 0 (DA M sz) := by
  refine x_start (by decide) (Nat.le_of_ble_eq_true rfl) ?_
  intro p e s m below meth c ⟨S, hr, hlk, hH, hK, hXN, hsz, hnm⟩ ls hl
  subst hsz
  obtain ⟨hx, hb, hml, hown, hts⟩ := S
  have S : CallFix p m c _ _ s _ lw_all RX0 := ⟨hx, hb, hml, hown, hts⟩
  have hA : ∀ q, s.heap.size ≤ q → DA M s.heap.size q := fun q hq => Or.inr hq
  have hl : lv_has ls 6 [(0, .ref a), (1, .int (iI n_)), (2, .int (iI u_)), (3, .int (iI w_))] := hl
  have h_n_ := R32.n h_n_
  have h_u_ := R32.n h_u_
  have h_w_ := R32.n h_w_
  have L41 : ∀ (q : Nat) (i : Int), (hg : (1 ≤ n_ ∧ n_ ≤ 18) ∧ (0 ≤ u_ ∧ u_ ≤ n_) ∧ (0 ≤ w_ ∧ w_ ≤ 1)) → (hi0 : 0 ≤ i) → (hi1 : i ≤ 11) → (hk : 11 < (q : Int) + i) → ∀ (H : Heap) (locs : List Loc) (ls : Array Slot), XV G (DA M s.heap.size) M s.heap H locs → lv_has ls 6 [(0, .ref a), (1, .int (iI n_)), (2, .int (iI u_)), (3, .int (iI w_)), (4, .int (iI (spanN n_ u_ w_ i.toNat))), (5, .int (iI i))] → W p l e (rmD 3) s m ([.ref a, .int (iI n_), .int (iI u_), .int (iI w_)] : List Value).toArray below meth c H locs 0 0 (MQ below (xQi G (DA M s.heap.size) (fun z M' => z = (spanF n_ u_ w_) ∧ M' = M)) ([.ref a, .int (iI n_), .int (iI u_), .int (iI w_)] : List Value).toArray s 0 0 (DA M s.heap.size)) (F0 m 41 ls []) := by
    intro q
    induction q with
    | zero => intro i hg hi0 hi1 hk; exfalso; omega
    | succ q ih_41 =>
      intro i hg hi0 hi1 hk H locs ls hH hl
      have hsr := spanN_r (n := n_) (u := u_) (w := w_) i.toNat
      refine lv_iload hx hb dX0_span_41 (lv_at hl 5 rfl) ?_
      refine n_bipush (z := 10) hx hb dX0_span_43 (by decide) ?_
      refine n_icmp_gt (tgt := 79) hx hb (r32 (by omega)) (r32 (by omega)) dX0_span_45 (by decide) (fun c_45 => ?_) (fun c_45 => ?_)
      · -- 45T
        refine lv_iload hx hb dX0_span_79 (lv_at hl 4 rfl) ?_
        refine x_iret hx hb hr hlk hH dX0_span_81 ?_
        exact ⟨by rw [spanF, if_pos hg, show i.toNat = 11 by omega], rfl⟩
      · -- 45F
        refine lv_iload_n hx hb dX0_span_48 rfl (lv_at hl 1 rfl) ?_
        refine lv_iload_n hx hb dX0_span_49 rfl (lv_at hl 2 rfl) ?_
        refine lv_iload hx hb dX0_span_50 (lv_at hl 5 rfl) ?_
        refine x_calliF (x_runS (As := [.int (iI n_), .int (iI u_), .int (iI i)]) (rest := []) S hH hK (fun _ _ hW => XN.warm hW hXN) XN_b hl.1 (xm_X0_mayBe l G M n_ u_ i _ (by omega) (by omega) (by omega) (by omega) (by omega)) (lw_S q1324 q1325 q105 q1326) kd_X0_mayBe rfl rfl dX0_span_52) hH hA (fun H locs hH => ?_)
        refine z_if_eq (tgt := 73) hx hb dX0_span_55 (by decide) (fun c_55 => ?_) (fun c_55 => ?_)
        · -- 55T
          refine n_iinc hx hb dX0_span_73 hl (k := 5) rfl (Nat.le_of_ble_eq_true rfl) (lv' := [(5, .int (iI (i + 1))), (0, .ref a), (1, .int (iI n_)), (2, .int (iI u_)), (3, .int (iI w_)), (4, .int (iI (spanN n_ u_ w_ i.toNat)))]) rfl (fun ls hl => ?_)
          refine lv_goto (tgt := 41) hx hb dX0_span_76 (by decide) ?_
          have hl : lv_has ls 6 [(0, .ref a), (1, .int (iI n_)), (2, .int (iI u_)), (3, .int (iI w_)), (4, .int (iI (spanN n_ u_ w_ i.toNat))), (5, .int (iI (i + 1)))] := lv_sub hl [1, 2, 3, 4, 5, 0] rfl
          have hl : lv_has ls 6 [(0, .ref a), (1, .int (iI n_)), (2, .int (iI u_)), (3, .int (iI w_)), (4, .int (iI (spanN n_ u_ w_ (i + 1).toNat))), (5, .int (iI (i + 1)))] := by rw [show spanN n_ u_ w_ (i + 1).toNat = spanN n_ u_ w_ i.toNat from (by rw [show (i + 1).toNat = i.toNat + 1 by omega, spanN, Int.toNat_of_nonneg hi0, if_neg (fun h => by first | exact c_55 ⟨h.1, h.2.1⟩ | omega)])]; exact hl
          refine ih_41 (i + 1) ?_ ?_ ?_ ?_ _ _ _ hH hl
          · exact hg
          · omega
          · omega
          · omega
        · -- 55F
          refine lv_iload hx hb dX0_span_58 (lv_at hl 4 rfl) ?_
          refine n_iconst hx hb dX0_span_60 ?_
          refine n_icmp_eq (tgt := 69) hx hb (r32 (by omega)) (r32 (by omega)) dX0_span_61 (by decide) (fun c_61 => ?_) (fun c_61 => ?_)
          · -- 61T
            refine lv_iload hx hb dX0_span_69 (lv_at hl 5 rfl) ?_
            refine lv_istore hx hb dX0_span_71 hl (Nat.le_of_ble_eq_true rfl) (lv' := [(4, .int (iI i)), (0, .ref a), (1, .int (iI n_)), (2, .int (iI u_)), (3, .int (iI w_)), (5, .int (iI i))]) rfl (fun ls hl => ?_)
            refine n_iinc hx hb dX0_span_73 hl (k := 5) rfl (Nat.le_of_ble_eq_true rfl) (lv' := [(5, .int (iI (i + 1))), (4, .int (iI i)), (0, .ref a), (1, .int (iI n_)), (2, .int (iI u_)), (3, .int (iI w_))]) rfl (fun ls hl => ?_)
            refine lv_goto (tgt := 41) hx hb dX0_span_76 (by decide) ?_
            have hl : lv_has ls 6 [(0, .ref a), (1, .int (iI n_)), (2, .int (iI u_)), (3, .int (iI w_)), (4, .int (iI i)), (5, .int (iI (i + 1)))] := lv_sub hl [2, 3, 4, 5, 1, 0] rfl
            have hl : lv_has ls 6 [(0, .ref a), (1, .int (iI n_)), (2, .int (iI u_)), (3, .int (iI w_)), (4, .int (iI (spanN n_ u_ w_ (i + 1).toNat))), (5, .int (iI (i + 1)))] := by rw [show spanN n_ u_ w_ (i + 1).toNat = i from (by rw [show (i + 1).toNat = i.toNat + 1 by omega, spanN, Int.toNat_of_nonneg hi0, if_pos ⟨c_55.1, c_55.2, by omega⟩])]; exact hl
            refine ih_41 (i + 1) ?_ ?_ ?_ ?_ _ _ _ hH hl
            · exact hg
            · omega
            · omega
            · omega
          · -- 61F
            refine lv_iload_n hx hb dX0_span_64 rfl (lv_at hl 3 rfl) ?_
            refine n_iconst hx hb dX0_span_65 ?_
            refine n_icmp_ne (tgt := 73) hx hb (r32 (by omega)) (r32 (by omega)) dX0_span_66 (by decide) (fun c_66 => ?_) (fun c_66 => ?_)
            · -- 66T
              refine n_iinc hx hb dX0_span_73 hl (k := 5) rfl (Nat.le_of_ble_eq_true rfl) (lv' := [(5, .int (iI (i + 1))), (0, .ref a), (1, .int (iI n_)), (2, .int (iI u_)), (3, .int (iI w_)), (4, .int (iI (spanN n_ u_ w_ i.toNat)))]) rfl (fun ls hl => ?_)
              refine lv_goto (tgt := 41) hx hb dX0_span_76 (by decide) ?_
              have hl : lv_has ls 6 [(0, .ref a), (1, .int (iI n_)), (2, .int (iI u_)), (3, .int (iI w_)), (4, .int (iI (spanN n_ u_ w_ i.toNat))), (5, .int (iI (i + 1)))] := lv_sub hl [1, 2, 3, 4, 5, 0] rfl
              have hl : lv_has ls 6 [(0, .ref a), (1, .int (iI n_)), (2, .int (iI u_)), (3, .int (iI w_)), (4, .int (iI (spanN n_ u_ w_ (i + 1).toNat))), (5, .int (iI (i + 1)))] := by rw [show spanN n_ u_ w_ (i + 1).toNat = spanN n_ u_ w_ i.toNat from (by rw [show (i + 1).toNat = i.toNat + 1 by omega, spanN, Int.toNat_of_nonneg hi0, if_neg (fun h => by first | exact c_55 ⟨h.1, h.2.1⟩ | omega)])]; exact hl
              refine ih_41 (i + 1) ?_ ?_ ?_ ?_ _ _ _ hH hl
              · exact hg
              · omega
              · omega
              · omega
            · -- 66F
              refine lv_iload hx hb dX0_span_69 (lv_at hl 5 rfl) ?_
              refine lv_istore hx hb dX0_span_71 hl (Nat.le_of_ble_eq_true rfl) (lv' := [(4, .int (iI i)), (0, .ref a), (1, .int (iI n_)), (2, .int (iI u_)), (3, .int (iI w_)), (5, .int (iI i))]) rfl (fun ls hl => ?_)
              refine n_iinc hx hb dX0_span_73 hl (k := 5) rfl (Nat.le_of_ble_eq_true rfl) (lv' := [(5, .int (iI (i + 1))), (4, .int (iI i)), (0, .ref a), (1, .int (iI n_)), (2, .int (iI u_)), (3, .int (iI w_))]) rfl (fun ls hl => ?_)
              refine lv_goto (tgt := 41) hx hb dX0_span_76 (by decide) ?_
              have hl : lv_has ls 6 [(0, .ref a), (1, .int (iI n_)), (2, .int (iI u_)), (3, .int (iI w_)), (4, .int (iI i)), (5, .int (iI (i + 1)))] := lv_sub hl [2, 3, 4, 5, 1, 0] rfl
              have hl : lv_has ls 6 [(0, .ref a), (1, .int (iI n_)), (2, .int (iI u_)), (3, .int (iI w_)), (4, .int (iI (spanN n_ u_ w_ (i + 1).toNat))), (5, .int (iI (i + 1)))] := by rw [show spanN n_ u_ w_ (i + 1).toNat = i from (by rw [show (i + 1).toNat = i.toNat + 1 by omega, spanN, Int.toNat_of_nonneg hi0, if_pos ⟨c_55.1, c_55.2, by omega⟩])]; exact hl
              refine ih_41 (i + 1) ?_ ?_ ?_ ?_ _ _ _ hH hl
              · exact hg
              · omega
              · omega
              · omega
  refine lv_iload_n hx hb dX0_span_0 rfl (lv_at hl 1 rfl) ?_
  refine n_i2l hx hb (r32 (by omega)) dX0_span_1 ?_
  refine n_lconst (z := 1) hx hb dX0_span_2 (by decide) ?_
  refine lv_ldc2 (v := lI 18) hx hb hown (hts _ q1323) dX0_span_3 ?_
  refine x_calliF (x_runS (As := [.long (lI n_), .long (lI 1), .long (lI 18)]) (rest := []) S hH hK (fun _ _ hW => XN.warm hW hXN) XN_b hl.1 (xm_X0_in l G M n_ 1 18 _ (r64 (by omega)) (r64 (by omega)) (r64 (by omega))) (lw_S q386 q387 q105 q388) kd_X0_in rfl rfl dX0_span_6) hH hA (fun H locs hH => ?_)
  refine z_if_eq (tgt := 33) hx hb dX0_span_9 (by decide) (fun c_9 => ?_) (fun c_9 => ?_)
  · -- 9T
    refine n_iconst hx hb dX0_span_33 ?_
    refine x_iret hx hb hr hlk hH dX0_span_34 ?_
    exact ⟨(if_neg (by omega)).symm, rfl⟩
  · -- 9F
    refine lv_iload_n hx hb dX0_span_12 rfl (lv_at hl 2 rfl) ?_
    refine n_i2l hx hb (r32 (by omega)) dX0_span_13 ?_
    refine n_lconst (z := 0) hx hb dX0_span_14 (by decide) ?_
    refine lv_iload_n hx hb dX0_span_15 rfl (lv_at hl 1 rfl) ?_
    refine n_i2l hx hb (r32 (by omega)) dX0_span_16 ?_
    refine x_calliF (x_runS (As := [.long (lI u_), .long (lI 0), .long (lI n_)]) (rest := []) S hH hK (fun _ _ hW => XN.warm hW hXN) XN_b hl.1 (xm_X0_in l G M u_ 0 n_ _ (r64 (by omega)) (r64 (by omega)) (r64 (by omega))) (lw_S q386 q387 q105 q388) kd_X0_in rfl rfl dX0_span_17) hH hA (fun H locs hH => ?_)
    refine z_if_eq (tgt := 33) hx hb dX0_span_20 (by decide) (fun c_20 => ?_) (fun c_20 => ?_)
    · -- 20T
      refine n_iconst hx hb dX0_span_33 ?_
      refine x_iret hx hb hr hlk hH dX0_span_34 ?_
      exact ⟨(if_neg (by omega)).symm, rfl⟩
    · -- 20F
      refine lv_iload_n hx hb dX0_span_23 rfl (lv_at hl 3 rfl) ?_
      refine n_i2l hx hb (r32 (by omega)) dX0_span_24 ?_
      refine n_lconst (z := 0) hx hb dX0_span_25 (by decide) ?_
      refine n_lconst (z := 1) hx hb dX0_span_26 (by decide) ?_
      refine x_calliF (x_runS (As := [.long (lI w_), .long (lI 0), .long (lI 1)]) (rest := []) S hH hK (fun _ _ hW => XN.warm hW hXN) XN_b hl.1 (xm_X0_in l G M w_ 0 1 _ (r64 (by omega)) (r64 (by omega)) (r64 (by omega))) (lw_S q386 q387 q105 q388) kd_X0_in rfl rfl dX0_span_27) hH hA (fun H locs hH => ?_)
      refine z_if_ne (tgt := 35) hx hb dX0_span_30 (by decide) (fun c_30 => ?_) (fun c_30 => ?_)
      · -- 30T
        refine n_iconst hx hb dX0_span_35 ?_
        refine lv_istore hx hb dX0_span_36 hl (Nat.le_of_ble_eq_true rfl) (lv' := [(4, .int (iI (-1))), (0, .ref a), (1, .int (iI n_)), (2, .int (iI u_)), (3, .int (iI w_))]) rfl (fun ls hl => ?_)
        refine n_iconst hx hb dX0_span_38 ?_
        refine lv_istore hx hb dX0_span_39 hl (Nat.le_of_ble_eq_true rfl) (lv' := [(5, .int (iI 0)), (4, .int (iI (-1))), (0, .ref a), (1, .int (iI n_)), (2, .int (iI u_)), (3, .int (iI w_))]) rfl (fun ls hl => ?_)
        have hl : lv_has ls 6 [(0, .ref a), (1, .int (iI n_)), (2, .int (iI u_)), (3, .int (iI w_)), (4, .int (iI (-1))), (5, .int (iI 0))] := lv_sub hl [2, 3, 4, 5, 1, 0] rfl
        have hl : lv_has ls 6 [(0, .ref a), (1, .int (iI n_)), (2, .int (iI u_)), (3, .int (iI w_)), (4, .int (iI (spanN n_ u_ w_ (0 : Int).toNat))), (5, .int (iI 0))] := by exact hl
        refine L41 30 0 ?_ ?_ ?_ ?_ _ _ _ hH hl
        · omega
        · omega
        · omega
        · omega
      · -- 30F
        refine n_iconst hx hb dX0_span_33 ?_
        refine x_iret hx hb hr hlk hH dX0_span_34 ?_
        exact ⟨(if_neg (by omega)).symm, rfl⟩
theorem kd_X0_need : yX0_need.cls = RX0 ∧ yX0_need.cls ≠ "java/lang/invoke/MethodHandle" ∧ yX0_need.cls ≠ "java/lang/invoke/VarHandle" ∧ (parseMethodDescriptor yX0_need.desc).map (fun d => d.parameters.length) = some 2 := by decide +kernel
theorem xm_X0_need (l : Launch) (G : MG) (M : Hp) (σ : St) (x : XGh) (ω : XCt) (a : Nat) (a_ : Int) (s_ : Int) (sz : Nat) (hR : RX G M a σ x ω) (h_a_ : R32 a_) (h_s_ : R32 s_) : Met l yX0_need (ws_ yX0_need cX0_need 4 (some .int)) (rmD 3) (xP G XN [.ref a, .int (iI a_), .int (iI s_)] M sz) (xQi G (DA M sz) (fun z M' => z = (needF a_ s_) ∧ M' = M)) 0 0 (DA M sz) := by
  refine x_start (by decide) (Nat.le_of_ble_eq_true rfl) ?_
  intro p e s m below meth c ⟨S, hr, hlk, hH, hK, hXN, hsz, hnm⟩ ls hl
  subst hsz
  obtain ⟨hx, hb, hml, hown, hts⟩ := S
  have S : CallFix p m c _ _ s _ lw_all RX0 := ⟨hx, hb, hml, hown, hts⟩
  have hA : ∀ q, s.heap.size ≤ q → DA M s.heap.size q := fun q hq => Or.inr hq
  have hl : lv_has ls 4 [(0, .ref a), (1, .int (iI a_)), (2, .int (iI s_))] := hl
  have h_a_ := R32.n h_a_
  have h_s_ := R32.n h_s_
  have L28 : ∀ (q : Nat) (i : Int), (hg : (1 ≤ a_ ∧ a_ ≤ 10) ∧ (1 ≤ s_ ∧ s_ ≤ 99)) → (hi0 : 1 ≤ i) → (hi1 : i ≤ 17) → (hk : 17 < (q : Int) + i) → (he : needN a_ s_ 16 = needN a_ s_ (17 - i).toNat) → ∀ (H : Heap) (locs : List Loc) (ls : Array Slot), XV G (DA M s.heap.size) M s.heap H locs → lv_has ls 4 [(0, .ref a), (1, .int (iI a_)), (2, .int (iI s_)), (3, .int (iI i))] → W p l e (rmD 3) s m ([.ref a, .int (iI a_), .int (iI s_)] : List Value).toArray below meth c H locs 0 0 (MQ below (xQi G (DA M s.heap.size) (fun z M' => z = (needF a_ s_) ∧ M' = M)) ([.ref a, .int (iI a_), .int (iI s_)] : List Value).toArray s 0 0 (DA M s.heap.size)) (F0 m 28 ls []) := by
    intro q
    induction q with
    | zero => intro i hg hi0 hi1 hk he; exfalso; omega
    | succ q ih_28 =>
      intro i hg hi0 hi1 hk he H locs ls hH hl
      refine lv_iload_n hx hb dX0_need_28 rfl (lv_at hl 3 rfl) ?_
      refine n_bipush (z := 16) hx hb dX0_need_29 (by decide) ?_
      refine n_icmp_gt (tgt := 77) hx hb (r32 (by omega)) (r32 (by omega)) dX0_need_31 (by decide) (fun c_31 => ?_) (fun c_31 => ?_)
      · -- 31T
        refine n_iconst hx hb dX0_need_77 ?_
        refine x_iret hx hb hr hlk hH dX0_need_78 ?_
        exact ⟨by rw [needF, if_pos hg, he, show (17 - i).toNat = 0 by omega, needN], rfl⟩
      · -- 31F
        have hp1 := pw_s (b := 10) (n := i) (by omega) (by omega) (by omega) (by omega)
        have hp2 := pw_s (b := 10 - a_) (n := i) (by omega) (by omega) (by omega) (by omega)
        have hp3 := Int.mul_le_mul_of_nonneg_left hp1.2 (show 0 ≤ s_ by omega)
        have hp4 := Int.mul_nonneg (show 0 ≤ s_ by omega) hp1.1
        refine lv_ldc2 (v := lI 100) hx hb hown (hts _ q391) dX0_need_34 ?_
        refine lv_ldc2 (v := lI 10) hx hb hown (hts _ q1327) dX0_need_37 ?_
        refine lv_iload_n hx hb dX0_need_40 rfl (lv_at hl 3 rfl) ?_
        refine x_calllF (x_runS (As := [.long (lI 10), .int (iI i)]) (rest := [.long (lI 100)]) S hH hK (fun _ _ hW => XN.warm hW hXN) XN_b hl.1 (xm_X0_power l G M 10 i _ (by omega) (r32 (by omega))) (lw_S q1328 q1329 q105 q1330) kd_X0_power rfl rfl dX0_need_41) hH hA (fun H locs hH => ?_)
        refine n_bipush (z := 10) hx hb dX0_need_44 (by decide) ?_
        refine lv_iload_n hx hb dX0_need_46 rfl (lv_at hl 1 rfl) ?_
        refine n_isub hx hb dX0_need_47 ?_
        refine n_i2l hx hb (r32 (by omega)) dX0_need_48 ?_
        refine lv_iload_n hx hb dX0_need_49 rfl (lv_at hl 3 rfl) ?_
        refine x_calllF (x_runS (As := [.long (lI (10 - a_)), .int (iI i)]) (rest := [.long (lI (10 ^ i.toNat)), .long (lI 100)]) S hH hK (fun _ _ hW => XN.warm hW hXN) XN_b hl.1 (xm_X0_power l G M (10 - a_) i _ (by omega) (r32 (by omega))) (lw_S q1328 q1329 q105 q1330) kd_X0_power rfl rfl dX0_need_50) hH hA (fun H locs hH => ?_)
        refine n_lsub hx hb dX0_need_53 ?_
        refine n_lmul hx hb dX0_need_54 ?_
        refine lv_iload_n hx hb dX0_need_55 rfl (lv_at hl 2 rfl) ?_
        refine n_i2l hx hb (r32 (by omega)) dX0_need_56 ?_
        refine lv_ldc2 (v := lI 10) hx hb hown (hts _ q1327) dX0_need_57 ?_
        refine lv_iload_n hx hb dX0_need_60 rfl (lv_at hl 3 rfl) ?_
        refine x_calllF (x_runS (As := [.long (lI 10), .int (iI i)]) (rest := [.long (lI s_), .long (lI (100 * ((10 ^ i.toNat) - ((10 - a_) ^ i.toNat))))]) S hH hK (fun _ _ hW => XN.warm hW hXN) XN_b hl.1 (xm_X0_power l G M 10 i _ (by omega) (r32 (by omega))) (lw_S q1328 q1329 q105 q1330) kd_X0_power rfl rfl dX0_need_61) hH hA (fun H locs hH => ?_)
        refine n_lmul hx hb dX0_need_64 ?_
        refine n_lcmp_lt (tgt := 71) hx hb (r64 (by omega)) (r64 (by omega)) dX0_need_65 dX0_need_66 (by decide) (fun c_65 => ?_) (fun c_65 => ?_)
        · -- 65T
          refine n_iinc hx hb dX0_need_71 hl (k := 3) rfl (Nat.le_of_ble_eq_true rfl) (lv' := [(3, .int (iI (i + 1))), (0, .ref a), (1, .int (iI a_)), (2, .int (iI s_))]) rfl (fun ls hl => ?_)
          refine lv_goto (tgt := 28) hx hb dX0_need_74 (by decide) ?_
          have hl : lv_has ls 4 [(0, .ref a), (1, .int (iI a_)), (2, .int (iI s_)), (3, .int (iI (i + 1)))] := lv_sub hl [1, 2, 3, 0] rfl
          refine ih_28 (i + 1) ?_ ?_ ?_ ?_ ?_ _ _ _ hH hl
          · exact hg
          · omega
          · omega
          · omega
          · rw [he, show (17 - i).toNat = (17 - (i + 1)).toNat + 1 by omega, needN, show (16 : Int) - (17 - (i + 1)).toNat = i by omega, if_neg (by omega)]
        · -- 65F
          refine lv_iload_n hx hb dX0_need_69 rfl (lv_at hl 3 rfl) ?_
          refine x_iret hx hb hr hlk hH dX0_need_70 ?_
          exact ⟨by rw [needF, if_pos hg, he, show (17 - i).toNat = (16 - i).toNat + 1 by omega, needN, show (16 : Int) - (16 - i).toNat = i by omega, if_pos (by omega)], rfl⟩
  refine lv_iload_n hx hb dX0_need_0 rfl (lv_at hl 1 rfl) ?_
  refine n_i2l hx hb (r32 (by omega)) dX0_need_1 ?_
  refine n_lconst (z := 1) hx hb dX0_need_2 (by decide) ?_
  refine lv_ldc2 (v := lI 10) hx hb hown (hts _ q1327) dX0_need_3 ?_
  refine x_calliF (x_runS (As := [.long (lI a_), .long (lI 1), .long (lI 10)]) (rest := []) S hH hK (fun _ _ hW => XN.warm hW hXN) XN_b hl.1 (xm_X0_in l G M a_ 1 10 _ (r64 (by omega)) (r64 (by omega)) (r64 (by omega))) (lw_S q386 q387 q105 q388) kd_X0_in rfl rfl dX0_need_6) hH hA (fun H locs hH => ?_)
  refine z_if_eq (tgt := 24) hx hb dX0_need_9 (by decide) (fun c_9 => ?_) (fun c_9 => ?_)
  · -- 9T
    refine n_iconst hx hb dX0_need_24 ?_
    refine x_iret hx hb hr hlk hH dX0_need_25 ?_
    exact ⟨(if_neg (by omega)).symm, rfl⟩
  · -- 9F
    refine lv_iload_n hx hb dX0_need_12 rfl (lv_at hl 2 rfl) ?_
    refine n_i2l hx hb (r32 (by omega)) dX0_need_13 ?_
    refine n_lconst (z := 1) hx hb dX0_need_14 (by decide) ?_
    refine lv_ldc2 (v := lI 99) hx hb hown (hts _ q1340) dX0_need_15 ?_
    refine x_calliF (x_runS (As := [.long (lI s_), .long (lI 1), .long (lI 99)]) (rest := []) S hH hK (fun _ _ hW => XN.warm hW hXN) XN_b hl.1 (xm_X0_in l G M s_ 1 99 _ (r64 (by omega)) (r64 (by omega)) (r64 (by omega))) (lw_S q386 q387 q105 q388) kd_X0_in rfl rfl dX0_need_18) hH hA (fun H locs hH => ?_)
    refine z_if_ne (tgt := 26) hx hb dX0_need_21 (by decide) (fun c_21 => ?_) (fun c_21 => ?_)
    · -- 21T
      refine n_iconst hx hb dX0_need_26 ?_
      refine lv_istore_n hx hb dX0_need_27 rfl hl (Nat.le_of_ble_eq_true rfl) (lv' := [(3, .int (iI 1)), (0, .ref a), (1, .int (iI a_)), (2, .int (iI s_))]) rfl (fun ls hl => ?_)
      have hl : lv_has ls 4 [(0, .ref a), (1, .int (iI a_)), (2, .int (iI s_)), (3, .int (iI 1))] := lv_sub hl [1, 2, 3, 0] rfl
      refine L28 30 1 ?_ ?_ ?_ ?_ ?_ _ _ _ hH hl
      · omega
      · omega
      · omega
      · omega
      · rfl
    · -- 21F
      refine n_iconst hx hb dX0_need_24 ?_
      refine x_iret hx hb hr hlk hH dX0_need_25 ?_
      exact ⟨(if_neg (by omega)).symm, rfl⟩
theorem kd_X0_bound : yX0_bound.cls = RX0 ∧ yX0_bound.cls ≠ "java/lang/invoke/MethodHandle" ∧ yX0_bound.cls ≠ "java/lang/invoke/VarHandle" ∧ (parseMethodDescriptor yX0_bound.desc).map (fun d => d.parameters.length) = some 1 := by decide +kernel
theorem xm_X0_bound (l : Launch) (G : MG) (M : Hp) (σ : St) (x : XGh) (ω : XCt) (a : Nat) (n_ : Int) (sz : Nat) (hR : RX G M a σ x ω) (h_n_ : R32 n_) : Met l yX0_bound (ws_ yX0_bound cX0_bound 4 (some .int)) (rmD 3) (xP G XN [.ref a, .int (iI n_)] M sz) (xQi G (DA M sz) (fun z M' => z = (boundF n_) ∧ M' = M)) 0 0 (DA M sz) := by
  refine x_start (by decide) (Nat.le_of_ble_eq_true rfl) ?_
  intro p e s m below meth c ⟨S, hr, hlk, hH, hK, hXN, hsz, hnm⟩ ls hl
  subst hsz
  obtain ⟨hx, hb, hml, hown, hts⟩ := S
  have S : CallFix p m c _ _ s _ lw_all RX0 := ⟨hx, hb, hml, hown, hts⟩
  have hA : ∀ q, s.heap.size ≤ q → DA M s.heap.size q := fun q hq => Or.inr hq
  have hl : lv_has ls 4 [(0, .ref a), (1, .int (iI n_))] := hl
  have h_n_ := R32.n h_n_
  have L18 : ∀ (q : Nat) (i : Int), (hg : 1 ≤ n_ ∧ n_ ≤ 18) → (hi0 : 1 ≤ i) → (hi1 : i ≤ 10) → (hk : 10 < (q : Int) + i) → ∀ (H : Heap) (locs : List Loc) (ls : Array Slot), XV G (DA M s.heap.size) M s.heap H locs → lv_has ls 4 [(0, .ref a), (1, .int (iI n_)), (2, .int (iI (boundN n_ i.toNat))), (3, .int (iI i))] → W p l e (rmD 3) s m ([.ref a, .int (iI n_)] : List Value).toArray below meth c H locs 0 0 (MQ below (xQi G (DA M s.heap.size) (fun z M' => z = (boundF n_) ∧ M' = M)) ([.ref a, .int (iI n_)] : List Value).toArray s 0 0 (DA M s.heap.size)) (F0 m 18 ls []) := by
    intro q
    induction q with
    | zero => intro i hg hi0 hi1 hk; exfalso; omega
    | succ q ih_18 =>
      intro i hg hi0 hi1 hk H locs ls hH hl
      have hb4 := p10_r (n := n_) (by omega)
      have hlt := tw_r hg.1 hg.2
      have hiff := tw_i (p := (10 - i) ^ n_.toNat) hg.1 hg.2
      have hbr := boundN_r (n := n_) i.toNat
      refine lv_iload_n hx hb dX0_bound_18 rfl (lv_at hl 3 rfl) ?_
      refine n_bipush (z := 10) hx hb dX0_bound_19 (by decide) ?_
      refine n_icmp_ge (tgt := 60) hx hb (r32 (by omega)) (r32 (by omega)) dX0_bound_21 (by decide) (fun c_21 => ?_) (fun c_21 => ?_)
      · -- 21T
        refine lv_iload_n hx hb dX0_bound_60 rfl (lv_at hl 2 rfl) ?_
        refine x_iret hx hb hr hlk hH dX0_bound_61 ?_
        exact ⟨by rw [boundF, if_pos hg, show i.toNat = 10 by omega], rfl⟩
      · -- 21F
        have hp1 := pw_r (b := 10 - i) (n := n_) (by omega) (by omega) (by omega)
        refine n_bipush (z := 10) hx hb dX0_bound_24 (by decide) ?_
        refine lv_iload_n hx hb dX0_bound_26 rfl (lv_at hl 3 rfl) ?_
        refine n_isub hx hb dX0_bound_27 ?_
        refine n_i2l hx hb (r32 (by omega)) dX0_bound_28 ?_
        refine lv_iload_n hx hb dX0_bound_29 rfl (lv_at hl 1 rfl) ?_
        refine x_calllF (x_runS (As := [.long (lI (10 - i)), .int (iI n_)]) (rest := []) S hH hK (fun _ _ hW => XN.warm hW hXN) XN_b hl.1 (xm_X0_power l G M (10 - i) n_ _ (by omega) (r32 (by omega))) (lw_S q1328 q1329 q105 q1330) kd_X0_power rfl rfl dX0_bound_30) hH hA (fun H locs hH => ?_)
        refine lv_ldc2 (v := lI 10) hx hb hown (hts _ q1327) dX0_bound_33 ?_
        refine lv_iload_n hx hb dX0_bound_36 rfl (lv_at hl 1 rfl) ?_
        refine x_calllF (x_runS (As := [.long (lI 10), .int (iI n_)]) (rest := [.long (lI ((10 - i) ^ n_.toNat))]) S hH hK (fun _ _ hW => XN.warm hW hXN) XN_b hl.1 (xm_X0_power l G M 10 n_ _ (by omega) (r32 (by omega))) (lw_S q1328 q1329 q105 q1330) kd_X0_power rfl rfl dX0_bound_37) hH hA (fun H locs hH => ?_)
        refine lv_ldc2 (v := lI 19) hx hb hown (hts _ q1331) dX0_bound_40 ?_
        refine n_ladd hx hb dX0_bound_43 ?_
        refine lv_ldc2 (v := lI 20) hx hb hown (hts _ q1332) dX0_bound_44 ?_
        refine n_ldiv hx hb (by decide) (r64 (by omega)) (r64 (by omega)) (r64 (by omega)) dX0_bound_47 ?_
        refine n_lcmp_lt (tgt := 54) hx hb (r64 (by omega)) (r64 (by omega)) dX0_bound_48 dX0_bound_49 (by decide) (fun c_48 => ?_) (fun c_48 => ?_)
        · -- 48T
          refine n_iinc hx hb dX0_bound_54 hl (k := 3) rfl (Nat.le_of_ble_eq_true rfl) (lv' := [(3, .int (iI (i + 1))), (0, .ref a), (1, .int (iI n_)), (2, .int (iI (boundN n_ i.toNat)))]) rfl (fun ls hl => ?_)
          refine lv_goto (tgt := 18) hx hb dX0_bound_57 (by decide) ?_
          have hl : lv_has ls 4 [(0, .ref a), (1, .int (iI n_)), (2, .int (iI (boundN n_ i.toNat))), (3, .int (iI (i + 1)))] := lv_sub hl [1, 2, 3, 0] rfl
          have hl : lv_has ls 4 [(0, .ref a), (1, .int (iI n_)), (2, .int (iI (boundN n_ (i + 1).toNat))), (3, .int (iI (i + 1)))] := by rw [show boundN n_ (i + 1).toNat = boundN n_ i.toNat from (by rw [show (i + 1).toNat = i.toNat + 1 by omega, boundN, Int.toNat_of_nonneg (by omega), if_neg (fun h => by have := hiff.mp h; omega)])]; exact hl
          refine ih_18 (i + 1) ?_ ?_ ?_ ?_ _ _ _ hH hl
          · exact hg
          · omega
          · omega
          · omega
        · -- 48F
          refine lv_iload_n hx hb dX0_bound_52 rfl (lv_at hl 3 rfl) ?_
          refine lv_istore_n hx hb dX0_bound_53 rfl hl (Nat.le_of_ble_eq_true rfl) (lv' := [(2, .int (iI i)), (0, .ref a), (1, .int (iI n_)), (3, .int (iI i))]) rfl (fun ls hl => ?_)
          refine n_iinc hx hb dX0_bound_54 hl (k := 3) rfl (Nat.le_of_ble_eq_true rfl) (lv' := [(3, .int (iI (i + 1))), (2, .int (iI i)), (0, .ref a), (1, .int (iI n_))]) rfl (fun ls hl => ?_)
          refine lv_goto (tgt := 18) hx hb dX0_bound_57 (by decide) ?_
          have hl : lv_has ls 4 [(0, .ref a), (1, .int (iI n_)), (2, .int (iI i)), (3, .int (iI (i + 1)))] := lv_sub hl [2, 3, 1, 0] rfl
          have hl : lv_has ls 4 [(0, .ref a), (1, .int (iI n_)), (2, .int (iI (boundN n_ (i + 1).toNat))), (3, .int (iI (i + 1)))] := by rw [show boundN n_ (i + 1).toNat = i from (by rw [show (i + 1).toNat = i.toNat + 1 by omega, boundN, Int.toNat_of_nonneg (by omega), if_pos (hiff.mpr (by omega))])]; exact hl
          refine ih_18 (i + 1) ?_ ?_ ?_ ?_ _ _ _ hH hl
          · exact hg
          · omega
          · omega
          · omega
  refine lv_iload_n hx hb dX0_bound_0 rfl (lv_at hl 1 rfl) ?_
  refine n_i2l hx hb (r32 (by omega)) dX0_bound_1 ?_
  refine n_lconst (z := 1) hx hb dX0_bound_2 (by decide) ?_
  refine lv_ldc2 (v := lI 18) hx hb hown (hts _ q1323) dX0_bound_3 ?_
  refine x_calliF (x_runS (As := [.long (lI n_), .long (lI 1), .long (lI 18)]) (rest := []) S hH hK (fun _ _ hW => XN.warm hW hXN) XN_b hl.1 (xm_X0_in l G M n_ 1 18 _ (r64 (by omega)) (r64 (by omega)) (r64 (by omega))) (lw_S q386 q387 q105 q388) kd_X0_in rfl rfl dX0_bound_6) hH hA (fun H locs hH => ?_)
  refine z_if_ne (tgt := 14) hx hb dX0_bound_9 (by decide) (fun c_9 => ?_) (fun c_9 => ?_)
  · -- 9T
    refine n_iconst hx hb dX0_bound_14 ?_
    refine lv_istore_n hx hb dX0_bound_15 rfl hl (Nat.le_of_ble_eq_true rfl) (lv' := [(2, .int (iI 0)), (0, .ref a), (1, .int (iI n_))]) rfl (fun ls hl => ?_)
    refine n_iconst hx hb dX0_bound_16 ?_
    refine lv_istore_n hx hb dX0_bound_17 rfl hl (Nat.le_of_ble_eq_true rfl) (lv' := [(3, .int (iI 1)), (2, .int (iI 0)), (0, .ref a), (1, .int (iI n_))]) rfl (fun ls hl => ?_)
    have hl : lv_has ls 4 [(0, .ref a), (1, .int (iI n_)), (2, .int (iI 0)), (3, .int (iI 1))] := lv_sub hl [2, 3, 1, 0] rfl
    have hl : lv_has ls 4 [(0, .ref a), (1, .int (iI n_)), (2, .int (iI (boundN n_ (1 : Int).toNat))), (3, .int (iI 1))] := by rw [bound_1 c_9]; exact hl
    refine L18 30 1 ?_ ?_ ?_ ?_ _ _ _ hH hl
    · omega
    · omega
    · omega
    · omega
  · -- 9F
    refine n_iconst hx hb dX0_bound_12 ?_
    refine x_iret hx hb hr hlk hH dX0_bound_13 ?_
    exact ⟨(if_neg (by omega)).symm, rfl⟩
