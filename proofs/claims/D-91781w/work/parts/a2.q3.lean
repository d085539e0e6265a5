/-! parting: pairs in the other order -/
def dX (κ : Int → Int) (s t : Int) (a b : Nat) : Int := if s / 2 ^ a % 2 = 1 ∧ s / 2 ^ b % 2 = 1 then abI (oT κ a t - oT κ b t) else 0
def rX (κ : Int → Int) (s t : Int) (a : Nat) : Nat → Int
  | 0 => 0
  | b + 1 => rX κ s t a b + (if a < b then dX κ s t a b else 0)
def sX (κ : Int → Int) (s t : Int) (n : Nat) : Nat → Int
  | 0 => 0
  | a + 1 => sX κ s t n a + rX κ s t a n
theorem abI_n (x y : Int) : abI (x - y) = abI (y - x) := by
  unfold abI
  (repeat' split) <;> omega
theorem rX_0 {κ : Int → Int} {s t : Int} {a : Nat} : ∀ m : Nat, m ≤ a + 1 → rX κ s t a m = 0
  | 0, _ => rfl
  | m + 1, h => by
    rw [rX, rX_0 m (by omega), if_neg (by omega)]
    rfl
theorem dX_r {κ : Int → Int} {s t : Int} {a b : Nat} : 0 ≤ dX κ s t a b ∧ dX κ s t a b ≤ 100 := by
  have h1 := oT_r κ a t
  have h2 := oT_r κ b t
  unfold dX abI
  (repeat' split) <;> omega
theorem rX_r {κ : Int → Int} {s t : Int} {a : Nat} : ∀ b : Nat, 0 ≤ rX κ s t a b ∧ rX κ s t a b ≤ 100 * b
  | 0 => ⟨Int.le_refl 0, by show (0 : Int) ≤ 100 * ((0 : Nat) : Int); omega⟩
  | b + 1 => by
    have ih := rX_r (κ := κ) (s := s) (t := t) (a := a) b
    have h := dX_r (κ := κ) (s := s) (t := t) (a := a) (b := b)
    rw [rX]
    split <;> omega
theorem sX_r {κ : Int → Int} {s t : Int} {n : Nat} (hn : n ≤ 12) : ∀ a : Nat, 0 ≤ sX κ s t n a ∧ sX κ s t n a ≤ 1200 * a
  | 0 => ⟨Int.le_refl 0, by show (0 : Int) ≤ 1200 * ((0 : Nat) : Int); omega⟩
  | a + 1 => by
    have ih := sX_r (κ := κ) (s := s) (t := t) hn a
    have h := rX_r (κ := κ) (s := s) (t := t) (a := a) n
    rw [sX]
    omega
theorem rX_e {κ : Int → Int} {s t a b : Int} (h : 0 ≤ a) (hb : a < b) : rX κ s t a.toNat (b + 1).toNat = rX κ s t a.toNat b.toNat + (if s / 2 ^ a.toNat % 2 = 1 ∧ s / 2 ^ b.toNat % 2 = 1 then abI (oT κ a t - oT κ b t) else 0) := by
  rw [show (b + 1).toNat = b.toNat + 1 by omega, rX, if_pos (by omega), dX, Int.toNat_of_nonneg h, Int.toNat_of_nonneg (by omega)]
theorem sX_up {κ : Int → Int} {s t : Int} {n : Nat} : ∀ a : Nat, a ≤ n → sX κ s t (n + 1) a = sX κ s t n a + (if s / 2 ^ n % 2 = 0 then 0 else inN κ s t n a)
  | 0, _ => by
    show (0 : Int) = 0 + _
    split <;> rfl
  | a + 1, h => by
    rw [sX, sX, sX_up a (by omega), rX, if_pos (show a < n by omega), inN, dX, abI_n]
    (repeat' split) <;> omega
theorem sX_pa {κ : Int → Int} {s t : Int} : ∀ n : Nat, sX κ s t n n = paN κ s t n
  | 0 => rfl
  | n + 1 => by
    rw [sX, sX_up n (Nat.le_refl n), rX_0 _ (Nat.le_refl _), paN, sX_pa n]
    omega
theorem kd_X5_growsIn : yX5_growsIn.cls = RX5 ∧ yX5_growsIn.cls ≠ "java/lang/invoke/MethodHandle" ∧ yX5_growsIn.cls ≠ "java/lang/invoke/VarHandle" ∧ (parseMethodDescriptor yX5_growsIn.desc).map (fun d => d.parameters.length) = some 1 := by decide +kernel
theorem xm_X5_growsIn (l : Launch) (G : MG) (M : Hp) (t1 : Int) (t2 : Int) (t3 : Int) (t4 : Int) (t5 : Int) (t6 : Int) (y_ : Nat) (k : Int) (sz : Nat) (g1 : M y_ = some (oB 5 [.int (iI t1), .int (iI t2), .int (iI t3), .int (iI t4), .int (iI t5), .int (iI t6)])) (h0 : 0 ≤ k ∧ k < 32) (h3 : R32 t3) : Met l yX5_growsIn (ws_ yX5_growsIn cX5_growsIn 2 (some .boolean)) (rmD 1) (xP G XN [.ref y_, .int (iI k)] M sz) (xQi G (DA M sz) (fun z M' => z = zb (t3 / 2 ^ k.toNat % 2 = 1) ∧ M' = M)) 0 0 (DA M sz) := by
  refine x_start (by decide) (Nat.le_of_ble_eq_true rfl) ?_
  intro p e s m below meth c ⟨S, hr, hlk, hH, hK, hXN, hsz, hnm⟩ ls hl
  subst hsz
  obtain ⟨hx, hb, hml, hown, hts⟩ := S
  have S : CallFix p m c _ _ s _ lw_all RX5 := ⟨hx, hb, hml, hown, hts⟩
  have hA : ∀ q, s.heap.size ≤ q → DA M s.heap.size q := fun q hq => Or.inr hq
  have hl : lv_has ls 2 [(0, .ref y_), (1, .int (iI k))] := hl
  have h3 := R32.n h3
  refine lv_aload_n hx hb dX5_growsIn_0 rfl (lv_at hl 0 rfl) ?_
  refine x_get hx hb hts in_X5 hown hK hH g1 rfl 2 (by decide) q405 (fun _ h9 => h9) rfl (by decide) dX5_growsIn_1 ?_
  refine lv_iload_n hx hb dX5_growsIn_4 rfl (lv_at hl 1 rfl) ?_
  refine n_ishr hx hb (r32 (by omega)) (by omega) (by omega) dX5_growsIn_5 ?_
  refine n_iconst hx hb dX5_growsIn_6 ?_
  refine n_and1 hx hb dX5_growsIn_7 ?_
  refine n_iconst hx hb dX5_growsIn_8 ?_
  refine n_icmp_ne (tgt := 16) hx hb (r32 (by omega)) (r32 (by omega)) dX5_growsIn_9 (by decide) (fun c_9 => ?_) (fun c_9 => ?_)
  · -- 9T
    refine n_iconst hx hb dX5_growsIn_16 ?_
    refine x_zret hx hb hr hlk hH dX5_growsIn_17 (Or.inl rfl) ?_
    exact ⟨by first | exact (zb_t (by omega)).symm | exact (zb_f (by omega)).symm, rfl⟩
  · -- 9F
    refine n_iconst hx hb dX5_growsIn_12 ?_
    refine lv_goto (tgt := 17) hx hb dX5_growsIn_13 (by decide) ?_
    refine x_zret hx hb hr hlk hH dX5_growsIn_17 (Or.inr rfl) ?_
    exact ⟨by first | exact (zb_t (by omega)).symm | exact (zb_f (by omega)).symm, rfl⟩
theorem kd_X5_outlives : yX5_outlives.cls = RX5 ∧ yX5_outlives.cls ≠ "java/lang/invoke/MethodHandle" ∧ yX5_outlives.cls ≠ "java/lang/invoke/VarHandle" ∧ (parseMethodDescriptor yX5_outlives.desc).map (fun d => d.parameters.length) = some 2 := by decide +kernel
theorem xm_X5_outlives (l : Launch) (G : MG) (M : Hp) (t1 : Int) (t2 : Int) (t3 : Int) (t4 : Int) (t5 : Int) (t6 : Int) (y_ : Nat) (h_ : Int) (m_ : Int) (sz : Nat) (g1 : M y_ = some (oB 5 [.int (iI t1), .int (iI t2), .int (iI t3), .int (iI t4), .int (iI t5), .int (iI t6)])) (h1 : R32 h_) (h2 : R32 m_) (h3 : R32 t1) (h4 : R32 t2) : Met l yX5_outlives (ws_ yX5_outlives cX5_outlives 3 (some .boolean)) (rmD 1) (xP G XN [.ref y_, .int (iI h_), .int (iI m_)] M sz) (xQi G (DA M sz) (fun z M' => z = zb (h_ < t1 ∨ (h_ = t1 ∧ m_ < t2)) ∧ M' = M)) 0 0 (DA M sz) := by
  refine x_start (by decide) (Nat.le_of_ble_eq_true rfl) ?_
  intro p e s m below meth c ⟨S, hr, hlk, hH, hK, hXN, hsz, hnm⟩ ls hl
  subst hsz
  obtain ⟨hx, hb, hml, hown, hts⟩ := S
  have S : CallFix p m c _ _ s _ lw_all RX5 := ⟨hx, hb, hml, hown, hts⟩
  have hA : ∀ q, s.heap.size ≤ q → DA M s.heap.size q := fun q hq => Or.inr hq
  have hl : lv_has ls 3 [(0, .ref y_), (1, .int (iI h_)), (2, .int (iI m_))] := hl
  have h1 := R32.n h1
  have h2 := R32.n h2
  have h3 := R32.n h3
  have h4 := R32.n h4
  refine lv_iload_n hx hb dX5_outlives_0 rfl (lv_at hl 1 rfl) ?_
  refine lv_aload_n hx hb dX5_outlives_1 rfl (lv_at hl 0 rfl) ?_
  refine x_get hx hb hts in_X5 hown hK hH g1 rfl 0 (by decide) q403 (fun _ h9 => h9) rfl (by decide) dX5_outlives_2 ?_
  refine n_icmp_lt (tgt := 24) hx hb (r32 (by omega)) (r32 (by omega)) dX5_outlives_5 (by decide) (fun c_5 => ?_) (fun c_5 => ?_)
  · -- 5T
    refine n_iconst hx hb dX5_outlives_24 ?_
    refine lv_goto (tgt := 29) hx hb dX5_outlives_25 (by decide) ?_
    refine x_zret hx hb hr hlk hH dX5_outlives_29 (Or.inr rfl) ?_
    exact ⟨by first | exact (zb_t (by omega)).symm | exact (zb_f (by omega)).symm, rfl⟩
  · -- 5F
    refine lv_iload_n hx hb dX5_outlives_8 rfl (lv_at hl 1 rfl) ?_
    refine lv_aload_n hx hb dX5_outlives_9 rfl (lv_at hl 0 rfl) ?_
    refine x_get hx hb hts in_X5 hown hK hH g1 rfl 0 (by decide) q403 (fun _ h9 => h9) rfl (by decide) dX5_outlives_10 ?_
    refine n_icmp_ne (tgt := 28) hx hb (r32 (by omega)) (r32 (by omega)) dX5_outlives_13 (by decide) (fun c_13 => ?_) (fun c_13 => ?_)
    · -- 13T
      refine n_iconst hx hb dX5_outlives_28 ?_
      refine x_zret hx hb hr hlk hH dX5_outlives_29 (Or.inl rfl) ?_
      exact ⟨by first | exact (zb_t (by omega)).symm | exact (zb_f (by omega)).symm, rfl⟩
    · -- 13F
      refine lv_iload_n hx hb dX5_outlives_16 rfl (lv_at hl 2 rfl) ?_
      refine lv_aload_n hx hb dX5_outlives_17 rfl (lv_at hl 0 rfl) ?_
      refine x_get hx hb hts in_X5 hown hK hH g1 rfl 1 (by decide) q404 (fun _ h9 => h9) rfl (by decide) dX5_outlives_18 ?_
      refine n_icmp_ge (tgt := 28) hx hb (r32 (by omega)) (r32 (by omega)) dX5_outlives_21 (by decide) (fun c_21 => ?_) (fun c_21 => ?_)
      · -- 21T
        refine n_iconst hx hb dX5_outlives_28 ?_
        refine x_zret hx hb hr hlk hH dX5_outlives_29 (Or.inl rfl) ?_
        exact ⟨by first | exact (zb_t (by omega)).symm | exact (zb_f (by omega)).symm, rfl⟩
      · -- 21F
        refine n_iconst hx hb dX5_outlives_24 ?_
        refine lv_goto (tgt := 29) hx hb dX5_outlives_25 (by decide) ?_
        refine x_zret hx hb hr hlk hH dX5_outlives_29 (Or.inr rfl) ?_
        exact ⟨by first | exact (zb_t (by omega)).symm | exact (zb_f (by omega)).symm, rfl⟩
theorem xt_X2_hasAir (l : Launch) (G : MG) (M : Hp) (σ : St) (n_ : Nat) (f_ : Int → Int) (t_ : Int) (c_ : Nat) (sz : Nat) (hI : KI (σ 2)) (ht : 0 ≤ t_ ∧ t_ < σ 2 1755) (gc1 : M c_ = some (oB 3 [.ref n_, .int (iI 0)])) (gc2 : M n_ = some (aI (G.2.1 0) 9 f_)) (gc3 : ∀ j, 0 ≤ j → j < 9 → f_ j = trA (σ 2) t_ j) : Met l yX2_hasAir (ws_ yX2_hasAir cX2_hasAir 2 (some .boolean)) (rmD 1) (xP G XN [.ref c_] M sz) (xQi G (DA M sz) (fun z M' => z = zb (airP (trA (σ 2) t_ 1) (trA (σ 2) t_ 6)) ∧ M' = M)) 0 0 (DA M sz) := by
  refine x_start (by decide) (Nat.le_of_ble_eq_true rfl) ?_
  intro p e s m below meth c ⟨S, hr, hlk, hH, hK, hXN, hsz, hnm⟩ ls hl
  subst hsz
  obtain ⟨hx, hb, hml, hown, hts⟩ := S
  have S : CallFix p m c _ _ s _ lw_all RX2 := ⟨hx, hb, hml, hown, hts⟩
  have hA : ∀ q, s.heap.size ≤ q → DA M s.heap.size q := fun q hq => Or.inr hq
  have hl : lv_has ls 2 [(0, .ref c_)] := hl
  have hcl := hI.t t_ ht.1 ht.2
  unfold caseOK at hcl
  have hcl : (0 ≤ trA (σ 2) t_ 0 ∧ trA (σ 2) t_ 0 ≤ 5) ∧ (0 ≤ trA (σ 2) t_ 1 ∧ trA (σ 2) t_ 1 ≤ 5) ∧ (0 ≤ trA (σ 2) t_ 2 ∧ trA (σ 2) t_ 2 ≤ 7) ∧ (0 ≤ trA (σ 2) t_ 3 ∧ trA (σ 2) t_ 3 ≤ 255) ∧ (0 ≤ trA (σ 2) t_ 4 ∧ trA (σ 2) t_ 4 ≤ 255) ∧ (0 ≤ trA (σ 2) t_ 5 ∧ trA (σ 2) t_ 5 ≤ 11) ∧ (0 ≤ trA (σ 2) t_ 6 ∧ trA (σ 2) t_ 6 ≤ 255) ∧ _ := hcl
  have hbr := hI.b (trA (σ 2) t_ 0) (by omega) (by omega)
  refine lv_aload_n hx hb dX2_hasAir_0 rfl (lv_at hl 0 rfl) ?_
  refine x_get hx hb hts in_X2 hown hK hH gc1 rfl 0 (by decide) q258 (fun _ h9 => h9) rfl (by decide) dX2_hasAir_1 ?_
  refine n_iconst hx hb dX2_hasAir_4 ?_
  refine x_iald hx hb hK hH gc2 (by omega) (by omega) (Nat.le_of_ble_eq_true rfl) dX2_hasAir_5 ?_
  refine W.eq (g2 := F0 m 6 ls (.int (iI (trA (σ 2) t_ 1)) :: [])) (by first | (rw [gc3 _ (by omega) (by omega)]; done) | (rw [gc3 _ (by omega) (by omega)]; rfl)) ?_
  refine lv_istore_n hx hb dX2_hasAir_6 rfl hl (Nat.le_of_ble_eq_true rfl) (lv' := [(1, .int (iI (trA (σ 2) t_ 1))), (0, .ref c_)]) rfl (fun ls hl => ?_)
  refine lv_iload_n hx hb dX2_hasAir_7 rfl (lv_at hl 0 rfl) ?_
  refine n_if_eq (tgt := 31) hx hb (r32 (by omega)) dX2_hasAir_8 (by decide) (fun c_8 => ?_) (fun c_8 => ?_)
  · -- 8T
    refine n_iconst hx hb dX2_hasAir_31 ?_
    refine lv_goto (tgt := 36) hx hb dX2_hasAir_32 (by decide) ?_
    refine x_zret hx hb hr hlk hH dX2_hasAir_36 (Or.inr rfl) ?_
    refine ⟨?_, rfl⟩
    first | exact (zb_t (by unfold airP; omega)).symm | exact (zb_f (by unfold airP; omega)).symm
  · -- 8F
    refine lv_iload_n hx hb dX2_hasAir_11 rfl (lv_at hl 0 rfl) ?_
    refine n_iconst hx hb dX2_hasAir_12 ?_
    refine n_icmp_eq (tgt := 31) hx hb (r32 (by omega)) (r32 (by omega)) dX2_hasAir_13 (by decide) (fun c_13 => ?_) (fun c_13 => ?_)
    · -- 13T
      refine n_iconst hx hb dX2_hasAir_31 ?_
      refine lv_goto (tgt := 36) hx hb dX2_hasAir_32 (by decide) ?_
      refine x_zret hx hb hr hlk hH dX2_hasAir_36 (Or.inr rfl) ?_
      refine ⟨?_, rfl⟩
      first | exact (zb_t (by unfold airP; omega)).symm | exact (zb_f (by unfold airP; omega)).symm
    · -- 13F
      refine lv_iload_n hx hb dX2_hasAir_16 rfl (lv_at hl 0 rfl) ?_
      refine n_iconst hx hb dX2_hasAir_17 ?_
      refine n_icmp_eq (tgt := 31) hx hb (r32 (by omega)) (r32 (by omega)) dX2_hasAir_18 (by decide) (fun c_18 => ?_) (fun c_18 => ?_)
      · -- 18T
        refine n_iconst hx hb dX2_hasAir_31 ?_
        refine lv_goto (tgt := 36) hx hb dX2_hasAir_32 (by decide) ?_
        refine x_zret hx hb hr hlk hH dX2_hasAir_36 (Or.inr rfl) ?_
        refine ⟨?_, rfl⟩
        first | exact (zb_t (by unfold airP; omega)).symm | exact (zb_f (by unfold airP; omega)).symm
      · -- 18F
        refine lv_aload_n hx hb dX2_hasAir_21 rfl (lv_at hl 1 rfl) ?_
        refine x_get hx hb hts in_X2 hown hK hH gc1 rfl 0 (by decide) q258 (fun _ h9 => h9) rfl (by decide) dX2_hasAir_22 ?_
        refine n_bipush (z := 6) hx hb dX2_hasAir_25 (by decide) ?_
        refine x_iald hx hb hK hH gc2 (by omega) (by omega) (Nat.le_of_ble_eq_true rfl) dX2_hasAir_27 ?_
        refine W.eq (g2 := F0 m 28 ls (.int (iI (trA (σ 2) t_ 6)) :: [])) (by first | (rw [gc3 _ (by omega) (by omega)]; done) | (rw [gc3 _ (by omega) (by omega)]; rfl)) ?_
        refine n_if_le (tgt := 35) hx hb (r32 (by omega)) dX2_hasAir_28 (by decide) (fun c_28 => ?_) (fun c_28 => ?_)
        · -- 28T
          refine n_iconst hx hb dX2_hasAir_35 ?_
          refine x_zret hx hb hr hlk hH dX2_hasAir_36 (Or.inl rfl) ?_
          refine ⟨?_, rfl⟩
          first | exact (zb_t (by unfold airP; omega)).symm | exact (zb_f (by unfold airP; omega)).symm
        · -- 28F
          refine n_iconst hx hb dX2_hasAir_31 ?_
          refine lv_goto (tgt := 36) hx hb dX2_hasAir_32 (by decide) ?_
          refine x_zret hx hb hr hlk hH dX2_hasAir_36 (Or.inr rfl) ?_
          refine ⟨?_, rfl⟩
          first | exact (zb_t (by unfold airP; omega)).symm | exact (zb_f (by unfold airP; omega)).symm
theorem kd_X0_spoiltOf : yX0_spoiltOf.cls = RX0 ∧ yX0_spoiltOf.cls ≠ "java/lang/invoke/MethodHandle" ∧ yX0_spoiltOf.cls ≠ "java/lang/invoke/VarHandle" ∧ (parseMethodDescriptor yX0_spoiltOf.desc).map (fun d => d.parameters.length) = some 1 := by decide +kernel
theorem xm_X0_spoiltOf (l : Launch) (G : MG) (M : Hp) (σ : St) (x : XGh) (ω : XCt) (n_ : Nat) (f_ : Int → Int) (t_ : Int) (a : Nat) (c_ : Nat) (sz : Nat) (hR : RX G M a σ x ω) (hI : KI (σ 2)) (ht : 0 ≤ t_ ∧ t_ < σ 2 1755) (gc1 : M c_ = some (oB 3 [.ref n_, .int (iI 0)])) (gc2 : M n_ = some (aI (G.2.1 0) 9 f_)) (gc3 : ∀ j, 0 ≤ j → j < 9 → f_ j = trA (σ 2) t_ j) : Met l yX0_spoiltOf (ws_ yX0_spoiltOf cX0_spoiltOf 3 (some .int)) (rmD 2) (xP G XN [.ref a, .ref c_] M sz) (xQi G (DA M sz) (fun z M' => z = (spT (σ 2) t_) ∧ M' = M)) 0 0 (DA M sz) := by
  refine x_start (by decide) (Nat.le_of_ble_eq_true rfl) ?_
  intro p e s m below meth c ⟨S, hr, hlk, hH, hK, hXN, hsz, hnm⟩ ls hl
  subst hsz
  obtain ⟨hx, hb, hml, hown, hts⟩ := S
  have S : CallFix p m c _ _ s _ lw_all RX0 := ⟨hx, hb, hml, hown, hts⟩
  have hA : ∀ q, s.heap.size ≤ q → DA M s.heap.size q := fun q hq => Or.inr hq
  have hl : lv_has ls 3 [(0, .ref a), (1, .ref c_)] := hl
  have b0 := hI.c
  unfold kCnt at b0
  have hcl := hI.t t_ ht.1 ht.2
  unfold caseOK at hcl
  have hcl : (0 ≤ trA (σ 2) t_ 0 ∧ trA (σ 2) t_ 0 ≤ 5) ∧ (0 ≤ trA (σ 2) t_ 1 ∧ trA (σ 2) t_ 1 ≤ 5) ∧ (0 ≤ trA (σ 2) t_ 2 ∧ trA (σ 2) t_ 2 ≤ 7) ∧ (0 ≤ trA (σ 2) t_ 3 ∧ trA (σ 2) t_ 3 ≤ 255) ∧ (0 ≤ trA (σ 2) t_ 4 ∧ trA (σ 2) t_ 4 ≤ 255) ∧ (0 ≤ trA (σ 2) t_ 5 ∧ trA (σ 2) t_ 5 ≤ 11) ∧ (0 ≤ trA (σ 2) t_ 6 ∧ trA (σ 2) t_ 6 ≤ 255) ∧ _ := hcl
  have hbr := hI.b (trA (σ 2) t_ 0) (by omega) (by omega)
  refine lv_aload_n hx hb dX0_spoiltOf_0 rfl (lv_at hl 1 rfl) ?_
  refine x_get hx hb hts in_X2 hown hK hH gc1 rfl 0 (by decide) q262 (fun _ h9 => h9) rfl (by decide) dX0_spoiltOf_1 ?_
  refine n_iconst hx hb dX0_spoiltOf_4 ?_
  refine x_iald hx hb hK hH gc2 (by omega) (by omega) (Nat.le_of_ble_eq_true rfl) dX0_spoiltOf_5 ?_
  refine W.eq (g2 := F0 m 6 ls (.int (iI (trA (σ 2) t_ 0)) :: [])) (by first | (rw [gc3 _ (by omega) (by omega)]; done) | (rw [gc3 _ (by omega) (by omega)]; rfl)) ?_
  refine lv_istore_n hx hb dX0_spoiltOf_6 rfl hl (Nat.le_of_ble_eq_true rfl) (lv' := [(2, .int (iI (trA (σ 2) t_ 0))), (0, .ref a), (1, .ref c_)]) rfl (fun ls hl => ?_)
  refine lv_aload_n hx hb dX0_spoiltOf_7 rfl (lv_at hl 2 rfl) ?_
  refine x_get hx hb hts in_X2 hown hK hH gc1 rfl 0 (by decide) q262 (fun _ h9 => h9) rfl (by decide) dX0_spoiltOf_8 ?_
  refine n_iconst hx hb dX0_spoiltOf_11 ?_
  refine x_iald hx hb hK hH gc2 (by omega) (by omega) (Nat.le_of_ble_eq_true rfl) dX0_spoiltOf_12 ?_
  refine W.eq (g2 := F0 m 13 ls (.int (iI (trA (σ 2) t_ 2)) :: [])) (by first | (rw [gc3 _ (by omega) (by omega)]; done) | (rw [gc3 _ (by omega) (by omega)]; rfl)) ?_
  refine lv_aload_n hx hb dX0_spoiltOf_13 rfl (lv_at hl 1 rfl) ?_
  refine x_get hx hb hts in_X0 hown hK hH hR.o rfl 0 (by decide) q339 (fun _ h9 => h9) rfl (by decide) dX0_spoiltOf_14 ?_
  refine x_getN hx hb hts in_X1 hown hK hH hR.b0 rfl 16 (by decide) hXN q194 (fun _ h9 => h9) rfl (by decide) dX0_spoiltOf_17 ?_
  refine lv_iload_n hx hb dX0_spoiltOf_20 rfl (lv_at hl 0 rfl) ?_
  refine x_iald hx hb hK hH hR.b16 (by omega) (by omega) (Nat.le_of_ble_eq_true rfl) dX0_spoiltOf_21 ?_
  refine W.eq (g2 := F0 m 22 ls (.int (iI (σ 2 (0 + 3 * (trA (σ 2) t_ 0) + 1))) :: .int (iI (trA (σ 2) t_ 2)) :: [])) (by first | (rw [(hR.z.2.1 _ (by omega) (by omega)).2.1]; done) | (rw [(hR.z.2.1 _ (by omega) (by omega)).2.1]; rfl)) ?_
  refine n_icmp_le (tgt := 29) hx hb (r32 (by omega)) (r32 (by omega)) dX0_spoiltOf_22 (by decide) (fun c_22 => ?_) (fun c_22 => ?_)
  · -- 22T
    refine n_iconst hx hb dX0_spoiltOf_29 ?_
    refine lv_aload_n hx hb dX0_spoiltOf_30 rfl (lv_at hl 1 rfl) ?_
    refine x_get hx hb hts in_X0 hown hK hH hR.o rfl 0 (by decide) q339 (fun _ h9 => h9) rfl (by decide) dX0_spoiltOf_31 ?_
    refine x_getN hx hb hts in_X1 hown hK hH hR.b0 rfl 17 (by decide) hXN q196 (fun _ h9 => h9) rfl (by decide) dX0_spoiltOf_34 ?_
    refine lv_iload_n hx hb dX0_spoiltOf_37 rfl (lv_at hl 0 rfl) ?_
    refine x_iald hx hb hK hH hR.b17 (by omega) (by omega) (Nat.le_of_ble_eq_true rfl) dX0_spoiltOf_38 ?_
    refine W.eq (g2 := F0 m 39 ls (.int (iI (σ 2 (0 + 3 * (trA (σ 2) t_ 0) + 2))) :: .int (iI 0) :: [])) (by first | (rw [(hR.z.2.1 _ (by omega) (by omega)).2.2.1]; done) | (rw [(hR.z.2.1 _ (by omega) (by omega)).2.2.1]; rfl)) ?_
    refine n_iconst hx hb dX0_spoiltOf_39 ?_
    refine n_icmp_ne (tgt := 54) hx hb (r32 (by omega)) (r32 (by omega)) dX0_spoiltOf_40 (by decide) (fun c_40 => ?_) (fun c_40 => ?_)
    · -- 40T
      refine n_iconst hx hb dX0_spoiltOf_54 ?_
      refine n_iadd hx hb dX0_spoiltOf_55 ?_
      refine x_iret hx hb hr hlk hH dX0_spoiltOf_56 ?_
      refine ⟨?_, rfl⟩
      show _ = spT _ _
      unfold spT airP
      (repeat' split) <;> first | rfl | (exfalso; omega)
    · -- 40F
      refine lv_aload_n hx hb dX0_spoiltOf_43 rfl (lv_at hl 2 rfl) ?_
      refine x_calliF (x_runV (As := []) (rest := [.int (iI 0)]) S hH hK (fun _ _ hW => XN.warm hW hXN) XN_b hl.1 gc1 rfl (xt_X2_hasAir l G M σ n_ f_ t_ c_ _ hI ⟨by omega, by omega⟩ gc1 gc2 gc3) (lw_V q1380 q1208 q1209 q107 q1212) kd_X2_hasAir rfl rfl dX0_spoiltOf_44) hH hA (fun H locs hH => ?_)
      refine z_if_ne (tgt := 54) hx hb dX0_spoiltOf_47 (by decide) (fun c_47 => ?_) (fun c_47 => ?_)
      · -- 47T
        refine n_iconst hx hb dX0_spoiltOf_54 ?_
        refine n_iadd hx hb dX0_spoiltOf_55 ?_
        refine x_iret hx hb hr hlk hH dX0_spoiltOf_56 ?_
        refine ⟨?_, rfl⟩
        show _ = spT _ _
        unfold spT airP
        (repeat' split) <;> first | rfl | (exfalso; omega)
      · -- 47F
        refine n_iconst hx hb dX0_spoiltOf_50 ?_
        refine lv_goto (tgt := 55) hx hb dX0_spoiltOf_51 (by decide) ?_
        refine n_iadd hx hb dX0_spoiltOf_55 ?_
        refine x_iret hx hb hr hlk hH dX0_spoiltOf_56 ?_
        refine ⟨?_, rfl⟩
        show _ = spT _ _
        unfold spT airP
        (repeat' split) <;> first | rfl | (exfalso; omega)
  · -- 22F
    refine n_iconst hx hb dX0_spoiltOf_25 ?_
    refine lv_goto (tgt := 30) hx hb dX0_spoiltOf_26 (by decide) ?_
    refine lv_aload_n hx hb dX0_spoiltOf_30 rfl (lv_at hl 1 rfl) ?_
    refine x_get hx hb hts in_X0 hown hK hH hR.o rfl 0 (by decide) q339 (fun _ h9 => h9) rfl (by decide) dX0_spoiltOf_31 ?_
    refine x_getN hx hb hts in_X1 hown hK hH hR.b0 rfl 17 (by decide) hXN q196 (fun _ h9 => h9) rfl (by decide) dX0_spoiltOf_34 ?_
    refine lv_iload_n hx hb dX0_spoiltOf_37 rfl (lv_at hl 0 rfl) ?_
    refine x_iald hx hb hK hH hR.b17 (by omega) (by omega) (Nat.le_of_ble_eq_true rfl) dX0_spoiltOf_38 ?_
    refine W.eq (g2 := F0 m 39 ls (.int (iI (σ 2 (0 + 3 * (trA (σ 2) t_ 0) + 2))) :: .int (iI 1) :: [])) (by first | (rw [(hR.z.2.1 _ (by omega) (by omega)).2.2.1]; done) | (rw [(hR.z.2.1 _ (by omega) (by omega)).2.2.1]; rfl)) ?_
    refine n_iconst hx hb dX0_spoiltOf_39 ?_
    refine n_icmp_ne (tgt := 54) hx hb (r32 (by omega)) (r32 (by omega)) dX0_spoiltOf_40 (by decide) (fun c_40 => ?_) (fun c_40 => ?_)
    · -- 40T
      refine n_iconst hx hb dX0_spoiltOf_54 ?_
      refine n_iadd hx hb dX0_spoiltOf_55 ?_
      refine x_iret hx hb hr hlk hH dX0_spoiltOf_56 ?_
      refine ⟨?_, rfl⟩
      show _ = spT _ _
      unfold spT airP
      (repeat' split) <;> first | rfl | (exfalso; omega)
    · -- 40F
      refine lv_aload_n hx hb dX0_spoiltOf_43 rfl (lv_at hl 2 rfl) ?_
      refine x_calliF (x_runV (As := []) (rest := [.int (iI 1)]) S hH hK (fun _ _ hW => XN.warm hW hXN) XN_b hl.1 gc1 rfl (xt_X2_hasAir l G M σ n_ f_ t_ c_ _ hI ⟨by omega, by omega⟩ gc1 gc2 gc3) (lw_V q1380 q1208 q1209 q107 q1212) kd_X2_hasAir rfl rfl dX0_spoiltOf_44) hH hA (fun H locs hH => ?_)
      refine z_if_ne (tgt := 54) hx hb dX0_spoiltOf_47 (by decide) (fun c_47 => ?_) (fun c_47 => ?_)
      · -- 47T
        refine n_iconst hx hb dX0_spoiltOf_54 ?_
        refine n_iadd hx hb dX0_spoiltOf_55 ?_
        refine x_iret hx hb hr hlk hH dX0_spoiltOf_56 ?_
        refine ⟨?_, rfl⟩
        show _ = spT _ _
        unfold spT airP
        (repeat' split) <;> first | rfl | (exfalso; omega)
      · -- 47F
        refine n_iconst hx hb dX0_spoiltOf_50 ?_
        refine lv_goto (tgt := 55) hx hb dX0_spoiltOf_51 (by decide) ?_
        refine n_iadd hx hb dX0_spoiltOf_55 ?_
        refine x_iret hx hb hr hlk hH dX0_spoiltOf_56 ?_
        refine ⟨?_, rfl⟩
        show _ = spT _ _
        unfold spT airP
        (repeat' split) <;> first | rfl | (exfalso; omega)
theorem kd_X0_spoilt : yX0_spoilt.cls = RX0 ∧ yX0_spoilt.cls ≠ "java/lang/invoke/MethodHandle" ∧ yX0_spoilt.cls ≠ "java/lang/invoke/VarHandle" ∧ (parseMethodDescriptor yX0_spoilt.desc).map (fun d => d.parameters.length) = some 1 := by decide +kernel
theorem xm_X0_spoilt (l : Launch) (G : MG) (M : Hp) (σ : St) (x : XGh) (ω : XCt) (a : Nat) (t_ : Int) (sz : Nat) (hR : RX G M a σ x ω) (h_t_ : R32 t_) (hI : KI (σ 2)) : Met l yX0_spoilt (ws_ yX0_spoilt cX0_spoilt 2 (some .int)) (rmD 3) (xP G XN [.ref a, .int (iI t_)] M sz) (xQi G (DA M sz) (fun z M' => z = (spoF (σ 2) t_) ∧ M' = M)) 0 0 (DA M sz) := by
  refine x_start (by decide) (Nat.le_of_ble_eq_true rfl) ?_
  intro p e s m below meth c ⟨S, hr, hlk, hH, hK, hXN, hsz, hnm⟩ ls hl
  subst hsz
  obtain ⟨hx, hb, hml, hown, hts⟩ := S
  have S : CallFix p m c _ _ s _ lw_all RX0 := ⟨hx, hb, hml, hown, hts⟩
  have hA : ∀ q, s.heap.size ≤ q → DA M s.heap.size q := fun q hq => Or.inr hq
  have hl : lv_has ls 2 [(0, .ref a), (1, .int (iI t_))] := hl
  have b0 := hI.c
  unfold kCnt at b0
  have h_t_ := R32.n h_t_
  refine lv_aload_n hx hb dX0_spoilt_0 rfl (lv_at hl 0 rfl) ?_
  refine lv_iload_n hx hb dX0_spoilt_1 rfl (lv_at hl 1 rfl) ?_
  refine x_calliF (x_runV (As := [.int (iI t_)]) (rest := []) S hH hK (fun _ _ hW => XN.warm hW hXN) XN_b hl.1 hR.o rfl (xm_X0_isTrial l G M σ x ω a t_ _ hR (r32 (by omega)) (by omega) (by omega)) (lw_V q795 q797 qs11 q105 q798) kd_X0_isTrial rfl rfl dX0_spoilt_2) hH hA (fun H locs hH => ?_)
  refine z_if_eq (tgt := 24) hx hb dX0_spoilt_5 (by decide) (fun c_5 => ?_) (fun c_5 => ?_)
  · -- 5T
    refine n_iconst hx hb dX0_spoilt_24 ?_
    refine x_iret hx hb hr hlk hH dX0_spoilt_25 ?_
    refine ⟨?_, rfl⟩
    show _ = spoF _ _
    unfold spoF isT
    (repeat' split) <;> first | rfl | (exfalso; omega)
  · -- 5F
    refine lv_aload_n hx hb dX0_spoilt_8 rfl (lv_at hl 0 rfl) ?_
    refine lv_aload_n hx hb dX0_spoilt_9 rfl (lv_at hl 0 rfl) ?_
    refine x_get hx hb hts in_X0 hown hK hH hR.o rfl 0 (by decide) q339 (fun _ h9 => h9) rfl (by decide) dX0_spoilt_10 ?_
    refine x_getN hx hb hts in_X1 hown hK hH hR.b0 rfl 11 (by decide) hXN q184 (fun _ h9 => h9) rfl (by decide) dX0_spoilt_13 ?_
    refine lv_iload_n hx hb dX0_spoilt_16 rfl (lv_at hl 1 rfl) ?_
    obtain ⟨y1, n1, w1, u1, g1, k1, e1⟩ := hR.trial (i := t_) (by omega) (by omega)
    refine x_aald hx hb hK hH 8 hR.b11 rfl (by omega) (by omega) (Nat.le_of_ble_eq_true rfl) (v := some y1) u1 dX0_spoilt_17 ?_
    refine x_calliF (x_runV (As := [.ref y1]) (rest := []) S hH hK (fun _ _ hW => XN.warm hW hXN) XN_b hl.1 hR.o rfl (xm_X0_spoiltOf l G M σ x ω n1 w1 t_ a y1 _ hR hI ⟨by omega, by omega⟩ g1 k1 e1) (lw_V q1376 q1378 qs39 q105 q1379) kd_X0_spoiltOf rfl rfl dX0_spoilt_18) hH hA (fun H locs hH => ?_)
    refine lv_goto (tgt := 25) hx hb dX0_spoilt_21 (by decide) ?_
    refine x_iret hx hb hr hlk hH dX0_spoilt_25 ?_
    refine ⟨?_, rfl⟩
    show _ = spoF _ _
    unfold spoF isT
    (repeat' split) <;> first | rfl | (exfalso; omega)
theorem kd_X0_partingBy : yX0_partingBy.cls = RX0 ∧ yX0_partingBy.cls ≠ "java/lang/invoke/MethodHandle" ∧ yX0_partingBy.cls ≠ "java/lang/invoke/VarHandle" ∧ (parseMethodDescriptor yX0_partingBy.desc).map (fun d => d.parameters.length) = some 2 := by decide +kernel
theorem xm_X0_partingBy (l : Launch) (G : MG) (M : Hp) (σ : St) (x : XGh) (ω : XCt) (n_ : Nat) (f_ : Int → Int) (t_ : Int) (a : Nat) (s_ : Int) (c_ : Nat) (sz : Nat) (hR : RX G M a σ x ω) (hs : R32 s_) (hI : KI (σ 2)) (hT : TT (σ 2)) (ht : 0 ≤ t_ ∧ t_ < σ 2 1755) (gc1 : M c_ = some (oB 3 [.ref n_, .int (iI 0)])) (gc2 : M n_ = some (aI (G.2.1 0) 9 f_)) (gc3 : ∀ j, 0 ≤ j → j < 9 → f_ j = trA (σ 2) t_ j) : Met l yX0_partingBy (ws_ yX0_partingBy cX0_partingBy 6 (some .int)) (rmD 208) (xP G XN [.ref a, .int (iI s_), .ref c_] M sz) (xQi G (DA M sz) (fun z M' => z = (paT (σ 2) s_ t_) ∧ M' = M)) 0 0 (DA M sz) := by
  refine x_start (by decide) (Nat.le_of_ble_eq_true rfl) ?_
  intro p e s m below meth c ⟨S, hr, hlk, hH, hK, hXN, hsz, hnm⟩ ls hl
  subst hsz
  obtain ⟨hx, hb, hml, hown, hts⟩ := S
  have S : CallFix p m c _ _ s _ lw_all RX0 := ⟨hx, hb, hml, hown, hts⟩
  have hA : ∀ q, s.heap.size ≤ q → DA M s.heap.size q := fun q hq => Or.inr hq
  have hl : lv_has ls 6 [(0, .ref a), (1, .int (iI s_)), (2, .ref c_)] := hl
  have b0 := hI.c
  unfold kCnt at b0
  have hs := R32.n hs
  have L5 : ∀ (q : Nat) (a1 : Int), (ha0 : 0 ≤ a1) → (ha1 : a1 ≤ σ 2 1756) → (hq : σ 2 1756 < (q : Int) + a1) → ∀ (H : Heap) (locs : List Loc) (ls : Array Slot), XV G (DA M s.heap.size) M s.heap H locs → lv_has ls 6 [(0, .ref a), (1, .int (iI s_)), (2, .ref c_), (3, .int (iI (sX (σ 2) s_ t_ (σ 2 1756).toNat a1.toNat))), (4, .int (iI a1))] → W p l e (rmD 208) s m ([.ref a, .int (iI s_), .ref c_] : List Value).toArray below meth c H locs 0 0 (MQ below (xQi G (DA M s.heap.size) (fun z M' => z = (paT (σ 2) s_ t_) ∧ M' = M)) ([.ref a, .int (iI s_), .ref c_] : List Value).toArray s 0 0 (DA M s.heap.size)) (F0 m 5 ls []) := by
    intro q
    induction q with
    | zero => intro a1 ha0 ha1 hq; exfalso; omega
    | succ q ih_5 =>
      intro a1 ha0 ha1 hq H locs ls hH hl
      have hsx := sX_r (κ := σ 2) (s := s_) (t := t_) (n := (σ 2 1756).toNat) (by omega) a1.toNat
      have L23 : ∀ (q1 : Nat) (b : Int), (ha2 : a1 < σ 2 1756) → (hb0 : a1 < b) → (hb1 : b ≤ σ 2 1756) → (hq1 : σ 2 1756 < (q1 : Int) + b) → ∀ (H : Heap) (locs : List Loc) (ls : Array Slot), XV G (DA M s.heap.size) M s.heap H locs → lv_has ls 6 [(0, .ref a), (1, .int (iI s_)), (2, .ref c_), (3, .int (iI ((sX (σ 2) s_ t_ (σ 2 1756).toNat a1.toNat) + (rX (σ 2) s_ t_ a1.toNat b.toNat)))), (4, .int (iI a1)), (5, .int (iI b))] → W p l e (rmD 208) s m ([.ref a, .int (iI s_), .ref c_] : List Value).toArray below meth c H locs 0 0 (MQ below (xQi G (DA M s.heap.size) (fun z M' => z = (paT (σ 2) s_ t_) ∧ M' = M)) ([.ref a, .int (iI s_), .ref c_] : List Value).toArray s 0 0 (DA M s.heap.size)) (F0 m 23 ls []) := by
        intro q1
        induction q1 with
        | zero => intro b ha2 hb0 hb1 hq1; exfalso; omega
        | succ q1 ih_23 =>
          intro b ha2 hb0 hb1 hq1 H locs ls hH hl
          have hoa := oT_r (σ 2) a1 t_
          have hob := oT_r (σ 2) b t_
          have hrx := rX_r (κ := σ 2) (s := s_) (t := t_) (a := a1.toNat) b.toNat
          have hre := rX_e (κ := σ 2) (s := s_) (t := t_) ha0 hb0
          refine lv_iload hx hb dX0_partingBy_23 (lv_at hl 5 rfl) ?_
          refine lv_aload_n hx hb dX0_partingBy_25 rfl (lv_at hl 0 rfl) ?_
          refine x_get hx hb hts in_X0 hown hK hH hR.o rfl 0 (by decide) q339 (fun _ h9 => h9) rfl (by decide) dX0_partingBy_26 ?_
          refine x_getN hx hb hts in_X1 hown hK hH hR.b0 rfl 5 (by decide) hXN q172 (fun _ h9 => h9) rfl (by decide) dX0_partingBy_29 ?_
          refine n_icmp_ge (tgt := 96) hx hb (r32 (by omega)) (r32 (by omega)) dX0_partingBy_32 (by decide) (fun c_32 => ?_) (fun c_32 => ?_)
          · -- 32T
            refine n_iinc hx hb dX0_partingBy_96 hl (k := 4) rfl (Nat.le_of_ble_eq_true rfl) (lv' := [(4, .int (iI (a1 + 1))), (0, .ref a), (1, .int (iI s_)), (2, .ref c_), (3, .int (iI ((sX (σ 2) s_ t_ (σ 2 1756).toNat a1.toNat) + (rX (σ 2) s_ t_ a1.toNat b.toNat)))), (5, .int (iI b))]) rfl (fun ls hl => ?_)
            refine lv_goto (tgt := 5) hx hb dX0_partingBy_99 (by decide) ?_
            have hl : lv_has ls 6 [(0, .ref a), (1, .int (iI s_)), (2, .ref c_), (3, .int (iI ((sX (σ 2) s_ t_ (σ 2 1756).toNat a1.toNat) + (rX (σ 2) s_ t_ a1.toNat b.toNat)))), (4, .int (iI (a1 + 1)))] := lv_sub hl [1, 2, 3, 4, 0] rfl
            have hl : lv_has ls 6 [(0, .ref a), (1, .int (iI s_)), (2, .ref c_), (3, .int (iI (sX (σ 2) s_ t_ (σ 2 1756).toNat (a1 + 1).toNat))), (4, .int (iI (a1 + 1)))] := by rw [show (a1 + 1).toNat = a1.toNat + 1 by omega, show sX (σ 2) s_ t_ (σ 2 1756).toNat (a1.toNat + 1) = sX (σ 2) s_ t_ (σ 2 1756).toNat a1.toNat + rX (σ 2) s_ t_ a1.toNat (σ 2 1756).toNat from rfl, show (σ 2 1756).toNat = b.toNat by omega] at *; exact hl
            refine ih_5 (a1 + 1) ?_ ?_ ?_ _ _ _ hH hl
            · omega
            · omega
            · omega
          · -- 32F
            refine lv_iload_n hx hb dX0_partingBy_35 rfl (lv_at hl 1 rfl) ?_
            refine lv_iload hx hb dX0_partingBy_36 (lv_at hl 4 rfl) ?_
            refine n_ishr hx hb (r32 (by omega)) (by omega) (by omega) dX0_partingBy_38 ?_
            refine n_iconst hx hb dX0_partingBy_39 ?_
            refine n_and1 hx hb dX0_partingBy_40 ?_
            refine n_iconst hx hb dX0_partingBy_41 ?_
            refine n_icmp_ne (tgt := 90) hx hb (r32 (by omega)) (r32 (by omega)) dX0_partingBy_42 (by decide) (fun c_42 => ?_) (fun c_42 => ?_)
            · -- 42T
              refine n_iinc hx hb dX0_partingBy_90 hl (k := 5) rfl (Nat.le_of_ble_eq_true rfl) (lv' := [(5, .int (iI (b + 1))), (0, .ref a), (1, .int (iI s_)), (2, .ref c_), (3, .int (iI ((sX (σ 2) s_ t_ (σ 2 1756).toNat a1.toNat) + (rX (σ 2) s_ t_ a1.toNat b.toNat)))), (4, .int (iI a1))]) rfl (fun ls hl => ?_)
              refine lv_goto (tgt := 23) hx hb dX0_partingBy_93 (by decide) ?_
              have hl : lv_has ls 6 [(0, .ref a), (1, .int (iI s_)), (2, .ref c_), (3, .int (iI ((sX (σ 2) s_ t_ (σ 2 1756).toNat a1.toNat) + (rX (σ 2) s_ t_ a1.toNat b.toNat)))), (4, .int (iI a1)), (5, .int (iI (b + 1)))] := lv_sub hl [1, 2, 3, 4, 5, 0] rfl
              have hl : lv_has ls 6 [(0, .ref a), (1, .int (iI s_)), (2, .ref c_), (3, .int (iI ((sX (σ 2) s_ t_ (σ 2 1756).toNat a1.toNat) + rX (σ 2) s_ t_ a1.toNat (b + 1).toNat))), (4, .int (iI a1)), (5, .int (iI (b + 1)))] := by rw [hre, if_neg (by omega), Int.add_zero]; exact hl
              refine ih_23 (b + 1) ?_ ?_ ?_ ?_ _ _ _ hH hl
              · omega
              · omega
              · omega
              · omega
            · -- 42F
              refine lv_iload_n hx hb dX0_partingBy_45 rfl (lv_at hl 1 rfl) ?_
              refine lv_iload hx hb dX0_partingBy_46 (lv_at hl 5 rfl) ?_
              refine n_ishr hx hb (r32 (by omega)) (by omega) (by omega) dX0_partingBy_48 ?_
              refine n_iconst hx hb dX0_partingBy_49 ?_
              refine n_and1 hx hb dX0_partingBy_50 ?_
              refine n_iconst hx hb dX0_partingBy_51 ?_
              refine n_icmp_ne (tgt := 90) hx hb (r32 (by omega)) (r32 (by omega)) dX0_partingBy_52 (by decide) (fun c_52 => ?_) (fun c_52 => ?_)
              · -- 52T
                refine n_iinc hx hb dX0_partingBy_90 hl (k := 5) rfl (Nat.le_of_ble_eq_true rfl) (lv' := [(5, .int (iI (b + 1))), (0, .ref a), (1, .int (iI s_)), (2, .ref c_), (3, .int (iI ((sX (σ 2) s_ t_ (σ 2 1756).toNat a1.toNat) + (rX (σ 2) s_ t_ a1.toNat b.toNat)))), (4, .int (iI a1))]) rfl (fun ls hl => ?_)
                refine lv_goto (tgt := 23) hx hb dX0_partingBy_93 (by decide) ?_
                have hl : lv_has ls 6 [(0, .ref a), (1, .int (iI s_)), (2, .ref c_), (3, .int (iI ((sX (σ 2) s_ t_ (σ 2 1756).toNat a1.toNat) + (rX (σ 2) s_ t_ a1.toNat b.toNat)))), (4, .int (iI a1)), (5, .int (iI (b + 1)))] := lv_sub hl [1, 2, 3, 4, 5, 0] rfl
                have hl : lv_has ls 6 [(0, .ref a), (1, .int (iI s_)), (2, .ref c_), (3, .int (iI ((sX (σ 2) s_ t_ (σ 2 1756).toNat a1.toNat) + rX (σ 2) s_ t_ a1.toNat (b + 1).toNat))), (4, .int (iI a1)), (5, .int (iI (b + 1)))] := by rw [hre, if_neg (by omega), Int.add_zero]; exact hl
                refine ih_23 (b + 1) ?_ ?_ ?_ ?_ _ _ _ hH hl
                · omega
                · omega
                · omega
                · omega
              · -- 52F
                refine lv_iload_n hx hb dX0_partingBy_55 rfl (lv_at hl 3 rfl) ?_
                refine lv_aload_n hx hb dX0_partingBy_56 rfl (lv_at hl 0 rfl) ?_
                refine x_get hx hb hts in_X0 hown hK hH hR.o rfl 0 (by decide) q339 (fun _ h9 => h9) rfl (by decide) dX0_partingBy_57 ?_
                refine x_getN hx hb hts in_X1 hown hK hH hR.b0 rfl 12 (by decide) hXN q186 (fun _ h9 => h9) rfl (by decide) dX0_partingBy_60 ?_
                refine lv_iload hx hb dX0_partingBy_63 (lv_at hl 4 rfl) ?_
                obtain ⟨y1, r1, u1, t1, g1⟩ := hR.text (i := a1) (by omega) (by omega)
                refine x_aald hx hb hK hH 9 hR.b12 rfl (by omega) (by omega) (Nat.le_of_ble_eq_true rfl) (v := some y1) u1 dX0_partingBy_65 ?_
                refine lv_aload_n hx hb dX0_partingBy_66 rfl (lv_at hl 2 rfl) ?_
                refine x_calliF (x_runV (As := [.ref c_]) (rest := [.int (iI ((sX (σ 2) s_ t_ (σ 2 1756).toNat a1.toNat) + (rX (σ 2) s_ t_ a1.toNat b.toNat)))]) S hH hK (fun _ _ hW => XN.warm hW hXN) XN_b hl.1 g1 rfl (r_odds (x := a1) (k := t_) hI ⟨by omega, by omega⟩ gc1 gc2 gc3 t1) (lw_V q1229 q1170 q1171 q135 q1172) kd_X22_odds rfl rfl dX0_partingBy_67) hH hA (fun H locs hH => ?_)
                refine lv_aload_n hx hb dX0_partingBy_70 rfl (lv_at hl 0 rfl) ?_
                refine x_get hx hb hts in_X0 hown hK hH hR.o rfl 0 (by decide) q339 (fun _ h9 => h9) rfl (by decide) dX0_partingBy_71 ?_
                refine x_getN hx hb hts in_X1 hown hK hH hR.b0 rfl 12 (by decide) hXN q186 (fun _ h9 => h9) rfl (by decide) dX0_partingBy_74 ?_
                refine lv_iload hx hb dX0_partingBy_77 (lv_at hl 5 rfl) ?_
                obtain ⟨y2, r2, u2, t2, g2⟩ := hR.text (i := b) (by omega) (by omega)
                refine x_aald hx hb hK hH 9 hR.b12 rfl (by omega) (by omega) (Nat.le_of_ble_eq_true rfl) (v := some y2) u2 dX0_partingBy_79 ?_
                refine lv_aload_n hx hb dX0_partingBy_80 rfl (lv_at hl 2 rfl) ?_
                refine x_calliF (x_runV (As := [.ref c_]) (rest := [.int (iI (oT (σ 2) a1 t_)), .int (iI ((sX (σ 2) s_ t_ (σ 2 1756).toNat a1.toNat) + (rX (σ 2) s_ t_ a1.toNat b.toNat)))]) S hH hK (fun _ _ hW => XN.warm hW hXN) XN_b hl.1 g2 rfl (r_odds (x := b) (k := t_) hI ⟨by omega, by omega⟩ gc1 gc2 gc3 t2) (lw_V q1229 q1170 q1171 q135 q1172) kd_X22_odds rfl rfl dX0_partingBy_81) hH hA (fun H locs hH => ?_)
                refine n_isub hx hb dX0_partingBy_84 ?_
                refine n_mabs hx hb hts (hml.trans hl.1.symm) hown (r32 (by omega)) q1293 q1294 q115 q1295 ⟨Nat.le_of_ble_eq_true rfl, Nat.le_of_ble_eq_true rfl⟩ ⟨Nat.le_of_ble_eq_true rfl, Nat.le_of_ble_eq_true rfl⟩ (Nat.le_of_ble_eq_true rfl) dX0_partingBy_85 ?_
                refine W.eq (g2 := F0 m 88 ls (.int (iI (abI (oT (σ 2) a1 t_ - oT (σ 2) b t_))) :: .int (iI ((sX (σ 2) s_ t_ (σ 2 1756).toNat a1.toNat) + (rX (σ 2) s_ t_ a1.toNat b.toNat))) :: [])) (by rfl) ?_
                have hab : 0 ≤ abI (oT (σ 2) a1 t_ - oT (σ 2) b t_) ∧ abI (oT (σ 2) a1 t_ - oT (σ 2) b t_) ≤ 100 := by unfold abI; split <;> omega
                refine n_iadd hx hb dX0_partingBy_88 ?_
                refine lv_istore_n hx hb dX0_partingBy_89 rfl hl (Nat.le_of_ble_eq_true rfl) (lv' := [(3, .int (iI (((sX (σ 2) s_ t_ (σ 2 1756).toNat a1.toNat) + (rX (σ 2) s_ t_ a1.toNat b.toNat)) + (abI (oT (σ 2) a1 t_ - oT (σ 2) b t_))))), (0, .ref a), (1, .int (iI s_)), (2, .ref c_), (4, .int (iI a1)), (5, .int (iI b))]) rfl (fun ls hl => ?_)
                refine n_iinc hx hb dX0_partingBy_90 hl (k := 5) rfl (Nat.le_of_ble_eq_true rfl) (lv' := [(5, .int (iI (b + 1))), (3, .int (iI (((sX (σ 2) s_ t_ (σ 2 1756).toNat a1.toNat) + (rX (σ 2) s_ t_ a1.toNat b.toNat)) + (abI (oT (σ 2) a1 t_ - oT (σ 2) b t_))))), (0, .ref a), (1, .int (iI s_)), (2, .ref c_), (4, .int (iI a1))]) rfl (fun ls hl => ?_)
                refine lv_goto (tgt := 23) hx hb dX0_partingBy_93 (by decide) ?_
                have hl : lv_has ls 6 [(0, .ref a), (1, .int (iI s_)), (2, .ref c_), (3, .int (iI (((sX (σ 2) s_ t_ (σ 2 1756).toNat a1.toNat) + (rX (σ 2) s_ t_ a1.toNat b.toNat)) + (abI (oT (σ 2) a1 t_ - oT (σ 2) b t_))))), (4, .int (iI a1)), (5, .int (iI (b + 1)))] := lv_sub hl [2, 3, 4, 1, 5, 0] rfl
                have hl : lv_has ls 6 [(0, .ref a), (1, .int (iI s_)), (2, .ref c_), (3, .int (iI ((sX (σ 2) s_ t_ (σ 2 1756).toNat a1.toNat) + rX (σ 2) s_ t_ a1.toNat (b + 1).toNat))), (4, .int (iI a1)), (5, .int (iI (b + 1)))] := by rw [hre, if_pos (by omega), ← Int.add_assoc]; exact hl
                refine ih_23 (b + 1) ?_ ?_ ?_ ?_ _ _ _ hH hl
                · omega
                · omega
                · omega
                · omega
      refine lv_iload hx hb dX0_partingBy_5 (lv_at hl 4 rfl) ?_
      refine lv_aload_n hx hb dX0_partingBy_7 rfl (lv_at hl 0 rfl) ?_
      refine x_get hx hb hts in_X0 hown hK hH hR.o rfl 0 (by decide) q339 (fun _ h9 => h9) rfl (by decide) dX0_partingBy_8 ?_
      refine x_getN hx hb hts in_X1 hown hK hH hR.b0 rfl 5 (by decide) hXN q172 (fun _ h9 => h9) rfl (by decide) dX0_partingBy_11 ?_
      refine n_icmp_ge (tgt := 102) hx hb (r32 (by omega)) (r32 (by omega)) dX0_partingBy_14 (by decide) (fun c_14 => ?_) (fun c_14 => ?_)
      · -- 14T
        refine lv_iload_n hx hb dX0_partingBy_102 rfl (lv_at hl 3 rfl) ?_
        refine x_iret hx hb hr hlk hH dX0_partingBy_103 ?_
        refine ⟨?_, rfl⟩
        show _ = paT _ _ _
        rw [paT, ← sX_pa, show a1.toNat = (σ 2 1756).toNat by omega]
      · -- 14F
        refine lv_iload hx hb dX0_partingBy_17 (lv_at hl 4 rfl) ?_
        refine n_iconst hx hb dX0_partingBy_19 ?_
        refine n_iadd hx hb dX0_partingBy_20 ?_
        refine lv_istore hx hb dX0_partingBy_21 hl (Nat.le_of_ble_eq_true rfl) (lv' := [(5, .int (iI (a1 + 1))), (0, .ref a), (1, .int (iI s_)), (2, .ref c_), (3, .int (iI (sX (σ 2) s_ t_ (σ 2 1756).toNat a1.toNat))), (4, .int (iI a1))]) rfl (fun ls hl => ?_)
        have hl : lv_has ls 6 [(0, .ref a), (1, .int (iI s_)), (2, .ref c_), (3, .int (iI (sX (σ 2) s_ t_ (σ 2 1756).toNat a1.toNat))), (4, .int (iI a1)), (5, .int (iI (a1 + 1)))] := lv_sub hl [1, 2, 3, 4, 5, 0] rfl
        have hl : lv_has ls 6 [(0, .ref a), (1, .int (iI s_)), (2, .ref c_), (3, .int (iI ((sX (σ 2) s_ t_ (σ 2 1756).toNat a1.toNat) + rX (σ 2) s_ t_ a1.toNat (a1 + 1).toNat))), (4, .int (iI a1)), (5, .int (iI (a1 + 1)))] := by rw [show (a1 + 1).toNat = a1.toNat + 1 by omega, rX_0 _ (Nat.le_refl _), Int.add_zero]; exact hl
        refine L23 20 (a1 + 1) ?_ ?_ ?_ ?_ _ _ _ hH hl
        · omega
        · omega
        · omega
        · omega
  refine n_iconst hx hb dX0_partingBy_0 ?_
  refine lv_istore_n hx hb dX0_partingBy_1 rfl hl (Nat.le_of_ble_eq_true rfl) (lv' := [(3, .int (iI 0)), (0, .ref a), (1, .int (iI s_)), (2, .ref c_)]) rfl (fun ls hl => ?_)
  refine n_iconst hx hb dX0_partingBy_2 ?_
  refine lv_istore hx hb dX0_partingBy_3 hl (Nat.le_of_ble_eq_true rfl) (lv' := [(4, .int (iI 0)), (3, .int (iI 0)), (0, .ref a), (1, .int (iI s_)), (2, .ref c_)]) rfl (fun ls hl => ?_)
  have hl : lv_has ls 6 [(0, .ref a), (1, .int (iI s_)), (2, .ref c_), (3, .int (iI 0)), (4, .int (iI 0))] := lv_sub hl [2, 3, 4, 1, 0] rfl
  have hl : lv_has ls 6 [(0, .ref a), (1, .int (iI s_)), (2, .ref c_), (3, .int (iI (sX (σ 2) s_ t_ (σ 2 1756).toNat (0 : Int).toNat))), (4, .int (iI 0))] := by exact hl
  refine L5 20 0 ?_ ?_ ?_ _ _ _ hH hl
  · omega
  · omega
  · omega
theorem kd_X0_parting : yX0_parting.cls = RX0 ∧ yX0_parting.cls ≠ "java/lang/invoke/MethodHandle" ∧ yX0_parting.cls ≠ "java/lang/invoke/VarHandle" ∧ (parseMethodDescriptor yX0_parting.desc).map (fun d => d.parameters.length) = some 2 := by decide +kernel
theorem xm_X0_parting (l : Launch) (G : MG) (M : Hp) (σ : St) (x : XGh) (ω : XCt) (a : Nat) (s_ : Int) (t_ : Int) (sz : Nat) (hR : RX G M a σ x ω) (h_s_ : R32 s_) (h_t_ : R32 t_) (hI : KI (σ 2)) (hT : TT (σ 2)) : Met l yX0_parting (ws_ yX0_parting cX0_parting 3 (some .int)) (rmD 209) (xP G XN [.ref a, .int (iI s_), .int (iI t_)] M sz) (xQi G (DA M sz) (fun z M' => z = (partF' (σ 2) s_ t_) ∧ M' = M)) 0 0 (DA M sz) := by
  refine x_start (by decide) (Nat.le_of_ble_eq_true rfl) ?_
  intro p e s m below meth c ⟨S, hr, hlk, hH, hK, hXN, hsz, hnm⟩ ls hl
  subst hsz
  obtain ⟨hx, hb, hml, hown, hts⟩ := S
  have S : CallFix p m c _ _ s _ lw_all RX0 := ⟨hx, hb, hml, hown, hts⟩
  have hA : ∀ q, s.heap.size ≤ q → DA M s.heap.size q := fun q hq => Or.inr hq
  have hl : lv_has ls 3 [(0, .ref a), (1, .int (iI s_)), (2, .int (iI t_))] := hl
  have b0 := hI.c
  unfold kCnt at b0
  have h_s_ := R32.n h_s_
  have h_t_ := R32.n h_t_
  refine lv_aload_n hx hb dX0_parting_0 rfl (lv_at hl 0 rfl) ?_
  refine lv_iload_n hx hb dX0_parting_1 rfl (lv_at hl 1 rfl) ?_
  refine x_calliF (x_runV (As := [.int (iI s_)]) (rest := []) S hH hK (fun _ _ hW => XN.warm hW hXN) XN_b hl.1 hR.o rfl (xm_X0_areTexts l G M σ x ω a s_ _ hR (r32 (by omega)) (by omega) (by omega)) (lw_V q1285 q1287 qs33 q105 q1288) kd_X0_areTexts rfl rfl dX0_parting_2) hH hA (fun H locs hH => ?_)
  refine z_if_eq (tgt := 33) hx hb dX0_parting_5 (by decide) (fun c_5 => ?_) (fun c_5 => ?_)
  · -- 5T
    refine n_iconst hx hb dX0_parting_33 ?_
    refine x_iret hx hb hr hlk hH dX0_parting_34 ?_
    refine ⟨?_, rfl⟩
    show _ = partF' _ _ _
    unfold partF' arT isT
    (repeat' split) <;> first | rfl | (exfalso; omega)
  · -- 5F
    refine lv_aload_n hx hb dX0_parting_8 rfl (lv_at hl 0 rfl) ?_
    refine lv_iload_n hx hb dX0_parting_9 rfl (lv_at hl 2 rfl) ?_
    refine x_calliF (x_runV (As := [.int (iI t_)]) (rest := []) S hH hK (fun _ _ hW => XN.warm hW hXN) XN_b hl.1 hR.o rfl (xm_X0_isTrial l G M σ x ω a t_ _ hR (r32 (by omega)) (by omega) (by omega)) (lw_V q795 q797 qs11 q105 q798) kd_X0_isTrial rfl rfl dX0_parting_10) hH hA (fun H locs hH => ?_)
    refine z_if_eq (tgt := 33) hx hb dX0_parting_13 (by decide) (fun c_13 => ?_) (fun c_13 => ?_)
    · -- 13T
      refine n_iconst hx hb dX0_parting_33 ?_
      refine x_iret hx hb hr hlk hH dX0_parting_34 ?_
      refine ⟨?_, rfl⟩
      show _ = partF' _ _ _
      unfold partF' arT isT
      (repeat' split) <;> first | rfl | (exfalso; omega)
    · -- 13F
      refine lv_aload_n hx hb dX0_parting_16 rfl (lv_at hl 0 rfl) ?_
      refine lv_iload_n hx hb dX0_parting_17 rfl (lv_at hl 1 rfl) ?_
      refine lv_aload_n hx hb dX0_parting_18 rfl (lv_at hl 0 rfl) ?_
      refine x_get hx hb hts in_X0 hown hK hH hR.o rfl 0 (by decide) q339 (fun _ h9 => h9) rfl (by decide) dX0_parting_19 ?_
      refine x_getN hx hb hts in_X1 hown hK hH hR.b0 rfl 11 (by decide) hXN q184 (fun _ h9 => h9) rfl (by decide) dX0_parting_22 ?_
      refine lv_iload_n hx hb dX0_parting_25 rfl (lv_at hl 2 rfl) ?_
      obtain ⟨y1, n1, w1, u1, g1, k1, e1⟩ := hR.trial (i := t_) (by omega) (by omega)
      refine x_aald hx hb hK hH 8 hR.b11 rfl (by omega) (by omega) (Nat.le_of_ble_eq_true rfl) (v := some y1) u1 dX0_parting_26 ?_
      refine x_calliF (x_runV (As := [.int (iI s_), .ref y1]) (rest := []) S hH hK (fun _ _ hW => XN.warm hW hXN) XN_b hl.1 hR.o rfl (xm_X0_partingBy l G M σ x ω n1 w1 t_ a s_ y1 _ hR h_s_ hI hT ⟨by omega, by omega⟩ g1 k1 e1) (lw_V q1289 q1291 qs34 q105 q1292) kd_X0_partingBy rfl rfl dX0_parting_27) hH hA (fun H locs hH => ?_)
      refine lv_goto (tgt := 34) hx hb dX0_parting_30 (by decide) ?_
      refine x_iret hx hb hr hlk hH dX0_parting_34 ?_
      refine ⟨?_, rfl⟩
      show _ = partF' _ _ _
      unfold partF' arT isT
      (repeat' split) <;> first | rfl | (exfalso; omega)
theorem kd_X0_isFairToAll : yX0_isFairToAll.cls = RX0 ∧ yX0_isFairToAll.cls ≠ "java/lang/invoke/MethodHandle" ∧ yX0_isFairToAll.cls ≠ "java/lang/invoke/VarHandle" ∧ (parseMethodDescriptor yX0_isFairToAll.desc).map (fun d => d.parameters.length) = some 2 := by decide +kernel
theorem xm_X0_isFairToAll (l : Launch) (G : MG) (M : Hp) (σ : St) (x : XGh) (ω : XCt) (n_ : Nat) (f_ : Int → Int) (t_ : Int) (a : Nat) (s_ : Int) (c_ : Nat) (sz : Nat) (hR : RX G M a σ x ω) (hs : R32 s_) (hI : KI (σ 2)) (hT : TT (σ 2)) (ht : 0 ≤ t_ ∧ t_ < σ 2 1755) (gc1 : M c_ = some (oB 3 [.ref n_, .int (iI 0)])) (gc2 : M n_ = some (aI (G.2.1 0) 9 f_)) (gc3 : ∀ j, 0 ≤ j → j < 9 → f_ j = trA (σ 2) t_ j) : Met l yX0_isFairToAll (ws_ yX0_isFairToAll cX0_isFairToAll 4 (some .boolean)) (rmD 208) (xP G XN [.ref a, .int (iI s_), .ref c_] M sz) (xQi G (DA M sz) (fun z M' => z = (afT (σ 2) s_ t_) ∧ M' = M)) 0 0 (DA M sz) := by
  refine x_start (by decide) (Nat.le_of_ble_eq_true rfl) ?_
  intro p e s m below meth c ⟨S, hr, hlk, hH, hK, hXN, hsz, hnm⟩ ls hl
  subst hsz
  obtain ⟨hx, hb, hml, hown, hts⟩ := S
  have S : CallFix p m c _ _ s _ lw_all RX0 := ⟨hx, hb, hml, hown, hts⟩
  have hA : ∀ q, s.heap.size ≤ q → DA M s.heap.size q := fun q hq => Or.inr hq
  have hl : lv_has ls 4 [(0, .ref a), (1, .int (iI s_)), (2, .ref c_)] := hl
  have b0 := hI.c
  unfold kCnt at b0
  have hs := R32.n hs
  have L2 : ∀ (q : Nat) (a1 : Int), (ha0 : 0 ≤ a1) → (ha1 : a1 ≤ σ 2 1756) → (hq : σ 2 1756 < (q : Int) + a1) → (he : afN (σ 2) s_ t_ (σ 2 1756).toNat 0 = afN (σ 2) s_ t_ (σ 2 1756 - a1).toNat a1) → ∀ (H : Heap) (locs : List Loc) (ls : Array Slot), XV G (DA M s.heap.size) M s.heap H locs → lv_has ls 4 [(0, .ref a), (1, .int (iI s_)), (2, .ref c_), (3, .int (iI a1))] → W p l e (rmD 208) s m ([.ref a, .int (iI s_), .ref c_] : List Value).toArray below meth c H locs 0 0 (MQ below (xQi G (DA M s.heap.size) (fun z M' => z = (afT (σ 2) s_ t_) ∧ M' = M)) ([.ref a, .int (iI s_), .ref c_] : List Value).toArray s 0 0 (DA M s.heap.size)) (F0 m 2 ls []) := by
    intro q
    induction q with
    | zero => intro a1 ha0 ha1 hq he; exfalso; omega
    | succ q ih_2 =>
      intro a1 ha0 ha1 hq he H locs ls hH hl
      have hf : fT (σ 2) a1 t_ = 0 ∨ fT (σ 2) a1 t_ = 1 := fairQ_01 _ _
      refine lv_iload_n hx hb dX0_isFairToAll_2 rfl (lv_at hl 3 rfl) ?_
      refine lv_aload_n hx hb dX0_isFairToAll_3 rfl (lv_at hl 0 rfl) ?_
      refine x_get hx hb hts in_X0 hown hK hH hR.o rfl 0 (by decide) q339 (fun _ h9 => h9) rfl (by decide) dX0_isFairToAll_4 ?_
      refine x_getN hx hb hts in_X1 hown hK hH hR.b0 rfl 5 (by decide) hXN q172 (fun _ h9 => h9) rfl (by decide) dX0_isFairToAll_7 ?_
      refine n_icmp_ge (tgt := 46) hx hb (r32 (by omega)) (r32 (by omega)) dX0_isFairToAll_10 (by decide) (fun c_10 => ?_) (fun c_10 => ?_)
      · -- 10T
        refine n_iconst hx hb dX0_isFairToAll_46 ?_
        refine x_zret hx hb hr hlk hH dX0_isFairToAll_47 (Or.inr rfl) ?_
        refine ⟨?_, rfl⟩
        show _ = afT _ _ _
        rw [afT, he, show (σ 2 1756 - a1).toNat = 0 by omega, afN]
      · -- 10F
        refine lv_iload_n hx hb dX0_isFairToAll_13 rfl (lv_at hl 1 rfl) ?_
        refine lv_iload_n hx hb dX0_isFairToAll_14 rfl (lv_at hl 3 rfl) ?_
        refine n_ishr hx hb (r32 (by omega)) (by omega) (by omega) dX0_isFairToAll_15 ?_
        refine n_iconst hx hb dX0_isFairToAll_16 ?_
        refine n_and1 hx hb dX0_isFairToAll_17 ?_
        refine n_iconst hx hb dX0_isFairToAll_18 ?_
        refine n_icmp_ne (tgt := 40) hx hb (r32 (by omega)) (r32 (by omega)) dX0_isFairToAll_19 (by decide) (fun c_19 => ?_) (fun c_19 => ?_)
        · -- 19T
          refine n_iinc hx hb dX0_isFairToAll_40 hl (k := 3) rfl (Nat.le_of_ble_eq_true rfl) (lv' := [(3, .int (iI (a1 + 1))), (0, .ref a), (1, .int (iI s_)), (2, .ref c_)]) rfl (fun ls hl => ?_)
          refine lv_goto (tgt := 2) hx hb dX0_isFairToAll_43 (by decide) ?_
          have hl : lv_has ls 4 [(0, .ref a), (1, .int (iI s_)), (2, .ref c_), (3, .int (iI (a1 + 1)))] := lv_sub hl [1, 2, 3, 0] rfl
          refine ih_2 (a1 + 1) ?_ ?_ ?_ ?_ _ _ _ hH hl
          · omega
          · omega
          · omega
          · rw [he, afN_e (by omega), if_neg (by omega)]
        · -- 19F
          refine lv_aload_n hx hb dX0_isFairToAll_22 rfl (lv_at hl 0 rfl) ?_
          refine x_get hx hb hts in_X0 hown hK hH hR.o rfl 0 (by decide) q339 (fun _ h9 => h9) rfl (by decide) dX0_isFairToAll_23 ?_
          refine x_getN hx hb hts in_X1 hown hK hH hR.b0 rfl 12 (by decide) hXN q186 (fun _ h9 => h9) rfl (by decide) dX0_isFairToAll_26 ?_
          refine lv_iload_n hx hb dX0_isFairToAll_29 rfl (lv_at hl 3 rfl) ?_
          obtain ⟨y1, r1, u1, t1, g1⟩ := hR.text (i := a1) (by omega) (by omega)
          refine x_aald hx hb hK hH 9 hR.b12 rfl (by omega) (by omega) (Nat.le_of_ble_eq_true rfl) (v := some y1) u1 dX0_isFairToAll_30 ?_
          refine lv_aload_n hx hb dX0_isFairToAll_31 rfl (lv_at hl 2 rfl) ?_
          refine x_calliF (x_runV (As := [.ref c_]) (rest := []) S hH hK (fun _ _ hW => XN.warm hW hXN) XN_b hl.1 g1 rfl (r_isFair (x := a1) (k := t_) hI ⟨by omega, by omega⟩ gc1 gc2 gc3 t1) (lw_V q1234 q1235 q1236 q135 q1237) kd_X22_isFair rfl rfl dX0_isFairToAll_32) hH hA (fun H locs hH => ?_)
          refine n_if_ne (tgt := 40) hx hb (r32 (by omega)) dX0_isFairToAll_35 (by decide) (fun c_35 => ?_) (fun c_35 => ?_)
          · -- 35T
            refine n_iinc hx hb dX0_isFairToAll_40 hl (k := 3) rfl (Nat.le_of_ble_eq_true rfl) (lv' := [(3, .int (iI (a1 + 1))), (0, .ref a), (1, .int (iI s_)), (2, .ref c_)]) rfl (fun ls hl => ?_)
            refine lv_goto (tgt := 2) hx hb dX0_isFairToAll_43 (by decide) ?_
            have hl : lv_has ls 4 [(0, .ref a), (1, .int (iI s_)), (2, .ref c_), (3, .int (iI (a1 + 1)))] := lv_sub hl [1, 2, 3, 0] rfl
            refine ih_2 (a1 + 1) ?_ ?_ ?_ ?_ _ _ _ hH hl
            · omega
            · omega
            · omega
            · rw [he, afN_e (by omega), if_neg (by omega)]
          · -- 35F
            refine n_iconst hx hb dX0_isFairToAll_38 ?_
            refine x_zret hx hb hr hlk hH dX0_isFairToAll_39 (Or.inl rfl) ?_
            refine ⟨?_, rfl⟩
            show _ = afT _ _ _
            rw [afT, he, afN_e (by omega), if_pos (by omega)]
  refine n_iconst hx hb dX0_isFairToAll_0 ?_
  refine lv_istore_n hx hb dX0_isFairToAll_1 rfl hl (Nat.le_of_ble_eq_true rfl) (lv' := [(3, .int (iI 0)), (0, .ref a), (1, .int (iI s_)), (2, .ref c_)]) rfl (fun ls hl => ?_)
  have hl : lv_has ls 4 [(0, .ref a), (1, .int (iI s_)), (2, .ref c_), (3, .int (iI 0))] := lv_sub hl [1, 2, 3, 0] rfl
  refine L2 20 0 ?_ ?_ ?_ ?_ _ _ _ hH hl
  · omega
  · omega
  · omega
  · rw [Int.sub_zero]
theorem kd_X0_next : yX0_next.cls = RX0 ∧ yX0_next.cls ≠ "java/lang/invoke/MethodHandle" ∧ yX0_next.cls ≠ "java/lang/invoke/VarHandle" ∧ (parseMethodDescriptor yX0_next.desc).map (fun d => d.parameters.length) = some 1 := by decide +kernel
theorem xm_X0_next (l : Launch) (G : MG) (M : Hp) (σ : St) (x : XGh) (ω : XCt) (a : Nat) (s_ : Int) (sz : Nat) (hR : RX G M a σ x ω) (h_s_ : R32 s_) (hI : KI (σ 2)) (hT : TT (σ 2)) : Met l yX0_next (ws_ yX0_next cX0_next 6 (some .int)) (rmD 209) (xP G XN [.ref a, .int (iI s_)] M sz) (xQi G (DA M sz) (fun z M' => z = (nxF (σ 2) s_) ∧ M' = M)) 0 0 (DA M sz) := by
  refine x_start (by decide) (Nat.le_of_ble_eq_true rfl) ?_
  intro p e s m below meth c ⟨S, hr, hlk, hH, hK, hXN, hsz, hnm⟩ ls hl
  subst hsz
  obtain ⟨hx, hb, hml, hown, hts⟩ := S
  have S : CallFix p m c _ _ s _ lw_all RX0 := ⟨hx, hb, hml, hown, hts⟩
  have hA : ∀ q, s.heap.size ≤ q → DA M s.heap.size q := fun q hq => Or.inr hq
  have hl : lv_has ls 6 [(0, .ref a), (1, .int (iI s_))] := hl
  have b0 := hI.c
  unfold kCnt at b0
  have h_s_ := R32.n h_s_
  have L17 : ∀ (q : Nat) (t : Int), (hg : arT (σ 2) s_) → (ht0 : 0 ≤ t) → (ht1 : t ≤ σ 2 1755) → (hq : σ 2 1755 < (q : Int) + t) → ∀ (H : Heap) (locs : List Loc) (ls : Array Slot), XV G (DA M s.heap.size) M s.heap H locs → lv_has ls 6 [(0, .ref a), (1, .int (iI s_)), (2, .int (iI ((nxN (σ 2) s_ t.toNat).1))), (3, .int (iI ((nxN (σ 2) s_ t.toNat).2))), (4, .int (iI t))] → W p l e (rmD 209) s m ([.ref a, .int (iI s_)] : List Value).toArray below meth c H locs 0 0 (MQ below (xQi G (DA M s.heap.size) (fun z M' => z = (nxF (σ 2) s_) ∧ M' = M)) ([.ref a, .int (iI s_)] : List Value).toArray s 0 0 (DA M s.heap.size)) (F0 m 17 ls []) := by
    intro q
    induction q with
    | zero => intro t hg ht0 ht1 hq; exfalso; omega
    | succ q ih_17 =>
      intro t hg ht0 ht1 hq H locs ls hH hl
      have haf := afT_01 (σ 2) s_ t
      have hpa := paT_r (κ := σ 2) s_ t (by omega)
      have hnx := nxN_r (κ := σ 2) (s := s_) (by omega) t.toNat
      refine lv_iload hx hb dX0_next_17 (lv_at hl 4 rfl) ?_
      refine lv_aload_n hx hb dX0_next_19 rfl (lv_at hl 0 rfl) ?_
      refine x_get hx hb hts in_X0 hown hK hH hR.o rfl 0 (by decide) q339 (fun _ h9 => h9) rfl (by decide) dX0_next_20 ?_
      refine x_getN hx hb hts in_X1 hown hK hH hR.b0 rfl 4 (by decide) hXN q170 (fun _ h9 => h9) rfl (by decide) dX0_next_23 ?_
      refine n_icmp_ge (tgt := 88) hx hb (r32 (by omega)) (r32 (by omega)) dX0_next_26 (by decide) (fun c_26 => ?_) (fun c_26 => ?_)
      · -- 26T
        refine lv_iload_n hx hb dX0_next_88 rfl (lv_at hl 2 rfl) ?_
        refine x_iret hx hb hr hlk hH dX0_next_89 ?_
        refine ⟨?_, rfl⟩
        show _ = nxF _ _
        rw [nxF, if_pos hg, show (σ 2 1755).toNat = t.toNat by omega]
      · -- 26F
        refine lv_aload_n hx hb dX0_next_29 rfl (lv_at hl 0 rfl) ?_
        refine lv_iload_n hx hb dX0_next_30 rfl (lv_at hl 1 rfl) ?_
        refine lv_aload_n hx hb dX0_next_31 rfl (lv_at hl 0 rfl) ?_
        refine x_get hx hb hts in_X0 hown hK hH hR.o rfl 0 (by decide) q339 (fun _ h9 => h9) rfl (by decide) dX0_next_32 ?_
        refine x_getN hx hb hts in_X1 hown hK hH hR.b0 rfl 11 (by decide) hXN q184 (fun _ h9 => h9) rfl (by decide) dX0_next_35 ?_
        refine lv_iload hx hb dX0_next_38 (lv_at hl 4 rfl) ?_
        obtain ⟨y1, n1, w1, u1, g1, k1, e1⟩ := hR.trial (i := t) (by omega) (by omega)
        refine x_aald hx hb hK hH 8 hR.b11 rfl (by omega) (by omega) (Nat.le_of_ble_eq_true rfl) (v := some y1) u1 dX0_next_40 ?_
        refine x_calliF (x_runV (As := [.int (iI s_), .ref y1]) (rest := []) S hH hK (fun _ _ hW => XN.warm hW hXN) XN_b hl.1 hR.o rfl (xm_X0_isFairToAll l G M σ x ω n1 w1 t a s_ y1 _ hR h_s_ hI hT ⟨by omega, by omega⟩ g1 k1 e1) (lw_V q1300 q1302 qs35 q105 q1303) kd_X0_isFairToAll rfl rfl dX0_next_41) hH hA (fun H locs hH => ?_)
        refine n_if_ne (tgt := 50) hx hb (r32 (by omega)) dX0_next_44 (by decide) (fun c_44 => ?_) (fun c_44 => ?_)
        · -- 44T
          refine lv_aload_n hx hb dX0_next_50 rfl (lv_at hl 0 rfl) ?_
          refine lv_iload_n hx hb dX0_next_51 rfl (lv_at hl 1 rfl) ?_
          refine lv_aload_n hx hb dX0_next_52 rfl (lv_at hl 0 rfl) ?_
          refine x_get hx hb hts in_X0 hown hK hH hR.o rfl 0 (by decide) q339 (fun _ h9 => h9) rfl (by decide) dX0_next_53 ?_
          refine x_getN hx hb hts in_X1 hown hK hH hR.b0 rfl 11 (by decide) hXN q184 (fun _ h9 => h9) rfl (by decide) dX0_next_56 ?_
          refine lv_iload hx hb dX0_next_59 (lv_at hl 4 rfl) ?_
          obtain ⟨y2, n2, w2, u2, g2, k2, e2⟩ := hR.trial (i := t) (by omega) (by omega)
          refine x_aald hx hb hK hH 8 hR.b11 rfl (by omega) (by omega) (Nat.le_of_ble_eq_true rfl) (v := some y2) u2 dX0_next_61 ?_
          refine x_calliF (x_runV (As := [.int (iI s_), .ref y2]) (rest := []) S hH hK (fun _ _ hW => XN.warm hW hXN) XN_b hl.1 hR.o rfl (xm_X0_partingBy l G M σ x ω n2 w2 t a s_ y2 _ hR h_s_ hI hT ⟨by omega, by omega⟩ g2 k2 e2) (lw_V q1289 q1291 qs34 q105 q1292) kd_X0_partingBy rfl rfl dX0_next_62) hH hA (fun H locs hH => ?_)
          refine lv_istore hx hb dX0_next_65 hl (Nat.le_of_ble_eq_true rfl) (lv' := [(5, .int (iI (paT (σ 2) s_ t))), (0, .ref a), (1, .int (iI s_)), (2, .int (iI ((nxN (σ 2) s_ t.toNat).1))), (3, .int (iI ((nxN (σ 2) s_ t.toNat).2))), (4, .int (iI t))]) rfl (fun ls hl => ?_)
          refine lv_iload hx hb dX0_next_67 (lv_at hl 0 rfl) ?_
          refine lv_iload_n hx hb dX0_next_69 rfl (lv_at hl 4 rfl) ?_
          refine n_icmp_gt (tgt := 76) hx hb (r32 (by omega)) (r32 (by omega)) dX0_next_70 (by decide) (fun c_70 => ?_) (fun c_70 => ?_)
          · -- 70T
            refine lv_iload hx hb dX0_next_76 (lv_at hl 0 rfl) ?_
            refine lv_istore_n hx hb dX0_next_78 rfl hl (Nat.le_of_ble_eq_true rfl) (lv' := [(3, .int (iI (paT (σ 2) s_ t))), (5, .int (iI (paT (σ 2) s_ t))), (0, .ref a), (1, .int (iI s_)), (2, .int (iI ((nxN (σ 2) s_ t.toNat).1))), (4, .int (iI t))]) rfl (fun ls hl => ?_)
            refine lv_iload hx hb dX0_next_79 (lv_at hl 5 rfl) ?_
            refine lv_istore_n hx hb dX0_next_81 rfl hl (Nat.le_of_ble_eq_true rfl) (lv' := [(2, .int (iI t)), (3, .int (iI (paT (σ 2) s_ t))), (5, .int (iI (paT (σ 2) s_ t))), (0, .ref a), (1, .int (iI s_)), (4, .int (iI t))]) rfl (fun ls hl => ?_)
            refine n_iinc hx hb dX0_next_82 hl (k := 5) rfl (Nat.le_of_ble_eq_true rfl) (lv' := [(4, .int (iI (t + 1))), (2, .int (iI t)), (3, .int (iI (paT (σ 2) s_ t))), (5, .int (iI (paT (σ 2) s_ t))), (0, .ref a), (1, .int (iI s_))]) rfl (fun ls hl => ?_)
            refine lv_goto (tgt := 17) hx hb dX0_next_85 (by decide) ?_
            have hl : lv_has ls 6 [(0, .ref a), (1, .int (iI s_)), (2, .int (iI t)), (3, .int (iI (paT (σ 2) s_ t))), (4, .int (iI (t + 1)))] := lv_sub hl [4, 5, 1, 2, 0] rfl
            have hl : lv_has ls 6 [(0, .ref a), (1, .int (iI s_)), (2, .int (iI ((nxN (σ 2) s_ (t + 1).toNat).1))), (3, .int (iI ((nxN (σ 2) s_ (t + 1).toNat).2))), (4, .int (iI (t + 1)))] := by rw [nxN_e ht0, if_pos (by omega)]; exact hl
            refine ih_17 (t + 1) ?_ ?_ ?_ ?_ _ _ _ hH hl
            · exact hg
            · omega
            · omega
            · omega
          · -- 70F
            refine lv_goto (tgt := 82) hx hb dX0_next_73 (by decide) ?_
            refine n_iinc hx hb dX0_next_82 hl (k := 5) rfl (Nat.le_of_ble_eq_true rfl) (lv' := [(4, .int (iI (t + 1))), (5, .int (iI (paT (σ 2) s_ t))), (0, .ref a), (1, .int (iI s_)), (2, .int (iI ((nxN (σ 2) s_ t.toNat).1))), (3, .int (iI ((nxN (σ 2) s_ t.toNat).2)))]) rfl (fun ls hl => ?_)
            refine lv_goto (tgt := 17) hx hb dX0_next_85 (by decide) ?_
            have hl : lv_has ls 6 [(0, .ref a), (1, .int (iI s_)), (2, .int (iI ((nxN (σ 2) s_ t.toNat).1))), (3, .int (iI ((nxN (σ 2) s_ t.toNat).2))), (4, .int (iI (t + 1)))] := lv_sub hl [2, 3, 4, 5, 0] rfl
            have hl : lv_has ls 6 [(0, .ref a), (1, .int (iI s_)), (2, .int (iI ((nxN (σ 2) s_ (t + 1).toNat).1))), (3, .int (iI ((nxN (σ 2) s_ (t + 1).toNat).2))), (4, .int (iI (t + 1)))] := by rw [nxN_e ht0, if_neg (by omega)]; exact hl
            refine ih_17 (t + 1) ?_ ?_ ?_ ?_ _ _ _ hH hl
            · exact hg
            · omega
            · omega
            · omega
        · -- 44F
          refine lv_goto (tgt := 82) hx hb dX0_next_47 (by decide) ?_
          refine n_iinc hx hb dX0_next_82 hl (k := 4) rfl (Nat.le_of_ble_eq_true rfl) (lv' := [(4, .int (iI (t + 1))), (0, .ref a), (1, .int (iI s_)), (2, .int (iI ((nxN (σ 2) s_ t.toNat).1))), (3, .int (iI ((nxN (σ 2) s_ t.toNat).2)))]) rfl (fun ls hl => ?_)
          refine lv_goto (tgt := 17) hx hb dX0_next_85 (by decide) ?_
          have hl : lv_has ls 6 [(0, .ref a), (1, .int (iI s_)), (2, .int (iI ((nxN (σ 2) s_ t.toNat).1))), (3, .int (iI ((nxN (σ 2) s_ t.toNat).2))), (4, .int (iI (t + 1)))] := lv_sub hl [1, 2, 3, 4, 0] rfl
          have hl : lv_has ls 6 [(0, .ref a), (1, .int (iI s_)), (2, .int (iI ((nxN (σ 2) s_ (t + 1).toNat).1))), (3, .int (iI ((nxN (σ 2) s_ (t + 1).toNat).2))), (4, .int (iI (t + 1)))] := by rw [nxN_e ht0, if_neg (by omega)]; exact hl
          refine ih_17 (t + 1) ?_ ?_ ?_ ?_ _ _ _ hH hl
          · exact hg
          · omega
          · omega
          · omega
  refine lv_aload_n hx hb dX0_next_0 rfl (lv_at hl 0 rfl) ?_
  refine lv_iload_n hx hb dX0_next_1 rfl (lv_at hl 1 rfl) ?_
  refine x_calliF (x_runV (As := [.int (iI s_)]) (rest := []) S hH hK (fun _ _ hW => XN.warm hW hXN) XN_b hl.1 hR.o rfl (xm_X0_areTexts l G M σ x ω a s_ _ hR (r32 (by omega)) (by omega) (by omega)) (lw_V q1285 q1287 qs33 q105 q1288) kd_X0_areTexts rfl rfl dX0_next_2) hH hA (fun H locs hH => ?_)
  refine z_if_ne (tgt := 10) hx hb dX0_next_5 (by decide) (fun c_5 => ?_) (fun c_5 => ?_)
  · -- 5T
    refine n_iconst hx hb dX0_next_10 ?_
    refine lv_istore_n hx hb dX0_next_11 rfl hl (Nat.le_of_ble_eq_true rfl) (lv' := [(2, .int (iI (-1))), (0, .ref a), (1, .int (iI s_))]) rfl (fun ls hl => ?_)
    refine n_iconst hx hb dX0_next_12 ?_
    refine lv_istore_n hx hb dX0_next_13 rfl hl (Nat.le_of_ble_eq_true rfl) (lv' := [(3, .int (iI 0)), (2, .int (iI (-1))), (0, .ref a), (1, .int (iI s_))]) rfl (fun ls hl => ?_)
    refine n_iconst hx hb dX0_next_14 ?_
    refine lv_istore hx hb dX0_next_15 hl (Nat.le_of_ble_eq_true rfl) (lv' := [(4, .int (iI 0)), (3, .int (iI 0)), (2, .int (iI (-1))), (0, .ref a), (1, .int (iI s_))]) rfl (fun ls hl => ?_)
    have hl : lv_has ls 6 [(0, .ref a), (1, .int (iI s_)), (2, .int (iI (-1))), (3, .int (iI 0)), (4, .int (iI 0))] := lv_sub hl [3, 4, 2, 1, 0] rfl
    have hl : lv_has ls 6 [(0, .ref a), (1, .int (iI s_)), (2, .int (iI ((nxN (σ 2) s_ (0 : Int).toNat).1))), (3, .int (iI ((nxN (σ 2) s_ (0 : Int).toNat).2))), (4, .int (iI 0))] := by exact hl
    refine L17 20 0 ?_ ?_ ?_ ?_ _ _ _ hH hl
    · omega
    · omega
    · omega
    · omega
  · -- 5F
    refine n_iconst hx hb dX0_next_8 ?_
    refine x_iret hx hb hr hlk hH dX0_next_9 ?_
    refine ⟨?_, rfl⟩
    show _ = nxF _ _
    unfold nxF arT
    rw [if_neg (by omega)]
theorem kd_X0_whole : yX0_whole.cls = RX0 ∧ yX0_whole.cls ≠ "java/lang/invoke/MethodHandle" ∧ yX0_whole.cls ≠ "java/lang/invoke/VarHandle" ∧ (parseMethodDescriptor yX0_whole.desc).map (fun d => d.parameters.length) = some 1 := by decide +kernel
theorem xm_X0_whole (l : Launch) (G : MG) (M : Hp) (σ : St) (x : XGh) (ω : XCt) (a : Nat) (s_ : Int) (sz : Nat) (hR : RX G M a σ x ω) (h_s_ : R32 s_) (hI : KI (σ 2)) (hT : TT (σ 2)) : Met l yX0_whole (ws_ yX0_whole cX0_whole 3 (some .int)) (rmD 209) (xP G XN [.ref a, .int (iI s_)] M sz) (xQi G (DA M sz) (fun z M' => z = (whoF (σ 2) s_) ∧ M' = M)) 0 0 (DA M sz) := by
  refine x_start (by decide) (Nat.le_of_ble_eq_true rfl) ?_
  intro p e s m below meth c ⟨S, hr, hlk, hH, hK, hXN, hsz, hnm⟩ ls hl
  subst hsz
  obtain ⟨hx, hb, hml, hown, hts⟩ := S
  have S : CallFix p m c _ _ s _ lw_all RX0 := ⟨hx, hb, hml, hown, hts⟩
  have hA : ∀ q, s.heap.size ≤ q → DA M s.heap.size q := fun q hq => Or.inr hq
  have hl : lv_has ls 3 [(0, .ref a), (1, .int (iI s_))] := hl
  have b0 := hI.c
  unfold kCnt at b0
  have h_s_ := R32.n h_s_
  have L12 : ∀ (q : Nat) (t : Int), (hg : arT (σ 2) s_) → (ht0 : 0 ≤ t) → (ht1 : t ≤ σ 2 1755) → (hq : σ 2 1755 < (q : Int) + t) → (he : whN (σ 2) s_ (σ 2 1755).toNat 0 = whN (σ 2) s_ (σ 2 1755 - t).toNat t) → ∀ (H : Heap) (locs : List Loc) (ls : Array Slot), XV G (DA M s.heap.size) M s.heap H locs → lv_has ls 3 [(0, .ref a), (1, .int (iI s_)), (2, .int (iI t))] → W p l e (rmD 209) s m ([.ref a, .int (iI s_)] : List Value).toArray below meth c H locs 0 0 (MQ below (xQi G (DA M s.heap.size) (fun z M' => z = (whoF (σ 2) s_) ∧ M' = M)) ([.ref a, .int (iI s_)] : List Value).toArray s 0 0 (DA M s.heap.size)) (F0 m 12 ls []) := by
    intro q
    induction q with
    | zero => intro t hg ht0 ht1 hq he; exfalso; omega
    | succ q ih_12 =>
      intro t hg ht0 ht1 hq he H locs ls hH hl
      have haf := afT_01 (σ 2) s_ t
      have hsp : 0 ≤ spT (σ 2) t ∧ spT (σ 2) t ≤ 3 := by unfold spT; (repeat' split) <;> omega
      refine lv_iload_n hx hb dX0_whole_12 rfl (lv_at hl 2 rfl) ?_
      refine lv_aload_n hx hb dX0_whole_13 rfl (lv_at hl 0 rfl) ?_
      refine x_get hx hb hts in_X0 hown hK hH hR.o rfl 0 (by decide) q339 (fun _ h9 => h9) rfl (by decide) dX0_whole_14 ?_
      refine x_getN hx hb hts in_X1 hown hK hH hR.b0 rfl 4 (by decide) hXN q170 (fun _ h9 => h9) rfl (by decide) dX0_whole_17 ?_
      refine n_icmp_ge (tgt := 64) hx hb (r32 (by omega)) (r32 (by omega)) dX0_whole_20 (by decide) (fun c_20 => ?_) (fun c_20 => ?_)
      · -- 20T
        refine n_iconst hx hb dX0_whole_64 ?_
        refine x_iret hx hb hr hlk hH dX0_whole_65 ?_
        refine ⟨?_, rfl⟩
        show _ = whoF _ _
        rw [whoF, if_pos hg, he, show (σ 2 1755 - t).toNat = 0 by omega, whN]
      · -- 20F
        refine lv_aload_n hx hb dX0_whole_23 rfl (lv_at hl 0 rfl) ?_
        refine lv_aload_n hx hb dX0_whole_24 rfl (lv_at hl 0 rfl) ?_
        refine x_get hx hb hts in_X0 hown hK hH hR.o rfl 0 (by decide) q339 (fun _ h9 => h9) rfl (by decide) dX0_whole_25 ?_
        refine x_getN hx hb hts in_X1 hown hK hH hR.b0 rfl 11 (by decide) hXN q184 (fun _ h9 => h9) rfl (by decide) dX0_whole_28 ?_
        refine lv_iload_n hx hb dX0_whole_31 rfl (lv_at hl 2 rfl) ?_
        obtain ⟨y1, n1, w1, u1, g1, k1, e1⟩ := hR.trial (i := t) (by omega) (by omega)
        refine x_aald hx hb hK hH 8 hR.b11 rfl (by omega) (by omega) (Nat.le_of_ble_eq_true rfl) (v := some y1) u1 dX0_whole_32 ?_
        refine x_calliF (x_runV (As := [.ref y1]) (rest := []) S hH hK (fun _ _ hW => XN.warm hW hXN) XN_b hl.1 hR.o rfl (xm_X0_spoiltOf l G M σ x ω n1 w1 t a y1 _ hR hI ⟨by omega, by omega⟩ g1 k1 e1) (lw_V q1376 q1378 qs39 q105 q1379) kd_X0_spoiltOf rfl rfl dX0_whole_33) hH hA (fun H locs hH => ?_)
        refine n_if_ne (tgt := 58) hx hb (r32 (by omega)) dX0_whole_36 (by decide) (fun c_36 => ?_) (fun c_36 => ?_)
        · -- 36T
          refine n_iinc hx hb dX0_whole_58 hl (k := 2) rfl (Nat.le_of_ble_eq_true rfl) (lv' := [(2, .int (iI (t + 1))), (0, .ref a), (1, .int (iI s_))]) rfl (fun ls hl => ?_)
          refine lv_goto (tgt := 12) hx hb dX0_whole_61 (by decide) ?_
          have hl : lv_has ls 3 [(0, .ref a), (1, .int (iI s_)), (2, .int (iI (t + 1)))] := lv_sub hl [1, 2, 0] rfl
          refine ih_12 (t + 1) ?_ ?_ ?_ ?_ ?_ _ _ _ hH hl
          · exact hg
          · omega
          · omega
          · omega
          · rw [he, whN_e (by omega), if_neg (by omega)]
        · -- 36F
          refine lv_aload_n hx hb dX0_whole_39 rfl (lv_at hl 0 rfl) ?_
          refine lv_iload_n hx hb dX0_whole_40 rfl (lv_at hl 1 rfl) ?_
          refine lv_aload_n hx hb dX0_whole_41 rfl (lv_at hl 0 rfl) ?_
          refine x_get hx hb hts in_X0 hown hK hH hR.o rfl 0 (by decide) q339 (fun _ h9 => h9) rfl (by decide) dX0_whole_42 ?_
          refine x_getN hx hb hts in_X1 hown hK hH hR.b0 rfl 11 (by decide) hXN q184 (fun _ h9 => h9) rfl (by decide) dX0_whole_45 ?_
          refine lv_iload_n hx hb dX0_whole_48 rfl (lv_at hl 2 rfl) ?_
          obtain ⟨y2, n2, w2, u2, g2, k2, e2⟩ := hR.trial (i := t) (by omega) (by omega)
          refine x_aald hx hb hK hH 8 hR.b11 rfl (by omega) (by omega) (Nat.le_of_ble_eq_true rfl) (v := some y2) u2 dX0_whole_49 ?_
          refine x_calliF (x_runV (As := [.int (iI s_), .ref y2]) (rest := []) S hH hK (fun _ _ hW => XN.warm hW hXN) XN_b hl.1 hR.o rfl (xm_X0_isFairToAll l G M σ x ω n2 w2 t a s_ y2 _ hR h_s_ hI hT ⟨by omega, by omega⟩ g2 k2 e2) (lw_V q1300 q1302 qs35 q105 q1303) kd_X0_isFairToAll rfl rfl dX0_whole_50) hH hA (fun H locs hH => ?_)
          refine n_if_eq (tgt := 58) hx hb (r32 (by omega)) dX0_whole_53 (by decide) (fun c_53 => ?_) (fun c_53 => ?_)
          · -- 53T
            refine n_iinc hx hb dX0_whole_58 hl (k := 2) rfl (Nat.le_of_ble_eq_true rfl) (lv' := [(2, .int (iI (t + 1))), (0, .ref a), (1, .int (iI s_))]) rfl (fun ls hl => ?_)
            refine lv_goto (tgt := 12) hx hb dX0_whole_61 (by decide) ?_
            have hl : lv_has ls 3 [(0, .ref a), (1, .int (iI s_)), (2, .int (iI (t + 1)))] := lv_sub hl [1, 2, 0] rfl
            refine ih_12 (t + 1) ?_ ?_ ?_ ?_ ?_ _ _ _ hH hl
            · exact hg
            · omega
            · omega
            · omega
            · rw [he, whN_e (by omega), if_neg (by omega)]
          · -- 53F
            refine lv_iload_n hx hb dX0_whole_56 rfl (lv_at hl 2 rfl) ?_
            refine x_iret hx hb hr hlk hH dX0_whole_57 ?_
            refine ⟨?_, rfl⟩
            show _ = whoF _ _
            rw [whoF, if_pos hg, he, whN_e (by omega), if_pos (by omega)]
  refine lv_aload_n hx hb dX0_whole_0 rfl (lv_at hl 0 rfl) ?_
  refine lv_iload_n hx hb dX0_whole_1 rfl (lv_at hl 1 rfl) ?_
  refine x_calliF (x_runV (As := [.int (iI s_)]) (rest := []) S hH hK (fun _ _ hW => XN.warm hW hXN) XN_b hl.1 hR.o rfl (xm_X0_areTexts l G M σ x ω a s_ _ hR (r32 (by omega)) (by omega) (by omega)) (lw_V q1285 q1287 qs33 q105 q1288) kd_X0_areTexts rfl rfl dX0_whole_2) hH hA (fun H locs hH => ?_)
  refine z_if_ne (tgt := 10) hx hb dX0_whole_5 (by decide) (fun c_5 => ?_) (fun c_5 => ?_)
  · -- 5T
    refine n_iconst hx hb dX0_whole_10 ?_
    refine lv_istore_n hx hb dX0_whole_11 rfl hl (Nat.le_of_ble_eq_true rfl) (lv' := [(2, .int (iI 0)), (0, .ref a), (1, .int (iI s_))]) rfl (fun ls hl => ?_)
    have hl : lv_has ls 3 [(0, .ref a), (1, .int (iI s_)), (2, .int (iI 0))] := lv_sub hl [1, 2, 0] rfl
    refine L12 20 0 ?_ ?_ ?_ ?_ ?_ _ _ _ hH hl
    · exact c_5
    · omega
    · omega
    · omega
    · rw [Int.sub_zero]
  · -- 5F
    refine n_iconst hx hb dX0_whole_8 ?_
    refine x_iret hx hb hr hlk hH dX0_whole_9 ?_
    refine ⟨?_, rfl⟩
    show _ = whoF _ _
    unfold whoF arT
    rw [if_neg (by omega)]
