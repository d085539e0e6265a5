theorem row_end {G : MG} {M M1 : Hp} {a : Nat} {σ : St} {P : Nat → Nat} {τ : Int → Int} {bo : Nat} {lo : Int} {x x1 : XGh} {F T l_ d_ p_ : Int} {pf : Int → Option Nat} {ar q : Nat} {ea eq : va_E} (hD : RD G M1 a σ P τ bo lo x1 F T l_ d_ p_ pf) (hE : Ext M M1 x x1) (fa : M1 ar = some ea) (wa : gw x1 ar = 1) (na : ∀ u, M ar = some u → gw x ar = 1 → False) (fq : M1 q = some eq) (wq : gw x1 q = 1) (nq : ∀ u, M q = some u → gw x q = 1 → False) (ne : ar ≠ q) : ∃ x' : XGh, RD G M1 a σ P τ bo lo x' F T l_ d_ p_ pf ∧ Ext M M1 x x' ∧ gI x' q = some eq ∧ gI x' ar = some ea ∧ ∀ y u, gI x1 y = some u → gI x' y = some u := by
  obtain ⟨x2, hD2, hE2, h2, hu2, hO2⟩ := RD.node (e := ea) hD hE wa na
  rw [hs_id fa] at hD2 hE2 hO2
  obtain ⟨-, wq2⟩ := hO2 q eq (Ne.symm ne) fq wq
  obtain ⟨x3, hD3, hE3, h3, hu3, -⟩ := RD.node (e := eq) hD2 hE2 wq2 nq
  rw [hs_id fq] at hD3 hE3
  exact ⟨x3, hD3, hE3, h3, hu3 _ _ h2, fun y u h => hu3 _ _ (hu2 _ _ h)⟩
theorem kd_X3_number : yX3_number.cls = RX3 ∧ yX3_number.cls ≠ "java/lang/invoke/MethodHandle" ∧ yX3_number.cls ≠ "java/lang/invoke/VarHandle" ∧ (parseMethodDescriptor yX3_number.desc).map (fun d => d.parameters.length) = some 1 := by decide +kernel
theorem xm_X3_numberY (l : Launch) (G : MG) (M : Hp) (K : (Nat → Nat) × (Nat → Nat)) (a : Nat) (σ : St) (P : Nat → Nat) (τ : Int → Int) (bo : Nat) (lo : Int) (x : XGh) (F : Int) (T : Int) (l_ : Int) (d_ : Int) (p_ : Int) (pf : Int → Option Nat) (most_ : Int) (sz : Nat) (hD : RD G M a σ P τ bo lo x F T l_ d_ p_ pf) (hm_ : most_ = 100000) (hdg : ∀ j : Int, F ≤ j → j < T → digP (σ 7 j)) (hFT : F < T) (hF0 : 0 ≤ F) (hB8 : ∀ i, -128 ≤ σ 7 i ∧ σ 7 i < 128) (h0 : 0 ≤ T) (h1 : T ≤ σ 9 0) (h4 : σ 9 0 ≤ 400) (hv : vlN (σ 7) F (T - F).toNat ≤ 100000) : Met l yX3_number (ws_ yX3_number cX3_number 4 (some .int)) (rmD 3) (xP G (XRd K M) [.ref (P 7), .int (iI most_)] M sz) (xQi G (DA M sz) (fun z M' => z = vlN (σ 7) F (T - F).toNat ∧ RD G M' a σ P τ bo lo x (sk (σ 7) (σ 9 0) T) (enX σ (sk (σ 7) (σ 9 0) T)) l_ d_ p_ pf ∧ Ext M M' x x)) 0 0 (DA M sz) := by
  refine x_start (by decide) (Nat.le_of_ble_eq_true rfl) ?_
  intro p e s m below meth c ⟨S, hr, hlk, hH, hK, hX, hsz, hnm⟩ ls hl
  have hXN : XN s := hX.1
  subst hsz
  obtain ⟨hx, hb, hml, hown, hts⟩ := S
  have S : CallFix p m c _ _ s _ lw_all RX3 := ⟨hx, hb, hml, hown, hts⟩
  have hA : ∀ q, s.heap.size ≤ q → DA M s.heap.size q := fun q hq => Or.inr hq
  have hl : lv_has ls 4 [(0, .ref (P 7)), (1, .int (iI most_))] := hl
  have L48 : ∀ (q : Nat) (k : Int), (h2 : F ≤ k) → (h3 : k ≤ T) → (hq : T < (q : Int) + k) → ∀ (H : Heap) (locs : List Loc) (ls : Array Slot), XV G (DA M s.heap.size) M s.heap H locs → lv_has ls 4 [(0, .ref (P 7)), (1, .int (iI 100000)), (2, .int (iI (vlN (σ 7) F (k - F).toNat))), (3, .int (iI k))] → W p l e (rmD 3) s m ([.ref (P 7), .int (iI most_)] : List Value).toArray below meth c H locs 0 0 (MQ below (xQi G (DA M s.heap.size) (fun z M' => z = vlN (σ 7) F (T - F).toNat ∧ RD G M' a σ P τ bo lo x (sk (σ 7) (σ 9 0) T) (enX σ (sk (σ 7) (σ 9 0) T)) l_ d_ p_ pf ∧ Ext M M' x x))  ([.ref (P 7), .int (iI most_)] : List Value).toArray s 0 0 (DA M s.heap.size)) (F0 m 48 ls []) := by
    intro q
    induction q with
    | zero => intro k h2 h3 hq; exfalso; omega
    | succ q ih_48 =>
      intro k h2 h3 hq H locs ls hH hl
      have hvr := vlN_r (T := σ 7) (k := F) (k - F).toNat (fun i hi => hdg _ (by omega) (by omega))
      have hvm : vlN (σ 7) F (k - F).toNat ≤ vlN (σ 7) F (T - F).toNat := by
        have h9 := vlN_m (T := σ 7) (k := F) (T - k).toNat (k - F).toNat (fun i hi => hdg _ (by omega) (by omega))
        rw [show (k - F).toNat + (T - k).toNat = (T - F).toNat by omega] at h9
        exact h9
      refine lv_iload_n hx hb dX3_number_48 rfl (lv_at hl 3 rfl) ?_
      refine lv_aload_n hx hb dX3_number_49 rfl (lv_at hl 0 rfl) ?_
      refine x_get hx hb hts in_X3 hown hK hH hD.c rfl 1 (by decide) q308 (fun _ h9 => h9) rfl (by decide) dX3_number_50 ?_
      refine n_icmp_ge (tgt := 85) hx hb (r32 (by omega)) (r32 (by omega)) dX3_number_53 (by decide) (fun c_53 => ?_) (fun c_53 => ?_)
      · -- 53T
        refine lv_aload_n hx hb dX3_number_85 rfl (lv_at hl 0 rfl) ?_
        refine lv_iload_n hx hb dX3_number_86 rfl (lv_at hl 2 rfl) ?_
        refine lv_iload_n hx hb dX3_number_87 rfl (lv_at hl 1 rfl) ?_
        refine n_icmp_gt (tgt := 95) hx hb (r32 (by omega)) (r32 (by omega)) dX3_number_88 (by decide) (fun c_88 => ?_) (fun c_88 => ?_)
        · -- 88T
          exact absurd c_88 (by omega)
        · -- 88F
          refine n_iconst hx hb dX3_number_91 ?_
          refine lv_goto (tgt := 96) hx hb dX3_number_92 (by decide) ?_
          refine x_callv (x_runV (As := [.int (iI 1)]) (rest := []) S hH hK (hX.at hH) XRd_b hl.1 hD.c rfl (xm_X3_mustY l G M K a σ P τ bo lo x F T l_ d_ p_ pf 1 _ hD (by omega)) (lw_V q833 q835 qs14 q108 q836) kd_X3_must rfl rfl dX3_number_96) hH hA (fun M96_ H locs q_96 hH hz_96 => ?_)
          have hH := XV_to hH q_96
          refine lv_aload_n hx hb dX3_number_99 rfl (lv_at hl 0 rfl) ?_
          refine x_callv (x_runV (As := []) (rest := []) S hH hK (hX.at hH) XRd_b hl.1 hD.c rfl (xm_X3_next l G M K a σ P τ bo lo x F T l_ d_ p_ pf _ hD hB8 (by omega) (by omega) (by omega)) (lw_V q823 q825 qs13 q108 q826) kd_X3_next rfl rfl dX3_number_100) hH hA (fun M100_ H locs q_100 hH hz_100 => ?_)
          obtain ⟨hD1, hX1⟩ := q_100
          refine lv_iload_n hx hb dX3_number_103 rfl (lv_at hl 2 rfl) ?_
          refine x_iret hx hb hr hlk hH dX3_number_104 ?_
          exact ⟨by rw [show k = T by omega], hD1, hX1⟩
      · -- 53F
        refine lv_iload_n hx hb dX3_number_56 rfl (lv_at hl 2 rfl) ?_
        refine lv_iload_n hx hb dX3_number_57 rfl (lv_at hl 1 rfl) ?_
        refine n_icmp_gt (tgt := 85) hx hb (r32 (by omega)) (r32 (by omega)) dX3_number_58 (by decide) (fun c_58 => ?_) (fun c_58 => ?_)
        · -- 58T
          exact absurd c_58 (by omega)
        · -- 58F
          refine n_bipush (z := 10) hx hb dX3_number_61 (by decide) ?_
          refine lv_iload_n hx hb dX3_number_63 rfl (lv_at hl 2 rfl) ?_
          refine n_imul hx hb dX3_number_64 ?_
          refine lv_aload_n hx hb dX3_number_65 rfl (lv_at hl 0 rfl) ?_
          refine x_get hx hb hts in_X3 hown hK hH hD.c rfl 9 (by decide) q316 (fun _ h9 => h9) rfl (by decide) dX3_number_66 ?_
          refine x_getN hx hb hts in_X0 hown hK hH hD.o rfl 5 (by decide) hXN q344 (fun _ h9 => h9) rfl (by decide) dX3_number_69 ?_
          refine lv_iload_n hx hb dX3_number_72 rfl (lv_at hl 3 rfl) ?_
          refine x_bald hx hb hK hH hD.tp (by omega) (by omega) (Nat.le_of_ble_eq_true rfl) dX3_number_73 ?_
          have hb_73 := hB8 k
          refine W.eq (g2 := F0 m 74 ls (.int (iI (σ 7 k)) :: .int (iI (10 * (vlN (σ 7) F (k - F).toNat))) :: [])) (by first | (rw [hD.ht (i := k) (by omega) (by omega)]; done) | (rw [hD.ht (i := k) (by omega) (by omega)]; rfl)) ?_
          refine n_iadd hx hb dX3_number_74 ?_
          refine n_bipush (z := 48) hx hb dX3_number_75 (by decide) ?_
          refine n_isub hx hb dX3_number_77 ?_
          refine lv_istore_n hx hb dX3_number_78 rfl hl (Nat.le_of_ble_eq_true rfl) (lv' := [(2, .int (iI (((10 * (vlN (σ 7) F (k - F).toNat)) + (σ 7 k)) - 48))), (0, .ref (P 7)), (1, .int (iI 100000)), (3, .int (iI k))]) rfl (fun ls hl => ?_)
          refine n_iinc hx hb dX3_number_79 hl (k := 3) rfl (Nat.le_of_ble_eq_true rfl) (lv' := [(3, .int (iI (k + 1))), (2, .int (iI (((10 * (vlN (σ 7) F (k - F).toNat)) + (σ 7 k)) - 48))), (0, .ref (P 7)), (1, .int (iI 100000))]) rfl (fun ls hl => ?_)
          refine lv_goto (tgt := 48) hx hb dX3_number_82 (by decide) ?_
          have hl : lv_has ls 4 [(0, .ref (P 7)), (1, .int (iI 100000)), (2, .int (iI (((10 * (vlN (σ 7) F (k - F).toNat)) + (σ 7 k)) - 48))), (3, .int (iI (k + 1)))] := lv_sub hl [2, 3, 1, 0] rfl
          have hl : lv_has ls 4 [(0, .ref (P 7)), (1, .int (iI 100000)), (2, .int (iI (vlN (σ 7) F (k + 1 - F).toNat))), (3, .int (iI (k + 1)))] := by rw [show (k + 1 - F).toNat = (k - F + 1).toNat by omega, vlN_s (by omega), if_neg (by omega), show F + (k - F) = k by omega]; exact hl
          refine ih_48 (k + 1) ?_ ?_ ?_ _ _ _ hH hl
          · omega
          · omega
          · omega
  obtain rfl : most_ = 100000 := by omega
  refine lv_aload_n hx hb dX3_number_0 rfl (lv_at hl 0 rfl) ?_
  refine lv_aload_n hx hb dX3_number_1 rfl (lv_at hl 0 rfl) ?_
  refine x_get hx hb hts in_X3 hown hK hH hD.c rfl 0 (by decide) q307 (fun _ h9 => h9) rfl (by decide) dX3_number_2 ?_
  refine lv_aload_n hx hb dX3_number_5 rfl (lv_at hl 0 rfl) ?_
  refine x_get hx hb hts in_X3 hown hK hH hD.c rfl 9 (by decide) q316 (fun _ h9 => h9) rfl (by decide) dX3_number_6 ?_
  refine x_getN hx hb hts in_X0 hown hK hH hD.o rfl 6 (by decide) hXN q346 (fun _ h9 => h9) rfl (by decide) dX3_number_9 ?_
  refine n_icmp_ge (tgt := 37) hx hb (r32 (by omega)) (r32 (by omega)) dX3_number_12 (by decide) (fun c_12 => ?_) (fun c_12 => ?_)
  · -- 12T
    exact absurd c_12 (by omega)
  · -- 12F
    refine lv_aload_n hx hb dX3_number_15 rfl (lv_at hl 0 rfl) ?_
    refine x_get hx hb hts in_X3 hown hK hH hD.c rfl 9 (by decide) q316 (fun _ h9 => h9) rfl (by decide) dX3_number_16 ?_
    refine x_getN hx hb hts in_X0 hown hK hH hD.o rfl 5 (by decide) hXN q344 (fun _ h9 => h9) rfl (by decide) dX3_number_19 ?_
    refine lv_aload_n hx hb dX3_number_22 rfl (lv_at hl 0 rfl) ?_
    refine x_get hx hb hts in_X3 hown hK hH hD.c rfl 0 (by decide) q307 (fun _ h9 => h9) rfl (by decide) dX3_number_23 ?_
    refine x_bald hx hb hK hH hD.tp (by omega) (by omega) (Nat.le_of_ble_eq_true rfl) dX3_number_26 ?_
    have hb_26 := hB8 F
    refine W.eq (g2 := F0 m 27 ls (.int (iI (σ 7 F)) :: .ref (P 7) :: [])) (by first | (rw [hD.ht (i := F) (by omega) (by omega)]; done) | (rw [hD.ht (i := F) (by omega) (by omega)]; rfl)) ?_
    refine x_calliF (x_runSN (As := [.int (iI (σ 7 F))]) (rest := [.ref (P 7)]) S hH hK hXN hl.1 (xm_X0_isDigit l G M (σ 7 F) _ (r32 (by omega))) (lw_meth q832) q831 q105 q830 kd_X0_isDigit rfl rfl dX3_number_27) hH hA (fun H locs hH => ?_)
    refine z_if_eq (tgt := 37) hx hb dX3_number_30 (by decide) (fun c_30 => ?_) (fun c_30 => ?_)
    · -- 30T
      exact absurd (hdg F (by omega) (by omega)) c_30
    · -- 30F
      refine n_iconst hx hb dX3_number_33 ?_
      refine lv_goto (tgt := 38) hx hb dX3_number_34 (by decide) ?_
      refine x_callv (x_runV (As := [.int (iI 1)]) (rest := []) S hH hK (hX.at hH) XRd_b hl.1 hD.c rfl (xm_X3_mustY l G M K a σ P τ bo lo x F T l_ d_ p_ pf 1 _ hD (by omega)) (lw_V q833 q835 qs14 q108 q836) kd_X3_must rfl rfl dX3_number_38) hH hA (fun M38_ H locs q_38 hH hz_38 => ?_)
      have hH := XV_to hH q_38
      refine n_iconst hx hb dX3_number_41 ?_
      refine lv_istore_n hx hb dX3_number_42 rfl hl (Nat.le_of_ble_eq_true rfl) (lv' := [(2, .int (iI 0)), (0, .ref (P 7)), (1, .int (iI 100000))]) rfl (fun ls hl => ?_)
      refine lv_aload_n hx hb dX3_number_43 rfl (lv_at hl 1 rfl) ?_
      refine x_get hx hb hts in_X3 hown hK hH hD.c rfl 0 (by decide) q307 (fun _ h9 => h9) rfl (by decide) dX3_number_44 ?_
      refine lv_istore_n hx hb dX3_number_47 rfl hl (Nat.le_of_ble_eq_true rfl) (lv' := [(3, .int (iI F)), (2, .int (iI 0)), (0, .ref (P 7)), (1, .int (iI 100000))]) rfl (fun ls hl => ?_)
      have hl : lv_has ls 4 [(0, .ref (P 7)), (1, .int (iI 100000)), (2, .int (iI 0)), (3, .int (iI F))] := lv_sub hl [2, 3, 1, 0] rfl
      have hl : lv_has ls 4 [(0, .ref (P 7)), (1, .int (iI 100000)), (2, .int (iI (vlN (σ 7) F (F - F).toNat))), (3, .int (iI F))] := by rw [show (F - F).toNat = 0 by omega]; exact hl
      refine L48 402 F ?_ ?_ ?_ _ _ _ hH hl
      · omega
      · omega
      · omega
theorem xm_X3_numberN (l : Launch) (G : MG) (M : Hp) (K : (Nat → Nat) × (Nat → Nat)) (a : Nat) (σ : St) (P : Nat → Nat) (τ : Int → Int) (bo : Nat) (lo : Int) (x : XGh) (F : Int) (T : Int) (l_ : Int) (d_ : Int) (p_ : Int) (pf : Int → Option Nat) (most_ : Int) (sz : Nat) (hD : RD G M a σ P τ bo lo x F T l_ d_ p_ pf) (hm_ : most_ = 100000) (hdg : ∀ j : Int, F ≤ j → j < T → digP (σ 7 j)) (hFT : F < T) (hF0 : 0 ≤ F) (hB8 : ∀ i, -128 ≤ σ 7 i ∧ σ 7 i < 128) (h0 : 0 ≤ T) (h1 : T ≤ σ 9 0) (h4 : σ 9 0 ≤ 400) (hv : ¬ vlN (σ 7) F (T - F).toNat ≤ 100000) : vx_Met l yX3_number (ws_ yX3_number cX3_number 4 (some .int)) (rmX 6 1 7) (xP G (XRd K M) [.ref (P 7), .int (iI most_)] M sz) (xQi G (DA M sz) (fun _ _ => False)) (rXc G (DA M sz) (fun pl M' => pl = F ∧ RDx G M' a σ P)) 1 7 (DA M sz) := by
  refine r_start (by decide) (Nat.le_of_ble_eq_true rfl) ?_
  intro p e s m below meth c ⟨S, hr, hlk, hH, hK, hX, hsz, hnm⟩ hto ls hl
  have hXN : XN s := hX.1
  subst hsz
  obtain ⟨hx, hb, hml, hown, hts⟩ := S
  have S : CallFix p m c _ _ s _ lw_all RX3 := ⟨hx, hb, hml, hown, hts⟩
  have hA : ∀ q, s.heap.size ≤ q → DA M s.heap.size q := fun q hq => Or.inr hq
  have hl : lv_has ls 4 [(0, .ref (P 7)), (1, .int (iI most_))] := hl
  have L48 : ∀ (q : Nat) (k : Int), (h2 : F ≤ k) → (h3 : k ≤ T) → (hq : T < (q : Int) + k) → ∀ (H : Heap) (locs : List Loc) (ls : Array Slot), XV G (DA M s.heap.size) M s.heap H locs → lv_has ls 4 [(0, .ref (P 7)), (1, .int (iI 100000)), (2, .int (iI (vlN (σ 7) F (k - F).toNat))), (3, .int (iI k))] → W p l e (rmX 6 1 7) s m ([.ref (P 7), .int (iI most_)] : List Value).toArray below meth c H locs 0 0 (vx_MQ below (xQi G (DA M s.heap.size) (fun _ _ => False)) (rXc G (DA M s.heap.size) (fun pl M' => pl = F ∧ RDx G M' a σ P)) ([.ref (P 7), .int (iI most_)] : List Value).toArray s 1 7 (DA M s.heap.size)) (F0 m 48 ls []) := by
    intro q
    induction q with
    | zero => intro k h2 h3 hq; exfalso; omega
    | succ q ih_48 =>
      intro k h2 h3 hq H locs ls hH hl
      have hvr := vlN_r (T := σ 7) (k := F) (k - F).toNat (fun i hi => hdg _ (by omega) (by omega))
      have hvm : vlN (σ 7) F (k - F).toNat ≤ vlN (σ 7) F (T - F).toNat := by
        have h9 := vlN_m (T := σ 7) (k := F) (T - k).toNat (k - F).toNat (fun i hi => hdg _ (by omega) (by omega))
        rw [show (k - F).toNat + (T - k).toNat = (T - F).toNat by omega] at h9
        exact h9
      refine lv_iload_n hx hb dX3_number_48 rfl (lv_at hl 3 rfl) ?_
      refine lv_aload_n hx hb dX3_number_49 rfl (lv_at hl 0 rfl) ?_
      refine x_get hx hb hts in_X3 hown hK hH hD.c rfl 1 (by decide) q308 (fun _ h9 => h9) rfl (by decide) dX3_number_50 ?_
      refine n_icmp_ge (tgt := 85) hx hb (r32 (by omega)) (r32 (by omega)) dX3_number_53 (by decide) (fun c_53 => ?_) (fun c_53 => ?_)
      · -- 53T
        refine lv_aload_n hx hb dX3_number_85 rfl (lv_at hl 0 rfl) ?_
        refine lv_iload_n hx hb dX3_number_86 rfl (lv_at hl 2 rfl) ?_
        refine lv_iload_n hx hb dX3_number_87 rfl (lv_at hl 1 rfl) ?_
        refine n_icmp_gt (tgt := 95) hx hb (r32 (by omega)) (r32 (by omega)) dX3_number_88 (by decide) (fun c_88 => ?_) (fun c_88 => ?_)
        · -- 88T
          refine n_iconst hx hb dX3_number_95 ?_
          refine r_callv (r_runV (As := [.int (iI 0)]) (rest := []) S hH hK (hX.at hH) XRd_b hl.1 hD.c rfl (xm_X3_mustN l G M K a σ P τ bo lo x F T l_ d_ p_ pf 0 _ hD (by omega)) (lw_V q833 q835 qs14 q108 q836) kd_X3_must rfl rfl dX3_number_96) hH hA (fun q9_96 pl_96 M9_96 H locs hT_96 => r_out hto hlk hT_96 (hT_96.1) (Nat.le_of_ble_eq_true rfl) (Nat.le_of_ble_eq_true rfl)) (fun M96_ H locs q_96 hH hz_96 => ?_)
          exact q_96.elim
        · -- 88F
          first | (exfalso; omega) | exact absurd (show vlN (σ 7) F (T - F).toNat ≤ 100000 by rw [show T = k by omega]; omega) hv
      · -- 53F
        refine lv_iload_n hx hb dX3_number_56 rfl (lv_at hl 2 rfl) ?_
        refine lv_iload_n hx hb dX3_number_57 rfl (lv_at hl 1 rfl) ?_
        refine n_icmp_gt (tgt := 85) hx hb (r32 (by omega)) (r32 (by omega)) dX3_number_58 (by decide) (fun c_58 => ?_) (fun c_58 => ?_)
        · -- 58T
          refine lv_aload_n hx hb dX3_number_85 rfl (lv_at hl 0 rfl) ?_
          refine lv_iload_n hx hb dX3_number_86 rfl (lv_at hl 2 rfl) ?_
          refine lv_iload_n hx hb dX3_number_87 rfl (lv_at hl 1 rfl) ?_
          refine n_icmp_gt (tgt := 95) hx hb (r32 (by omega)) (r32 (by omega)) dX3_number_88 (by decide) (fun c_88 => ?_) (fun c_88 => ?_)
          · -- 88T
            refine n_iconst hx hb dX3_number_95 ?_
            refine r_callv (r_runV (As := [.int (iI 0)]) (rest := []) S hH hK (hX.at hH) XRd_b hl.1 hD.c rfl (xm_X3_mustN l G M K a σ P τ bo lo x F T l_ d_ p_ pf 0 _ hD (by omega)) (lw_V q833 q835 qs14 q108 q836) kd_X3_must rfl rfl dX3_number_96) hH hA (fun q9_96 pl_96 M9_96 H locs hT_96 => r_out hto hlk hT_96 (hT_96.1) (Nat.le_of_ble_eq_true rfl) (Nat.le_of_ble_eq_true rfl)) (fun M96_ H locs q_96 hH hz_96 => ?_)
            exact q_96.elim
          · exact absurd c_58 c_88
        · -- 58F
          refine n_bipush (z := 10) hx hb dX3_number_61 (by decide) ?_
          refine lv_iload_n hx hb dX3_number_63 rfl (lv_at hl 2 rfl) ?_
          refine n_imul hx hb dX3_number_64 ?_
          refine lv_aload_n hx hb dX3_number_65 rfl (lv_at hl 0 rfl) ?_
          refine x_get hx hb hts in_X3 hown hK hH hD.c rfl 9 (by decide) q316 (fun _ h9 => h9) rfl (by decide) dX3_number_66 ?_
          refine x_getN hx hb hts in_X0 hown hK hH hD.o rfl 5 (by decide) hXN q344 (fun _ h9 => h9) rfl (by decide) dX3_number_69 ?_
          refine lv_iload_n hx hb dX3_number_72 rfl (lv_at hl 3 rfl) ?_
          refine x_bald hx hb hK hH hD.tp (by omega) (by omega) (Nat.le_of_ble_eq_true rfl) dX3_number_73 ?_
          have hb_73 := hB8 k
          refine W.eq (g2 := F0 m 74 ls (.int (iI (σ 7 k)) :: .int (iI (10 * (vlN (σ 7) F (k - F).toNat))) :: [])) (by first | (rw [hD.ht (i := k) (by omega) (by omega)]; done) | (rw [hD.ht (i := k) (by omega) (by omega)]; rfl)) ?_
          refine n_iadd hx hb dX3_number_74 ?_
          refine n_bipush (z := 48) hx hb dX3_number_75 (by decide) ?_
          refine n_isub hx hb dX3_number_77 ?_
          refine lv_istore_n hx hb dX3_number_78 rfl hl (Nat.le_of_ble_eq_true rfl) (lv' := [(2, .int (iI (((10 * (vlN (σ 7) F (k - F).toNat)) + (σ 7 k)) - 48))), (0, .ref (P 7)), (1, .int (iI 100000)), (3, .int (iI k))]) rfl (fun ls hl => ?_)
          refine n_iinc hx hb dX3_number_79 hl (k := 3) rfl (Nat.le_of_ble_eq_true rfl) (lv' := [(3, .int (iI (k + 1))), (2, .int (iI (((10 * (vlN (σ 7) F (k - F).toNat)) + (σ 7 k)) - 48))), (0, .ref (P 7)), (1, .int (iI 100000))]) rfl (fun ls hl => ?_)
          refine lv_goto (tgt := 48) hx hb dX3_number_82 (by decide) ?_
          have hl : lv_has ls 4 [(0, .ref (P 7)), (1, .int (iI 100000)), (2, .int (iI (((10 * (vlN (σ 7) F (k - F).toNat)) + (σ 7 k)) - 48))), (3, .int (iI (k + 1)))] := lv_sub hl [2, 3, 1, 0] rfl
          have hl : lv_has ls 4 [(0, .ref (P 7)), (1, .int (iI 100000)), (2, .int (iI (vlN (σ 7) F (k + 1 - F).toNat))), (3, .int (iI (k + 1)))] := by rw [show (k + 1 - F).toNat = (k - F + 1).toNat by omega, vlN_s (by omega), if_neg (by omega), show F + (k - F) = k by omega]; exact hl
          refine ih_48 (k + 1) ?_ ?_ ?_ _ _ _ hH hl
          · omega
          · omega
          · omega
  obtain rfl : most_ = 100000 := by omega
  refine lv_aload_n hx hb dX3_number_0 rfl (lv_at hl 0 rfl) ?_
  refine lv_aload_n hx hb dX3_number_1 rfl (lv_at hl 0 rfl) ?_
  refine x_get hx hb hts in_X3 hown hK hH hD.c rfl 0 (by decide) q307 (fun _ h9 => h9) rfl (by decide) dX3_number_2 ?_
  refine lv_aload_n hx hb dX3_number_5 rfl (lv_at hl 0 rfl) ?_
  refine x_get hx hb hts in_X3 hown hK hH hD.c rfl 9 (by decide) q316 (fun _ h9 => h9) rfl (by decide) dX3_number_6 ?_
  refine x_getN hx hb hts in_X0 hown hK hH hD.o rfl 6 (by decide) hXN q346 (fun _ h9 => h9) rfl (by decide) dX3_number_9 ?_
  refine n_icmp_ge (tgt := 37) hx hb (r32 (by omega)) (r32 (by omega)) dX3_number_12 (by decide) (fun c_12 => ?_) (fun c_12 => ?_)
  · -- 12T
    exact absurd c_12 (by omega)
  · -- 12F
    refine lv_aload_n hx hb dX3_number_15 rfl (lv_at hl 0 rfl) ?_
    refine x_get hx hb hts in_X3 hown hK hH hD.c rfl 9 (by decide) q316 (fun _ h9 => h9) rfl (by decide) dX3_number_16 ?_
    refine x_getN hx hb hts in_X0 hown hK hH hD.o rfl 5 (by decide) hXN q344 (fun _ h9 => h9) rfl (by decide) dX3_number_19 ?_
    refine lv_aload_n hx hb dX3_number_22 rfl (lv_at hl 0 rfl) ?_
    refine x_get hx hb hts in_X3 hown hK hH hD.c rfl 0 (by decide) q307 (fun _ h9 => h9) rfl (by decide) dX3_number_23 ?_
    refine x_bald hx hb hK hH hD.tp (by omega) (by omega) (Nat.le_of_ble_eq_true rfl) dX3_number_26 ?_
    have hb_26 := hB8 F
    refine W.eq (g2 := F0 m 27 ls (.int (iI (σ 7 F)) :: .ref (P 7) :: [])) (by first | (rw [hD.ht (i := F) (by omega) (by omega)]; done) | (rw [hD.ht (i := F) (by omega) (by omega)]; rfl)) ?_
    refine x_calliF (x_runSN (As := [.int (iI (σ 7 F))]) (rest := [.ref (P 7)]) S hH hK hXN hl.1 (xm_X0_isDigit l G M (σ 7 F) _ (r32 (by omega))) (lw_meth q832) q831 q105 q830 kd_X0_isDigit rfl rfl dX3_number_27) hH hA (fun H locs hH => ?_)
    refine z_if_eq (tgt := 37) hx hb dX3_number_30 (by decide) (fun c_30 => ?_) (fun c_30 => ?_)
    · -- 30T
      exact absurd (hdg F (by omega) (by omega)) c_30
    · -- 30F
      refine n_iconst hx hb dX3_number_33 ?_
      refine lv_goto (tgt := 38) hx hb dX3_number_34 (by decide) ?_
      refine x_callv (x_runV (As := [.int (iI 1)]) (rest := []) S hH hK (hX.at hH) XRd_b hl.1 hD.c rfl (xm_X3_mustY l G M K a σ P τ bo lo x F T l_ d_ p_ pf 1 _ hD (by omega)) (lw_V q833 q835 qs14 q108 q836) kd_X3_must rfl rfl dX3_number_38) hH hA (fun M38_ H locs q_38 hH hz_38 => ?_)
      have hH := XV_to hH q_38
      refine n_iconst hx hb dX3_number_41 ?_
      refine lv_istore_n hx hb dX3_number_42 rfl hl (Nat.le_of_ble_eq_true rfl) (lv' := [(2, .int (iI 0)), (0, .ref (P 7)), (1, .int (iI 100000))]) rfl (fun ls hl => ?_)
      refine lv_aload_n hx hb dX3_number_43 rfl (lv_at hl 1 rfl) ?_
      refine x_get hx hb hts in_X3 hown hK hH hD.c rfl 0 (by decide) q307 (fun _ h9 => h9) rfl (by decide) dX3_number_44 ?_
      refine lv_istore_n hx hb dX3_number_47 rfl hl (Nat.le_of_ble_eq_true rfl) (lv' := [(3, .int (iI F)), (2, .int (iI 0)), (0, .ref (P 7)), (1, .int (iI 100000))]) rfl (fun ls hl => ?_)
      have hl : lv_has ls 4 [(0, .ref (P 7)), (1, .int (iI 100000)), (2, .int (iI 0)), (3, .int (iI F))] := lv_sub hl [2, 3, 1, 0] rfl
      have hl : lv_has ls 4 [(0, .ref (P 7)), (1, .int (iI 100000)), (2, .int (iI (vlN (σ 7) F (F - F).toNat))), (3, .int (iI F))] := by rw [show (F - F).toNat = 0 by omega]; exact hl
      refine L48 402 F ?_ ?_ ?_ _ _ _ hH hl
      · omega
      · omega
      · omega
theorem kd_X3_add : yX3_add.cls = RX3 ∧ yX3_add.cls ≠ "java/lang/invoke/MethodHandle" ∧ yX3_add.cls ≠ "java/lang/invoke/VarHandle" ∧ (parseMethodDescriptor yX3_add.desc).map (fun d => d.parameters.length) = some 1 := by decide +kernel
theorem xm_X3_add (l : Launch) (G : MG) (M : Hp) (K : (Nat → Nat) × (Nat → Nat)) (a : Nat) (σ : St) (P : Nat → Nat) (τ : Int → Int) (bo : Nat) (lo : Int) (x : XGh) (F : Int) (T : Int) (l_ : Int) (d_ : Int) (p_ : Int) (pf : Int → Option Nat) (t_ : Nat) (sz : Nat) (hD : RD G M a σ P τ bo lo x F T l_ d_ p_ pf) (hp0 : 0 ≤ p_) (hp1 : p_ < 50) (ht0 : ∃ (ci : Nat) (fs : List Value) (r : vw_C), gI x t_ = some (oB ci fs) ∧ clA[ci]? = some r ∧ inRow r.1 "BrothFlasks$Test") : Met l yX3_add (ws_ yX3_add cX3_add 2 none) (rmD 1) (xP G (XRd K M) [.ref (P 7), .ref t_] M sz) (xQv G (DA M sz) (fun M' => RD G M' a σ P τ bo lo x F T l_ d_ (p_ + 1) (upq pf p_ (some t_)) ∧ Ext M M' x x)) 0 0 (DA M sz) := by
  refine x_start (by decide) (Nat.le_of_ble_eq_true rfl) ?_
  intro p e s m below meth c ⟨S, hr, hlk, hH, hK, hX, hsz, hnm⟩ ls hl
  have hXN : XN s := hX.1
  subst hsz
  obtain ⟨hx, hb, hml, hown, hts⟩ := S
  have S : CallFix p m c _ _ s _ lw_all RX3 := ⟨hx, hb, hml, hown, hts⟩
  have hA : ∀ q, s.heap.size ≤ q → DA M s.heap.size q := fun q hq => Or.inr hq
  have hl : lv_has ls 2 [(0, .ref (P 7)), (1, .ref t_)] := hl
  obtain ⟨ci_, fs_, r_, ht1, ht2, ht3⟩ := ht0
  have ft := hD.I ht1
  refine lv_aload_n hx hb dX3_add_0 rfl (lv_at hl 0 rfl) ?_
  refine x_get hx hb hts in_X3 hown hK hH hD.c rfl 5 (by decide) q312 (fun _ h9 => h9) rfl (by decide) dX3_add_1 ?_
  refine lv_aload_n hx hb dX3_add_4 rfl (lv_at hl 0 rfl) ?_
  refine x_get hx hb hts in_X3 hown hK hH hD.c rfl 4 (by decide) q311 (fun _ h9 => h9) rfl (by decide) dX3_add_5 ?_
  refine lv_aload_n hx hb dX3_add_8 rfl (lv_at hl 1 rfl) ?_
  refine x_aast (E := "BrothFlasks$Test") hx hb hK hXN hH hD.pl rfl ft ht2 ht3 (by omega) (by omega) (Nat.le_of_ble_eq_true rfl) dX3_add_9 (fun H locs hH => ?_)
  obtain ⟨M1, e_M1⟩ : ∃ M1, M1 = hs M (P 24) (aQ (G.2.1 10) 50 (upq pf p_ (some t_))) := ⟨_, rfl⟩
  have hH := XV_to hH e_M1.symm
  have f1 : M1 (P 24) = some (aQ (G.2.1 10) 50 (upq pf p_ (some t_))) := by rw [e_M1]; exact hs_s
  obtain ⟨hD2, hX2⟩ := hD.pile (pg := upq pf p_ (some t_))
  rw [← e_M1] at hD2 hX2
  refine lv_aload_n hx hb dX3_add_10 rfl (lv_at hl 0 rfl) ?_
  refine lv_dup hx hb dX3_add_11 rfl ?_
  refine x_get hx hb hts in_X3 hown hK hH hD2.c rfl 4 (by decide) q311 (fun _ h9 => h9) rfl (by decide) dX3_add_12 ?_
  refine n_iconst hx hb dX3_add_15 ?_
  refine n_iadd hx hb dX3_add_16 ?_
  refine x_put (ty := .int) hx hb hts in_X3 tyX3 tyX3_ok nmX3 hown hK hH hD2.c rfl 4 (by decide) q311 (fun _ h9 => h9) rfl (by decide +kernel) rfl rfl (Nat.le_of_ble_eq_true rfl) (by decide) dX3_add_17 (fun H locs hH => ?_)
  obtain ⟨M3, e_M3⟩ : ∃ M3, M3 = hs M1 (P 7) (oB 4 [.int (iI F), .int (iI T), .int (iI l_), .int (iI d_), .int (iI (p_ + 1)), .ref (P 24), .ref (P 25), .ref (P 26), .ref (P 27), .ref a]) := ⟨_, rfl⟩
  have hH := XV_to hH e_M3.symm
  have f3 : M3 (P 7) = some (oB 4 [.int (iI F), .int (iI T), .int (iI l_), .int (iI d_), .int (iI (p_ + 1)), .ref (P 24), .ref (P 25), .ref (P 26), .ref (P 27), .ref a]) := by rw [e_M3]; exact hs_s
  obtain ⟨hD4, hX4⟩ := hD2.put4 (v := (p_ + 1))
  rw [← e_M3] at hD4 hX4
  have hE4 := hX2.tr hX4
  refine x_vret hx hb hr hlk hH dX3_add_20 ?_
  exact ⟨hD4, hE4⟩
theorem kd_X3_row : yX3_row.cls = RX3 ∧ yX3_row.cls ≠ "java/lang/invoke/MethodHandle" ∧ yX3_row.cls ≠ "java/lang/invoke/VarHandle" ∧ (parseMethodDescriptor yX3_row.desc).map (fun d => d.parameters.length) = some 2 := by decide +kernel
theorem xm_X3_row1 (l : Launch) (G : MG) (M : Hp) (K : (Nat → Nat) × (Nat → Nat)) (a : Nat) (σ : St) (P : Nat → Nat) (τ : Int → Int) (bo : Nat) (lo : Int) (x : XGh) (F : Int) (T : Int) (l_ : Int) (d_ : Int) (p_ : Int) (pf : Int → Option Nat) (q_ : Nat) (all_ : Int) (b_ : Int) (sz : Nat) (hD : RD G M a σ P τ bo lo x F T l_ d_ p_ pf) (hpb : p_ = b_ + 1) (hb0 : 0 ≤ b_) (hb1 : b_ < 50) (hq_ : pf b_ = some q_) : Met l yX3_row (ws_ yX3_row cX3_row 5 (some (.object "BrothFlasks$Test"))) (rmD 1) (xP G (XRd K M) [.ref (P 7), .int (iI all_), .int (iI b_)] M sz) (xQq G (DA M sz) (fun r' M' => r' = some q_ ∧ RD G M' a σ P τ bo lo x F T l_ d_ b_ pf ∧ Ext M M' x x)) 0 0 (DA M sz) := by
  refine x_start (by decide) (Nat.le_of_ble_eq_true rfl) ?_
  intro p e s m below meth c ⟨S, hr, hlk, hH, hK, hX, hsz, hnm⟩ ls hl
  have hXN : XN s := hX.1
  subst hsz
  obtain ⟨hx, hb, hml, hown, hts⟩ := S
  have S : CallFix p m c _ _ s _ lw_all RX3 := ⟨hx, hb, hml, hown, hts⟩
  have hA : ∀ q, s.heap.size ≤ q → DA M s.heap.size q := fun q hq => Or.inr hq
  have hl : lv_has ls 5 [(0, .ref (P 7)), (1, .int (iI all_)), (2, .int (iI b_))] := hl
  refine lv_aload_n hx hb dX3_row_0 rfl (lv_at hl 0 rfl) ?_
  refine x_get hx hb hts in_X3 hown hK hH hD.c rfl 5 (by decide) q312 (fun _ h9 => h9) rfl (by decide) dX3_row_1 ?_
  refine lv_iload_n hx hb dX3_row_4 rfl (lv_at hl 2 rfl) ?_
  refine x_aald hx hb hK hH 10 hD.pl rfl (by omega) (by omega) (Nat.le_of_ble_eq_true rfl) (v := some q_) hq_ dX3_row_5 ?_
  refine lv_astore_n hx hb dX3_row_6 rfl hl (Nat.le_of_ble_eq_true rfl) (lv' := [(3, .ref q_), (0, .ref (P 7)), (1, .int (iI all_)), (2, .int (iI b_))]) rfl (fun ls hl => ?_)
  refine lv_aload_n hx hb dX3_row_7 rfl (lv_at hl 1 rfl) ?_
  refine x_get hx hb hts in_X3 hown hK hH hD.c rfl 4 (by decide) q311 (fun _ h9 => h9) rfl (by decide) dX3_row_8 ?_
  refine lv_iload_n hx hb dX3_row_11 rfl (lv_at hl 3 rfl) ?_
  refine n_isub hx hb dX3_row_12 ?_
  refine n_iconst hx hb dX3_row_13 ?_
  refine n_icmp_le (tgt := 53) hx hb (r32 (by omega)) (r32 (by omega)) dX3_row_14 (by decide) (fun c_14 => ?_) (fun c_14 => ?_)
  · -- 14T
    refine lv_aload_n hx hb dX3_row_53 rfl (lv_at hl 1 rfl) ?_
    refine lv_iload_n hx hb dX3_row_54 rfl (lv_at hl 3 rfl) ?_
    refine x_put (ty := .int) hx hb hts in_X3 tyX3 tyX3_ok nmX3 hown hK hH hD.c rfl 4 (by decide) q311 (fun _ h9 => h9) rfl (by decide +kernel) rfl rfl (Nat.le_of_ble_eq_true rfl) (by decide) dX3_row_55 (fun H locs hH => ?_)
    obtain ⟨M1, e_M1⟩ : ∃ M1, M1 = hs M (P 7) (oB 4 [.int (iI F), .int (iI T), .int (iI l_), .int (iI d_), .int (iI b_), .ref (P 24), .ref (P 25), .ref (P 26), .ref (P 27), .ref a]) := ⟨_, rfl⟩
    have hH := XV_to hH e_M1.symm
    have f1 : M1 (P 7) = some (oB 4 [.int (iI F), .int (iI T), .int (iI l_), .int (iI d_), .int (iI b_), .ref (P 24), .ref (P 25), .ref (P 26), .ref (P 27), .ref a]) := by rw [e_M1]; exact hs_s
    obtain ⟨hD2, hX2⟩ := hD.put4 (v := b_)
    rw [← e_M1] at hD2 hX2
    refine lv_aload_n hx hb dX3_row_58 rfl (lv_at hl 0 rfl) ?_
    refine x_aret (r := some q_) hx hb hr (Or.inl ⟨_, rfl⟩) hlk hH dX3_row_59 ?_
    exact ⟨rfl, hD2, hX2⟩
  · -- 14F
    exact absurd c_14 (by omega)
theorem xm_X3_row2 (l : Launch) (G : MG) (M : Hp) (K : (Nat → Nat) × (Nat → Nat)) (a : Nat) (σ : St) (P : Nat → Nat) (τ : Int → Int) (bo : Nat) (lo : Int) (x : XGh) (F : Int) (T : Int) (l_ : Int) (d_ : Int) (p_ : Int) (pf : Int → Option Nat) (m_ : Int) (q_ : Nat) (all_ : Int) (b_ : Int) (sz : Nat) (hD : RD G M a σ P τ bo lo x F T l_ d_ p_ pf) (hall : all_ = 0 ∨ all_ = 1) (hpb : p_ = b_ + m_) (hb0 : 0 ≤ b_) (hm2 : 2 ≤ m_) (hp1 : p_ ≤ 50) (hq_ : pf b_ = some q_) (hpe : ∀ i, b_ ≤ i → i < b_ + m_ → ∀ y, pf i = some y → ∃ (ci : Nat) (fs : List Value) (r : vw_C), gI x y = some (oB ci fs) ∧ clA[ci]? = some r ∧ inRow r.1 "BrothFlasks$Test") : Met l yX3_row (ws_ yX3_row cX3_row 5 (some (.object "BrothFlasks$Test"))) (rmX 3 2 (m_.toNat + 2)) (xP G (XRd K M) [.ref (P 7), .int (iI all_), .int (iI b_)] M sz) (xQq G (DA M sz) (fun r' M' => ∃ (x' : XGh) (q ar : Nat), r' = some q ∧ RD G M' a σ P τ bo lo x' F T l_ d_ b_ pf ∧ Ext M M' x x' ∧ gI x' q = some (oB 17 [.int (iI all_), .ref ar]) ∧ gI x' ar = some (aQ (G.2.1 10) (m_).toNat (cpZ pf (fun _ => none) b_ 0 m_)))) 2 (m_.toNat + 2) (DA M sz) := by
  refine x_start (by decide) (Nat.le_of_ble_eq_true rfl) ?_
  intro p e s m below meth c ⟨S, hr, hlk, hH, hK, hX, hsz, hnm⟩ ls hl
  have hXN : XN s := hX.1
  subst hsz
  obtain ⟨hx, hb, hml, hown, hts⟩ := S
  have S : CallFix p m c _ _ s _ lw_all RX3 := ⟨hx, hb, hml, hown, hts⟩
  have hA : ∀ q, s.heap.size ≤ q → DA M s.heap.size q := fun q hq => Or.inr hq
  have hl : lv_has ls 5 [(0, .ref (P 7)), (1, .int (iI all_)), (2, .int (iI b_))] := hl
  refine lv_aload_n hx hb dX3_row_0 rfl (lv_at hl 0 rfl) ?_
  refine x_get hx hb hts in_X3 hown hK hH hD.c rfl 5 (by decide) q312 (fun _ h9 => h9) rfl (by decide) dX3_row_1 ?_
  refine lv_iload_n hx hb dX3_row_4 rfl (lv_at hl 2 rfl) ?_
  refine x_aald hx hb hK hH 10 hD.pl rfl (by omega) (by omega) (Nat.le_of_ble_eq_true rfl) (v := some q_) hq_ dX3_row_5 ?_
  refine lv_astore_n hx hb dX3_row_6 rfl hl (Nat.le_of_ble_eq_true rfl) (lv' := [(3, .ref q_), (0, .ref (P 7)), (1, .int (iI all_)), (2, .int (iI b_))]) rfl (fun ls hl => ?_)
  refine lv_aload_n hx hb dX3_row_7 rfl (lv_at hl 1 rfl) ?_
  refine x_get hx hb hts in_X3 hown hK hH hD.c rfl 4 (by decide) q311 (fun _ h9 => h9) rfl (by decide) dX3_row_8 ?_
  refine lv_iload_n hx hb dX3_row_11 rfl (lv_at hl 3 rfl) ?_
  refine n_isub hx hb dX3_row_12 ?_
  refine n_iconst hx hb dX3_row_13 ?_
  refine n_icmp_le (tgt := 53) hx hb (r32 (by omega)) (r32 (by omega)) dX3_row_14 (by decide) (fun c_14 => ?_) (fun c_14 => ?_)
  · -- 14T
    exact absurd c_14 (by omega)
  · -- 14F
    refine lv_aload_n hx hb dX3_row_17 rfl (lv_at hl 1 rfl) ?_
    refine x_get hx hb hts in_X3 hown hK hH hD.c rfl 4 (by decide) q311 (fun _ h9 => h9) rfl (by decide) dX3_row_18 ?_
    refine lv_iload_n hx hb dX3_row_21 rfl (lv_at hl 3 rfl) ?_
    refine n_isub hx hb dX3_row_22 ?_
    refine W.eq (g2 := F0 m 23 ls (.int (iI m_) :: [])) (by rw [show p_ - b_ = m_ by omega]) ?_
    refine x_newq (N := (m_).toNat) 10 hx hb hts hown q282 hXN q283 hK hH hA rfl (by omega) (by omega) (by dsimp only [rmX]; omega) (by dsimp only [rmX]; omega) dX3_row_23 (fun q1 H hq1 hH => ?_)
    obtain ⟨M1, e_M1⟩ : ∃ M1, M1 = hs M q1 (aQ (G.2.1 10) (m_).toNat (fun (_ : Int) => (none : Option Nat))) := ⟨_, rfl⟩
    have hH := XV_to hH e_M1.symm
    have f1 : M1 q1 = some (aQ (G.2.1 10) (m_).toNat (fun (_ : Int) => (none : Option Nat))) := by rw [e_M1]; exact hs_s
    obtain ⟨x2, hD2, hX2, hw2_q1⟩ := hD.nw (e := aQ (G.2.1 10) (m_).toNat (fun (_ : Int) => (none : Option Nat))) hq1
    rw [← e_M1] at hD2 hX2
    have hno_q1 := Ext.no (Ext.rf (M := M) (x := x)) hq1
    refine lv_astore hx hb dX3_row_26 hl (Nat.le_of_ble_eq_true rfl) (lv' := [(4, .ref q1), (3, .ref q_), (0, .ref (P 7)), (1, .int (iI all_)), (2, .int (iI b_))]) rfl (fun ls hl => ?_)
    refine lv_aload_n hx hb dX3_row_28 rfl (lv_at hl 2 rfl) ?_
    refine x_get hx hb hts in_X3 hown hK hH hD2.c rfl 5 (by decide) q312 (fun _ h9 => h9) rfl (by decide) dX3_row_29 ?_
    refine lv_iload_n hx hb dX3_row_32 rfl (lv_at hl 4 rfl) ?_
    refine lv_aload hx hb dX3_row_33 (lv_at hl 0 rfl) ?_
    refine n_iconst hx hb dX3_row_35 ?_
    refine lv_aload hx hb dX3_row_36 (lv_at hl 0 rfl) ?_
    refine x_alen hx hb hK hH 10 f1 rfl (n := (((m_).toNat : Nat) : Int)) rfl dX3_row_38 ?_
    refine W.eq (g2 := F0 m 39 ls (.int (iI m_) :: .int (iI 0) :: .ref q1 :: .int (iI b_) :: .ref (P 24) :: [])) (by rw [Int.toNat_of_nonneg (by omega)]) ?_
    refine x_copyq (rest := []) hx hb hts (hml.trans hl.1.symm) hown q1105 q769 q768 q117 hK hXN hH hD2.pl f1 rfl rfl (by omega) (by omega) (by omega) (by omega) (by omega) ⟨by omega, by omega⟩ (fun i i0 i1 y hy => by obtain ⟨c9, f9, r9, g9, g10, g11⟩ := hpe i (by omega) (by omega) y hy; exact ⟨c9, f9, r9, hD2.I (hX2.2.1 _ _ g9), g10, g11⟩) (Nat.le_of_ble_eq_true rfl) (Nat.le_of_ble_eq_true rfl) dX3_row_39 (fun H locs hH => ?_)
    obtain ⟨M3, e_M3⟩ : ∃ M3, M3 = hs M1 q1 (aQ (G.2.1 10) (m_).toNat (cpZ pf (fun (_ : Int) => (none : Option Nat)) b_ 0 m_)) := ⟨_, rfl⟩
    have hH := XV_to hH e_M3.symm
    have f3 : M3 q1 = some (aQ (G.2.1 10) (m_).toNat (cpZ pf (fun (_ : Int) => (none : Option Nat)) b_ 0 m_)) := by rw [e_M3]; exact hs_s
    obtain ⟨hD4, hE4, hO4⟩ := RD.tmp (e := aQ (G.2.1 10) (m_).toNat (cpZ pf (fun (_ : Int) => (none : Option Nat)) b_ 0 m_)) hD2 hX2 hw2_q1 hno_q1
    rw [← e_M3] at hD4 hE4 hO4
    refine x_new (ci := 17) hx hb hts in_X20 tyX20 tyX20_ok hown q1106 q1107 q133 hK hH hA rfl [.int (iI 0), .null] (fun j hj => by rcases (show j = 0 ∨ j = 1 by omega) with rfl | rfl <;> rfl) (eN_id (by decide)) (by dsimp only [rmX]; omega) (by dsimp only [rmX]; omega) dX3_row_42 (fun q5 H hq5 hH => ?_)
    obtain ⟨M5, e_M5⟩ : ∃ M5, M5 = hs M3 q5 (oB 17 [.int (iI 0), .null]) := ⟨_, rfl⟩
    have hH := XV_to hH e_M5.symm
    have f5 : M5 q5 = some (oB 17 [.int (iI 0), .null]) := by rw [e_M5]; exact hs_s
    obtain ⟨x6, hD6, hX6, hw6_q5⟩ := hD4.nw (e := oB 17 [.int (iI 0), .null]) hq5
    rw [← e_M5] at hD6 hX6
    have hno_q5 := Ext.no hE4 hq5
    have ne_q1_q5 : q1 ≠ q5 := fun z => by have h9 := f3; rw [z, hq5] at h9; cases h9
    have hE6 := hE4.tr hX6
    obtain ⟨f6_q1, hw6_q1⟩ := hX6.2.2 _ _ f3 hw2_q1
    refine lv_dup hx hb dX3_row_45 rfl ?_
    refine lv_iload_n hx hb dX3_row_46 rfl (lv_at hl 3 rfl) ?_
    refine lv_aload hx hb dX3_row_47 (lv_at hl 0 rfl) ?_
    refine x_callv (x_runI (As := [.int (iI all_), .ref q1]) (rest := [.ref q5]) S hH hK (fun _ _ hW => XN.warm hW hXN) XN_b hl.1 (xm_X20_init l G M5 q5 all_ q1 _ f5 hall) (lw_meth q1110) q133 q1108 q1109 kd_X20_init rfl rfl dX3_row_49 (hf := ⟨by dsimp only [rmX]; omega, by dsimp only [rmX]; omega⟩)) hH hA (fun M49_ H locs q_49 hH hz_49 => ?_)
    have e_M49_ := q_49
    have f8 : M49_ q5 = some (oB 17 [.int (iI all_), .ref q1]) := by rw [e_M49_]; exact hs_s
    obtain ⟨hD9, hE9, hO9⟩ := RD.tmp (e := oB 17 [.int (iI all_), .ref q1]) hD6 hE6 hw6_q5 hno_q5
    rw [← e_M49_] at hD9 hE9 hO9
    obtain ⟨f9_q1, hw9_q1⟩ := hO9 _ _ ne_q1_q5 f6_q1 hw6_q1
    refine lv_astore_n hx hb dX3_row_52 rfl hl (Nat.le_of_ble_eq_true rfl) (lv' := [(3, .ref q5), (4, .ref q1), (0, .ref (P 7)), (1, .int (iI all_)), (2, .int (iI b_))]) rfl (fun ls hl => ?_)
    refine lv_aload_n hx hb dX3_row_53 rfl (lv_at hl 2 rfl) ?_
    refine lv_iload_n hx hb dX3_row_54 rfl (lv_at hl 4 rfl) ?_
    refine x_put (ty := .int) hx hb hts in_X3 tyX3 tyX3_ok nmX3 hown hK hH hD9.c rfl 4 (by decide) q311 (fun _ h9 => h9) rfl (by decide +kernel) rfl rfl (Nat.le_of_ble_eq_true rfl) (by decide) dX3_row_55 (fun H locs hH => ?_)
    obtain ⟨M10, e_M10⟩ : ∃ M10, M10 = hs M49_ (P 7) (oB 4 [.int (iI F), .int (iI T), .int (iI l_), .int (iI d_), .int (iI b_), .ref (P 24), .ref (P 25), .ref (P 26), .ref (P 27), .ref a]) := ⟨_, rfl⟩
    have hH := XV_to hH e_M10.symm
    have f10 : M10 (P 7) = some (oB 4 [.int (iI F), .int (iI T), .int (iI l_), .int (iI d_), .int (iI b_), .ref (P 24), .ref (P 25), .ref (P 26), .ref (P 27), .ref a]) := by rw [e_M10]; exact hs_s
    obtain ⟨hD11, hX11⟩ := hD9.put4 (v := b_)
    rw [← e_M10] at hD11 hX11
    have hE11 := hE9.tr hX11
    obtain ⟨f11_q1, hw11_q1⟩ := hX11.2.2 _ _ f9_q1 hw9_q1
    obtain ⟨f11_q5, hw11_q5⟩ := hX11.2.2 _ _ f8 hw6_q5
    refine lv_aload_n hx hb dX3_row_58 rfl (lv_at hl 0 rfl) ?_
    refine W.widen (k := 2) (n := (m_.toNat + 2)) (by omega) (by omega) ?_
    refine x_aret (r := some q5) hx hb hr (Or.inl ⟨_, rfl⟩) hlk hH dX3_row_59 ?_
    obtain ⟨x9, k1, k2, k3, k4, -⟩ := row_end hD11 hE11 f11_q1 hw11_q1 hno_q1 f11_q5 hw11_q5 hno_q5 ne_q1_q5
    exact ⟨x9, q5, q1, rfl, k1, k2, k3, k4⟩
