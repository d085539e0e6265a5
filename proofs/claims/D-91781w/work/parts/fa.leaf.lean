theorem kd_X3_isWord : yX3_isWord.cls = RX3 ∧ yX3_isWord.cls ≠ "java/lang/invoke/MethodHandle" ∧ yX3_isWord.cls ≠ "java/lang/invoke/VarHandle" ∧ (parseMethodDescriptor yX3_isWord.desc).map (fun d => d.parameters.length) = some 1 := by decide +kernel
theorem xm_X3_isWord (l : Launch) (G : MG) (M : Hp) (K : (Nat → Nat) × (Nat → Nat)) (a : Nat) (σ : St) (P : Nat → Nat) (τ : Int → Int) (bo : Nat) (lo : Int) (x : XGh) (F : Int) (T : Int) (l_ : Int) (d_ : Int) (p_ : Int) (pf : Int → Option Nat) (i_ : Nat) (sz : Nat) (hD : RD G M a σ P τ bo lo x F T l_ d_ p_ pf) (hi : i_ < 37) (hF0 : 0 ≤ F) (hF1 : F ≤ T) (hT4 : T ≤ 400) (hB8 : ∀ i, -128 ≤ σ 7 i ∧ σ 7 i < 128) : Met l yX3_isWord (ws_ yX3_isWord cX3_isWord 3 (some .boolean)) (rmD 5) (xP G (XRd K M) [.ref (P 7), .ref (K.1 i_)] M sz) (xQi G (DA M sz) (fun z M' => z = zb (tokX σ F T i_) ∧ M' = M)) 0 0 (DA M sz) := by
  refine x_start (by decide) (Nat.le_of_ble_eq_true rfl) ?_
  intro p e s m below meth c ⟨S, hr, hlk, hH, hK, hX, hsz, hnm⟩ ls hl
  have hXN : XN s := hX.1
  subst hsz
  obtain ⟨hx, hb, hml, hown, hts⟩ := S
  have S : CallFix p m c _ _ s _ lw_all RX3 := ⟨hx, hb, hml, hown, hts⟩
  have hA : ∀ q, s.heap.size ≤ q → DA M s.heap.size q := fun q hq => Or.inr hq
  have hl : lv_has ls 3 [(0, .ref (P 7)), (1, .ref (K.1 i_))] := hl
  have hl7 := sL_b i_ hi
  have L20 : ∀ (q : Nat) (k : Int), (h0 : 0 ≤ k) → (h1 : k ≤ sL i_) → (heq : T - F = sL i_) → (hm : ∀ j : Nat, (j : Int) < k → σ 7 (F + j) = sB i_ j) → (hq : (sL i_ : Int) < (q : Int) + k) → ∀ (H : Heap) (locs : List Loc) (ls : Array Slot), XV G (DA M s.heap.size) M s.heap H locs → lv_has ls 3 [(0, .ref (P 7)), (1, .ref (K.1 i_)), (2, .int (iI k))] → W p l e (rmD 5) s m ([.ref (P 7), .ref (K.1 i_)] : List Value).toArray below meth c H locs 0 0 (MQ below (xQi G (DA M s.heap.size) (fun z M' => z = zb (tokX σ F T i_) ∧ M' = M))  ([.ref (P 7), .ref (K.1 i_)] : List Value).toArray s 0 0 (DA M s.heap.size)) (F0 m 20 ls []) := by
    intro q
    induction q with
    | zero => intro k h0 h1 heq hm hq; exfalso; omega
    | succ q ih_20 =>
      intro k h0 h1 heq hm hq H locs ls hH hl
      refine lv_iload_n hx hb dX3_isWord_20 rfl (lv_at hl 2 rfl) ?_
      refine lv_aload_n hx hb dX3_isWord_21 rfl (lv_at hl 1 rfl) ?_
      refine x_calliF (x_runT (As := []) (rest := [.int (iI k)]) S hH hK hX hi hl.1 (xm_J3_length l G M K i_ _ hi) (lw_V q912 q913 q914 q121 q915) kd_J3_length rfl rfl dX3_isWord_22) hH hA (fun H locs hH => ?_)
      refine n_icmp_ge (tgt := 58) hx hb (r32 (by omega)) (r32 (by omega)) dX3_isWord_25 (by decide) (fun c_25 => ?_) (fun c_25 => ?_)
      · -- 25T
        refine n_iconst hx hb dX3_isWord_58 ?_
        refine x_zret hx hb hr hlk hH dX3_isWord_59 (Or.inr rfl) ?_
        exact ⟨(zb_t ⟨heq, fun j hj => hm j (by omega)⟩).symm, rfl⟩
      · -- 25F
        refine lv_aload_n hx hb dX3_isWord_28 rfl (lv_at hl 0 rfl) ?_
        refine x_get hx hb hts in_X3 hown hK hH hD.c rfl 9 (by decide) q316 (fun _ h9 => h9) rfl (by decide) dX3_isWord_29 ?_
        refine x_getN hx hb hts in_X0 hown hK hH hD.o rfl 5 (by decide) hXN q344 (fun _ h9 => h9) rfl (by decide) dX3_isWord_32 ?_
        refine lv_aload_n hx hb dX3_isWord_35 rfl (lv_at hl 0 rfl) ?_
        refine x_get hx hb hts in_X3 hown hK hH hD.c rfl 0 (by decide) q307 (fun _ h9 => h9) rfl (by decide) dX3_isWord_36 ?_
        refine lv_iload_n hx hb dX3_isWord_39 rfl (lv_at hl 2 rfl) ?_
        refine n_iadd hx hb dX3_isWord_40 ?_
        refine x_bald hx hb hK hH hD.tp (by omega) (by omega) (Nat.le_of_ble_eq_true rfl) dX3_isWord_41 ?_
        have hb_41 := hB8 (F + k)
        refine W.eq (g2 := F0 m 42 ls (.int (iI (σ 7 (F + k))) :: [])) (by first | (rw [hD.ht (i := F + k) (by omega) (by omega)]; done) | (rw [hD.ht (i := F + k) (by omega) (by omega)]; rfl)) ?_
        refine lv_aload_n hx hb dX3_isWord_42 rfl (lv_at hl 1 rfl) ?_
        refine lv_iload_n hx hb dX3_isWord_43 rfl (lv_at hl 2 rfl) ?_
        refine x_calliF (x_runT (As := [.int (iI k)]) (rest := [.int (iI (σ 7 (F + k)))]) S hH hK hX hi hl.1 (xm_J3_charAt l G M K i_ k _ hi (by omega) (by omega)) (lw_V q922 q923 q924 q121 q925) kd_J3_charAt rfl rfl dX3_isWord_44) hH hA (fun H locs hH => ?_)
        have hs9 := sB_t i_ hi k.toNat (by omega)
        refine n_icmp_eq (tgt := 52) hx hb (r32 (by omega)) (r32 (by omega)) dX3_isWord_47 (by decide) (fun c_47 => ?_) (fun c_47 => ?_)
        · -- 47T
          refine n_iinc hx hb dX3_isWord_52 hl (k := 2) rfl (Nat.le_of_ble_eq_true rfl) (lv' := [(2, .int (iI (k + 1))), (0, .ref (P 7)), (1, .ref (K.1 i_))]) rfl (fun ls hl => ?_)
          refine lv_goto (tgt := 20) hx hb dX3_isWord_55 (by decide) ?_
          have hl : lv_has ls 3 [(0, .ref (P 7)), (1, .ref (K.1 i_)), (2, .int (iI (k + 1)))] := lv_sub hl [1, 2, 0] rfl
          refine ih_20 (k + 1) ?_ ?_ ?_ ?_ ?_ _ _ _ hH hl
          · omega
          · omega
          · omega
          · intro j hj
            by_cases z : (j : Int) < k
            · exact hm j z
            · have z2 : (j : Int) = k := by omega
              rw [z2, c_47, show k.toNat = j by omega]
          · omega
        · -- 47F
          refine n_iconst hx hb dX3_isWord_50 ?_
          refine x_zret hx hb hr hlk hH dX3_isWord_51 (Or.inl rfl) ?_
          exact ⟨(zb_f (fun z => c_47 (by have z1 := z.2 k.toNat (by omega); rw [show ((k.toNat : Nat) : Int) = k by omega] at z1; exact z1))).symm, rfl⟩
  refine lv_aload_n hx hb dX3_isWord_0 rfl (lv_at hl 0 rfl) ?_
  refine x_get hx hb hts in_X3 hown hK hH hD.c rfl 1 (by decide) q308 (fun _ h9 => h9) rfl (by decide) dX3_isWord_1 ?_
  refine lv_aload_n hx hb dX3_isWord_4 rfl (lv_at hl 0 rfl) ?_
  refine x_get hx hb hts in_X3 hown hK hH hD.c rfl 0 (by decide) q307 (fun _ h9 => h9) rfl (by decide) dX3_isWord_5 ?_
  refine n_isub hx hb dX3_isWord_8 ?_
  refine lv_aload_n hx hb dX3_isWord_9 rfl (lv_at hl 1 rfl) ?_
  refine x_calliF (x_runT (As := []) (rest := [.int (iI (T - F))]) S hH hK hX hi hl.1 (xm_J3_length l G M K i_ _ hi) (lw_V q912 q913 q914 q121 q915) kd_J3_length rfl rfl dX3_isWord_10) hH hA (fun H locs hH => ?_)
  refine n_icmp_eq (tgt := 18) hx hb (r32 (by omega)) (r32 (by omega)) dX3_isWord_13 (by decide) (fun c_13 => ?_) (fun c_13 => ?_)
  · -- 13T
    refine n_iconst hx hb dX3_isWord_18 ?_
    refine lv_istore_n hx hb dX3_isWord_19 rfl hl (Nat.le_of_ble_eq_true rfl) (lv' := [(2, .int (iI 0)), (0, .ref (P 7)), (1, .ref (K.1 i_))]) rfl (fun ls hl => ?_)
    have hl : lv_has ls 3 [(0, .ref (P 7)), (1, .ref (K.1 i_)), (2, .int (iI 0))] := lv_sub hl [1, 2, 0] rfl
    refine L20 8 0 ?_ ?_ ?_ ?_ ?_ _ _ _ hH hl
    · omega
    · omega
    · omega
    · exact fun j hj => by omega
    · omega
  · -- 13F
    refine n_iconst hx hb dX3_isWord_16 ?_
    refine x_zret hx hb hr hlk hH dX3_isWord_17 (Or.inl rfl) ?_
    exact ⟨(zb_f (fun z => c_13 z.1)).symm, rfl⟩
theorem kd_X3_which : yX3_which.cls = RX3 ∧ yX3_which.cls ≠ "java/lang/invoke/MethodHandle" ∧ yX3_which.cls ≠ "java/lang/invoke/VarHandle" ∧ (parseMethodDescriptor yX3_which.desc).map (fun d => d.parameters.length) = some 1 := by decide +kernel
theorem xm_X3_which (l : Launch) (G : MG) (M : Hp) (K : (Nat → Nat) × (Nat → Nat)) (a : Nat) (σ : St) (P : Nat → Nat) (τ : Int → Int) (bo : Nat) (lo : Int) (x : XGh) (F : Int) (T : Int) (l_ : Int) (d_ : Int) (p_ : Int) (pf : Int → Option Nat) (j_ : Nat) (o_ : Nat) (N_ : Nat) (sz : Nat) (hD : RD G M a σ P τ bo lo x F T l_ d_ p_ pf) (hw : M (P j_) = some (aQ (G.2.1 12) N_ (wdF G o_))) (ho : o_ + N_ ≤ 21) (hKG : ∀ i, i < 21 → G.2.2 (100 + i) = K.1 i) (hF0 : 0 ≤ F) (hF1 : F ≤ T) (hT4 : T ≤ 400) (hB8 : ∀ i, -128 ≤ σ 7 i ∧ σ 7 i < 128) : Met l yX3_which (ws_ yX3_which cX3_which 3 (some .int)) (rmD 6) (xP G (XRd K M) [.ref (P 7), .ref (P j_)] M sz) (xQi G (DA M sz) (fun z M' => z = whX σ F T o_ N_ 0 ∧ M' = M)) 0 0 (DA M sz) := by
  refine x_start (by decide) (Nat.le_of_ble_eq_true rfl) ?_
  intro p e s m below meth c ⟨S, hr, hlk, hH, hK, hX, hsz, hnm⟩ ls hl
  have hXN : XN s := hX.1
  subst hsz
  obtain ⟨hx, hb, hml, hown, hts⟩ := S
  have S : CallFix p m c _ _ s _ lw_all RX3 := ⟨hx, hb, hml, hown, hts⟩
  have hA : ∀ q, s.heap.size ≤ q → DA M s.heap.size q := fun q hq => Or.inr hq
  have hl : lv_has ls 3 [(0, .ref (P 7)), (1, .ref (P j_))] := hl
  have L2 : ∀ (q : Nat) (k : Int), (h0 : 0 ≤ k) → (h1 : k ≤ N_) → (hw1 : whX σ F T o_ (N_ - k.toNat) k.toNat = whX σ F T o_ N_ 0) → (hq : (N_ : Int) < (q : Int) + k) → ∀ (H : Heap) (locs : List Loc) (ls : Array Slot), XV G (DA M s.heap.size) M s.heap H locs → lv_has ls 3 [(0, .ref (P 7)), (1, .ref (P j_)), (2, .int (iI k))] → W p l e (rmD 6) s m ([.ref (P 7), .ref (P j_)] : List Value).toArray below meth c H locs 0 0 (MQ below (xQi G (DA M s.heap.size) (fun z M' => z = whX σ F T o_ N_ 0 ∧ M' = M))  ([.ref (P 7), .ref (P j_)] : List Value).toArray s 0 0 (DA M s.heap.size)) (F0 m 2 ls []) := by
    intro q
    induction q with
    | zero => intro k h0 h1 hw1 hq; exfalso; omega
    | succ q ih_2 =>
      intro k h0 h1 hw1 hq H locs ls hH hl
      refine lv_iload_n hx hb dX3_which_2 rfl (lv_at hl 2 rfl) ?_
      refine lv_aload_n hx hb dX3_which_3 rfl (lv_at hl 1 rfl) ?_
      refine x_alen hx hb hK hH 12 hw rfl (n := ((N_ : Nat) : Int)) rfl dX3_which_4 ?_
      refine n_icmp_ge (tgt := 26) hx hb (r32 (by omega)) (r32 (by omega)) dX3_which_5 (by decide) (fun c_5 => ?_) (fun c_5 => ?_)
      · -- 5T
        refine n_iconst hx hb dX3_which_26 ?_
        refine x_iret hx hb hr hlk hH dX3_which_27 ?_
        exact ⟨by rw [← hw1, show N_ - k.toNat = 0 by omega, whX], rfl⟩
      · -- 5F
        refine lv_aload_n hx hb dX3_which_8 rfl (lv_at hl 0 rfl) ?_
        refine lv_aload_n hx hb dX3_which_9 rfl (lv_at hl 1 rfl) ?_
        refine lv_iload_n hx hb dX3_which_10 rfl (lv_at hl 2 rfl) ?_
        refine x_aald hx hb hK hH 12 hw rfl (by omega) (by omega) (by omega) (v := some (K.1 (o_ + k.toNat))) (show some (G.2.2 (100 + o_ + k.toNat)) = some (K.1 (o_ + k.toNat)) by rw [Nat.add_assoc, hKG _ (by omega)]) dX3_which_11 ?_
        refine x_calliF (x_runV (As := [.ref (K.1 (o_ + k.toNat))]) (rest := []) S hH hK (hX.at hH) XRd_b hl.1 hD.c rfl (xm_X3_isWord l G M K a σ P τ bo lo x F T l_ d_ p_ pf (o_ + k.toNat) _ hD (by omega) (by omega) (by omega) (by omega) hB8) (lw_V q908 q910 qs18 q108 q911) kd_X3_isWord rfl rfl dX3_which_12) hH hA (fun H locs hH => ?_)
        refine z_if_eq (tgt := 20) hx hb dX3_which_15 (by decide) (fun c_15 => ?_) (fun c_15 => ?_)
        · -- 15T
          refine n_iinc hx hb dX3_which_20 hl (k := 2) rfl (Nat.le_of_ble_eq_true rfl) (lv' := [(2, .int (iI (k + 1))), (0, .ref (P 7)), (1, .ref (P j_))]) rfl (fun ls hl => ?_)
          refine lv_goto (tgt := 2) hx hb dX3_which_23 (by decide) ?_
          have hl : lv_has ls 3 [(0, .ref (P 7)), (1, .ref (P j_)), (2, .int (iI (k + 1)))] := lv_sub hl [1, 2, 0] rfl
          refine ih_2 (k + 1) ?_ ?_ ?_ ?_ _ _ _ hH hl
          · omega
          · omega
          · rw [← hw1, show N_ - k.toNat = (N_ - (k.toNat + 1)) + 1 by omega, whX, if_neg c_15, show (k + 1).toNat = k.toNat + 1 by omega]
          · omega
        · -- 15F
          refine lv_iload_n hx hb dX3_which_18 rfl (lv_at hl 2 rfl) ?_
          refine x_iret hx hb hr hlk hH dX3_which_19 ?_
          exact ⟨by rw [← hw1, show N_ - k.toNat = (N_ - (k.toNat + 1)) + 1 by omega, whX, if_pos c_15]; omega, rfl⟩
  refine n_iconst hx hb dX3_which_0 ?_
  refine lv_istore_n hx hb dX3_which_1 rfl hl (Nat.le_of_ble_eq_true rfl) (lv' := [(2, .int (iI 0)), (0, .ref (P 7)), (1, .ref (P j_))]) rfl (fun ls hl => ?_)
  have hl : lv_has ls 3 [(0, .ref (P 7)), (1, .ref (P j_)), (2, .int (iI 0))] := lv_sub hl [1, 2, 0] rfl
  refine L2 22 0 ?_ ?_ ?_ ?_ _ _ _ hH hl
  · omega
  · omega
  · rfl
  · omega
theorem kd_X3_accept : yX3_accept.cls = RX3 ∧ yX3_accept.cls ≠ "java/lang/invoke/MethodHandle" ∧ yX3_accept.cls ≠ "java/lang/invoke/VarHandle" ∧ (parseMethodDescriptor yX3_accept.desc).map (fun d => d.parameters.length) = some 1 := by decide +kernel
theorem xm_X3_acceptY (l : Launch) (G : MG) (M : Hp) (K : (Nat → Nat) × (Nat → Nat)) (a : Nat) (σ : St) (P : Nat → Nat) (τ : Int → Int) (bo : Nat) (lo : Int) (x : XGh) (F : Int) (T : Int) (l_ : Int) (d_ : Int) (p_ : Int) (pf : Int → Option Nat) (i_ : Nat) (sz : Nat) (hD : RD G M a σ P τ bo lo x F T l_ d_ p_ pf) (hi : i_ < 37) (ht : tokX σ F T i_) (hF0 : 0 ≤ F) (hF1 : F ≤ T) (hT4 : T ≤ 400) (hB8 : ∀ i, -128 ≤ σ 7 i ∧ σ 7 i < 128) (h0 : 0 ≤ T) (h1 : T ≤ σ 9 0) (h4 : σ 9 0 ≤ 400) : Met l yX3_accept (ws_ yX3_accept cX3_accept 3 (some .boolean)) (rmD 6) (xP G (XRd K M) [.ref (P 7), .ref (K.1 i_)] M sz) (xQi G (DA M sz) (fun z M' => z = 1 ∧ RD G M' a σ P τ bo lo x (sk (σ 7) (σ 9 0) T) (enX σ (sk (σ 7) (σ 9 0) T)) l_ d_ p_ pf ∧ Ext M M' x x)) 0 0 (DA M sz) := by
  refine x_start (by decide) (Nat.le_of_ble_eq_true rfl) ?_
  intro p e s m below meth c ⟨S, hr, hlk, hH, hK, hX, hsz, hnm⟩ ls hl
  have hXN : XN s := hX.1
  subst hsz
  obtain ⟨hx, hb, hml, hown, hts⟩ := S
  have S : CallFix p m c _ _ s _ lw_all RX3 := ⟨hx, hb, hml, hown, hts⟩
  have hA : ∀ q, s.heap.size ≤ q → DA M s.heap.size q := fun q hq => Or.inr hq
  have hl : lv_has ls 3 [(0, .ref (P 7)), (1, .ref (K.1 i_))] := hl
  refine lv_aload_n hx hb dX3_accept_0 rfl (lv_at hl 0 rfl) ?_
  refine lv_aload_n hx hb dX3_accept_1 rfl (lv_at hl 1 rfl) ?_
  refine x_calliF (x_runV (As := [.ref (K.1 i_)]) (rest := []) S hH hK (hX.at hH) XRd_b hl.1 hD.c rfl (xm_X3_isWord l G M K a σ P τ bo lo x F T l_ d_ p_ pf i_ _ hD hi (by omega) (by omega) (by omega) hB8) (lw_V q908 q910 qs18 q108 q911) kd_X3_isWord rfl rfl dX3_accept_2) hH hA (fun H locs hH => ?_)
  refine W.eq (g2 := F0 m 5 ls (.int (iI 1) :: [])) (by rw [zb_t ht]) ?_
  refine lv_istore_n hx hb dX3_accept_5 rfl hl (Nat.le_of_ble_eq_true rfl) (lv' := [(2, .int (iI 1)), (0, .ref (P 7)), (1, .ref (K.1 i_))]) rfl (fun ls hl => ?_)
  refine lv_iload_n hx hb dX3_accept_6 rfl (lv_at hl 0 rfl) ?_
  refine n_if_eq (tgt := 14) hx hb (r32 (by omega)) dX3_accept_7 (by decide) (fun h => absurd h (by decide)) (fun _ => ?_)
  refine lv_aload_n hx hb dX3_accept_10 rfl (lv_at hl 1 rfl) ?_
  refine x_callv (x_runV (As := []) (rest := []) S hH hK (hX.at hH) XRd_b hl.1 hD.c rfl (xm_X3_next l G M K a σ P τ bo lo x F T l_ d_ p_ pf _ hD hB8 (by omega) (by omega) (by omega)) (lw_V q823 q825 qs13 q108 q826) kd_X3_next rfl rfl dX3_accept_11) hH hA (fun M11_ H locs q_11 hH hz_11 => ?_)
  obtain ⟨hD1, hX1⟩ := q_11
  refine lv_iload_n hx hb dX3_accept_14 rfl (lv_at hl 0 rfl) ?_
  refine x_zret hx hb hr hlk hH dX3_accept_15 (Or.inr rfl) ?_
  exact ⟨rfl, hD1, hX1⟩
theorem xm_X3_acceptN (l : Launch) (G : MG) (M : Hp) (K : (Nat → Nat) × (Nat → Nat)) (a : Nat) (σ : St) (P : Nat → Nat) (τ : Int → Int) (bo : Nat) (lo : Int) (x : XGh) (F : Int) (T : Int) (l_ : Int) (d_ : Int) (p_ : Int) (pf : Int → Option Nat) (i_ : Nat) (sz : Nat) (hD : RD G M a σ P τ bo lo x F T l_ d_ p_ pf) (hi : i_ < 37) (ht : ¬ tokX σ F T i_) (hF0 : 0 ≤ F) (hF1 : F ≤ T) (hT4 : T ≤ 400) (hB8 : ∀ i, -128 ≤ σ 7 i ∧ σ 7 i < 128) : Met l yX3_accept (ws_ yX3_accept cX3_accept 3 (some .boolean)) (rmD 6) (xP G (XRd K M) [.ref (P 7), .ref (K.1 i_)] M sz) (xQi G (DA M sz) (fun z M' => z = 0 ∧ M' = M)) 0 0 (DA M sz) := by
  refine x_start (by decide) (Nat.le_of_ble_eq_true rfl) ?_
  intro p e s m below meth c ⟨S, hr, hlk, hH, hK, hX, hsz, hnm⟩ ls hl
  have hXN : XN s := hX.1
  subst hsz
  obtain ⟨hx, hb, hml, hown, hts⟩ := S
  have S : CallFix p m c _ _ s _ lw_all RX3 := ⟨hx, hb, hml, hown, hts⟩
  have hA : ∀ q, s.heap.size ≤ q → DA M s.heap.size q := fun q hq => Or.inr hq
  have hl : lv_has ls 3 [(0, .ref (P 7)), (1, .ref (K.1 i_))] := hl
  refine lv_aload_n hx hb dX3_accept_0 rfl (lv_at hl 0 rfl) ?_
  refine lv_aload_n hx hb dX3_accept_1 rfl (lv_at hl 1 rfl) ?_
  refine x_calliF (x_runV (As := [.ref (K.1 i_)]) (rest := []) S hH hK (hX.at hH) XRd_b hl.1 hD.c rfl (xm_X3_isWord l G M K a σ P τ bo lo x F T l_ d_ p_ pf i_ _ hD hi (by omega) (by omega) (by omega) hB8) (lw_V q908 q910 qs18 q108 q911) kd_X3_isWord rfl rfl dX3_accept_2) hH hA (fun H locs hH => ?_)
  refine W.eq (g2 := F0 m 5 ls (.int (iI 0) :: [])) (by rw [zb_f ht]) ?_
  refine lv_istore_n hx hb dX3_accept_5 rfl hl (Nat.le_of_ble_eq_true rfl) (lv' := [(2, .int (iI 0)), (0, .ref (P 7)), (1, .ref (K.1 i_))]) rfl (fun ls hl => ?_)
  refine lv_iload_n hx hb dX3_accept_6 rfl (lv_at hl 0 rfl) ?_
  refine n_if_eq (tgt := 14) hx hb (r32 (by omega)) dX3_accept_7 (by decide) (fun _ => ?_) (fun h => absurd h (by decide))
  refine lv_iload_n hx hb dX3_accept_14 rfl (lv_at hl 0 rfl) ?_
  refine x_zret hx hb hr hlk hH dX3_accept_15 (Or.inl rfl) ?_
  exact ⟨rfl, rfl⟩
theorem kd_X3_must : yX3_must.cls = RX3 ∧ yX3_must.cls ≠ "java/lang/invoke/MethodHandle" ∧ yX3_must.cls ≠ "java/lang/invoke/VarHandle" ∧ (parseMethodDescriptor yX3_must.desc).map (fun d => d.parameters.length) = some 1 := by decide +kernel
theorem xm_X3_mustY (l : Launch) (G : MG) (M : Hp) (K : (Nat → Nat) × (Nat → Nat)) (a : Nat) (σ : St) (P : Nat → Nat) (τ : Int → Int) (bo : Nat) (lo : Int) (x : XGh) (F : Int) (T : Int) (l_ : Int) (d_ : Int) (p_ : Int) (pf : Int → Option Nat) (b_ : Int) (sz : Nat) (hD : RD G M a σ P τ bo lo x F T l_ d_ p_ pf) (hb_ : b_ = 1) : Met l yX3_must (ws_ yX3_must cX3_must 2 none) (rmD 1) (xP G (XRd K M) [.ref (P 7), .int (iI b_)] M sz) (xQv G (DA M sz) (fun M' => M' = M)) 0 0 (DA M sz) := by
  refine x_start (by decide) (Nat.le_of_ble_eq_true rfl) ?_
  intro p e s m below meth c ⟨S, hr, hlk, hH, hK, hX, hsz, hnm⟩ ls hl
  have hXN : XN s := hX.1
  subst hsz
  obtain ⟨hx, hb, hml, hown, hts⟩ := S
  have S : CallFix p m c _ _ s _ lw_all RX3 := ⟨hx, hb, hml, hown, hts⟩
  have hA : ∀ q, s.heap.size ≤ q → DA M s.heap.size q := fun q hq => Or.inr hq
  have hl : lv_has ls 2 [(0, .ref (P 7)), (1, .int (iI b_))] := hl
  obtain rfl : b_ = 1 := by omega
  refine lv_iload_n hx hb dX3_must_0 rfl (lv_at hl 1 rfl) ?_
  refine n_if_ne (tgt := 16) hx hb (r32 (by omega)) dX3_must_1 (by decide) (fun _ => ?_) (fun h => absurd h (by decide))
  refine x_vret hx hb hr hlk hH dX3_must_16 ?_
  rfl
theorem xm_X3_mustN (l : Launch) (G : MG) (M : Hp) (K : (Nat → Nat) × (Nat → Nat)) (a : Nat) (σ : St) (P : Nat → Nat) (τ : Int → Int) (bo : Nat) (lo : Int) (x : XGh) (F : Int) (T : Int) (l_ : Int) (d_ : Int) (p_ : Int) (pf : Int → Option Nat) (b_ : Int) (sz : Nat) (hD : RD G M a σ P τ bo lo x F T l_ d_ p_ pf) (hb_ : b_ = 0) : vx_Met l yX3_must (ws_ yX3_must cX3_must 2 none) (rmX 5 1 7) (xP G (XRd K M) [.ref (P 7), .int (iI b_)] M sz) (xQv G (DA M sz) (fun _ => False)) (rXc G (DA M sz) (fun pl M' => pl = F ∧ RDx G M' a σ P)) 1 7 (DA M sz) := by
  refine r_start (by decide) (Nat.le_of_ble_eq_true rfl) ?_
  intro p e s m below meth c ⟨S, hr, hlk, hH, hK, hX, hsz, hnm⟩ hto ls hl
  have hXN : XN s := hX.1
  subst hsz
  obtain ⟨hx, hb, hml, hown, hts⟩ := S
  have S : CallFix p m c _ _ s _ lw_all RX3 := ⟨hx, hb, hml, hown, hts⟩
  have hA : ∀ q, s.heap.size ≤ q → DA M s.heap.size q := fun q hq => Or.inr hq
  have hl : lv_has ls 2 [(0, .ref (P 7)), (1, .int (iI b_))] := hl
  obtain rfl : b_ = 0 := by omega
  refine lv_iload_n hx hb dX3_must_0 rfl (lv_at hl 1 rfl) ?_
  refine n_if_ne (tgt := 16) hx hb (r32 (by omega)) dX3_must_1 (by decide) (fun h => absurd h (by decide)) (fun _ => ?_)
  refine x_new (ci := 10) hx hb hts in_X11 tyX11 tyX11_ok hown q837 q838 q120 hK hH hA rfl [.null, .null, .null, .null, .null, .int (iI 0), .int (iI 0)] (fun j hj => by rcases (show j = 0 ∨ j = 1 ∨ j = 2 ∨ j = 3 ∨ j = 4 ∨ j = 5 ∨ j = 6 by omega) with rfl | rfl | rfl | rfl | rfl | rfl | rfl <;> rfl) (eN_id (by decide)) (Nat.le_of_ble_eq_true rfl) (Nat.le_of_ble_eq_true rfl) dX3_must_4 (fun q1 H hq1 hH => ?_)
  obtain ⟨M1, e_M1⟩ : ∃ M1, M1 = hs M q1 (oB 10 [.null, .null, .null, .null, .null, .int (iI 0), .int (iI 0)]) := ⟨_, rfl⟩
  have hH := XV_to hH e_M1.symm
  have f1 : M1 q1 = some (oB 10 [.null, .null, .null, .null, .null, .int (iI 0), .int (iI 0)]) := by rw [e_M1]; exact hs_s
  obtain ⟨x2, hD2, hX2, hw2_q1⟩ := hD.nw (e := oB 10 [.null, .null, .null, .null, .null, .int (iI 0), .int (iI 0)]) hq1
  rw [← e_M1] at hD2 hX2
  have hno_q1 := Ext.no (Ext.rf (M := M) (x := x)) hq1
  refine lv_dup hx hb dX3_must_7 rfl ?_
  refine lv_aload_n hx hb dX3_must_8 rfl (lv_at hl 0 rfl) ?_
  refine x_get hx hb hts in_X3 hown hK hH hD2.c rfl 0 (by decide) q307 (fun _ h9 => h9) rfl (by decide) dX3_must_9 ?_
  refine x_callv (x_runI (As := [.int (iI F)]) (rest := [.ref q1]) S hH hK (hX.at hH) XRd_b hl.1 (xm_X11_init l G M1 K q1 F _ f1) (lw_meth q876) q120 q874 q875 kd_X11_init rfl rfl dX3_must_12) hH hA (fun M12_ H locs q_12 hH hz_12 => ?_)
  have q_12 : M12_ = hs M1 q1 (oB 10 [.null, .null, .null, .null, .null, .int (iI 0), .int (iI F)]) := q_12
  have e_M12_ := q_12
  have f3 : M12_ q1 = some (oB 10 [.null, .null, .null, .null, .null, .int (iI 0), .int (iI F)]) := by rw [e_M12_]; exact hs_s
  obtain ⟨hD4, hE4, hO4⟩ := RD.tmp (e := oB 10 [.null, .null, .null, .null, .null, .int (iI 0), .int (iI F)]) hD2 hX2 hw2_q1 hno_q1
  rw [← e_M12_] at hD4 hE4 hO4
  exact r_throw hx hb hto hlk hK hH f3 dX3_must_15 (⟨rfl, hD4.rx⟩) (Nat.le_of_ble_eq_true rfl) (Nat.le_of_ble_eq_true rfl)
