theorem kd_X0_go : yX0_go.cls = RX0 ∧ yX0_go.cls ≠ "java/lang/invoke/MethodHandle" ∧ yX0_go.cls ≠ "java/lang/invoke/VarHandle" ∧ (parseMethodDescriptor yX0_go.desc).map (fun d => d.parameters.length) = some 1 := by decide +kernel
theorem xm_X0_go (l : Launch) (G : MG) (M : Hp) (σ : St) (x : XGh) (ω : XCt) (a : Nat) (d_ : Int) (sz : Nat) (hR : RX G M a σ x ω) (h_d_ : R32 d_) (hB : kBy (σ 2)) (hI : KI (σ 2)) (hT : TT (σ 2)) (h40 : F40 σ) : Met l yX0_go (ws_ yX0_go cX0_go 3 (some .int)) (rmD 5) (xP G XN [.ref a, .int (iI d_)] M sz) (xQi G (DA M sz) (fun z M' => z = (goF σ d_).1 ∧ ∃ ω', RX G M' a (goF σ d_).2 x ω')) 0 0 (DA M sz) := by
  refine x_start (by decide) (Nat.le_of_ble_eq_true rfl) ?_
  intro p e s m below meth c ⟨S, hr, hlk, hH, hK, hXN, hsz, hnm⟩ ls hl
  subst hsz
  obtain ⟨hx, hb, hml, hown, hts⟩ := S
  have S : CallFix p m c _ _ s _ lw_all RX0 := ⟨hx, hb, hml, hown, hts⟩
  have hA : ∀ q, s.heap.size ≤ q → DA M s.heap.size q := fun q hq => Or.inr hq
  have hl : lv_has ls 3 [(0, .ref a), (1, .int (iI d_))] := hl
  have b0 := hI.c
  unfold kCnt at b0
  have h_d_ := R32.n h_d_
  have hW := WK_of hI hT
  have L35 : ∀ (q : Nat) (N1 : Hp) (ω1 : XCt) (i : Int), (hR1 : RX G N1 a (goL σ i.toNat) x ω1) → (hF1 : F40 (goL σ i.toNat)) → (hg : (1 ≤ d_ ∧ d_ ≤ 100) ∧ σ 2 1750 + d_ < 400) → (h0 : 0 ≤ i) → (h1 : i ≤ d_) → (hq : d_ < (q : Int) + i) → ∀ (H : Heap) (locs : List Loc) (ls : Array Slot), XV G (DA M s.heap.size) N1 s.heap H locs → lv_has ls 3 [(0, .ref a), (1, .int (iI d_)), (2, .int (iI i))] → W p l e (rmD 5) s m ([.ref a, .int (iI d_)] : List Value).toArray below meth c H locs 0 0 (MQ below (xQi G (DA M s.heap.size) (fun z M' => z = (goF σ d_).1 ∧ ∃ ω', RX G M' a (goF σ d_).2 x ω')) ([.ref a, .int (iI d_)] : List Value).toArray s 0 0 (DA M s.heap.size)) (F0 m 35 ls []) := by
    intro q
    induction q with
    | zero => intro N1 ω1 i hR1 hF1 hg h0 h1 hq; exfalso; omega
    | succ q ih_35 =>
      intro N1 ω1 i hR1 hF1 hg h0 h1 hq H locs ls hH hl
      have hG := goL_ok hI i.toNat (by omega)
      have hX := TX_ag hT.x (goL_o (σ := σ) hI (n := i.toNat) (by omega))
      have hW1 := WK_KG hG.1 hX
      have hBg := kBy_go hI hB i.toNat (by omega)
      refine lv_iload_n hx hb dX0_go_35 rfl (lv_at hl 2 rfl) ?_
      refine lv_iload_n hx hb dX0_go_36 rfl (lv_at hl 1 rfl) ?_
      refine n_icmp_ge (tgt := 53) hx hb (r32 (by omega)) (r32 (by omega)) dX0_go_37 (by decide) (fun c_37 => ?_) (fun c_37 => ?_)
      · -- 37T
        refine lv_aload_n hx hb dX0_go_53 rfl (lv_at hl 0 rfl) ?_
        refine lv_aload_n hx hb dX0_go_54 rfl (lv_at hl 0 rfl) ?_
        refine x_get hx hb hts in_X0 hown hK hH hR1.o rfl 0 (by decide) q339 (fun _ h9 => h9) rfl (by decide) dX0_go_55 ?_
        refine x_getN hx hb hts in_X1 hown hK hH hR1.b0 rfl 0 (by decide) hXN q162 (fun _ h9 => h9) rfl (by decide) dX0_go_58 ?_
        refine W.eq (g2 := F0 m 61 ls (.int (iI (σ 2 1750 + d_)) :: .ref a :: [])) (by rw [hG.2.1, show ((i.toNat : Nat) : Int) = d_ by omega]) ?_
        refine x_calli (x_runV (As := [.int (iI (σ 2 1750 + d_))]) (rest := []) S hH hK (fun _ _ hW => XN.warm hW hXN) XN_b hl.1 hR1.o rfl (xm_X0_done l G N1 (goL σ i.toNat) x ω1 a (σ 2 1750 + d_) _ hR1) (lw_V q425 q427 qs1 q105 q428) kd_X0_done rfl rfl dX0_go_61) hH hA (fun z61 M61_ H locs q_61 hH hz_61 => ?_)
        obtain ⟨e_61, ω61x, hR61x⟩ := q_61
        subst e_61
        refine x_iret hx hb hr hlk hH dX0_go_64 ?_
        exact cmd_ret (F := goF σ d_) (by rw [goF, if_pos hg, show d_.toNat = i.toNat by omega]) hR61x
      · -- 37F
        refine lv_aload_n hx hb dX0_go_40 rfl (lv_at hl 0 rfl) ?_
        refine x_get hx hb hts in_X0 hown hK hH hR1.o rfl 0 (by decide) q339 (fun _ h9 => h9) rfl (by decide) dX0_go_41 ?_
        refine x_callv (x_runV (As := []) (rest := []) S hH hK (fun _ _ hW => XN.warm hW hXN) XN_b hl.1 hR1.b0 rfl (xm_X1_day l G N1 a (goL σ i.toNat) x ω1 _ hR1 hG.1 hX hF1 hBg (by omega)) (lw_V q679 q680 q681 q106 q682) kd_X1_day rfl rfl dX0_go_44) hH hA (fun M44_ H locs q_44 hH hz_44 => ?_)
        obtain ⟨ω44x, hR44x, hW44x, hF44x⟩ := q_44
        refine n_iinc hx hb dX0_go_47 hl (k := 2) rfl (Nat.le_of_ble_eq_true rfl) (lv' := [(2, .int (iI (i + 1))), (0, .ref a), (1, .int (iI d_))]) rfl (fun ls hl => ?_)
        refine lv_goto (tgt := 35) hx hb dX0_go_50 (by decide) ?_
        have hl : lv_has ls 3 [(0, .ref a), (1, .int (iI d_)), (2, .int (iI (i + 1)))] := lv_sub hl [1, 2, 0] rfl
        refine ih_35 M44_ ω44x (i + 1) ?_ ?_ ?_ ?_ ?_ ?_ _ _ _ hH hl
        · rw [goL_s h0]; exact hR44x
        · rw [goL_s h0]; exact hF44x
        · omega
        · omega
        · omega
        · omega
  refine lv_iload_n hx hb dX0_go_0 rfl (lv_at hl 1 rfl) ?_
  refine n_i2l hx hb (r32 (by omega)) dX0_go_1 ?_
  refine n_lconst (z := 1) hx hb dX0_go_2 (by decide) ?_
  refine lv_ldc2 (v := lI 100) hx hb hown (hts _ q391) dX0_go_3 ?_
  refine x_calliF (x_runS (As := [.long (lI d_), .long (lI 1), .long (lI 100)]) (rest := []) S hH hK (fun _ _ hW => XN.warm hW hXN) XN_b hl.1 (xm_X0_in l G M d_ 1 100 _ (r64 (by omega)) (r64 (by omega)) (r64 (by omega))) (lw_S q386 q387 q105 q388) kd_X0_in rfl rfl dX0_go_6) hH hA (fun H locs hH => ?_)
  refine z_if_eq (tgt := 27) hx hb dX0_go_9 (by decide) (fun c_9 => ?_) (fun c_9 => ?_)
  · -- 9T
    refine lv_aload_n hx hb dX0_go_27 rfl (lv_at hl 0 rfl) ?_
    refine n_iconst hx hb dX0_go_28 ?_
    refine x_calli (x_runV (As := [.int (iI (-1))]) (rest := []) S hH hK (fun _ _ hW => XN.warm hW hXN) XN_b hl.1 hR.o rfl (xm_X0_refuse l G M σ x ω a (-1) _ hR (by omega) (by omega)) (lw_V q393 q395 qs0 q105 q396) kd_X0_refuse rfl rfl dX0_go_29) hH hA (fun z29 M29_ H locs q_29 hH hz_29 => ?_)
    obtain ⟨e_29, ω29x, hR29x⟩ := q_29
    subst e_29
    refine x_iret hx hb hr hlk hH dX0_go_32 ?_
    exact cmd_ret (F := goF σ d_) (if_neg (by omega)) hR29x
  · -- 9F
    refine lv_aload_n hx hb dX0_go_12 rfl (lv_at hl 0 rfl) ?_
    refine x_get hx hb hts in_X0 hown hK hH hR.o rfl 0 (by decide) q339 (fun _ h9 => h9) rfl (by decide) dX0_go_13 ?_
    refine x_getN hx hb hts in_X1 hown hK hH hR.b0 rfl 0 (by decide) hXN q162 (fun _ h9 => h9) rfl (by decide) dX0_go_16 ?_
    refine lv_iload_n hx hb dX0_go_19 rfl (lv_at hl 1 rfl) ?_
    refine n_iadd hx hb dX0_go_20 ?_
    refine n_sipush (z := 399) hx hb dX0_go_21 (by decide) ?_
    refine n_icmp_le (tgt := 33) hx hb (r32 (by omega)) (r32 (by omega)) dX0_go_24 (by decide) (fun c_24 => ?_) (fun c_24 => ?_)
    · -- 24T
      refine n_iconst hx hb dX0_go_33 ?_
      refine lv_istore_n hx hb dX0_go_34 rfl hl (Nat.le_of_ble_eq_true rfl) (lv' := [(2, .int (iI 0)), (0, .ref a), (1, .int (iI d_))]) rfl (fun ls hl => ?_)
      have hl : lv_has ls 3 [(0, .ref a), (1, .int (iI d_)), (2, .int (iI 0))] := lv_sub hl [1, 2, 0] rfl
      refine L35 102 M ω 0 ?_ ?_ ?_ ?_ ?_ ?_ _ _ _ hH hl
      · exact hR
      · exact h40
      · omega
      · omega
      · omega
      · omega
    · -- 24F
      refine lv_aload_n hx hb dX0_go_27 rfl (lv_at hl 0 rfl) ?_
      refine n_iconst hx hb dX0_go_28 ?_
      refine x_calli (x_runV (As := [.int (iI (-1))]) (rest := []) S hH hK (fun _ _ hW => XN.warm hW hXN) XN_b hl.1 hR.o rfl (xm_X0_refuse l G M σ x ω a (-1) _ hR (by omega) (by omega)) (lw_V q393 q395 qs0 q105 q396) kd_X0_refuse rfl rfl dX0_go_29) hH hA (fun z29 M29_ H locs q_29 hH hz_29 => ?_)
      obtain ⟨e_29, ω29x, hR29x⟩ := q_29
      subst e_29
      refine x_iret hx hb hr hlk hH dX0_go_32 ?_
      exact cmd_ret (F := goF σ d_) (if_neg (by omega)) hR29x
