theorem kd_X4_codeAt : yX4_codeAt.cls = RX4 ∧ yX4_codeAt.cls ≠ "java/lang/invoke/MethodHandle" ∧ yX4_codeAt.cls ≠ "java/lang/invoke/VarHandle" ∧ (parseMethodDescriptor yX4_codeAt.desc).map (fun d => d.parameters.length) = some 1 := by decide +kernel
theorem mm_codeAt (l : Launch) (G : MG) (σ0 : St) (g : Int) (b : Int) (k : Int) (sz : Nat) (hV : EV σ0) (hg0 : 0 ≤ g) (hg1 : g ≤ 100000) (hb01 : b = 0 ∨ b = 1) (hk0 : 0 ≤ k) (hk1 : k ≤ 100000) : Met l yX4_codeAt (ws_ yX4_codeAt cX4_codeAt 2 (some .int)) (rmD 1) (mP G [.ref (G.2.2 0), .int (iI k)] (evS σ0 g b) sz) (mQi G (evS σ0 g b) sz (fun z σ' => z = cdA σ0 k ∧ σ' = evS σ0 g b)) 0 0 (mA G (evS σ0 g b) sz) := by
  refine m_start (by decide) (Nat.le_of_ble_eq_true rfl) ?_
  intro p e s m below meth c ⟨S, hr, hlk, hH, hK, hj, hsz, hnm⟩ ls hl
  subst hsz
  obtain ⟨hx, hb, hml, hown, hts⟩ := S
  have S : CallFix p m c _ _ s _ lw_all RX4 := ⟨hx, hb, hml, hown, hts⟩
  have hA : ∀ q, s.heap.size ≤ q → mA G (evS σ0 g b) s.heap.size q := fun q hq => Or.inr hq
  have hl : lv_has ls 2 [(0, .ref (G.2.2 0)), (1, .int (iI k))] := hl
  have v0 := hV.1
  have v3 := hV.2.2.2
  unfold caseOK at v3
  refine lv_iload_n hx hb dX4_codeAt_0 rfl (lv_at hl 1 rfl) ?_
  refine lv_aload_n hx hb dX4_codeAt_1 rfl (lv_at hl 0 rfl) ?_
  refine m_get 19 (by decide) hx hb hts hown hK hj hH q1492 (fun _ h9 => h9) rfl dX4_codeAt_2 ?_
  refine W.eq (g2 := F0 m 5 ls (.int (iI (σ0 19 0)) :: .int (iI k) :: [])) rfl ?_
  refine n_icmp_ge (tgt := 21) hx hb (r32 (by omega)) (r32 (by omega)) dX4_codeAt_5 (by decide) (fun c_5 => ?_) (fun c_5 => ?_)
  · -- 5T
    refine n_iconst hx hb dX4_codeAt_21 ?_
    refine m_iret hx hb hr hlk hH dX4_codeAt_22 ?_
    refine ⟨?_, rfl⟩
    unfold cdA
    first | exact (if_pos (by omega)).symm | exact (if_neg (by omega)).symm
  · -- 5F
    refine lv_aload_n hx hb dX4_codeAt_8 rfl (lv_at hl 0 rfl) ?_
    refine m_get 2 (by decide) hx hb hts hown hK hj hH q1475 (fun _ h9 => h9) rfl dX4_codeAt_9 ?_
    refine n_sipush (z := 1770) hx hb dX4_codeAt_12 (by decide) ?_
    refine lv_iload_n hx hb dX4_codeAt_15 rfl (lv_at hl 1 rfl) ?_
    refine n_iadd hx hb dX4_codeAt_16 ?_
    refine ml_2 hx hb hK hj hH (by omega) (by omega) dX4_codeAt_17 ?_
    refine W.eq (g2 := F0 m 18 ls (.int (iI (σ0 2 (1770 + k))) :: [])) rfl ?_
    refine lv_goto (tgt := 22) hx hb dX4_codeAt_18 (by decide) ?_
    refine m_iret hx hb hr hlk hH dX4_codeAt_22 ?_
    refine ⟨?_, rfl⟩
    unfold cdA
    first | exact (if_pos (by omega)).symm | exact (if_neg (by omega)).symm
theorem kd_X4_passes : yX4_passes.cls = RX4 ∧ yX4_passes.cls ≠ "java/lang/invoke/MethodHandle" ∧ yX4_passes.cls ≠ "java/lang/invoke/VarHandle" ∧ (parseMethodDescriptor yX4_passes.desc).map (fun d => d.parameters.length) = some 1 := by decide +kernel
theorem mm_passes (l : Launch) (G : MG) (σ0 : St) (g : Int) (b : Int) (cc_ : Int) (sz : Nat) (hV : EV σ0) (hg0 : 0 ≤ g) (hg1 : g ≤ 100000) (hb01 : b = 0 ∨ b = 1) (hc : 0 ≤ cc_ ∧ cc_ ≤ 1000) : Met l yX4_passes (ws_ yX4_passes cX4_passes 3 (some .boolean)) (rmD 2) (mP G [.ref (G.2.2 0), .int (iI cc_)] (evS σ0 g b) sz) (mQi G (evS σ0 g b) sz (fun z σ' => z = zb (cdA σ0 g = cc_) ∧ σ' = evS σ0 (if cdA σ0 g = cc_ then g + 1 else g) b)) 0 0 (mA G (evS σ0 g b) sz) := by
  refine m_start (by decide) (Nat.le_of_ble_eq_true rfl) ?_
  intro p e s m below meth c ⟨S, hr, hlk, hH, hK, hj, hsz, hnm⟩ ls hl
  subst hsz
  obtain ⟨hx, hb, hml, hown, hts⟩ := S
  have S : CallFix p m c _ _ s _ lw_all RX4 := ⟨hx, hb, hml, hown, hts⟩
  have hA : ∀ q, s.heap.size ≤ q → mA G (evS σ0 g b) s.heap.size q := fun q hq => Or.inr hq
  have hl : lv_has ls 3 [(0, .ref (G.2.2 0)), (1, .int (iI cc_))] := hl
  have v0 := hV.1
  have v3 := hV.2.2.2
  unfold caseOK at v3
  have c0 := cdA_r hV hg0
  refine lv_aload_n hx hb dX4_passes_0 rfl (lv_at hl 0 rfl) ?_
  refine lv_aload_n hx hb dX4_passes_1 rfl (lv_at hl 0 rfl) ?_
  refine m_get 18 (by decide) hx hb hts hown hK hj hH q1491 (fun _ h9 => h9) rfl dX4_passes_2 ?_
  refine W.eq (g2 := F0 m 5 ls (.int (iI g) :: .ref (G.2.2 0) :: [])) rfl ?_
  refine m_calliF (m_runV (As := [.int (iI g)]) (rest := []) S hH hK hj hl.1 (mm_codeAt l G σ0 g b g _ hV (by omega) (by omega) hb01 (by omega) (by omega)) (lw_V q1823 q1825 qs78 q109 q1826) kd_X4_codeAt rfl rfl dX4_passes_5) hH hA (fun H locs hH => ?_)
  refine lv_iload_n hx hb dX4_passes_8 rfl (lv_at hl 1 rfl) ?_
  refine n_icmp_ne (tgt := 16) hx hb (r32 (by omega)) (r32 (by omega)) dX4_passes_9 (by decide) (fun c_9 => ?_) (fun c_9 => ?_)
  · -- 9T
    refine n_iconst hx hb dX4_passes_16 ?_
    refine lv_istore_n hx hb dX4_passes_17 rfl hl (Nat.le_of_ble_eq_true rfl) (lv' := [(2, .int (iI 0)), (0, .ref (G.2.2 0)), (1, .int (iI cc_))]) rfl (fun ls hl => ?_)
    refine lv_iload_n hx hb dX4_passes_18 rfl (lv_at hl 0 rfl) ?_
    refine n_if_eq (tgt := 32) hx hb (r32 (by omega)) dX4_passes_19 (by decide) (fun _ => ?_) (fun h => absurd h (by decide))
    refine lv_iload_n hx hb dX4_passes_32 rfl (lv_at hl 0 rfl) ?_
    refine m_zret hx hb hr hlk hH dX4_passes_33 (Or.inl rfl) ?_
    first | (rw [if_pos c_9]; exact ⟨(zb_t c_9).symm, rfl⟩) | (rw [if_neg c_9]; exact ⟨(zb_f c_9).symm, rfl⟩)
  · -- 9F
    refine n_iconst hx hb dX4_passes_12 ?_
    refine lv_goto (tgt := 17) hx hb dX4_passes_13 (by decide) ?_
    refine lv_istore_n hx hb dX4_passes_17 rfl hl (Nat.le_of_ble_eq_true rfl) (lv' := [(2, .int (iI 1)), (0, .ref (G.2.2 0)), (1, .int (iI cc_))]) rfl (fun ls hl => ?_)
    refine lv_iload_n hx hb dX4_passes_18 rfl (lv_at hl 0 rfl) ?_
    refine n_if_eq (tgt := 32) hx hb (r32 (by omega)) dX4_passes_19 (by decide) (fun h => absurd h (by decide)) (fun _ => ?_)
    refine lv_aload_n hx hb dX4_passes_22 rfl (lv_at hl 1 rfl) ?_
    refine lv_dup hx hb dX4_passes_23 rfl ?_
    refine m_get 18 (by decide) hx hb hts hown hK hj hH q1491 (fun _ h9 => h9) rfl dX4_passes_24 ?_
    refine W.eq (g2 := F0 m 27 ls (.int (iI g) :: .ref (G.2.2 0) :: [])) rfl ?_
    refine n_iconst hx hb dX4_passes_27 ?_
    refine n_iadd hx hb dX4_passes_28 ?_
    refine mp_18 hx hb hts hown hK hj hH q1491 (fun _ h9 => h9) dX4_passes_29 (fun H locs hH => ?_)
    have hH := MH_to hH (τ := evS σ0 (g + 1) b) evS_18
    refine lv_iload_n hx hb dX4_passes_32 rfl (lv_at hl 0 rfl) ?_
    refine m_zret hx hb hr hlk hH dX4_passes_33 (Or.inr rfl) ?_
    first | (rw [if_pos c_9]; exact ⟨(zb_t c_9).symm, rfl⟩) | (rw [if_neg c_9]; exact ⟨(zb_f c_9).symm, rfl⟩)
theorem kd_X4_bounded : yX4_bounded.cls = RX4 ∧ yX4_bounded.cls ≠ "java/lang/invoke/MethodHandle" ∧ yX4_bounded.cls ≠ "java/lang/invoke/VarHandle" ∧ (parseMethodDescriptor yX4_bounded.desc).map (fun d => d.parameters.length) = some 2 := by decide +kernel
theorem mm_bounded (l : Launch) (G : MG) (σ0 : St) (g : Int) (b : Int) (v : Int) (live : Int) (sz : Nat) (hV : EV σ0) (hg0 : 0 ≤ g) (hg1 : g ≤ 100000) (hb01 : b = 0 ∨ b = 1) (hv : R64 v) (hl01 : live = 0 ∨ live = 1) : Met l yX4_bounded (ws_ yX4_bounded cX4_bounded 4 (some .long)) (rmD 1) (mP G [.ref (G.2.2 0), .long (lI v), .int (iI live)] (evS σ0 g b) sz) (mQl G (evS σ0 g b) sz (fun z σ' => z = (if b = 1 ∨ (live = 1 ∧ (v > 1000000000 ∨ v < -1000000000)) then 0 else v) ∧ σ' = evS σ0 g (if b = 1 ∨ (live = 1 ∧ (v > 1000000000 ∨ v < -1000000000)) then 1 else 0))) 0 0 (mA G (evS σ0 g b) sz) := by
  refine m_start (by decide) (Nat.le_of_ble_eq_true rfl) ?_
  intro p e s m below meth c ⟨S, hr, hlk, hH, hK, hj, hsz, hnm⟩ ls hl
  subst hsz
  obtain ⟨hx, hb, hml, hown, hts⟩ := S
  have S : CallFix p m c _ _ s _ lw_all RX4 := ⟨hx, hb, hml, hown, hts⟩
  have hA : ∀ q, s.heap.size ≤ q → mA G (evS σ0 g b) s.heap.size q := fun q hq => Or.inr hq
  have hl : lv_has ls 4 [(0, .ref (G.2.2 0)), (1, .long (lI v)), (3, .int (iI live))] := hl
  have v0 := hV.1
  have v3 := hV.2.2.2
  unfold caseOK at v3
  have hv := hv
  refine lv_iload_n hx hb dX4_bounded_0 rfl (lv_at hl 2 rfl) ?_
  refine n_if_eq (tgt := 25) hx hb (r32 (by omega)) dX4_bounded_1 (by decide) (fun c_1 => ?_) (fun c_1 => ?_)
  · -- 1T
    refine lv_aload_n hx hb dX4_bounded_25 rfl (lv_at hl 0 rfl) ?_
    refine m_get 20 (by decide) hx hb hts hown hK hj hH q1493 (fun _ h9 => h9) rfl dX4_bounded_26 ?_
    refine W.eq (g2 := F0 m 29 ls (.int (iI b) :: [])) rfl ?_
    refine n_if_eq (tgt := 36) hx hb (r32 (by omega)) dX4_bounded_29 (by decide) (fun c_29 => ?_) (fun c_29 => ?_)
    · -- 29T
      refine lv_lload_n hx hb dX4_bounded_36 rfl (lv_at hl 1 rfl) ?_
      refine m_lret hx hb hr hlk hH dX4_bounded_37 ?_
      first | (rw [if_pos (by omega), if_pos (by omega)]; first | exact ⟨rfl, rfl⟩ | exact ⟨rfl, by rw [show b = 1 by omega]⟩) | (rw [if_neg (by omega), if_neg (by omega)]; exact ⟨rfl, by rw [show b = 0 by omega]⟩)
    · -- 29F
      refine n_lconst (z := 0) hx hb dX4_bounded_32 (by decide) ?_
      refine lv_goto (tgt := 37) hx hb dX4_bounded_33 (by decide) ?_
      refine m_lret hx hb hr hlk hH dX4_bounded_37 ?_
      first | (rw [if_pos (by omega), if_pos (by omega)]; first | exact ⟨rfl, rfl⟩ | exact ⟨rfl, by rw [show b = 1 by omega]⟩) | (rw [if_neg (by omega), if_neg (by omega)]; exact ⟨rfl, by rw [show b = 0 by omega]⟩)
  · -- 1F
    refine lv_lload_n hx hb dX4_bounded_4 rfl (lv_at hl 1 rfl) ?_
    refine lv_ldc2 (v := lI 1000000000) hx hb hown (hts _ q1847) dX4_bounded_5 ?_
    refine n_lcmp_gt (tgt := 20) hx hb hv (r64 (by omega)) dX4_bounded_8 dX4_bounded_9 (by decide) (fun c_8 => ?_) (fun c_8 => ?_)
    · -- 8T
      refine lv_aload_n hx hb dX4_bounded_20 rfl (lv_at hl 0 rfl) ?_
      refine n_iconst hx hb dX4_bounded_21 ?_
      refine mp_20 hx hb hts hown hK hj hH q1493 (fun _ h9 => h9) (Or.inr rfl) dX4_bounded_22 (fun H locs hH => ?_)
      have hH := MH_to hH (τ := evS σ0 g 1) evS_20
      refine lv_aload_n hx hb dX4_bounded_25 rfl (lv_at hl 0 rfl) ?_
      refine m_get 20 (by decide) hx hb hts hown hK hj hH q1493 (fun _ h9 => h9) rfl dX4_bounded_26 ?_
      refine W.eq (g2 := F0 m 29 ls (.int (iI 1) :: [])) rfl ?_
      refine n_if_eq (tgt := 36) hx hb (r32 (by omega)) dX4_bounded_29 (by decide) (fun h => absurd h (by decide)) (fun _ => ?_)
      refine n_lconst (z := 0) hx hb dX4_bounded_32 (by decide) ?_
      refine lv_goto (tgt := 37) hx hb dX4_bounded_33 (by decide) ?_
      refine m_lret hx hb hr hlk hH dX4_bounded_37 ?_
      first | (rw [if_pos (by omega), if_pos (by omega)]; first | exact ⟨rfl, rfl⟩ | exact ⟨rfl, by rw [show b = 1 by omega]⟩) | (rw [if_neg (by omega), if_neg (by omega)]; exact ⟨rfl, by rw [show b = 0 by omega]⟩)
    · -- 8F
      refine lv_lload_n hx hb dX4_bounded_12 rfl (lv_at hl 1 rfl) ?_
      refine lv_ldc2 (v := lI (-1000000000)) hx hb hown (by have h9 := hts _ q1848; rw [show ((-1000000000) : Int64) = lI (-1000000000) by decide +kernel] at h9; exact h9) dX4_bounded_13 ?_
      refine n_lcmp_ge (tgt := 25) hx hb hv (r64 (by omega)) dX4_bounded_16 dX4_bounded_17 (by decide) (fun c_16 => ?_) (fun c_16 => ?_)
      · -- 16T
        refine lv_aload_n hx hb dX4_bounded_25 rfl (lv_at hl 0 rfl) ?_
        refine m_get 20 (by decide) hx hb hts hown hK hj hH q1493 (fun _ h9 => h9) rfl dX4_bounded_26 ?_
        refine W.eq (g2 := F0 m 29 ls (.int (iI b) :: [])) rfl ?_
        refine n_if_eq (tgt := 36) hx hb (r32 (by omega)) dX4_bounded_29 (by decide) (fun c_29 => ?_) (fun c_29 => ?_)
        · -- 29T
          refine lv_lload_n hx hb dX4_bounded_36 rfl (lv_at hl 1 rfl) ?_
          refine m_lret hx hb hr hlk hH dX4_bounded_37 ?_
          first | (rw [if_pos (by omega), if_pos (by omega)]; first | exact ⟨rfl, rfl⟩ | exact ⟨rfl, by rw [show b = 1 by omega]⟩) | (rw [if_neg (by omega), if_neg (by omega)]; exact ⟨rfl, by rw [show b = 0 by omega]⟩)
        · -- 29F
          refine n_lconst (z := 0) hx hb dX4_bounded_32 (by decide) ?_
          refine lv_goto (tgt := 37) hx hb dX4_bounded_33 (by decide) ?_
          refine m_lret hx hb hr hlk hH dX4_bounded_37 ?_
          first | (rw [if_pos (by omega), if_pos (by omega)]; first | exact ⟨rfl, rfl⟩ | exact ⟨rfl, by rw [show b = 1 by omega]⟩) | (rw [if_neg (by omega), if_neg (by omega)]; exact ⟨rfl, by rw [show b = 0 by omega]⟩)
      · -- 16F
        refine lv_aload_n hx hb dX4_bounded_20 rfl (lv_at hl 0 rfl) ?_
        refine n_iconst hx hb dX4_bounded_21 ?_
        refine mp_20 hx hb hts hown hK hj hH q1493 (fun _ h9 => h9) (Or.inr rfl) dX4_bounded_22 (fun H locs hH => ?_)
        have hH := MH_to hH (τ := evS σ0 g 1) evS_20
        refine lv_aload_n hx hb dX4_bounded_25 rfl (lv_at hl 0 rfl) ?_
        refine m_get 20 (by decide) hx hb hts hown hK hj hH q1493 (fun _ h9 => h9) rfl dX4_bounded_26 ?_
        refine W.eq (g2 := F0 m 29 ls (.int (iI 1) :: [])) rfl ?_
        refine n_if_eq (tgt := 36) hx hb (r32 (by omega)) dX4_bounded_29 (by decide) (fun h => absurd h (by decide)) (fun _ => ?_)
        refine n_lconst (z := 0) hx hb dX4_bounded_32 (by decide) ?_
        refine lv_goto (tgt := 37) hx hb dX4_bounded_33 (by decide) ?_
        refine m_lret hx hb hr hlk hH dX4_bounded_37 ?_
        first | (rw [if_pos (by omega), if_pos (by omega)]; first | exact ⟨rfl, rfl⟩ | exact ⟨rfl, by rw [show b = 1 by omega]⟩) | (rw [if_neg (by omega), if_neg (by omega)]; exact ⟨rfl, by rw [show b = 0 by omega]⟩)
theorem kd_X4_flagged : yX4_flagged.cls = RX4 ∧ yX4_flagged.cls ≠ "java/lang/invoke/MethodHandle" ∧ yX4_flagged.cls ≠ "java/lang/invoke/VarHandle" ∧ (parseMethodDescriptor yX4_flagged.desc).map (fun d => d.parameters.length) = some 1 := by decide +kernel
theorem mm_flagged (l : Launch) (G : MG) (σ0 : St) (g : Int) (b : Int) (cc_ : Int) (sz : Nat) (hV : EV σ0) (hg0 : 0 ≤ g) (hg1 : g ≤ 100000) (hb01 : b = 0 ∨ b = 1) (hc : 10 ≤ cc_ ∧ cc_ ≤ 16) : Met l yX4_flagged (ws_ yX4_flagged cX4_flagged 2 (some .boolean)) (rmD 2) (mP G [.ref (G.2.2 0), .int (iI cc_)] (evS σ0 g b) sz) (mQi G (evS σ0 g b) sz (fun z σ' => z = (if cc_ < 15 then (if σ0 5 1 = cc_ - 10 + 1 then 1 else 0) else if cc_ = 16 then (if airP (σ0 5 1) (σ0 5 6) then 1 else 0) else (if σ0 5 7 = 1 then 1 else 0)) ∧ σ' = evS σ0 g b)) 0 0 (mA G (evS σ0 g b) sz) := by
  refine m_start (by decide) (Nat.le_of_ble_eq_true rfl) ?_
  intro p e s m below meth c ⟨S, hr, hlk, hH, hK, hj, hsz, hnm⟩ ls hl
  subst hsz
  obtain ⟨hx, hb, hml, hown, hts⟩ := S
  have S : CallFix p m c _ _ s _ lw_all RX4 := ⟨hx, hb, hml, hown, hts⟩
  have hA : ∀ q, s.heap.size ≤ q → mA G (evS σ0 g b) s.heap.size q := fun q hq => Or.inr hq
  have hl : lv_has ls 2 [(0, .ref (G.2.2 0)), (1, .int (iI cc_))] := hl
  have v0 := hV.1
  have v3 := hV.2.2.2
  unfold caseOK at v3
  refine lv_iload_n hx hb dX4_flagged_0 rfl (lv_at hl 1 rfl) ?_
  refine n_bipush (z := 15) hx hb dX4_flagged_1 (by decide) ?_
  refine n_icmp_ge (tgt := 27) hx hb (r32 (by omega)) (r32 (by omega)) dX4_flagged_3 (by decide) (fun c_3 => ?_) (fun c_3 => ?_)
  · -- 3T
    refine lv_iload_n hx hb dX4_flagged_27 rfl (lv_at hl 1 rfl) ?_
    refine n_bipush (z := 16) hx hb dX4_flagged_28 (by decide) ?_
    refine n_icmp_ne (tgt := 52) hx hb (r32 (by omega)) (r32 (by omega)) dX4_flagged_30 (by decide) (fun c_30 => ?_) (fun c_30 => ?_)
    · -- 30T
      refine lv_aload_n hx hb dX4_flagged_52 rfl (lv_at hl 0 rfl) ?_
      refine m_get 5 (by decide) hx hb hts hown hK hj hH q1478 (fun _ h9 => h9) rfl dX4_flagged_53 ?_
      refine n_bipush (z := 7) hx hb dX4_flagged_56 (by decide) ?_
      refine ml_5 hx hb hK hj hH (by omega) (by omega) dX4_flagged_58 ?_
      refine W.eq (g2 := F0 m 59 ls (.int (iI (σ0 5 7)) :: [])) rfl ?_
      refine n_iconst hx hb dX4_flagged_59 ?_
      refine n_icmp_ne (tgt := 67) hx hb (r32 (by omega)) (r32 (by omega)) dX4_flagged_60 (by decide) (fun c_60 => ?_) (fun c_60 => ?_)
      · -- 60T
        refine n_iconst hx hb dX4_flagged_67 ?_
        refine m_zret hx hb hr hlk hH dX4_flagged_68 (Or.inl rfl) ?_
        refine ⟨?_, rfl⟩
        (repeat' split) <;> first | (exfalso; omega) | contradiction | rfl | (exact zb_t (by assumption)) | (exact zb_f (by assumption))
      · -- 60F
        refine n_iconst hx hb dX4_flagged_63 ?_
        refine lv_goto (tgt := 68) hx hb dX4_flagged_64 (by decide) ?_
        refine m_zret hx hb hr hlk hH dX4_flagged_68 (Or.inr rfl) ?_
        refine ⟨?_, rfl⟩
        (repeat' split) <;> first | (exfalso; omega) | contradiction | rfl | (exact zb_t (by assumption)) | (exact zb_f (by assumption))
    · -- 30F
      refine lv_aload_n hx hb dX4_flagged_33 rfl (lv_at hl 0 rfl) ?_
      refine m_get 5 (by decide) hx hb hts hown hK hj hH q1478 (fun _ h9 => h9) rfl dX4_flagged_34 ?_
      refine n_iconst hx hb dX4_flagged_37 ?_
      refine ml_5 hx hb hK hj hH (by omega) (by omega) dX4_flagged_38 ?_
      refine W.eq (g2 := F0 m 39 ls (.int (iI (σ0 5 1)) :: [])) rfl ?_
      refine lv_aload_n hx hb dX4_flagged_39 rfl (lv_at hl 0 rfl) ?_
      refine m_get 5 (by decide) hx hb hts hown hK hj hH q1478 (fun _ h9 => h9) rfl dX4_flagged_40 ?_
      refine n_bipush (z := 6) hx hb dX4_flagged_43 (by decide) ?_
      refine ml_5 hx hb hK hj hH (by omega) (by omega) dX4_flagged_45 ?_
      refine W.eq (g2 := F0 m 46 ls (.int (iI (σ0 5 6)) :: .int (iI (σ0 5 1)) :: [])) rfl ?_
      refine m_calliF (m_runS (As := [.int (iI (σ0 5 1)), .int (iI (σ0 5 6))]) (rest := []) S hH hK hj hl.1 (mm_hasAir l G (evS σ0 g b) (σ0 5 1) (σ0 5 6) _ (r32 (by omega)) (r32 (by omega))) (lw_S q1653 q1654 q109 q1655) kd_X4_hasAir rfl rfl dX4_flagged_46) hH hA (fun H locs hH => ?_)
      refine lv_goto (tgt := 68) hx hb dX4_flagged_49 (by decide) ?_
      refine m_zret hx hb hr hlk hH dX4_flagged_68 zb_01 ?_
      refine ⟨?_, rfl⟩
      (repeat' split) <;> first | (exfalso; omega) | contradiction | rfl | (exact zb_t (by assumption)) | (exact zb_f (by assumption))
  · -- 3F
    refine lv_aload_n hx hb dX4_flagged_6 rfl (lv_at hl 0 rfl) ?_
    refine m_get 5 (by decide) hx hb hts hown hK hj hH q1478 (fun _ h9 => h9) rfl dX4_flagged_7 ?_
    refine n_iconst hx hb dX4_flagged_10 ?_
    refine ml_5 hx hb hK hj hH (by omega) (by omega) dX4_flagged_11 ?_
    refine W.eq (g2 := F0 m 12 ls (.int (iI (σ0 5 1)) :: [])) rfl ?_
    refine lv_iload_n hx hb dX4_flagged_12 rfl (lv_at hl 1 rfl) ?_
    refine n_bipush (z := 10) hx hb dX4_flagged_13 (by decide) ?_
    refine n_isub hx hb dX4_flagged_15 ?_
    refine n_iconst hx hb dX4_flagged_16 ?_
    refine n_iadd hx hb dX4_flagged_17 ?_
    refine n_icmp_ne (tgt := 25) hx hb (r32 (by omega)) (r32 (by omega)) dX4_flagged_18 (by decide) (fun c_18 => ?_) (fun c_18 => ?_)
    · -- 18T
      refine n_iconst hx hb dX4_flagged_25 ?_
      refine m_zret hx hb hr hlk hH dX4_flagged_26 (Or.inl rfl) ?_
      refine ⟨?_, rfl⟩
      (repeat' split) <;> first | (exfalso; omega) | contradiction | rfl | (exact zb_t (by assumption)) | (exact zb_f (by assumption))
    · -- 18F
      refine n_iconst hx hb dX4_flagged_21 ?_
      refine lv_goto (tgt := 26) hx hb dX4_flagged_22 (by decide) ?_
      refine m_zret hx hb hr hlk hH dX4_flagged_26 (Or.inr rfl) ?_
      refine ⟨?_, rfl⟩
      (repeat' split) <;> first | (exfalso; omega) | contradiction | rfl | (exact zb_t (by assumption)) | (exact zb_f (by assumption))
