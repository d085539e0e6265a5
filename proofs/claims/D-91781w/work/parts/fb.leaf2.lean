theorem kd_X3_leaf : yX3_leaf.cls = RX3 ∧ yX3_leaf.cls ≠ "java/lang/invoke/MethodHandle" ∧ yX3_leaf.cls ≠ "java/lang/invoke/VarHandle" ∧ (parseMethodDescriptor yX3_leaf.desc).map (fun d => d.parameters.length) = some 0 := by decide +kernel
theorem xm_X3_leafY (l : Launch) (G : MG) (M : Hp) (K : (Nat → Nat) × (Nat → Nat)) (a : Nat) (σ : St) (P : Nat → Nat) (τ : Int → Int) (bo : Nat) (lo : Int) (x : XGh) (F : Int) (T : Int) (l_ : Int) (d_ : Int) (p_ : Int) (pf : Int → Option Nat) (sz : Nat) (hD : RD G M a σ P τ bo lo x F T l_ d_ p_ pf) (hl0 : 0 ≤ l_) (hl1 : l_ < 50) : Met l yX3_leaf (ws_ yX3_leaf cX3_leaf 1 none) (rmD 2) (xP G (XRd K M) [.ref (P 7)] M sz) (xQv G (DA M sz) (fun M' => RD G M' a σ P τ bo lo x F T (l_ + 1) d_ p_ pf ∧ Ext M M' x x)) 0 0 (DA M sz) := by
  refine x_start (by decide) (Nat.le_of_ble_eq_true rfl) ?_
  intro p e s m below meth c ⟨S, hr, hlk, hH, hK, hX, hsz, hnm⟩ ls hl
  have hXN : XN s := hX.1
  subst hsz
  obtain ⟨hx, hb, hml, hown, hts⟩ := S
  have S : CallFix p m c _ _ s _ lw_all RX3 := ⟨hx, hb, hml, hown, hts⟩
  have hA : ∀ q, s.heap.size ≤ q → DA M s.heap.size q := fun q hq => Or.inr hq
  have hl : lv_has ls 1 [(0, .ref (P 7))] := hl
  refine lv_aload_n hx hb dX3_leaf_0 rfl (lv_at hl 0 rfl) ?_
  refine lv_aload_n hx hb dX3_leaf_1 rfl (lv_at hl 0 rfl) ?_
  refine x_get hx hb hts in_X3 hown hK hH hD.c rfl 2 (by decide) q309 (fun _ h9 => h9) rfl (by decide) dX3_leaf_2 ?_
  refine n_bipush (z := 50) hx hb dX3_leaf_5 (by decide) ?_
  refine n_icmp_ge (tgt := 14) hx hb (r32 (by omega)) (r32 (by omega)) dX3_leaf_7 (by decide) (fun c_7 => ?_) (fun c_7 => ?_)
  · -- 7T
    exact absurd c_7 (by omega)
  · -- 7F
    refine n_iconst hx hb dX3_leaf_10 ?_
    refine lv_goto (tgt := 15) hx hb dX3_leaf_11 (by decide) ?_
    refine x_callv (x_runV (As := [.int (iI 1)]) (rest := []) S hH hK (hX.at hH) XRd_b hl.1 hD.c rfl (xm_X3_mustY l G M K a σ P τ bo lo x F T l_ d_ p_ pf 1 _ hD (by omega)) (lw_V q833 q835 qs14 q108 q836) kd_X3_must rfl rfl dX3_leaf_15) hH hA (fun M15_ H locs q_15 hH hz_15 => ?_)
    have hH := XV_to hH q_15
    refine lv_aload_n hx hb dX3_leaf_18 rfl (lv_at hl 0 rfl) ?_
    refine lv_dup hx hb dX3_leaf_19 rfl ?_
    refine x_get hx hb hts in_X3 hown hK hH hD.c rfl 2 (by decide) q309 (fun _ h9 => h9) rfl (by decide) dX3_leaf_20 ?_
    refine n_iconst hx hb dX3_leaf_23 ?_
    refine n_iadd hx hb dX3_leaf_24 ?_
    refine x_put (ty := .int) hx hb hts in_X3 tyX3 tyX3_ok nmX3 hown hK hH hD.c rfl 2 (by decide) q309 (fun _ h9 => h9) rfl (by decide +kernel) rfl rfl (Nat.le_of_ble_eq_true rfl) (by decide) dX3_leaf_25 (fun H locs hH => ?_)
    obtain ⟨M1, e_M1⟩ : ∃ M1, M1 = hs M (P 7) (oB 4 [.int (iI F), .int (iI T), .int (iI (l_ + 1)), .int (iI d_), .int (iI p_), .ref (P 24), .ref (P 25), .ref (P 26), .ref (P 27), .ref a]) := ⟨_, rfl⟩
    have hH := XV_to hH e_M1.symm
    have f1 : M1 (P 7) = some (oB 4 [.int (iI F), .int (iI T), .int (iI (l_ + 1)), .int (iI d_), .int (iI p_), .ref (P 24), .ref (P 25), .ref (P 26), .ref (P 27), .ref a]) := by rw [e_M1]; exact hs_s
    obtain ⟨hD2, hX2⟩ := hD.put2 (v := (l_ + 1))
    rw [← e_M1] at hD2 hX2
    refine x_vret hx hb hr hlk hH dX3_leaf_28 ?_
    exact ⟨hD2, hX2⟩
theorem xm_X3_leafN (l : Launch) (G : MG) (M : Hp) (K : (Nat → Nat) × (Nat → Nat)) (a : Nat) (σ : St) (P : Nat → Nat) (τ : Int → Int) (bo : Nat) (lo : Int) (x : XGh) (F : Int) (T : Int) (l_ : Int) (d_ : Int) (p_ : Int) (pf : Int → Option Nat) (sz : Nat) (hD : RD G M a σ P τ bo lo x F T l_ d_ p_ pf) (hl0 : 0 ≤ l_) (hl1 : ¬ l_ < 50) (hl2 : l_ ≤ 51) : vx_Met l yX3_leaf (ws_ yX3_leaf cX3_leaf 1 none) (rmX 6 1 7) (xP G (XRd K M) [.ref (P 7)] M sz) (xQv G (DA M sz) (fun _ => False)) (rXc G (DA M sz) (fun pl M' => pl = F ∧ RDx G M' a σ P)) 1 7 (DA M sz) := by
  refine r_start (by decide) (Nat.le_of_ble_eq_true rfl) ?_
  intro p e s m below meth c ⟨S, hr, hlk, hH, hK, hX, hsz, hnm⟩ hto ls hl
  have hXN : XN s := hX.1
  subst hsz
  obtain ⟨hx, hb, hml, hown, hts⟩ := S
  have S : CallFix p m c _ _ s _ lw_all RX3 := ⟨hx, hb, hml, hown, hts⟩
  have hA : ∀ q, s.heap.size ≤ q → DA M s.heap.size q := fun q hq => Or.inr hq
  have hl : lv_has ls 1 [(0, .ref (P 7))] := hl
  refine lv_aload_n hx hb dX3_leaf_0 rfl (lv_at hl 0 rfl) ?_
  refine lv_aload_n hx hb dX3_leaf_1 rfl (lv_at hl 0 rfl) ?_
  refine x_get hx hb hts in_X3 hown hK hH hD.c rfl 2 (by decide) q309 (fun _ h9 => h9) rfl (by decide) dX3_leaf_2 ?_
  refine n_bipush (z := 50) hx hb dX3_leaf_5 (by decide) ?_
  refine n_icmp_ge (tgt := 14) hx hb (r32 (by omega)) (r32 (by omega)) dX3_leaf_7 (by decide) (fun c_7 => ?_) (fun c_7 => ?_)
  · -- 7T
    refine n_iconst hx hb dX3_leaf_14 ?_
    refine r_callv (r_runV (As := [.int (iI 0)]) (rest := []) S hH hK (hX.at hH) XRd_b hl.1 hD.c rfl (xm_X3_mustN l G M K a σ P τ bo lo x F T l_ d_ p_ pf 0 _ hD (by omega)) (lw_V q833 q835 qs14 q108 q836) kd_X3_must rfl rfl dX3_leaf_15) hH hA (fun q9_15 pl_15 M9_15 H locs hT_15 => r_out hto hlk hT_15 (hT_15.1) (Nat.le_of_ble_eq_true rfl) (Nat.le_of_ble_eq_true rfl)) (fun M15_ H locs q_15 hH hz_15 => ?_)
    exact q_15.elim
  · -- 7F
    exact absurd c_7 (by omega)
theorem kd_X3_open : yX3_open.cls = RX3 ∧ yX3_open.cls ≠ "java/lang/invoke/MethodHandle" ∧ yX3_open.cls ≠ "java/lang/invoke/VarHandle" ∧ (parseMethodDescriptor yX3_open.desc).map (fun d => d.parameters.length) = some 0 := by decide +kernel
theorem xm_X3_openY (l : Launch) (G : MG) (M : Hp) (K : (Nat → Nat) × (Nat → Nat)) (a : Nat) (σ : St) (P : Nat → Nat) (τ : Int → Int) (bo : Nat) (lo : Int) (x : XGh) (F : Int) (T : Int) (l_ : Int) (d_ : Int) (p_ : Int) (pf : Int → Option Nat) (sz : Nat) (hD : RD G M a σ P τ bo lo x F T l_ d_ p_ pf) (hd0 : 0 ≤ d_) (hd1 : d_ < 8) (hB8 : ∀ i, -128 ≤ σ 7 i ∧ σ 7 i < 128) (h0 : 0 ≤ T) (h1 : T ≤ σ 9 0) (h4 : σ 9 0 ≤ 400) : Met l yX3_open (ws_ yX3_open cX3_open 1 none) (rmD 3) (xP G (XRd K M) [.ref (P 7)] M sz) (xQv G (DA M sz) (fun M' => RD G M' a σ P τ bo lo x (sk (σ 7) (σ 9 0) T) (enX σ (sk (σ 7) (σ 9 0) T)) l_ (d_ + 1) p_ pf ∧ Ext M M' x x)) 0 0 (DA M sz) := by
  refine x_start (by decide) (Nat.le_of_ble_eq_true rfl) ?_
  intro p e s m below meth c ⟨S, hr, hlk, hH, hK, hX, hsz, hnm⟩ ls hl
  have hXN : XN s := hX.1
  subst hsz
  obtain ⟨hx, hb, hml, hown, hts⟩ := S
  have S : CallFix p m c _ _ s _ lw_all RX3 := ⟨hx, hb, hml, hown, hts⟩
  have hA : ∀ q, s.heap.size ≤ q → DA M s.heap.size q := fun q hq => Or.inr hq
  have hl : lv_has ls 1 [(0, .ref (P 7))] := hl
  refine lv_aload_n hx hb dX3_open_0 rfl (lv_at hl 0 rfl) ?_
  refine lv_aload_n hx hb dX3_open_1 rfl (lv_at hl 0 rfl) ?_
  refine x_get hx hb hts in_X3 hown hK hH hD.c rfl 3 (by decide) q310 (fun _ h9 => h9) rfl (by decide) dX3_open_2 ?_
  refine n_bipush (z := 8) hx hb dX3_open_5 (by decide) ?_
  refine n_icmp_ge (tgt := 14) hx hb (r32 (by omega)) (r32 (by omega)) dX3_open_7 (by decide) (fun c_7 => ?_) (fun c_7 => ?_)
  · -- 7T
    exact absurd c_7 (by omega)
  · -- 7F
    refine n_iconst hx hb dX3_open_10 ?_
    refine lv_goto (tgt := 15) hx hb dX3_open_11 (by decide) ?_
    refine x_callv (x_runV (As := [.int (iI 1)]) (rest := []) S hH hK (hX.at hH) XRd_b hl.1 hD.c rfl (xm_X3_mustY l G M K a σ P τ bo lo x F T l_ d_ p_ pf 1 _ hD (by omega)) (lw_V q833 q835 qs14 q108 q836) kd_X3_must rfl rfl dX3_open_15) hH hA (fun M15_ H locs q_15 hH hz_15 => ?_)
    have hH := XV_to hH q_15
    refine lv_aload_n hx hb dX3_open_18 rfl (lv_at hl 0 rfl) ?_
    refine lv_dup hx hb dX3_open_19 rfl ?_
    refine x_get hx hb hts in_X3 hown hK hH hD.c rfl 3 (by decide) q310 (fun _ h9 => h9) rfl (by decide) dX3_open_20 ?_
    refine n_iconst hx hb dX3_open_23 ?_
    refine n_iadd hx hb dX3_open_24 ?_
    refine x_put (ty := .int) hx hb hts in_X3 tyX3 tyX3_ok nmX3 hown hK hH hD.c rfl 3 (by decide) q310 (fun _ h9 => h9) rfl (by decide +kernel) rfl rfl (Nat.le_of_ble_eq_true rfl) (by decide) dX3_open_25 (fun H locs hH => ?_)
    obtain ⟨M1, e_M1⟩ : ∃ M1, M1 = hs M (P 7) (oB 4 [.int (iI F), .int (iI T), .int (iI l_), .int (iI (d_ + 1)), .int (iI p_), .ref (P 24), .ref (P 25), .ref (P 26), .ref (P 27), .ref a]) := ⟨_, rfl⟩
    have hH := XV_to hH e_M1.symm
    have f1 : M1 (P 7) = some (oB 4 [.int (iI F), .int (iI T), .int (iI l_), .int (iI (d_ + 1)), .int (iI p_), .ref (P 24), .ref (P 25), .ref (P 26), .ref (P 27), .ref a]) := by rw [e_M1]; exact hs_s
    obtain ⟨hD2, hX2⟩ := hD.put3 (v := (d_ + 1))
    rw [← e_M1] at hD2 hX2
    refine lv_aload_n hx hb dX3_open_28 rfl (lv_at hl 0 rfl) ?_
    refine x_callv (x_runV (As := []) (rest := []) S hH hK (hX.at hH) XRd_b hl.1 hD2.c rfl (xm_X3_next l G M1 K a σ P τ bo lo x F T l_ (d_ + 1) p_ pf _ hD2 hB8 (by omega) (by omega) (by omega)) (lw_V q823 q825 qs13 q108 q826) kd_X3_next rfl rfl dX3_open_29) hH hA (fun M29_ H locs q_29 hH hz_29 => ?_)
    obtain ⟨hD3, hX3⟩ := q_29
    have hE3 := hX2.tr hX3
    refine x_vret hx hb hr hlk hH dX3_open_32 ?_
    exact ⟨hD3, hE3⟩
theorem xm_X3_openN (l : Launch) (G : MG) (M : Hp) (K : (Nat → Nat) × (Nat → Nat)) (a : Nat) (σ : St) (P : Nat → Nat) (τ : Int → Int) (bo : Nat) (lo : Int) (x : XGh) (F : Int) (T : Int) (l_ : Int) (d_ : Int) (p_ : Int) (pf : Int → Option Nat) (sz : Nat) (hD : RD G M a σ P τ bo lo x F T l_ d_ p_ pf) (hd0 : 0 ≤ d_) (hd1 : ¬ d_ < 8) (hd2 : d_ ≤ 8) : vx_Met l yX3_open (ws_ yX3_open cX3_open 1 none) (rmX 6 1 7) (xP G (XRd K M) [.ref (P 7)] M sz) (xQv G (DA M sz) (fun _ => False)) (rXc G (DA M sz) (fun pl M' => pl = F ∧ RDx G M' a σ P)) 1 7 (DA M sz) := by
  refine r_start (by decide) (Nat.le_of_ble_eq_true rfl) ?_
  intro p e s m below meth c ⟨S, hr, hlk, hH, hK, hX, hsz, hnm⟩ hto ls hl
  have hXN : XN s := hX.1
  subst hsz
  obtain ⟨hx, hb, hml, hown, hts⟩ := S
  have S : CallFix p m c _ _ s _ lw_all RX3 := ⟨hx, hb, hml, hown, hts⟩
  have hA : ∀ q, s.heap.size ≤ q → DA M s.heap.size q := fun q hq => Or.inr hq
  have hl : lv_has ls 1 [(0, .ref (P 7))] := hl
  refine lv_aload_n hx hb dX3_open_0 rfl (lv_at hl 0 rfl) ?_
  refine lv_aload_n hx hb dX3_open_1 rfl (lv_at hl 0 rfl) ?_
  refine x_get hx hb hts in_X3 hown hK hH hD.c rfl 3 (by decide) q310 (fun _ h9 => h9) rfl (by decide) dX3_open_2 ?_
  refine n_bipush (z := 8) hx hb dX3_open_5 (by decide) ?_
  refine n_icmp_ge (tgt := 14) hx hb (r32 (by omega)) (r32 (by omega)) dX3_open_7 (by decide) (fun c_7 => ?_) (fun c_7 => ?_)
  · -- 7T
    refine n_iconst hx hb dX3_open_14 ?_
    refine r_callv (r_runV (As := [.int (iI 0)]) (rest := []) S hH hK (hX.at hH) XRd_b hl.1 hD.c rfl (xm_X3_mustN l G M K a σ P τ bo lo x F T l_ d_ p_ pf 0 _ hD (by omega)) (lw_V q833 q835 qs14 q108 q836) kd_X3_must rfl rfl dX3_open_15) hH hA (fun q9_15 pl_15 M9_15 H locs hT_15 => r_out hto hlk hT_15 (hT_15.1) (Nat.le_of_ble_eq_true rfl) (Nat.le_of_ble_eq_true rfl)) (fun M15_ H locs q_15 hH hz_15 => ?_)
    exact q_15.elim
  · -- 7F
    exact absurd c_7 (by omega)
theorem kd_X3_close : yX3_close.cls = RX3 ∧ yX3_close.cls ≠ "java/lang/invoke/MethodHandle" ∧ yX3_close.cls ≠ "java/lang/invoke/VarHandle" ∧ (parseMethodDescriptor yX3_close.desc).map (fun d => d.parameters.length) = some 1 := by decide +kernel
theorem xm_X3_closeY (l : Launch) (G : MG) (M : Hp) (K : (Nat → Nat) × (Nat → Nat)) (a : Nat) (σ : St) (P : Nat → Nat) (τ : Int → Int) (bo : Nat) (lo : Int) (x : XGh) (F : Int) (T : Int) (l_ : Int) (d_ : Int) (p_ : Int) (pf : Int → Option Nat) (i_ : Nat) (sz : Nat) (hD : RD G M a σ P τ bo lo x F T l_ d_ p_ pf) (hi : i_ < 37) (ht : tokX σ F T i_) (hd0 : 1 ≤ d_) (hd1 : d_ ≤ 9) (hF0 : 0 ≤ F) (hF1 : F ≤ T) (hT4 : T ≤ 400) (hB8 : ∀ i, -128 ≤ σ 7 i ∧ σ 7 i < 128) (h0 : 0 ≤ T) (h1 : T ≤ σ 9 0) (h4 : σ 9 0 ≤ 400) : Met l yX3_close (ws_ yX3_close cX3_close 2 none) (rmD 7) (xP G (XRd K M) [.ref (P 7), .ref (K.1 i_)] M sz) (xQv G (DA M sz) (fun M' => RD G M' a σ P τ bo lo x (sk (σ 7) (σ 9 0) T) (enX σ (sk (σ 7) (σ 9 0) T)) l_ (d_ - 1) p_ pf ∧ Ext M M' x x)) 0 0 (DA M sz) := by
  refine x_start (by decide) (Nat.le_of_ble_eq_true rfl) ?_
  intro p e s m below meth c ⟨S, hr, hlk, hH, hK, hX, hsz, hnm⟩ ls hl
  have hXN : XN s := hX.1
  subst hsz
  obtain ⟨hx, hb, hml, hown, hts⟩ := S
  have S : CallFix p m c _ _ s _ lw_all RX3 := ⟨hx, hb, hml, hown, hts⟩
  have hA : ∀ q, s.heap.size ≤ q → DA M s.heap.size q := fun q hq => Or.inr hq
  have hl : lv_has ls 2 [(0, .ref (P 7)), (1, .ref (K.1 i_))] := hl
  refine lv_aload_n hx hb dX3_close_0 rfl (lv_at hl 0 rfl) ?_
  refine lv_aload_n hx hb dX3_close_1 rfl (lv_at hl 0 rfl) ?_
  refine lv_aload_n hx hb dX3_close_2 rfl (lv_at hl 1 rfl) ?_
  refine x_calli (x_runV (As := [.ref (K.1 i_)]) (rest := [.ref (P 7)]) S hH hK (hX.at hH) XRd_b hl.1 hD.c rfl (xm_X3_acceptY l G M K a σ P τ bo lo x F T l_ d_ p_ pf i_ _ hD hi ht (by omega) (by omega) (by omega) hB8 (by omega) (by omega) (by omega)) (lw_V q982 q984 qs24 q108 q985) kd_X3_accept rfl rfl dX3_close_3) hH hA (fun z3 M3_ H locs q_3 hH hz_3 => ?_)
  obtain ⟨ez_3, hD1, hX1⟩ := q_3
  subst ez_3
  refine x_callv (x_runV (As := [.int (iI 1)]) (rest := []) S hH hK (hX.at hH) XRd_b hl.1 hD1.c rfl (xm_X3_mustY l G M3_ K a σ P τ bo lo x (sk (σ 7) (σ 9 0) T) (enX σ (sk (σ 7) (σ 9 0) T)) l_ d_ p_ pf 1 _ hD1 (by omega)) (lw_V q833 q835 qs14 q108 q836) kd_X3_must rfl rfl dX3_close_6) hH hA (fun M6_ H locs q_6 hH hz_6 => ?_)
  have hH := XV_to hH q_6
  refine lv_aload_n hx hb dX3_close_9 rfl (lv_at hl 0 rfl) ?_
  refine lv_dup hx hb dX3_close_10 rfl ?_
  refine x_get hx hb hts in_X3 hown hK hH hD1.c rfl 3 (by decide) q310 (fun _ h9 => h9) rfl (by decide) dX3_close_11 ?_
  refine n_iconst hx hb dX3_close_14 ?_
  refine n_isub hx hb dX3_close_15 ?_
  refine x_put (ty := .int) hx hb hts in_X3 tyX3 tyX3_ok nmX3 hown hK hH hD1.c rfl 3 (by decide) q310 (fun _ h9 => h9) rfl (by decide +kernel) rfl rfl (Nat.le_of_ble_eq_true rfl) (by decide) dX3_close_16 (fun H locs hH => ?_)
  obtain ⟨M2, e_M2⟩ : ∃ M2, M2 = hs M3_ (P 7) (oB 4 [.int (iI (sk (σ 7) (σ 9 0) T)), .int (iI (enX σ (sk (σ 7) (σ 9 0) T))), .int (iI l_), .int (iI (d_ - 1)), .int (iI p_), .ref (P 24), .ref (P 25), .ref (P 26), .ref (P 27), .ref a]) := ⟨_, rfl⟩
  have hH := XV_to hH e_M2.symm
  have f2 : M2 (P 7) = some (oB 4 [.int (iI (sk (σ 7) (σ 9 0) T)), .int (iI (enX σ (sk (σ 7) (σ 9 0) T))), .int (iI l_), .int (iI (d_ - 1)), .int (iI p_), .ref (P 24), .ref (P 25), .ref (P 26), .ref (P 27), .ref a]) := by rw [e_M2]; exact hs_s
  obtain ⟨hD3, hX3⟩ := hD1.put3 (v := (d_ - 1))
  rw [← e_M2] at hD3 hX3
  have hE3 := hX1.tr hX3
  refine x_vret hx hb hr hlk hH dX3_close_19 ?_
  exact ⟨hD3, hE3⟩
theorem xm_X3_closeN (l : Launch) (G : MG) (M : Hp) (K : (Nat → Nat) × (Nat → Nat)) (a : Nat) (σ : St) (P : Nat → Nat) (τ : Int → Int) (bo : Nat) (lo : Int) (x : XGh) (F : Int) (T : Int) (l_ : Int) (d_ : Int) (p_ : Int) (pf : Int → Option Nat) (i_ : Nat) (sz : Nat) (hD : RD G M a σ P τ bo lo x F T l_ d_ p_ pf) (hi : i_ < 37) (ht : ¬ tokX σ F T i_) (hF0 : 0 ≤ F) (hF1 : F ≤ T) (hT4 : T ≤ 400) (hB8 : ∀ i, -128 ≤ σ 7 i ∧ σ 7 i < 128) : vx_Met l yX3_close (ws_ yX3_close cX3_close 2 none) (rmX 7 1 7) (xP G (XRd K M) [.ref (P 7), .ref (K.1 i_)] M sz) (xQv G (DA M sz) (fun _ => False)) (rXc G (DA M sz) (fun pl M' => pl = F ∧ RDx G M' a σ P)) 1 7 (DA M sz) := by
  refine r_start (by decide) (Nat.le_of_ble_eq_true rfl) ?_
  intro p e s m below meth c ⟨S, hr, hlk, hH, hK, hX, hsz, hnm⟩ hto ls hl
  have hXN : XN s := hX.1
  subst hsz
  obtain ⟨hx, hb, hml, hown, hts⟩ := S
  have S : CallFix p m c _ _ s _ lw_all RX3 := ⟨hx, hb, hml, hown, hts⟩
  have hA : ∀ q, s.heap.size ≤ q → DA M s.heap.size q := fun q hq => Or.inr hq
  have hl : lv_has ls 2 [(0, .ref (P 7)), (1, .ref (K.1 i_))] := hl
  refine lv_aload_n hx hb dX3_close_0 rfl (lv_at hl 0 rfl) ?_
  refine lv_aload_n hx hb dX3_close_1 rfl (lv_at hl 0 rfl) ?_
  refine lv_aload_n hx hb dX3_close_2 rfl (lv_at hl 1 rfl) ?_
  refine x_calliF (x_runV (As := [.ref (K.1 i_)]) (rest := [.ref (P 7)]) S hH hK (hX.at hH) XRd_b hl.1 hD.c rfl (xm_X3_acceptN l G M K a σ P τ bo lo x F T l_ d_ p_ pf i_ _ hD hi ht (by omega) (by omega) (by omega) hB8) (lw_V q982 q984 qs24 q108 q985) kd_X3_accept rfl rfl dX3_close_3) hH hA (fun H locs hH => ?_)
  refine r_callv (r_runV (As := [.int (iI 0)]) (rest := []) S hH hK (hX.at hH) XRd_b hl.1 hD.c rfl (xm_X3_mustN l G M K a σ P τ bo lo x F T l_ d_ p_ pf 0 _ hD (by omega)) (lw_V q833 q835 qs14 q108 q836) kd_X3_must rfl rfl dX3_close_6) hH hA (fun q9_6 pl_6 M9_6 H locs hT_6 => r_out hto hlk hT_6 (hT_6.1) (Nat.le_of_ble_eq_true rfl) (Nat.le_of_ble_eq_true rfl)) (fun M6_ H locs q_6 hH hz_6 => ?_)
  exact q_6.elim
