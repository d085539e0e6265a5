theorem kd_X22_odds : yX22_odds.cls = RX22 ∧ yX22_odds.cls ≠ "java/lang/invoke/MethodHandle" ∧ yX22_odds.cls ≠ "java/lang/invoke/VarHandle" ∧ (parseMethodDescriptor yX22_odds.desc).map (fun d => d.parameters.length) = some 1 := by decide +kernel
theorem xm_X22_odds (l : Launch) (G : MG) (M : Hp) (n : Nat) (L_ : List Cl) (ci : Nat) (nb : Nat) (t : Int) (g : Int → Int) (a : Nat) (c_ : Nat) (sz : Nat) (hT : TextAt G n (hN M) a L_) (hC : CaseN G (hN M) c_ ci nb t g) : Met l yX22_odds (ws_ yX22_odds cX22_odds 8 (some .int)) (rmD (n + 6)) (gP G.1 clA (tyA G.2.1) XN [.ref a, .ref c_] M sz) (gQi G.1 clA (DA M sz) (fun z M' => z = odd L_ g ∧ hN M' = hN M)) 0 0 (DA M sz) := by
  refine g_start (by decide) (Nat.le_of_ble_eq_true rfl) ?_
  intro p e s m below meth c ⟨S, hr, hlk, hH, hK, hXN, hsz, hnm⟩ ls hl
  subst hsz
  obtain ⟨hx, hb, hml, hown, hts⟩ := S
  have S : CallFix p m c _ _ s _ lw_all RX22 := ⟨hx, hb, hml, hown, hts⟩
  have hA : ∀ q, s.heap.size ≤ q → DA M s.heap.size q := fun q hq => Or.inr hq
  have hl : lv_has ls 8 [(0, .ref a), (1, .ref c_)] := hl
  have hT0 := hT
  obtain ⟨ar, k_, F, fa0, far0, hk, hk12, hF⟩ := hT
  have hn : hN M = hN M := rfl
  have L16 : ∀ (q : Nat) (h1 : Hp) (i : Int), (hn1 : hN h1 = hN M) → (hi0 : 0 ≤ i) → (hi1 : i ≤ (k_ : Int)) → (hq : (k_ : Int) < (q : Int) + i) → ∀ (H : Heap) (locs : List Loc) (ls : Array Slot), HV G.1 clA (DA M s.heap.size) h1 s.heap H locs → lv_has ls 8 [(0, .ref a), (1, .ref c_), (2, .long (lI (xoN L_ g i.toNat))), (4, .ref ar), (5, .int (iI ((k_ : Nat) : Int))), (6, .int (iI i))] → W p l e (rmD (n + 6)) s m ([.ref a, .ref c_] : List Value).toArray below meth c H locs 0 0 (MQ below (gQi G.1 clA (DA M s.heap.size) (fun z M' => z = odd L_ g ∧ hN M' = hN M)) ([.ref a, .ref c_] : List Value).toArray s 0 0 (DA M s.heap.size)) (F0 m 16 ls []) := by
    intro q
    induction q with
    | zero => intro h1 i hn1 hi0 hi1 hq; exfalso; omega
    | succ q ih_16 =>
      intro h1 i hn1 hi0 hi1 hq H locs ls hH hl
      have hsr := TextAt_S hT0 hC.2.2.2 i.toNat
      have hxr := xoN_r (l := L_) (a := g) (fun n => TextAt_S hT0 hC.2.2.2 n) i.toNat
      refine lv_iload hx hb dX22_odds_16 (lv_at hl 5 rfl) ?_
      refine lv_iload hx hb dX22_odds_18 (lv_at hl 4 rfl) ?_
      refine n_icmp_ge (tgt := 87) hx hb (r32 (by omega)) (r32 (by omega)) dX22_odds_20 (by decide) (fun c_20 => ?_) (fun c_20 => ?_)
      · -- 20T
        refine n_lconst (z := 0) hx hb dX22_odds_87 (by decide) ?_
        refine lv_ldc2 (v := lI 100) hx hb hown (hts _ q1222) dX22_odds_88 ?_
        refine lv_lload_n hx hb dX22_odds_91 rfl (lv_at hl 2 rfl) ?_
        refine n_mminL hx hb hts (hml.trans hl.1.symm) hown (r64 (by omega)) (r64 (by omega)) q1223 q1224 q115 q1225 ⟨by dsimp only [rmD]; omega, by dsimp only [rmD]; omega⟩ ⟨Nat.le_of_ble_eq_true rfl, Nat.le_of_ble_eq_true rfl⟩ (Nat.le_of_ble_eq_true rfl) dX22_odds_92 ?_
        refine n_mmaxL hx hb hts (hml.trans hl.1.symm) hown (r64 (by omega)) (r64 (by omega)) q1226 q1227 q115 q1228 ⟨by dsimp only [rmD]; omega, by dsimp only [rmD]; omega⟩ ⟨Nat.le_of_ble_eq_true rfl, Nat.le_of_ble_eq_true rfl⟩ (Nat.le_of_ble_eq_true rfl) dX22_odds_95 ?_
        refine W.eq (g2 := F0 m 98 ls (.long (lI (odd L_ g)) :: [])) (by rw [near_mm (by decide), xoN_n, odd, show i.toNat = L_.length by omega]) ?_
        refine n_l2i hx hb dX22_odds_98 ?_
        refine g_iret hx hb hr hlk hH dX22_odds_99 ?_
        exact ⟨rfl, hn1⟩
      · -- 20F
        obtain ⟨y, hy1, hy2⟩ := hF i.toNat (by omega)
        rw [Int.toNat_of_nonneg hi0] at hy1
        obtain ⟨so, te, fy0, hd5, -, -⟩ := id hy2
        obtain ⟨v3, fy⟩ := clX hn1 fy0
        have fy : h1 y = some (oB 18 [.int (iI (hdN L_ i.toNat - 1)), va_rf so, va_rf te, v3]) := fy
        have hd5 : 1 ≤ hdN L_ i.toNat ∧ hdN L_ i.toNat ≤ 5 := hd5
        refine lv_aload hx hb dX22_odds_23 (lv_at hl 3 rfl) ?_
        refine lv_iload hx hb dX22_odds_25 (lv_at hl 5 rfl) ?_
        refine g_aald hx hb hK hH 11 (nA hn1 far0) rfl (by omega) (by omega) (by omega) (v := some y) hy1 dX22_odds_27 ?_
        refine lv_astore hx hb dX22_odds_28 hl (Nat.le_of_ble_eq_true rfl) (lv' := [(7, .ref y), (0, .ref a), (1, .ref c_), (2, .long (lI (xoN L_ g i.toNat))), (4, .ref ar), (5, .int (iI ((k_ : Nat) : Int))), (6, .int (iI i))]) rfl (fun ls hl => ?_)
        refine lv_aload hx hb dX22_odds_30 (lv_at hl 0 rfl) ?_
        refine g_getN (ci := 18) hx hb hts in_X21 hown hK hH fy rfl 0 (by decide) (hXN.1 _ q1126 rfl) (fun _ h9 => h9) rfl dX22_odds_32 ?_
        refine n_iconst hx hb dX22_odds_35 ?_
        refine n_icmp_gt (tgt := 81) hx hb (r32 (by omega)) (r32 (by omega)) dX22_odds_36 (by decide) (fun c_36 => ?_) (fun c_36 => ?_)
        · -- 36T
          refine n_iinc hx hb dX22_odds_81 hl (k := 6) rfl (Nat.le_of_ble_eq_true rfl) (lv' := [(6, .int (iI (i + 1))), (7, .ref y), (0, .ref a), (1, .ref c_), (2, .long (lI (xoN L_ g i.toNat))), (4, .ref ar), (5, .int (iI ((k_ : Nat) : Int)))]) rfl (fun ls hl => ?_)
          refine lv_goto (tgt := 16) hx hb dX22_odds_84 (by decide) ?_
          have hl : lv_has ls 8 [(0, .ref a), (1, .ref c_), (2, .long (lI (xoN L_ g i.toNat))), (4, .ref ar), (5, .int (iI ((k_ : Nat) : Int))), (6, .int (iI (i + 1)))] := lv_sub hl [2, 3, 4, 5, 6, 0] rfl
          have hl : lv_has ls 8 [(0, .ref a), (1, .ref c_), (2, .long (lI (xoN L_ g (i + 1).toNat))), (4, .ref ar), (5, .int (iI ((k_ : Nat) : Int))), (6, .int (iI (i + 1)))] := by rw [xoN_e hi0]; (repeat' split) <;> first | exact hl | (exfalso; omega)
          refine ih_16 h1 (i + 1) ?_ ?_ ?_ ?_ _ _ _ hH hl
          · first | exact hn2 | exact hn1
          · omega
          · omega
          · omega
        · -- 36F
          refine lv_aload hx hb dX22_odds_39 (lv_at hl 0 rfl) ?_
          refine lv_aload_n hx hb dX22_odds_41 rfl (lv_at hl 2 rfl) ?_
          refine g_calli (g_runV (As := [.ref c_]) (rest := []) S hH hK (fun _ _ hW => XN.warm hW hXN) XN_b fy rfl hl.1 (xm_X21_holds l G h1 n (L_.getD i.toNat cl0) ci nb t g y c_ _ (show ClauseAt G n (hN h1) y (L_.getD i.toNat cl0) by rw [hn1]; exact hy2) (show CaseN G (hN h1) c_ ci nb t g by rw [hn1]; exact hC)) (lw_V q1173 q1174 q1175 q134 q1176) kd_X21_holds rfl rfl dX22_odds_42 (hR := ⟨by dsimp only [rmD]; omega, by dsimp only [rmD]; omega⟩)) hH hA (fun z42 M42_ H locs q_42 hH hz_42 => ?_)
          obtain ⟨n42, e42, t42⟩ := q_42
          have e42 : z42 = hoN L_ g i.toNat := e42
          subst e42
          have hn2 := n42.trans hn1
          have hh := ho_01 (l := L_) (a := g) i.toNat
          refine n_if_eq (tgt := 81) hx hb (r32 (by omega)) dX22_odds_45 (by decide) (fun c_45 => ?_) (fun c_45 => ?_)
          · -- 45T
            refine n_iinc hx hb dX22_odds_81 hl (k := 6) rfl (Nat.le_of_ble_eq_true rfl) (lv' := [(6, .int (iI (i + 1))), (7, .ref y), (0, .ref a), (1, .ref c_), (2, .long (lI (xoN L_ g i.toNat))), (4, .ref ar), (5, .int (iI ((k_ : Nat) : Int)))]) rfl (fun ls hl => ?_)
            refine lv_goto (tgt := 16) hx hb dX22_odds_84 (by decide) ?_
            have hl : lv_has ls 8 [(0, .ref a), (1, .ref c_), (2, .long (lI (xoN L_ g i.toNat))), (4, .ref ar), (5, .int (iI ((k_ : Nat) : Int))), (6, .int (iI (i + 1)))] := lv_sub hl [2, 3, 4, 5, 6, 0] rfl
            have hl : lv_has ls 8 [(0, .ref a), (1, .ref c_), (2, .long (lI (xoN L_ g (i + 1).toNat))), (4, .ref ar), (5, .int (iI ((k_ : Nat) : Int))), (6, .int (iI (i + 1)))] := by rw [xoN_e hi0]; (repeat' split) <;> first | exact hl | (exfalso; omega)
            refine ih_16 M42_ (i + 1) ?_ ?_ ?_ ?_ _ _ _ hH hl
            · first | exact hn2 | exact hn1
            · omega
            · omega
            · omega
          · -- 45F
            obtain ⟨so2, te2, fk⟩ := t42 (by omega)
            have fk : M42_ y = some (oB 18 [.int (iI (hdN L_ i.toNat - 1)), va_rf so2, va_rf te2, .long (lI (saN L_ g i.toNat))]) := fk
            refine lv_aload hx hb dX22_odds_48 (lv_at hl 0 rfl) ?_
            refine g_getN (ci := 18) hx hb hts in_X21 hown hK hH fk rfl 0 (by decide) (hXN.1 _ q1126 rfl) (fun _ h9 => h9) rfl dX22_odds_50 ?_
            refine n_if_ne (tgt := 60) hx hb (r32 (by omega)) dX22_odds_53 (by decide) (fun c_53 => ?_) (fun c_53 => ?_)
            · -- 53T
              refine lv_aload hx hb dX22_odds_60 (lv_at hl 0 rfl) ?_
              refine g_getN (ci := 18) hx hb hts in_X21 hown hK hH fk rfl 0 (by decide) (hXN.1 _ q1126 rfl) (fun _ h9 => h9) rfl dX22_odds_62 ?_
              refine n_iconst hx hb dX22_odds_65 ?_
              refine n_icmp_ne (tgt := 75) hx hb (r32 (by omega)) (r32 (by omega)) dX22_odds_66 (by decide) (fun c_66 => ?_) (fun c_66 => ?_)
              · -- 66T
                refine lv_aload hx hb dX22_odds_75 (lv_at hl 0 rfl) ?_
                refine g_getN (ci := 18) hx hb hts in_X21 hown hK hH fk rfl 3 (by decide) (hXN.1 _ q1131 rfl) (fun _ h9 => h9) rfl dX22_odds_77 ?_
                refine lv_lstore_n hx hb dX22_odds_80 rfl hl (Nat.le_of_ble_eq_true rfl) (lv' := [(2, .long (lI (saN L_ g i.toNat))), (7, .ref y), (0, .ref a), (1, .ref c_), (4, .ref ar), (5, .int (iI ((k_ : Nat) : Int))), (6, .int (iI i))]) rfl (fun ls hl => ?_)
                refine n_iinc hx hb dX22_odds_81 hl (k := 6) rfl (Nat.le_of_ble_eq_true rfl) (lv' := [(6, .int (iI (i + 1))), (2, .long (lI (saN L_ g i.toNat))), (7, .ref y), (0, .ref a), (1, .ref c_), (4, .ref ar), (5, .int (iI ((k_ : Nat) : Int)))]) rfl (fun ls hl => ?_)
                refine lv_goto (tgt := 16) hx hb dX22_odds_84 (by decide) ?_
                have hl : lv_has ls 8 [(0, .ref a), (1, .ref c_), (2, .long (lI (saN L_ g i.toNat))), (4, .ref ar), (5, .int (iI ((k_ : Nat) : Int))), (6, .int (iI (i + 1)))] := lv_sub hl [3, 4, 1, 5, 6, 0] rfl
                have hl : lv_has ls 8 [(0, .ref a), (1, .ref c_), (2, .long (lI (xoN L_ g (i + 1).toNat))), (4, .ref ar), (5, .int (iI ((k_ : Nat) : Int))), (6, .int (iI (i + 1)))] := by rw [xoN_e hi0]; (repeat' split) <;> first | exact hl | (exfalso; omega)
                refine ih_16 M42_ (i + 1) ?_ ?_ ?_ ?_ _ _ _ hH hl
                · first | exact hn2 | exact hn1
                · omega
                · omega
                · omega
              · -- 66F
                refine lv_ldc2 (v := lI 100) hx hb hown (hts _ q1222) dX22_odds_69 ?_
                refine lv_goto (tgt := 80) hx hb dX22_odds_72 (by decide) ?_
                refine lv_lstore_n hx hb dX22_odds_80 rfl hl (Nat.le_of_ble_eq_true rfl) (lv' := [(2, .long (lI 100)), (7, .ref y), (0, .ref a), (1, .ref c_), (4, .ref ar), (5, .int (iI ((k_ : Nat) : Int))), (6, .int (iI i))]) rfl (fun ls hl => ?_)
                refine n_iinc hx hb dX22_odds_81 hl (k := 6) rfl (Nat.le_of_ble_eq_true rfl) (lv' := [(6, .int (iI (i + 1))), (2, .long (lI 100)), (7, .ref y), (0, .ref a), (1, .ref c_), (4, .ref ar), (5, .int (iI ((k_ : Nat) : Int)))]) rfl (fun ls hl => ?_)
                refine lv_goto (tgt := 16) hx hb dX22_odds_84 (by decide) ?_
                have hl : lv_has ls 8 [(0, .ref a), (1, .ref c_), (2, .long (lI 100)), (4, .ref ar), (5, .int (iI ((k_ : Nat) : Int))), (6, .int (iI (i + 1)))] := lv_sub hl [3, 4, 1, 5, 6, 0] rfl
                have hl : lv_has ls 8 [(0, .ref a), (1, .ref c_), (2, .long (lI (xoN L_ g (i + 1).toNat))), (4, .ref ar), (5, .int (iI ((k_ : Nat) : Int))), (6, .int (iI (i + 1)))] := by rw [xoN_e hi0]; (repeat' split) <;> first | exact hl | (exfalso; omega)
                refine ih_16 M42_ (i + 1) ?_ ?_ ?_ ?_ _ _ _ hH hl
                · first | exact hn2 | exact hn1
                · omega
                · omega
                · omega
            · -- 53F
              refine n_lconst (z := 0) hx hb dX22_odds_56 (by decide) ?_
              refine lv_goto (tgt := 80) hx hb dX22_odds_57 (by decide) ?_
              refine lv_lstore_n hx hb dX22_odds_80 rfl hl (Nat.le_of_ble_eq_true rfl) (lv' := [(2, .long (lI 0)), (7, .ref y), (0, .ref a), (1, .ref c_), (4, .ref ar), (5, .int (iI ((k_ : Nat) : Int))), (6, .int (iI i))]) rfl (fun ls hl => ?_)
              refine n_iinc hx hb dX22_odds_81 hl (k := 6) rfl (Nat.le_of_ble_eq_true rfl) (lv' := [(6, .int (iI (i + 1))), (2, .long (lI 0)), (7, .ref y), (0, .ref a), (1, .ref c_), (4, .ref ar), (5, .int (iI ((k_ : Nat) : Int)))]) rfl (fun ls hl => ?_)
              refine lv_goto (tgt := 16) hx hb dX22_odds_84 (by decide) ?_
              have hl : lv_has ls 8 [(0, .ref a), (1, .ref c_), (2, .long (lI 0)), (4, .ref ar), (5, .int (iI ((k_ : Nat) : Int))), (6, .int (iI (i + 1)))] := lv_sub hl [3, 4, 1, 5, 6, 0] rfl
              have hl : lv_has ls 8 [(0, .ref a), (1, .ref c_), (2, .long (lI (xoN L_ g (i + 1).toNat))), (4, .ref ar), (5, .int (iI ((k_ : Nat) : Int))), (6, .int (iI (i + 1)))] := by rw [xoN_e hi0]; (repeat' split) <;> first | exact hl | (exfalso; omega)
              refine ih_16 M42_ (i + 1) ?_ ?_ ?_ ?_ _ _ _ hH hl
              · first | exact hn2 | exact hn1
              · omega
              · omega
              · omega
  refine n_lconst (z := 0) hx hb dX22_odds_0 (by decide) ?_
  refine lv_lstore_n hx hb dX22_odds_1 rfl hl (Nat.le_of_ble_eq_true rfl) (lv' := [(2, .long (lI 0)), (0, .ref a), (1, .ref c_)]) rfl (fun ls hl => ?_)
  refine lv_aload_n hx hb dX22_odds_2 rfl (lv_at hl 1 rfl) ?_
  refine g_get (ci := 19) hx hb hts in_X22 hown hK hH (nO hn fa0 rfl) rfl 0 (by decide) (hts _ q1148) (fun _ h9 => h9) rfl dX22_odds_3 ?_
  refine lv_astore hx hb dX22_odds_6 hl (Nat.le_of_ble_eq_true rfl) (lv' := [(4, .ref ar), (2, .long (lI 0)), (0, .ref a), (1, .ref c_)]) rfl (fun ls hl => ?_)
  refine lv_aload hx hb dX22_odds_8 (lv_at hl 0 rfl) ?_
  refine g_alenI (n := ((k_ : Nat) : Int)) hx hb hK hH 11 (nA hn far0) rfl rfl dX22_odds_10 ?_
  refine lv_istore hx hb dX22_odds_11 hl (Nat.le_of_ble_eq_true rfl) (lv' := [(5, .int (iI ((k_ : Nat) : Int))), (4, .ref ar), (2, .long (lI 0)), (0, .ref a), (1, .ref c_)]) rfl (fun ls hl => ?_)
  refine n_iconst hx hb dX22_odds_13 ?_
  refine lv_istore hx hb dX22_odds_14 hl (Nat.le_of_ble_eq_true rfl) (lv' := [(6, .int (iI 0)), (5, .int (iI ((k_ : Nat) : Int))), (4, .ref ar), (2, .long (lI 0)), (0, .ref a), (1, .ref c_)]) rfl (fun ls hl => ?_)
  have hl : lv_has ls 8 [(0, .ref a), (1, .ref c_), (2, .long (lI 0)), (4, .ref ar), (5, .int (iI ((k_ : Nat) : Int))), (6, .int (iI 0))] := lv_sub hl [4, 5, 3, 2, 1, 0] rfl
  have hl : lv_has ls 8 [(0, .ref a), (1, .ref c_), (2, .long (lI (xoN L_ g (0 : Int).toNat))), (4, .ref ar), (5, .int (iI ((k_ : Nat) : Int))), (6, .int (iI 0))] := by exact hl
  refine L16 20 M 0 ?_ ?_ ?_ ?_ _ _ _ hH hl
  · rfl
  · omega
  · omega
  · omega
theorem kd_X22_isFair : yX22_isFair.cls = RX22 ∧ yX22_isFair.cls ≠ "java/lang/invoke/MethodHandle" ∧ yX22_isFair.cls ≠ "java/lang/invoke/VarHandle" ∧ (parseMethodDescriptor yX22_isFair.desc).map (fun d => d.parameters.length) = some 1 := by decide +kernel
theorem xm_X22_isFair (l : Launch) (G : MG) (M : Hp) (n : Nat) (L_ : List Cl) (ci : Nat) (nb : Nat) (t : Int) (g : Int → Int) (a : Nat) (c_ : Nat) (sz : Nat) (hT : TextAt G n (hN M) a L_) (hC : CaseN G (hN M) c_ ci nb t g) : Met l yX22_isFair (ws_ yX22_isFair cX22_isFair 7 (some .boolean)) (rmD (n + 6)) (gP G.1 clA (tyA G.2.1) XN [.ref a, .ref c_] M sz) (gQi G.1 clA (DA M sz) (fun z M' => z = fairQ L_ g ∧ hN M' = hN M)) 0 0 (DA M sz) := by
  refine g_start (by decide) (Nat.le_of_ble_eq_true rfl) ?_
  intro p e s m below meth c ⟨S, hr, hlk, hH, hK, hXN, hsz, hnm⟩ ls hl
  subst hsz
  obtain ⟨hx, hb, hml, hown, hts⟩ := S
  have S : CallFix p m c _ _ s _ lw_all RX22 := ⟨hx, hb, hml, hown, hts⟩
  have hA : ∀ q, s.heap.size ≤ q → DA M s.heap.size q := fun q hq => Or.inr hq
  have hl : lv_has ls 7 [(0, .ref a), (1, .ref c_)] := hl
  have hT0 := hT
  obtain ⟨ar, k_, F, fa0, far0, hk, hk12, hF⟩ := hT
  have hn : hN M = hN M := rfl
  have L14 : ∀ (q : Nat) (h1 : Hp) (i : Int) (any : Int), (hn1 : hN h1 = hN M) → (hi0 : 0 ≤ i) → (hi1 : i ≤ (k_ : Int)) → (hq : (k_ : Int) < (q : Int) + i) → (hany : any = 0 ∨ any = 1) → (he : fairN L_ g L_.length 0 0 = fairN L_ g (L_.length - i).toNat i.toNat any) → ∀ (H : Heap) (locs : List Loc) (ls : Array Slot), HV G.1 clA (DA M s.heap.size) h1 s.heap H locs → lv_has ls 7 [(0, .ref a), (1, .ref c_), (2, .int (iI any)), (3, .ref ar), (4, .int (iI ((k_ : Nat) : Int))), (5, .int (iI i))] → W p l e (rmD (n + 6)) s m ([.ref a, .ref c_] : List Value).toArray below meth c H locs 0 0 (MQ below (gQi G.1 clA (DA M s.heap.size) (fun z M' => z = fairQ L_ g ∧ hN M' = hN M)) ([.ref a, .ref c_] : List Value).toArray s 0 0 (DA M s.heap.size)) (F0 m 14 ls []) := by
    intro q
    induction q with
    | zero => intro h1 i any hn1 hi0 hi1 hq hany he; exfalso; omega
    | succ q ih_14 =>
      intro h1 i any hn1 hi0 hi1 hq hany he H locs ls hH hl
      refine lv_iload hx hb dX22_isFair_14 (lv_at hl 5 rfl) ?_
      refine lv_iload hx hb dX22_isFair_16 (lv_at hl 4 rfl) ?_
      refine n_icmp_ge (tgt := 58) hx hb (r32 (by omega)) (r32 (by omega)) dX22_isFair_18 (by decide) (fun c_18 => ?_) (fun c_18 => ?_)
      · -- 18T
        refine lv_iload_n hx hb dX22_isFair_58 rfl (lv_at hl 2 rfl) ?_
        refine n_if_ne (tgt := 66) hx hb (r32 (by omega)) dX22_isFair_59 (by decide) (fun c_59 => ?_) (fun c_59 => ?_)
        · -- 59T
          refine n_iconst hx hb dX22_isFair_66 ?_
          refine g_zret hx hb hr hlk hH dX22_isFair_67 (Or.inl rfl) ?_
          exact ⟨by show _ = fairN _ _ _ _ _; rw [he, show ((L_.length : Int) - i).toNat = 0 by omega, fairN]; first | rw [if_pos (by omega)] | rw [if_neg (by omega)], hn1⟩
        · -- 59F
          refine n_iconst hx hb dX22_isFair_62 ?_
          refine lv_goto (tgt := 67) hx hb dX22_isFair_63 (by decide) ?_
          refine g_zret hx hb hr hlk hH dX22_isFair_67 (Or.inr rfl) ?_
          exact ⟨by show _ = fairN _ _ _ _ _; rw [he, show ((L_.length : Int) - i).toNat = 0 by omega, fairN]; first | rw [if_pos (by omega)] | rw [if_neg (by omega)], hn1⟩
      · -- 18F
        obtain ⟨y, hy1, hy2⟩ := hF i.toNat (by omega)
        rw [Int.toNat_of_nonneg hi0] at hy1
        obtain ⟨so, te, fy0, hd5, -, -⟩ := id hy2
        obtain ⟨v3, fy⟩ := clX hn1 fy0
        have fy : h1 y = some (oB 18 [.int (iI (hdN L_ i.toNat - 1)), va_rf so, va_rf te, v3]) := fy
        have hd5 : 1 ≤ hdN L_ i.toNat ∧ hdN L_ i.toNat ≤ 5 := hd5
        refine lv_aload_n hx hb dX22_isFair_21 rfl (lv_at hl 3 rfl) ?_
        refine lv_iload hx hb dX22_isFair_22 (lv_at hl 5 rfl) ?_
        refine g_aald hx hb hK hH 11 (nA hn1 far0) rfl (by omega) (by omega) (by omega) (v := some y) hy1 dX22_isFair_24 ?_
        refine lv_astore hx hb dX22_isFair_25 hl (Nat.le_of_ble_eq_true rfl) (lv' := [(6, .ref y), (0, .ref a), (1, .ref c_), (2, .int (iI any)), (3, .ref ar), (4, .int (iI ((k_ : Nat) : Int))), (5, .int (iI i))]) rfl (fun ls hl => ?_)
        refine lv_aload hx hb dX22_isFair_27 (lv_at hl 0 rfl) ?_
        refine g_getN (ci := 18) hx hb hts in_X21 hown hK hH fy rfl 0 (by decide) (hXN.1 _ q1126 rfl) (fun _ h9 => h9) rfl dX22_isFair_29 ?_
        refine n_iconst hx hb dX22_isFair_32 ?_
        refine n_icmp_eq (tgt := 39) hx hb (r32 (by omega)) (r32 (by omega)) dX22_isFair_33 (by decide) (fun c_33 => ?_) (fun c_33 => ?_)
        · -- 33T
          refine n_iconst hx hb dX22_isFair_39 ?_
          refine lv_istore_n hx hb dX22_isFair_40 rfl hl (Nat.le_of_ble_eq_true rfl) (lv' := [(2, .int (iI 1)), (6, .ref y), (0, .ref a), (1, .ref c_), (3, .ref ar), (4, .int (iI ((k_ : Nat) : Int))), (5, .int (iI i))]) rfl (fun ls hl => ?_)
          refine lv_aload hx hb dX22_isFair_41 (lv_at hl 1 rfl) ?_
          refine lv_aload_n hx hb dX22_isFair_43 rfl (lv_at hl 3 rfl) ?_
          refine g_calli (g_runV (As := [.ref c_]) (rest := []) S hH hK (fun _ _ hW => XN.warm hW hXN) XN_b fy rfl hl.1 (xm_X21_holds l G h1 n (L_.getD i.toNat cl0) ci nb t g y c_ _ (show ClauseAt G n (hN h1) y (L_.getD i.toNat cl0) by rw [hn1]; exact hy2) (show CaseN G (hN h1) c_ ci nb t g by rw [hn1]; exact hC)) (lw_V q1173 q1174 q1175 q134 q1176) kd_X21_holds rfl rfl dX22_isFair_44 (hR := ⟨by dsimp only [rmD]; omega, by dsimp only [rmD]; omega⟩)) hH hA (fun z44 M44_ H locs q_44 hH hz_44 => ?_)
          obtain ⟨n44, e44, t44⟩ := q_44
          have e44 : z44 = hoN L_ g i.toNat := e44
          subst e44
          have hn2 := n44.trans hn1
          have hh := ho_01 (l := L_) (a := g) i.toNat
          refine n_if_eq (tgt := 52) hx hb (r32 (by omega)) dX22_isFair_47 (by decide) (fun c_47 => ?_) (fun c_47 => ?_)
          · -- 47T
            refine n_iinc hx hb dX22_isFair_52 hl (k := 6) rfl (Nat.le_of_ble_eq_true rfl) (lv' := [(5, .int (iI (i + 1))), (2, .int (iI 1)), (6, .ref y), (0, .ref a), (1, .ref c_), (3, .ref ar), (4, .int (iI ((k_ : Nat) : Int)))]) rfl (fun ls hl => ?_)
            refine lv_goto (tgt := 14) hx hb dX22_isFair_55 (by decide) ?_
            have hl : lv_has ls 7 [(0, .ref a), (1, .ref c_), (2, .int (iI 1)), (3, .ref ar), (4, .int (iI ((k_ : Nat) : Int))), (5, .int (iI (i + 1)))] := lv_sub hl [3, 4, 1, 5, 6, 0] rfl
            refine ih_14 M44_ (i + 1) 1 ?_ ?_ ?_ ?_ ?_ ?_ _ _ _ hH hl
            · first | exact hn2 | exact hn1
            · omega
            · omega
            · omega
            · omega
            · rw [he, fairN_e hi0 (by omega)]
              (repeat' split) <;> first | rfl | (exfalso; omega)
          · -- 47F
            refine n_iconst hx hb dX22_isFair_50 ?_
            refine g_zret hx hb hr hlk hH dX22_isFair_51 (Or.inr rfl) ?_
            exact ⟨by show _ = fairN _ _ _ _ _; rw [he, fairN_e hi0 (by omega), if_pos (by omega), if_pos (by omega)], hn2⟩
        · -- 33F
          refine lv_goto (tgt := 52) hx hb dX22_isFair_36 (by decide) ?_
          refine n_iinc hx hb dX22_isFair_52 hl (k := 6) rfl (Nat.le_of_ble_eq_true rfl) (lv' := [(5, .int (iI (i + 1))), (6, .ref y), (0, .ref a), (1, .ref c_), (2, .int (iI any)), (3, .ref ar), (4, .int (iI ((k_ : Nat) : Int)))]) rfl (fun ls hl => ?_)
          refine lv_goto (tgt := 14) hx hb dX22_isFair_55 (by decide) ?_
          have hl : lv_has ls 7 [(0, .ref a), (1, .ref c_), (2, .int (iI any)), (3, .ref ar), (4, .int (iI ((k_ : Nat) : Int))), (5, .int (iI (i + 1)))] := lv_sub hl [2, 3, 4, 5, 6, 0] rfl
          refine ih_14 h1 (i + 1) any ?_ ?_ ?_ ?_ ?_ ?_ _ _ _ hH hl
          · first | exact hn2 | exact hn1
          · omega
          · omega
          · omega
          · omega
          · rw [he, fairN_e hi0 (by omega)]
            (repeat' split) <;> first | rfl | (exfalso; omega)
  refine n_iconst hx hb dX22_isFair_0 ?_
  refine lv_istore_n hx hb dX22_isFair_1 rfl hl (Nat.le_of_ble_eq_true rfl) (lv' := [(2, .int (iI 0)), (0, .ref a), (1, .ref c_)]) rfl (fun ls hl => ?_)
  refine lv_aload_n hx hb dX22_isFair_2 rfl (lv_at hl 1 rfl) ?_
  refine g_get (ci := 19) hx hb hts in_X22 hown hK hH (nO hn fa0 rfl) rfl 0 (by decide) (hts _ q1148) (fun _ h9 => h9) rfl dX22_isFair_3 ?_
  refine lv_astore_n hx hb dX22_isFair_6 rfl hl (Nat.le_of_ble_eq_true rfl) (lv' := [(3, .ref ar), (2, .int (iI 0)), (0, .ref a), (1, .ref c_)]) rfl (fun ls hl => ?_)
  refine lv_aload_n hx hb dX22_isFair_7 rfl (lv_at hl 0 rfl) ?_
  refine g_alenI (n := ((k_ : Nat) : Int)) hx hb hK hH 11 (nA hn far0) rfl rfl dX22_isFair_8 ?_
  refine lv_istore hx hb dX22_isFair_9 hl (Nat.le_of_ble_eq_true rfl) (lv' := [(4, .int (iI ((k_ : Nat) : Int))), (3, .ref ar), (2, .int (iI 0)), (0, .ref a), (1, .ref c_)]) rfl (fun ls hl => ?_)
  refine n_iconst hx hb dX22_isFair_11 ?_
  refine lv_istore hx hb dX22_isFair_12 hl (Nat.le_of_ble_eq_true rfl) (lv' := [(5, .int (iI 0)), (4, .int (iI ((k_ : Nat) : Int))), (3, .ref ar), (2, .int (iI 0)), (0, .ref a), (1, .ref c_)]) rfl (fun ls hl => ?_)
  have hl : lv_has ls 7 [(0, .ref a), (1, .ref c_), (2, .int (iI 0)), (3, .ref ar), (4, .int (iI ((k_ : Nat) : Int))), (5, .int (iI 0))] := lv_sub hl [4, 5, 3, 2, 1, 0] rfl
  refine L14 20 M 0 0 ?_ ?_ ?_ ?_ ?_ ?_ _ _ _ hH hl
  · rfl
  · omega
  · omega
  · omega
  · omega
  · rw [show ((L_.length : Int) - 0).toNat = L_.length by omega]; rfl
theorem kd_X22_price : yX22_price.cls = RX22 ∧ yX22_price.cls ≠ "java/lang/invoke/MethodHandle" ∧ yX22_price.cls ≠ "java/lang/invoke/VarHandle" ∧ (parseMethodDescriptor yX22_price.desc).map (fun d => d.parameters.length) = some 1 := by decide +kernel
theorem xm_X22_price (l : Launch) (G : MG) (M : Hp) (n : Nat) (L_ : List Cl) (ci : Nat) (nb : Nat) (t : Int) (g : Int → Int) (a : Nat) (c_ : Nat) (sz : Nat) (hT : TextAt G n (hN M) a L_) (hC : CaseN G (hN M) c_ ci nb t g) : Met l yX22_price (ws_ yX22_price cX22_price 8 (some .int)) (rmD (n + 6)) (gP G.1 clA (tyA G.2.1) XN [.ref a, .ref c_] M sz) (gQi G.1 clA (DA M sz) (fun z M' => z = pri L_ g ∧ hN M' = hN M)) 0 0 (DA M sz) := by
  refine g_start (by decide) (Nat.le_of_ble_eq_true rfl) ?_
  intro p e s m below meth c ⟨S, hr, hlk, hH, hK, hXN, hsz, hnm⟩ ls hl
  subst hsz
  obtain ⟨hx, hb, hml, hown, hts⟩ := S
  have S : CallFix p m c _ _ s _ lw_all RX22 := ⟨hx, hb, hml, hown, hts⟩
  have hA : ∀ q, s.heap.size ≤ q → DA M s.heap.size q := fun q hq => Or.inr hq
  have hl : lv_has ls 8 [(0, .ref a), (1, .ref c_)] := hl
  have hT0 := hT
  obtain ⟨ar, k_, F, fa0, far0, hk, hk12, hF⟩ := hT
  have hn : hN M = hN M := rfl
  have L14 : ∀ (q : Nat) (h1 : Hp) (i : Int), (hn1 : hN h1 = hN M) → (hi0 : 0 ≤ i) → (hi1 : i ≤ (k_ : Int)) → (hq : (k_ : Int) < (q : Int) + i) → ∀ (H : Heap) (locs : List Loc) (ls : Array Slot), HV G.1 clA (DA M s.heap.size) h1 s.heap H locs → lv_has ls 8 [(0, .ref a), (1, .ref c_), (2, .int (iI (priN L_ g i.toNat))), (3, .ref ar), (4, .int (iI ((k_ : Nat) : Int))), (5, .int (iI i))] → W p l e (rmD (n + 6)) s m ([.ref a, .ref c_] : List Value).toArray below meth c H locs 0 0 (MQ below (gQi G.1 clA (DA M s.heap.size) (fun z M' => z = pri L_ g ∧ hN M' = hN M)) ([.ref a, .ref c_] : List Value).toArray s 0 0 (DA M s.heap.size)) (F0 m 14 ls []) := by
    intro q
    induction q with
    | zero => intro h1 i hn1 hi0 hi1 hq; exfalso; omega
    | succ q ih_14 =>
      intro h1 i hn1 hi0 hi1 hq H locs ls hH hl
      have hsr := TextAt_S hT0 hC.2.2.2 i.toNat
      have hpr := priN_r (l := L_) (a := g) i.toNat
      have hnr := nearI_r (v := saN L_ g i.toNat) (m := 1000) (by decide)
      refine lv_iload hx hb dX22_price_14 (lv_at hl 5 rfl) ?_
      refine lv_iload hx hb dX22_price_16 (lv_at hl 4 rfl) ?_
      refine n_icmp_ge (tgt := 89) hx hb (r32 (by omega)) (r32 (by omega)) dX22_price_18 (by decide) (fun c_18 => ?_) (fun c_18 => ?_)
      · -- 18T
        refine lv_iload_n hx hb dX22_price_89 rfl (lv_at hl 2 rfl) ?_
        refine g_iret hx hb hr hlk hH dX22_price_90 ?_
        exact ⟨by show priN _ _ _ = priN _ _ _; rw [show i.toNat = L_.length by omega], hn1⟩
      · -- 18F
        obtain ⟨y, hy1, hy2⟩ := hF i.toNat (by omega)
        rw [Int.toNat_of_nonneg hi0] at hy1
        obtain ⟨so, te, fy0, hd5, -, -⟩ := id hy2
        obtain ⟨v3, fy⟩ := clX hn1 fy0
        have fy : h1 y = some (oB 18 [.int (iI (hdN L_ i.toNat - 1)), va_rf so, va_rf te, v3]) := fy
        have hd5 : 1 ≤ hdN L_ i.toNat ∧ hdN L_ i.toNat ≤ 5 := hd5
        refine lv_aload_n hx hb dX22_price_21 rfl (lv_at hl 3 rfl) ?_
        refine lv_iload hx hb dX22_price_22 (lv_at hl 5 rfl) ?_
        refine g_aald hx hb hK hH 11 (nA hn1 far0) rfl (by omega) (by omega) (by omega) (v := some y) hy1 dX22_price_24 ?_
        refine lv_astore hx hb dX22_price_25 hl (Nat.le_of_ble_eq_true rfl) (lv' := [(6, .ref y), (0, .ref a), (1, .ref c_), (2, .int (iI (priN L_ g i.toNat))), (3, .ref ar), (4, .int (iI ((k_ : Nat) : Int))), (5, .int (iI i))]) rfl (fun ls hl => ?_)
        refine lv_aload hx hb dX22_price_27 (lv_at hl 0 rfl) ?_
        refine g_getN (ci := 18) hx hb hts in_X21 hown hK hH fy rfl 0 (by decide) (hXN.1 _ q1126 rfl) (fun _ h9 => h9) rfl dX22_price_29 ?_
        refine n_iconst hx hb dX22_price_32 ?_
        refine n_icmp_ne (tgt := 83) hx hb (r32 (by omega)) (r32 (by omega)) dX22_price_33 (by decide) (fun c_33 => ?_) (fun c_33 => ?_)
        · -- 33T
          refine n_iinc hx hb dX22_price_83 hl (k := 6) rfl (Nat.le_of_ble_eq_true rfl) (lv' := [(5, .int (iI (i + 1))), (6, .ref y), (0, .ref a), (1, .ref c_), (2, .int (iI (priN L_ g i.toNat))), (3, .ref ar), (4, .int (iI ((k_ : Nat) : Int)))]) rfl (fun ls hl => ?_)
          refine lv_goto (tgt := 14) hx hb dX22_price_86 (by decide) ?_
          have hl : lv_has ls 8 [(0, .ref a), (1, .ref c_), (2, .int (iI (priN L_ g i.toNat))), (3, .ref ar), (4, .int (iI ((k_ : Nat) : Int))), (5, .int (iI (i + 1)))] := lv_sub hl [2, 3, 4, 5, 6, 0] rfl
          have hl : lv_has ls 8 [(0, .ref a), (1, .ref c_), (2, .int (iI (priN L_ g (i + 1).toNat))), (3, .ref ar), (4, .int (iI ((k_ : Nat) : Int))), (5, .int (iI (i + 1)))] := by rw [priN_e hi0]; (repeat' split) <;> first | exact hl | (exfalso; omega)
          refine ih_14 h1 (i + 1) ?_ ?_ ?_ ?_ _ _ _ hH hl
          · first | exact hn2 | exact hn1
          · omega
          · omega
          · omega
        · -- 33F
          refine lv_aload hx hb dX22_price_36 (lv_at hl 0 rfl) ?_
          refine lv_aload_n hx hb dX22_price_38 rfl (lv_at hl 2 rfl) ?_
          refine g_calli (g_runV (As := [.ref c_]) (rest := []) S hH hK (fun _ _ hW => XN.warm hW hXN) XN_b fy rfl hl.1 (xm_X21_holds l G h1 n (L_.getD i.toNat cl0) ci nb t g y c_ _ (show ClauseAt G n (hN h1) y (L_.getD i.toNat cl0) by rw [hn1]; exact hy2) (show CaseN G (hN h1) c_ ci nb t g by rw [hn1]; exact hC)) (lw_V q1173 q1174 q1175 q134 q1176) kd_X21_holds rfl rfl dX22_price_39 (hR := ⟨by dsimp only [rmD]; omega, by dsimp only [rmD]; omega⟩)) hH hA (fun z39 M39_ H locs q_39 hH hz_39 => ?_)
          obtain ⟨n39, e39, t39⟩ := q_39
          have e39 : z39 = hoN L_ g i.toNat := e39
          subst e39
          have hn2 := n39.trans hn1
          have hh := ho_01 (l := L_) (a := g) i.toNat
          refine n_if_ne (tgt := 48) hx hb (r32 (by omega)) dX22_price_42 (by decide) (fun c_42 => ?_) (fun c_42 => ?_)
          · -- 42T
            obtain ⟨so2, te2, fk⟩ := t39 (by omega)
            have fk : M39_ y = some (oB 18 [.int (iI (hdN L_ i.toNat - 1)), va_rf so2, va_rf te2, .long (lI (saN L_ g i.toNat))]) := fk
            refine n_lconst (z := 0) hx hb dX22_price_48 (by decide) ?_
            refine lv_ldc2 (v := lI 1000) hx hb hown (hts _ q1269) dX22_price_49 ?_
            refine lv_aload hx hb dX22_price_52 (lv_at hl 0 rfl) ?_
            refine g_getN (ci := 18) hx hb hts in_X21 hown hK hH fk rfl 3 (by decide) (hXN.1 _ q1131 rfl) (fun _ h9 => h9) rfl dX22_price_54 ?_
            refine n_mminL hx hb hts (hml.trans hl.1.symm) hown (r64 (by omega)) (r64 (by omega)) q1223 q1224 q115 q1225 ⟨by dsimp only [rmD]; omega, by dsimp only [rmD]; omega⟩ ⟨Nat.le_of_ble_eq_true rfl, Nat.le_of_ble_eq_true rfl⟩ (Nat.le_of_ble_eq_true rfl) dX22_price_57 ?_
            refine n_mmaxL hx hb hts (hml.trans hl.1.symm) hown (r64 (by omega)) (r64 (by omega)) q1226 q1227 q115 q1228 ⟨by dsimp only [rmD]; omega, by dsimp only [rmD]; omega⟩ ⟨Nat.le_of_ble_eq_true rfl, Nat.le_of_ble_eq_true rfl⟩ (Nat.le_of_ble_eq_true rfl) dX22_price_60 ?_
            refine W.eq (g2 := F0 m 63 ls (.long (lI (nearI (saN L_ g i.toNat) 1000)) :: [])) (by rw [near_mm (by decide)]) ?_
            refine n_l2i hx hb dX22_price_63 ?_
            refine lv_istore hx hb dX22_price_64 hl (Nat.le_of_ble_eq_true rfl) (lv' := [(7, .int (iI (nearI (saN L_ g i.toNat) 1000))), (6, .ref y), (0, .ref a), (1, .ref c_), (2, .int (iI (priN L_ g i.toNat))), (3, .ref ar), (4, .int (iI ((k_ : Nat) : Int))), (5, .int (iI i))]) rfl (fun ls hl => ?_)
            refine lv_iload_n hx hb dX22_price_66 rfl (lv_at hl 4 rfl) ?_
            refine n_iconst hx hb dX22_price_67 ?_
            refine n_icmp_ne (tgt := 76) hx hb (r32 (by omega)) (r32 (by omega)) dX22_price_68 (by decide) (fun c_68 => ?_) (fun c_68 => ?_)
            · -- 68T
              refine lv_iload_n hx hb dX22_price_76 rfl (lv_at hl 4 rfl) ?_
              refine lv_iload hx hb dX22_price_77 (lv_at hl 0 rfl) ?_
              refine n_mmin hx hb hts (hml.trans hl.1.symm) hown (r32 (by omega)) (r32 (by omega)) q1270 q688 q115 q689 ⟨by dsimp only [rmD]; omega, by dsimp only [rmD]; omega⟩ ⟨Nat.le_of_ble_eq_true rfl, Nat.le_of_ble_eq_true rfl⟩ (Nat.le_of_ble_eq_true rfl) dX22_price_79 ?_
              refine lv_istore_n hx hb dX22_price_82 rfl hl (Nat.le_of_ble_eq_true rfl) (lv' := [(2, .int (iI (min (priN L_ g i.toNat) (nearI (saN L_ g i.toNat) 1000)))), (7, .int (iI (nearI (saN L_ g i.toNat) 1000))), (6, .ref y), (0, .ref a), (1, .ref c_), (3, .ref ar), (4, .int (iI ((k_ : Nat) : Int))), (5, .int (iI i))]) rfl (fun ls hl => ?_)
              refine n_iinc hx hb dX22_price_83 hl (k := 7) rfl (Nat.le_of_ble_eq_true rfl) (lv' := [(5, .int (iI (i + 1))), (2, .int (iI (min (priN L_ g i.toNat) (nearI (saN L_ g i.toNat) 1000)))), (7, .int (iI (nearI (saN L_ g i.toNat) 1000))), (6, .ref y), (0, .ref a), (1, .ref c_), (3, .ref ar), (4, .int (iI ((k_ : Nat) : Int)))]) rfl (fun ls hl => ?_)
              refine lv_goto (tgt := 14) hx hb dX22_price_86 (by decide) ?_
              have hl : lv_has ls 8 [(0, .ref a), (1, .ref c_), (2, .int (iI (min (priN L_ g i.toNat) (nearI (saN L_ g i.toNat) 1000)))), (3, .ref ar), (4, .int (iI ((k_ : Nat) : Int))), (5, .int (iI (i + 1)))] := lv_sub hl [4, 5, 1, 6, 7, 0] rfl
              have hl : lv_has ls 8 [(0, .ref a), (1, .ref c_), (2, .int (iI (priN L_ g (i + 1).toNat))), (3, .ref ar), (4, .int (iI ((k_ : Nat) : Int))), (5, .int (iI (i + 1)))] := by rw [show priN L_ g (i + 1).toNat = min (priN L_ g i.toNat) (nearI (saN L_ g i.toNat) 1000) from (by rw [priN_e hi0]; split <;> omega)]; exact hl
              refine ih_14 M39_ (i + 1) ?_ ?_ ?_ ?_ _ _ _ hH hl
              · first | exact hn2 | exact hn1
              · omega
              · omega
              · omega
            · -- 68F
              refine lv_iload hx hb dX22_price_71 (lv_at hl 0 rfl) ?_
              refine lv_goto (tgt := 82) hx hb dX22_price_73 (by decide) ?_
              refine lv_istore_n hx hb dX22_price_82 rfl hl (Nat.le_of_ble_eq_true rfl) (lv' := [(2, .int (iI (nearI (saN L_ g i.toNat) 1000))), (7, .int (iI (nearI (saN L_ g i.toNat) 1000))), (6, .ref y), (0, .ref a), (1, .ref c_), (3, .ref ar), (4, .int (iI ((k_ : Nat) : Int))), (5, .int (iI i))]) rfl (fun ls hl => ?_)
              refine n_iinc hx hb dX22_price_83 hl (k := 7) rfl (Nat.le_of_ble_eq_true rfl) (lv' := [(5, .int (iI (i + 1))), (2, .int (iI (nearI (saN L_ g i.toNat) 1000))), (7, .int (iI (nearI (saN L_ g i.toNat) 1000))), (6, .ref y), (0, .ref a), (1, .ref c_), (3, .ref ar), (4, .int (iI ((k_ : Nat) : Int)))]) rfl (fun ls hl => ?_)
              refine lv_goto (tgt := 14) hx hb dX22_price_86 (by decide) ?_
              have hl : lv_has ls 8 [(0, .ref a), (1, .ref c_), (2, .int (iI (nearI (saN L_ g i.toNat) 1000))), (3, .ref ar), (4, .int (iI ((k_ : Nat) : Int))), (5, .int (iI (i + 1)))] := lv_sub hl [4, 5, 1, 6, 7, 0] rfl
              have hl : lv_has ls 8 [(0, .ref a), (1, .ref c_), (2, .int (iI (priN L_ g (i + 1).toNat))), (3, .ref ar), (4, .int (iI ((k_ : Nat) : Int))), (5, .int (iI (i + 1)))] := by rw [priN_e hi0]; (repeat' split) <;> first | exact hl | (exfalso; omega)
              refine ih_14 M39_ (i + 1) ?_ ?_ ?_ ?_ _ _ _ hH hl
              · first | exact hn2 | exact hn1
              · omega
              · omega
              · omega
          · -- 42F
            refine lv_goto (tgt := 83) hx hb dX22_price_45 (by decide) ?_
            refine n_iinc hx hb dX22_price_83 hl (k := 6) rfl (Nat.le_of_ble_eq_true rfl) (lv' := [(5, .int (iI (i + 1))), (6, .ref y), (0, .ref a), (1, .ref c_), (2, .int (iI (priN L_ g i.toNat))), (3, .ref ar), (4, .int (iI ((k_ : Nat) : Int)))]) rfl (fun ls hl => ?_)
            refine lv_goto (tgt := 14) hx hb dX22_price_86 (by decide) ?_
            have hl : lv_has ls 8 [(0, .ref a), (1, .ref c_), (2, .int (iI (priN L_ g i.toNat))), (3, .ref ar), (4, .int (iI ((k_ : Nat) : Int))), (5, .int (iI (i + 1)))] := lv_sub hl [2, 3, 4, 5, 6, 0] rfl
            have hl : lv_has ls 8 [(0, .ref a), (1, .ref c_), (2, .int (iI (priN L_ g (i + 1).toNat))), (3, .ref ar), (4, .int (iI ((k_ : Nat) : Int))), (5, .int (iI (i + 1)))] := by rw [priN_e hi0]; (repeat' split) <;> first | exact hl | (exfalso; omega)
            refine ih_14 M39_ (i + 1) ?_ ?_ ?_ ?_ _ _ _ hH hl
            · first | exact hn2 | exact hn1
            · omega
            · omega
            · omega
  refine n_iconst hx hb dX22_price_0 ?_
  refine lv_istore_n hx hb dX22_price_1 rfl hl (Nat.le_of_ble_eq_true rfl) (lv' := [(2, .int (iI (-1))), (0, .ref a), (1, .ref c_)]) rfl (fun ls hl => ?_)
  refine lv_aload_n hx hb dX22_price_2 rfl (lv_at hl 1 rfl) ?_
  refine g_get (ci := 19) hx hb hts in_X22 hown hK hH (nO hn fa0 rfl) rfl 0 (by decide) (hts _ q1148) (fun _ h9 => h9) rfl dX22_price_3 ?_
  refine lv_astore_n hx hb dX22_price_6 rfl hl (Nat.le_of_ble_eq_true rfl) (lv' := [(3, .ref ar), (2, .int (iI (-1))), (0, .ref a), (1, .ref c_)]) rfl (fun ls hl => ?_)
  refine lv_aload_n hx hb dX22_price_7 rfl (lv_at hl 0 rfl) ?_
  refine g_alenI (n := ((k_ : Nat) : Int)) hx hb hK hH 11 (nA hn far0) rfl rfl dX22_price_8 ?_
  refine lv_istore hx hb dX22_price_9 hl (Nat.le_of_ble_eq_true rfl) (lv' := [(4, .int (iI ((k_ : Nat) : Int))), (3, .ref ar), (2, .int (iI (-1))), (0, .ref a), (1, .ref c_)]) rfl (fun ls hl => ?_)
  refine n_iconst hx hb dX22_price_11 ?_
  refine lv_istore hx hb dX22_price_12 hl (Nat.le_of_ble_eq_true rfl) (lv' := [(5, .int (iI 0)), (4, .int (iI ((k_ : Nat) : Int))), (3, .ref ar), (2, .int (iI (-1))), (0, .ref a), (1, .ref c_)]) rfl (fun ls hl => ?_)
  have hl : lv_has ls 8 [(0, .ref a), (1, .ref c_), (2, .int (iI (-1))), (3, .ref ar), (4, .int (iI ((k_ : Nat) : Int))), (5, .int (iI 0))] := lv_sub hl [4, 5, 3, 2, 1, 0] rfl
  have hl : lv_has ls 8 [(0, .ref a), (1, .ref c_), (2, .int (iI (priN L_ g (0 : Int).toNat))), (3, .ref ar), (4, .int (iI ((k_ : Nat) : Int))), (5, .int (iI 0))] := by exact hl
  refine L14 20 M 0 ?_ ?_ ?_ ?_ _ _ _ hH hl
  · rfl
  · omega
  · omega
  · omega
theorem kd_X22_oddsOf : yX22_oddsOf.cls = RX22 ∧ yX22_oddsOf.cls ≠ "java/lang/invoke/MethodHandle" ∧ yX22_oddsOf.cls ≠ "java/lang/invoke/VarHandle" ∧ (parseMethodDescriptor yX22_oddsOf.desc).map (fun d => d.parameters.length) = some 1 := by decide +kernel
theorem xm_X22_oddsOf (l : Launch) (G : MG) (M : Hp) (n : Nat) (L_ : List Cl) (nb : Nat) (t : Int) (g : Int → Int) (a : Nat) (c_ : Nat) (sz : Nat) (hT : TextAt G n (hN M) a L_) (hC : CaseN G (hN M) c_ 9 nb t g) (ht01 : t = 0 ∨ t = 1) : Met l yX22_oddsOf (ws_ yX22_oddsOf cX22_oddsOf 2 (some .int)) (rmD (n + 7)) (gP G.1 clA (tyA G.2.1) XN [.ref a, .ref c_] M sz) (gQi G.1 clA (DA M sz) (fun z M' => z = (if t = 1 then odd L_ g else 100 - odd L_ g) ∧ hN M' = hN M)) 0 0 (DA M sz) := by
  refine g_start (by decide) (Nat.le_of_ble_eq_true rfl) ?_
  intro p e s m below meth c ⟨S, hr, hlk, hH, hK, hXN, hsz, hnm⟩ ls hl
  subst hsz
  obtain ⟨hx, hb, hml, hown, hts⟩ := S
  have S : CallFix p m c _ _ s _ lw_all RX22 := ⟨hx, hb, hml, hown, hts⟩
  have hA : ∀ q, s.heap.size ≤ q → DA M s.heap.size q := fun q hq => Or.inr hq
  have hl : lv_has ls 2 [(0, .ref a), (1, .ref c_)] := hl
  obtain ⟨v1, fc⟩ := csX_of rfl hC
  have fc : M c_ = some (oB 9 [.ref nb, v1, .int (iI t)]) := fc
  obtain ⟨ar, k_, F, fa0, far0, hk, hk12, hF⟩ := id hT
  have hn : hN M = hN M := rfl
  have hor := odd_r L_ g
  refine lv_aload_n hx hb dX22_oddsOf_0 rfl (lv_at hl 1 rfl) ?_
  refine g_getN (ci := 9) hx hb hts in_X10 hown hK hH fc rfl 2 (by decide) (hXN.1 _ q754 rfl) (fun _ h9 => h9) rfl dX22_oddsOf_1 ?_
  refine n_if_eq (tgt := 15) hx hb (r32 (by omega)) dX22_oddsOf_4 (by decide) (fun c_4 => ?_) (fun c_4 => ?_)
  · -- 4T
    refine n_bipush (z := 100) hx hb dX22_oddsOf_15 (by decide) ?_
    refine lv_aload_n hx hb dX22_oddsOf_17 rfl (lv_at hl 0 rfl) ?_
    refine lv_aload_n hx hb dX22_oddsOf_18 rfl (lv_at hl 1 rfl) ?_
    refine g_calli (g_runV (As := [.ref c_]) (rest := [.int (iI 100)]) S hH hK (fun _ _ hW => XN.warm hW hXN) XN_b (nO hn fa0 rfl) rfl hl.1 (xm_X22_odds l G M n L_ 9 nb t g a c_ _ hT hC) (lw_V q1169 q1170 q1171 q135 q1172) kd_X22_odds rfl rfl dX22_oddsOf_19 (hR := ⟨by dsimp only [rmD]; omega, by dsimp only [rmD]; omega⟩)) hH hA (fun z19 M19_ H locs q_19 hH hz_19 => ?_)
    obtain ⟨e19, n19⟩ := q_19
    subst e19
    refine n_isub hx hb dX22_oddsOf_22 ?_
    refine g_iret hx hb hr hlk hH dX22_oddsOf_23 ?_
    exact ⟨(if_neg (by omega)).symm, n19⟩
  · -- 4F
    refine lv_aload_n hx hb dX22_oddsOf_7 rfl (lv_at hl 0 rfl) ?_
    refine lv_aload_n hx hb dX22_oddsOf_8 rfl (lv_at hl 1 rfl) ?_
    refine g_calli (g_runV (As := [.ref c_]) (rest := []) S hH hK (fun _ _ hW => XN.warm hW hXN) XN_b (nO hn fa0 rfl) rfl hl.1 (xm_X22_odds l G M n L_ 9 nb t g a c_ _ hT hC) (lw_V q1169 q1170 q1171 q135 q1172) kd_X22_odds rfl rfl dX22_oddsOf_9 (hR := ⟨by dsimp only [rmD]; omega, by dsimp only [rmD]; omega⟩)) hH hA (fun z9 M9_ H locs q_9 hH hz_9 => ?_)
    obtain ⟨e9, n9⟩ := q_9
    subst e9
    refine lv_goto (tgt := 23) hx hb dX22_oddsOf_12 (by decide) ?_
    refine g_iret hx hb hr hlk hH dX22_oddsOf_23 ?_
    exact ⟨(if_pos (by omega)).symm, n9⟩
theorem kd_X22_mustAnswer : yX22_mustAnswer.cls = RX22 ∧ yX22_mustAnswer.cls ≠ "java/lang/invoke/MethodHandle" ∧ yX22_mustAnswer.cls ≠ "java/lang/invoke/VarHandle" ∧ (parseMethodDescriptor yX22_mustAnswer.desc).map (fun d => d.parameters.length) = some 1 := by decide +kernel
theorem xm_X22_mustAnswer (l : Launch) (G : MG) (M : Hp) (n : Nat) (L_ : List Cl) (nb : Nat) (t : Int) (g : Int → Int) (a : Nat) (c_ : Nat) (sz : Nat) (hT : TextAt G n (hN M) a L_) (hC : CaseN G (hN M) c_ 9 nb t g) (ht01 : t = 0 ∨ t = 1) : Met l yX22_mustAnswer (ws_ yX22_mustAnswer cX22_mustAnswer 2 (some .boolean)) (rmD (n + 8)) (gP G.1 clA (tyA G.2.1) XN [.ref a, .ref c_] M sz) (gQi G.1 clA (DA M sz) (fun z M' => z = zb ((if t = 1 then odd L_ g else 100 - odd L_ g) < 10) ∧ hN M' = hN M)) 0 0 (DA M sz) := by
  refine g_start (by decide) (Nat.le_of_ble_eq_true rfl) ?_
  intro p e s m below meth c ⟨S, hr, hlk, hH, hK, hXN, hsz, hnm⟩ ls hl
  subst hsz
  obtain ⟨hx, hb, hml, hown, hts⟩ := S
  have S : CallFix p m c _ _ s _ lw_all RX22 := ⟨hx, hb, hml, hown, hts⟩
  have hA : ∀ q, s.heap.size ≤ q → DA M s.heap.size q := fun q hq => Or.inr hq
  have hl : lv_has ls 2 [(0, .ref a), (1, .ref c_)] := hl
  obtain ⟨v1, fc⟩ := csX_of rfl hC
  have fc : M c_ = some (oB 9 [.ref nb, v1, .int (iI t)]) := fc
  obtain ⟨ar, k_, F, fa0, far0, hk, hk12, hF⟩ := id hT
  have hn : hN M = hN M := rfl
  have hor := odd_r L_ g
  refine lv_aload_n hx hb dX22_mustAnswer_0 rfl (lv_at hl 0 rfl) ?_
  refine lv_aload_n hx hb dX22_mustAnswer_1 rfl (lv_at hl 1 rfl) ?_
  refine g_calli (g_runV (As := [.ref c_]) (rest := []) S hH hK (fun _ _ hW => XN.warm hW hXN) XN_b (nO hn fa0 rfl) rfl hl.1 (xm_X22_oddsOf l G M n L_ nb t g a c_ _ hT hC ht01) (lw_V q1264 q1166 q1167 q135 q1168) kd_X22_oddsOf rfl rfl dX22_mustAnswer_2 (hR := ⟨by dsimp only [rmD]; omega, by dsimp only [rmD]; omega⟩)) hH hA (fun z2 M2_ H locs q_2 hH hz_2 => ?_)
  obtain ⟨e2, n2⟩ := q_2
  subst e2
  have hor2 : 0 ≤ (if t = 1 then odd L_ g else 100 - odd L_ g) ∧ (if t = 1 then odd L_ g else 100 - odd L_ g) ≤ 100 := by split <;> omega
  refine n_bipush (z := 10) hx hb dX22_mustAnswer_5 (by decide) ?_
  refine n_icmp_ge (tgt := 14) hx hb (r32 (by omega)) (r32 (by omega)) dX22_mustAnswer_7 (by decide) (fun c_7 => ?_) (fun c_7 => ?_)
  · -- 7T
    refine n_iconst hx hb dX22_mustAnswer_14 ?_
    refine g_zret hx hb hr hlk hH dX22_mustAnswer_15 (Or.inl rfl) ?_
    exact ⟨(zb_f (by omega)).symm, n2⟩
  · -- 7F
    refine n_iconst hx hb dX22_mustAnswer_10 ?_
    refine lv_goto (tgt := 15) hx hb dX22_mustAnswer_11 (by decide) ?_
    refine g_zret hx hb hr hlk hH dX22_mustAnswer_15 (Or.inr rfl) ?_
    exact ⟨(zb_t (by omega)).symm, n2⟩
