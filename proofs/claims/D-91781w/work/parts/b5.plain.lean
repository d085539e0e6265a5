theorem bAnd_i {l y : Int} : bAnd l (bAnd l y) = bAnd l y := by
  unfold bAnd
  rw [← iI_of, ← Int32.and_assoc, Int32.and_self]
theorem bAnd_x {l y : Int} (h0 : 0 ≤ l) (h1 : l < 2147483648) : bAnd l (bXor (bAnd l y) (-1)) = bAnd l (bXor y (-1)) := by
  have a1 := bsplit (s := l) (y := bAnd l y) h0 h1
  have a2 := bsplit (s := l) (y := y) h0 h1
  rw [bAnd_i] at a1
  omega
theorem kd_X0_findPlain : yX0_findPlain.cls = RX0 ∧ yX0_findPlain.cls ≠ "java/lang/invoke/MethodHandle" ∧ yX0_findPlain.cls ≠ "java/lang/invoke/VarHandle" ∧ (parseMethodDescriptor yX0_findPlain.desc).map (fun d => d.parameters.length) = some 1 := by decide +kernel
theorem xm_X0_findPlain (l : Launch) (G : MG) (M : Hp) (σ : St) (x : XGh) (ω : XCt) (a : Nat) (s_ : Int) (sz : Nat) (hR : RX G M a σ x ω) (hsr : R32 s_) (hI : KI (σ 2)) (hT : TT (σ 2)) : Met l yX0_findPlain (ws_ yX0_findPlain cX0_findPlain 7 none) (rmD 208) (xP G XN [.ref a, .int (iI s_)] M sz) (xQv G (DA M sz) (fun M' => ∃ ω', RX G M' a σ x ω' ∧ (∀ t : Int, 0 ≤ t → t < σ 2 1755 → gy ω' 9 t = laT (σ 2) s_ t) ∧ gy ω' 10 = gy ω 10)) 0 0 (DA M sz) := by
  refine x_start (by decide) (Nat.le_of_ble_eq_true rfl) ?_
  intro p e s m below meth c ⟨S, hr, hlk, hH, hK, hXN, hsz, hnm⟩ ls hl
  subst hsz
  obtain ⟨hx, hb, hml, hown, hts⟩ := S
  have S : CallFix p m c _ _ s _ lw_all RX0 := ⟨hx, hb, hml, hown, hts⟩
  have hA : ∀ q, s.heap.size ≤ q → DA M s.heap.size q := fun q hq => Or.inr hq
  have hl : lv_has ls 7 [(0, .ref a), (1, .int (iI s_))] := hl
  have b0 := hI.c
  unfold kCnt at b0
  have hsr := R32.n hsr
  have L2 : ∀ (q : Nat) (N1 : Hp) (ω1 : XCt) (t : Int), (hR1 : RX G N1 a σ x ω1) → (hAt : ∀ j : Int, 0 ≤ j → j < t → gy ω1 9 j = laT (σ 2) s_ j) → (h10 : gy ω1 10 = gy ω 10) → (ht0 : 0 ≤ t) → (ht1 : t ≤ σ 2 1755) → (hq : σ 2 1755 < (q : Int) + t) → ∀ (H : Heap) (locs : List Loc) (ls : Array Slot), XV G (DA M s.heap.size) N1 s.heap H locs → lv_has ls 7 [(0, .ref a), (1, .int (iI s_)), (2, .int (iI t))] → W p l e (rmD 208) s m ([.ref a, .int (iI s_)] : List Value).toArray below meth c H locs 0 0 (MQ below (xQv G (DA M s.heap.size) (fun M' => ∃ ω', RX G M' a σ x ω' ∧ (∀ t : Int, 0 ≤ t → t < σ 2 1755 → gy ω' 9 t = laT (σ 2) s_ t) ∧ gy ω' 10 = gy ω 10)) ([.ref a, .int (iI s_)] : List Value).toArray s 0 0 (DA M s.heap.size)) (F0 m 2 ls []) := by
    intro q
    induction q with
    | zero => intro N1 ω1 t hR1 hAt h10 ht0 ht1 hq; exfalso; omega
    | succ q ih_2 =>
      intro N1 ω1 t hR1 hAt h10 ht0 ht1 hq H locs ls hH hl
      have L21 : ∀ (q1 : Nat) (a_ : Int), (ht2 : t < σ 2 1755) → (ha0 : 0 ≤ a_) → (ha1 : a_ ≤ σ 2 1756) → (hq1 : σ 2 1756 < (q1 : Int) + a_) → ∀ (H : Heap) (locs : List Loc) (ls : Array Slot), XV G (DA M s.heap.size) N1 s.heap H locs → lv_has ls 7 [(0, .ref a), (1, .int (iI s_)), (2, .int (iI t)), (3, .int (iI ((laN (σ 2) s_ t a_.toNat).1))), (4, .int (iI ((laN (σ 2) s_ t a_.toNat).2))), (5, .int (iI a_))] → W p l e (rmD 208) s m ([.ref a, .int (iI s_)] : List Value).toArray below meth c H locs 0 0 (MQ below (xQv G (DA M s.heap.size) (fun M' => ∃ ω', RX G M' a σ x ω' ∧ (∀ t : Int, 0 ≤ t → t < σ 2 1755 → gy ω' 9 t = laT (σ 2) s_ t) ∧ gy ω' 10 = gy ω 10)) ([.ref a, .int (iI s_)] : List Value).toArray s 0 0 (DA M s.heap.size)) (F0 m 21 ls []) := by
        intro q1
        induction q1 with
        | zero => intro a_ ht2 ha0 ha1 hq1; exfalso; omega
        | succ q1 ih_21 =>
          intro a_ ht2 ha0 ha1 hq1 H locs ls hH hl
          have hla := laN_r (κ := σ 2) (s := s_) (t := t) a_.toNat
          have hla1 := R32.n hla.1
          have hot := oT_r (σ 2) a_ t
          refine lv_iload hx hb dX0_findPlain_21 (lv_at hl 5 rfl) ?_
          refine lv_aload_n hx hb dX0_findPlain_23 rfl (lv_at hl 0 rfl) ?_
          refine x_get hx hb hts in_X0 hown hK hH hR1.o rfl 0 (by decide) q339 (fun _ h9 => h9) rfl (by decide) dX0_findPlain_24 ?_
          refine x_getN hx hb hts in_X1 hown hK hH hR1.b0 rfl 5 (by decide) hXN q172 (fun _ h9 => h9) rfl (by decide) dX0_findPlain_27 ?_
          refine n_icmp_ge (tgt := 117) hx hb (r32 (by omega)) (r32 (by omega)) dX0_findPlain_30 (by decide) (fun c_30 => ?_) (fun c_30 => ?_)
          · -- 30T
            refine lv_aload_n hx hb dX0_findPlain_117 rfl (lv_at hl 0 rfl) ?_
            refine x_get hx hb hts in_X0 hown hK hH hR1.o rfl 9 (by decide) q350 (fun _ h9 => h9) rfl (by decide) dX0_findPlain_118 ?_
            refine lv_iload_n hx hb dX0_findPlain_121 rfl (lv_at hl 2 rfl) ?_
            refine lv_iload hx hb dX0_findPlain_122 (lv_at hl 4 rfl) ?_
            refine n_if_eq (tgt := 131) hx hb (r32 (by omega)) dX0_findPlain_124 (by decide) (fun c_124 => ?_) (fun c_124 => ?_)
            · -- 124T
              refine n_iconst hx hb dX0_findPlain_131 ?_
              refine x_iast hx hb hK hH hR1.p9 (by omega) (by omega) (Nat.le_of_ble_eq_true rfl) dX0_findPlain_132 (fun H locs hH => ?_)
              obtain ⟨M1, e_M1⟩ : ∃ M1, M1 = hs N1 (gp x 9) (aI (G.2.1 0) 12 (up (gy ω1 9) t (-1))) := ⟨_, rfl⟩
              have hH := XV_to hH e_M1.symm
              have f1 : M1 (gp x 9) = some (aI (G.2.1 0) 12 (up (gy ω1 9) t (-1))) := by rw [e_M1]; exact hs_s
              obtain ⟨ω2, hR2, hY2, hZ2⟩ : ∃ ω2, RX G M1 a σ x ω2 ∧ gy ω2 9 = up (gy ω1 9) t (-1) ∧ ∀ j, j ≠ 9 → gy ω2 j = gy ω1 j := ⟨_, by rw [e_M1]; exact hR1.scr (k := 9) (by decide) rfl (fun q => absurd q (by decide)), yS_s, fun j h => yS_n h⟩
              refine n_iinc hx hb dX0_findPlain_133 hl (k := 2) rfl (Nat.le_of_ble_eq_true rfl) (lv' := [(2, .int (iI (t + 1))), (0, .ref a), (1, .int (iI s_)), (3, .int (iI ((laN (σ 2) s_ t a_.toNat).1))), (4, .int (iI ((laN (σ 2) s_ t a_.toNat).2))), (5, .int (iI a_))]) rfl (fun ls hl => ?_)
              refine lv_goto (tgt := 2) hx hb dX0_findPlain_136 (by decide) ?_
              have hl : lv_has ls 7 [(0, .ref a), (1, .int (iI s_)), (2, .int (iI (t + 1)))] := lv_sub hl [1, 2, 0] rfl
              refine ih_2 M1 ω2 (t + 1) ?_ ?_ ?_ ?_ ?_ ?_ _ _ _ hH hl
              · exact hR2
              · intro j a b
                rw [hY2]
                by_cases z : j = t
                · subst z; rw [up_s]; unfold laT; rw [show (σ 2 1756).toNat = a_.toNat by omega]; first | rw [if_pos (by omega)] | rw [if_neg (by omega)]
                · rw [up_n z]; exact hAt j a (by omega)
              · rw [hZ2 10 (by decide)]; exact h10
              · omega
              · omega
              · omega
            · -- 124F
              refine lv_iload_n hx hb dX0_findPlain_127 rfl (lv_at hl 3 rfl) ?_
              refine lv_goto (tgt := 132) hx hb dX0_findPlain_128 (by decide) ?_
              refine x_iast hx hb hK hH hR1.p9 (by omega) (by omega) (Nat.le_of_ble_eq_true rfl) dX0_findPlain_132 (fun H locs hH => ?_)
              obtain ⟨M3, e_M3⟩ : ∃ M3, M3 = hs N1 (gp x 9) (aI (G.2.1 0) 12 (up (gy ω1 9) t ((laN (σ 2) s_ t a_.toNat).1))) := ⟨_, rfl⟩
              have hH := XV_to hH e_M3.symm
              have f3 : M3 (gp x 9) = some (aI (G.2.1 0) 12 (up (gy ω1 9) t ((laN (σ 2) s_ t a_.toNat).1))) := by rw [e_M3]; exact hs_s
              obtain ⟨ω4, hR4, hY4, hZ4⟩ : ∃ ω4, RX G M3 a σ x ω4 ∧ gy ω4 9 = up (gy ω1 9) t ((laN (σ 2) s_ t a_.toNat).1) ∧ ∀ j, j ≠ 9 → gy ω4 j = gy ω1 j := ⟨_, by rw [e_M3]; exact hR1.scr (k := 9) (by decide) rfl (fun q => absurd q (by decide)), yS_s, fun j h => yS_n h⟩
              refine n_iinc hx hb dX0_findPlain_133 hl (k := 2) rfl (Nat.le_of_ble_eq_true rfl) (lv' := [(2, .int (iI (t + 1))), (0, .ref a), (1, .int (iI s_)), (3, .int (iI ((laN (σ 2) s_ t a_.toNat).1))), (4, .int (iI ((laN (σ 2) s_ t a_.toNat).2))), (5, .int (iI a_))]) rfl (fun ls hl => ?_)
              refine lv_goto (tgt := 2) hx hb dX0_findPlain_136 (by decide) ?_
              have hl : lv_has ls 7 [(0, .ref a), (1, .int (iI s_)), (2, .int (iI (t + 1)))] := lv_sub hl [1, 2, 0] rfl
              refine ih_2 M3 ω4 (t + 1) ?_ ?_ ?_ ?_ ?_ ?_ _ _ _ hH hl
              · exact hR4
              · intro j a b
                rw [hY4]
                by_cases z : j = t
                · subst z; rw [up_s]; unfold laT; rw [show (σ 2 1756).toNat = a_.toNat by omega]; first | rw [if_pos (by omega)] | rw [if_neg (by omega)]
                · rw [up_n z]; exact hAt j a (by omega)
              · rw [hZ4 10 (by decide)]; exact h10
              · omega
              · omega
              · omega
          · -- 30F
            refine lv_iload_n hx hb dX0_findPlain_33 rfl (lv_at hl 1 rfl) ?_
            refine lv_iload hx hb dX0_findPlain_34 (lv_at hl 5 rfl) ?_
            refine n_ishr hx hb (r32 (by omega)) (by omega) (by omega) dX0_findPlain_36 ?_
            refine n_iconst hx hb dX0_findPlain_37 ?_
            refine n_and1 hx hb dX0_findPlain_38 ?_
            refine n_if_ne (tgt := 45) hx hb (r32 (by omega)) dX0_findPlain_39 (by decide) (fun c_39 => ?_) (fun c_39 => ?_)
            · -- 39T
              refine lv_aload_n hx hb dX0_findPlain_45 rfl (lv_at hl 0 rfl) ?_
              refine x_get hx hb hts in_X0 hown hK hH hR1.o rfl 0 (by decide) q339 (fun _ h9 => h9) rfl (by decide) dX0_findPlain_46 ?_
              refine x_getN hx hb hts in_X1 hown hK hH hR1.b0 rfl 12 (by decide) hXN q186 (fun _ h9 => h9) rfl (by decide) dX0_findPlain_49 ?_
              refine lv_iload hx hb dX0_findPlain_52 (lv_at hl 5 rfl) ?_
              obtain ⟨y5, r5, u5, t5, g5⟩ := hR1.text (i := a_) (by omega) (by omega)
              refine x_aald hx hb hK hH 9 hR1.b12 rfl (by omega) (by omega) (Nat.le_of_ble_eq_true rfl) (v := some y5) u5 dX0_findPlain_54 ?_
              refine lv_aload_n hx hb dX0_findPlain_55 rfl (lv_at hl 0 rfl) ?_
              refine x_get hx hb hts in_X0 hown hK hH hR1.o rfl 0 (by decide) q339 (fun _ h9 => h9) rfl (by decide) dX0_findPlain_56 ?_
              refine x_getN hx hb hts in_X1 hown hK hH hR1.b0 rfl 11 (by decide) hXN q184 (fun _ h9 => h9) rfl (by decide) dX0_findPlain_59 ?_
              refine lv_iload_n hx hb dX0_findPlain_62 rfl (lv_at hl 2 rfl) ?_
              obtain ⟨y6, n6, w6, u6, g6, k6, e6⟩ := hR1.trial (i := t) (by omega) (by omega)
              refine x_aald hx hb hK hH 8 hR1.b11 rfl (by omega) (by omega) (Nat.le_of_ble_eq_true rfl) (v := some y6) u6 dX0_findPlain_63 ?_
              refine x_calliF (x_runV (As := [.ref y6]) (rest := []) S hH hK (fun _ _ hW => XN.warm hW hXN) XN_b hl.1 g5 rfl (r_odds (x := a_) (k := t) hI ⟨by omega, by omega⟩ g6 k6 e6 t5) (lw_V q1229 q1170 q1171 q135 q1172) kd_X22_odds rfl rfl dX0_findPlain_64) hH hA (fun H locs hH => ?_)
              refine lv_istore hx hb dX0_findPlain_67 hl (Nat.le_of_ble_eq_true rfl) (lv' := [(6, .int (iI (oT (σ 2) a_ t))), (0, .ref a), (1, .int (iI s_)), (2, .int (iI t)), (3, .int (iI ((laN (σ 2) s_ t a_.toNat).1))), (4, .int (iI ((laN (σ 2) s_ t a_.toNat).2))), (5, .int (iI a_))]) rfl (fun ls hl => ?_)
              refine lv_iload hx hb dX0_findPlain_69 (lv_at hl 5 rfl) ?_
              refine n_if_eq (tgt := 90) hx hb (r32 (by omega)) dX0_findPlain_71 (by decide) (fun c_71 => ?_) (fun c_71 => ?_)
              · -- 71T
                refine n_iconst hx hb dX0_findPlain_90 ?_
                refine lv_istore hx hb dX0_findPlain_91 hl (Nat.le_of_ble_eq_true rfl) (lv' := [(4, .int (iI 0)), (6, .int (iI (oT (σ 2) a_ t))), (0, .ref a), (1, .int (iI s_)), (2, .int (iI t)), (3, .int (iI ((laN (σ 2) s_ t a_.toNat).1))), (5, .int (iI a_))]) rfl (fun ls hl => ?_)
                refine lv_iload_n hx hb dX0_findPlain_93 rfl (lv_at hl 5 rfl) ?_
                refine lv_iload hx hb dX0_findPlain_94 (lv_at hl 1 rfl) ?_
                refine n_bipush (z := 100) hx hb dX0_findPlain_96 (by decide) ?_
                refine n_icmp_ne (tgt := 108) hx hb (r32 (by omega)) (r32 (by omega)) dX0_findPlain_98 (by decide) (fun c_98 => ?_) (fun c_98 => ?_)
                · -- 98T
                  refine n_iconst hx hb dX0_findPlain_108 ?_
                  refine n_ior hx hb dX0_findPlain_109 ?_
                  refine lv_istore_n hx hb dX0_findPlain_110 rfl hl (Nat.le_of_ble_eq_true rfl) (lv' := [(3, .int (iI (bOr ((laN (σ 2) s_ t a_.toNat).1) 0))), (4, .int (iI 0)), (6, .int (iI (oT (σ 2) a_ t))), (0, .ref a), (1, .int (iI s_)), (2, .int (iI t)), (5, .int (iI a_))]) rfl (fun ls hl => ?_)
                  refine n_iinc hx hb dX0_findPlain_111 hl (k := 6) rfl (Nat.le_of_ble_eq_true rfl) (lv' := [(5, .int (iI (a_ + 1))), (3, .int (iI (bOr ((laN (σ 2) s_ t a_.toNat).1) 0))), (4, .int (iI 0)), (6, .int (iI (oT (σ 2) a_ t))), (0, .ref a), (1, .int (iI s_)), (2, .int (iI t))]) rfl (fun ls hl => ?_)
                  refine lv_goto (tgt := 21) hx hb dX0_findPlain_114 (by decide) ?_
                  have hl : lv_has ls 7 [(0, .ref a), (1, .int (iI s_)), (2, .int (iI t)), (3, .int (iI (bOr ((laN (σ 2) s_ t a_.toNat).1) 0))), (4, .int (iI 0)), (5, .int (iI (a_ + 1)))] := lv_sub hl [4, 5, 6, 1, 2, 0] rfl
                  have hl : lv_has ls 7 [(0, .ref a), (1, .int (iI s_)), (2, .int (iI t)), (3, .int (iI ((laN (σ 2) s_ t (a_ + 1).toNat).1))), (4, .int (iI ((laN (σ 2) s_ t (a_ + 1).toNat).2))), (5, .int (iI (a_ + 1)))] := by rw [laN_e ha0, if_neg c_39]; show lv_has ls _ [_, _, _, (3, .int (iI (if _ then _ else _))), (4, .int (iI (if _ then _ else _))), _]; (repeat' split) <;> first | exact hl | (rw [bOr_0 hla.1] at hl; exact hl) | (exfalso; omega)
                  refine ih_21 (a_ + 1) ?_ ?_ ?_ ?_ _ _ _ hH hl
                  · omega
                  · omega
                  · omega
                  · omega
                · -- 98F
                  refine n_iconst hx hb dX0_findPlain_101 ?_
                  refine lv_iload hx hb dX0_findPlain_102 (lv_at hl 6 rfl) ?_
                  refine n_ishl hx hb (by omega) (by omega) dX0_findPlain_104 ?_
                  refine lv_goto (tgt := 109) hx hb dX0_findPlain_105 (by decide) ?_
                  refine n_ior hx hb dX0_findPlain_109 ?_
                  refine lv_istore_n hx hb dX0_findPlain_110 rfl hl (Nat.le_of_ble_eq_true rfl) (lv' := [(3, .int (iI (bOr ((laN (σ 2) s_ t a_.toNat).1) (1 * 2 ^ a_.toNat)))), (4, .int (iI 0)), (6, .int (iI (oT (σ 2) a_ t))), (0, .ref a), (1, .int (iI s_)), (2, .int (iI t)), (5, .int (iI a_))]) rfl (fun ls hl => ?_)
                  refine n_iinc hx hb dX0_findPlain_111 hl (k := 6) rfl (Nat.le_of_ble_eq_true rfl) (lv' := [(5, .int (iI (a_ + 1))), (3, .int (iI (bOr ((laN (σ 2) s_ t a_.toNat).1) (1 * 2 ^ a_.toNat)))), (4, .int (iI 0)), (6, .int (iI (oT (σ 2) a_ t))), (0, .ref a), (1, .int (iI s_)), (2, .int (iI t))]) rfl (fun ls hl => ?_)
                  refine lv_goto (tgt := 21) hx hb dX0_findPlain_114 (by decide) ?_
                  have hl : lv_has ls 7 [(0, .ref a), (1, .int (iI s_)), (2, .int (iI t)), (3, .int (iI (bOr ((laN (σ 2) s_ t a_.toNat).1) (1 * 2 ^ a_.toNat)))), (4, .int (iI 0)), (5, .int (iI (a_ + 1)))] := lv_sub hl [4, 5, 6, 1, 2, 0] rfl
                  have hl : lv_has ls 7 [(0, .ref a), (1, .int (iI s_)), (2, .int (iI t)), (3, .int (iI ((laN (σ 2) s_ t (a_ + 1).toNat).1))), (4, .int (iI ((laN (σ 2) s_ t (a_ + 1).toNat).2))), (5, .int (iI (a_ + 1)))] := by rw [laN_e ha0, if_neg c_39]; show lv_has ls _ [_, _, _, (3, .int (iI (if _ then _ else _))), (4, .int (iI (if _ then _ else _))), _]; (repeat' split) <;> first | exact hl | (rw [bOr_0 hla.1] at hl; exact hl) | (exfalso; omega)
                  refine ih_21 (a_ + 1) ?_ ?_ ?_ ?_ _ _ _ hH hl
                  · omega
                  · omega
                  · omega
                  · omega
              · -- 71F
                refine lv_iload hx hb dX0_findPlain_74 (lv_at hl 0 rfl) ?_
                refine n_if_eq (tgt := 86) hx hb (r32 (by omega)) dX0_findPlain_76 (by decide) (fun c_76 => ?_) (fun c_76 => ?_)
                · -- 76T
                  refine n_iconst hx hb dX0_findPlain_86 ?_
                  refine lv_goto (tgt := 91) hx hb dX0_findPlain_87 (by decide) ?_
                  refine lv_istore hx hb dX0_findPlain_91 hl (Nat.le_of_ble_eq_true rfl) (lv' := [(4, .int (iI 1)), (6, .int (iI (oT (σ 2) a_ t))), (0, .ref a), (1, .int (iI s_)), (2, .int (iI t)), (3, .int (iI ((laN (σ 2) s_ t a_.toNat).1))), (5, .int (iI a_))]) rfl (fun ls hl => ?_)
                  refine lv_iload_n hx hb dX0_findPlain_93 rfl (lv_at hl 5 rfl) ?_
                  refine lv_iload hx hb dX0_findPlain_94 (lv_at hl 1 rfl) ?_
                  refine n_bipush (z := 100) hx hb dX0_findPlain_96 (by decide) ?_
                  refine n_icmp_ne (tgt := 108) hx hb (r32 (by omega)) (r32 (by omega)) dX0_findPlain_98 (by decide) (fun c_98 => ?_) (fun c_98 => ?_)
                  · -- 98T
                    refine n_iconst hx hb dX0_findPlain_108 ?_
                    refine n_ior hx hb dX0_findPlain_109 ?_
                    refine lv_istore_n hx hb dX0_findPlain_110 rfl hl (Nat.le_of_ble_eq_true rfl) (lv' := [(3, .int (iI (bOr ((laN (σ 2) s_ t a_.toNat).1) 0))), (4, .int (iI 1)), (6, .int (iI (oT (σ 2) a_ t))), (0, .ref a), (1, .int (iI s_)), (2, .int (iI t)), (5, .int (iI a_))]) rfl (fun ls hl => ?_)
                    refine n_iinc hx hb dX0_findPlain_111 hl (k := 6) rfl (Nat.le_of_ble_eq_true rfl) (lv' := [(5, .int (iI (a_ + 1))), (3, .int (iI (bOr ((laN (σ 2) s_ t a_.toNat).1) 0))), (4, .int (iI 1)), (6, .int (iI (oT (σ 2) a_ t))), (0, .ref a), (1, .int (iI s_)), (2, .int (iI t))]) rfl (fun ls hl => ?_)
                    refine lv_goto (tgt := 21) hx hb dX0_findPlain_114 (by decide) ?_
                    have hl : lv_has ls 7 [(0, .ref a), (1, .int (iI s_)), (2, .int (iI t)), (3, .int (iI (bOr ((laN (σ 2) s_ t a_.toNat).1) 0))), (4, .int (iI 1)), (5, .int (iI (a_ + 1)))] := lv_sub hl [4, 5, 6, 1, 2, 0] rfl
                    have hl : lv_has ls 7 [(0, .ref a), (1, .int (iI s_)), (2, .int (iI t)), (3, .int (iI ((laN (σ 2) s_ t (a_ + 1).toNat).1))), (4, .int (iI ((laN (σ 2) s_ t (a_ + 1).toNat).2))), (5, .int (iI (a_ + 1)))] := by rw [laN_e ha0, if_neg c_39]; show lv_has ls _ [_, _, _, (3, .int (iI (if _ then _ else _))), (4, .int (iI (if _ then _ else _))), _]; (repeat' split) <;> first | exact hl | (rw [bOr_0 hla.1] at hl; exact hl) | (exfalso; omega)
                    refine ih_21 (a_ + 1) ?_ ?_ ?_ ?_ _ _ _ hH hl
                    · omega
                    · omega
                    · omega
                    · omega
                  · -- 98F
                    refine n_iconst hx hb dX0_findPlain_101 ?_
                    refine lv_iload hx hb dX0_findPlain_102 (lv_at hl 6 rfl) ?_
                    refine n_ishl hx hb (by omega) (by omega) dX0_findPlain_104 ?_
                    refine lv_goto (tgt := 109) hx hb dX0_findPlain_105 (by decide) ?_
                    refine n_ior hx hb dX0_findPlain_109 ?_
                    refine lv_istore_n hx hb dX0_findPlain_110 rfl hl (Nat.le_of_ble_eq_true rfl) (lv' := [(3, .int (iI (bOr ((laN (σ 2) s_ t a_.toNat).1) (1 * 2 ^ a_.toNat)))), (4, .int (iI 1)), (6, .int (iI (oT (σ 2) a_ t))), (0, .ref a), (1, .int (iI s_)), (2, .int (iI t)), (5, .int (iI a_))]) rfl (fun ls hl => ?_)
                    refine n_iinc hx hb dX0_findPlain_111 hl (k := 6) rfl (Nat.le_of_ble_eq_true rfl) (lv' := [(5, .int (iI (a_ + 1))), (3, .int (iI (bOr ((laN (σ 2) s_ t a_.toNat).1) (1 * 2 ^ a_.toNat)))), (4, .int (iI 1)), (6, .int (iI (oT (σ 2) a_ t))), (0, .ref a), (1, .int (iI s_)), (2, .int (iI t))]) rfl (fun ls hl => ?_)
                    refine lv_goto (tgt := 21) hx hb dX0_findPlain_114 (by decide) ?_
                    have hl : lv_has ls 7 [(0, .ref a), (1, .int (iI s_)), (2, .int (iI t)), (3, .int (iI (bOr ((laN (σ 2) s_ t a_.toNat).1) (1 * 2 ^ a_.toNat)))), (4, .int (iI 1)), (5, .int (iI (a_ + 1)))] := lv_sub hl [4, 5, 6, 1, 2, 0] rfl
                    have hl : lv_has ls 7 [(0, .ref a), (1, .int (iI s_)), (2, .int (iI t)), (3, .int (iI ((laN (σ 2) s_ t (a_ + 1).toNat).1))), (4, .int (iI ((laN (σ 2) s_ t (a_ + 1).toNat).2))), (5, .int (iI (a_ + 1)))] := by rw [laN_e ha0, if_neg c_39]; show lv_has ls _ [_, _, _, (3, .int (iI (if _ then _ else _))), (4, .int (iI (if _ then _ else _))), _]; (repeat' split) <;> first | exact hl | (rw [bOr_0 hla.1] at hl; exact hl) | (exfalso; omega)
                    refine ih_21 (a_ + 1) ?_ ?_ ?_ ?_ _ _ _ hH hl
                    · omega
                    · omega
                    · omega
                    · omega
                · -- 76F
                  refine lv_iload hx hb dX0_findPlain_79 (lv_at hl 0 rfl) ?_
                  refine n_bipush (z := 100) hx hb dX0_findPlain_81 (by decide) ?_
                  refine n_icmp_ne (tgt := 90) hx hb (r32 (by omega)) (r32 (by omega)) dX0_findPlain_83 (by decide) (fun c_83 => ?_) (fun c_83 => ?_)
                  · -- 83T
                    refine n_iconst hx hb dX0_findPlain_90 ?_
                    refine lv_istore hx hb dX0_findPlain_91 hl (Nat.le_of_ble_eq_true rfl) (lv' := [(4, .int (iI 0)), (6, .int (iI (oT (σ 2) a_ t))), (0, .ref a), (1, .int (iI s_)), (2, .int (iI t)), (3, .int (iI ((laN (σ 2) s_ t a_.toNat).1))), (5, .int (iI a_))]) rfl (fun ls hl => ?_)
                    refine lv_iload_n hx hb dX0_findPlain_93 rfl (lv_at hl 5 rfl) ?_
                    refine lv_iload hx hb dX0_findPlain_94 (lv_at hl 1 rfl) ?_
                    refine n_bipush (z := 100) hx hb dX0_findPlain_96 (by decide) ?_
                    refine n_icmp_ne (tgt := 108) hx hb (r32 (by omega)) (r32 (by omega)) dX0_findPlain_98 (by decide) (fun c_98 => ?_) (fun c_98 => ?_)
                    · -- 98T
                      refine n_iconst hx hb dX0_findPlain_108 ?_
                      refine n_ior hx hb dX0_findPlain_109 ?_
                      refine lv_istore_n hx hb dX0_findPlain_110 rfl hl (Nat.le_of_ble_eq_true rfl) (lv' := [(3, .int (iI (bOr ((laN (σ 2) s_ t a_.toNat).1) 0))), (4, .int (iI 0)), (6, .int (iI (oT (σ 2) a_ t))), (0, .ref a), (1, .int (iI s_)), (2, .int (iI t)), (5, .int (iI a_))]) rfl (fun ls hl => ?_)
                      refine n_iinc hx hb dX0_findPlain_111 hl (k := 6) rfl (Nat.le_of_ble_eq_true rfl) (lv' := [(5, .int (iI (a_ + 1))), (3, .int (iI (bOr ((laN (σ 2) s_ t a_.toNat).1) 0))), (4, .int (iI 0)), (6, .int (iI (oT (σ 2) a_ t))), (0, .ref a), (1, .int (iI s_)), (2, .int (iI t))]) rfl (fun ls hl => ?_)
                      refine lv_goto (tgt := 21) hx hb dX0_findPlain_114 (by decide) ?_
                      have hl : lv_has ls 7 [(0, .ref a), (1, .int (iI s_)), (2, .int (iI t)), (3, .int (iI (bOr ((laN (σ 2) s_ t a_.toNat).1) 0))), (4, .int (iI 0)), (5, .int (iI (a_ + 1)))] := lv_sub hl [4, 5, 6, 1, 2, 0] rfl
                      have hl : lv_has ls 7 [(0, .ref a), (1, .int (iI s_)), (2, .int (iI t)), (3, .int (iI ((laN (σ 2) s_ t (a_ + 1).toNat).1))), (4, .int (iI ((laN (σ 2) s_ t (a_ + 1).toNat).2))), (5, .int (iI (a_ + 1)))] := by rw [laN_e ha0, if_neg c_39]; show lv_has ls _ [_, _, _, (3, .int (iI (if _ then _ else _))), (4, .int (iI (if _ then _ else _))), _]; (repeat' split) <;> first | exact hl | (rw [bOr_0 hla.1] at hl; exact hl) | (exfalso; omega)
                      refine ih_21 (a_ + 1) ?_ ?_ ?_ ?_ _ _ _ hH hl
                      · omega
                      · omega
                      · omega
                      · omega
                    · exact absurd c_98 c_83
                  · -- 83F
                    refine n_iconst hx hb dX0_findPlain_86 ?_
                    refine lv_goto (tgt := 91) hx hb dX0_findPlain_87 (by decide) ?_
                    refine lv_istore hx hb dX0_findPlain_91 hl (Nat.le_of_ble_eq_true rfl) (lv' := [(4, .int (iI 1)), (6, .int (iI (oT (σ 2) a_ t))), (0, .ref a), (1, .int (iI s_)), (2, .int (iI t)), (3, .int (iI ((laN (σ 2) s_ t a_.toNat).1))), (5, .int (iI a_))]) rfl (fun ls hl => ?_)
                    refine lv_iload_n hx hb dX0_findPlain_93 rfl (lv_at hl 5 rfl) ?_
                    refine lv_iload hx hb dX0_findPlain_94 (lv_at hl 1 rfl) ?_
                    refine n_bipush (z := 100) hx hb dX0_findPlain_96 (by decide) ?_
                    refine n_icmp_ne (tgt := 108) hx hb (r32 (by omega)) (r32 (by omega)) dX0_findPlain_98 (by decide) (fun c_98 => ?_) (fun c_98 => ?_)
                    · exact absurd c_83 c_98
                    · -- 98F
                      refine n_iconst hx hb dX0_findPlain_101 ?_
                      refine lv_iload hx hb dX0_findPlain_102 (lv_at hl 6 rfl) ?_
                      refine n_ishl hx hb (by omega) (by omega) dX0_findPlain_104 ?_
                      refine lv_goto (tgt := 109) hx hb dX0_findPlain_105 (by decide) ?_
                      refine n_ior hx hb dX0_findPlain_109 ?_
                      refine lv_istore_n hx hb dX0_findPlain_110 rfl hl (Nat.le_of_ble_eq_true rfl) (lv' := [(3, .int (iI (bOr ((laN (σ 2) s_ t a_.toNat).1) (1 * 2 ^ a_.toNat)))), (4, .int (iI 1)), (6, .int (iI (oT (σ 2) a_ t))), (0, .ref a), (1, .int (iI s_)), (2, .int (iI t)), (5, .int (iI a_))]) rfl (fun ls hl => ?_)
                      refine n_iinc hx hb dX0_findPlain_111 hl (k := 6) rfl (Nat.le_of_ble_eq_true rfl) (lv' := [(5, .int (iI (a_ + 1))), (3, .int (iI (bOr ((laN (σ 2) s_ t a_.toNat).1) (1 * 2 ^ a_.toNat)))), (4, .int (iI 1)), (6, .int (iI (oT (σ 2) a_ t))), (0, .ref a), (1, .int (iI s_)), (2, .int (iI t))]) rfl (fun ls hl => ?_)
                      refine lv_goto (tgt := 21) hx hb dX0_findPlain_114 (by decide) ?_
                      have hl : lv_has ls 7 [(0, .ref a), (1, .int (iI s_)), (2, .int (iI t)), (3, .int (iI (bOr ((laN (σ 2) s_ t a_.toNat).1) (1 * 2 ^ a_.toNat)))), (4, .int (iI 1)), (5, .int (iI (a_ + 1)))] := lv_sub hl [4, 5, 6, 1, 2, 0] rfl
                      have hl : lv_has ls 7 [(0, .ref a), (1, .int (iI s_)), (2, .int (iI t)), (3, .int (iI ((laN (σ 2) s_ t (a_ + 1).toNat).1))), (4, .int (iI ((laN (σ 2) s_ t (a_ + 1).toNat).2))), (5, .int (iI (a_ + 1)))] := by rw [laN_e ha0, if_neg c_39]; show lv_has ls _ [_, _, _, (3, .int (iI (if _ then _ else _))), (4, .int (iI (if _ then _ else _))), _]; (repeat' split) <;> first | exact hl | (rw [bOr_0 hla.1] at hl; exact hl) | (exfalso; omega)
                      refine ih_21 (a_ + 1) ?_ ?_ ?_ ?_ _ _ _ hH hl
                      · omega
                      · omega
                      · omega
                      · omega
            · -- 39F
              refine lv_goto (tgt := 111) hx hb dX0_findPlain_42 (by decide) ?_
              refine n_iinc hx hb dX0_findPlain_111 hl (k := 5) rfl (Nat.le_of_ble_eq_true rfl) (lv' := [(5, .int (iI (a_ + 1))), (0, .ref a), (1, .int (iI s_)), (2, .int (iI t)), (3, .int (iI ((laN (σ 2) s_ t a_.toNat).1))), (4, .int (iI ((laN (σ 2) s_ t a_.toNat).2)))]) rfl (fun ls hl => ?_)
              refine lv_goto (tgt := 21) hx hb dX0_findPlain_114 (by decide) ?_
              have hl : lv_has ls 7 [(0, .ref a), (1, .int (iI s_)), (2, .int (iI t)), (3, .int (iI ((laN (σ 2) s_ t a_.toNat).1))), (4, .int (iI ((laN (σ 2) s_ t a_.toNat).2))), (5, .int (iI (a_ + 1)))] := lv_sub hl [1, 2, 3, 4, 5, 0] rfl
              have hl : lv_has ls 7 [(0, .ref a), (1, .int (iI s_)), (2, .int (iI t)), (3, .int (iI ((laN (σ 2) s_ t (a_ + 1).toNat).1))), (4, .int (iI ((laN (σ 2) s_ t (a_ + 1).toNat).2))), (5, .int (iI (a_ + 1)))] := by rw [laN_e ha0, if_pos c_39]; exact hl
              refine ih_21 (a_ + 1) ?_ ?_ ?_ ?_ _ _ _ hH hl
              · omega
              · omega
              · omega
              · omega
      refine lv_iload_n hx hb dX0_findPlain_2 rfl (lv_at hl 2 rfl) ?_
      refine lv_aload_n hx hb dX0_findPlain_3 rfl (lv_at hl 0 rfl) ?_
      refine x_get hx hb hts in_X0 hown hK hH hR1.o rfl 0 (by decide) q339 (fun _ h9 => h9) rfl (by decide) dX0_findPlain_4 ?_
      refine x_getN hx hb hts in_X1 hown hK hH hR1.b0 rfl 4 (by decide) hXN q170 (fun _ h9 => h9) rfl (by decide) dX0_findPlain_7 ?_
      refine n_icmp_ge (tgt := 139) hx hb (r32 (by omega)) (r32 (by omega)) dX0_findPlain_10 (by decide) (fun c_10 => ?_) (fun c_10 => ?_)
      · -- 10T
        refine x_vret hx hb hr hlk hH dX0_findPlain_139 ?_
        exact ⟨_, hR1, fun j a b => hAt j a (by omega), h10⟩
      · -- 10F
        refine n_iconst hx hb dX0_findPlain_13 ?_
        refine lv_istore_n hx hb dX0_findPlain_14 rfl hl (Nat.le_of_ble_eq_true rfl) (lv' := [(3, .int (iI 0)), (0, .ref a), (1, .int (iI s_)), (2, .int (iI t))]) rfl (fun ls hl => ?_)
        refine n_iconst hx hb dX0_findPlain_15 ?_
        refine lv_istore hx hb dX0_findPlain_16 hl (Nat.le_of_ble_eq_true rfl) (lv' := [(4, .int (iI 1)), (3, .int (iI 0)), (0, .ref a), (1, .int (iI s_)), (2, .int (iI t))]) rfl (fun ls hl => ?_)
        refine n_iconst hx hb dX0_findPlain_18 ?_
        refine lv_istore hx hb dX0_findPlain_19 hl (Nat.le_of_ble_eq_true rfl) (lv' := [(5, .int (iI 0)), (4, .int (iI 1)), (3, .int (iI 0)), (0, .ref a), (1, .int (iI s_)), (2, .int (iI t))]) rfl (fun ls hl => ?_)
        have hl : lv_has ls 7 [(0, .ref a), (1, .int (iI s_)), (2, .int (iI t)), (3, .int (iI 0)), (4, .int (iI 1)), (5, .int (iI 0))] := lv_sub hl [3, 4, 5, 2, 1, 0] rfl
        have hl : lv_has ls 7 [(0, .ref a), (1, .int (iI s_)), (2, .int (iI t)), (3, .int (iI ((laN (σ 2) s_ t (0 : Int).toNat).1))), (4, .int (iI ((laN (σ 2) s_ t (0 : Int).toNat).2))), (5, .int (iI 0))] := by exact hl
        refine L21 20 0 ?_ ?_ ?_ ?_ _ _ _ hH hl
        · omega
        · omega
        · omega
        · omega
  refine n_iconst hx hb dX0_findPlain_0 ?_
  refine lv_istore_n hx hb dX0_findPlain_1 rfl hl (Nat.le_of_ble_eq_true rfl) (lv' := [(2, .int (iI 0)), (0, .ref a), (1, .int (iI s_))]) rfl (fun ls hl => ?_)
  have hl : lv_has ls 7 [(0, .ref a), (1, .int (iI s_)), (2, .int (iI 0))] := lv_sub hl [1, 2, 0] rfl
  refine L2 20 M ω 0 ?_ ?_ ?_ ?_ ?_ ?_ _ _ _ hH hl
  · exact hR
  · exact fun j a b => by omega
  · rfl
  · omega
  · omega
  · omega
theorem kd_X0_by : yX0_by.cls = RX0 ∧ yX0_by.cls ≠ "java/lang/invoke/MethodHandle" ∧ yX0_by.cls ≠ "java/lang/invoke/VarHandle" ∧ (parseMethodDescriptor yX0_by.desc).map (fun d => d.parameters.length) = some 2 := by decide +kernel
theorem xm_X0_by (l : Launch) (G : MG) (M : Hp) (σ : St) (x : XGh) (ω : XCt) (a : Nat) (l_ : Int) (t_ : Int) (sz : Nat) (hR : RX G M a σ x ω) (hl0 : 0 ≤ l_) (hl1 : l_ < 4096) (ht : 0 ≤ t_ ∧ t_ < 12) (hY : R32 (gy ω 9 t_)) : Met l yX0_by (ws_ yX0_by cX0_by 4 (some .int)) (rmD 2) (xP G XN [.ref a, .int (iI l_), .int (iI t_)] M sz) (xQi G (DA M sz) (fun z M' => z = (if cutP (gy ω 9 t_) l_ then fvI (gy ω 10) (gy ω 9 t_) l_ else -1) ∧ M' = M)) 0 0 (DA M sz) := by
  refine x_start (by decide) (Nat.le_of_ble_eq_true rfl) ?_
  intro p e s m below meth c ⟨S, hr, hlk, hH, hK, hXN, hsz, hnm⟩ ls hl
  subst hsz
  obtain ⟨hx, hb, hml, hown, hts⟩ := S
  have S : CallFix p m c _ _ s _ lw_all RX0 := ⟨hx, hb, hml, hown, hts⟩
  have hA : ∀ q, s.heap.size ≤ q → DA M s.heap.size q := fun q hq => Or.inr hq
  have hl : lv_has ls 4 [(0, .ref a), (1, .int (iI l_)), (2, .int (iI t_))] := hl
  have hY2 := R32.n hY
  have hsp := bsplit (s := l_) (y := (gy ω 9 t_)) hl0 (by omega)
  have hfa := hR.fw (bAnd l_ (gy ω 9 t_)) hsp.1 (by omega)
  have hfb := hR.fw (bAnd l_ (bXor (gy ω 9 t_) (-1))) hsp.2.1 (by omega)
  refine lv_aload_n hx hb dX0_by_0 rfl (lv_at hl 0 rfl) ?_
  refine x_get hx hb hts in_X0 hown hK hH hR.o rfl 9 (by decide) q350 (fun _ h9 => h9) rfl (by decide) dX0_by_1 ?_
  refine lv_iload_n hx hb dX0_by_4 rfl (lv_at hl 2 rfl) ?_
  refine x_iald hx hb hK hH hR.p9 (by omega) (by omega) (Nat.le_of_ble_eq_true rfl) dX0_by_5 ?_
  refine n_iconst hx hb dX0_by_6 ?_
  refine n_icmp_ne (tgt := 12) hx hb (r32 (by omega)) (r32 (by omega)) dX0_by_7 (by decide) (fun c_7 => ?_) (fun c_7 => ?_)
  · -- 7T
    refine lv_iload_n hx hb dX0_by_12 rfl (lv_at hl 1 rfl) ?_
    refine lv_aload_n hx hb dX0_by_13 rfl (lv_at hl 0 rfl) ?_
    refine x_get hx hb hts in_X0 hown hK hH hR.o rfl 9 (by decide) q350 (fun _ h9 => h9) rfl (by decide) dX0_by_14 ?_
    refine lv_iload_n hx hb dX0_by_17 rfl (lv_at hl 2 rfl) ?_
    refine x_iald hx hb hK hH hR.p9 (by omega) (by omega) (Nat.le_of_ble_eq_true rfl) dX0_by_18 ?_
    refine n_iand hx hb dX0_by_19 ?_
    refine lv_istore_n hx hb dX0_by_20 rfl hl (Nat.le_of_ble_eq_true rfl) (lv' := [(3, .int (iI (bAnd l_ ((gy ω 9) t_)))), (0, .ref a), (1, .int (iI l_)), (2, .int (iI t_))]) rfl (fun ls hl => ?_)
    refine lv_iload_n hx hb dX0_by_21 rfl (lv_at hl 0 rfl) ?_
    refine n_if_eq (tgt := 30) hx hb (r32 (by omega)) dX0_by_22 (by decide) (fun c_22 => ?_) (fun c_22 => ?_)
    · -- 22T
      refine n_iconst hx hb dX0_by_30 ?_
      refine lv_goto (tgt := 55) hx hb dX0_by_31 (by decide) ?_
      refine x_iret hx hb hr hlk hH dX0_by_55 ?_
      refine ⟨?_, rfl⟩
      rw [if_neg (fun h => h.2.1 (by omega))]
    · -- 22F
      refine lv_iload_n hx hb dX0_by_25 rfl (lv_at hl 0 rfl) ?_
      refine lv_iload_n hx hb dX0_by_26 rfl (lv_at hl 2 rfl) ?_
      refine n_icmp_ne (tgt := 34) hx hb (r32 (by omega)) (r32 (by omega)) dX0_by_27 (by decide) (fun c_27 => ?_) (fun c_27 => ?_)
      · -- 27T
        refine n_iconst hx hb dX0_by_34 ?_
        refine lv_aload_n hx hb dX0_by_35 rfl (lv_at hl 1 rfl) ?_
        refine x_get hx hb hts in_X0 hown hK hH hR.o rfl 10 (by decide) q351 (fun _ h9 => h9) rfl (by decide) dX0_by_36 ?_
        refine lv_iload_n hx hb dX0_by_39 rfl (lv_at hl 0 rfl) ?_
        refine x_iald hx hb hK hH hR.p10 (by omega) (by omega) (Nat.le_of_ble_eq_true rfl) dX0_by_40 ?_
        refine lv_aload_n hx hb dX0_by_41 rfl (lv_at hl 1 rfl) ?_
        refine x_get hx hb hts in_X0 hown hK hH hR.o rfl 10 (by decide) q351 (fun _ h9 => h9) rfl (by decide) dX0_by_42 ?_
        refine lv_iload_n hx hb dX0_by_45 rfl (lv_at hl 2 rfl) ?_
        refine lv_iload_n hx hb dX0_by_46 rfl (lv_at hl 0 rfl) ?_
        refine n_iconst hx hb dX0_by_47 ?_
        refine n_ixor hx hb dX0_by_48 ?_
        refine n_iand hx hb dX0_by_49 ?_
        refine W.eq (g2 := F0 m 50 ls (.int (iI (bAnd l_ (bXor (gy ω 9 t_) (-1)))) :: .ref (gp x 10) :: .int (iI ((gy ω 10) (bAnd l_ ((gy ω 9) t_)))) :: .int (iI 1) :: [])) (by rw [bAnd_x hl0 (by omega)]) ?_
        refine x_iald hx hb hK hH hR.p10 (by omega) (by omega) (Nat.le_of_ble_eq_true rfl) dX0_by_50 ?_
        refine n_mmax hx hb hts (hml.trans hl.1.symm) hown (r32 (by omega)) (r32 (by omega)) q1316 q1317 q115 q1318 ⟨Nat.le_of_ble_eq_true rfl, Nat.le_of_ble_eq_true rfl⟩ ⟨Nat.le_of_ble_eq_true rfl, Nat.le_of_ble_eq_true rfl⟩ (Nat.le_of_ble_eq_true rfl) dX0_by_51 ?_
        refine n_iadd hx hb dX0_by_54 ?_
        refine x_iret hx hb hr hlk hH dX0_by_55 ?_
        refine ⟨?_, rfl⟩
        rw [if_pos ⟨by omega, by omega, by omega⟩, fvI]
        (repeat' split) <;> omega
      · -- 27F
        refine n_iconst hx hb dX0_by_30 ?_
        refine lv_goto (tgt := 55) hx hb dX0_by_31 (by decide) ?_
        refine x_iret hx hb hr hlk hH dX0_by_55 ?_
        refine ⟨?_, rfl⟩
        rw [if_neg (fun h => h.2.2 (by omega))]
  · -- 7F
    refine n_iconst hx hb dX0_by_10 ?_
    refine x_iret hx hb hr hlk hH dX0_by_11 ?_
    refine ⟨?_, rfl⟩
    rw [if_neg (fun h => h.1 (by omega))]
