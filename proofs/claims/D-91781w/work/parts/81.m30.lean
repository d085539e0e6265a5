theorem kd_X4_turnedOf : yX4_turnedOf.cls = RX4 ∧ yX4_turnedOf.cls ≠ "java/lang/invoke/MethodHandle" ∧ yX4_turnedOf.cls ≠ "java/lang/invoke/VarHandle" ∧ (parseMethodDescriptor yX4_turnedOf.desc).map (fun d => d.parameters.length) = some 2 := by decide +kernel
theorem mm_turnedOf (l : Launch) (G : MG) (σ : St) (c_ : Int) (x_ : Int) (sz : Nat) (hc0 : 0 ≤ c_) (hc1 : c_ < σ 2 1757) (h0 : 0 ≤ x_) (h1 : x_ < σ 2 1756) (hI : KI (σ 2)) (hT : TT (σ 2)) : Met l yX4_turnedOf (ws_ yX4_turnedOf cX4_turnedOf 7 (some .long)) (rmD 69) (mP G [.ref (G.2.2 0), .int (iI c_), .int (iI x_)] σ sz) (mQl G σ sz (fun z σ' => z = tuT (σ 2) c_ x_ ∧ ∃ A, Sc (sa σ 29 A) σ')) 0 0 (mA G σ sz) := by
  refine m_start (by decide) (Nat.le_of_ble_eq_true rfl) ?_
  intro p e s m below meth c ⟨S, hr, hlk, hH, hK, hj, hsz, hnm⟩ ls hl
  subst hsz
  obtain ⟨hx, hb, hml, hown, hts⟩ := S
  have S : CallFix p m c _ _ s _ lw_all RX4 := ⟨hx, hb, hml, hown, hts⟩
  have hA : ∀ q, s.heap.size ≤ q → mA G σ s.heap.size q := fun q hq => Or.inr hq
  have hl : lv_has ls 7 [(0, .ref (G.2.2 0)), (1, .int (iI c_)), (2, .int (iI x_))] := hl
  have b0 := hI.c
  unfold kCnt at b0
  have hco := hI.u c_ hc0 hc1
  have hones := onesN_r (σ 2 (1732 + 2 * c_)) 12
  have hp12 := pow_r b0.2.2.2.2.2.1.1 b0.2.2.2.2.2.1.2
  have L163 : ∀ (q : Nat) (τ : St) (A : Int → Int) (k : Int), (hAj : ∀ j : Int, 0 ≤ j → j < 11 → A j = (chN (σ 2) c_ x_ 12).2 j) → (hm : (chN (σ 2) c_ x_ 12).1 = onesN (σ 2 (1732 + 2 * c_)) 12) → (hk0 : σ 2 (1732 + 2 * c_ + 1) ≤ k) → (hk1 : k ≤ onesN (σ 2 (1732 + 2 * c_)) 12 + 1) → (hq : 11 < (q : Int) + k) → ∀ (H : Heap) (locs : List Loc) (ls : Array Slot), MH G (mA G σ s.heap.size) (mx (sa σ 29 A) τ) s.heap H locs → lv_has ls 7 [(0, .ref (G.2.2 0)), (3, .int (iI ((chN (σ 2) c_ x_ 12).1))), (4, .long (lI (pfS A k.toNat - pfS A (σ 2 (1732 + 2 * c_ + 1)).toNat))), (6, .int (iI k))] → W p l e (rmD 69) s m ([.ref (G.2.2 0), .int (iI c_), .int (iI x_)] : List Value).toArray below meth c H locs 0 0 (MQ below (mQl G σ s.heap.size (fun z σ' => z = tuT (σ 2) c_ x_ ∧ ∃ A, Sc (sa σ 29 A) σ')) ([.ref (G.2.2 0), .int (iI c_), .int (iI x_)] : List Value).toArray s 0 0 (mA G σ s.heap.size)) (F0 m 163 ls []) := by
    intro q
    induction q with
    | zero => intro τ A k hAj hm hk0 hk1 hq; exfalso; omega
    | succ q ih_163 =>
      intro τ A k hAj hm hk0 hk1 hq H locs ls hH hl
      refine lv_iload hx hb dX4_turnedOf_163 (lv_at hl 3 rfl) ?_
      refine lv_iload_n hx hb dX4_turnedOf_165 rfl (lv_at hl 1 rfl) ?_
      refine n_icmp_gt (tgt := 187) hx hb (r32 (by omega)) (r32 (by omega)) dX4_turnedOf_166 (by decide) (fun c_166 => ?_) (fun c_166 => ?_)
      · -- 166T
        refine lv_lload hx hb dX4_turnedOf_187 (lv_at hl 2 rfl) ?_
        refine m_lret hx hb hr hlk hH dX4_turnedOf_189 ?_
        refine ⟨?_, A, mx_sc⟩
        show _ = tuT _ _ _
        unfold tuT
        rw [show (onesN (σ 2 (1732 + 2 * c_)) 12 + 1).toNat = k.toNat by omega, pfS_cg (A := A) (B := (chN (σ 2) c_ x_ 12).2) (m := 11) (fun j hj => hAj j (by omega) (by omega)) _ (by omega), pfS_cg (A := A) (B := (chN (σ 2) c_ x_ 12).2) (m := 11) (fun j hj => hAj j (by omega) (by omega)) _ (by omega)]
      · -- 166F
        refine lv_lload hx hb dX4_turnedOf_169 (lv_at hl 2 rfl) ?_
        refine lv_aload_n hx hb dX4_turnedOf_171 rfl (lv_at hl 0 rfl) ?_
        refine m_get 29 (by decide) hx hb hts hown hK hj hH q1502 (fun _ h9 => h9) rfl dX4_turnedOf_172 ?_
        refine lv_iload hx hb dX4_turnedOf_175 (lv_at hl 3 rfl) ?_
        refine ml_29 hx hb hK hj hH (by omega) (by omega) dX4_turnedOf_177 ?_
        refine W.eq (g2 := F0 m 178 ls (.long (lI (A k)) :: .long (lI (pfS A k.toNat - pfS A (σ 2 (1732 + 2 * c_ + 1)).toNat)) :: [])) rfl ?_
        refine n_ladd hx hb dX4_turnedOf_178 ?_
        refine lv_lstore hx hb dX4_turnedOf_179 hl (Nat.le_of_ble_eq_true rfl) (lv' := [(4, .long (lI ((pfS A k.toNat - pfS A (σ 2 (1732 + 2 * c_ + 1)).toNat) + (A k)))), (0, .ref (G.2.2 0)), (3, .int (iI ((chN (σ 2) c_ x_ 12).1))), (6, .int (iI k))]) rfl (fun ls hl => ?_)
        refine n_iinc hx hb dX4_turnedOf_181 hl (k := 3) rfl (Nat.le_of_ble_eq_true rfl) (lv' := [(6, .int (iI (k + 1))), (4, .long (lI ((pfS A k.toNat - pfS A (σ 2 (1732 + 2 * c_ + 1)).toNat) + (A k)))), (0, .ref (G.2.2 0)), (3, .int (iI ((chN (σ 2) c_ x_ 12).1)))]) rfl (fun ls hl => ?_)
        refine lv_goto (tgt := 163) hx hb dX4_turnedOf_184 (by decide) ?_
        have hl : lv_has ls 7 [(0, .ref (G.2.2 0)), (3, .int (iI ((chN (σ 2) c_ x_ 12).1))), (4, .long (lI ((pfS A k.toNat - pfS A (σ 2 (1732 + 2 * c_ + 1)).toNat) + (A k)))), (6, .int (iI (k + 1)))] := lv_sub hl [2, 3, 1, 0] rfl
        have hl : lv_has ls 7 [(0, .ref (G.2.2 0)), (3, .int (iI ((chN (σ 2) c_ x_ 12).1))), (4, .long (lI (pfS A (k + 1).toNat - pfS A (σ 2 (1732 + 2 * c_ + 1)).toNat))), (6, .int (iI (k + 1)))] := by rw [pfS_e (by omega), show pfS A k.toNat + A k - pfS A (σ 2 (1732 + 2 * c_ + 1)).toNat = pfS A k.toNat - pfS A (σ 2 (1732 + 2 * c_ + 1)).toNat + A k by omega]; exact hl
        refine ih_163 τ A (k + 1) ?_ ?_ ?_ ?_ ?_ _ _ _ hH hl
        · exact hAj
        · exact hm
        · omega
        · omega
        · omega
  have L38 : ∀ (q : Nat) (τ : St) (A : Int → Int) (t : Int), (hAj : ∀ j : Int, 0 ≤ j → j < 11 → A j = (chN (σ 2) c_ x_ t.toNat).2 j) → (ht0 : 0 ≤ t) → (ht1 : t ≤ 12) → (hq : 12 < (q : Int) + t) → ∀ (H : Heap) (locs : List Loc) (ls : Array Slot), MH G (mA G σ s.heap.size) (mx (sa σ 29 A) τ) s.heap H locs → lv_has ls 7 [(0, .ref (G.2.2 0)), (1, .int (iI c_)), (2, .int (iI x_)), (3, .int (iI ((chN (σ 2) c_ x_ t.toNat).1))), (4, .int (iI t))] → W p l e (rmD 69) s m ([.ref (G.2.2 0), .int (iI c_), .int (iI x_)] : List Value).toArray below meth c H locs 0 0 (MQ below (mQl G σ s.heap.size (fun z σ' => z = tuT (σ 2) c_ x_ ∧ ∃ A, Sc (sa σ 29 A) σ')) ([.ref (G.2.2 0), .int (iI c_), .int (iI x_)] : List Value).toArray s 0 0 (mA G σ s.heap.size)) (F0 m 38 ls []) := by
    intro q
    induction q with
    | zero => intro τ A t hAj ht0 ht1 hq; exfalso; omega
    | succ q ih_38 =>
      intro τ A t hAj ht0 ht1 hq H locs ls hH hl
      have hcm := chN_m (κ := σ 2) (c := c_) (x := x_) t.toNat
      have hcr := chN_r (κ := σ 2) (c := c_) (x := x_) t.toNat
      have hot := oT_r (σ 2) x_ t
      have hon := onesN_r (σ 2 (1732 + 2 * c_)) t.toNat
      have L83 : ∀ (q1 : Nat) (τ1 : St) (B : Int → Int) (k : Int), (hbit : ¬ σ 2 (1732 + 2 * c_) / 2 ^ t.toNat % 2 = 0) → (ht2 : t < 12) → (hm9 : (chN (σ 2) c_ x_ t.toNat).1 + 1 ≤ 9) → (hBj : ∀ j : Int, 0 ≤ j → j < 11 → B j = if k < j ∧ j ≤ (chN (σ 2) c_ x_ t.toNat).1 + 1 then (fun k => (chN (σ 2) c_ x_ t.toNat).2 k * (100 - oT (σ 2) x_ t) + (if 0 < k then (chN (σ 2) c_ x_ t.toNat).2 (k - 1) * oT (σ 2) x_ t else 0)) j else (chN (σ 2) c_ x_ t.toNat).2 j) → (hk0 : -1 ≤ k) → (hk1 : k ≤ (chN (σ 2) c_ x_ t.toNat).1 + 1) → (hq1 : k + 1 < (q1 : Int)) → ∀ (H : Heap) (locs : List Loc) (ls : Array Slot), MH G (mA G σ s.heap.size) (mx (sa σ 29 B) τ1) s.heap H locs → lv_has ls 7 [(0, .ref (G.2.2 0)), (1, .int (iI c_)), (2, .int (iI x_)), (3, .int (iI ((chN (σ 2) c_ x_ t.toNat).1 + 1))), (4, .int (iI t)), (5, .int (iI (oT (σ 2) x_ t))), (6, .int (iI k))] → W p l e (rmD 69) s m ([.ref (G.2.2 0), .int (iI c_), .int (iI x_)] : List Value).toArray below meth c H locs 0 0 (MQ below (mQl G σ s.heap.size (fun z σ' => z = tuT (σ 2) c_ x_ ∧ ∃ A, Sc (sa σ 29 A) σ')) ([.ref (G.2.2 0), .int (iI c_), .int (iI x_)] : List Value).toArray s 0 0 (mA G σ s.heap.size)) (F0 m 83 ls []) := by
        intro q1
        induction q1 with
        | zero => intro τ1 B k hbit ht2 hm9 hBj hk0 hk1 hq1; exfalso; omega
        | succ q1 ih_83 =>
          intro τ1 B k hbit ht2 hm9 hBj hk0 hk1 hq1 H locs ls hH hl
          refine lv_iload hx hb dX4_turnedOf_83 (lv_at hl 6 rfl) ?_
          refine n_if_lt (tgt := 138) hx hb (r32 (by omega)) dX4_turnedOf_85 (by decide) (fun c_85 => ?_) (fun c_85 => ?_)
          · -- 85T
            refine n_iinc hx hb dX4_turnedOf_138 hl (k := 4) rfl (Nat.le_of_ble_eq_true rfl) (lv' := [(4, .int (iI (t + 1))), (0, .ref (G.2.2 0)), (1, .int (iI c_)), (2, .int (iI x_)), (3, .int (iI ((chN (σ 2) c_ x_ t.toNat).1 + 1))), (5, .int (iI (oT (σ 2) x_ t))), (6, .int (iI k))]) rfl (fun ls hl => ?_)
            refine lv_goto (tgt := 38) hx hb dX4_turnedOf_141 (by decide) ?_
            have hl : lv_has ls 7 [(0, .ref (G.2.2 0)), (1, .int (iI c_)), (2, .int (iI x_)), (3, .int (iI ((chN (σ 2) c_ x_ t.toNat).1 + 1))), (4, .int (iI (t + 1)))] := lv_sub hl [1, 2, 3, 4, 0] rfl
            have hl : lv_has ls 7 [(0, .ref (G.2.2 0)), (1, .int (iI c_)), (2, .int (iI x_)), (3, .int (iI ((chN (σ 2) c_ x_ (t + 1).toNat).1))), (4, .int (iI (t + 1)))] := by rw [chN_e ht0, if_neg hbit]; exact hl
            refine ih_38 τ1 B (t + 1) ?_ ?_ ?_ ?_ _ _ _ hH hl
            · rw [chN_e ht0, if_neg hbit]
              intro j a b
              rw [hBj j a b]
              by_cases z : k < j ∧ j ≤ (chN (σ 2) c_ x_ t.toNat).1 + 1
              · rw [if_pos z]
              · rw [if_neg z]
                show (chN (σ 2) c_ x_ t.toNat).2 j = (chN (σ 2) c_ x_ t.toNat).2 j * (100 - oT (σ 2) x_ t) + (if 0 < j then (chN (σ 2) c_ x_ t.toNat).2 (j - 1) * oT (σ 2) x_ t else 0)
                rw [hcr.2.2.1 j (by omega), if_pos (by omega), hcr.2.2.1 (j - 1) (by omega), Int.zero_mul, Int.zero_mul]
                rfl
            · omega
            · omega
            · omega
          · -- 85F
            refine lv_aload_n hx hb dX4_turnedOf_88 rfl (lv_at hl 0 rfl) ?_
            refine m_get 29 (by decide) hx hb hts hown hK hj hH q1502 (fun _ h9 => h9) rfl dX4_turnedOf_89 ?_
            refine lv_iload hx hb dX4_turnedOf_92 (lv_at hl 6 rfl) ?_
            refine lv_aload_n hx hb dX4_turnedOf_94 rfl (lv_at hl 0 rfl) ?_
            refine m_get 29 (by decide) hx hb hts hown hK hj hH q1502 (fun _ h9 => h9) rfl dX4_turnedOf_95 ?_
            refine lv_iload hx hb dX4_turnedOf_98 (lv_at hl 6 rfl) ?_
            refine ml_29 hx hb hK hj hH (by omega) (by omega) dX4_turnedOf_100 ?_
            refine W.eq (g2 := F0 m 101 ls (.long (lI (B k)) :: .int (iI k) :: .ref (G.2.2 29) :: [])) rfl ?_
            refine n_bipush (z := 100) hx hb dX4_turnedOf_101 (by decide) ?_
            refine lv_iload hx hb dX4_turnedOf_103 (lv_at hl 5 rfl) ?_
            refine n_isub hx hb dX4_turnedOf_105 ?_
            refine n_i2l hx hb (r32 (by omega)) dX4_turnedOf_106 ?_
            refine n_lmul hx hb dX4_turnedOf_107 ?_
            refine lv_iload hx hb dX4_turnedOf_108 (lv_at hl 6 rfl) ?_
            refine n_if_le (tgt := 129) hx hb (r32 (by omega)) dX4_turnedOf_110 (by decide) (fun c_110 => ?_) (fun c_110 => ?_)
            · -- 110T
              refine n_lconst (z := 0) hx hb dX4_turnedOf_129 (by decide) ?_
              refine n_ladd hx hb dX4_turnedOf_130 ?_
              refine ms_29 hx hb hK hj hH (by omega) (by omega) dX4_turnedOf_131 (fun H locs hH => ?_)
              have hH := MH_to hH (τ := mx (sa σ 29 (up B k (((B k) * (100 - (oT (σ 2) x_ t))) + 0))) τ1) (mx_stb (by decide))
              refine n_iinc hx hb dX4_turnedOf_132 hl (k := 6) rfl (Nat.le_of_ble_eq_true rfl) (lv' := [(6, .int (iI (k + (-1)))), (0, .ref (G.2.2 0)), (1, .int (iI c_)), (2, .int (iI x_)), (3, .int (iI ((chN (σ 2) c_ x_ t.toNat).1 + 1))), (4, .int (iI t)), (5, .int (iI (oT (σ 2) x_ t)))]) rfl (fun ls hl => ?_)
              refine lv_goto (tgt := 83) hx hb dX4_turnedOf_135 (by decide) ?_
              have hl : lv_has ls 7 [(0, .ref (G.2.2 0)), (1, .int (iI c_)), (2, .int (iI x_)), (3, .int (iI ((chN (σ 2) c_ x_ t.toNat).1 + 1))), (4, .int (iI t)), (5, .int (iI (oT (σ 2) x_ t))), (6, .int (iI (k + (-1))))] := lv_sub hl [1, 2, 3, 4, 5, 6, 0] rfl
              refine ih_83 τ1 (up B k (((B k) * (100 - (oT (σ 2) x_ t))) + 0)) (k + (-1)) ?_ ?_ ?_ ?_ ?_ ?_ ?_ _ _ _ hH hl
              · exact hbit
              · omega
              · exact hm9
              · intro j a b
                by_cases z : j = k
                · subst z
                  rw [up_s, hBj j a b, if_neg (by omega), if_pos (by omega)]
                  show _ = (chN (σ 2) c_ x_ t.toNat).2 j * (100 - oT (σ 2) x_ t) + (if 0 < j then (chN (σ 2) c_ x_ t.toNat).2 (j - 1) * oT (σ 2) x_ t else 0)
                  rw [if_neg (by omega)]
                · rw [up_n z, hBj j a b]
                  by_cases y : k < j ∧ j ≤ (chN (σ 2) c_ x_ t.toNat).1 + 1
                  · rw [if_pos y, if_pos (by omega)]
                  · rw [if_neg y, if_neg (by omega)]
              · omega
              · omega
              · omega
            · -- 110F
              refine lv_aload_n hx hb dX4_turnedOf_113 rfl (lv_at hl 0 rfl) ?_
              refine m_get 29 (by decide) hx hb hts hown hK hj hH q1502 (fun _ h9 => h9) rfl dX4_turnedOf_114 ?_
              refine lv_iload hx hb dX4_turnedOf_117 (lv_at hl 6 rfl) ?_
              refine n_iconst hx hb dX4_turnedOf_119 ?_
              refine n_isub hx hb dX4_turnedOf_120 ?_
              refine ml_29 hx hb hK hj hH (by omega) (by omega) dX4_turnedOf_121 ?_
              refine W.eq (g2 := F0 m 122 ls (.long (lI (B (k - 1))) :: .long (lI ((B k) * (100 - (oT (σ 2) x_ t)))) :: .int (iI k) :: .ref (G.2.2 29) :: [])) rfl ?_
              refine lv_iload hx hb dX4_turnedOf_122 (lv_at hl 5 rfl) ?_
              refine n_i2l hx hb (r32 (by omega)) dX4_turnedOf_124 ?_
              refine n_lmul hx hb dX4_turnedOf_125 ?_
              refine lv_goto (tgt := 130) hx hb dX4_turnedOf_126 (by decide) ?_
              refine n_ladd hx hb dX4_turnedOf_130 ?_
              refine ms_29 hx hb hK hj hH (by omega) (by omega) dX4_turnedOf_131 (fun H locs hH => ?_)
              have hH := MH_to hH (τ := mx (sa σ 29 (up B k (((B k) * (100 - (oT (σ 2) x_ t))) + ((B (k - 1)) * (oT (σ 2) x_ t))))) τ1) (mx_stb (by decide))
              refine n_iinc hx hb dX4_turnedOf_132 hl (k := 6) rfl (Nat.le_of_ble_eq_true rfl) (lv' := [(6, .int (iI (k + (-1)))), (0, .ref (G.2.2 0)), (1, .int (iI c_)), (2, .int (iI x_)), (3, .int (iI ((chN (σ 2) c_ x_ t.toNat).1 + 1))), (4, .int (iI t)), (5, .int (iI (oT (σ 2) x_ t)))]) rfl (fun ls hl => ?_)
              refine lv_goto (tgt := 83) hx hb dX4_turnedOf_135 (by decide) ?_
              have hl : lv_has ls 7 [(0, .ref (G.2.2 0)), (1, .int (iI c_)), (2, .int (iI x_)), (3, .int (iI ((chN (σ 2) c_ x_ t.toNat).1 + 1))), (4, .int (iI t)), (5, .int (iI (oT (σ 2) x_ t))), (6, .int (iI (k + (-1))))] := lv_sub hl [1, 2, 3, 4, 5, 6, 0] rfl
              refine ih_83 τ1 (up B k (((B k) * (100 - (oT (σ 2) x_ t))) + ((B (k - 1)) * (oT (σ 2) x_ t)))) (k + (-1)) ?_ ?_ ?_ ?_ ?_ ?_ ?_ _ _ _ hH hl
              · exact hbit
              · omega
              · exact hm9
              · intro j a b
                by_cases z : j = k
                · subst z
                  rw [up_s, hBj j a b, hBj (j - 1) (by omega) (by omega), if_neg (by omega), if_neg (by omega), if_pos (by omega)]
                  show _ = (chN (σ 2) c_ x_ t.toNat).2 j * (100 - oT (σ 2) x_ t) + (if 0 < j then (chN (σ 2) c_ x_ t.toNat).2 (j - 1) * oT (σ 2) x_ t else 0)
                  rw [if_pos (by omega)]
                · rw [up_n z, hBj j a b]
                  by_cases y : k < j ∧ j ≤ (chN (σ 2) c_ x_ t.toNat).1 + 1
                  · rw [if_pos y, if_pos (by omega)]
                  · rw [if_neg y, if_neg (by omega)]
              · omega
              · omega
              · omega
      refine lv_iload hx hb dX4_turnedOf_38 (lv_at hl 4 rfl) ?_
      refine n_bipush (z := 12) hx hb dX4_turnedOf_40 (by decide) ?_
      refine n_icmp_ge (tgt := 144) hx hb (r32 (by omega)) (r32 (by omega)) dX4_turnedOf_42 (by decide) (fun c_42 => ?_) (fun c_42 => ?_)
      · -- 42T
        refine n_lconst (z := 0) hx hb dX4_turnedOf_144 (by decide) ?_
        refine lv_lstore hx hb dX4_turnedOf_145 hl (Nat.le_of_ble_eq_true rfl) (lv' := [(4, .long (lI 0)), (0, .ref (G.2.2 0)), (1, .int (iI c_)), (2, .int (iI x_)), (3, .int (iI ((chN (σ 2) c_ x_ t.toNat).1)))]) rfl (fun ls hl => ?_)
        refine lv_aload_n hx hb dX4_turnedOf_147 rfl (lv_at hl 1 rfl) ?_
        refine m_get 2 (by decide) hx hb hts hown hK hj hH q1475 (fun _ h9 => h9) rfl dX4_turnedOf_148 ?_
        refine n_sipush (z := 1732) hx hb dX4_turnedOf_151 (by decide) ?_
        refine n_iconst hx hb dX4_turnedOf_154 ?_
        refine lv_iload_n hx hb dX4_turnedOf_155 rfl (lv_at hl 2 rfl) ?_
        refine n_imul hx hb dX4_turnedOf_156 ?_
        refine n_iadd hx hb dX4_turnedOf_157 ?_
        refine n_iconst hx hb dX4_turnedOf_158 ?_
        refine n_iadd hx hb dX4_turnedOf_159 ?_
        refine ml_2 hx hb hK hj hH (by omega) (by omega) dX4_turnedOf_160 ?_
        refine W.eq (g2 := F0 m 161 ls (.int (iI (σ 2 ((1732 + (2 * c_)) + 1))) :: [])) rfl ?_
        refine lv_istore hx hb dX4_turnedOf_161 hl (Nat.le_of_ble_eq_true rfl) (lv' := [(6, .int (iI (σ 2 ((1732 + (2 * c_)) + 1)))), (4, .long (lI 0)), (0, .ref (G.2.2 0)), (1, .int (iI c_)), (2, .int (iI x_)), (3, .int (iI ((chN (σ 2) c_ x_ t.toNat).1)))]) rfl (fun ls hl => ?_)
        have hl : lv_has ls 7 [(0, .ref (G.2.2 0)), (3, .int (iI ((chN (σ 2) c_ x_ t.toNat).1))), (4, .long (lI 0)), (6, .int (iI (σ 2 ((1732 + (2 * c_)) + 1))))] := lv_sub hl [2, 5, 1, 0] rfl
        have hl : lv_has ls 7 [(0, .ref (G.2.2 0)), (3, .int (iI ((chN (σ 2) c_ x_ 12).1))), (4, .long (lI (pfS A (σ 2 (1732 + 2 * c_ + 1)).toNat - pfS A (σ 2 (1732 + 2 * c_ + 1)).toNat))), (6, .int (iI (σ 2 ((1732 + (2 * c_)) + 1))))] := by rw [Int.sub_self, show (12 : Nat) = t.toNat by omega]; exact hl
        refine L163 20 τ A (σ 2 ((1732 + (2 * c_)) + 1)) ?_ ?_ ?_ ?_ ?_ _ _ _ hH hl
        · rw [show (12 : Nat) = t.toNat by omega]; exact hAj
        · exact chN_m 12
        · omega
        · omega
        · omega
      · -- 42F
        refine lv_aload_n hx hb dX4_turnedOf_45 rfl (lv_at hl 0 rfl) ?_
        refine m_get 2 (by decide) hx hb hts hown hK hj hH q1475 (fun _ h9 => h9) rfl dX4_turnedOf_46 ?_
        refine n_sipush (z := 1732) hx hb dX4_turnedOf_49 (by decide) ?_
        refine n_iconst hx hb dX4_turnedOf_52 ?_
        refine lv_iload_n hx hb dX4_turnedOf_53 rfl (lv_at hl 1 rfl) ?_
        refine n_imul hx hb dX4_turnedOf_54 ?_
        refine n_iadd hx hb dX4_turnedOf_55 ?_
        refine ml_2 hx hb hK hj hH (by omega) (by omega) dX4_turnedOf_56 ?_
        refine W.eq (g2 := F0 m 57 ls (.int (iI (σ 2 (1732 + (2 * c_)))) :: [])) rfl ?_
        refine lv_iload hx hb dX4_turnedOf_57 (lv_at hl 4 rfl) ?_
        refine n_ishr hx hb (r32 (by omega)) (by omega) (by omega) dX4_turnedOf_59 ?_
        refine n_iconst hx hb dX4_turnedOf_60 ?_
        refine n_and1 hx hb dX4_turnedOf_61 ?_
        refine n_if_ne (tgt := 68) hx hb (r32 (by omega)) dX4_turnedOf_62 (by decide) (fun c_62 => ?_) (fun c_62 => ?_)
        · -- 62T
          have hm9 : (chN (σ 2) c_ x_ t.toNat).1 + 1 ≤ 9 := by
            have e1 := onesN_e (x := σ 2 (1732 + 2 * c_)) ht0
            have e2 := onesN_m (σ 2 (1732 + 2 * c_)) (12 - (t + 1).toNat) (t + 1).toNat
            rw [show (t + 1).toNat + (12 - (t + 1).toNat) = 12 by omega] at e2
            omega
          refine lv_aload_n hx hb dX4_turnedOf_68 rfl (lv_at hl 0 rfl) ?_
          refine lv_iload_n hx hb dX4_turnedOf_69 rfl (lv_at hl 2 rfl) ?_
          refine lv_iload hx hb dX4_turnedOf_70 (lv_at hl 4 rfl) ?_
          refine m_calli (m_runV (As := [.int (iI x_), .int (iI t)]) (rest := []) S hH hK hj hl.1 (mm_oddsOfTrial l G (mx (sa σ 29 A) τ) x_ t _ h0 h1 hI hT ht0 (show t < σ 2 1755 from tlt hco.1 ht0 c_62)) (lw_V q1876 q1878 qs90 q109 q1879) kd_X4_oddsOfTrial rfl rfl dX4_turnedOf_72) hH hA (fun z72 σ72 H locs q_72 hH => ?_)
          obtain ⟨e_72, q_72⟩ := q_72
          have e_72 : z72 = (oT (σ 2) x_ t) := e_72
          subst e_72
          have hH := MH_to hH (τ := mx (sa σ 29 A) σ72) (mx_of q_72)
          refine lv_istore hx hb dX4_turnedOf_75 hl (Nat.le_of_ble_eq_true rfl) (lv' := [(5, .int (iI (oT (σ 2) x_ t))), (0, .ref (G.2.2 0)), (1, .int (iI c_)), (2, .int (iI x_)), (3, .int (iI ((chN (σ 2) c_ x_ t.toNat).1))), (4, .int (iI t))]) rfl (fun ls hl => ?_)
          refine n_iinc hx hb dX4_turnedOf_77 hl (k := 4) rfl (Nat.le_of_ble_eq_true rfl) (lv' := [(3, .int (iI (((chN (σ 2) c_ x_ t.toNat).1) + 1))), (5, .int (iI (oT (σ 2) x_ t))), (0, .ref (G.2.2 0)), (1, .int (iI c_)), (2, .int (iI x_)), (4, .int (iI t))]) rfl (fun ls hl => ?_)
          refine lv_iload_n hx hb dX4_turnedOf_80 rfl (lv_at hl 0 rfl) ?_
          refine lv_istore hx hb dX4_turnedOf_81 hl (Nat.le_of_ble_eq_true rfl) (lv' := [(6, .int (iI (((chN (σ 2) c_ x_ t.toNat).1) + 1))), (3, .int (iI (((chN (σ 2) c_ x_ t.toNat).1) + 1))), (5, .int (iI (oT (σ 2) x_ t))), (0, .ref (G.2.2 0)), (1, .int (iI c_)), (2, .int (iI x_)), (4, .int (iI t))]) rfl (fun ls hl => ?_)
          have hl : lv_has ls 7 [(0, .ref (G.2.2 0)), (1, .int (iI c_)), (2, .int (iI x_)), (3, .int (iI (((chN (σ 2) c_ x_ t.toNat).1) + 1))), (4, .int (iI t)), (5, .int (iI (oT (σ 2) x_ t))), (6, .int (iI (((chN (σ 2) c_ x_ t.toNat).1) + 1)))] := lv_sub hl [3, 4, 5, 1, 6, 2, 0] rfl
          refine L83 20 σ72 A (((chN (σ 2) c_ x_ t.toNat).1) + 1) ?_ ?_ ?_ ?_ ?_ ?_ ?_ _ _ _ hH hl
          · exact c_62
          · omega
          · exact hm9
          · intro j a b
            rw [if_neg (by omega)]
            exact hAj j a b
          · omega
          · omega
          · omega
        · -- 62F
          refine lv_goto (tgt := 138) hx hb dX4_turnedOf_65 (by decide) ?_
          refine n_iinc hx hb dX4_turnedOf_138 hl (k := 4) rfl (Nat.le_of_ble_eq_true rfl) (lv' := [(4, .int (iI (t + 1))), (0, .ref (G.2.2 0)), (1, .int (iI c_)), (2, .int (iI x_)), (3, .int (iI ((chN (σ 2) c_ x_ t.toNat).1)))]) rfl (fun ls hl => ?_)
          refine lv_goto (tgt := 38) hx hb dX4_turnedOf_141 (by decide) ?_
          have hl : lv_has ls 7 [(0, .ref (G.2.2 0)), (1, .int (iI c_)), (2, .int (iI x_)), (3, .int (iI ((chN (σ 2) c_ x_ t.toNat).1))), (4, .int (iI (t + 1)))] := lv_sub hl [1, 2, 3, 4, 0] rfl
          have hl : lv_has ls 7 [(0, .ref (G.2.2 0)), (1, .int (iI c_)), (2, .int (iI x_)), (3, .int (iI ((chN (σ 2) c_ x_ (t + 1).toNat).1))), (4, .int (iI (t + 1)))] := by rw [chN_e ht0, if_pos c_62]; exact hl
          refine ih_38 τ A (t + 1) ?_ ?_ ?_ ?_ _ _ _ hH hl
          · rw [chN_e ht0, if_pos c_62]; exact hAj
          · omega
          · omega
          · omega
  have L5 : ∀ (q : Nat) (A : Int → Int) (i : Int), (hAj : ∀ j : Int, 0 ≤ j → j < i → A j = if j = 0 then 1 else 0) → (hi0 : 0 ≤ i) → (hi1 : i ≤ 11) → (hq : 11 < (q : Int) + i) → ∀ (H : Heap) (locs : List Loc) (ls : Array Slot), MH G (mA G σ s.heap.size) (mx (sa σ 29 A) σ) s.heap H locs → lv_has ls 7 [(0, .ref (G.2.2 0)), (1, .int (iI c_)), (2, .int (iI x_)), (3, .int (iI 0)), (4, .int (iI i))] → W p l e (rmD 69) s m ([.ref (G.2.2 0), .int (iI c_), .int (iI x_)] : List Value).toArray below meth c H locs 0 0 (MQ below (mQl G σ s.heap.size (fun z σ' => z = tuT (σ 2) c_ x_ ∧ ∃ A, Sc (sa σ 29 A) σ')) ([.ref (G.2.2 0), .int (iI c_), .int (iI x_)] : List Value).toArray s 0 0 (mA G σ s.heap.size)) (F0 m 5 ls []) := by
    intro q
    induction q with
    | zero => intro A i hAj hi0 hi1 hq; exfalso; omega
    | succ q ih_5 =>
      intro A i hAj hi0 hi1 hq H locs ls hH hl
      refine lv_iload hx hb dX4_turnedOf_5 (lv_at hl 4 rfl) ?_
      refine n_bipush (z := 11) hx hb dX4_turnedOf_7 (by decide) ?_
      refine n_icmp_ge (tgt := 35) hx hb (r32 (by omega)) (r32 (by omega)) dX4_turnedOf_9 (by decide) (fun c_9 => ?_) (fun c_9 => ?_)
      · -- 9T
        refine n_iconst hx hb dX4_turnedOf_35 ?_
        refine lv_istore hx hb dX4_turnedOf_36 hl (Nat.le_of_ble_eq_true rfl) (lv' := [(4, .int (iI 0)), (0, .ref (G.2.2 0)), (1, .int (iI c_)), (2, .int (iI x_)), (3, .int (iI 0))]) rfl (fun ls hl => ?_)
        have hl : lv_has ls 7 [(0, .ref (G.2.2 0)), (1, .int (iI c_)), (2, .int (iI x_)), (3, .int (iI 0)), (4, .int (iI 0))] := lv_sub hl [1, 2, 3, 4, 0] rfl
        have hl : lv_has ls 7 [(0, .ref (G.2.2 0)), (1, .int (iI c_)), (2, .int (iI x_)), (3, .int (iI ((chN (σ 2) c_ x_ (0 : Int).toNat).1))), (4, .int (iI 0))] := by exact hl
        refine L38 20 σ A 0 ?_ ?_ ?_ ?_ _ _ _ hH hl
        · exact fun j a b => hAj j a (by omega)
        · omega
        · omega
        · omega
      · -- 9F
        refine lv_aload_n hx hb dX4_turnedOf_12 rfl (lv_at hl 0 rfl) ?_
        refine m_get 29 (by decide) hx hb hts hown hK hj hH q1502 (fun _ h9 => h9) rfl dX4_turnedOf_13 ?_
        refine lv_iload hx hb dX4_turnedOf_16 (lv_at hl 4 rfl) ?_
        refine lv_iload hx hb dX4_turnedOf_18 (lv_at hl 4 rfl) ?_
        refine n_if_ne (tgt := 27) hx hb (r32 (by omega)) dX4_turnedOf_20 (by decide) (fun c_20 => ?_) (fun c_20 => ?_)
        · -- 20T
          refine n_lconst (z := 0) hx hb dX4_turnedOf_27 (by decide) ?_
          refine ms_29 hx hb hK hj hH (by omega) (by omega) dX4_turnedOf_28 (fun H locs hH => ?_)
          have hH := MH_to hH (τ := mx (sa σ 29 (up A i 0)) σ) (mx_stb (by decide))
          refine n_iinc hx hb dX4_turnedOf_29 hl (k := 4) rfl (Nat.le_of_ble_eq_true rfl) (lv' := [(4, .int (iI (i + 1))), (0, .ref (G.2.2 0)), (1, .int (iI c_)), (2, .int (iI x_)), (3, .int (iI 0))]) rfl (fun ls hl => ?_)
          refine lv_goto (tgt := 5) hx hb dX4_turnedOf_32 (by decide) ?_
          have hl : lv_has ls 7 [(0, .ref (G.2.2 0)), (1, .int (iI c_)), (2, .int (iI x_)), (3, .int (iI 0)), (4, .int (iI (i + 1)))] := lv_sub hl [1, 2, 3, 4, 0] rfl
          refine ih_5 (up A i 0) (i + 1) ?_ ?_ ?_ ?_ _ _ _ hH hl
          · intro j a b
            by_cases z : j = i
            · subst z; rw [up_s]; first | rw [if_pos (by omega)] | rw [if_neg (by omega)]
            · rw [up_n z]; exact hAj j a (by omega)
          · omega
          · omega
          · omega
        · -- 20F
          refine n_lconst (z := 1) hx hb dX4_turnedOf_23 (by decide) ?_
          refine lv_goto (tgt := 28) hx hb dX4_turnedOf_24 (by decide) ?_
          refine ms_29 hx hb hK hj hH (by omega) (by omega) dX4_turnedOf_28 (fun H locs hH => ?_)
          have hH := MH_to hH (τ := mx (sa σ 29 (up A i 1)) σ) (mx_stb (by decide))
          refine n_iinc hx hb dX4_turnedOf_29 hl (k := 4) rfl (Nat.le_of_ble_eq_true rfl) (lv' := [(4, .int (iI (i + 1))), (0, .ref (G.2.2 0)), (1, .int (iI c_)), (2, .int (iI x_)), (3, .int (iI 0))]) rfl (fun ls hl => ?_)
          refine lv_goto (tgt := 5) hx hb dX4_turnedOf_32 (by decide) ?_
          have hl : lv_has ls 7 [(0, .ref (G.2.2 0)), (1, .int (iI c_)), (2, .int (iI x_)), (3, .int (iI 0)), (4, .int (iI (i + 1)))] := lv_sub hl [1, 2, 3, 4, 0] rfl
          refine ih_5 (up A i 1) (i + 1) ?_ ?_ ?_ ?_ _ _ _ hH hl
          · intro j a b
            by_cases z : j = i
            · subst z; rw [up_s]; first | rw [if_pos (by omega)] | rw [if_neg (by omega)]
            · rw [up_n z]; exact hAj j a (by omega)
          · omega
          · omega
          · omega
  have hH := MH_to hH (τ := mx (sa σ 29 (σ 29)) σ) (by rw [sa_self]; exact mx_self.symm)
  refine n_iconst hx hb dX4_turnedOf_0 ?_
  refine lv_istore_n hx hb dX4_turnedOf_1 rfl hl (Nat.le_of_ble_eq_true rfl) (lv' := [(3, .int (iI 0)), (0, .ref (G.2.2 0)), (1, .int (iI c_)), (2, .int (iI x_))]) rfl (fun ls hl => ?_)
  refine n_iconst hx hb dX4_turnedOf_2 ?_
  refine lv_istore hx hb dX4_turnedOf_3 hl (Nat.le_of_ble_eq_true rfl) (lv' := [(4, .int (iI 0)), (3, .int (iI 0)), (0, .ref (G.2.2 0)), (1, .int (iI c_)), (2, .int (iI x_))]) rfl (fun ls hl => ?_)
  have hl : lv_has ls 7 [(0, .ref (G.2.2 0)), (1, .int (iI c_)), (2, .int (iI x_)), (3, .int (iI 0)), (4, .int (iI 0))] := lv_sub hl [2, 3, 4, 1, 0] rfl
  refine L5 20 (σ 29) 0 ?_ ?_ ?_ ?_ _ _ _ hH hl
  · exact fun j a b => by omega
  · omega
  · omega
  · omega
theorem kd_X4_hundreds : yX4_hundreds.cls = RX4 ∧ yX4_hundreds.cls ≠ "java/lang/invoke/MethodHandle" ∧ yX4_hundreds.cls ≠ "java/lang/invoke/VarHandle" ∧ (parseMethodDescriptor yX4_hundreds.desc).map (fun d => d.parameters.length) = some 1 := by decide +kernel
theorem mm_hundreds (l : Launch) (G : MG) (σ : St) (c_ : Int) (sz : Nat) (hc0 : 0 ≤ c_) (hc1 : c_ < σ 2 1757) (hI : KI (σ 2)) : Met l yX4_hundreds (ws_ yX4_hundreds cX4_hundreds 2 (some .long)) (rmD 2) (mP G [.ref (G.2.2 0), .int (iI c_)] σ sz) (mQl G σ sz (fun z σ' => z = (huT (σ 2) c_) ∧ σ' = σ)) 0 0 (mA G σ sz) := by
  refine m_start (by decide) (Nat.le_of_ble_eq_true rfl) ?_
  intro p e s m below meth c ⟨S, hr, hlk, hH, hK, hj, hsz, hnm⟩ ls hl
  subst hsz
  obtain ⟨hx, hb, hml, hown, hts⟩ := S
  have S : CallFix p m c _ _ s _ lw_all RX4 := ⟨hx, hb, hml, hown, hts⟩
  have hA : ∀ q, s.heap.size ≤ q → mA G σ s.heap.size q := fun q hq => Or.inr hq
  have hl : lv_has ls 2 [(0, .ref (G.2.2 0)), (1, .int (iI c_))] := hl
  have b0 := hI.c
  unfold kCnt at b0
  have hco := hI.u c_ hc0 hc1
  have hones := onesN_r (σ 2 (1732 + 2 * c_)) 12
  have hp12 := pow_r b0.2.2.2.2.2.1.1 b0.2.2.2.2.2.1.2
  refine n_bipush (z := 100) hx hb dX4_hundreds_0 (by decide) ?_
  refine lv_aload_n hx hb dX4_hundreds_2 rfl (lv_at hl 0 rfl) ?_
  refine m_get 2 (by decide) hx hb hts hown hK hj hH q1475 (fun _ h9 => h9) rfl dX4_hundreds_3 ?_
  refine n_sipush (z := 1732) hx hb dX4_hundreds_6 (by decide) ?_
  refine n_iconst hx hb dX4_hundreds_9 ?_
  refine lv_iload_n hx hb dX4_hundreds_10 rfl (lv_at hl 1 rfl) ?_
  refine n_imul hx hb dX4_hundreds_11 ?_
  refine n_iadd hx hb dX4_hundreds_12 ?_
  refine ml_2 hx hb hK hj hH (by omega) (by omega) dX4_hundreds_13 ?_
  refine m_calliF (m_runS (As := [.int (iI (σ 2 (1732 + (2 * c_))))]) (rest := [.int (iI 100)]) S hH hK hj hl.1 (mm_ones l G σ (σ 2 (1732 + (2 * c_))) _ (r32 (by omega))) (lw_S q2019 q2020 q109 q2021) kd_X4_ones rfl rfl dX4_hundreds_14) hH hA (fun H locs hH => ?_)
  refine m_calllF (m_runS (As := [.int (iI 100), .int (iI (onesN (σ 2 (1732 + (2 * c_))) 12))]) (rest := []) S hH hK hj hl.1 (mm_power l G σ 100 (onesN (σ 2 (1732 + (2 * c_))) 12) _ (r32 (by omega)) (r32 (by omega))) (lw_S q1963 q1964 q109 q1965) kd_X4_power rfl rfl dX4_hundreds_17) hH hA (fun H locs hH => ?_)
  refine m_lret hx hb hr hlk hH dX4_hundreds_20 ?_
  exact ⟨rfl, rfl⟩
theorem kd_X4_judged : yX4_judged.cls = RX4 ∧ yX4_judged.cls ≠ "java/lang/invoke/MethodHandle" ∧ yX4_judged.cls ≠ "java/lang/invoke/VarHandle" ∧ (parseMethodDescriptor yX4_judged.desc).map (fun d => d.parameters.length) = some 3 := by decide +kernel
theorem mm_judged (l : Launch) (G : MG) (σ : St) (c_ : Int) (x_ : Int) (w_ : Int) (sz : Nat) (h_c_ : R32 c_) (h_x_ : R32 x_) (h_w_ : R32 w_) (hI : KI (σ 2)) (hT : TT (σ 2)) : Met l yX4_judged (ws_ yX4_judged cX4_judged 4 (some .long)) (rmD 70) (mP G [.ref (G.2.2 0), .int (iI c_), .int (iI x_), .int (iI w_)] σ sz) (mQl G σ sz (fun z σ' => z = judF (σ 2) c_ x_ w_ ∧ ∃ A, Sc (sa σ 29 A) σ')) 0 0 (mA G σ sz) := by
  refine m_start (by decide) (Nat.le_of_ble_eq_true rfl) ?_
  intro p e s m below meth c ⟨S, hr, hlk, hH, hK, hj, hsz, hnm⟩ ls hl
  subst hsz
  obtain ⟨hx, hb, hml, hown, hts⟩ := S
  have S : CallFix p m c _ _ s _ lw_all RX4 := ⟨hx, hb, hml, hown, hts⟩
  have hA : ∀ q, s.heap.size ≤ q → mA G σ s.heap.size q := fun q hq => Or.inr hq
  have hl : lv_has ls 4 [(0, .ref (G.2.2 0)), (1, .int (iI c_)), (2, .int (iI x_)), (3, .int (iI w_))] := hl
  have b0 := hI.c
  unfold kCnt at b0
  have h_c_ := R32.n h_c_
  have h_x_ := R32.n h_x_
  have h_w_ := R32.n h_w_
  have hH := MH_to hH (τ := mx (sa σ 29 (σ 29)) σ) (by rw [sa_self]; exact mx_self.symm)
  refine lv_aload_n hx hb dX4_judged_0 rfl (lv_at hl 0 rfl) ?_
  refine lv_iload_n hx hb dX4_judged_1 rfl (lv_at hl 1 rfl) ?_
  refine m_calliF (m_runV (As := [.int (iI c_)]) (rest := []) S hH hK hj hl.1 (mm_isCourt l G (mx (sa σ 29 (σ 29)) σ) c_ _ (r32 (by omega)) (show 0 ≤ σ 2 1757 from by omega) (show σ 2 1757 ≤ 1000 from by omega)) (lw_V q2026 q2028 qs101 q109 q2029) kd_X4_isCourt rfl rfl dX4_judged_2) hH hA (fun H locs hH => ?_)
  refine W.eq (g2 := F0 m 5 ls (.int (iI (zb (0 ≤ c_ ∧ c_ ≤ σ 2 1757 - 1))) :: [])) rfl ?_
  refine z_if_eq (tgt := 43) hx hb dX4_judged_5 (by decide) (fun c_5 => ?_) (fun c_5 => ?_)
  · -- 5T
    refine lv_ldc2 (v := lI (-1)) hx hb hown (by have h9 := hts _ q1896; rw [show ((-1) : Int64) = lI (-1) by decide +kernel] at h9; exact h9) dX4_judged_43 ?_
    refine m_lret hx hb hr hlk hH dX4_judged_46 ?_
    refine ⟨?_, _, mx_sc⟩
    show _ = judF _ _ _ _
    unfold judF isC isX
    first | rw [if_pos (by omega)] | rw [if_neg (by omega)]
  · -- 5F
    refine lv_aload_n hx hb dX4_judged_8 rfl (lv_at hl 0 rfl) ?_
    refine lv_iload_n hx hb dX4_judged_9 rfl (lv_at hl 2 rfl) ?_
    refine m_calliF (m_runV (As := [.int (iI x_)]) (rest := []) S hH hK hj hl.1 (mm_isText l G (mx (sa σ 29 (σ 29)) σ) x_ _ (r32 (by omega)) (show 0 ≤ σ 2 1756 from by omega) (show σ 2 1756 ≤ 1000 from by omega)) (lw_V q1803 q1805 qs73 q109 q1806) kd_X4_isText rfl rfl dX4_judged_10) hH hA (fun H locs hH => ?_)
    refine W.eq (g2 := F0 m 13 ls (.int (iI (zb (0 ≤ x_ ∧ x_ ≤ σ 2 1756 - 1))) :: [])) rfl ?_
    refine z_if_eq (tgt := 43) hx hb dX4_judged_13 (by decide) (fun c_13 => ?_) (fun c_13 => ?_)
    · -- 13T
      refine lv_ldc2 (v := lI (-1)) hx hb hown (by have h9 := hts _ q1896; rw [show ((-1) : Int64) = lI (-1) by decide +kernel] at h9; exact h9) dX4_judged_43 ?_
      refine m_lret hx hb hr hlk hH dX4_judged_46 ?_
      refine ⟨?_, _, mx_sc⟩
      show _ = judF _ _ _ _
      unfold judF isC isX
      first | rw [if_pos (by omega)] | rw [if_neg (by omega)]
    · -- 13F
      refine lv_iload_n hx hb dX4_judged_16 rfl (lv_at hl 3 rfl) ?_
      refine n_iconst hx hb dX4_judged_17 ?_
      refine n_iconst hx hb dX4_judged_18 ?_
      refine m_calliF (m_runS (As := [.int (iI w_), .int (iI 0), .int (iI 1)]) (rest := []) S hH hK hj hl.1 (mm_in l G (mx (sa σ 29 (σ 29)) σ) w_ 0 1 _ (r32 (by omega)) (r32 (by omega)) (r32 (by omega))) (lw_S q1569 q1570 q109 q1571) kd_X4_in rfl rfl dX4_judged_19) hH hA (fun H locs hH => ?_)
      refine z_if_eq (tgt := 43) hx hb dX4_judged_22 (by decide) (fun c_22 => ?_) (fun c_22 => ?_)
      · -- 22T
        refine lv_ldc2 (v := lI (-1)) hx hb hown (by have h9 := hts _ q1896; rw [show ((-1) : Int64) = lI (-1) by decide +kernel] at h9; exact h9) dX4_judged_43 ?_
        refine m_lret hx hb hr hlk hH dX4_judged_46 ?_
        refine ⟨?_, _, mx_sc⟩
        show _ = judF _ _ _ _
        unfold judF isC isX
        first | rw [if_pos (by omega)] | rw [if_neg (by omega)]
      · -- 22F
        refine lv_aload_n hx hb dX4_judged_25 rfl (lv_at hl 0 rfl) ?_
        refine lv_iload_n hx hb dX4_judged_26 rfl (lv_at hl 1 rfl) ?_
        refine lv_iload_n hx hb dX4_judged_27 rfl (lv_at hl 2 rfl) ?_
        refine m_calll (m_runV (As := [.int (iI c_), .int (iI x_)]) (rest := []) S hH hK hj hl.1 (mm_turnedOf l G (mx (sa σ 29 (σ 29)) σ) c_ x_ _ (by omega) (show c_ < σ 2 1757 from by omega) (by omega) (show x_ < σ 2 1756 from by omega) hI hT) (lw_V q2030 q2032 qs102 q109 q2033) kd_X4_turnedOf rfl rfl dX4_judged_28) hH hA (fun z28 σ28 H locs q_28 hH => ?_)
        obtain ⟨e1, A28, sc28⟩ := q_28
        have e1 : z28 = tuT (σ 2) c_ x_ := e1
        subst e1
        have hH := MH_to hH (τ := mx (sa σ 29 A28) σ28) (mx_t29 sc28)
        have htr := tuT_r (κ := σ 2) (x := x_) (show 0 ≤ c_ by omega) (by omega) hI
        refine lv_aload_n hx hb dX4_judged_31 rfl (lv_at hl 0 rfl) ?_
        refine lv_iload_n hx hb dX4_judged_32 rfl (lv_at hl 1 rfl) ?_
        refine m_calllF (m_runV (As := [.int (iI c_)]) (rest := [.long (lI (tuT (σ 2) c_ x_))]) S hH hK hj hl.1 (mm_hundreds l G (mx (sa σ 29 A28) σ28) c_ _ (by omega) (show c_ < σ 2 1757 from by omega) hI) (lw_V q2034 q2036 qs103 q109 q2037) kd_X4_hundreds rfl rfl dX4_judged_33) hH hA (fun H locs hH => ?_)
        refine W.eq (g2 := F0 m 36 ls (.long (lI (huT (σ 2) c_)) :: .long (lI (tuT (σ 2) c_ x_)) :: [])) rfl ?_
        refine lv_iload_n hx hb dX4_judged_36 rfl (lv_at hl 3 rfl) ?_
        refine m_calllF (m_runS (As := [.long (lI (tuT (σ 2) c_ x_)), .long (lI (huT (σ 2) c_)), .int (iI w_)]) (rest := []) S hH hK hj hl.1 (mm_part l G (mx (sa σ 29 A28) σ28) (tuT (σ 2) c_ x_) (huT (σ 2) c_) w_ _ (by omega) (by omega) (by omega) (by omega) (r32 (by omega))) (lw_S q1898 q1899 q109 q1900) kd_X4_part rfl rfl dX4_judged_37) hH hA (fun H locs hH => ?_)
        refine lv_goto (tgt := 46) hx hb dX4_judged_40 (by decide) ?_
        refine m_lret hx hb hr hlk hH dX4_judged_46 ?_
        refine ⟨?_, _, mx_sc⟩
        show _ = judF _ _ _ _
        unfold judF isC isX
        first | rw [if_pos (by omega)] | rw [if_neg (by omega)]
theorem kd_X4_leans : yX4_leans.cls = RX4 ∧ yX4_leans.cls ≠ "java/lang/invoke/MethodHandle" ∧ yX4_leans.cls ≠ "java/lang/invoke/VarHandle" ∧ (parseMethodDescriptor yX4_leans.desc).map (fun d => d.parameters.length) = some 3 := by decide +kernel
theorem mm_leans (l : Launch) (G : MG) (σ : St) (c_ : Int) (a_ : Int) (b_ : Int) (sz : Nat) (h_c_ : R32 c_) (h_a_ : R32 a_) (h_b_ : R32 b_) (hI : KI (σ 2)) (hT : TT (σ 2)) : Met l yX4_leans (ws_ yX4_leans cX4_leans 6 (some .int)) (rmD 70) (mP G [.ref (G.2.2 0), .int (iI c_), .int (iI a_), .int (iI b_)] σ sz) (mQi G σ sz (fun z σ' => z = leanF (σ 2) c_ a_ b_ ∧ ∃ A, Sc (sa σ 29 A) σ')) 0 0 (mA G σ sz) := by
  refine m_start (by decide) (Nat.le_of_ble_eq_true rfl) ?_
  intro p e s m below meth c ⟨S, hr, hlk, hH, hK, hj, hsz, hnm⟩ ls hl
  subst hsz
  obtain ⟨hx, hb, hml, hown, hts⟩ := S
  have S : CallFix p m c _ _ s _ lw_all RX4 := ⟨hx, hb, hml, hown, hts⟩
  have hA : ∀ q, s.heap.size ≤ q → mA G σ s.heap.size q := fun q hq => Or.inr hq
  have hl : lv_has ls 6 [(0, .ref (G.2.2 0)), (1, .int (iI c_)), (2, .int (iI a_)), (3, .int (iI b_))] := hl
  have b0 := hI.c
  unfold kCnt at b0
  have h_c_ := R32.n h_c_
  have h_a_ := R32.n h_a_
  have h_b_ := R32.n h_b_
  have hH := MH_to hH (τ := mx (sa σ 29 (σ 29)) σ) (by rw [sa_self]; exact mx_self.symm)
  refine lv_aload_n hx hb dX4_leans_0 rfl (lv_at hl 0 rfl) ?_
  refine lv_iload_n hx hb dX4_leans_1 rfl (lv_at hl 1 rfl) ?_
  refine m_calliF (m_runV (As := [.int (iI c_)]) (rest := []) S hH hK hj hl.1 (mm_isCourt l G (mx (sa σ 29 (σ 29)) σ) c_ _ (r32 (by omega)) (show 0 ≤ σ 2 1757 from by omega) (show σ 2 1757 ≤ 1000 from by omega)) (lw_V q2026 q2028 qs101 q109 q2029) kd_X4_isCourt rfl rfl dX4_leans_2) hH hA (fun H locs hH => ?_)
  refine W.eq (g2 := F0 m 5 ls (.int (iI (zb (0 ≤ c_ ∧ c_ ≤ σ 2 1757 - 1))) :: [])) rfl ?_
  refine z_if_eq (tgt := 24) hx hb dX4_leans_5 (by decide) (fun c_5 => ?_) (fun c_5 => ?_)
  · -- 5T
    refine n_sipush (z := -1000) hx hb dX4_leans_24 (by decide) ?_
    refine m_iret hx hb hr hlk hH dX4_leans_27 ?_
    refine ⟨?_, _, mx_sc⟩
    show _ = leanF _ _ _ _
    unfold leanF isC isX
    rw [if_neg (by omega)]
  · -- 5F
    refine lv_aload_n hx hb dX4_leans_8 rfl (lv_at hl 0 rfl) ?_
    refine lv_iload_n hx hb dX4_leans_9 rfl (lv_at hl 2 rfl) ?_
    refine m_calliF (m_runV (As := [.int (iI a_)]) (rest := []) S hH hK hj hl.1 (mm_isText l G (mx (sa σ 29 (σ 29)) σ) a_ _ (r32 (by omega)) (show 0 ≤ σ 2 1756 from by omega) (show σ 2 1756 ≤ 1000 from by omega)) (lw_V q1803 q1805 qs73 q109 q1806) kd_X4_isText rfl rfl dX4_leans_10) hH hA (fun H locs hH => ?_)
    refine W.eq (g2 := F0 m 13 ls (.int (iI (zb (0 ≤ a_ ∧ a_ ≤ σ 2 1756 - 1))) :: [])) rfl ?_
    refine z_if_eq (tgt := 24) hx hb dX4_leans_13 (by decide) (fun c_13 => ?_) (fun c_13 => ?_)
    · -- 13T
      refine n_sipush (z := -1000) hx hb dX4_leans_24 (by decide) ?_
      refine m_iret hx hb hr hlk hH dX4_leans_27 ?_
      refine ⟨?_, _, mx_sc⟩
      show _ = leanF _ _ _ _
      unfold leanF isC isX
      rw [if_neg (by omega)]
    · -- 13F
      refine lv_aload_n hx hb dX4_leans_16 rfl (lv_at hl 0 rfl) ?_
      refine lv_iload_n hx hb dX4_leans_17 rfl (lv_at hl 3 rfl) ?_
      refine m_calliF (m_runV (As := [.int (iI b_)]) (rest := []) S hH hK hj hl.1 (mm_isText l G (mx (sa σ 29 (σ 29)) σ) b_ _ (r32 (by omega)) (show 0 ≤ σ 2 1756 from by omega) (show σ 2 1756 ≤ 1000 from by omega)) (lw_V q1803 q1805 qs73 q109 q1806) kd_X4_isText rfl rfl dX4_leans_18) hH hA (fun H locs hH => ?_)
      refine W.eq (g2 := F0 m 21 ls (.int (iI (zb (0 ≤ b_ ∧ b_ ≤ σ 2 1756 - 1))) :: [])) rfl ?_
      refine z_if_ne (tgt := 28) hx hb dX4_leans_21 (by decide) (fun c_21 => ?_) (fun c_21 => ?_)
      · -- 21T
        refine lv_aload_n hx hb dX4_leans_28 rfl (lv_at hl 0 rfl) ?_
        refine lv_iload_n hx hb dX4_leans_29 rfl (lv_at hl 1 rfl) ?_
        refine lv_iload_n hx hb dX4_leans_30 rfl (lv_at hl 2 rfl) ?_
        refine m_calll (m_runV (As := [.int (iI c_), .int (iI a_)]) (rest := []) S hH hK hj hl.1 (mm_turnedOf l G (mx (sa σ 29 (σ 29)) σ) c_ a_ _ (by omega) (show c_ < σ 2 1757 from by omega) (by omega) (show a_ < σ 2 1756 from by omega) hI hT) (lw_V q2030 q2032 qs102 q109 q2033) kd_X4_turnedOf rfl rfl dX4_leans_31) hH hA (fun z31 σ31 H locs q_31 hH => ?_)
        obtain ⟨e1, A31, sc31⟩ := q_31
        have e1 : z31 = tuT (σ 2) c_ a_ := e1
        subst e1
        have hH := MH_to hH (τ := mx (sa σ 29 A31) σ31) (mx_t29 sc31)
        have htr := tuT_r (κ := σ 2) (x := a_) (show 0 ≤ c_ by omega) (by omega) hI
        have htd: 0 ≤ Int.tdiv (huT (σ 2) c_) 2 ∧ Int.tdiv (huT (σ 2) c_) 2 ≤ 1000000000000000000 := by rw [Int.tdiv_eq_ediv_of_nonneg (by omega)]; omega
        refine lv_aload_n hx hb dX4_leans_34 rfl (lv_at hl 0 rfl) ?_
        refine lv_iload_n hx hb dX4_leans_35 rfl (lv_at hl 1 rfl) ?_
        refine m_calllF (m_runV (As := [.int (iI c_)]) (rest := [.long (lI (tuT (σ 2) c_ a_))]) S hH hK hj hl.1 (mm_hundreds l G (mx (sa σ 29 A31) σ31) c_ _ (by omega) (show c_ < σ 2 1757 from by omega) hI) (lw_V q2034 q2036 qs103 q109 q2037) kd_X4_hundreds rfl rfl dX4_leans_36) hH hA (fun H locs hH => ?_)
        refine W.eq (g2 := F0 m 39 ls (.long (lI (huT (σ 2) c_)) :: .long (lI (tuT (σ 2) c_ a_)) :: [])) rfl ?_
        refine lv_ldc2 (v := lI 2) hx hb hown (hts _ q2042) dX4_leans_39 ?_
        refine n_ldiv hx hb (by decide) (r64 (by omega)) (r64 (by omega)) (r64 (by omega)) dX4_leans_42 ?_
        refine n_lcmp_lt (tgt := 51) hx hb (r64 (by omega)) (r64 (by omega)) dX4_leans_43 dX4_leans_44 (by decide) (fun c_43 => ?_) (fun c_43 => ?_)
        · -- 43T
          refine n_iconst hx hb dX4_leans_51 ?_
          refine lv_istore hx hb dX4_leans_52 hl (Nat.le_of_ble_eq_true rfl) (lv' := [(4, .int (iI 0)), (0, .ref (G.2.2 0)), (1, .int (iI c_)), (2, .int (iI a_)), (3, .int (iI b_))]) rfl (fun ls hl => ?_)
          refine lv_aload_n hx hb dX4_leans_54 rfl (lv_at hl 1 rfl) ?_
          refine lv_iload_n hx hb dX4_leans_55 rfl (lv_at hl 2 rfl) ?_
          refine lv_iload_n hx hb dX4_leans_56 rfl (lv_at hl 4 rfl) ?_
          refine m_calll (m_runV (As := [.int (iI c_), .int (iI b_)]) (rest := []) S hH hK hj hl.1 (mm_turnedOf l G (mx (sa σ 29 A31) σ31) c_ b_ _ (by omega) (show c_ < σ 2 1757 from by omega) (by omega) (show b_ < σ 2 1756 from by omega) hI hT) (lw_V q2030 q2032 qs102 q109 q2033) kd_X4_turnedOf rfl rfl dX4_leans_57) hH hA (fun z57 σ57 H locs q_57 hH => ?_)
          obtain ⟨e1, A57, sc57⟩ := q_57
          have e1 : z57 = tuT (σ 2) c_ b_ := e1
          subst e1
          have hH := MH_to hH (τ := mx (sa σ 29 A57) σ57) (mx_t29 sc57)
          have htr2 := tuT_r (κ := σ 2) (x := b_) (show 0 ≤ c_ by omega) (by omega) hI
          refine lv_aload_n hx hb dX4_leans_60 rfl (lv_at hl 1 rfl) ?_
          refine lv_iload_n hx hb dX4_leans_61 rfl (lv_at hl 2 rfl) ?_
          refine m_calllF (m_runV (As := [.int (iI c_)]) (rest := [.long (lI (tuT (σ 2) c_ b_))]) S hH hK hj hl.1 (mm_hundreds l G (mx (sa σ 29 A57) σ57) c_ _ (by omega) (show c_ < σ 2 1757 from by omega) hI) (lw_V q2034 q2036 qs103 q109 q2037) kd_X4_hundreds rfl rfl dX4_leans_62) hH hA (fun H locs hH => ?_)
          refine W.eq (g2 := F0 m 65 ls (.long (lI (huT (σ 2) c_)) :: .long (lI (tuT (σ 2) c_ b_)) :: [])) rfl ?_
          refine lv_ldc2 (v := lI 2) hx hb hown (hts _ q2042) dX4_leans_65 ?_
          refine n_ldiv hx hb (by decide) (r64 (by omega)) (r64 (by omega)) (r64 (by omega)) dX4_leans_68 ?_
          refine n_lcmp_lt (tgt := 77) hx hb (r64 (by omega)) (r64 (by omega)) dX4_leans_69 dX4_leans_70 (by decide) (fun c_69 => ?_) (fun c_69 => ?_)
          · -- 69T
            refine n_iconst hx hb dX4_leans_77 ?_
            refine lv_istore hx hb dX4_leans_78 hl (Nat.le_of_ble_eq_true rfl) (lv' := [(5, .int (iI 0)), (4, .int (iI 0)), (0, .ref (G.2.2 0)), (1, .int (iI c_)), (2, .int (iI a_)), (3, .int (iI b_))]) rfl (fun ls hl => ?_)
            refine lv_iload hx hb dX4_leans_80 (lv_at hl 1 rfl) ?_
            refine lv_iload hx hb dX4_leans_82 (lv_at hl 0 rfl) ?_
            refine n_icmp_eq (tgt := 91) hx hb (r32 (by omega)) (r32 (by omega)) dX4_leans_84 (by decide) (fun _ => ?_) (fun h => absurd h (by decide))
            refine lv_iload hx hb dX4_leans_91 (lv_at hl 1 rfl) ?_
            refine n_if_eq (tgt := 100) hx hb (r32 (by omega)) dX4_leans_93 (by decide) (fun _ => ?_) (fun h => absurd h (by decide))
            refine n_iconst hx hb dX4_leans_100 ?_
            refine m_iret hx hb hr hlk hH dX4_leans_101 ?_
            refine ⟨?_, _, mx_sc⟩
            show _ = leanF _ _ _ _
            unfold leanF isC isX
            rw [if_pos (by omega), zb_f (show ¬ leanP (σ 2) c_ a_ from by unfold leanP; omega), zb_f (show ¬ leanP (σ 2) c_ b_ from by unfold leanP; omega), if_neg (by decide), if_neg (show ¬ leanP (σ 2) c_ a_ from by unfold leanP; omega)]
          · -- 69F
            refine n_iconst hx hb dX4_leans_73 ?_
            refine lv_goto (tgt := 78) hx hb dX4_leans_74 (by decide) ?_
            refine lv_istore hx hb dX4_leans_78 hl (Nat.le_of_ble_eq_true rfl) (lv' := [(5, .int (iI 1)), (4, .int (iI 0)), (0, .ref (G.2.2 0)), (1, .int (iI c_)), (2, .int (iI a_)), (3, .int (iI b_))]) rfl (fun ls hl => ?_)
            refine lv_iload hx hb dX4_leans_80 (lv_at hl 1 rfl) ?_
            refine lv_iload hx hb dX4_leans_82 (lv_at hl 0 rfl) ?_
            refine n_icmp_eq (tgt := 91) hx hb (r32 (by omega)) (r32 (by omega)) dX4_leans_84 (by decide) (fun h => absurd h (by decide)) (fun _ => ?_)
            refine n_iconst hx hb dX4_leans_87 ?_
            refine lv_goto (tgt := 101) hx hb dX4_leans_88 (by decide) ?_
            refine m_iret hx hb hr hlk hH dX4_leans_101 ?_
            refine ⟨?_, _, mx_sc⟩
            show _ = leanF _ _ _ _
            unfold leanF isC isX
            rw [if_pos (by omega), zb_f (show ¬ leanP (σ 2) c_ a_ from by unfold leanP; omega), zb_t (show leanP (σ 2) c_ b_ from by unfold leanP; omega), if_pos (by decide)]
        · -- 43F
          refine n_iconst hx hb dX4_leans_47 ?_
          refine lv_goto (tgt := 52) hx hb dX4_leans_48 (by decide) ?_
          refine lv_istore hx hb dX4_leans_52 hl (Nat.le_of_ble_eq_true rfl) (lv' := [(4, .int (iI 1)), (0, .ref (G.2.2 0)), (1, .int (iI c_)), (2, .int (iI a_)), (3, .int (iI b_))]) rfl (fun ls hl => ?_)
          refine lv_aload_n hx hb dX4_leans_54 rfl (lv_at hl 1 rfl) ?_
          refine lv_iload_n hx hb dX4_leans_55 rfl (lv_at hl 2 rfl) ?_
          refine lv_iload_n hx hb dX4_leans_56 rfl (lv_at hl 4 rfl) ?_
          refine m_calll (m_runV (As := [.int (iI c_), .int (iI b_)]) (rest := []) S hH hK hj hl.1 (mm_turnedOf l G (mx (sa σ 29 A31) σ31) c_ b_ _ (by omega) (show c_ < σ 2 1757 from by omega) (by omega) (show b_ < σ 2 1756 from by omega) hI hT) (lw_V q2030 q2032 qs102 q109 q2033) kd_X4_turnedOf rfl rfl dX4_leans_57) hH hA (fun z57 σ57 H locs q_57 hH => ?_)
          obtain ⟨e1, A57, sc57⟩ := q_57
          have e1 : z57 = tuT (σ 2) c_ b_ := e1
          subst e1
          have hH := MH_to hH (τ := mx (sa σ 29 A57) σ57) (mx_t29 sc57)
          have htr2 := tuT_r (κ := σ 2) (x := b_) (show 0 ≤ c_ by omega) (by omega) hI
          refine lv_aload_n hx hb dX4_leans_60 rfl (lv_at hl 1 rfl) ?_
          refine lv_iload_n hx hb dX4_leans_61 rfl (lv_at hl 2 rfl) ?_
          refine m_calllF (m_runV (As := [.int (iI c_)]) (rest := [.long (lI (tuT (σ 2) c_ b_))]) S hH hK hj hl.1 (mm_hundreds l G (mx (sa σ 29 A57) σ57) c_ _ (by omega) (show c_ < σ 2 1757 from by omega) hI) (lw_V q2034 q2036 qs103 q109 q2037) kd_X4_hundreds rfl rfl dX4_leans_62) hH hA (fun H locs hH => ?_)
          refine W.eq (g2 := F0 m 65 ls (.long (lI (huT (σ 2) c_)) :: .long (lI (tuT (σ 2) c_ b_)) :: [])) rfl ?_
          refine lv_ldc2 (v := lI 2) hx hb hown (hts _ q2042) dX4_leans_65 ?_
          refine n_ldiv hx hb (by decide) (r64 (by omega)) (r64 (by omega)) (r64 (by omega)) dX4_leans_68 ?_
          refine n_lcmp_lt (tgt := 77) hx hb (r64 (by omega)) (r64 (by omega)) dX4_leans_69 dX4_leans_70 (by decide) (fun c_69 => ?_) (fun c_69 => ?_)
          · -- 69T
            refine n_iconst hx hb dX4_leans_77 ?_
            refine lv_istore hx hb dX4_leans_78 hl (Nat.le_of_ble_eq_true rfl) (lv' := [(5, .int (iI 0)), (4, .int (iI 1)), (0, .ref (G.2.2 0)), (1, .int (iI c_)), (2, .int (iI a_)), (3, .int (iI b_))]) rfl (fun ls hl => ?_)
            refine lv_iload hx hb dX4_leans_80 (lv_at hl 1 rfl) ?_
            refine lv_iload hx hb dX4_leans_82 (lv_at hl 0 rfl) ?_
            refine n_icmp_eq (tgt := 91) hx hb (r32 (by omega)) (r32 (by omega)) dX4_leans_84 (by decide) (fun h => absurd h (by decide)) (fun _ => ?_)
            refine n_iconst hx hb dX4_leans_87 ?_
            refine lv_goto (tgt := 101) hx hb dX4_leans_88 (by decide) ?_
            refine m_iret hx hb hr hlk hH dX4_leans_101 ?_
            refine ⟨?_, _, mx_sc⟩
            show _ = leanF _ _ _ _
            unfold leanF isC isX
            rw [if_pos (by omega), zb_t (show leanP (σ 2) c_ a_ from by unfold leanP; omega), zb_f (show ¬ leanP (σ 2) c_ b_ from by unfold leanP; omega), if_pos (by decide)]
          · -- 69F
            refine n_iconst hx hb dX4_leans_73 ?_
            refine lv_goto (tgt := 78) hx hb dX4_leans_74 (by decide) ?_
            refine lv_istore hx hb dX4_leans_78 hl (Nat.le_of_ble_eq_true rfl) (lv' := [(5, .int (iI 1)), (4, .int (iI 1)), (0, .ref (G.2.2 0)), (1, .int (iI c_)), (2, .int (iI a_)), (3, .int (iI b_))]) rfl (fun ls hl => ?_)
            refine lv_iload hx hb dX4_leans_80 (lv_at hl 1 rfl) ?_
            refine lv_iload hx hb dX4_leans_82 (lv_at hl 0 rfl) ?_
            refine n_icmp_eq (tgt := 91) hx hb (r32 (by omega)) (r32 (by omega)) dX4_leans_84 (by decide) (fun _ => ?_) (fun h => absurd h (by decide))
            refine lv_iload hx hb dX4_leans_91 (lv_at hl 1 rfl) ?_
            refine n_if_eq (tgt := 100) hx hb (r32 (by omega)) dX4_leans_93 (by decide) (fun h => absurd h (by decide)) (fun _ => ?_)
            refine n_iconst hx hb dX4_leans_96 ?_
            refine lv_goto (tgt := 101) hx hb dX4_leans_97 (by decide) ?_
            refine m_iret hx hb hr hlk hH dX4_leans_101 ?_
            refine ⟨?_, _, mx_sc⟩
            show _ = leanF _ _ _ _
            unfold leanF isC isX
            rw [if_pos (by omega), zb_t (show leanP (σ 2) c_ a_ from by unfold leanP; omega), zb_t (show leanP (σ 2) c_ b_ from by unfold leanP; omega), if_neg (by decide), if_pos (show leanP (σ 2) c_ a_ from by unfold leanP; omega)]
      · -- 21F
        refine n_sipush (z := -1000) hx hb dX4_leans_24 (by decide) ?_
        refine m_iret hx hb hr hlk hH dX4_leans_27 ?_
        refine ⟨?_, _, mx_sc⟩
        show _ = leanF _ _ _ _
        unfold leanF isC isX
        rw [if_neg (by omega)]
theorem kd_X4_shape : yX4_shape.cls = RX4 ∧ yX4_shape.cls ≠ "java/lang/invoke/MethodHandle" ∧ yX4_shape.cls ≠ "java/lang/invoke/VarHandle" ∧ (parseMethodDescriptor yX4_shape.desc).map (fun d => d.parameters.length) = some 4 := by decide +kernel
theorem mm_shape (l : Launch) (G : MG) (σ : St) (q_ : Int) (sh_ : Int) (k_ : Int) (w_ : Int) (sz : Nat) (h_q_ : R32 q_) (h_sh_ : R32 sh_) (h_k_ : R32 k_) (h_w_ : R32 w_) (hI : KI (σ 2)) : Met l yX4_shape (ws_ yX4_shape cX4_shape 7 (some .int)) (rmD 3) (mP G [.ref (G.2.2 0), .int (iI q_), .int (iI sh_), .int (iI k_), .int (iI w_)] σ sz) (mQi G σ sz (fun z σ' => z = (shpF (σ 2) q_ sh_ k_ w_) ∧ σ' = σ)) 0 0 (mA G σ sz) := by
  refine m_start (by decide) (Nat.le_of_ble_eq_true rfl) ?_
  intro p e s m below meth c ⟨S, hr, hlk, hH, hK, hj, hsz, hnm⟩ ls hl
  subst hsz
  obtain ⟨hx, hb, hml, hown, hts⟩ := S
  have S : CallFix p m c _ _ s _ lw_all RX4 := ⟨hx, hb, hml, hown, hts⟩
  have hA : ∀ q, s.heap.size ≤ q → mA G σ s.heap.size q := fun q hq => Or.inr hq
  have hl : lv_has ls 7 [(0, .ref (G.2.2 0)), (1, .int (iI q_)), (2, .int (iI sh_)), (3, .int (iI k_)), (4, .int (iI w_))] := hl
  have b0 := hI.c
  unfold kCnt at b0
  have h_q_ := R32.n h_q_
  have h_sh_ := R32.n h_sh_
  have h_k_ := R32.n h_k_
  have h_w_ := R32.n h_w_
  have L45 : ∀ (q : Nat) (k : Int), (hg : (0 ≤ q_ ∧ q_ ≤ 11) ∧ (0 ≤ sh_ ∧ sh_ ≤ 3) ∧ (0 ≤ k_ ∧ k_ ≤ σ 2 1752 - 1) ∧ (0 ≤ w_ ∧ w_ ≤ 1)) → (hk0 : 0 ≤ k) → (hk1 : k ≤ σ 2 1752) → (hq : σ 2 1752 < (q : Int) + k) → ∀ (H : Heap) (locs : List Loc) (ls : Array Slot), MH G (mA G σ s.heap.size) σ s.heap H locs → lv_has ls 7 [(0, .ref (G.2.2 0)), (1, .int (iI q_)), (2, .int (iI sh_)), (3, .int (iI k_)), (4, .int (iI w_)), (5, .int (iI (shN (σ 2) q_ sh_ k.toNat))), (6, .int (iI k))] → W p l e (rmD 3) s m ([.ref (G.2.2 0), .int (iI q_), .int (iI sh_), .int (iI k_), .int (iI w_)] : List Value).toArray below meth c H locs 0 0 (MQ below (mQi G σ s.heap.size (fun z σ' => z = (shpF (σ 2) q_ sh_ k_ w_) ∧ σ' = σ)) ([.ref (G.2.2 0), .int (iI q_), .int (iI sh_), .int (iI k_), .int (iI w_)] : List Value).toArray s 0 0 (mA G σ s.heap.size)) (F0 m 45 ls []) := by
    intro q
    induction q with
    | zero => intro k hg hk0 hk1 hq; exfalso; omega
    | succ q ih_45 =>
      intro k hg hk0 hk1 hq H locs ls hH hl
      have hsn := shN_r (sh := sh_) hI hg.1.1 (by omega) k.toNat (by omega)
      have hkk := hI.k k_ (by omega) (by omega)
      unfold kKind at hkk
      have hwk := shA_r (sh := sh_) (k := k_) hI hg.1.1 (by omega) (by omega) (by omega)
      have hww := (hI.w q_ k_ hg.1.1 (by omega) (by omega) (by omega)).1
      refine lv_iload hx hb dX4_shape_45 (lv_at hl 6 rfl) ?_
      refine lv_aload_n hx hb dX4_shape_47 rfl (lv_at hl 0 rfl) ?_
      refine m_get 2 (by decide) hx hb hts hown hK hj hH q1475 (fun _ h9 => h9) rfl dX4_shape_48 ?_
      refine n_sipush (z := 1752) hx hb dX4_shape_51 (by decide) ?_
      refine ml_2 hx hb hK hj hH (by omega) (by omega) dX4_shape_54 ?_
      refine n_icmp_ge (tgt := 99) hx hb (r32 (by omega)) (r32 (by omega)) dX4_shape_55 (by decide) (fun c_55 => ?_) (fun c_55 => ?_)
      · -- 55T
        refine lv_iload hx hb dX4_shape_99 (lv_at hl 5 rfl) ?_
        refine n_if_ne (tgt := 106) hx hb (r32 (by omega)) dX4_shape_101 (by decide) (fun c_101 => ?_) (fun c_101 => ?_)
        · -- 101T
          refine lv_aload_n hx hb dX4_shape_106 rfl (lv_at hl 0 rfl) ?_
          refine lv_iload_n hx hb dX4_shape_107 rfl (lv_at hl 3 rfl) ?_
          refine n_iconst hx hb dX4_shape_108 ?_
          refine m_calliF (m_runV (As := [.int (iI k_), .int (iI 5)]) (rest := []) S hH hK hj hl.1 (mm_kindOf l G σ k_ 5 _ (by omega) (by omega) (by omega) (by omega)) (lw_V q1629 q1631 qs49 q109 q1632) kd_X4_kindOf rfl rfl dX4_shape_109) hH hA (fun H locs hH => ?_)
          refine lv_iload_n hx hb dX4_shape_112 rfl (lv_at hl 2 rfl) ?_
          refine n_icmp_ne (tgt := 134) hx hb (r32 (by omega)) (r32 (by omega)) dX4_shape_113 (by decide) (fun c_113 => ?_) (fun c_113 => ?_)
          · -- 113T
            have hsa : shA (σ 2) q_ sh_ k_ = 0 := if_neg c_113
            refine n_lconst (z := 0) hx hb dX4_shape_134 (by decide) ?_
            refine lv_iload hx hb dX4_shape_135 (lv_at hl 5 rfl) ?_
            refine n_i2l hx hb (r32 (by omega)) dX4_shape_137 ?_
            refine lv_iload hx hb dX4_shape_138 (lv_at hl 4 rfl) ?_
            refine m_calllF (m_runS (As := [.long (lI 0), .long (lI (shN (σ 2) q_ sh_ k.toNat)), .int (iI w_)]) (rest := []) S hH hK hj hl.1 (mm_part l G σ 0 (shN (σ 2) q_ sh_ k.toNat) w_ _ (by omega) (by omega) (by omega) (by omega) (r32 (by omega))) (lw_S q1898 q1899 q109 q1900) kd_X4_part rfl rfl dX4_shape_140) hH hA (fun H locs hH => ?_)
            refine n_l2i hx hb dX4_shape_143 ?_
            refine m_iret hx hb hr hlk hH dX4_shape_144 ?_
            exact ⟨by rw [shpF, if_pos hg, show (σ 2 1752).toNat = k.toNat by omega, if_neg c_101, hsa], rfl⟩
          · -- 113F
            have hsa : shA (σ 2) q_ sh_ k_ = σ 2 (40 + 8 * q_ + k_) := if_pos c_113
            refine lv_aload_n hx hb dX4_shape_116 rfl (lv_at hl 0 rfl) ?_
            refine m_get 2 (by decide) hx hb hts hown hK hj hH q1475 (fun _ h9 => h9) rfl dX4_shape_117 ?_
            refine n_bipush (z := 40) hx hb dX4_shape_120 (by decide) ?_
            refine n_bipush (z := 8) hx hb dX4_shape_122 (by decide) ?_
            refine lv_iload_n hx hb dX4_shape_124 rfl (lv_at hl 1 rfl) ?_
            refine n_imul hx hb dX4_shape_125 ?_
            refine n_iadd hx hb dX4_shape_126 ?_
            refine lv_iload_n hx hb dX4_shape_127 rfl (lv_at hl 3 rfl) ?_
            refine n_iadd hx hb dX4_shape_128 ?_
            refine ml_2 hx hb hK hj hH (by omega) (by omega) dX4_shape_129 ?_
            refine n_i2l hx hb (r32 (by omega)) dX4_shape_130 ?_
            refine lv_goto (tgt := 135) hx hb dX4_shape_131 (by decide) ?_
            refine lv_iload hx hb dX4_shape_135 (lv_at hl 5 rfl) ?_
            refine n_i2l hx hb (r32 (by omega)) dX4_shape_137 ?_
            refine lv_iload hx hb dX4_shape_138 (lv_at hl 4 rfl) ?_
            refine m_calllF (m_runS (As := [.long (lI (σ 2 ((40 + (8 * q_)) + k_))), .long (lI (shN (σ 2) q_ sh_ k.toNat)), .int (iI w_)]) (rest := []) S hH hK hj hl.1 (mm_part l G σ (σ 2 ((40 + (8 * q_)) + k_)) (shN (σ 2) q_ sh_ k.toNat) w_ _ (by omega) (by omega) (by omega) (by omega) (r32 (by omega))) (lw_S q1898 q1899 q109 q1900) kd_X4_part rfl rfl dX4_shape_140) hH hA (fun H locs hH => ?_)
            refine n_l2i hx hb dX4_shape_143 ?_
            refine m_iret hx hb hr hlk hH dX4_shape_144 ?_
            exact ⟨by rw [shpF, if_pos hg, show (σ 2 1752).toNat = k.toNat by omega, if_neg c_101, hsa], rfl⟩
        · -- 101F
          refine n_iconst hx hb dX4_shape_104 ?_
          refine m_iret hx hb hr hlk hH dX4_shape_105 ?_
          exact ⟨by rw [shpF, if_pos hg, show (σ 2 1752).toNat = k.toNat by omega, if_pos c_101], rfl⟩
      · -- 55F
        have hkk2 := hI.k k (by omega) (by omega)
        unfold kKind at hkk2
        refine lv_iload hx hb dX4_shape_58 (lv_at hl 5 rfl) ?_
        refine lv_aload_n hx hb dX4_shape_60 rfl (lv_at hl 0 rfl) ?_
        refine lv_iload hx hb dX4_shape_61 (lv_at hl 6 rfl) ?_
        refine n_iconst hx hb dX4_shape_63 ?_
        refine m_calliF (m_runV (As := [.int (iI k), .int (iI 5)]) (rest := [.int (iI (shN (σ 2) q_ sh_ k.toNat))]) S hH hK hj hl.1 (mm_kindOf l G σ k 5 _ (by omega) (by omega) (by omega) (by omega)) (lw_V q1629 q1631 qs49 q109 q1632) kd_X4_kindOf rfl rfl dX4_shape_64) hH hA (fun H locs hH => ?_)
        refine lv_iload_n hx hb dX4_shape_67 rfl (lv_at hl 2 rfl) ?_
        refine n_icmp_ne (tgt := 89) hx hb (r32 (by omega)) (r32 (by omega)) dX4_shape_68 (by decide) (fun c_68 => ?_) (fun c_68 => ?_)
        · -- 68T
          refine n_iconst hx hb dX4_shape_89 ?_
          refine n_iadd hx hb dX4_shape_90 ?_
          refine lv_istore hx hb dX4_shape_91 hl (Nat.le_of_ble_eq_true rfl) (lv' := [(5, .int (iI ((shN (σ 2) q_ sh_ k.toNat) + 0))), (0, .ref (G.2.2 0)), (1, .int (iI q_)), (2, .int (iI sh_)), (3, .int (iI k_)), (4, .int (iI w_)), (6, .int (iI k))]) rfl (fun ls hl => ?_)
          refine n_iinc hx hb dX4_shape_93 hl (k := 6) rfl (Nat.le_of_ble_eq_true rfl) (lv' := [(6, .int (iI (k + 1))), (5, .int (iI ((shN (σ 2) q_ sh_ k.toNat) + 0))), (0, .ref (G.2.2 0)), (1, .int (iI q_)), (2, .int (iI sh_)), (3, .int (iI k_)), (4, .int (iI w_))]) rfl (fun ls hl => ?_)
          refine lv_goto (tgt := 45) hx hb dX4_shape_96 (by decide) ?_
          have hl : lv_has ls 7 [(0, .ref (G.2.2 0)), (1, .int (iI q_)), (2, .int (iI sh_)), (3, .int (iI k_)), (4, .int (iI w_)), (5, .int (iI ((shN (σ 2) q_ sh_ k.toNat) + 0))), (6, .int (iI (k + 1)))] := lv_sub hl [2, 3, 4, 5, 6, 1, 0] rfl
          have hl : lv_has ls 7 [(0, .ref (G.2.2 0)), (1, .int (iI q_)), (2, .int (iI sh_)), (3, .int (iI k_)), (4, .int (iI w_)), (5, .int (iI (shN (σ 2) q_ sh_ (k + 1).toNat))), (6, .int (iI (k + 1)))] := by rw [shN_e hk0, show shA (σ 2) q_ sh_ k = 0 from if_neg c_68]; exact hl
          refine ih_45 (k + 1) ?_ ?_ ?_ ?_ _ _ _ hH hl
          · exact hg
          · omega
          · omega
          · omega
        · -- 68F
          refine lv_aload_n hx hb dX4_shape_71 rfl (lv_at hl 0 rfl) ?_
          refine m_get 2 (by decide) hx hb hts hown hK hj hH q1475 (fun _ h9 => h9) rfl dX4_shape_72 ?_
          refine n_bipush (z := 40) hx hb dX4_shape_75 (by decide) ?_
          refine n_bipush (z := 8) hx hb dX4_shape_77 (by decide) ?_
          refine lv_iload_n hx hb dX4_shape_79 rfl (lv_at hl 1 rfl) ?_
          refine n_imul hx hb dX4_shape_80 ?_
          refine n_iadd hx hb dX4_shape_81 ?_
          refine lv_iload hx hb dX4_shape_82 (lv_at hl 6 rfl) ?_
          refine n_iadd hx hb dX4_shape_84 ?_
          refine ml_2 hx hb hK hj hH (by omega) (by omega) dX4_shape_85 ?_
          refine lv_goto (tgt := 90) hx hb dX4_shape_86 (by decide) ?_
          refine n_iadd hx hb dX4_shape_90 ?_
          refine lv_istore hx hb dX4_shape_91 hl (Nat.le_of_ble_eq_true rfl) (lv' := [(5, .int (iI ((shN (σ 2) q_ sh_ k.toNat) + (σ 2 ((40 + (8 * q_)) + k))))), (0, .ref (G.2.2 0)), (1, .int (iI q_)), (2, .int (iI sh_)), (3, .int (iI k_)), (4, .int (iI w_)), (6, .int (iI k))]) rfl (fun ls hl => ?_)
          refine n_iinc hx hb dX4_shape_93 hl (k := 6) rfl (Nat.le_of_ble_eq_true rfl) (lv' := [(6, .int (iI (k + 1))), (5, .int (iI ((shN (σ 2) q_ sh_ k.toNat) + (σ 2 ((40 + (8 * q_)) + k))))), (0, .ref (G.2.2 0)), (1, .int (iI q_)), (2, .int (iI sh_)), (3, .int (iI k_)), (4, .int (iI w_))]) rfl (fun ls hl => ?_)
          refine lv_goto (tgt := 45) hx hb dX4_shape_96 (by decide) ?_
          have hl : lv_has ls 7 [(0, .ref (G.2.2 0)), (1, .int (iI q_)), (2, .int (iI sh_)), (3, .int (iI k_)), (4, .int (iI w_)), (5, .int (iI ((shN (σ 2) q_ sh_ k.toNat) + (σ 2 ((40 + (8 * q_)) + k))))), (6, .int (iI (k + 1)))] := lv_sub hl [2, 3, 4, 5, 6, 1, 0] rfl
          have hl : lv_has ls 7 [(0, .ref (G.2.2 0)), (1, .int (iI q_)), (2, .int (iI sh_)), (3, .int (iI k_)), (4, .int (iI w_)), (5, .int (iI (shN (σ 2) q_ sh_ (k + 1).toNat))), (6, .int (iI (k + 1)))] := by rw [shN_e hk0, show shA (σ 2) q_ sh_ k = σ 2 (40 + 8 * q_ + k) from if_pos c_68]; exact hl
          refine ih_45 (k + 1) ?_ ?_ ?_ ?_ _ _ _ hH hl
          · exact hg
          · omega
          · omega
          · omega
  refine lv_iload_n hx hb dX4_shape_0 rfl (lv_at hl 1 rfl) ?_
  refine n_iconst hx hb dX4_shape_1 ?_
  refine n_bipush (z := 11) hx hb dX4_shape_2 (by decide) ?_
  refine m_calliF (m_runS (As := [.int (iI q_), .int (iI 0), .int (iI 11)]) (rest := []) S hH hK hj hl.1 (mm_in l G σ q_ 0 11 _ (r32 (by omega)) (r32 (by omega)) (r32 (by omega))) (lw_S q1569 q1570 q109 q1571) kd_X4_in rfl rfl dX4_shape_4) hH hA (fun H locs hH => ?_)
  refine z_if_eq (tgt := 37) hx hb dX4_shape_7 (by decide) (fun c_7 => ?_) (fun c_7 => ?_)
  · -- 7T
    refine n_iconst hx hb dX4_shape_37 ?_
    refine m_iret hx hb hr hlk hH dX4_shape_38 ?_
    exact ⟨(if_neg (by omega)).symm, rfl⟩
  · -- 7F
    refine lv_iload_n hx hb dX4_shape_10 rfl (lv_at hl 2 rfl) ?_
    refine n_iconst hx hb dX4_shape_11 ?_
    refine n_iconst hx hb dX4_shape_12 ?_
    refine m_calliF (m_runS (As := [.int (iI sh_), .int (iI 0), .int (iI 3)]) (rest := []) S hH hK hj hl.1 (mm_in l G σ sh_ 0 3 _ (r32 (by omega)) (r32 (by omega)) (r32 (by omega))) (lw_S q1569 q1570 q109 q1571) kd_X4_in rfl rfl dX4_shape_13) hH hA (fun H locs hH => ?_)
    refine z_if_eq (tgt := 37) hx hb dX4_shape_16 (by decide) (fun c_16 => ?_) (fun c_16 => ?_)
    · -- 16T
      refine n_iconst hx hb dX4_shape_37 ?_
      refine m_iret hx hb hr hlk hH dX4_shape_38 ?_
      exact ⟨(if_neg (by omega)).symm, rfl⟩
    · -- 16F
      refine lv_aload_n hx hb dX4_shape_19 rfl (lv_at hl 0 rfl) ?_
      refine lv_iload_n hx hb dX4_shape_20 rfl (lv_at hl 3 rfl) ?_
      refine m_calliF (m_runV (As := [.int (iI k_)]) (rest := []) S hH hK hj hl.1 (mm_isKind l G σ k_ _ (r32 (by omega)) (by omega) (by omega)) (lw_V q1600 q1602 qs45 q109 q1603) kd_X4_isKind rfl rfl dX4_shape_21) hH hA (fun H locs hH => ?_)
      refine z_if_eq (tgt := 37) hx hb dX4_shape_24 (by decide) (fun c_24 => ?_) (fun c_24 => ?_)
      · -- 24T
        refine n_iconst hx hb dX4_shape_37 ?_
        refine m_iret hx hb hr hlk hH dX4_shape_38 ?_
        exact ⟨(if_neg (by omega)).symm, rfl⟩
      · -- 24F
        refine lv_iload hx hb dX4_shape_27 (lv_at hl 4 rfl) ?_
        refine n_iconst hx hb dX4_shape_29 ?_
        refine n_iconst hx hb dX4_shape_30 ?_
        refine m_calliF (m_runS (As := [.int (iI w_), .int (iI 0), .int (iI 1)]) (rest := []) S hH hK hj hl.1 (mm_in l G σ w_ 0 1 _ (r32 (by omega)) (r32 (by omega)) (r32 (by omega))) (lw_S q1569 q1570 q109 q1571) kd_X4_in rfl rfl dX4_shape_31) hH hA (fun H locs hH => ?_)
        refine z_if_ne (tgt := 39) hx hb dX4_shape_34 (by decide) (fun c_34 => ?_) (fun c_34 => ?_)
        · -- 34T
          refine n_iconst hx hb dX4_shape_39 ?_
          refine lv_istore hx hb dX4_shape_40 hl (Nat.le_of_ble_eq_true rfl) (lv' := [(5, .int (iI 0)), (0, .ref (G.2.2 0)), (1, .int (iI q_)), (2, .int (iI sh_)), (3, .int (iI k_)), (4, .int (iI w_))]) rfl (fun ls hl => ?_)
          refine n_iconst hx hb dX4_shape_42 ?_
          refine lv_istore hx hb dX4_shape_43 hl (Nat.le_of_ble_eq_true rfl) (lv' := [(6, .int (iI 0)), (5, .int (iI 0)), (0, .ref (G.2.2 0)), (1, .int (iI q_)), (2, .int (iI sh_)), (3, .int (iI k_)), (4, .int (iI w_))]) rfl (fun ls hl => ?_)
          have hl : lv_has ls 7 [(0, .ref (G.2.2 0)), (1, .int (iI q_)), (2, .int (iI sh_)), (3, .int (iI k_)), (4, .int (iI w_)), (5, .int (iI 0)), (6, .int (iI 0))] := lv_sub hl [2, 3, 4, 5, 6, 1, 0] rfl
          have hl : lv_has ls 7 [(0, .ref (G.2.2 0)), (1, .int (iI q_)), (2, .int (iI sh_)), (3, .int (iI k_)), (4, .int (iI w_)), (5, .int (iI (shN (σ 2) q_ sh_ (0 : Int).toNat))), (6, .int (iI 0))] := by exact hl
          refine L45 20 0 ?_ ?_ ?_ ?_ _ _ _ hH hl
          · omega
          · omega
          · omega
          · omega
        · -- 34F
          refine n_iconst hx hb dX4_shape_37 ?_
          refine m_iret hx hb hr hlk hH dX4_shape_38 ?_
          exact ⟨(if_neg (by omega)).symm, rfl⟩
