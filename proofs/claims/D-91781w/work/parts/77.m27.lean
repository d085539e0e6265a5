theorem kd_X4_areTexts : yX4_areTexts.cls = RX4 ∧ yX4_areTexts.cls ≠ "java/lang/invoke/MethodHandle" ∧ yX4_areTexts.cls ≠ "java/lang/invoke/VarHandle" ∧ (parseMethodDescriptor yX4_areTexts.desc).map (fun d => d.parameters.length) = some 1 := by decide +kernel
theorem mm_areTexts (l : Launch) (G : MG) (σ : St) (s_ : Int) (sz : Nat) (h_s_ : R32 s_) (h0 : 0 ≤ σ 2 1756) (h1 : σ 2 1756 ≤ 12) : Met l yX4_areTexts (ws_ yX4_areTexts cX4_areTexts 2 (some .boolean)) (rmD 1) (mP G [.ref (G.2.2 0), .int (iI s_)] σ sz) (mQi G σ sz (fun z σ' => z = zb (0 ≤ s_ ∧ s_ < 2 ^ (σ 2 1756).toNat) ∧ σ' = σ)) 0 0 (mA G σ sz) := by
  refine m_start (by decide) (Nat.le_of_ble_eq_true rfl) ?_
  intro p e s m below meth c ⟨S, hr, hlk, hH, hK, hj, hsz, hnm⟩ ls hl
  subst hsz
  obtain ⟨hx, hb, hml, hown, hts⟩ := S
  have S : CallFix p m c _ _ s _ lw_all RX4 := ⟨hx, hb, hml, hown, hts⟩
  have hA : ∀ q, s.heap.size ≤ q → mA G σ s.heap.size q := fun q hq => Or.inr hq
  have hl : lv_has ls 2 [(0, .ref (G.2.2 0)), (1, .int (iI s_))] := hl
  have h_s_ := R32.n h_s_
  have hp := pow_r h0 h1
  refine lv_iload_n hx hb dX4_areTexts_0 rfl (lv_at hl 1 rfl) ?_
  refine n_if_lt (tgt := 22) hx hb (r32 (by omega)) dX4_areTexts_1 (by decide) (fun c_1 => ?_) (fun c_1 => ?_)
  · -- 1T
    refine n_iconst hx hb dX4_areTexts_22 ?_
    refine m_zret hx hb hr hlk hH dX4_areTexts_23 (Or.inl rfl) ?_
    refine ⟨?_, rfl⟩
    first | exact (zb_t (by omega)).symm | exact (zb_f (by omega)).symm
  · -- 1F
    refine lv_iload_n hx hb dX4_areTexts_4 rfl (lv_at hl 1 rfl) ?_
    refine n_iconst hx hb dX4_areTexts_5 ?_
    refine lv_aload_n hx hb dX4_areTexts_6 rfl (lv_at hl 0 rfl) ?_
    refine m_get 2 (by decide) hx hb hts hown hK hj hH q1475 (fun _ h9 => h9) rfl dX4_areTexts_7 ?_
    refine n_sipush (z := 1756) hx hb dX4_areTexts_10 (by decide) ?_
    refine ml_2 hx hb hK hj hH (by omega) (by omega) dX4_areTexts_13 ?_
    refine n_ishl hx hb (by omega) (by omega) dX4_areTexts_14 ?_
    refine W.eq (g2 := F0 m 15 ls (.int (iI (2 ^ (σ 2 1756).toNat)) :: .int (iI s_) :: [])) (by rw [Int.one_mul]) ?_
    refine n_icmp_ge (tgt := 22) hx hb (r32 (by omega)) (r32 (by omega)) dX4_areTexts_15 (by decide) (fun c_15 => ?_) (fun c_15 => ?_)
    · -- 15T
      refine n_iconst hx hb dX4_areTexts_22 ?_
      refine m_zret hx hb hr hlk hH dX4_areTexts_23 (Or.inl rfl) ?_
      refine ⟨?_, rfl⟩
      first | exact (zb_t (by omega)).symm | exact (zb_f (by omega)).symm
    · -- 15F
      refine n_iconst hx hb dX4_areTexts_18 ?_
      refine lv_goto (tgt := 23) hx hb dX4_areTexts_19 (by decide) ?_
      refine m_zret hx hb hr hlk hH dX4_areTexts_23 (Or.inr rfl) ?_
      refine ⟨?_, rfl⟩
      first | exact (zb_t (by omega)).symm | exact (zb_f (by omega)).symm
theorem kd_X4_partingOf : yX4_partingOf.cls = RX4 ∧ yX4_partingOf.cls ≠ "java/lang/invoke/MethodHandle" ∧ yX4_partingOf.cls ≠ "java/lang/invoke/VarHandle" ∧ (parseMethodDescriptor yX4_partingOf.desc).map (fun d => d.parameters.length) = some 2 := by decide +kernel
theorem mm_partingOf (l : Launch) (G : MG) (σ : St) (s_ : Int) (t_ : Int) (sz : Nat) (hs : R32 s_) (hI : KI (σ 2)) (hT : TT (σ 2)) (ht0 : 0 ≤ t_) (ht1 : t_ < σ 2 1755) : Met l yX4_partingOf (ws_ yX4_partingOf cX4_partingOf 7 (some .int)) (rmD 69) (mP G [.ref (G.2.2 0), .int (iI s_), .int (iI t_)] σ sz) (mQi G σ sz (fun z σ' => z = (paT (σ 2) s_ t_) ∧ Sc σ σ')) 0 0 (mA G σ sz) := by
  refine m_start (by decide) (Nat.le_of_ble_eq_true rfl) ?_
  intro p e s m below meth c ⟨S, hr, hlk, hH, hK, hj, hsz, hnm⟩ ls hl
  subst hsz
  obtain ⟨hx, hb, hml, hown, hts⟩ := S
  have S : CallFix p m c _ _ s _ lw_all RX4 := ⟨hx, hb, hml, hown, hts⟩
  have hA : ∀ q, s.heap.size ≤ q → mA G σ s.heap.size q := fun q hq => Or.inr hq
  have hl : lv_has ls 7 [(0, .ref (G.2.2 0)), (1, .int (iI s_)), (2, .int (iI t_))] := hl
  have b0 := hI.c
  unfold kCnt at b0
  have hs := R32.n hs
  have hH := MH_to hH (τ := mx σ σ) mx_self.symm
  have L5 : ∀ (q : Nat) (τ : St) (a : Int), (ha0 : 0 ≤ a) → (ha1 : a ≤ σ 2 1756) → (hq : σ 2 1756 < (q : Int) + a) → ∀ (H : Heap) (locs : List Loc) (ls : Array Slot), MH G (mA G σ s.heap.size) (mx σ τ) s.heap H locs → lv_has ls 7 [(0, .ref (G.2.2 0)), (1, .int (iI s_)), (2, .int (iI t_)), (3, .int (iI (paN (σ 2) s_ t_ a.toNat))), (4, .int (iI a))] → W p l e (rmD 69) s m ([.ref (G.2.2 0), .int (iI s_), .int (iI t_)] : List Value).toArray below meth c H locs 0 0 (MQ below (mQi G σ s.heap.size (fun z σ' => z = (paT (σ 2) s_ t_) ∧ Sc σ σ')) ([.ref (G.2.2 0), .int (iI s_), .int (iI t_)] : List Value).toArray s 0 0 (mA G σ s.heap.size)) (F0 m 5 ls []) := by
    intro q
    induction q with
    | zero => intro τ a ha0 ha1 hq; exfalso; omega
    | succ q ih_5 =>
      intro τ a ha0 ha1 hq H locs ls hH hl
      have L33 : ∀ (q1 : Nat) (τ1 : St) (b : Int), (hbit : ¬ s_ / 2 ^ a.toNat % 2 = 0) → (ha2 : a < σ 2 1756) → (hb0 : 0 ≤ b) → (hb1 : b ≤ a) → (hq1 : a < (q1 : Int) + b) → ∀ (H : Heap) (locs : List Loc) (ls : Array Slot), MH G (mA G σ s.heap.size) (mx σ τ1) s.heap H locs → lv_has ls 7 [(0, .ref (G.2.2 0)), (1, .int (iI s_)), (2, .int (iI t_)), (3, .int (iI (paN (σ 2) s_ t_ a.toNat + inN (σ 2) s_ t_ a b.toNat))), (4, .int (iI a)), (5, .int (iI b))] → W p l e (rmD 69) s m ([.ref (G.2.2 0), .int (iI s_), .int (iI t_)] : List Value).toArray below meth c H locs 0 0 (MQ below (mQi G σ s.heap.size (fun z σ' => z = (paT (σ 2) s_ t_) ∧ Sc σ σ')) ([.ref (G.2.2 0), .int (iI s_), .int (iI t_)] : List Value).toArray s 0 0 (mA G σ s.heap.size)) (F0 m 33 ls []) := by
        intro q1
        induction q1 with
        | zero => intro τ1 b hbit ha2 hb0 hb1 hq1; exfalso; omega
        | succ q1 ih_33 =>
          intro τ1 b hbit ha2 hb0 hb1 hq1 H locs ls hH hl
          have hoa := oT_r (σ 2) a t_
          have hob := oT_r (σ 2) b t_
          refine lv_iload hx hb dX4_partingOf_33 (lv_at hl 5 rfl) ?_
          refine lv_iload hx hb dX4_partingOf_35 (lv_at hl 4 rfl) ?_
          refine n_icmp_ge (tgt := 91) hx hb (r32 (by omega)) (r32 (by omega)) dX4_partingOf_37 (by decide) (fun c_37 => ?_) (fun c_37 => ?_)
          · -- 37T
            refine n_iinc hx hb dX4_partingOf_91 hl (k := 4) rfl (Nat.le_of_ble_eq_true rfl) (lv' := [(4, .int (iI (a + 1))), (0, .ref (G.2.2 0)), (1, .int (iI s_)), (2, .int (iI t_)), (3, .int (iI (paN (σ 2) s_ t_ a.toNat + inN (σ 2) s_ t_ a b.toNat))), (5, .int (iI b))]) rfl (fun ls hl => ?_)
            refine lv_goto (tgt := 5) hx hb dX4_partingOf_94 (by decide) ?_
            have hl : lv_has ls 7 [(0, .ref (G.2.2 0)), (1, .int (iI s_)), (2, .int (iI t_)), (3, .int (iI (paN (σ 2) s_ t_ a.toNat + inN (σ 2) s_ t_ a b.toNat))), (4, .int (iI (a + 1)))] := lv_sub hl [1, 2, 3, 4, 0] rfl
            have hl : lv_has ls 7 [(0, .ref (G.2.2 0)), (1, .int (iI s_)), (2, .int (iI t_)), (3, .int (iI (paN (σ 2) s_ t_ (a + 1).toNat))), (4, .int (iI (a + 1)))] := by rw [paN_e ha0, if_neg hbit, show inN (σ 2) s_ t_ a a.toNat = inN (σ 2) s_ t_ a b.toNat from (by rw [show b = a by omega])]; exact hl
            refine ih_5 τ1 (a + 1) ?_ ?_ ?_ _ _ _ hH hl
            · omega
            · omega
            · omega
          · -- 37F
            refine lv_iload_n hx hb dX4_partingOf_40 rfl (lv_at hl 1 rfl) ?_
            refine lv_iload hx hb dX4_partingOf_41 (lv_at hl 5 rfl) ?_
            refine n_ishr hx hb (r32 (by omega)) (by omega) (by omega) dX4_partingOf_43 ?_
            refine n_iconst hx hb dX4_partingOf_44 ?_
            refine n_and1 hx hb dX4_partingOf_45 ?_
            refine n_if_ne (tgt := 52) hx hb (r32 (by omega)) dX4_partingOf_46 (by decide) (fun c_46 => ?_) (fun c_46 => ?_)
            · -- 46T
              refine lv_aload_n hx hb dX4_partingOf_52 rfl (lv_at hl 0 rfl) ?_
              refine lv_iload hx hb dX4_partingOf_53 (lv_at hl 4 rfl) ?_
              refine lv_iload_n hx hb dX4_partingOf_55 rfl (lv_at hl 2 rfl) ?_
              refine m_calli (m_runV (As := [.int (iI a), .int (iI t_)]) (rest := []) S hH hK hj hl.1 (mm_oddsOfTrial l G (mx σ τ1) a t_ _ (by omega) (show a < σ 2 1756 from by omega) hI hT (by omega) (show t_ < σ 2 1755 from by omega)) (lw_V q1876 q1878 qs90 q109 q1879) kd_X4_oddsOfTrial rfl rfl dX4_partingOf_56) hH hA (fun z56 σ56 H locs q_56 hH => ?_)
              obtain ⟨e_56, q_56⟩ := q_56
              have e_56 : z56 = (oT (σ 2) a t_) := e_56
              subst e_56
              have hH := MH_to hH (τ := mx σ σ56) (mx_of q_56)
              refine lv_aload_n hx hb dX4_partingOf_59 rfl (lv_at hl 0 rfl) ?_
              refine lv_iload hx hb dX4_partingOf_60 (lv_at hl 5 rfl) ?_
              refine lv_iload_n hx hb dX4_partingOf_62 rfl (lv_at hl 2 rfl) ?_
              refine m_calli (m_runV (As := [.int (iI b), .int (iI t_)]) (rest := [.int (iI (oT (σ 2) a t_))]) S hH hK hj hl.1 (mm_oddsOfTrial l G (mx σ σ56) b t_ _ (by omega) (show b < σ 2 1756 from by omega) hI hT (by omega) (show t_ < σ 2 1755 from by omega)) (lw_V q1876 q1878 qs90 q109 q1879) kd_X4_oddsOfTrial rfl rfl dX4_partingOf_63) hH hA (fun z63 σ63 H locs q_63 hH => ?_)
              obtain ⟨e_63, q_63⟩ := q_63
              have e_63 : z63 = (oT (σ 2) b t_) := e_63
              subst e_63
              have hH := MH_to hH (τ := mx σ σ63) (mx_of q_63)
              refine n_isub hx hb dX4_partingOf_66 ?_
              refine lv_istore hx hb dX4_partingOf_67 hl (Nat.le_of_ble_eq_true rfl) (lv' := [(6, .int (iI ((oT (σ 2) a t_) - (oT (σ 2) b t_)))), (0, .ref (G.2.2 0)), (1, .int (iI s_)), (2, .int (iI t_)), (3, .int (iI (paN (σ 2) s_ t_ a.toNat + inN (σ 2) s_ t_ a b.toNat))), (4, .int (iI a)), (5, .int (iI b))]) rfl (fun ls hl => ?_)
              refine lv_iload_n hx hb dX4_partingOf_69 rfl (lv_at hl 4 rfl) ?_
              refine lv_iload hx hb dX4_partingOf_70 (lv_at hl 0 rfl) ?_
              refine n_if_ge (tgt := 81) hx hb (r32 (by omega)) dX4_partingOf_72 (by decide) (fun c_72 => ?_) (fun c_72 => ?_)
              · -- 72T
                refine lv_iload hx hb dX4_partingOf_81 (lv_at hl 0 rfl) ?_
                refine n_iadd hx hb dX4_partingOf_83 ?_
                refine lv_istore_n hx hb dX4_partingOf_84 rfl hl (Nat.le_of_ble_eq_true rfl) (lv' := [(3, .int (iI ((paN (σ 2) s_ t_ a.toNat + inN (σ 2) s_ t_ a b.toNat) + ((oT (σ 2) a t_) - (oT (σ 2) b t_))))), (6, .int (iI ((oT (σ 2) a t_) - (oT (σ 2) b t_)))), (0, .ref (G.2.2 0)), (1, .int (iI s_)), (2, .int (iI t_)), (4, .int (iI a)), (5, .int (iI b))]) rfl (fun ls hl => ?_)
                refine n_iinc hx hb dX4_partingOf_85 hl (k := 6) rfl (Nat.le_of_ble_eq_true rfl) (lv' := [(5, .int (iI (b + 1))), (3, .int (iI ((paN (σ 2) s_ t_ a.toNat + inN (σ 2) s_ t_ a b.toNat) + ((oT (σ 2) a t_) - (oT (σ 2) b t_))))), (6, .int (iI ((oT (σ 2) a t_) - (oT (σ 2) b t_)))), (0, .ref (G.2.2 0)), (1, .int (iI s_)), (2, .int (iI t_)), (4, .int (iI a))]) rfl (fun ls hl => ?_)
                refine lv_goto (tgt := 33) hx hb dX4_partingOf_88 (by decide) ?_
                have hl : lv_has ls 7 [(0, .ref (G.2.2 0)), (1, .int (iI s_)), (2, .int (iI t_)), (3, .int (iI ((paN (σ 2) s_ t_ a.toNat + inN (σ 2) s_ t_ a b.toNat) + ((oT (σ 2) a t_) - (oT (σ 2) b t_))))), (4, .int (iI a)), (5, .int (iI (b + 1)))] := lv_sub hl [3, 4, 5, 1, 6, 0] rfl
                have hl : lv_has ls 7 [(0, .ref (G.2.2 0)), (1, .int (iI s_)), (2, .int (iI t_)), (3, .int (iI (paN (σ 2) s_ t_ a.toNat + inN (σ 2) s_ t_ a (b + 1).toNat))), (4, .int (iI a)), (5, .int (iI (b + 1)))] := by rw [show paN (σ 2) s_ t_ a.toNat + inN (σ 2) s_ t_ a (b + 1).toNat = paN (σ 2) s_ t_ a.toNat + inN (σ 2) s_ t_ a b.toNat + (oT (σ 2) a t_ - oT (σ 2) b t_) from (by rw [inN_e hb0, if_neg c_46, abI, if_neg (by omega)]; omega)]; exact hl
                refine ih_33 σ63 (b + 1) ?_ ?_ ?_ ?_ ?_ _ _ _ hH hl
                · exact hbit
                · omega
                · omega
                · omega
                · omega
              · -- 72F
                refine lv_iload hx hb dX4_partingOf_75 (lv_at hl 0 rfl) ?_
                refine n_ineg hx hb dX4_partingOf_77 ?_
                refine lv_goto (tgt := 83) hx hb dX4_partingOf_78 (by decide) ?_
                refine n_iadd hx hb dX4_partingOf_83 ?_
                refine lv_istore_n hx hb dX4_partingOf_84 rfl hl (Nat.le_of_ble_eq_true rfl) (lv' := [(3, .int (iI ((paN (σ 2) s_ t_ a.toNat + inN (σ 2) s_ t_ a b.toNat) + (-((oT (σ 2) a t_) - (oT (σ 2) b t_)))))), (6, .int (iI ((oT (σ 2) a t_) - (oT (σ 2) b t_)))), (0, .ref (G.2.2 0)), (1, .int (iI s_)), (2, .int (iI t_)), (4, .int (iI a)), (5, .int (iI b))]) rfl (fun ls hl => ?_)
                refine n_iinc hx hb dX4_partingOf_85 hl (k := 6) rfl (Nat.le_of_ble_eq_true rfl) (lv' := [(5, .int (iI (b + 1))), (3, .int (iI ((paN (σ 2) s_ t_ a.toNat + inN (σ 2) s_ t_ a b.toNat) + (-((oT (σ 2) a t_) - (oT (σ 2) b t_)))))), (6, .int (iI ((oT (σ 2) a t_) - (oT (σ 2) b t_)))), (0, .ref (G.2.2 0)), (1, .int (iI s_)), (2, .int (iI t_)), (4, .int (iI a))]) rfl (fun ls hl => ?_)
                refine lv_goto (tgt := 33) hx hb dX4_partingOf_88 (by decide) ?_
                have hl : lv_has ls 7 [(0, .ref (G.2.2 0)), (1, .int (iI s_)), (2, .int (iI t_)), (3, .int (iI ((paN (σ 2) s_ t_ a.toNat + inN (σ 2) s_ t_ a b.toNat) + (-((oT (σ 2) a t_) - (oT (σ 2) b t_)))))), (4, .int (iI a)), (5, .int (iI (b + 1)))] := lv_sub hl [3, 4, 5, 1, 6, 0] rfl
                have hl : lv_has ls 7 [(0, .ref (G.2.2 0)), (1, .int (iI s_)), (2, .int (iI t_)), (3, .int (iI (paN (σ 2) s_ t_ a.toNat + inN (σ 2) s_ t_ a (b + 1).toNat))), (4, .int (iI a)), (5, .int (iI (b + 1)))] := by rw [show paN (σ 2) s_ t_ a.toNat + inN (σ 2) s_ t_ a (b + 1).toNat = paN (σ 2) s_ t_ a.toNat + inN (σ 2) s_ t_ a b.toNat + -(oT (σ 2) a t_ - oT (σ 2) b t_) from (by rw [inN_e hb0, if_neg c_46, abI, if_pos (by omega)]; omega)]; exact hl
                refine ih_33 σ63 (b + 1) ?_ ?_ ?_ ?_ ?_ _ _ _ hH hl
                · exact hbit
                · omega
                · omega
                · omega
                · omega
            · -- 46F
              refine lv_goto (tgt := 85) hx hb dX4_partingOf_49 (by decide) ?_
              refine n_iinc hx hb dX4_partingOf_85 hl (k := 5) rfl (Nat.le_of_ble_eq_true rfl) (lv' := [(5, .int (iI (b + 1))), (0, .ref (G.2.2 0)), (1, .int (iI s_)), (2, .int (iI t_)), (3, .int (iI (paN (σ 2) s_ t_ a.toNat + inN (σ 2) s_ t_ a b.toNat))), (4, .int (iI a))]) rfl (fun ls hl => ?_)
              refine lv_goto (tgt := 33) hx hb dX4_partingOf_88 (by decide) ?_
              have hl : lv_has ls 7 [(0, .ref (G.2.2 0)), (1, .int (iI s_)), (2, .int (iI t_)), (3, .int (iI (paN (σ 2) s_ t_ a.toNat + inN (σ 2) s_ t_ a b.toNat))), (4, .int (iI a)), (5, .int (iI (b + 1)))] := lv_sub hl [1, 2, 3, 4, 5, 0] rfl
              have hl : lv_has ls 7 [(0, .ref (G.2.2 0)), (1, .int (iI s_)), (2, .int (iI t_)), (3, .int (iI (paN (σ 2) s_ t_ a.toNat + inN (σ 2) s_ t_ a (b + 1).toNat))), (4, .int (iI a)), (5, .int (iI (b + 1)))] := by rw [inN_e hb0, if_pos c_46, Int.add_zero]; exact hl
              refine ih_33 τ1 (b + 1) ?_ ?_ ?_ ?_ ?_ _ _ _ hH hl
              · exact hbit
              · omega
              · omega
              · omega
              · omega
      refine lv_iload hx hb dX4_partingOf_5 (lv_at hl 4 rfl) ?_
      refine lv_aload_n hx hb dX4_partingOf_7 rfl (lv_at hl 0 rfl) ?_
      refine m_get 2 (by decide) hx hb hts hown hK hj hH q1475 (fun _ h9 => h9) rfl dX4_partingOf_8 ?_
      refine n_sipush (z := 1756) hx hb dX4_partingOf_11 (by decide) ?_
      refine ml_2 hx hb hK hj hH (by omega) (by omega) dX4_partingOf_14 ?_
      refine W.eq (g2 := F0 m 15 ls (.int (iI (σ 2 1756)) :: .int (iI a) :: [])) rfl ?_
      refine n_icmp_ge (tgt := 97) hx hb (r32 (by omega)) (r32 (by omega)) dX4_partingOf_15 (by decide) (fun c_15 => ?_) (fun c_15 => ?_)
      · -- 15T
        refine lv_iload_n hx hb dX4_partingOf_97 rfl (lv_at hl 3 rfl) ?_
        refine m_iret hx hb hr hlk hH dX4_partingOf_98 ?_
        refine ⟨?_, mx_sc⟩
        show _ = paT _ _ _
        rw [paT, show a.toNat = (σ 2 1756).toNat by omega]
      · -- 15F
        refine lv_iload_n hx hb dX4_partingOf_18 rfl (lv_at hl 1 rfl) ?_
        refine lv_iload hx hb dX4_partingOf_19 (lv_at hl 4 rfl) ?_
        refine n_ishr hx hb (r32 (by omega)) (by omega) (by omega) dX4_partingOf_21 ?_
        refine n_iconst hx hb dX4_partingOf_22 ?_
        refine n_and1 hx hb dX4_partingOf_23 ?_
        refine n_if_ne (tgt := 30) hx hb (r32 (by omega)) dX4_partingOf_24 (by decide) (fun c_24 => ?_) (fun c_24 => ?_)
        · -- 24T
          refine n_iconst hx hb dX4_partingOf_30 ?_
          refine lv_istore hx hb dX4_partingOf_31 hl (Nat.le_of_ble_eq_true rfl) (lv' := [(5, .int (iI 0)), (0, .ref (G.2.2 0)), (1, .int (iI s_)), (2, .int (iI t_)), (3, .int (iI (paN (σ 2) s_ t_ a.toNat))), (4, .int (iI a))]) rfl (fun ls hl => ?_)
          have hl : lv_has ls 7 [(0, .ref (G.2.2 0)), (1, .int (iI s_)), (2, .int (iI t_)), (3, .int (iI (paN (σ 2) s_ t_ a.toNat))), (4, .int (iI a)), (5, .int (iI 0))] := lv_sub hl [1, 2, 3, 4, 5, 0] rfl
          have hl : lv_has ls 7 [(0, .ref (G.2.2 0)), (1, .int (iI s_)), (2, .int (iI t_)), (3, .int (iI (paN (σ 2) s_ t_ a.toNat + inN (σ 2) s_ t_ a (0 : Int).toNat))), (4, .int (iI a)), (5, .int (iI 0))] := by rw [show inN (σ 2) s_ t_ a (0 : Int).toNat = 0 from rfl, Int.add_zero]; exact hl
          refine L33 20 τ 0 ?_ ?_ ?_ ?_ ?_ _ _ _ hH hl
          · exact c_24
          · omega
          · omega
          · omega
          · omega
        · -- 24F
          refine lv_goto (tgt := 91) hx hb dX4_partingOf_27 (by decide) ?_
          refine n_iinc hx hb dX4_partingOf_91 hl (k := 4) rfl (Nat.le_of_ble_eq_true rfl) (lv' := [(4, .int (iI (a + 1))), (0, .ref (G.2.2 0)), (1, .int (iI s_)), (2, .int (iI t_)), (3, .int (iI (paN (σ 2) s_ t_ a.toNat)))]) rfl (fun ls hl => ?_)
          refine lv_goto (tgt := 5) hx hb dX4_partingOf_94 (by decide) ?_
          have hl : lv_has ls 7 [(0, .ref (G.2.2 0)), (1, .int (iI s_)), (2, .int (iI t_)), (3, .int (iI (paN (σ 2) s_ t_ a.toNat))), (4, .int (iI (a + 1)))] := lv_sub hl [1, 2, 3, 4, 0] rfl
          have hl : lv_has ls 7 [(0, .ref (G.2.2 0)), (1, .int (iI s_)), (2, .int (iI t_)), (3, .int (iI (paN (σ 2) s_ t_ (a + 1).toNat))), (4, .int (iI (a + 1)))] := by rw [paN_e ha0, if_pos c_24, Int.add_zero]; exact hl
          refine ih_5 τ (a + 1) ?_ ?_ ?_ _ _ _ hH hl
          · omega
          · omega
          · omega
  refine n_iconst hx hb dX4_partingOf_0 ?_
  refine lv_istore_n hx hb dX4_partingOf_1 rfl hl (Nat.le_of_ble_eq_true rfl) (lv' := [(3, .int (iI 0)), (0, .ref (G.2.2 0)), (1, .int (iI s_)), (2, .int (iI t_))]) rfl (fun ls hl => ?_)
  refine n_iconst hx hb dX4_partingOf_2 ?_
  refine lv_istore hx hb dX4_partingOf_3 hl (Nat.le_of_ble_eq_true rfl) (lv' := [(4, .int (iI 0)), (3, .int (iI 0)), (0, .ref (G.2.2 0)), (1, .int (iI s_)), (2, .int (iI t_))]) rfl (fun ls hl => ?_)
  have hl : lv_has ls 7 [(0, .ref (G.2.2 0)), (1, .int (iI s_)), (2, .int (iI t_)), (3, .int (iI 0)), (4, .int (iI 0))] := lv_sub hl [2, 3, 4, 1, 0] rfl
  have hl : lv_has ls 7 [(0, .ref (G.2.2 0)), (1, .int (iI s_)), (2, .int (iI t_)), (3, .int (iI (paN (σ 2) s_ t_ (0 : Int).toNat))), (4, .int (iI 0))] := by exact hl
  refine L5 20 σ 0 ?_ ?_ ?_ _ _ _ hH hl
  · omega
  · omega
  · omega
theorem kd_X4_parting : yX4_parting.cls = RX4 ∧ yX4_parting.cls ≠ "java/lang/invoke/MethodHandle" ∧ yX4_parting.cls ≠ "java/lang/invoke/VarHandle" ∧ (parseMethodDescriptor yX4_parting.desc).map (fun d => d.parameters.length) = some 2 := by decide +kernel
theorem mm_parting (l : Launch) (G : MG) (σ : St) (s_ : Int) (t_ : Int) (sz : Nat) (h_s_ : R32 s_) (h_t_ : R32 t_) (hI : KI (σ 2)) (hT : TT (σ 2)) : Met l yX4_parting (ws_ yX4_parting cX4_parting 3 (some .int)) (rmD 70) (mP G [.ref (G.2.2 0), .int (iI s_), .int (iI t_)] σ sz) (mQi G σ sz (fun z σ' => z = (partF' (σ 2) s_ t_) ∧ Sc σ σ')) 0 0 (mA G σ sz) := by
  refine m_start (by decide) (Nat.le_of_ble_eq_true rfl) ?_
  intro p e s m below meth c ⟨S, hr, hlk, hH, hK, hj, hsz, hnm⟩ ls hl
  subst hsz
  obtain ⟨hx, hb, hml, hown, hts⟩ := S
  have S : CallFix p m c _ _ s _ lw_all RX4 := ⟨hx, hb, hml, hown, hts⟩
  have hA : ∀ q, s.heap.size ≤ q → mA G σ s.heap.size q := fun q hq => Or.inr hq
  have hl : lv_has ls 3 [(0, .ref (G.2.2 0)), (1, .int (iI s_)), (2, .int (iI t_))] := hl
  have b0 := hI.c
  unfold kCnt at b0
  have h_s_ := R32.n h_s_
  have h_t_ := R32.n h_t_
  have hH := MH_to hH (τ := mx σ σ) mx_self.symm
  refine lv_aload_n hx hb dX4_parting_0 rfl (lv_at hl 0 rfl) ?_
  refine lv_iload_n hx hb dX4_parting_1 rfl (lv_at hl 1 rfl) ?_
  refine m_calliF (m_runV (As := [.int (iI s_)]) (rest := []) S hH hK hj hl.1 (mm_areTexts l G (mx σ σ) s_ _ (r32 (by omega)) (show 0 ≤ σ 2 1756 from by omega) (show σ 2 1756 ≤ 12 from by omega)) (lw_V q1925 q1927 qs93 q109 q1928) kd_X4_areTexts rfl rfl dX4_parting_2) hH hA (fun H locs hH => ?_)
  refine W.eq (g2 := F0 m 5 ls (.int (iI (zb (0 ≤ s_ ∧ s_ < 2 ^ (σ 2 1756).toNat))) :: [])) rfl ?_
  refine z_if_eq (tgt := 25) hx hb dX4_parting_5 (by decide) (fun c_5 => ?_) (fun c_5 => ?_)
  · -- 5T
    refine n_iconst hx hb dX4_parting_25 ?_
    refine m_iret hx hb hr hlk hH dX4_parting_26 ?_
    refine ⟨?_, mx_sc⟩
    show _ = partF' _ _ _
    unfold partF' arT isT
    (repeat' split) <;> first | rfl | (exfalso; omega)
  · -- 5F
    refine lv_aload_n hx hb dX4_parting_8 rfl (lv_at hl 0 rfl) ?_
    refine lv_iload_n hx hb dX4_parting_9 rfl (lv_at hl 2 rfl) ?_
    refine m_calliF (m_runV (As := [.int (iI t_)]) (rest := []) S hH hK hj hl.1 (mm_isTrial l G (mx σ σ) t_ _ (r32 (by omega)) (show 0 ≤ σ 2 1755 from by omega) (show σ 2 1755 ≤ 1000 from by omega)) (lw_V q1709 q1711 qs57 q109 q1712) kd_X4_isTrial rfl rfl dX4_parting_10) hH hA (fun H locs hH => ?_)
    refine W.eq (g2 := F0 m 13 ls (.int (iI (zb (0 ≤ t_ ∧ t_ ≤ σ 2 1755 - 1))) :: [])) rfl ?_
    refine z_if_eq (tgt := 25) hx hb dX4_parting_13 (by decide) (fun c_13 => ?_) (fun c_13 => ?_)
    · -- 13T
      refine n_iconst hx hb dX4_parting_25 ?_
      refine m_iret hx hb hr hlk hH dX4_parting_26 ?_
      refine ⟨?_, mx_sc⟩
      show _ = partF' _ _ _
      unfold partF' arT isT
      (repeat' split) <;> first | rfl | (exfalso; omega)
    · -- 13F
      refine lv_aload_n hx hb dX4_parting_16 rfl (lv_at hl 0 rfl) ?_
      refine lv_iload_n hx hb dX4_parting_17 rfl (lv_at hl 1 rfl) ?_
      refine lv_iload_n hx hb dX4_parting_18 rfl (lv_at hl 2 rfl) ?_
      refine m_calli (m_runV (As := [.int (iI s_), .int (iI t_)]) (rest := []) S hH hK hj hl.1 (mm_partingOf l G (mx σ σ) s_ t_ _ h_s_ hI hT (by omega) (show t_ < σ 2 1755 from by omega)) (lw_V q1929 q1931 qs94 q109 q1932) kd_X4_partingOf rfl rfl dX4_parting_19) hH hA (fun z19 σ19 H locs q_19 hH => ?_)
      obtain ⟨e_19, q_19⟩ := q_19
      have e_19 : z19 = (paT (σ 2) s_ t_) := e_19
      subst e_19
      have hH := MH_to hH (τ := mx σ σ19) (mx_of q_19)
      refine lv_goto (tgt := 26) hx hb dX4_parting_22 (by decide) ?_
      refine m_iret hx hb hr hlk hH dX4_parting_26 ?_
      refine ⟨?_, mx_sc⟩
      show _ = partF' _ _ _
      unfold partF' arT isT
      (repeat' split) <;> first | rfl | (exfalso; omega)
theorem kd_X4_areFair : yX4_areFair.cls = RX4 ∧ yX4_areFair.cls ≠ "java/lang/invoke/MethodHandle" ∧ yX4_areFair.cls ≠ "java/lang/invoke/VarHandle" ∧ (parseMethodDescriptor yX4_areFair.desc).map (fun d => d.parameters.length) = some 2 := by decide +kernel
theorem mm_areFair (l : Launch) (G : MG) (σ : St) (s_ : Int) (t_ : Int) (sz : Nat) (hs : R32 s_) (hI : KI (σ 2)) (hT : TT (σ 2)) (ht0 : 0 ≤ t_) (ht1 : t_ < σ 2 1755) : Met l yX4_areFair (ws_ yX4_areFair cX4_areFair 4 (some .boolean)) (rmD 69) (mP G [.ref (G.2.2 0), .int (iI s_), .int (iI t_)] σ sz) (mQi G σ sz (fun z σ' => z = (afT (σ 2) s_ t_) ∧ Sc σ σ')) 0 0 (mA G σ sz) := by
  refine m_start (by decide) (Nat.le_of_ble_eq_true rfl) ?_
  intro p e s m below meth c ⟨S, hr, hlk, hH, hK, hj, hsz, hnm⟩ ls hl
  subst hsz
  obtain ⟨hx, hb, hml, hown, hts⟩ := S
  have S : CallFix p m c _ _ s _ lw_all RX4 := ⟨hx, hb, hml, hown, hts⟩
  have hA : ∀ q, s.heap.size ≤ q → mA G σ s.heap.size q := fun q hq => Or.inr hq
  have hl : lv_has ls 4 [(0, .ref (G.2.2 0)), (1, .int (iI s_)), (2, .int (iI t_))] := hl
  have b0 := hI.c
  unfold kCnt at b0
  have hs := R32.n hs
  have hH := MH_to hH (τ := mx σ σ) mx_self.symm
  have L2 : ∀ (q : Nat) (τ : St) (a : Int), (ha0 : 0 ≤ a) → (ha1 : a ≤ σ 2 1756) → (hq : σ 2 1756 < (q : Int) + a) → (he : afN (σ 2) s_ t_ (σ 2 1756).toNat 0 = afN (σ 2) s_ t_ (σ 2 1756 - a).toNat a) → ∀ (H : Heap) (locs : List Loc) (ls : Array Slot), MH G (mA G σ s.heap.size) (mx σ τ) s.heap H locs → lv_has ls 4 [(0, .ref (G.2.2 0)), (1, .int (iI s_)), (2, .int (iI t_)), (3, .int (iI a))] → W p l e (rmD 69) s m ([.ref (G.2.2 0), .int (iI s_), .int (iI t_)] : List Value).toArray below meth c H locs 0 0 (MQ below (mQi G σ s.heap.size (fun z σ' => z = (afT (σ 2) s_ t_) ∧ Sc σ σ')) ([.ref (G.2.2 0), .int (iI s_), .int (iI t_)] : List Value).toArray s 0 0 (mA G σ s.heap.size)) (F0 m 2 ls []) := by
    intro q
    induction q with
    | zero => intro τ a ha0 ha1 hq he; exfalso; omega
    | succ q ih_2 =>
      intro τ a ha0 ha1 hq he H locs ls hH hl
      have hf : fT (σ 2) a t_ = 0 ∨ fT (σ 2) a t_ = 1 := fairQ_01 _ _
      refine lv_iload_n hx hb dX4_areFair_2 rfl (lv_at hl 3 rfl) ?_
      refine lv_aload_n hx hb dX4_areFair_3 rfl (lv_at hl 0 rfl) ?_
      refine m_get 2 (by decide) hx hb hts hown hK hj hH q1475 (fun _ h9 => h9) rfl dX4_areFair_4 ?_
      refine n_sipush (z := 1756) hx hb dX4_areFair_7 (by decide) ?_
      refine ml_2 hx hb hK hj hH (by omega) (by omega) dX4_areFair_10 ?_
      refine W.eq (g2 := F0 m 11 ls (.int (iI (σ 2 1756)) :: .int (iI a) :: [])) rfl ?_
      refine n_icmp_ge (tgt := 40) hx hb (r32 (by omega)) (r32 (by omega)) dX4_areFair_11 (by decide) (fun c_11 => ?_) (fun c_11 => ?_)
      · -- 11T
        refine n_iconst hx hb dX4_areFair_40 ?_
        refine m_zret hx hb hr hlk hH dX4_areFair_41 (Or.inr rfl) ?_
        refine ⟨?_, mx_sc⟩
        show _ = afT _ _ _
        rw [afT, he, show (σ 2 1756 - a).toNat = 0 by omega, afN]
      · -- 11F
        refine lv_iload_n hx hb dX4_areFair_14 rfl (lv_at hl 1 rfl) ?_
        refine lv_iload_n hx hb dX4_areFair_15 rfl (lv_at hl 3 rfl) ?_
        refine n_ishr hx hb (r32 (by omega)) (by omega) (by omega) dX4_areFair_16 ?_
        refine n_iconst hx hb dX4_areFair_17 ?_
        refine n_and1 hx hb dX4_areFair_18 ?_
        refine n_iconst hx hb dX4_areFair_19 ?_
        refine n_icmp_ne (tgt := 34) hx hb (r32 (by omega)) (r32 (by omega)) dX4_areFair_20 (by decide) (fun c_20 => ?_) (fun c_20 => ?_)
        · -- 20T
          refine n_iinc hx hb dX4_areFair_34 hl (k := 3) rfl (Nat.le_of_ble_eq_true rfl) (lv' := [(3, .int (iI (a + 1))), (0, .ref (G.2.2 0)), (1, .int (iI s_)), (2, .int (iI t_))]) rfl (fun ls hl => ?_)
          refine lv_goto (tgt := 2) hx hb dX4_areFair_37 (by decide) ?_
          have hl : lv_has ls 4 [(0, .ref (G.2.2 0)), (1, .int (iI s_)), (2, .int (iI t_)), (3, .int (iI (a + 1)))] := lv_sub hl [1, 2, 3, 0] rfl
          refine ih_2 τ (a + 1) ?_ ?_ ?_ ?_ _ _ _ hH hl
          · omega
          · omega
          · omega
          · rw [he, afN_e (by omega), if_neg (by omega)]
        · -- 20F
          refine lv_aload_n hx hb dX4_areFair_23 rfl (lv_at hl 0 rfl) ?_
          refine lv_iload_n hx hb dX4_areFair_24 rfl (lv_at hl 3 rfl) ?_
          refine lv_iload_n hx hb dX4_areFair_25 rfl (lv_at hl 2 rfl) ?_
          refine m_calli (m_runV (As := [.int (iI a), .int (iI t_)]) (rest := []) S hH hK hj hl.1 (mm_isFair l G (mx σ τ) a t_ _ (by omega) (show a < σ 2 1756 from by omega) hI hT (by omega) (show t_ < σ 2 1755 from by omega)) (lw_V q1884 q1886 qs91 q109 q1887) kd_X4_isFair rfl rfl dX4_areFair_26) hH hA (fun z26 σ26 H locs q_26 hH => ?_)
          obtain ⟨e_26, q_26⟩ := q_26
          have e_26 : z26 = (fT (σ 2) a t_) := e_26
          subst e_26
          have hH := MH_to hH (τ := mx σ σ26) (mx_of q_26)
          refine n_if_ne (tgt := 34) hx hb (r32 (by omega)) dX4_areFair_29 (by decide) (fun c_29 => ?_) (fun c_29 => ?_)
          · -- 29T
            refine n_iinc hx hb dX4_areFair_34 hl (k := 3) rfl (Nat.le_of_ble_eq_true rfl) (lv' := [(3, .int (iI (a + 1))), (0, .ref (G.2.2 0)), (1, .int (iI s_)), (2, .int (iI t_))]) rfl (fun ls hl => ?_)
            refine lv_goto (tgt := 2) hx hb dX4_areFair_37 (by decide) ?_
            have hl : lv_has ls 4 [(0, .ref (G.2.2 0)), (1, .int (iI s_)), (2, .int (iI t_)), (3, .int (iI (a + 1)))] := lv_sub hl [1, 2, 3, 0] rfl
            refine ih_2 σ26 (a + 1) ?_ ?_ ?_ ?_ _ _ _ hH hl
            · omega
            · omega
            · omega
            · rw [he, afN_e (by omega), if_neg (by omega)]
          · -- 29F
            refine n_iconst hx hb dX4_areFair_32 ?_
            refine m_zret hx hb hr hlk hH dX4_areFair_33 (Or.inl rfl) ?_
            refine ⟨?_, mx_sc⟩
            show _ = afT _ _ _
            rw [afT, he, afN_e (by omega), if_pos (by omega)]
  refine n_iconst hx hb dX4_areFair_0 ?_
  refine lv_istore_n hx hb dX4_areFair_1 rfl hl (Nat.le_of_ble_eq_true rfl) (lv' := [(3, .int (iI 0)), (0, .ref (G.2.2 0)), (1, .int (iI s_)), (2, .int (iI t_))]) rfl (fun ls hl => ?_)
  have hl : lv_has ls 4 [(0, .ref (G.2.2 0)), (1, .int (iI s_)), (2, .int (iI t_)), (3, .int (iI 0))] := lv_sub hl [1, 2, 3, 0] rfl
  refine L2 20 σ 0 ?_ ?_ ?_ ?_ _ _ _ hH hl
  · omega
  · omega
  · omega
  · rw [Int.sub_zero]
theorem kd_X4_next : yX4_next.cls = RX4 ∧ yX4_next.cls ≠ "java/lang/invoke/MethodHandle" ∧ yX4_next.cls ≠ "java/lang/invoke/VarHandle" ∧ (parseMethodDescriptor yX4_next.desc).map (fun d => d.parameters.length) = some 1 := by decide +kernel
theorem mm_next (l : Launch) (G : MG) (σ : St) (s_ : Int) (sz : Nat) (h_s_ : R32 s_) (hI : KI (σ 2)) (hT : TT (σ 2)) : Met l yX4_next (ws_ yX4_next cX4_next 6 (some .int)) (rmD 70) (mP G [.ref (G.2.2 0), .int (iI s_)] σ sz) (mQi G σ sz (fun z σ' => z = (nxF (σ 2) s_) ∧ Sc σ σ')) 0 0 (mA G σ sz) := by
  refine m_start (by decide) (Nat.le_of_ble_eq_true rfl) ?_
  intro p e s m below meth c ⟨S, hr, hlk, hH, hK, hj, hsz, hnm⟩ ls hl
  subst hsz
  obtain ⟨hx, hb, hml, hown, hts⟩ := S
  have S : CallFix p m c _ _ s _ lw_all RX4 := ⟨hx, hb, hml, hown, hts⟩
  have hA : ∀ q, s.heap.size ≤ q → mA G σ s.heap.size q := fun q hq => Or.inr hq
  have hl : lv_has ls 6 [(0, .ref (G.2.2 0)), (1, .int (iI s_))] := hl
  have b0 := hI.c
  unfold kCnt at b0
  have h_s_ := R32.n h_s_
  have hH := MH_to hH (τ := mx σ σ) mx_self.symm
  have L17 : ∀ (q : Nat) (τ : St) (t : Int), (hg : arT (σ 2) s_) → (ht0 : 0 ≤ t) → (ht1 : t ≤ σ 2 1755) → (hq : σ 2 1755 < (q : Int) + t) → ∀ (H : Heap) (locs : List Loc) (ls : Array Slot), MH G (mA G σ s.heap.size) (mx σ τ) s.heap H locs → lv_has ls 6 [(0, .ref (G.2.2 0)), (1, .int (iI s_)), (2, .int (iI ((nxN (σ 2) s_ t.toNat).1))), (3, .int (iI ((nxN (σ 2) s_ t.toNat).2))), (4, .int (iI t))] → W p l e (rmD 70) s m ([.ref (G.2.2 0), .int (iI s_)] : List Value).toArray below meth c H locs 0 0 (MQ below (mQi G σ s.heap.size (fun z σ' => z = (nxF (σ 2) s_) ∧ Sc σ σ')) ([.ref (G.2.2 0), .int (iI s_)] : List Value).toArray s 0 0 (mA G σ s.heap.size)) (F0 m 17 ls []) := by
    intro q
    induction q with
    | zero => intro τ t hg ht0 ht1 hq; exfalso; omega
    | succ q ih_17 =>
      intro τ t hg ht0 ht1 hq H locs ls hH hl
      have haf := afT_01 (σ 2) s_ t
      have hpa := paT_r (κ := σ 2) s_ t (by omega)
      have hnx := nxN_r (κ := σ 2) (s := s_) (by omega) t.toNat
      refine lv_iload hx hb dX4_next_17 (lv_at hl 4 rfl) ?_
      refine lv_aload_n hx hb dX4_next_19 rfl (lv_at hl 0 rfl) ?_
      refine m_get 2 (by decide) hx hb hts hown hK hj hH q1475 (fun _ h9 => h9) rfl dX4_next_20 ?_
      refine n_sipush (z := 1755) hx hb dX4_next_23 (by decide) ?_
      refine ml_2 hx hb hK hj hH (by omega) (by omega) dX4_next_26 ?_
      refine W.eq (g2 := F0 m 27 ls (.int (iI (σ 2 1755)) :: .int (iI t) :: [])) rfl ?_
      refine n_icmp_ge (tgt := 73) hx hb (r32 (by omega)) (r32 (by omega)) dX4_next_27 (by decide) (fun c_27 => ?_) (fun c_27 => ?_)
      · -- 27T
        refine lv_iload_n hx hb dX4_next_73 rfl (lv_at hl 2 rfl) ?_
        refine m_iret hx hb hr hlk hH dX4_next_74 ?_
        refine ⟨?_, mx_sc⟩
        show _ = nxF _ _
        rw [nxF, if_pos hg, show (σ 2 1755).toNat = t.toNat by omega]
      · -- 27F
        refine lv_aload_n hx hb dX4_next_30 rfl (lv_at hl 0 rfl) ?_
        refine lv_iload_n hx hb dX4_next_31 rfl (lv_at hl 1 rfl) ?_
        refine lv_iload hx hb dX4_next_32 (lv_at hl 4 rfl) ?_
        refine m_calli (m_runV (As := [.int (iI s_), .int (iI t)]) (rest := []) S hH hK hj hl.1 (mm_areFair l G (mx σ τ) s_ t _ h_s_ hI hT (by omega) (show t < σ 2 1755 from by omega)) (lw_V q1937 q1939 qs95 q109 q1940) kd_X4_areFair rfl rfl dX4_next_34) hH hA (fun z34 σ34 H locs q_34 hH => ?_)
        obtain ⟨e_34, q_34⟩ := q_34
        have e_34 : z34 = (afT (σ 2) s_ t) := e_34
        subst e_34
        have hH := MH_to hH (τ := mx σ σ34) (mx_of q_34)
        refine n_if_ne (tgt := 43) hx hb (r32 (by omega)) dX4_next_37 (by decide) (fun c_37 => ?_) (fun c_37 => ?_)
        · -- 37T
          refine lv_aload_n hx hb dX4_next_43 rfl (lv_at hl 0 rfl) ?_
          refine lv_iload_n hx hb dX4_next_44 rfl (lv_at hl 1 rfl) ?_
          refine lv_iload hx hb dX4_next_45 (lv_at hl 4 rfl) ?_
          refine m_calli (m_runV (As := [.int (iI s_), .int (iI t)]) (rest := []) S hH hK hj hl.1 (mm_partingOf l G (mx σ σ34) s_ t _ h_s_ hI hT (by omega) (show t < σ 2 1755 from by omega)) (lw_V q1929 q1931 qs94 q109 q1932) kd_X4_partingOf rfl rfl dX4_next_47) hH hA (fun z47 σ47 H locs q_47 hH => ?_)
          obtain ⟨e_47, q_47⟩ := q_47
          have e_47 : z47 = (paT (σ 2) s_ t) := e_47
          subst e_47
          have hH := MH_to hH (τ := mx σ σ47) (mx_of q_47)
          refine lv_istore hx hb dX4_next_50 hl (Nat.le_of_ble_eq_true rfl) (lv' := [(5, .int (iI (paT (σ 2) s_ t))), (0, .ref (G.2.2 0)), (1, .int (iI s_)), (2, .int (iI ((nxN (σ 2) s_ t.toNat).1))), (3, .int (iI ((nxN (σ 2) s_ t.toNat).2))), (4, .int (iI t))]) rfl (fun ls hl => ?_)
          refine lv_iload hx hb dX4_next_52 (lv_at hl 0 rfl) ?_
          refine lv_iload_n hx hb dX4_next_54 rfl (lv_at hl 4 rfl) ?_
          refine n_icmp_gt (tgt := 61) hx hb (r32 (by omega)) (r32 (by omega)) dX4_next_55 (by decide) (fun c_55 => ?_) (fun c_55 => ?_)
          · -- 55T
            refine lv_iload hx hb dX4_next_61 (lv_at hl 0 rfl) ?_
            refine lv_istore_n hx hb dX4_next_63 rfl hl (Nat.le_of_ble_eq_true rfl) (lv' := [(3, .int (iI (paT (σ 2) s_ t))), (5, .int (iI (paT (σ 2) s_ t))), (0, .ref (G.2.2 0)), (1, .int (iI s_)), (2, .int (iI ((nxN (σ 2) s_ t.toNat).1))), (4, .int (iI t))]) rfl (fun ls hl => ?_)
            refine lv_iload hx hb dX4_next_64 (lv_at hl 5 rfl) ?_
            refine lv_istore_n hx hb dX4_next_66 rfl hl (Nat.le_of_ble_eq_true rfl) (lv' := [(2, .int (iI t)), (3, .int (iI (paT (σ 2) s_ t))), (5, .int (iI (paT (σ 2) s_ t))), (0, .ref (G.2.2 0)), (1, .int (iI s_)), (4, .int (iI t))]) rfl (fun ls hl => ?_)
            refine n_iinc hx hb dX4_next_67 hl (k := 5) rfl (Nat.le_of_ble_eq_true rfl) (lv' := [(4, .int (iI (t + 1))), (2, .int (iI t)), (3, .int (iI (paT (σ 2) s_ t))), (5, .int (iI (paT (σ 2) s_ t))), (0, .ref (G.2.2 0)), (1, .int (iI s_))]) rfl (fun ls hl => ?_)
            refine lv_goto (tgt := 17) hx hb dX4_next_70 (by decide) ?_
            have hl : lv_has ls 6 [(0, .ref (G.2.2 0)), (1, .int (iI s_)), (2, .int (iI t)), (3, .int (iI (paT (σ 2) s_ t))), (4, .int (iI (t + 1)))] := lv_sub hl [4, 5, 1, 2, 0] rfl
            have hl : lv_has ls 6 [(0, .ref (G.2.2 0)), (1, .int (iI s_)), (2, .int (iI ((nxN (σ 2) s_ (t + 1).toNat).1))), (3, .int (iI ((nxN (σ 2) s_ (t + 1).toNat).2))), (4, .int (iI (t + 1)))] := by rw [nxN_e ht0, if_pos (by omega)]; exact hl
            refine ih_17 σ47 (t + 1) ?_ ?_ ?_ ?_ _ _ _ hH hl
            · exact hg
            · omega
            · omega
            · omega
          · -- 55F
            refine lv_goto (tgt := 67) hx hb dX4_next_58 (by decide) ?_
            refine n_iinc hx hb dX4_next_67 hl (k := 5) rfl (Nat.le_of_ble_eq_true rfl) (lv' := [(4, .int (iI (t + 1))), (5, .int (iI (paT (σ 2) s_ t))), (0, .ref (G.2.2 0)), (1, .int (iI s_)), (2, .int (iI ((nxN (σ 2) s_ t.toNat).1))), (3, .int (iI ((nxN (σ 2) s_ t.toNat).2)))]) rfl (fun ls hl => ?_)
            refine lv_goto (tgt := 17) hx hb dX4_next_70 (by decide) ?_
            have hl : lv_has ls 6 [(0, .ref (G.2.2 0)), (1, .int (iI s_)), (2, .int (iI ((nxN (σ 2) s_ t.toNat).1))), (3, .int (iI ((nxN (σ 2) s_ t.toNat).2))), (4, .int (iI (t + 1)))] := lv_sub hl [2, 3, 4, 5, 0] rfl
            have hl : lv_has ls 6 [(0, .ref (G.2.2 0)), (1, .int (iI s_)), (2, .int (iI ((nxN (σ 2) s_ (t + 1).toNat).1))), (3, .int (iI ((nxN (σ 2) s_ (t + 1).toNat).2))), (4, .int (iI (t + 1)))] := by rw [nxN_e ht0, if_neg (by omega)]; exact hl
            refine ih_17 σ47 (t + 1) ?_ ?_ ?_ ?_ _ _ _ hH hl
            · exact hg
            · omega
            · omega
            · omega
        · -- 37F
          refine lv_goto (tgt := 67) hx hb dX4_next_40 (by decide) ?_
          refine n_iinc hx hb dX4_next_67 hl (k := 4) rfl (Nat.le_of_ble_eq_true rfl) (lv' := [(4, .int (iI (t + 1))), (0, .ref (G.2.2 0)), (1, .int (iI s_)), (2, .int (iI ((nxN (σ 2) s_ t.toNat).1))), (3, .int (iI ((nxN (σ 2) s_ t.toNat).2)))]) rfl (fun ls hl => ?_)
          refine lv_goto (tgt := 17) hx hb dX4_next_70 (by decide) ?_
          have hl : lv_has ls 6 [(0, .ref (G.2.2 0)), (1, .int (iI s_)), (2, .int (iI ((nxN (σ 2) s_ t.toNat).1))), (3, .int (iI ((nxN (σ 2) s_ t.toNat).2))), (4, .int (iI (t + 1)))] := lv_sub hl [1, 2, 3, 4, 0] rfl
          have hl : lv_has ls 6 [(0, .ref (G.2.2 0)), (1, .int (iI s_)), (2, .int (iI ((nxN (σ 2) s_ (t + 1).toNat).1))), (3, .int (iI ((nxN (σ 2) s_ (t + 1).toNat).2))), (4, .int (iI (t + 1)))] := by rw [nxN_e ht0, if_neg (by omega)]; exact hl
          refine ih_17 σ34 (t + 1) ?_ ?_ ?_ ?_ _ _ _ hH hl
          · exact hg
          · omega
          · omega
          · omega
  refine lv_aload_n hx hb dX4_next_0 rfl (lv_at hl 0 rfl) ?_
  refine lv_iload_n hx hb dX4_next_1 rfl (lv_at hl 1 rfl) ?_
  refine m_calliF (m_runV (As := [.int (iI s_)]) (rest := []) S hH hK hj hl.1 (mm_areTexts l G (mx σ σ) s_ _ (r32 (by omega)) (show 0 ≤ σ 2 1756 from by omega) (show σ 2 1756 ≤ 12 from by omega)) (lw_V q1925 q1927 qs93 q109 q1928) kd_X4_areTexts rfl rfl dX4_next_2) hH hA (fun H locs hH => ?_)
  refine W.eq (g2 := F0 m 5 ls (.int (iI (zb (0 ≤ s_ ∧ s_ < 2 ^ (σ 2 1756).toNat))) :: [])) rfl ?_
  refine z_if_ne (tgt := 10) hx hb dX4_next_5 (by decide) (fun c_5 => ?_) (fun c_5 => ?_)
  · -- 5T
    refine n_iconst hx hb dX4_next_10 ?_
    refine lv_istore_n hx hb dX4_next_11 rfl hl (Nat.le_of_ble_eq_true rfl) (lv' := [(2, .int (iI (-1))), (0, .ref (G.2.2 0)), (1, .int (iI s_))]) rfl (fun ls hl => ?_)
    refine n_iconst hx hb dX4_next_12 ?_
    refine lv_istore_n hx hb dX4_next_13 rfl hl (Nat.le_of_ble_eq_true rfl) (lv' := [(3, .int (iI 0)), (2, .int (iI (-1))), (0, .ref (G.2.2 0)), (1, .int (iI s_))]) rfl (fun ls hl => ?_)
    refine n_iconst hx hb dX4_next_14 ?_
    refine lv_istore hx hb dX4_next_15 hl (Nat.le_of_ble_eq_true rfl) (lv' := [(4, .int (iI 0)), (3, .int (iI 0)), (2, .int (iI (-1))), (0, .ref (G.2.2 0)), (1, .int (iI s_))]) rfl (fun ls hl => ?_)
    have hl : lv_has ls 6 [(0, .ref (G.2.2 0)), (1, .int (iI s_)), (2, .int (iI (-1))), (3, .int (iI 0)), (4, .int (iI 0))] := lv_sub hl [3, 4, 2, 1, 0] rfl
    have hl : lv_has ls 6 [(0, .ref (G.2.2 0)), (1, .int (iI s_)), (2, .int (iI ((nxN (σ 2) s_ (0 : Int).toNat).1))), (3, .int (iI ((nxN (σ 2) s_ (0 : Int).toNat).2))), (4, .int (iI 0))] := by exact hl
    refine L17 20 σ 0 ?_ ?_ ?_ ?_ _ _ _ hH hl
    · omega
    · omega
    · omega
    · omega
  · -- 5F
    refine n_iconst hx hb dX4_next_8 ?_
    refine m_iret hx hb hr hlk hH dX4_next_9 ?_
    refine ⟨?_, mx_sc⟩
    show _ = nxF _ _
    unfold nxF arT
    rw [if_neg (by omega)]
