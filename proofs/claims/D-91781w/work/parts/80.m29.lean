theorem kd_X4_right : yX4_right.cls = RX4 ∧ yX4_right.cls ≠ "java/lang/invoke/MethodHandle" ∧ yX4_right.cls ≠ "java/lang/invoke/VarHandle" ∧ (parseMethodDescriptor yX4_right.desc).map (fun d => d.parameters.length) = some 2 := by decide +kernel
theorem mm_right (l : Launch) (G : MG) (σ : St) (a_ : Int) (b_ : Int) (sz : Nat) (h_a_ : R32 a_) (h_b_ : R32 b_) (hI : KI (σ 2)) (hT : TT (σ 2)) : Met l yX4_right (ws_ yX4_right cX4_right 8 (some .int)) (rmD 69) (mP G [.ref (G.2.2 0), .int (iI a_), .int (iI b_)] σ sz) (mQi G σ sz (fun z σ' => z = (rightF (σ 2) a_ b_) ∧ Sc σ σ')) 0 0 (mA G σ sz) := by
  refine m_start (by decide) (Nat.le_of_ble_eq_true rfl) ?_
  intro p e s m below meth c ⟨S, hr, hlk, hH, hK, hj, hsz, hnm⟩ ls hl
  subst hsz
  obtain ⟨hx, hb, hml, hown, hts⟩ := S
  have S : CallFix p m c _ _ s _ lw_all RX4 := ⟨hx, hb, hml, hown, hts⟩
  have hA : ∀ q, s.heap.size ≤ q → mA G σ s.heap.size q := fun q hq => Or.inr hq
  have hl : lv_has ls 8 [(0, .ref (G.2.2 0)), (1, .int (iI a_)), (2, .int (iI b_))] := hl
  have b0 := hI.c
  unfold kCnt at b0
  have h_a_ := R32.n h_a_
  have h_b_ := R32.n h_b_
  have hH := MH_to hH (τ := mx σ σ) mx_self.symm
  have L25 : ∀ (q : Nat) (τ : St) (t : Int), (hg : (0 ≤ a_ ∧ a_ ≤ 3) ∧ (0 ≤ b_ ∧ b_ ≤ 3)) → (ht0 : 0 ≤ t) → (ht1 : t ≤ σ 2 1756) → (hq : σ 2 1756 < (q : Int) + t) → ∀ (H : Heap) (locs : List Loc) (ls : Array Slot), MH G (mA G σ s.heap.size) (mx σ τ) s.heap H locs → lv_has ls 8 [(0, .ref (G.2.2 0)), (1, .int (iI a_)), (2, .int (iI b_)), (3, .int (iI (riN (σ 2) a_ b_ t.toNat))), (4, .int (iI t))] → W p l e (rmD 69) s m ([.ref (G.2.2 0), .int (iI a_), .int (iI b_)] : List Value).toArray below meth c H locs 0 0 (MQ below (mQi G σ s.heap.size (fun z σ' => z = (rightF (σ 2) a_ b_) ∧ Sc σ σ')) ([.ref (G.2.2 0), .int (iI a_), .int (iI b_)] : List Value).toArray s 0 0 (mA G σ s.heap.size)) (F0 m 25 ls []) := by
    intro q
    induction q with
    | zero => intro τ t hg ht0 ht1 hq; exfalso; omega
    | succ q ih_25 =>
      intro τ t hg ht0 ht1 hq H locs ls hH hl
      have L44 : ∀ (q1 : Nat) (τ1 : St) (k : Int), (ht2 : t < σ 2 1756) → (hk0 : 0 ≤ k) → (hk1 : k ≤ σ 2 1754) → (hq1 : σ 2 1754 < (q1 : Int) + k) → ∀ (H : Heap) (locs : List Loc) (ls : Array Slot), MH G (mA G σ s.heap.size) (mx σ τ1) s.heap H locs → lv_has ls 8 [(0, .ref (G.2.2 0)), (1, .int (iI a_)), (2, .int (iI b_)), (3, .int (iI (riN (σ 2) a_ b_ t.toNat))), (4, .int (iI t)), (5, .int (iI (riL (σ 2) a_ b_ t k.toNat))), (6, .int (iI k))] → W p l e (rmD 69) s m ([.ref (G.2.2 0), .int (iI a_), .int (iI b_)] : List Value).toArray below meth c H locs 0 0 (MQ below (mQi G σ s.heap.size (fun z σ' => z = (rightF (σ 2) a_ b_) ∧ Sc σ σ')) ([.ref (G.2.2 0), .int (iI a_), .int (iI b_)] : List Value).toArray s 0 0 (mA G σ s.heap.size)) (F0 m 44 ls []) := by
        intro q1
        induction q1 with
        | zero => intro τ1 k ht2 hk0 hk1 hq1; exfalso; omega
        | succ q1 ih_44 =>
          intro τ1 k ht2 hk0 hk1 hq1 H locs ls hH hl
          have ho := oL_r (σ 2) t k
          have hri := riL_01 (κ := σ 2) (a := a_) (b := b_) (t := t) k.toNat
          refine lv_iload hx hb dX4_right_44 (lv_at hl 6 rfl) ?_
          refine lv_aload_n hx hb dX4_right_46 rfl (lv_at hl 0 rfl) ?_
          refine m_get 2 (by decide) hx hb hts hown hK hj hH q1475 (fun _ h9 => h9) rfl dX4_right_47 ?_
          refine n_sipush (z := 1754) hx hb dX4_right_50 (by decide) ?_
          refine ml_2 hx hb hK hj hH (by omega) (by omega) dX4_right_53 ?_
          refine W.eq (g2 := F0 m 54 ls (.int (iI (σ 2 1754)) :: .int (iI k) :: [])) rfl ?_
          refine n_icmp_ge (tgt := 105) hx hb (r32 (by omega)) (r32 (by omega)) dX4_right_54 (by decide) (fun c_54 => ?_) (fun c_54 => ?_)
          · -- 54T
            refine lv_iload hx hb dX4_right_105 (lv_at hl 5 rfl) ?_
            refine n_if_eq (tgt := 117) hx hb (r32 (by omega)) dX4_right_107 (by decide) (fun c_107 => ?_) (fun c_107 => ?_)
            · -- 107T
              refine n_iinc hx hb dX4_right_117 hl (k := 4) rfl (Nat.le_of_ble_eq_true rfl) (lv' := [(4, .int (iI (t + 1))), (0, .ref (G.2.2 0)), (1, .int (iI a_)), (2, .int (iI b_)), (3, .int (iI (riN (σ 2) a_ b_ t.toNat))), (5, .int (iI (riL (σ 2) a_ b_ t k.toNat))), (6, .int (iI k))]) rfl (fun ls hl => ?_)
              refine lv_goto (tgt := 25) hx hb dX4_right_120 (by decide) ?_
              have hl : lv_has ls 8 [(0, .ref (G.2.2 0)), (1, .int (iI a_)), (2, .int (iI b_)), (3, .int (iI (riN (σ 2) a_ b_ t.toNat))), (4, .int (iI (t + 1)))] := lv_sub hl [1, 2, 3, 4, 0] rfl
              have hl : lv_has ls 8 [(0, .ref (G.2.2 0)), (1, .int (iI a_)), (2, .int (iI b_)), (3, .int (iI (riN (σ 2) a_ b_ (t + 1).toNat))), (4, .int (iI (t + 1)))] := by rw [riN_e ht0, if_pos (by rw [show (σ 2 1754).toNat = k.toNat by omega]; exact c_107)]; exact hl
              refine ih_25 τ1 (t + 1) ?_ ?_ ?_ ?_ _ _ _ hH hl
              · exact hg
              · omega
              · omega
              · omega
            · -- 107F
              refine lv_iload_n hx hb dX4_right_110 rfl (lv_at hl 3 rfl) ?_
              refine n_iconst hx hb dX4_right_111 ?_
              refine lv_iload hx hb dX4_right_112 (lv_at hl 4 rfl) ?_
              refine n_ishl hx hb (by omega) (by omega) dX4_right_114 ?_
              refine n_ior hx hb dX4_right_115 ?_
              refine lv_istore_n hx hb dX4_right_116 rfl hl (Nat.le_of_ble_eq_true rfl) (lv' := [(3, .int (iI (bOr (riN (σ 2) a_ b_ t.toNat) (1 * 2 ^ t.toNat)))), (0, .ref (G.2.2 0)), (1, .int (iI a_)), (2, .int (iI b_)), (4, .int (iI t)), (5, .int (iI (riL (σ 2) a_ b_ t k.toNat))), (6, .int (iI k))]) rfl (fun ls hl => ?_)
              refine n_iinc hx hb dX4_right_117 hl (k := 4) rfl (Nat.le_of_ble_eq_true rfl) (lv' := [(4, .int (iI (t + 1))), (3, .int (iI (bOr (riN (σ 2) a_ b_ t.toNat) (1 * 2 ^ t.toNat)))), (0, .ref (G.2.2 0)), (1, .int (iI a_)), (2, .int (iI b_)), (5, .int (iI (riL (σ 2) a_ b_ t k.toNat))), (6, .int (iI k))]) rfl (fun ls hl => ?_)
              refine lv_goto (tgt := 25) hx hb dX4_right_120 (by decide) ?_
              have hl : lv_has ls 8 [(0, .ref (G.2.2 0)), (1, .int (iI a_)), (2, .int (iI b_)), (3, .int (iI (bOr (riN (σ 2) a_ b_ t.toNat) (1 * 2 ^ t.toNat)))), (4, .int (iI (t + 1)))] := lv_sub hl [2, 3, 4, 1, 0] rfl
              have hl : lv_has ls 8 [(0, .ref (G.2.2 0)), (1, .int (iI a_)), (2, .int (iI b_)), (3, .int (iI (riN (σ 2) a_ b_ (t + 1).toNat))), (4, .int (iI (t + 1)))] := by rw [riN_e ht0, if_neg (by rw [show (σ 2 1754).toNat = k.toNat by omega]; exact c_107)]; exact hl
              refine ih_25 τ1 (t + 1) ?_ ?_ ?_ ?_ _ _ _ hH hl
              · exact hg
              · omega
              · omega
              · omega
          · -- 54F
            have hcl := (hI.o k hk0 (by omega)).1
            unfold caseOK at hcl
            have hc8 : 0 ≤ loA (σ 2) k 8 ∧ loA (σ 2) k 8 ≤ 3 := hcl.2.2.2.2.2.2.2.2
            refine lv_aload_n hx hb dX4_right_57 rfl (lv_at hl 0 rfl) ?_
            refine m_get 2 (by decide) hx hb hts hown hK hj hH q1475 (fun _ h9 => h9) rfl dX4_right_58 ?_
            refine lv_aload_n hx hb dX4_right_61 rfl (lv_at hl 0 rfl) ?_
            refine lv_iload hx hb dX4_right_62 (lv_at hl 6 rfl) ?_
            refine m_calliF (m_runV (As := [.int (iI k)]) (rest := [.ref (G.2.2 2)]) S hH hK hj hl.1 (mm_lookAt l G (mx σ τ1) k _ ) (lw_V q1682 q1684 qs54 q109 q1685) kd_X4_lookAt rfl rfl dX4_right_64) hH hA (fun H locs hH => ?_)
            refine n_bipush (z := 8) hx hb dX4_right_67 (by decide) ?_
            refine n_iadd hx hb dX4_right_69 ?_
            refine ml_2 hx hb hK hj hH (by omega) (by omega) dX4_right_70 ?_
            refine W.eq (g2 := F0 m 71 ls (.int (iI (σ 2 ((1224 + 10 * k) + 8))) :: [])) rfl ?_
            refine W.eq (g2 := F0 m 71 ls (.int (iI (loA (σ 2) k 8)) :: [])) (by rfl) ?_
            refine lv_istore hx hb dX4_right_71 hl (Nat.le_of_ble_eq_true rfl) (lv' := [(7, .int (iI (loA (σ 2) k 8))), (0, .ref (G.2.2 0)), (1, .int (iI a_)), (2, .int (iI b_)), (3, .int (iI (riN (σ 2) a_ b_ t.toNat))), (4, .int (iI t)), (5, .int (iI (riL (σ 2) a_ b_ t k.toNat))), (6, .int (iI k))]) rfl (fun ls hl => ?_)
            refine lv_iload hx hb dX4_right_73 (lv_at hl 0 rfl) ?_
            refine lv_iload_n hx hb dX4_right_75 rfl (lv_at hl 2 rfl) ?_
            refine n_icmp_eq (tgt := 85) hx hb (r32 (by omega)) (r32 (by omega)) dX4_right_76 (by decide) (fun c_76 => ?_) (fun c_76 => ?_)
            · -- 76T
              refine lv_aload_n hx hb dX4_right_85 rfl (lv_at hl 1 rfl) ?_
              refine lv_iload hx hb dX4_right_86 (lv_at hl 5 rfl) ?_
              refine lv_iload hx hb dX4_right_88 (lv_at hl 7 rfl) ?_
              refine m_calli (m_runV (As := [.int (iI t), .int (iI k)]) (rest := []) S hH hK hj hl.1 (mm_oddsOfLook l G (mx σ τ1) t k _ ht0 ht2 hI hT hk0 (show k < σ 2 1754 from by omega)) (lw_V q1807 q1809 qs74 q109 q1810) kd_X4_oddsOfLook rfl rfl dX4_right_90) hH hA (fun z90 σ90 H locs q_90 hH => ?_)
              obtain ⟨e_90, q_90⟩ := q_90
              have e_90 : z90 = (oL (σ 2) t k) := e_90
              subst e_90
              have hH := MH_to hH (τ := mx σ σ90) (mx_of q_90)
              refine n_if_ne (tgt := 99) hx hb (r32 (by omega)) dX4_right_93 (by decide) (fun c_93 => ?_) (fun c_93 => ?_)
              · -- 93T
                refine n_iinc hx hb dX4_right_99 hl (k := 7) rfl (Nat.le_of_ble_eq_true rfl) (lv' := [(6, .int (iI (k + 1))), (7, .int (iI (loA (σ 2) k 8))), (0, .ref (G.2.2 0)), (1, .int (iI a_)), (2, .int (iI b_)), (3, .int (iI (riN (σ 2) a_ b_ t.toNat))), (4, .int (iI t)), (5, .int (iI (riL (σ 2) a_ b_ t k.toNat)))]) rfl (fun ls hl => ?_)
                refine lv_goto (tgt := 44) hx hb dX4_right_102 (by decide) ?_
                have hl : lv_has ls 8 [(0, .ref (G.2.2 0)), (1, .int (iI a_)), (2, .int (iI b_)), (3, .int (iI (riN (σ 2) a_ b_ t.toNat))), (4, .int (iI t)), (5, .int (iI (riL (σ 2) a_ b_ t k.toNat))), (6, .int (iI (k + 1)))] := lv_sub hl [2, 3, 4, 5, 6, 7, 0] rfl
                have hl : lv_has ls 8 [(0, .ref (G.2.2 0)), (1, .int (iI a_)), (2, .int (iI b_)), (3, .int (iI (riN (σ 2) a_ b_ t.toNat))), (4, .int (iI t)), (5, .int (iI (riL (σ 2) a_ b_ t (k + 1).toNat))), (6, .int (iI (k + 1)))] := by rw [riL_e hk0, if_neg (by omega)]; exact hl
                refine ih_44 σ90 (k + 1) ?_ ?_ ?_ ?_ _ _ _ hH hl
                · omega
                · omega
                · omega
                · omega
              · -- 93F
                refine n_iconst hx hb dX4_right_96 ?_
                refine lv_istore hx hb dX4_right_97 hl (Nat.le_of_ble_eq_true rfl) (lv' := [(5, .int (iI 0)), (7, .int (iI (loA (σ 2) k 8))), (0, .ref (G.2.2 0)), (1, .int (iI a_)), (2, .int (iI b_)), (3, .int (iI (riN (σ 2) a_ b_ t.toNat))), (4, .int (iI t)), (6, .int (iI k))]) rfl (fun ls hl => ?_)
                refine n_iinc hx hb dX4_right_99 hl (k := 7) rfl (Nat.le_of_ble_eq_true rfl) (lv' := [(6, .int (iI (k + 1))), (5, .int (iI 0)), (7, .int (iI (loA (σ 2) k 8))), (0, .ref (G.2.2 0)), (1, .int (iI a_)), (2, .int (iI b_)), (3, .int (iI (riN (σ 2) a_ b_ t.toNat))), (4, .int (iI t))]) rfl (fun ls hl => ?_)
                refine lv_goto (tgt := 44) hx hb dX4_right_102 (by decide) ?_
                have hl : lv_has ls 8 [(0, .ref (G.2.2 0)), (1, .int (iI a_)), (2, .int (iI b_)), (3, .int (iI (riN (σ 2) a_ b_ t.toNat))), (4, .int (iI t)), (5, .int (iI 0)), (6, .int (iI (k + 1)))] := lv_sub hl [3, 4, 5, 6, 7, 1, 0] rfl
                have hl : lv_has ls 8 [(0, .ref (G.2.2 0)), (1, .int (iI a_)), (2, .int (iI b_)), (3, .int (iI (riN (σ 2) a_ b_ t.toNat))), (4, .int (iI t)), (5, .int (iI (riL (σ 2) a_ b_ t (k + 1).toNat))), (6, .int (iI (k + 1)))] := by rw [riL_e hk0, if_pos (by omega)]; exact hl
                refine ih_44 σ90 (k + 1) ?_ ?_ ?_ ?_ _ _ _ hH hl
                · omega
                · omega
                · omega
                · omega
            · -- 76F
              refine lv_iload hx hb dX4_right_79 (lv_at hl 0 rfl) ?_
              refine lv_iload_n hx hb dX4_right_81 rfl (lv_at hl 3 rfl) ?_
              refine n_icmp_ne (tgt := 99) hx hb (r32 (by omega)) (r32 (by omega)) dX4_right_82 (by decide) (fun c_82 => ?_) (fun c_82 => ?_)
              · -- 82T
                refine n_iinc hx hb dX4_right_99 hl (k := 7) rfl (Nat.le_of_ble_eq_true rfl) (lv' := [(6, .int (iI (k + 1))), (7, .int (iI (loA (σ 2) k 8))), (0, .ref (G.2.2 0)), (1, .int (iI a_)), (2, .int (iI b_)), (3, .int (iI (riN (σ 2) a_ b_ t.toNat))), (4, .int (iI t)), (5, .int (iI (riL (σ 2) a_ b_ t k.toNat)))]) rfl (fun ls hl => ?_)
                refine lv_goto (tgt := 44) hx hb dX4_right_102 (by decide) ?_
                have hl : lv_has ls 8 [(0, .ref (G.2.2 0)), (1, .int (iI a_)), (2, .int (iI b_)), (3, .int (iI (riN (σ 2) a_ b_ t.toNat))), (4, .int (iI t)), (5, .int (iI (riL (σ 2) a_ b_ t k.toNat))), (6, .int (iI (k + 1)))] := lv_sub hl [2, 3, 4, 5, 6, 7, 0] rfl
                have hl : lv_has ls 8 [(0, .ref (G.2.2 0)), (1, .int (iI a_)), (2, .int (iI b_)), (3, .int (iI (riN (σ 2) a_ b_ t.toNat))), (4, .int (iI t)), (5, .int (iI (riL (σ 2) a_ b_ t (k + 1).toNat))), (6, .int (iI (k + 1)))] := by rw [riL_e hk0, if_neg (by omega)]; exact hl
                refine ih_44 τ1 (k + 1) ?_ ?_ ?_ ?_ _ _ _ hH hl
                · omega
                · omega
                · omega
                · omega
              · -- 82F
                refine lv_aload_n hx hb dX4_right_85 rfl (lv_at hl 1 rfl) ?_
                refine lv_iload hx hb dX4_right_86 (lv_at hl 5 rfl) ?_
                refine lv_iload hx hb dX4_right_88 (lv_at hl 7 rfl) ?_
                refine m_calli (m_runV (As := [.int (iI t), .int (iI k)]) (rest := []) S hH hK hj hl.1 (mm_oddsOfLook l G (mx σ τ1) t k _ ht0 ht2 hI hT hk0 (show k < σ 2 1754 from by omega)) (lw_V q1807 q1809 qs74 q109 q1810) kd_X4_oddsOfLook rfl rfl dX4_right_90) hH hA (fun z90 σ90 H locs q_90 hH => ?_)
                obtain ⟨e_90, q_90⟩ := q_90
                have e_90 : z90 = (oL (σ 2) t k) := e_90
                subst e_90
                have hH := MH_to hH (τ := mx σ σ90) (mx_of q_90)
                refine n_if_ne (tgt := 99) hx hb (r32 (by omega)) dX4_right_93 (by decide) (fun c_93 => ?_) (fun c_93 => ?_)
                · -- 93T
                  refine n_iinc hx hb dX4_right_99 hl (k := 7) rfl (Nat.le_of_ble_eq_true rfl) (lv' := [(6, .int (iI (k + 1))), (7, .int (iI (loA (σ 2) k 8))), (0, .ref (G.2.2 0)), (1, .int (iI a_)), (2, .int (iI b_)), (3, .int (iI (riN (σ 2) a_ b_ t.toNat))), (4, .int (iI t)), (5, .int (iI (riL (σ 2) a_ b_ t k.toNat)))]) rfl (fun ls hl => ?_)
                  refine lv_goto (tgt := 44) hx hb dX4_right_102 (by decide) ?_
                  have hl : lv_has ls 8 [(0, .ref (G.2.2 0)), (1, .int (iI a_)), (2, .int (iI b_)), (3, .int (iI (riN (σ 2) a_ b_ t.toNat))), (4, .int (iI t)), (5, .int (iI (riL (σ 2) a_ b_ t k.toNat))), (6, .int (iI (k + 1)))] := lv_sub hl [2, 3, 4, 5, 6, 7, 0] rfl
                  have hl : lv_has ls 8 [(0, .ref (G.2.2 0)), (1, .int (iI a_)), (2, .int (iI b_)), (3, .int (iI (riN (σ 2) a_ b_ t.toNat))), (4, .int (iI t)), (5, .int (iI (riL (σ 2) a_ b_ t (k + 1).toNat))), (6, .int (iI (k + 1)))] := by rw [riL_e hk0, if_neg (by omega)]; exact hl
                  refine ih_44 σ90 (k + 1) ?_ ?_ ?_ ?_ _ _ _ hH hl
                  · omega
                  · omega
                  · omega
                  · omega
                · -- 93F
                  refine n_iconst hx hb dX4_right_96 ?_
                  refine lv_istore hx hb dX4_right_97 hl (Nat.le_of_ble_eq_true rfl) (lv' := [(5, .int (iI 0)), (7, .int (iI (loA (σ 2) k 8))), (0, .ref (G.2.2 0)), (1, .int (iI a_)), (2, .int (iI b_)), (3, .int (iI (riN (σ 2) a_ b_ t.toNat))), (4, .int (iI t)), (6, .int (iI k))]) rfl (fun ls hl => ?_)
                  refine n_iinc hx hb dX4_right_99 hl (k := 7) rfl (Nat.le_of_ble_eq_true rfl) (lv' := [(6, .int (iI (k + 1))), (5, .int (iI 0)), (7, .int (iI (loA (σ 2) k 8))), (0, .ref (G.2.2 0)), (1, .int (iI a_)), (2, .int (iI b_)), (3, .int (iI (riN (σ 2) a_ b_ t.toNat))), (4, .int (iI t))]) rfl (fun ls hl => ?_)
                  refine lv_goto (tgt := 44) hx hb dX4_right_102 (by decide) ?_
                  have hl : lv_has ls 8 [(0, .ref (G.2.2 0)), (1, .int (iI a_)), (2, .int (iI b_)), (3, .int (iI (riN (σ 2) a_ b_ t.toNat))), (4, .int (iI t)), (5, .int (iI 0)), (6, .int (iI (k + 1)))] := lv_sub hl [3, 4, 5, 6, 7, 1, 0] rfl
                  have hl : lv_has ls 8 [(0, .ref (G.2.2 0)), (1, .int (iI a_)), (2, .int (iI b_)), (3, .int (iI (riN (σ 2) a_ b_ t.toNat))), (4, .int (iI t)), (5, .int (iI (riL (σ 2) a_ b_ t (k + 1).toNat))), (6, .int (iI (k + 1)))] := by rw [riL_e hk0, if_pos (by omega)]; exact hl
                  refine ih_44 σ90 (k + 1) ?_ ?_ ?_ ?_ _ _ _ hH hl
                  · omega
                  · omega
                  · omega
                  · omega
      refine lv_iload hx hb dX4_right_25 (lv_at hl 4 rfl) ?_
      refine lv_aload_n hx hb dX4_right_27 rfl (lv_at hl 0 rfl) ?_
      refine m_get 2 (by decide) hx hb hts hown hK hj hH q1475 (fun _ h9 => h9) rfl dX4_right_28 ?_
      refine n_sipush (z := 1756) hx hb dX4_right_31 (by decide) ?_
      refine ml_2 hx hb hK hj hH (by omega) (by omega) dX4_right_34 ?_
      refine W.eq (g2 := F0 m 35 ls (.int (iI (σ 2 1756)) :: .int (iI t) :: [])) rfl ?_
      refine n_icmp_ge (tgt := 123) hx hb (r32 (by omega)) (r32 (by omega)) dX4_right_35 (by decide) (fun c_35 => ?_) (fun c_35 => ?_)
      · -- 35T
        refine lv_iload_n hx hb dX4_right_123 rfl (lv_at hl 3 rfl) ?_
        refine m_iret hx hb hr hlk hH dX4_right_124 ?_
        refine ⟨?_, mx_sc⟩
        show _ = rightF _ _ _
        rw [rightF, if_pos hg, show (σ 2 1756).toNat = t.toNat by omega]
      · -- 35F
        refine n_iconst hx hb dX4_right_38 ?_
        refine lv_istore hx hb dX4_right_39 hl (Nat.le_of_ble_eq_true rfl) (lv' := [(5, .int (iI 1)), (0, .ref (G.2.2 0)), (1, .int (iI a_)), (2, .int (iI b_)), (3, .int (iI (riN (σ 2) a_ b_ t.toNat))), (4, .int (iI t))]) rfl (fun ls hl => ?_)
        refine n_iconst hx hb dX4_right_41 ?_
        refine lv_istore hx hb dX4_right_42 hl (Nat.le_of_ble_eq_true rfl) (lv' := [(6, .int (iI 0)), (5, .int (iI 1)), (0, .ref (G.2.2 0)), (1, .int (iI a_)), (2, .int (iI b_)), (3, .int (iI (riN (σ 2) a_ b_ t.toNat))), (4, .int (iI t))]) rfl (fun ls hl => ?_)
        have hl : lv_has ls 8 [(0, .ref (G.2.2 0)), (1, .int (iI a_)), (2, .int (iI b_)), (3, .int (iI (riN (σ 2) a_ b_ t.toNat))), (4, .int (iI t)), (5, .int (iI 1)), (6, .int (iI 0))] := lv_sub hl [2, 3, 4, 5, 6, 1, 0] rfl
        have hl : lv_has ls 8 [(0, .ref (G.2.2 0)), (1, .int (iI a_)), (2, .int (iI b_)), (3, .int (iI (riN (σ 2) a_ b_ t.toNat))), (4, .int (iI t)), (5, .int (iI (riL (σ 2) a_ b_ t (0 : Int).toNat))), (6, .int (iI 0))] := by exact hl
        refine L44 50 τ 0 ?_ ?_ ?_ ?_ _ _ _ hH hl
        · omega
        · omega
        · omega
        · omega
  refine lv_iload_n hx hb dX4_right_0 rfl (lv_at hl 1 rfl) ?_
  refine n_iconst hx hb dX4_right_1 ?_
  refine n_iconst hx hb dX4_right_2 ?_
  refine m_calliF (m_runS (As := [.int (iI a_), .int (iI 0), .int (iI 3)]) (rest := []) S hH hK hj hl.1 (mm_in l G (mx σ σ) a_ 0 3 _ (r32 (by omega)) (r32 (by omega)) (r32 (by omega))) (lw_S q1569 q1570 q109 q1571) kd_X4_in rfl rfl dX4_right_3) hH hA (fun H locs hH => ?_)
  refine z_if_eq (tgt := 18) hx hb dX4_right_6 (by decide) (fun c_6 => ?_) (fun c_6 => ?_)
  · -- 6T
    refine n_iconst hx hb dX4_right_18 ?_
    refine m_iret hx hb hr hlk hH dX4_right_19 ?_
    refine ⟨?_, mx_sc⟩
    show _ = rightF _ _ _
    rw [rightF, if_neg (by omega)]
  · -- 6F
    refine lv_iload_n hx hb dX4_right_9 rfl (lv_at hl 2 rfl) ?_
    refine n_iconst hx hb dX4_right_10 ?_
    refine n_iconst hx hb dX4_right_11 ?_
    refine m_calliF (m_runS (As := [.int (iI b_), .int (iI 0), .int (iI 3)]) (rest := []) S hH hK hj hl.1 (mm_in l G (mx σ σ) b_ 0 3 _ (r32 (by omega)) (r32 (by omega)) (r32 (by omega))) (lw_S q1569 q1570 q109 q1571) kd_X4_in rfl rfl dX4_right_12) hH hA (fun H locs hH => ?_)
    refine z_if_ne (tgt := 20) hx hb dX4_right_15 (by decide) (fun c_15 => ?_) (fun c_15 => ?_)
    · -- 15T
      refine n_iconst hx hb dX4_right_20 ?_
      refine lv_istore_n hx hb dX4_right_21 rfl hl (Nat.le_of_ble_eq_true rfl) (lv' := [(3, .int (iI 0)), (0, .ref (G.2.2 0)), (1, .int (iI a_)), (2, .int (iI b_))]) rfl (fun ls hl => ?_)
      refine n_iconst hx hb dX4_right_22 ?_
      refine lv_istore hx hb dX4_right_23 hl (Nat.le_of_ble_eq_true rfl) (lv' := [(4, .int (iI 0)), (3, .int (iI 0)), (0, .ref (G.2.2 0)), (1, .int (iI a_)), (2, .int (iI b_))]) rfl (fun ls hl => ?_)
      have hl : lv_has ls 8 [(0, .ref (G.2.2 0)), (1, .int (iI a_)), (2, .int (iI b_)), (3, .int (iI 0)), (4, .int (iI 0))] := lv_sub hl [2, 3, 4, 1, 0] rfl
      have hl : lv_has ls 8 [(0, .ref (G.2.2 0)), (1, .int (iI a_)), (2, .int (iI b_)), (3, .int (iI (riN (σ 2) a_ b_ (0 : Int).toNat))), (4, .int (iI 0))] := by exact hl
      refine L25 20 σ 0 ?_ ?_ ?_ ?_ _ _ _ hH hl
      · omega
      · omega
      · omega
      · omega
    · -- 15F
      refine n_iconst hx hb dX4_right_18 ?_
      refine m_iret hx hb hr hlk hH dX4_right_19 ?_
      refine ⟨?_, mx_sc⟩
      show _ = rightF _ _ _
      rw [rightF, if_neg (by omega)]
theorem kd_X4_how : yX4_how.cls = RX4 ∧ yX4_how.cls ≠ "java/lang/invoke/MethodHandle" ∧ yX4_how.cls ≠ "java/lang/invoke/VarHandle" ∧ (parseMethodDescriptor yX4_how.desc).map (fun d => d.parameters.length) = some 3 := by decide +kernel
theorem mm_how (l : Launch) (G : MG) (σ : St) (x_ : Int) (a_ : Int) (b_ : Int) (sz : Nat) (h_x_ : R32 x_) (h_a_ : R32 a_) (h_b_ : R32 b_) (hI : KI (σ 2)) (hT : TT (σ 2)) : Met l yX4_how (ws_ yX4_how cX4_how 6 (some .int)) (rmD 69) (mP G [.ref (G.2.2 0), .int (iI x_), .int (iI a_), .int (iI b_)] σ sz) (mQi G σ sz (fun z σ' => z = (howF (σ 2) x_ a_ b_) ∧ Sc σ σ')) 0 0 (mA G σ sz) := by
  refine m_start (by decide) (Nat.le_of_ble_eq_true rfl) ?_
  intro p e s m below meth c ⟨S, hr, hlk, hH, hK, hj, hsz, hnm⟩ ls hl
  subst hsz
  obtain ⟨hx, hb, hml, hown, hts⟩ := S
  have S : CallFix p m c _ _ s _ lw_all RX4 := ⟨hx, hb, hml, hown, hts⟩
  have hA : ∀ q, s.heap.size ≤ q → mA G σ s.heap.size q := fun q hq => Or.inr hq
  have hl : lv_has ls 6 [(0, .ref (G.2.2 0)), (1, .int (iI x_)), (2, .int (iI a_)), (3, .int (iI b_))] := hl
  have b0 := hI.c
  unfold kCnt at b0
  have h_x_ := R32.n h_x_
  have h_a_ := R32.n h_a_
  have h_b_ := R32.n h_b_
  have hH := MH_to hH (τ := mx σ σ) mx_self.symm
  have L66 : ∀ (q : Nat) (τ : St) (k : Int), (hg : isX (σ 2) x_ ∧ isK (σ 2) a_ ∧ isK (σ 2) b_) → (hne : ¬ odd (tm (σ 2) x_) (loA (σ 2) a_) = odd (tm (σ 2) x_) (loA (σ 2) b_)) → (hk0 : 0 ≤ k) → (hk1 : k ≤ 9) → (hq : 9 < (q : Int) + k) → (he : hwN (σ 2) x_ a_ b_ (odd (tm (σ 2) x_) (loA (σ 2) b_)) 9 0 = hwN (σ 2) x_ a_ b_ (odd (tm (σ 2) x_) (loA (σ 2) b_)) (9 - k).toNat k) → ∀ (H : Heap) (locs : List Loc) (ls : Array Slot), MH G (mA G σ s.heap.size) (mx σ τ) s.heap H locs → lv_has ls 6 [(0, .ref (G.2.2 0)), (1, .int (iI x_)), (2, .int (iI a_)), (3, .int (iI b_)), (4, .int (iI (odd (tm (σ 2) x_) (loA (σ 2) b_)))), (5, .int (iI k))] → W p l e (rmD 69) s m ([.ref (G.2.2 0), .int (iI x_), .int (iI a_), .int (iI b_)] : List Value).toArray below meth c H locs 0 0 (MQ below (mQi G σ s.heap.size (fun z σ' => z = (howF (σ 2) x_ a_ b_) ∧ Sc σ σ')) ([.ref (G.2.2 0), .int (iI x_), .int (iI a_), .int (iI b_)] : List Value).toArray s 0 0 (mA G σ s.heap.size)) (F0 m 66 ls []) := by
    intro q
    induction q with
    | zero => intro τ k hg hne hk0 hk1 hq he; exfalso; omega
    | succ q ih_66 =>
      intro τ k hg hne hk0 hk1 hq he H locs ls hH hl
      have hca := (hI.o a_ (by omega) (by omega)).1
      have hcb := (hI.o b_ (by omega) (by omega)).1
      have ho := odd_r (tm (σ 2) x_) (loA (σ 2) b_)
      refine lv_iload hx hb dX4_how_66 (lv_at hl 5 rfl) ?_
      refine n_bipush (z := 9) hx hb dX4_how_68 (by decide) ?_
      refine n_icmp_ge (tgt := 121) hx hb (r32 (by omega)) (r32 (by omega)) dX4_how_70 (by decide) (fun c_70 => ?_) (fun c_70 => ?_)
      · -- 70T
        refine n_iconst hx hb dX4_how_121 ?_
        refine m_iret hx hb hr hlk hH dX4_how_122 ?_
        refine ⟨?_, mx_sc⟩
        show _ = howF _ _ _ _
        rw [howF, if_pos hg, if_neg hne, he, show (9 - k).toNat = 0 by omega, hwN]
      · -- 70F
        refine lv_aload_n hx hb dX4_how_73 rfl (lv_at hl 0 rfl) ?_
        refine lv_aload_n hx hb dX4_how_74 rfl (lv_at hl 0 rfl) ?_
        refine lv_iload_n hx hb dX4_how_75 rfl (lv_at hl 2 rfl) ?_
        refine m_calliF (m_runV (As := [.int (iI a_)]) (rest := [.ref (G.2.2 0)]) S hH hK hj hl.1 (mm_lookAt l G (mx σ τ) a_ _ ) (lw_V q1682 q1684 qs54 q109 q1685) kd_X4_lookAt rfl rfl dX4_how_76) hH hA (fun H locs hH => ?_)
        refine m_callvF (m_runV (As := [.int (iI (1224 + 10 * a_))]) (rest := []) S hH hK hj hl.1 (mm_takesRow l G (mx σ τ) (1224 + 10 * a_) _ (by omega) (by omega)) (lw_V q1811 q1813 qs75 q109 q1814) kd_X4_takesRow rfl rfl dX4_how_79) hH hA (fun H locs hH => ?_)
        have hH := MH_to hH (τ := mx σ (rwS σ τ (1224 + 10 * a_))) mx_row
        refine lv_aload_n hx hb dX4_how_82 rfl (lv_at hl 0 rfl) ?_
        refine m_get 5 (by decide) hx hb hts hown hK hj hH q1478 (fun _ h9 => h9) rfl dX4_how_83 ?_
        refine lv_iload hx hb dX4_how_86 (lv_at hl 5 rfl) ?_
        refine lv_aload_n hx hb dX4_how_88 rfl (lv_at hl 0 rfl) ?_
        refine m_get 2 (by decide) hx hb hts hown hK hj hH q1475 (fun _ h9 => h9) rfl dX4_how_89 ?_
        refine lv_aload_n hx hb dX4_how_92 rfl (lv_at hl 0 rfl) ?_
        refine lv_iload_n hx hb dX4_how_93 rfl (lv_at hl 3 rfl) ?_
        refine m_calliF (m_runV (As := [.int (iI b_)]) (rest := [.ref (G.2.2 2), .int (iI k), .ref (G.2.2 5)]) S hH hK hj hl.1 (mm_lookAt l G (mx σ (rwS σ τ (1224 + 10 * a_))) b_ _ ) (lw_V q1682 q1684 qs54 q109 q1685) kd_X4_lookAt rfl rfl dX4_how_94) hH hA (fun H locs hH => ?_)
        refine lv_iload hx hb dX4_how_97 (lv_at hl 5 rfl) ?_
        refine n_iadd hx hb dX4_how_99 ?_
        refine ml_2 hx hb hK hj hH (by omega) (by omega) dX4_how_100 ?_
        refine W.eq (g2 := F0 m 101 ls (.int (iI (σ 2 ((1224 + 10 * b_) + k))) :: .int (iI k) :: .ref (G.2.2 5) :: [])) rfl ?_
        refine ms_5 hx hb hK hj hH (by omega) (by omega) dX4_how_101 (fun H locs hH => ?_)
        have hH := MH_to hH (τ := mx σ (st (rwS σ τ (1224 + 10 * a_)) 5 k (σ 2 ((1224 + 10 * b_) + k)))) (mx_st (by decide))
        refine lv_aload_n hx hb dX4_how_102 rfl (lv_at hl 0 rfl) ?_
        refine lv_iload_n hx hb dX4_how_103 rfl (lv_at hl 1 rfl) ?_
        refine m_calli (m_runV (As := [.int (iI x_)]) (rest := []) S hH hK hj hl.1 (mm_oddsOf l G (mx σ (st (rwS σ τ (1224 + 10 * a_)) 5 k (σ 2 ((1224 + 10 * b_) + k)))) x_ _ (by omega) (show x_ < σ 2 1756 from by omega) hI hT (how_ok hca hcb hk0 (by omega))) (lw_V q1815 q1817 qs76 q109 q1818) kd_X4_oddsOf rfl rfl dX4_how_104) hH hA (fun z104 σ104 H locs q_104 hH => ?_)
        obtain ⟨e_104, q_104⟩ := q_104
        have e_104 : z104 = (odd (tm (σ 2) x_) ((st (rwS σ τ (1224 + 10 * a_)) 5 k (σ 2 ((1224 + 10 * b_) + k))) 5)) := e_104
        subst e_104
        obtain ⟨q_104, k_104⟩ := q_104
        have k_104 : σ104 5 = (st (rwS σ τ (1224 + 10 * a_)) 5 k (σ 2 ((1224 + 10 * b_) + k))) 5 := k_104
        have hH := MH_to hH (τ := mx σ σ104) (mx_of q_104)
        refine W.eq (g2 := F0 m 107 ls (.int (iI (odd (tm (σ 2) x_) (up (loA (σ 2) a_) k (loA (σ 2) b_ k)))) :: [])) (by rw [odd_loc (tm_loc _ _) (fun j h0 h1 => how_5 h0 h1)]) ?_
        have ho3 := odd_r (tm (σ 2) x_) (up (loA (σ 2) a_) k (loA (σ 2) b_ k))
        refine lv_iload hx hb dX4_how_107 (lv_at hl 4 rfl) ?_
        refine n_icmp_ne (tgt := 115) hx hb (r32 (by omega)) (r32 (by omega)) dX4_how_109 (by decide) (fun c_109 => ?_) (fun c_109 => ?_)
        · -- 109T
          refine n_iinc hx hb dX4_how_115 hl (k := 5) rfl (Nat.le_of_ble_eq_true rfl) (lv' := [(5, .int (iI (k + 1))), (0, .ref (G.2.2 0)), (1, .int (iI x_)), (2, .int (iI a_)), (3, .int (iI b_)), (4, .int (iI (odd (tm (σ 2) x_) (loA (σ 2) b_))))]) rfl (fun ls hl => ?_)
          refine lv_goto (tgt := 66) hx hb dX4_how_118 (by decide) ?_
          have hl : lv_has ls 6 [(0, .ref (G.2.2 0)), (1, .int (iI x_)), (2, .int (iI a_)), (3, .int (iI b_)), (4, .int (iI (odd (tm (σ 2) x_) (loA (σ 2) b_)))), (5, .int (iI (k + 1)))] := lv_sub hl [1, 2, 3, 4, 5, 0] rfl
          refine ih_66 σ104 (k + 1) ?_ ?_ ?_ ?_ ?_ ?_ _ _ _ hH hl
          · exact hg
          · exact hne
          · omega
          · omega
          · omega
          · rw [he, hwN_e (by omega), if_neg c_109]
        · -- 109F
          refine lv_iload hx hb dX4_how_112 (lv_at hl 5 rfl) ?_
          refine m_iret hx hb hr hlk hH dX4_how_114 ?_
          refine ⟨?_, mx_sc⟩
          show _ = howF _ _ _ _
          rw [howF, if_pos hg, if_neg hne, he, hwN_e (by omega), if_pos c_109]
  refine lv_aload_n hx hb dX4_how_0 rfl (lv_at hl 0 rfl) ?_
  refine lv_iload_n hx hb dX4_how_1 rfl (lv_at hl 1 rfl) ?_
  refine m_calliF (m_runV (As := [.int (iI x_)]) (rest := []) S hH hK hj hl.1 (mm_isText l G (mx σ σ) x_ _ (r32 (by omega)) (show 0 ≤ σ 2 1756 from by omega) (show σ 2 1756 ≤ 1000 from by omega)) (lw_V q1803 q1805 qs73 q109 q1806) kd_X4_isText rfl rfl dX4_how_2) hH hA (fun H locs hH => ?_)
  refine W.eq (g2 := F0 m 5 ls (.int (iI (zb (0 ≤ x_ ∧ x_ ≤ σ 2 1756 - 1))) :: [])) rfl ?_
  refine z_if_eq (tgt := 24) hx hb dX4_how_5 (by decide) (fun c_5 => ?_) (fun c_5 => ?_)
  · -- 5T
    refine n_iconst hx hb dX4_how_24 ?_
    refine m_iret hx hb hr hlk hH dX4_how_25 ?_
    refine ⟨?_, mx_sc⟩
    show _ = howF _ _ _ _
    unfold howF isX isK
    rw [if_neg (by omega)]
  · -- 5F
    refine lv_aload_n hx hb dX4_how_8 rfl (lv_at hl 0 rfl) ?_
    refine lv_iload_n hx hb dX4_how_9 rfl (lv_at hl 2 rfl) ?_
    refine m_calliF (m_runV (As := [.int (iI a_)]) (rest := []) S hH hK hj hl.1 (mm_isLook l G (mx σ σ) a_ _ (r32 (by omega)) (show 0 ≤ σ 2 1754 from by omega) (show σ 2 1754 ≤ 1000 from by omega)) (lw_V q1705 q1707 qs56 q109 q1708) kd_X4_isLook rfl rfl dX4_how_10) hH hA (fun H locs hH => ?_)
    refine W.eq (g2 := F0 m 13 ls (.int (iI (zb (0 ≤ a_ ∧ a_ ≤ σ 2 1754 - 1))) :: [])) rfl ?_
    refine z_if_eq (tgt := 24) hx hb dX4_how_13 (by decide) (fun c_13 => ?_) (fun c_13 => ?_)
    · -- 13T
      refine n_iconst hx hb dX4_how_24 ?_
      refine m_iret hx hb hr hlk hH dX4_how_25 ?_
      refine ⟨?_, mx_sc⟩
      show _ = howF _ _ _ _
      unfold howF isX isK
      rw [if_neg (by omega)]
    · -- 13F
      refine lv_aload_n hx hb dX4_how_16 rfl (lv_at hl 0 rfl) ?_
      refine lv_iload_n hx hb dX4_how_17 rfl (lv_at hl 3 rfl) ?_
      refine m_calliF (m_runV (As := [.int (iI b_)]) (rest := []) S hH hK hj hl.1 (mm_isLook l G (mx σ σ) b_ _ (r32 (by omega)) (show 0 ≤ σ 2 1754 from by omega) (show σ 2 1754 ≤ 1000 from by omega)) (lw_V q1705 q1707 qs56 q109 q1708) kd_X4_isLook rfl rfl dX4_how_18) hH hA (fun H locs hH => ?_)
      refine W.eq (g2 := F0 m 21 ls (.int (iI (zb (0 ≤ b_ ∧ b_ ≤ σ 2 1754 - 1))) :: [])) rfl ?_
      refine z_if_ne (tgt := 26) hx hb dX4_how_21 (by decide) (fun c_21 => ?_) (fun c_21 => ?_)
      · -- 21T
        have hca := (hI.o a_ (by omega) (by omega)).1
        have hcb := (hI.o b_ (by omega) (by omega)).1
        have ho := odd_r (tm (σ 2) x_) (loA (σ 2) b_)
        have ho2 := odd_r (tm (σ 2) x_) (loA (σ 2) a_)
        refine lv_aload_n hx hb dX4_how_26 rfl (lv_at hl 0 rfl) ?_
        refine lv_aload_n hx hb dX4_how_27 rfl (lv_at hl 0 rfl) ?_
        refine lv_iload_n hx hb dX4_how_28 rfl (lv_at hl 3 rfl) ?_
        refine m_calliF (m_runV (As := [.int (iI b_)]) (rest := [.ref (G.2.2 0)]) S hH hK hj hl.1 (mm_lookAt l G (mx σ σ) b_ _ ) (lw_V q1682 q1684 qs54 q109 q1685) kd_X4_lookAt rfl rfl dX4_how_29) hH hA (fun H locs hH => ?_)
        refine m_callvF (m_runV (As := [.int (iI (1224 + 10 * b_))]) (rest := []) S hH hK hj hl.1 (mm_takesRow l G (mx σ σ) (1224 + 10 * b_) _ (by omega) (by omega)) (lw_V q1811 q1813 qs75 q109 q1814) kd_X4_takesRow rfl rfl dX4_how_32) hH hA (fun H locs hH => ?_)
        have hH := MH_to hH (τ := mx σ (rwS σ σ (1224 + 10 * b_))) mx_row
        refine lv_aload_n hx hb dX4_how_35 rfl (lv_at hl 0 rfl) ?_
        refine lv_iload_n hx hb dX4_how_36 rfl (lv_at hl 1 rfl) ?_
        refine m_calli (m_runV (As := [.int (iI x_)]) (rest := []) S hH hK hj hl.1 (mm_oddsOf l G (mx σ (rwS σ σ (1224 + 10 * b_))) x_ _ (by omega) (show x_ < σ 2 1756 from by omega) hI hT (rw_ok hcb)) (lw_V q1815 q1817 qs76 q109 q1818) kd_X4_oddsOf rfl rfl dX4_how_37) hH hA (fun z37 σ37 H locs q_37 hH => ?_)
        obtain ⟨e_37, q_37⟩ := q_37
        have e_37 : z37 = (odd (tm (σ 2) x_) ((rwS σ σ (1224 + 10 * b_)) 5)) := e_37
        subst e_37
        obtain ⟨q_37, k_37⟩ := q_37
        have k_37 : σ37 5 = (rwS σ σ (1224 + 10 * b_)) 5 := k_37
        have hH := MH_to hH (τ := mx σ σ37) (mx_of q_37)
        refine W.eq (g2 := F0 m 40 ls (.int (iI (odd (tm (σ 2) x_) (loA (σ 2) b_))) :: [])) (by rw [odd_loc (tm_loc _ _) (fun j h0 h1 => rwS_5 h0 h1)]; rfl) ?_
        refine lv_istore hx hb dX4_how_40 hl (Nat.le_of_ble_eq_true rfl) (lv' := [(4, .int (iI (odd (tm (σ 2) x_) (loA (σ 2) b_)))), (0, .ref (G.2.2 0)), (1, .int (iI x_)), (2, .int (iI a_)), (3, .int (iI b_))]) rfl (fun ls hl => ?_)
        refine lv_aload_n hx hb dX4_how_42 rfl (lv_at hl 1 rfl) ?_
        refine lv_aload_n hx hb dX4_how_43 rfl (lv_at hl 1 rfl) ?_
        refine lv_iload_n hx hb dX4_how_44 rfl (lv_at hl 3 rfl) ?_
        refine m_calliF (m_runV (As := [.int (iI a_)]) (rest := [.ref (G.2.2 0)]) S hH hK hj hl.1 (mm_lookAt l G (mx σ σ37) a_ _ ) (lw_V q1682 q1684 qs54 q109 q1685) kd_X4_lookAt rfl rfl dX4_how_45) hH hA (fun H locs hH => ?_)
        refine m_callvF (m_runV (As := [.int (iI (1224 + 10 * a_))]) (rest := []) S hH hK hj hl.1 (mm_takesRow l G (mx σ σ37) (1224 + 10 * a_) _ (by omega) (by omega)) (lw_V q1811 q1813 qs75 q109 q1814) kd_X4_takesRow rfl rfl dX4_how_48) hH hA (fun H locs hH => ?_)
        have hH := MH_to hH (τ := mx σ (rwS σ σ37 (1224 + 10 * a_))) mx_row
        refine lv_aload_n hx hb dX4_how_51 rfl (lv_at hl 1 rfl) ?_
        refine lv_iload_n hx hb dX4_how_52 rfl (lv_at hl 2 rfl) ?_
        refine m_calli (m_runV (As := [.int (iI x_)]) (rest := []) S hH hK hj hl.1 (mm_oddsOf l G (mx σ (rwS σ σ37 (1224 + 10 * a_))) x_ _ (by omega) (show x_ < σ 2 1756 from by omega) hI hT (rw_ok hca)) (lw_V q1815 q1817 qs76 q109 q1818) kd_X4_oddsOf rfl rfl dX4_how_53) hH hA (fun z53 σ53 H locs q_53 hH => ?_)
        obtain ⟨e_53, q_53⟩ := q_53
        have e_53 : z53 = (odd (tm (σ 2) x_) ((rwS σ σ37 (1224 + 10 * a_)) 5)) := e_53
        subst e_53
        obtain ⟨q_53, k_53⟩ := q_53
        have k_53 : σ53 5 = (rwS σ σ37 (1224 + 10 * a_)) 5 := k_53
        have hH := MH_to hH (τ := mx σ σ53) (mx_of q_53)
        refine W.eq (g2 := F0 m 56 ls (.int (iI (odd (tm (σ 2) x_) (loA (σ 2) a_))) :: [])) (by rw [odd_loc (tm_loc _ _) (fun j h0 h1 => rwS_5 h0 h1)]; rfl) ?_
        refine lv_iload hx hb dX4_how_56 (lv_at hl 0 rfl) ?_
        refine n_icmp_ne (tgt := 63) hx hb (r32 (by omega)) (r32 (by omega)) dX4_how_58 (by decide) (fun c_58 => ?_) (fun c_58 => ?_)
        · -- 58T
          refine n_iconst hx hb dX4_how_63 ?_
          refine lv_istore hx hb dX4_how_64 hl (Nat.le_of_ble_eq_true rfl) (lv' := [(5, .int (iI 0)), (4, .int (iI (odd (tm (σ 2) x_) (loA (σ 2) b_)))), (0, .ref (G.2.2 0)), (1, .int (iI x_)), (2, .int (iI a_)), (3, .int (iI b_))]) rfl (fun ls hl => ?_)
          have hl : lv_has ls 6 [(0, .ref (G.2.2 0)), (1, .int (iI x_)), (2, .int (iI a_)), (3, .int (iI b_)), (4, .int (iI (odd (tm (σ 2) x_) (loA (σ 2) b_)))), (5, .int (iI 0))] := lv_sub hl [2, 3, 4, 5, 1, 0] rfl
          refine L66 20 σ53 0 ?_ ?_ ?_ ?_ ?_ ?_ _ _ _ hH hl
          · exact ⟨c_5, c_13, c_21⟩
          · exact c_58
          · omega
          · omega
          · omega
          · rfl
        · -- 58F
          refine n_iconst hx hb dX4_how_61 ?_
          refine m_iret hx hb hr hlk hH dX4_how_62 ?_
          refine ⟨?_, mx_sc⟩
          show _ = howF _ _ _ _
          rw [howF, if_pos ⟨c_5, c_13, c_21⟩, if_pos c_58]
      · -- 21F
        refine n_iconst hx hb dX4_how_24 ?_
        refine m_iret hx hb hr hlk hH dX4_how_25 ?_
        refine ⟨?_, mx_sc⟩
        show _ = howF _ _ _ _
        unfold howF isX isK
        rw [if_neg (by omega)]
theorem kd_X4_ways : yX4_ways.cls = RX4 ∧ yX4_ways.cls ≠ "java/lang/invoke/MethodHandle" ∧ yX4_ways.cls ≠ "java/lang/invoke/VarHandle" ∧ (parseMethodDescriptor yX4_ways.desc).map (fun d => d.parameters.length) = some 3 := by decide +kernel
theorem mm_ways (l : Launch) (G : MG) (σ : St) (x_ : Int) (h_ : Int) (w_ : Int) (sz : Nat) (h_x_ : R32 x_) (h_h_ : R32 h_) (h_w_ : R32 w_) (hI : KI (σ 2)) (hT : TT (σ 2)) : Met l yX4_ways (ws_ yX4_ways cX4_ways 7 (some .int)) (rmD 69) (mP G [.ref (G.2.2 0), .int (iI x_), .int (iI h_), .int (iI w_)] σ sz) (mQi G σ sz (fun z σ' => z = (waysF (σ 2) x_ h_ w_) ∧ Sc σ σ')) 0 0 (mA G σ sz) := by
  refine m_start (by decide) (Nat.le_of_ble_eq_true rfl) ?_
  intro p e s m below meth c ⟨S, hr, hlk, hH, hK, hj, hsz, hnm⟩ ls hl
  subst hsz
  obtain ⟨hx, hb, hml, hown, hts⟩ := S
  have S : CallFix p m c _ _ s _ lw_all RX4 := ⟨hx, hb, hml, hown, hts⟩
  have hA : ∀ q, s.heap.size ≤ q → mA G σ s.heap.size q := fun q hq => Or.inr hq
  have hl : lv_has ls 7 [(0, .ref (G.2.2 0)), (1, .int (iI x_)), (2, .int (iI h_)), (3, .int (iI w_))] := hl
  have b0 := hI.c
  unfold kCnt at b0
  have h_x_ := R32.n h_x_
  have h_h_ := R32.n h_h_
  have h_w_ := R32.n h_w_
  have hH := MH_to hH (τ := mx σ σ) mx_self.symm
  have L34 : ∀ (q : Nat) (τ : St) (k : Int), (hg : isX (σ 2) x_ ∧ (0 ≤ h_ ∧ h_ ≤ 3) ∧ (0 ≤ w_ ∧ w_ ≤ 1)) → (hk0 : 0 ≤ k) → (hk1 : k ≤ σ 2 1754) → (hq : σ 2 1754 < (q : Int) + k) → ∀ (H : Heap) (locs : List Loc) (ls : Array Slot), MH G (mA G σ s.heap.size) (mx σ τ) s.heap H locs → lv_has ls 7 [(0, .ref (G.2.2 0)), (1, .int (iI x_)), (2, .int (iI h_)), (3, .int (iI w_)), (4, .int (iI (waN (σ 2) x_ h_ w_ k.toNat))), (5, .int (iI k))] → W p l e (rmD 69) s m ([.ref (G.2.2 0), .int (iI x_), .int (iI h_), .int (iI w_)] : List Value).toArray below meth c H locs 0 0 (MQ below (mQi G σ s.heap.size (fun z σ' => z = (waysF (σ 2) x_ h_ w_) ∧ Sc σ σ')) ([.ref (G.2.2 0), .int (iI x_), .int (iI h_), .int (iI w_)] : List Value).toArray s 0 0 (mA G σ s.heap.size)) (F0 m 34 ls []) := by
    intro q
    induction q with
    | zero => intro τ k hg hk0 hk1 hq; exfalso; omega
    | succ q ih_34 =>
      intro τ k hg hk0 hk1 hq H locs ls hH hl
      have ho := oL_r (σ 2) x_ k
      refine lv_iload hx hb dX4_ways_34 (lv_at hl 5 rfl) ?_
      refine lv_aload_n hx hb dX4_ways_36 rfl (lv_at hl 0 rfl) ?_
      refine m_get 2 (by decide) hx hb hts hown hK hj hH q1475 (fun _ h9 => h9) rfl dX4_ways_37 ?_
      refine n_sipush (z := 1754) hx hb dX4_ways_40 (by decide) ?_
      refine ml_2 hx hb hK hj hH (by omega) (by omega) dX4_ways_43 ?_
      refine W.eq (g2 := F0 m 44 ls (.int (iI (σ 2 1754)) :: .int (iI k) :: [])) rfl ?_
      refine n_icmp_ge (tgt := 131) hx hb (r32 (by omega)) (r32 (by omega)) dX4_ways_44 (by decide) (fun c_44 => ?_) (fun c_44 => ?_)
      · -- 44T
        refine lv_iload hx hb dX4_ways_131 (lv_at hl 4 rfl) ?_
        refine m_iret hx hb hr hlk hH dX4_ways_133 ?_
        refine ⟨?_, mx_sc⟩
        show _ = waysF _ _ _ _
        rw [waysF, if_pos hg, show (σ 2 1754).toNat = k.toNat by omega]
      · -- 44F
        have hcl := (hI.o k hk0 (by omega)).1
        have hse := (hI.o k hk0 (by omega)).2
        unfold caseOK at hcl
        have hc8 : 0 ≤ loA (σ 2) k 8 ∧ loA (σ 2) k 8 ≤ 3 := hcl.2.2.2.2.2.2.2.2
        have hc1 : 0 ≤ loA (σ 2) k 1 ∧ loA (σ 2) k 1 ≤ 5 := hcl.2.1
        refine lv_aload_n hx hb dX4_ways_47 rfl (lv_at hl 0 rfl) ?_
        refine m_get 2 (by decide) hx hb hts hown hK hj hH q1475 (fun _ h9 => h9) rfl dX4_ways_48 ?_
        refine lv_aload_n hx hb dX4_ways_51 rfl (lv_at hl 0 rfl) ?_
        refine lv_iload hx hb dX4_ways_52 (lv_at hl 5 rfl) ?_
        refine m_calliF (m_runV (As := [.int (iI k)]) (rest := [.ref (G.2.2 2)]) S hH hK hj hl.1 (mm_lookAt l G (mx σ τ) k _ ) (lw_V q1682 q1684 qs54 q109 q1685) kd_X4_lookAt rfl rfl dX4_ways_54) hH hA (fun H locs hH => ?_)
        refine n_bipush (z := 8) hx hb dX4_ways_57 (by decide) ?_
        refine n_iadd hx hb dX4_ways_59 ?_
        refine ml_2 hx hb hK hj hH (by omega) (by omega) dX4_ways_60 ?_
        refine W.eq (g2 := F0 m 61 ls (.int (iI (σ 2 ((1224 + 10 * k) + 8))) :: [])) rfl ?_
        refine W.eq (g2 := F0 m 61 ls (.int (iI (loA (σ 2) k 8)) :: [])) (by rfl) ?_
        refine lv_iload_n hx hb dX4_ways_61 rfl (lv_at hl 2 rfl) ?_
        refine n_icmp_ne (tgt := 125) hx hb (r32 (by omega)) (r32 (by omega)) dX4_ways_62 (by decide) (fun c_62 => ?_) (fun c_62 => ?_)
        · -- 62T
          refine n_iinc hx hb dX4_ways_125 hl (k := 5) rfl (Nat.le_of_ble_eq_true rfl) (lv' := [(5, .int (iI (k + 1))), (0, .ref (G.2.2 0)), (1, .int (iI x_)), (2, .int (iI h_)), (3, .int (iI w_)), (4, .int (iI (waN (σ 2) x_ h_ w_ k.toNat)))]) rfl (fun ls hl => ?_)
          refine lv_goto (tgt := 34) hx hb dX4_ways_128 (by decide) ?_
          have hl : lv_has ls 7 [(0, .ref (G.2.2 0)), (1, .int (iI x_)), (2, .int (iI h_)), (3, .int (iI w_)), (4, .int (iI (waN (σ 2) x_ h_ w_ k.toNat))), (5, .int (iI (k + 1)))] := lv_sub hl [1, 2, 3, 4, 5, 0] rfl
          have hl : lv_has ls 7 [(0, .ref (G.2.2 0)), (1, .int (iI x_)), (2, .int (iI h_)), (3, .int (iI w_)), (4, .int (iI (waN (σ 2) x_ h_ w_ (k + 1).toNat))), (5, .int (iI (k + 1)))] := by rw [waN_e hk0, if_neg (by omega)]; exact hl
          refine ih_34 τ (k + 1) ?_ ?_ ?_ ?_ _ _ _ hH hl
          · exact hg
          · omega
          · omega
          · omega
        · -- 62F
          refine lv_aload_n hx hb dX4_ways_65 rfl (lv_at hl 0 rfl) ?_
          refine lv_iload hx hb dX4_ways_66 (lv_at hl 5 rfl) ?_
          refine m_calliF (m_runV (As := [.int (iI k)]) (rest := []) S hH hK hj hl.1 (mm_seenAt l G (mx σ τ) k _ (by omega) (by omega)) (lw_V q1872 q1874 qs89 q109 q1875) kd_X4_seenAt rfl rfl dX4_ways_68) hH hA (fun H locs hH => ?_)
          refine W.eq (g2 := F0 m 71 ls (.int (iI (σ 2 (1224 + 10 * k + 9))) :: [])) rfl ?_
          refine n_if_ne (tgt := 77) hx hb (r32 (by omega)) dX4_ways_71 (by decide) (fun c_71 => ?_) (fun c_71 => ?_)
          · -- 71T
            refine lv_aload_n hx hb dX4_ways_77 rfl (lv_at hl 0 rfl) ?_
            refine lv_iload_n hx hb dX4_ways_78 rfl (lv_at hl 1 rfl) ?_
            refine lv_iload hx hb dX4_ways_79 (lv_at hl 5 rfl) ?_
            refine m_calli (m_runV (As := [.int (iI x_), .int (iI k)]) (rest := []) S hH hK hj hl.1 (mm_oddsOfLook l G (mx σ τ) x_ k _ (by omega) (show x_ < σ 2 1756 from by omega) hI hT (by omega) (show k < σ 2 1754 from by omega)) (lw_V q1807 q1809 qs74 q109 q1810) kd_X4_oddsOfLook rfl rfl dX4_ways_81) hH hA (fun z81 σ81 H locs q_81 hH => ?_)
            obtain ⟨e_81, q_81⟩ := q_81
            have e_81 : z81 = (oL (σ 2) x_ k) := e_81
            subst e_81
            have hH := MH_to hH (τ := mx σ σ81) (mx_of q_81)
            refine lv_istore hx hb dX4_ways_84 hl (Nat.le_of_ble_eq_true rfl) (lv' := [(6, .int (iI (oL (σ 2) x_ k))), (0, .ref (G.2.2 0)), (1, .int (iI x_)), (2, .int (iI h_)), (3, .int (iI w_)), (4, .int (iI (waN (σ 2) x_ h_ w_ k.toNat))), (5, .int (iI k))]) rfl (fun ls hl => ?_)
            refine lv_iload_n hx hb dX4_ways_86 rfl (lv_at hl 4 rfl) ?_
            refine n_if_ne (tgt := 98) hx hb (r32 (by omega)) dX4_ways_87 (by decide) (fun c_87 => ?_) (fun c_87 => ?_)
            · -- 87T
              refine lv_iload hx hb dX4_ways_98 (lv_at hl 0 rfl) ?_
              refine n_bipush (z := 100) hx hb dX4_ways_100 (by decide) ?_
              refine n_icmp_ge (tgt := 125) hx hb (r32 (by omega)) (r32 (by omega)) dX4_ways_102 (by decide) (fun c_102 => ?_) (fun c_102 => ?_)
              · -- 102T
                refine n_iinc hx hb dX4_ways_125 hl (k := 6) rfl (Nat.le_of_ble_eq_true rfl) (lv' := [(5, .int (iI (k + 1))), (6, .int (iI (oL (σ 2) x_ k))), (0, .ref (G.2.2 0)), (1, .int (iI x_)), (2, .int (iI h_)), (3, .int (iI w_)), (4, .int (iI (waN (σ 2) x_ h_ w_ k.toNat)))]) rfl (fun ls hl => ?_)
                refine lv_goto (tgt := 34) hx hb dX4_ways_128 (by decide) ?_
                have hl : lv_has ls 7 [(0, .ref (G.2.2 0)), (1, .int (iI x_)), (2, .int (iI h_)), (3, .int (iI w_)), (4, .int (iI (waN (σ 2) x_ h_ w_ k.toNat))), (5, .int (iI (k + 1)))] := lv_sub hl [2, 3, 4, 5, 6, 0] rfl
                have hl : lv_has ls 7 [(0, .ref (G.2.2 0)), (1, .int (iI x_)), (2, .int (iI h_)), (3, .int (iI w_)), (4, .int (iI (waN (σ 2) x_ h_ w_ (k + 1).toNat))), (5, .int (iI (k + 1)))] := by rw [waN_e hk0, if_neg (by omega)]; exact hl
                refine ih_34 σ81 (k + 1) ?_ ?_ ?_ ?_ _ _ _ hH hl
                · exact hg
                · omega
                · omega
                · omega
              · -- 102F
                refine lv_iload hx hb dX4_ways_105 (lv_at hl 5 rfl) ?_
                refine n_iconst hx hb dX4_ways_107 ?_
                refine lv_aload_n hx hb dX4_ways_108 rfl (lv_at hl 1 rfl) ?_
                refine m_get 2 (by decide) hx hb hts hown hK hj hH q1475 (fun _ h9 => h9) rfl dX4_ways_109 ?_
                refine lv_aload_n hx hb dX4_ways_112 rfl (lv_at hl 1 rfl) ?_
                refine lv_iload hx hb dX4_ways_113 (lv_at hl 6 rfl) ?_
                refine m_calliF (m_runV (As := [.int (iI k)]) (rest := [.ref (G.2.2 2), .int (iI 1), .int (iI (waN (σ 2) x_ h_ w_ k.toNat))]) S hH hK hj hl.1 (mm_lookAt l G (mx σ σ81) k _ ) (lw_V q1682 q1684 qs54 q109 q1685) kd_X4_lookAt rfl rfl dX4_ways_115) hH hA (fun H locs hH => ?_)
                refine n_iconst hx hb dX4_ways_118 ?_
                refine n_iadd hx hb dX4_ways_119 ?_
                refine ml_2 hx hb hK hj hH (by omega) (by omega) dX4_ways_120 ?_
                refine W.eq (g2 := F0 m 121 ls (.int (iI (σ 2 ((1224 + 10 * k) + 1))) :: .int (iI 1) :: .int (iI (waN (σ 2) x_ h_ w_ k.toNat)) :: [])) rfl ?_
                refine W.eq (g2 := F0 m 121 ls (.int (iI (loA (σ 2) k 1)) :: .int (iI 1) :: .int (iI (waN (σ 2) x_ h_ w_ k.toNat)) :: [])) (by rfl) ?_
                refine n_ishl hx hb (by omega) (by omega) dX4_ways_121 ?_
                refine n_ior hx hb dX4_ways_122 ?_
                refine lv_istore hx hb dX4_ways_123 hl (Nat.le_of_ble_eq_true rfl) (lv' := [(4, .int (iI (bOr (waN (σ 2) x_ h_ w_ k.toNat) (1 * 2 ^ (loA (σ 2) k 1).toNat)))), (6, .int (iI (oL (σ 2) x_ k))), (0, .ref (G.2.2 0)), (1, .int (iI x_)), (2, .int (iI h_)), (3, .int (iI w_)), (5, .int (iI k))]) rfl (fun ls hl => ?_)
                refine n_iinc hx hb dX4_ways_125 hl (k := 6) rfl (Nat.le_of_ble_eq_true rfl) (lv' := [(5, .int (iI (k + 1))), (4, .int (iI (bOr (waN (σ 2) x_ h_ w_ k.toNat) (1 * 2 ^ (loA (σ 2) k 1).toNat)))), (6, .int (iI (oL (σ 2) x_ k))), (0, .ref (G.2.2 0)), (1, .int (iI x_)), (2, .int (iI h_)), (3, .int (iI w_))]) rfl (fun ls hl => ?_)
                refine lv_goto (tgt := 34) hx hb dX4_ways_128 (by decide) ?_
                have hl : lv_has ls 7 [(0, .ref (G.2.2 0)), (1, .int (iI x_)), (2, .int (iI h_)), (3, .int (iI w_)), (4, .int (iI (bOr (waN (σ 2) x_ h_ w_ k.toNat) (1 * 2 ^ (loA (σ 2) k 1).toNat)))), (5, .int (iI (k + 1)))] := lv_sub hl [3, 4, 5, 6, 1, 0] rfl
                have hl : lv_has ls 7 [(0, .ref (G.2.2 0)), (1, .int (iI x_)), (2, .int (iI h_)), (3, .int (iI w_)), (4, .int (iI (waN (σ 2) x_ h_ w_ (k + 1).toNat))), (5, .int (iI (k + 1)))] := by rw [waN_e hk0, if_pos (by omega)]; exact hl
                refine ih_34 σ81 (k + 1) ?_ ?_ ?_ ?_ _ _ _ hH hl
                · exact hg
                · omega
                · omega
                · omega
            · -- 87F
              refine lv_iload hx hb dX4_ways_90 (lv_at hl 0 rfl) ?_
              refine n_if_ne (tgt := 125) hx hb (r32 (by omega)) dX4_ways_92 (by decide) (fun c_92 => ?_) (fun c_92 => ?_)
              · -- 92T
                refine n_iinc hx hb dX4_ways_125 hl (k := 6) rfl (Nat.le_of_ble_eq_true rfl) (lv' := [(5, .int (iI (k + 1))), (6, .int (iI (oL (σ 2) x_ k))), (0, .ref (G.2.2 0)), (1, .int (iI x_)), (2, .int (iI h_)), (3, .int (iI w_)), (4, .int (iI (waN (σ 2) x_ h_ w_ k.toNat)))]) rfl (fun ls hl => ?_)
                refine lv_goto (tgt := 34) hx hb dX4_ways_128 (by decide) ?_
                have hl : lv_has ls 7 [(0, .ref (G.2.2 0)), (1, .int (iI x_)), (2, .int (iI h_)), (3, .int (iI w_)), (4, .int (iI (waN (σ 2) x_ h_ w_ k.toNat))), (5, .int (iI (k + 1)))] := lv_sub hl [2, 3, 4, 5, 6, 0] rfl
                have hl : lv_has ls 7 [(0, .ref (G.2.2 0)), (1, .int (iI x_)), (2, .int (iI h_)), (3, .int (iI w_)), (4, .int (iI (waN (σ 2) x_ h_ w_ (k + 1).toNat))), (5, .int (iI (k + 1)))] := by rw [waN_e hk0, if_neg (by omega)]; exact hl
                refine ih_34 σ81 (k + 1) ?_ ?_ ?_ ?_ _ _ _ hH hl
                · exact hg
                · omega
                · omega
                · omega
              · -- 92F
                refine lv_goto (tgt := 105) hx hb dX4_ways_95 (by decide) ?_
                refine lv_iload hx hb dX4_ways_105 (lv_at hl 5 rfl) ?_
                refine n_iconst hx hb dX4_ways_107 ?_
                refine lv_aload_n hx hb dX4_ways_108 rfl (lv_at hl 1 rfl) ?_
                refine m_get 2 (by decide) hx hb hts hown hK hj hH q1475 (fun _ h9 => h9) rfl dX4_ways_109 ?_
                refine lv_aload_n hx hb dX4_ways_112 rfl (lv_at hl 1 rfl) ?_
                refine lv_iload hx hb dX4_ways_113 (lv_at hl 6 rfl) ?_
                refine m_calliF (m_runV (As := [.int (iI k)]) (rest := [.ref (G.2.2 2), .int (iI 1), .int (iI (waN (σ 2) x_ h_ w_ k.toNat))]) S hH hK hj hl.1 (mm_lookAt l G (mx σ σ81) k _ ) (lw_V q1682 q1684 qs54 q109 q1685) kd_X4_lookAt rfl rfl dX4_ways_115) hH hA (fun H locs hH => ?_)
                refine n_iconst hx hb dX4_ways_118 ?_
                refine n_iadd hx hb dX4_ways_119 ?_
                refine ml_2 hx hb hK hj hH (by omega) (by omega) dX4_ways_120 ?_
                refine W.eq (g2 := F0 m 121 ls (.int (iI (σ 2 ((1224 + 10 * k) + 1))) :: .int (iI 1) :: .int (iI (waN (σ 2) x_ h_ w_ k.toNat)) :: [])) rfl ?_
                refine W.eq (g2 := F0 m 121 ls (.int (iI (loA (σ 2) k 1)) :: .int (iI 1) :: .int (iI (waN (σ 2) x_ h_ w_ k.toNat)) :: [])) (by rfl) ?_
                refine n_ishl hx hb (by omega) (by omega) dX4_ways_121 ?_
                refine n_ior hx hb dX4_ways_122 ?_
                refine lv_istore hx hb dX4_ways_123 hl (Nat.le_of_ble_eq_true rfl) (lv' := [(4, .int (iI (bOr (waN (σ 2) x_ h_ w_ k.toNat) (1 * 2 ^ (loA (σ 2) k 1).toNat)))), (6, .int (iI (oL (σ 2) x_ k))), (0, .ref (G.2.2 0)), (1, .int (iI x_)), (2, .int (iI h_)), (3, .int (iI w_)), (5, .int (iI k))]) rfl (fun ls hl => ?_)
                refine n_iinc hx hb dX4_ways_125 hl (k := 6) rfl (Nat.le_of_ble_eq_true rfl) (lv' := [(5, .int (iI (k + 1))), (4, .int (iI (bOr (waN (σ 2) x_ h_ w_ k.toNat) (1 * 2 ^ (loA (σ 2) k 1).toNat)))), (6, .int (iI (oL (σ 2) x_ k))), (0, .ref (G.2.2 0)), (1, .int (iI x_)), (2, .int (iI h_)), (3, .int (iI w_))]) rfl (fun ls hl => ?_)
                refine lv_goto (tgt := 34) hx hb dX4_ways_128 (by decide) ?_
                have hl : lv_has ls 7 [(0, .ref (G.2.2 0)), (1, .int (iI x_)), (2, .int (iI h_)), (3, .int (iI w_)), (4, .int (iI (bOr (waN (σ 2) x_ h_ w_ k.toNat) (1 * 2 ^ (loA (σ 2) k 1).toNat)))), (5, .int (iI (k + 1)))] := lv_sub hl [3, 4, 5, 6, 1, 0] rfl
                have hl : lv_has ls 7 [(0, .ref (G.2.2 0)), (1, .int (iI x_)), (2, .int (iI h_)), (3, .int (iI w_)), (4, .int (iI (waN (σ 2) x_ h_ w_ (k + 1).toNat))), (5, .int (iI (k + 1)))] := by rw [waN_e hk0, if_pos (by omega)]; exact hl
                refine ih_34 σ81 (k + 1) ?_ ?_ ?_ ?_ _ _ _ hH hl
                · exact hg
                · omega
                · omega
                · omega
          · -- 71F
            refine lv_goto (tgt := 125) hx hb dX4_ways_74 (by decide) ?_
            refine n_iinc hx hb dX4_ways_125 hl (k := 5) rfl (Nat.le_of_ble_eq_true rfl) (lv' := [(5, .int (iI (k + 1))), (0, .ref (G.2.2 0)), (1, .int (iI x_)), (2, .int (iI h_)), (3, .int (iI w_)), (4, .int (iI (waN (σ 2) x_ h_ w_ k.toNat)))]) rfl (fun ls hl => ?_)
            refine lv_goto (tgt := 34) hx hb dX4_ways_128 (by decide) ?_
            have hl : lv_has ls 7 [(0, .ref (G.2.2 0)), (1, .int (iI x_)), (2, .int (iI h_)), (3, .int (iI w_)), (4, .int (iI (waN (σ 2) x_ h_ w_ k.toNat))), (5, .int (iI (k + 1)))] := lv_sub hl [1, 2, 3, 4, 5, 0] rfl
            have hl : lv_has ls 7 [(0, .ref (G.2.2 0)), (1, .int (iI x_)), (2, .int (iI h_)), (3, .int (iI w_)), (4, .int (iI (waN (σ 2) x_ h_ w_ (k + 1).toNat))), (5, .int (iI (k + 1)))] := by rw [waN_e hk0, if_neg (by omega)]; exact hl
            refine ih_34 τ (k + 1) ?_ ?_ ?_ ?_ _ _ _ hH hl
            · exact hg
            · omega
            · omega
            · omega
  refine lv_aload_n hx hb dX4_ways_0 rfl (lv_at hl 0 rfl) ?_
  refine lv_iload_n hx hb dX4_ways_1 rfl (lv_at hl 1 rfl) ?_
  refine m_calliF (m_runV (As := [.int (iI x_)]) (rest := []) S hH hK hj hl.1 (mm_isText l G (mx σ σ) x_ _ (r32 (by omega)) (show 0 ≤ σ 2 1756 from by omega) (show σ 2 1756 ≤ 1000 from by omega)) (lw_V q1803 q1805 qs73 q109 q1806) kd_X4_isText rfl rfl dX4_ways_2) hH hA (fun H locs hH => ?_)
  refine W.eq (g2 := F0 m 5 ls (.int (iI (zb (0 ≤ x_ ∧ x_ ≤ σ 2 1756 - 1))) :: [])) rfl ?_
  refine z_if_eq (tgt := 26) hx hb dX4_ways_5 (by decide) (fun c_5 => ?_) (fun c_5 => ?_)
  · -- 5T
    refine n_iconst hx hb dX4_ways_26 ?_
    refine m_iret hx hb hr hlk hH dX4_ways_27 ?_
    refine ⟨?_, mx_sc⟩
    show _ = waysF _ _ _ _
    unfold waysF isX
    rw [if_neg (by omega)]
  · -- 5F
    refine lv_iload_n hx hb dX4_ways_8 rfl (lv_at hl 2 rfl) ?_
    refine n_iconst hx hb dX4_ways_9 ?_
    refine n_iconst hx hb dX4_ways_10 ?_
    refine m_calliF (m_runS (As := [.int (iI h_), .int (iI 0), .int (iI 3)]) (rest := []) S hH hK hj hl.1 (mm_in l G (mx σ σ) h_ 0 3 _ (r32 (by omega)) (r32 (by omega)) (r32 (by omega))) (lw_S q1569 q1570 q109 q1571) kd_X4_in rfl rfl dX4_ways_11) hH hA (fun H locs hH => ?_)
    refine z_if_eq (tgt := 26) hx hb dX4_ways_14 (by decide) (fun c_14 => ?_) (fun c_14 => ?_)
    · -- 14T
      refine n_iconst hx hb dX4_ways_26 ?_
      refine m_iret hx hb hr hlk hH dX4_ways_27 ?_
      refine ⟨?_, mx_sc⟩
      show _ = waysF _ _ _ _
      unfold waysF isX
      rw [if_neg (by omega)]
    · -- 14F
      refine lv_iload_n hx hb dX4_ways_17 rfl (lv_at hl 3 rfl) ?_
      refine n_iconst hx hb dX4_ways_18 ?_
      refine n_iconst hx hb dX4_ways_19 ?_
      refine m_calliF (m_runS (As := [.int (iI w_), .int (iI 0), .int (iI 1)]) (rest := []) S hH hK hj hl.1 (mm_in l G (mx σ σ) w_ 0 1 _ (r32 (by omega)) (r32 (by omega)) (r32 (by omega))) (lw_S q1569 q1570 q109 q1571) kd_X4_in rfl rfl dX4_ways_20) hH hA (fun H locs hH => ?_)
      refine z_if_ne (tgt := 28) hx hb dX4_ways_23 (by decide) (fun c_23 => ?_) (fun c_23 => ?_)
      · -- 23T
        refine n_iconst hx hb dX4_ways_28 ?_
        refine lv_istore hx hb dX4_ways_29 hl (Nat.le_of_ble_eq_true rfl) (lv' := [(4, .int (iI 0)), (0, .ref (G.2.2 0)), (1, .int (iI x_)), (2, .int (iI h_)), (3, .int (iI w_))]) rfl (fun ls hl => ?_)
        refine n_iconst hx hb dX4_ways_31 ?_
        refine lv_istore hx hb dX4_ways_32 hl (Nat.le_of_ble_eq_true rfl) (lv' := [(5, .int (iI 0)), (4, .int (iI 0)), (0, .ref (G.2.2 0)), (1, .int (iI x_)), (2, .int (iI h_)), (3, .int (iI w_))]) rfl (fun ls hl => ?_)
        have hl : lv_has ls 7 [(0, .ref (G.2.2 0)), (1, .int (iI x_)), (2, .int (iI h_)), (3, .int (iI w_)), (4, .int (iI 0)), (5, .int (iI 0))] := lv_sub hl [2, 3, 4, 5, 1, 0] rfl
        have hl : lv_has ls 7 [(0, .ref (G.2.2 0)), (1, .int (iI x_)), (2, .int (iI h_)), (3, .int (iI w_)), (4, .int (iI (waN (σ 2) x_ h_ w_ (0 : Int).toNat))), (5, .int (iI 0))] := by exact hl
        refine L34 50 σ 0 ?_ ?_ ?_ ?_ _ _ _ hH hl
        · exact ⟨c_5, c_14, c_23⟩
        · omega
        · omega
        · omega
      · -- 23F
        refine n_iconst hx hb dX4_ways_26 ?_
        refine m_iret hx hb hr hlk hH dX4_ways_27 ?_
        refine ⟨?_, mx_sc⟩
        show _ = waysF _ _ _ _
        unfold waysF isX
        rw [if_neg (by omega)]
theorem kd_X4_spoiltOf : yX4_spoiltOf.cls = RX4 ∧ yX4_spoiltOf.cls ≠ "java/lang/invoke/MethodHandle" ∧ yX4_spoiltOf.cls ≠ "java/lang/invoke/VarHandle" ∧ (parseMethodDescriptor yX4_spoiltOf.desc).map (fun d => d.parameters.length) = some 1 := by decide +kernel
theorem mm_spoiltOf (l : Launch) (G : MG) (σ : St) (t_ : Int) (sz : Nat) (ht0 : 0 ≤ t_) (ht1 : t_ < σ 2 1755) (hI : KI (σ 2)) : Met l yX4_spoiltOf (ws_ yX4_spoiltOf cX4_spoiltOf 3 (some .int)) (rmD 2) (mP G [.ref (G.2.2 0), .int (iI t_)] σ sz) (mQi G σ sz (fun z σ' => z = (spT (σ 2) t_) ∧ Sc σ σ')) 0 0 (mA G σ sz) := by
  refine m_start (by decide) (Nat.le_of_ble_eq_true rfl) ?_
  intro p e s m below meth c ⟨S, hr, hlk, hH, hK, hj, hsz, hnm⟩ ls hl
  subst hsz
  obtain ⟨hx, hb, hml, hown, hts⟩ := S
  have S : CallFix p m c _ _ s _ lw_all RX4 := ⟨hx, hb, hml, hown, hts⟩
  have hA : ∀ q, s.heap.size ≤ q → mA G σ s.heap.size q := fun q hq => Or.inr hq
  have hl : lv_has ls 3 [(0, .ref (G.2.2 0)), (1, .int (iI t_))] := hl
  have b0 := hI.c
  unfold kCnt at b0
  have hcl := hI.t t_ ht0 ht1
  unfold caseOK at hcl
  have hcl : (0 ≤ trA (σ 2) t_ 0 ∧ trA (σ 2) t_ 0 ≤ 5) ∧ (0 ≤ trA (σ 2) t_ 1 ∧ trA (σ 2) t_ 1 ≤ 5) ∧ (0 ≤ trA (σ 2) t_ 2 ∧ trA (σ 2) t_ 2 ≤ 7) ∧ (0 ≤ trA (σ 2) t_ 3 ∧ trA (σ 2) t_ 3 ≤ 255) ∧ (0 ≤ trA (σ 2) t_ 4 ∧ trA (σ 2) t_ 4 ≤ 255) ∧ (0 ≤ trA (σ 2) t_ 5 ∧ trA (σ 2) t_ 5 ≤ 11) ∧ (0 ≤ trA (σ 2) t_ 6 ∧ trA (σ 2) t_ 6 ≤ 255) ∧ _ := hcl
  have hbr := hI.b (trA (σ 2) t_ 0) (by omega) (by omega)
  have hH := MH_to hH (τ := mx σ σ) mx_self.symm
  refine lv_aload_n hx hb dX4_spoiltOf_0 rfl (lv_at hl 0 rfl) ?_
  refine lv_aload_n hx hb dX4_spoiltOf_1 rfl (lv_at hl 0 rfl) ?_
  refine lv_iload_n hx hb dX4_spoiltOf_2 rfl (lv_at hl 1 rfl) ?_
  refine m_calliF (m_runV (As := [.int (iI t_)]) (rest := [.ref (G.2.2 0)]) S hH hK hj hl.1 (mm_trialAt l G (mx σ σ) t_ _ ) (lw_V q1690 q1692 qs55 q109 q1693) kd_X4_trialAt rfl rfl dX4_spoiltOf_3) hH hA (fun H locs hH => ?_)
  refine m_callvF (m_runV (As := [.int (iI (1624 + 9 * t_))]) (rest := []) S hH hK hj hl.1 (mm_takesRow l G (mx σ σ) (1624 + 9 * t_) _ (by omega) (by omega)) (lw_V q1811 q1813 qs75 q109 q1814) kd_X4_takesRow rfl rfl dX4_spoiltOf_6) hH hA (fun H locs hH => ?_)
  have hH := MH_to hH (τ := mx σ (rwS σ σ (1624 + 9 * t_))) mx_row
  refine n_iconst hx hb dX4_spoiltOf_9 ?_
  refine n_iconst hx hb dX4_spoiltOf_10 ?_
  refine lv_aload_n hx hb dX4_spoiltOf_11 rfl (lv_at hl 0 rfl) ?_
  refine m_get 5 (by decide) hx hb hts hown hK hj hH q1478 (fun _ h9 => h9) rfl dX4_spoiltOf_12 ?_
  refine n_iconst hx hb dX4_spoiltOf_15 ?_
  refine ml_5 hx hb hK hj hH (by omega) (by omega) dX4_spoiltOf_16 ?_
  refine W.eq (g2 := F0 m 17 ls (.int (iI (trA (σ 2) t_ 0)) :: .int (iI 3) :: .int (iI 0) :: [])) (by rw [mx_rw5 (by decide) (by decide)]; rfl) ?_
  refine n_imul hx hb dX4_spoiltOf_17 ?_
  refine n_iadd hx hb dX4_spoiltOf_18 ?_
  refine lv_istore_n hx hb dX4_spoiltOf_19 rfl hl (Nat.le_of_ble_eq_true rfl) (lv' := [(2, .int (iI (0 + (3 * (trA (σ 2) t_ 0))))), (0, .ref (G.2.2 0)), (1, .int (iI t_))]) rfl (fun ls hl => ?_)
  refine lv_aload_n hx hb dX4_spoiltOf_20 rfl (lv_at hl 1 rfl) ?_
  refine m_get 5 (by decide) hx hb hts hown hK hj hH q1478 (fun _ h9 => h9) rfl dX4_spoiltOf_21 ?_
  refine n_iconst hx hb dX4_spoiltOf_24 ?_
  refine ml_5 hx hb hK hj hH (by omega) (by omega) dX4_spoiltOf_25 ?_
  refine W.eq (g2 := F0 m 26 ls (.int (iI (trA (σ 2) t_ 2)) :: [])) (by rw [mx_rw5 (by decide) (by decide)]; rfl) ?_
  refine lv_aload_n hx hb dX4_spoiltOf_26 rfl (lv_at hl 1 rfl) ?_
  refine m_get 2 (by decide) hx hb hts hown hK hj hH q1475 (fun _ h9 => h9) rfl dX4_spoiltOf_27 ?_
  refine lv_iload_n hx hb dX4_spoiltOf_30 rfl (lv_at hl 0 rfl) ?_
  refine n_iconst hx hb dX4_spoiltOf_31 ?_
  refine n_iadd hx hb dX4_spoiltOf_32 ?_
  refine ml_2 hx hb hK hj hH (by omega) (by omega) dX4_spoiltOf_33 ?_
  refine W.eq (g2 := F0 m 34 ls (.int (iI (σ 2 ((0 + (3 * (trA (σ 2) t_ 0))) + 1))) :: .int (iI (trA (σ 2) t_ 2)) :: [])) rfl ?_
  refine n_icmp_le (tgt := 41) hx hb (r32 (by omega)) (r32 (by omega)) dX4_spoiltOf_34 (by decide) (fun c_34 => ?_) (fun c_34 => ?_)
  · -- 34T
    refine n_iconst hx hb dX4_spoiltOf_41 ?_
    refine lv_aload_n hx hb dX4_spoiltOf_42 rfl (lv_at hl 1 rfl) ?_
    refine m_get 2 (by decide) hx hb hts hown hK hj hH q1475 (fun _ h9 => h9) rfl dX4_spoiltOf_43 ?_
    refine lv_iload_n hx hb dX4_spoiltOf_46 rfl (lv_at hl 0 rfl) ?_
    refine n_iconst hx hb dX4_spoiltOf_47 ?_
    refine n_iadd hx hb dX4_spoiltOf_48 ?_
    refine ml_2 hx hb hK hj hH (by omega) (by omega) dX4_spoiltOf_49 ?_
    refine W.eq (g2 := F0 m 50 ls (.int (iI (σ 2 ((0 + (3 * (trA (σ 2) t_ 0))) + 2))) :: .int (iI 0) :: [])) rfl ?_
    refine n_iconst hx hb dX4_spoiltOf_50 ?_
    refine n_icmp_ne (tgt := 77) hx hb (r32 (by omega)) (r32 (by omega)) dX4_spoiltOf_51 (by decide) (fun c_51 => ?_) (fun c_51 => ?_)
    · -- 51T
      refine n_iconst hx hb dX4_spoiltOf_77 ?_
      refine n_iadd hx hb dX4_spoiltOf_78 ?_
      refine m_iret hx hb hr hlk hH dX4_spoiltOf_79 ?_
      refine ⟨?_, mx_sc⟩
      show _ = spT _ _
      unfold spT airP
      (repeat' split) <;> first | rfl | (exfalso; omega)
    · -- 51F
      refine lv_aload_n hx hb dX4_spoiltOf_54 rfl (lv_at hl 1 rfl) ?_
      refine m_get 5 (by decide) hx hb hts hown hK hj hH q1478 (fun _ h9 => h9) rfl dX4_spoiltOf_55 ?_
      refine n_iconst hx hb dX4_spoiltOf_58 ?_
      refine ml_5 hx hb hK hj hH (by omega) (by omega) dX4_spoiltOf_59 ?_
      refine W.eq (g2 := F0 m 60 ls (.int (iI (trA (σ 2) t_ 1)) :: .int (iI 0) :: [])) (by rw [mx_rw5 (by decide) (by decide)]; rfl) ?_
      refine lv_aload_n hx hb dX4_spoiltOf_60 rfl (lv_at hl 1 rfl) ?_
      refine m_get 5 (by decide) hx hb hts hown hK hj hH q1478 (fun _ h9 => h9) rfl dX4_spoiltOf_61 ?_
      refine n_bipush (z := 6) hx hb dX4_spoiltOf_64 (by decide) ?_
      refine ml_5 hx hb hK hj hH (by omega) (by omega) dX4_spoiltOf_66 ?_
      refine W.eq (g2 := F0 m 67 ls (.int (iI (trA (σ 2) t_ 6)) :: .int (iI (trA (σ 2) t_ 1)) :: .int (iI 0) :: [])) (by rw [mx_rw5 (by decide) (by decide)]; rfl) ?_
      refine m_calliF (m_runS (As := [.int (iI (trA (σ 2) t_ 1)), .int (iI (trA (σ 2) t_ 6))]) (rest := [.int (iI 0)]) S hH hK hj hl.1 (mm_hasAir l G (mx σ (rwS σ σ (1624 + 9 * t_))) (trA (σ 2) t_ 1) (trA (σ 2) t_ 6) _ (r32 (by omega)) (r32 (by omega))) (lw_S q1653 q1654 q109 q1655) kd_X4_hasAir rfl rfl dX4_spoiltOf_67) hH hA (fun H locs hH => ?_)
      refine z_if_ne (tgt := 77) hx hb dX4_spoiltOf_70 (by decide) (fun c_70 => ?_) (fun c_70 => ?_)
      · -- 70T
        refine n_iconst hx hb dX4_spoiltOf_77 ?_
        refine n_iadd hx hb dX4_spoiltOf_78 ?_
        refine m_iret hx hb hr hlk hH dX4_spoiltOf_79 ?_
        refine ⟨?_, mx_sc⟩
        show _ = spT _ _
        unfold spT airP
        (repeat' split) <;> first | rfl | (exfalso; omega)
      · -- 70F
        refine n_iconst hx hb dX4_spoiltOf_73 ?_
        refine lv_goto (tgt := 78) hx hb dX4_spoiltOf_74 (by decide) ?_
        refine n_iadd hx hb dX4_spoiltOf_78 ?_
        refine m_iret hx hb hr hlk hH dX4_spoiltOf_79 ?_
        refine ⟨?_, mx_sc⟩
        show _ = spT _ _
        unfold spT airP
        (repeat' split) <;> first | rfl | (exfalso; omega)
  · -- 34F
    refine n_iconst hx hb dX4_spoiltOf_37 ?_
    refine lv_goto (tgt := 42) hx hb dX4_spoiltOf_38 (by decide) ?_
    refine lv_aload_n hx hb dX4_spoiltOf_42 rfl (lv_at hl 1 rfl) ?_
    refine m_get 2 (by decide) hx hb hts hown hK hj hH q1475 (fun _ h9 => h9) rfl dX4_spoiltOf_43 ?_
    refine lv_iload_n hx hb dX4_spoiltOf_46 rfl (lv_at hl 0 rfl) ?_
    refine n_iconst hx hb dX4_spoiltOf_47 ?_
    refine n_iadd hx hb dX4_spoiltOf_48 ?_
    refine ml_2 hx hb hK hj hH (by omega) (by omega) dX4_spoiltOf_49 ?_
    refine W.eq (g2 := F0 m 50 ls (.int (iI (σ 2 ((0 + (3 * (trA (σ 2) t_ 0))) + 2))) :: .int (iI 1) :: [])) rfl ?_
    refine n_iconst hx hb dX4_spoiltOf_50 ?_
    refine n_icmp_ne (tgt := 77) hx hb (r32 (by omega)) (r32 (by omega)) dX4_spoiltOf_51 (by decide) (fun c_51 => ?_) (fun c_51 => ?_)
    · -- 51T
      refine n_iconst hx hb dX4_spoiltOf_77 ?_
      refine n_iadd hx hb dX4_spoiltOf_78 ?_
      refine m_iret hx hb hr hlk hH dX4_spoiltOf_79 ?_
      refine ⟨?_, mx_sc⟩
      show _ = spT _ _
      unfold spT airP
      (repeat' split) <;> first | rfl | (exfalso; omega)
    · -- 51F
      refine lv_aload_n hx hb dX4_spoiltOf_54 rfl (lv_at hl 1 rfl) ?_
      refine m_get 5 (by decide) hx hb hts hown hK hj hH q1478 (fun _ h9 => h9) rfl dX4_spoiltOf_55 ?_
      refine n_iconst hx hb dX4_spoiltOf_58 ?_
      refine ml_5 hx hb hK hj hH (by omega) (by omega) dX4_spoiltOf_59 ?_
      refine W.eq (g2 := F0 m 60 ls (.int (iI (trA (σ 2) t_ 1)) :: .int (iI 1) :: [])) (by rw [mx_rw5 (by decide) (by decide)]; rfl) ?_
      refine lv_aload_n hx hb dX4_spoiltOf_60 rfl (lv_at hl 1 rfl) ?_
      refine m_get 5 (by decide) hx hb hts hown hK hj hH q1478 (fun _ h9 => h9) rfl dX4_spoiltOf_61 ?_
      refine n_bipush (z := 6) hx hb dX4_spoiltOf_64 (by decide) ?_
      refine ml_5 hx hb hK hj hH (by omega) (by omega) dX4_spoiltOf_66 ?_
      refine W.eq (g2 := F0 m 67 ls (.int (iI (trA (σ 2) t_ 6)) :: .int (iI (trA (σ 2) t_ 1)) :: .int (iI 1) :: [])) (by rw [mx_rw5 (by decide) (by decide)]; rfl) ?_
      refine m_calliF (m_runS (As := [.int (iI (trA (σ 2) t_ 1)), .int (iI (trA (σ 2) t_ 6))]) (rest := [.int (iI 1)]) S hH hK hj hl.1 (mm_hasAir l G (mx σ (rwS σ σ (1624 + 9 * t_))) (trA (σ 2) t_ 1) (trA (σ 2) t_ 6) _ (r32 (by omega)) (r32 (by omega))) (lw_S q1653 q1654 q109 q1655) kd_X4_hasAir rfl rfl dX4_spoiltOf_67) hH hA (fun H locs hH => ?_)
      refine z_if_ne (tgt := 77) hx hb dX4_spoiltOf_70 (by decide) (fun c_70 => ?_) (fun c_70 => ?_)
      · -- 70T
        refine n_iconst hx hb dX4_spoiltOf_77 ?_
        refine n_iadd hx hb dX4_spoiltOf_78 ?_
        refine m_iret hx hb hr hlk hH dX4_spoiltOf_79 ?_
        refine ⟨?_, mx_sc⟩
        show _ = spT _ _
        unfold spT airP
        (repeat' split) <;> first | rfl | (exfalso; omega)
      · -- 70F
        refine n_iconst hx hb dX4_spoiltOf_73 ?_
        refine lv_goto (tgt := 78) hx hb dX4_spoiltOf_74 (by decide) ?_
        refine n_iadd hx hb dX4_spoiltOf_78 ?_
        refine m_iret hx hb hr hlk hH dX4_spoiltOf_79 ?_
        refine ⟨?_, mx_sc⟩
        show _ = spT _ _
        unfold spT airP
        (repeat' split) <;> first | rfl | (exfalso; omega)
theorem kd_X4_spoilt : yX4_spoilt.cls = RX4 ∧ yX4_spoilt.cls ≠ "java/lang/invoke/MethodHandle" ∧ yX4_spoilt.cls ≠ "java/lang/invoke/VarHandle" ∧ (parseMethodDescriptor yX4_spoilt.desc).map (fun d => d.parameters.length) = some 1 := by decide +kernel
theorem mm_spoilt (l : Launch) (G : MG) (σ : St) (t_ : Int) (sz : Nat) (h_t_ : R32 t_) (hI : KI (σ 2)) : Met l yX4_spoilt (ws_ yX4_spoilt cX4_spoilt 2 (some .int)) (rmD 3) (mP G [.ref (G.2.2 0), .int (iI t_)] σ sz) (mQi G σ sz (fun z σ' => z = (spoF (σ 2) t_) ∧ Sc σ σ')) 0 0 (mA G σ sz) := by
  refine m_start (by decide) (Nat.le_of_ble_eq_true rfl) ?_
  intro p e s m below meth c ⟨S, hr, hlk, hH, hK, hj, hsz, hnm⟩ ls hl
  subst hsz
  obtain ⟨hx, hb, hml, hown, hts⟩ := S
  have S : CallFix p m c _ _ s _ lw_all RX4 := ⟨hx, hb, hml, hown, hts⟩
  have hA : ∀ q, s.heap.size ≤ q → mA G σ s.heap.size q := fun q hq => Or.inr hq
  have hl : lv_has ls 2 [(0, .ref (G.2.2 0)), (1, .int (iI t_))] := hl
  have b0 := hI.c
  unfold kCnt at b0
  have h_t_ := R32.n h_t_
  have hH := MH_to hH (τ := mx σ σ) mx_self.symm
  refine lv_aload_n hx hb dX4_spoilt_0 rfl (lv_at hl 0 rfl) ?_
  refine lv_iload_n hx hb dX4_spoilt_1 rfl (lv_at hl 1 rfl) ?_
  refine m_calliF (m_runV (As := [.int (iI t_)]) (rest := []) S hH hK hj hl.1 (mm_isTrial l G (mx σ σ) t_ _ (r32 (by omega)) (show 0 ≤ σ 2 1755 from by omega) (show σ 2 1755 ≤ 1000 from by omega)) (lw_V q1709 q1711 qs57 q109 q1712) kd_X4_isTrial rfl rfl dX4_spoilt_2) hH hA (fun H locs hH => ?_)
  refine W.eq (g2 := F0 m 5 ls (.int (iI (zb (0 ≤ t_ ∧ t_ ≤ σ 2 1755 - 1))) :: [])) rfl ?_
  refine z_if_eq (tgt := 16) hx hb dX4_spoilt_5 (by decide) (fun c_5 => ?_) (fun c_5 => ?_)
  · -- 5T
    refine n_iconst hx hb dX4_spoilt_16 ?_
    refine m_iret hx hb hr hlk hH dX4_spoilt_17 ?_
    refine ⟨?_, mx_sc⟩
    show _ = spoF _ _
    unfold spoF isT
    (repeat' split) <;> first | rfl | (exfalso; omega)
  · -- 5F
    refine lv_aload_n hx hb dX4_spoilt_8 rfl (lv_at hl 0 rfl) ?_
    refine lv_iload_n hx hb dX4_spoilt_9 rfl (lv_at hl 1 rfl) ?_
    refine m_calli (m_runV (As := [.int (iI t_)]) (rest := []) S hH hK hj hl.1 (mm_spoiltOf l G (mx σ σ) t_ _ (by omega) (show t_ < σ 2 1755 from by omega) hI) (lw_V q2007 q2009 qs100 q109 q2010) kd_X4_spoiltOf rfl rfl dX4_spoilt_10) hH hA (fun z10 σ10 H locs q_10 hH => ?_)
    obtain ⟨e_10, q_10⟩ := q_10
    have e_10 : z10 = (spT (σ 2) t_) := e_10
    subst e_10
    have hH := MH_to hH (τ := mx σ σ10) (mx_of q_10)
    refine lv_goto (tgt := 17) hx hb dX4_spoilt_13 (by decide) ?_
    refine m_iret hx hb hr hlk hH dX4_spoilt_17 ?_
    refine ⟨?_, mx_sc⟩
    show _ = spoF _ _
    unfold spoF isT
    (repeat' split) <;> first | rfl | (exfalso; omega)
theorem kd_X4_whole : yX4_whole.cls = RX4 ∧ yX4_whole.cls ≠ "java/lang/invoke/MethodHandle" ∧ yX4_whole.cls ≠ "java/lang/invoke/VarHandle" ∧ (parseMethodDescriptor yX4_whole.desc).map (fun d => d.parameters.length) = some 1 := by decide +kernel
theorem mm_whole (l : Launch) (G : MG) (σ : St) (s_ : Int) (sz : Nat) (h_s_ : R32 s_) (hI : KI (σ 2)) (hT : TT (σ 2)) : Met l yX4_whole (ws_ yX4_whole cX4_whole 3 (some .int)) (rmD 70) (mP G [.ref (G.2.2 0), .int (iI s_)] σ sz) (mQi G σ sz (fun z σ' => z = (whoF (σ 2) s_) ∧ Sc σ σ')) 0 0 (mA G σ sz) := by
  refine m_start (by decide) (Nat.le_of_ble_eq_true rfl) ?_
  intro p e s m below meth c ⟨S, hr, hlk, hH, hK, hj, hsz, hnm⟩ ls hl
  subst hsz
  obtain ⟨hx, hb, hml, hown, hts⟩ := S
  have S : CallFix p m c _ _ s _ lw_all RX4 := ⟨hx, hb, hml, hown, hts⟩
  have hA : ∀ q, s.heap.size ≤ q → mA G σ s.heap.size q := fun q hq => Or.inr hq
  have hl : lv_has ls 3 [(0, .ref (G.2.2 0)), (1, .int (iI s_))] := hl
  have b0 := hI.c
  unfold kCnt at b0
  have h_s_ := R32.n h_s_
  have hH := MH_to hH (τ := mx σ σ) mx_self.symm
  have L12 : ∀ (q : Nat) (τ : St) (t : Int), (hg : arT (σ 2) s_) → (ht0 : 0 ≤ t) → (ht1 : t ≤ σ 2 1755) → (hq : σ 2 1755 < (q : Int) + t) → (he : whN (σ 2) s_ (σ 2 1755).toNat 0 = whN (σ 2) s_ (σ 2 1755 - t).toNat t) → ∀ (H : Heap) (locs : List Loc) (ls : Array Slot), MH G (mA G σ s.heap.size) (mx σ τ) s.heap H locs → lv_has ls 3 [(0, .ref (G.2.2 0)), (1, .int (iI s_)), (2, .int (iI t))] → W p l e (rmD 70) s m ([.ref (G.2.2 0), .int (iI s_)] : List Value).toArray below meth c H locs 0 0 (MQ below (mQi G σ s.heap.size (fun z σ' => z = (whoF (σ 2) s_) ∧ Sc σ σ')) ([.ref (G.2.2 0), .int (iI s_)] : List Value).toArray s 0 0 (mA G σ s.heap.size)) (F0 m 12 ls []) := by
    intro q
    induction q with
    | zero => intro τ t hg ht0 ht1 hq he; exfalso; omega
    | succ q ih_12 =>
      intro τ t hg ht0 ht1 hq he H locs ls hH hl
      have haf := afT_01 (σ 2) s_ t
      have hsp : 0 ≤ spT (σ 2) t ∧ spT (σ 2) t ≤ 3 := by unfold spT; (repeat' split) <;> omega
      refine lv_iload_n hx hb dX4_whole_12 rfl (lv_at hl 2 rfl) ?_
      refine lv_aload_n hx hb dX4_whole_13 rfl (lv_at hl 0 rfl) ?_
      refine m_get 2 (by decide) hx hb hts hown hK hj hH q1475 (fun _ h9 => h9) rfl dX4_whole_14 ?_
      refine n_sipush (z := 1755) hx hb dX4_whole_17 (by decide) ?_
      refine ml_2 hx hb hK hj hH (by omega) (by omega) dX4_whole_20 ?_
      refine W.eq (g2 := F0 m 21 ls (.int (iI (σ 2 1755)) :: .int (iI t) :: [])) rfl ?_
      refine n_icmp_ge (tgt := 49) hx hb (r32 (by omega)) (r32 (by omega)) dX4_whole_21 (by decide) (fun c_21 => ?_) (fun c_21 => ?_)
      · -- 21T
        refine n_iconst hx hb dX4_whole_49 ?_
        refine m_iret hx hb hr hlk hH dX4_whole_50 ?_
        refine ⟨?_, mx_sc⟩
        show _ = whoF _ _
        rw [whoF, if_pos hg, he, show (σ 2 1755 - t).toNat = 0 by omega, whN]
      · -- 21F
        refine lv_aload_n hx hb dX4_whole_24 rfl (lv_at hl 0 rfl) ?_
        refine lv_iload_n hx hb dX4_whole_25 rfl (lv_at hl 2 rfl) ?_
        refine m_calli (m_runV (As := [.int (iI t)]) (rest := []) S hH hK hj hl.1 (mm_spoiltOf l G (mx σ τ) t _ (by omega) (show t < σ 2 1755 from by omega) hI) (lw_V q2007 q2009 qs100 q109 q2010) kd_X4_spoiltOf rfl rfl dX4_whole_26) hH hA (fun z26 σ26 H locs q_26 hH => ?_)
        obtain ⟨e_26, q_26⟩ := q_26
        have e_26 : z26 = (spT (σ 2) t) := e_26
        subst e_26
        have hH := MH_to hH (τ := mx σ σ26) (mx_of q_26)
        refine n_if_ne (tgt := 43) hx hb (r32 (by omega)) dX4_whole_29 (by decide) (fun c_29 => ?_) (fun c_29 => ?_)
        · -- 29T
          refine n_iinc hx hb dX4_whole_43 hl (k := 2) rfl (Nat.le_of_ble_eq_true rfl) (lv' := [(2, .int (iI (t + 1))), (0, .ref (G.2.2 0)), (1, .int (iI s_))]) rfl (fun ls hl => ?_)
          refine lv_goto (tgt := 12) hx hb dX4_whole_46 (by decide) ?_
          have hl : lv_has ls 3 [(0, .ref (G.2.2 0)), (1, .int (iI s_)), (2, .int (iI (t + 1)))] := lv_sub hl [1, 2, 0] rfl
          refine ih_12 σ26 (t + 1) ?_ ?_ ?_ ?_ ?_ _ _ _ hH hl
          · exact hg
          · omega
          · omega
          · omega
          · rw [he, whN_e (by omega), if_neg (by omega)]
        · -- 29F
          refine lv_aload_n hx hb dX4_whole_32 rfl (lv_at hl 0 rfl) ?_
          refine lv_iload_n hx hb dX4_whole_33 rfl (lv_at hl 1 rfl) ?_
          refine lv_iload_n hx hb dX4_whole_34 rfl (lv_at hl 2 rfl) ?_
          refine m_calli (m_runV (As := [.int (iI s_), .int (iI t)]) (rest := []) S hH hK hj hl.1 (mm_areFair l G (mx σ σ26) s_ t _ h_s_ hI hT ht0 (show t < σ 2 1755 from by omega)) (lw_V q1937 q1939 qs95 q109 q1940) kd_X4_areFair rfl rfl dX4_whole_35) hH hA (fun z35 σ35 H locs q_35 hH => ?_)
          obtain ⟨e_35, q_35⟩ := q_35
          have e_35 : z35 = (afT (σ 2) s_ t) := e_35
          subst e_35
          have hH := MH_to hH (τ := mx σ σ35) (mx_of q_35)
          refine n_if_eq (tgt := 43) hx hb (r32 (by omega)) dX4_whole_38 (by decide) (fun c_38 => ?_) (fun c_38 => ?_)
          · -- 38T
            refine n_iinc hx hb dX4_whole_43 hl (k := 2) rfl (Nat.le_of_ble_eq_true rfl) (lv' := [(2, .int (iI (t + 1))), (0, .ref (G.2.2 0)), (1, .int (iI s_))]) rfl (fun ls hl => ?_)
            refine lv_goto (tgt := 12) hx hb dX4_whole_46 (by decide) ?_
            have hl : lv_has ls 3 [(0, .ref (G.2.2 0)), (1, .int (iI s_)), (2, .int (iI (t + 1)))] := lv_sub hl [1, 2, 0] rfl
            refine ih_12 σ35 (t + 1) ?_ ?_ ?_ ?_ ?_ _ _ _ hH hl
            · exact hg
            · omega
            · omega
            · omega
            · rw [he, whN_e (by omega), if_neg (by omega)]
          · -- 38F
            refine lv_iload_n hx hb dX4_whole_41 rfl (lv_at hl 2 rfl) ?_
            refine m_iret hx hb hr hlk hH dX4_whole_42 ?_
            refine ⟨?_, mx_sc⟩
            show _ = whoF _ _
            rw [whoF, if_pos hg, he, whN_e (by omega), if_pos (by omega)]
  refine lv_aload_n hx hb dX4_whole_0 rfl (lv_at hl 0 rfl) ?_
  refine lv_iload_n hx hb dX4_whole_1 rfl (lv_at hl 1 rfl) ?_
  refine m_calliF (m_runV (As := [.int (iI s_)]) (rest := []) S hH hK hj hl.1 (mm_areTexts l G (mx σ σ) s_ _ (r32 (by omega)) (show 0 ≤ σ 2 1756 from by omega) (show σ 2 1756 ≤ 12 from by omega)) (lw_V q1925 q1927 qs93 q109 q1928) kd_X4_areTexts rfl rfl dX4_whole_2) hH hA (fun H locs hH => ?_)
  refine W.eq (g2 := F0 m 5 ls (.int (iI (zb (0 ≤ s_ ∧ s_ < 2 ^ (σ 2 1756).toNat))) :: [])) rfl ?_
  refine z_if_ne (tgt := 10) hx hb dX4_whole_5 (by decide) (fun c_5 => ?_) (fun c_5 => ?_)
  · -- 5T
    refine n_iconst hx hb dX4_whole_10 ?_
    refine lv_istore_n hx hb dX4_whole_11 rfl hl (Nat.le_of_ble_eq_true rfl) (lv' := [(2, .int (iI 0)), (0, .ref (G.2.2 0)), (1, .int (iI s_))]) rfl (fun ls hl => ?_)
    have hl : lv_has ls 3 [(0, .ref (G.2.2 0)), (1, .int (iI s_)), (2, .int (iI 0))] := lv_sub hl [1, 2, 0] rfl
    refine L12 20 σ 0 ?_ ?_ ?_ ?_ ?_ _ _ _ hH hl
    · exact c_5
    · omega
    · omega
    · omega
    · rw [Int.sub_zero]
  · -- 5F
    refine n_iconst hx hb dX4_whole_8 ?_
    refine m_iret hx hb hr hlk hH dX4_whole_9 ?_
    refine ⟨?_, mx_sc⟩
    show _ = whoF _ _
    unfold whoF arT
    rw [if_neg (by omega)]
