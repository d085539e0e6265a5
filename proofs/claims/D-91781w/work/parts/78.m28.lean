theorem kd_X4_lays : yX4_lays.cls = RX4 ∧ yX4_lays.cls ≠ "java/lang/invoke/MethodHandle" ∧ yX4_lays.cls ≠ "java/lang/invoke/VarHandle" ∧ (parseMethodDescriptor yX4_lays.desc).map (fun d => d.parameters.length) = some 1 := by decide +kernel
theorem mm_lays (l : Launch) (G : MG) (σ : St) (s_ : Int) (sz : Nat) (hs : R32 s_) (hI : KI (σ 2)) (hT : TT (σ 2)) : Met l yX4_lays (ws_ yX4_lays cX4_lays 7 none) (rmD 69) (mP G [.ref (G.2.2 0), .int (iI s_)] σ sz) (mQv G σ sz (fun σ' => ∃ A, Sc (sa σ 27 A) σ' ∧ ∀ t : Int, 0 ≤ t → t < σ 2 1755 → A t = laT (σ 2) s_ t)) 0 0 (mA G σ sz) := by
  refine m_start (by decide) (Nat.le_of_ble_eq_true rfl) ?_
  intro p e s m below meth c ⟨S, hr, hlk, hH, hK, hj, hsz, hnm⟩ ls hl
  subst hsz
  obtain ⟨hx, hb, hml, hown, hts⟩ := S
  have S : CallFix p m c _ _ s _ lw_all RX4 := ⟨hx, hb, hml, hown, hts⟩
  have hA : ∀ q, s.heap.size ≤ q → mA G σ s.heap.size q := fun q hq => Or.inr hq
  have hl : lv_has ls 7 [(0, .ref (G.2.2 0)), (1, .int (iI s_))] := hl
  have b0 := hI.c
  unfold kCnt at b0
  have hs := R32.n hs
  have L2 : ∀ (q : Nat) (τ : St) (A : Int → Int) (t : Int), (hAt : ∀ j : Int, 0 ≤ j → j < t → A j = laT (σ 2) s_ j) → (ht0 : 0 ≤ t) → (ht1 : t ≤ σ 2 1755) → (hq : σ 2 1755 < (q : Int) + t) → ∀ (H : Heap) (locs : List Loc) (ls : Array Slot), MH G (mA G σ s.heap.size) (mx (sa σ 27 A) τ) s.heap H locs → lv_has ls 7 [(0, .ref (G.2.2 0)), (1, .int (iI s_)), (2, .int (iI t))] → W p l e (rmD 69) s m ([.ref (G.2.2 0), .int (iI s_)] : List Value).toArray below meth c H locs 0 0 (MQ below (mQv G σ s.heap.size (fun σ' => ∃ A, Sc (sa σ 27 A) σ' ∧ ∀ t : Int, 0 ≤ t → t < σ 2 1755 → A t = laT (σ 2) s_ t)) ([.ref (G.2.2 0), .int (iI s_)] : List Value).toArray s 0 0 (mA G σ s.heap.size)) (F0 m 2 ls []) := by
    intro q
    induction q with
    | zero => intro τ A t hAt ht0 ht1 hq; exfalso; omega
    | succ q ih_2 =>
      intro τ A t hAt ht0 ht1 hq H locs ls hH hl
      have L22 : ∀ (q1 : Nat) (τ1 : St) (a_ : Int), (ht2 : t < σ 2 1755) → (ha0 : 0 ≤ a_) → (ha1 : a_ ≤ σ 2 1756) → (hq1 : σ 2 1756 < (q1 : Int) + a_) → ∀ (H : Heap) (locs : List Loc) (ls : Array Slot), MH G (mA G σ s.heap.size) (mx (sa σ 27 A) τ1) s.heap H locs → lv_has ls 7 [(0, .ref (G.2.2 0)), (1, .int (iI s_)), (2, .int (iI t)), (3, .int (iI ((laN (σ 2) s_ t a_.toNat).1))), (4, .int (iI ((laN (σ 2) s_ t a_.toNat).2))), (5, .int (iI a_))] → W p l e (rmD 69) s m ([.ref (G.2.2 0), .int (iI s_)] : List Value).toArray below meth c H locs 0 0 (MQ below (mQv G σ s.heap.size (fun σ' => ∃ A, Sc (sa σ 27 A) σ' ∧ ∀ t : Int, 0 ≤ t → t < σ 2 1755 → A t = laT (σ 2) s_ t)) ([.ref (G.2.2 0), .int (iI s_)] : List Value).toArray s 0 0 (mA G σ s.heap.size)) (F0 m 22 ls []) := by
        intro q1
        induction q1 with
        | zero => intro τ1 a_ ht2 ha0 ha1 hq1; exfalso; omega
        | succ q1 ih_22 =>
          intro τ1 a_ ht2 ha0 ha1 hq1 H locs ls hH hl
          have hla := laN_r (κ := σ 2) (s := s_) (t := t) a_.toNat
          have hla1 := R32.n hla.1
          have hot := oT_r (σ 2) a_ t
          refine lv_iload hx hb dX4_lays_22 (lv_at hl 5 rfl) ?_
          refine lv_aload_n hx hb dX4_lays_24 rfl (lv_at hl 0 rfl) ?_
          refine m_get 2 (by decide) hx hb hts hown hK hj hH q1475 (fun _ h9 => h9) rfl dX4_lays_25 ?_
          refine n_sipush (z := 1756) hx hb dX4_lays_28 (by decide) ?_
          refine ml_2 hx hb hK hj hH (by omega) (by omega) dX4_lays_31 ?_
          refine W.eq (g2 := F0 m 32 ls (.int (iI (σ 2 1756)) :: .int (iI a_) :: [])) rfl ?_
          refine n_icmp_ge (tgt := 100) hx hb (r32 (by omega)) (r32 (by omega)) dX4_lays_32 (by decide) (fun c_32 => ?_) (fun c_32 => ?_)
          · -- 32T
            refine lv_aload_n hx hb dX4_lays_100 rfl (lv_at hl 0 rfl) ?_
            refine m_get 27 (by decide) hx hb hts hown hK hj hH q1500 (fun _ h9 => h9) rfl dX4_lays_101 ?_
            refine lv_iload_n hx hb dX4_lays_104 rfl (lv_at hl 2 rfl) ?_
            refine lv_iload hx hb dX4_lays_105 (lv_at hl 4 rfl) ?_
            refine n_if_eq (tgt := 114) hx hb (r32 (by omega)) dX4_lays_107 (by decide) (fun c_107 => ?_) (fun c_107 => ?_)
            · -- 107T
              refine n_iconst hx hb dX4_lays_114 ?_
              refine ms_27 hx hb hK hj hH (by omega) (by omega) dX4_lays_115 (fun H locs hH => ?_)
              have hH := MH_to hH (τ := mx (sa σ 27 (up A t (-1))) τ1) (mx_stb (by decide))
              refine n_iinc hx hb dX4_lays_116 hl (k := 2) rfl (Nat.le_of_ble_eq_true rfl) (lv' := [(2, .int (iI (t + 1))), (0, .ref (G.2.2 0)), (1, .int (iI s_)), (3, .int (iI ((laN (σ 2) s_ t a_.toNat).1))), (4, .int (iI ((laN (σ 2) s_ t a_.toNat).2))), (5, .int (iI a_))]) rfl (fun ls hl => ?_)
              refine lv_goto (tgt := 2) hx hb dX4_lays_119 (by decide) ?_
              have hl : lv_has ls 7 [(0, .ref (G.2.2 0)), (1, .int (iI s_)), (2, .int (iI (t + 1)))] := lv_sub hl [1, 2, 0] rfl
              refine ih_2 τ1 (up A t (-1)) (t + 1) ?_ ?_ ?_ ?_ _ _ _ hH hl
              · intro j a b
                by_cases z : j = t
                · subst z; rw [up_s]; unfold laT; rw [show (σ 2 1756).toNat = a_.toNat by omega]; first | rw [if_pos (by omega)] | rw [if_neg (by omega)]
                · rw [up_n z]; exact hAt j a (by omega)
              · omega
              · omega
              · omega
            · -- 107F
              refine lv_iload_n hx hb dX4_lays_110 rfl (lv_at hl 3 rfl) ?_
              refine lv_goto (tgt := 115) hx hb dX4_lays_111 (by decide) ?_
              refine ms_27 hx hb hK hj hH (by omega) (by omega) dX4_lays_115 (fun H locs hH => ?_)
              have hH := MH_to hH (τ := mx (sa σ 27 (up A t ((laN (σ 2) s_ t a_.toNat).1))) τ1) (mx_stb (by decide))
              refine n_iinc hx hb dX4_lays_116 hl (k := 2) rfl (Nat.le_of_ble_eq_true rfl) (lv' := [(2, .int (iI (t + 1))), (0, .ref (G.2.2 0)), (1, .int (iI s_)), (3, .int (iI ((laN (σ 2) s_ t a_.toNat).1))), (4, .int (iI ((laN (σ 2) s_ t a_.toNat).2))), (5, .int (iI a_))]) rfl (fun ls hl => ?_)
              refine lv_goto (tgt := 2) hx hb dX4_lays_119 (by decide) ?_
              have hl : lv_has ls 7 [(0, .ref (G.2.2 0)), (1, .int (iI s_)), (2, .int (iI (t + 1)))] := lv_sub hl [1, 2, 0] rfl
              refine ih_2 τ1 (up A t ((laN (σ 2) s_ t a_.toNat).1)) (t + 1) ?_ ?_ ?_ ?_ _ _ _ hH hl
              · intro j a b
                by_cases z : j = t
                · subst z; rw [up_s]; unfold laT; rw [show (σ 2 1756).toNat = a_.toNat by omega]; first | rw [if_pos (by omega)] | rw [if_neg (by omega)]
                · rw [up_n z]; exact hAt j a (by omega)
              · omega
              · omega
              · omega
          · -- 32F
            refine lv_iload_n hx hb dX4_lays_35 rfl (lv_at hl 1 rfl) ?_
            refine lv_iload hx hb dX4_lays_36 (lv_at hl 5 rfl) ?_
            refine n_ishr hx hb (r32 (by omega)) (by omega) (by omega) dX4_lays_38 ?_
            refine n_iconst hx hb dX4_lays_39 ?_
            refine n_and1 hx hb dX4_lays_40 ?_
            refine n_if_ne (tgt := 47) hx hb (r32 (by omega)) dX4_lays_41 (by decide) (fun c_41 => ?_) (fun c_41 => ?_)
            · -- 41T
              refine lv_aload_n hx hb dX4_lays_47 rfl (lv_at hl 0 rfl) ?_
              refine lv_iload hx hb dX4_lays_48 (lv_at hl 5 rfl) ?_
              refine lv_iload_n hx hb dX4_lays_50 rfl (lv_at hl 2 rfl) ?_
              refine m_calli (m_runV (As := [.int (iI a_), .int (iI t)]) (rest := []) S hH hK hj hl.1 (mm_oddsOfTrial l G (mx (sa σ 27 A) τ1) a_ t _ ha0 (show a_ < σ 2 1756 from by omega) hI hT ht0 ht2) (lw_V q1876 q1878 qs90 q109 q1879) kd_X4_oddsOfTrial rfl rfl dX4_lays_51) hH hA (fun z51 σ51 H locs q_51 hH => ?_)
              obtain ⟨e_51, q_51⟩ := q_51
              have e_51 : z51 = (oT (σ 2) a_ t) := e_51
              subst e_51
              have hH := MH_to hH (τ := mx (sa σ 27 A) σ51) (mx_of q_51)
              refine lv_istore hx hb dX4_lays_54 hl (Nat.le_of_ble_eq_true rfl) (lv' := [(6, .int (iI (oT (σ 2) a_ t))), (0, .ref (G.2.2 0)), (1, .int (iI s_)), (2, .int (iI t)), (3, .int (iI ((laN (σ 2) s_ t a_.toNat).1))), (4, .int (iI ((laN (σ 2) s_ t a_.toNat).2))), (5, .int (iI a_))]) rfl (fun ls hl => ?_)
              refine lv_iload hx hb dX4_lays_56 (lv_at hl 5 rfl) ?_
              refine n_if_eq (tgt := 77) hx hb (r32 (by omega)) dX4_lays_58 (by decide) (fun c_58 => ?_) (fun c_58 => ?_)
              · -- 58T
                refine n_iconst hx hb dX4_lays_77 ?_
                refine lv_istore hx hb dX4_lays_78 hl (Nat.le_of_ble_eq_true rfl) (lv' := [(4, .int (iI 0)), (6, .int (iI (oT (σ 2) a_ t))), (0, .ref (G.2.2 0)), (1, .int (iI s_)), (2, .int (iI t)), (3, .int (iI ((laN (σ 2) s_ t a_.toNat).1))), (5, .int (iI a_))]) rfl (fun ls hl => ?_)
                refine lv_iload hx hb dX4_lays_80 (lv_at hl 1 rfl) ?_
                refine n_bipush (z := 100) hx hb dX4_lays_82 (by decide) ?_
                refine n_icmp_ne (tgt := 94) hx hb (r32 (by omega)) (r32 (by omega)) dX4_lays_84 (by decide) (fun c_84 => ?_) (fun c_84 => ?_)
                · -- 84T
                  refine n_iinc hx hb dX4_lays_94 hl (k := 6) rfl (Nat.le_of_ble_eq_true rfl) (lv' := [(5, .int (iI (a_ + 1))), (4, .int (iI 0)), (6, .int (iI (oT (σ 2) a_ t))), (0, .ref (G.2.2 0)), (1, .int (iI s_)), (2, .int (iI t)), (3, .int (iI ((laN (σ 2) s_ t a_.toNat).1)))]) rfl (fun ls hl => ?_)
                  refine lv_goto (tgt := 22) hx hb dX4_lays_97 (by decide) ?_
                  have hl : lv_has ls 7 [(0, .ref (G.2.2 0)), (1, .int (iI s_)), (2, .int (iI t)), (3, .int (iI ((laN (σ 2) s_ t a_.toNat).1))), (4, .int (iI 0)), (5, .int (iI (a_ + 1)))] := lv_sub hl [3, 4, 5, 6, 1, 0] rfl
                  have hl : lv_has ls 7 [(0, .ref (G.2.2 0)), (1, .int (iI s_)), (2, .int (iI t)), (3, .int (iI ((laN (σ 2) s_ t (a_ + 1).toNat).1))), (4, .int (iI ((laN (σ 2) s_ t (a_ + 1).toNat).2))), (5, .int (iI (a_ + 1)))] := by rw [laN_e ha0, if_neg c_41]; show lv_has ls _ [_, _, _, (3, .int (iI (if _ then _ else _))), (4, .int (iI (if _ then _ else _))), _]; (repeat' split) <;> first | exact hl | (exfalso; omega)
                  refine ih_22 σ51 (a_ + 1) ?_ ?_ ?_ ?_ _ _ _ hH hl
                  · omega
                  · omega
                  · omega
                  · omega
                · -- 84F
                  refine lv_iload_n hx hb dX4_lays_87 rfl (lv_at hl 5 rfl) ?_
                  refine n_iconst hx hb dX4_lays_88 ?_
                  refine lv_iload hx hb dX4_lays_89 (lv_at hl 6 rfl) ?_
                  refine n_ishl hx hb (by omega) (by omega) dX4_lays_91 ?_
                  refine n_ior hx hb dX4_lays_92 ?_
                  refine lv_istore_n hx hb dX4_lays_93 rfl hl (Nat.le_of_ble_eq_true rfl) (lv' := [(3, .int (iI (bOr ((laN (σ 2) s_ t a_.toNat).1) (1 * 2 ^ a_.toNat)))), (4, .int (iI 0)), (6, .int (iI (oT (σ 2) a_ t))), (0, .ref (G.2.2 0)), (1, .int (iI s_)), (2, .int (iI t)), (5, .int (iI a_))]) rfl (fun ls hl => ?_)
                  refine n_iinc hx hb dX4_lays_94 hl (k := 6) rfl (Nat.le_of_ble_eq_true rfl) (lv' := [(5, .int (iI (a_ + 1))), (3, .int (iI (bOr ((laN (σ 2) s_ t a_.toNat).1) (1 * 2 ^ a_.toNat)))), (4, .int (iI 0)), (6, .int (iI (oT (σ 2) a_ t))), (0, .ref (G.2.2 0)), (1, .int (iI s_)), (2, .int (iI t))]) rfl (fun ls hl => ?_)
                  refine lv_goto (tgt := 22) hx hb dX4_lays_97 (by decide) ?_
                  have hl : lv_has ls 7 [(0, .ref (G.2.2 0)), (1, .int (iI s_)), (2, .int (iI t)), (3, .int (iI (bOr ((laN (σ 2) s_ t a_.toNat).1) (1 * 2 ^ a_.toNat)))), (4, .int (iI 0)), (5, .int (iI (a_ + 1)))] := lv_sub hl [4, 5, 6, 1, 2, 0] rfl
                  have hl : lv_has ls 7 [(0, .ref (G.2.2 0)), (1, .int (iI s_)), (2, .int (iI t)), (3, .int (iI ((laN (σ 2) s_ t (a_ + 1).toNat).1))), (4, .int (iI ((laN (σ 2) s_ t (a_ + 1).toNat).2))), (5, .int (iI (a_ + 1)))] := by rw [laN_e ha0, if_neg c_41]; show lv_has ls _ [_, _, _, (3, .int (iI (if _ then _ else _))), (4, .int (iI (if _ then _ else _))), _]; (repeat' split) <;> first | exact hl | (exfalso; omega)
                  refine ih_22 σ51 (a_ + 1) ?_ ?_ ?_ ?_ _ _ _ hH hl
                  · omega
                  · omega
                  · omega
                  · omega
              · -- 58F
                refine lv_iload hx hb dX4_lays_61 (lv_at hl 0 rfl) ?_
                refine n_if_eq (tgt := 73) hx hb (r32 (by omega)) dX4_lays_63 (by decide) (fun c_63 => ?_) (fun c_63 => ?_)
                · -- 63T
                  refine n_iconst hx hb dX4_lays_73 ?_
                  refine lv_goto (tgt := 78) hx hb dX4_lays_74 (by decide) ?_
                  refine lv_istore hx hb dX4_lays_78 hl (Nat.le_of_ble_eq_true rfl) (lv' := [(4, .int (iI 1)), (6, .int (iI (oT (σ 2) a_ t))), (0, .ref (G.2.2 0)), (1, .int (iI s_)), (2, .int (iI t)), (3, .int (iI ((laN (σ 2) s_ t a_.toNat).1))), (5, .int (iI a_))]) rfl (fun ls hl => ?_)
                  refine lv_iload hx hb dX4_lays_80 (lv_at hl 1 rfl) ?_
                  refine n_bipush (z := 100) hx hb dX4_lays_82 (by decide) ?_
                  refine n_icmp_ne (tgt := 94) hx hb (r32 (by omega)) (r32 (by omega)) dX4_lays_84 (by decide) (fun c_84 => ?_) (fun c_84 => ?_)
                  · -- 84T
                    refine n_iinc hx hb dX4_lays_94 hl (k := 6) rfl (Nat.le_of_ble_eq_true rfl) (lv' := [(5, .int (iI (a_ + 1))), (4, .int (iI 1)), (6, .int (iI (oT (σ 2) a_ t))), (0, .ref (G.2.2 0)), (1, .int (iI s_)), (2, .int (iI t)), (3, .int (iI ((laN (σ 2) s_ t a_.toNat).1)))]) rfl (fun ls hl => ?_)
                    refine lv_goto (tgt := 22) hx hb dX4_lays_97 (by decide) ?_
                    have hl : lv_has ls 7 [(0, .ref (G.2.2 0)), (1, .int (iI s_)), (2, .int (iI t)), (3, .int (iI ((laN (σ 2) s_ t a_.toNat).1))), (4, .int (iI 1)), (5, .int (iI (a_ + 1)))] := lv_sub hl [3, 4, 5, 6, 1, 0] rfl
                    have hl : lv_has ls 7 [(0, .ref (G.2.2 0)), (1, .int (iI s_)), (2, .int (iI t)), (3, .int (iI ((laN (σ 2) s_ t (a_ + 1).toNat).1))), (4, .int (iI ((laN (σ 2) s_ t (a_ + 1).toNat).2))), (5, .int (iI (a_ + 1)))] := by rw [laN_e ha0, if_neg c_41]; show lv_has ls _ [_, _, _, (3, .int (iI (if _ then _ else _))), (4, .int (iI (if _ then _ else _))), _]; (repeat' split) <;> first | exact hl | (exfalso; omega)
                    refine ih_22 σ51 (a_ + 1) ?_ ?_ ?_ ?_ _ _ _ hH hl
                    · omega
                    · omega
                    · omega
                    · omega
                  · -- 84F
                    refine lv_iload_n hx hb dX4_lays_87 rfl (lv_at hl 5 rfl) ?_
                    refine n_iconst hx hb dX4_lays_88 ?_
                    refine lv_iload hx hb dX4_lays_89 (lv_at hl 6 rfl) ?_
                    refine n_ishl hx hb (by omega) (by omega) dX4_lays_91 ?_
                    refine n_ior hx hb dX4_lays_92 ?_
                    refine lv_istore_n hx hb dX4_lays_93 rfl hl (Nat.le_of_ble_eq_true rfl) (lv' := [(3, .int (iI (bOr ((laN (σ 2) s_ t a_.toNat).1) (1 * 2 ^ a_.toNat)))), (4, .int (iI 1)), (6, .int (iI (oT (σ 2) a_ t))), (0, .ref (G.2.2 0)), (1, .int (iI s_)), (2, .int (iI t)), (5, .int (iI a_))]) rfl (fun ls hl => ?_)
                    refine n_iinc hx hb dX4_lays_94 hl (k := 6) rfl (Nat.le_of_ble_eq_true rfl) (lv' := [(5, .int (iI (a_ + 1))), (3, .int (iI (bOr ((laN (σ 2) s_ t a_.toNat).1) (1 * 2 ^ a_.toNat)))), (4, .int (iI 1)), (6, .int (iI (oT (σ 2) a_ t))), (0, .ref (G.2.2 0)), (1, .int (iI s_)), (2, .int (iI t))]) rfl (fun ls hl => ?_)
                    refine lv_goto (tgt := 22) hx hb dX4_lays_97 (by decide) ?_
                    have hl : lv_has ls 7 [(0, .ref (G.2.2 0)), (1, .int (iI s_)), (2, .int (iI t)), (3, .int (iI (bOr ((laN (σ 2) s_ t a_.toNat).1) (1 * 2 ^ a_.toNat)))), (4, .int (iI 1)), (5, .int (iI (a_ + 1)))] := lv_sub hl [4, 5, 6, 1, 2, 0] rfl
                    have hl : lv_has ls 7 [(0, .ref (G.2.2 0)), (1, .int (iI s_)), (2, .int (iI t)), (3, .int (iI ((laN (σ 2) s_ t (a_ + 1).toNat).1))), (4, .int (iI ((laN (σ 2) s_ t (a_ + 1).toNat).2))), (5, .int (iI (a_ + 1)))] := by rw [laN_e ha0, if_neg c_41]; show lv_has ls _ [_, _, _, (3, .int (iI (if _ then _ else _))), (4, .int (iI (if _ then _ else _))), _]; (repeat' split) <;> first | exact hl | (exfalso; omega)
                    refine ih_22 σ51 (a_ + 1) ?_ ?_ ?_ ?_ _ _ _ hH hl
                    · omega
                    · omega
                    · omega
                    · omega
                · -- 63F
                  refine lv_iload hx hb dX4_lays_66 (lv_at hl 0 rfl) ?_
                  refine n_bipush (z := 100) hx hb dX4_lays_68 (by decide) ?_
                  refine n_icmp_ne (tgt := 77) hx hb (r32 (by omega)) (r32 (by omega)) dX4_lays_70 (by decide) (fun c_70 => ?_) (fun c_70 => ?_)
                  · -- 70T
                    refine n_iconst hx hb dX4_lays_77 ?_
                    refine lv_istore hx hb dX4_lays_78 hl (Nat.le_of_ble_eq_true rfl) (lv' := [(4, .int (iI 0)), (6, .int (iI (oT (σ 2) a_ t))), (0, .ref (G.2.2 0)), (1, .int (iI s_)), (2, .int (iI t)), (3, .int (iI ((laN (σ 2) s_ t a_.toNat).1))), (5, .int (iI a_))]) rfl (fun ls hl => ?_)
                    refine lv_iload hx hb dX4_lays_80 (lv_at hl 1 rfl) ?_
                    refine n_bipush (z := 100) hx hb dX4_lays_82 (by decide) ?_
                    refine n_icmp_ne (tgt := 94) hx hb (r32 (by omega)) (r32 (by omega)) dX4_lays_84 (by decide) (fun c_84 => ?_) (fun c_84 => ?_)
                    · -- 84T
                      refine n_iinc hx hb dX4_lays_94 hl (k := 6) rfl (Nat.le_of_ble_eq_true rfl) (lv' := [(5, .int (iI (a_ + 1))), (4, .int (iI 0)), (6, .int (iI (oT (σ 2) a_ t))), (0, .ref (G.2.2 0)), (1, .int (iI s_)), (2, .int (iI t)), (3, .int (iI ((laN (σ 2) s_ t a_.toNat).1)))]) rfl (fun ls hl => ?_)
                      refine lv_goto (tgt := 22) hx hb dX4_lays_97 (by decide) ?_
                      have hl : lv_has ls 7 [(0, .ref (G.2.2 0)), (1, .int (iI s_)), (2, .int (iI t)), (3, .int (iI ((laN (σ 2) s_ t a_.toNat).1))), (4, .int (iI 0)), (5, .int (iI (a_ + 1)))] := lv_sub hl [3, 4, 5, 6, 1, 0] rfl
                      have hl : lv_has ls 7 [(0, .ref (G.2.2 0)), (1, .int (iI s_)), (2, .int (iI t)), (3, .int (iI ((laN (σ 2) s_ t (a_ + 1).toNat).1))), (4, .int (iI ((laN (σ 2) s_ t (a_ + 1).toNat).2))), (5, .int (iI (a_ + 1)))] := by rw [laN_e ha0, if_neg c_41]; show lv_has ls _ [_, _, _, (3, .int (iI (if _ then _ else _))), (4, .int (iI (if _ then _ else _))), _]; (repeat' split) <;> first | exact hl | (exfalso; omega)
                      refine ih_22 σ51 (a_ + 1) ?_ ?_ ?_ ?_ _ _ _ hH hl
                      · omega
                      · omega
                      · omega
                      · omega
                    · exact absurd c_84 c_70
                  · -- 70F
                    refine n_iconst hx hb dX4_lays_73 ?_
                    refine lv_goto (tgt := 78) hx hb dX4_lays_74 (by decide) ?_
                    refine lv_istore hx hb dX4_lays_78 hl (Nat.le_of_ble_eq_true rfl) (lv' := [(4, .int (iI 1)), (6, .int (iI (oT (σ 2) a_ t))), (0, .ref (G.2.2 0)), (1, .int (iI s_)), (2, .int (iI t)), (3, .int (iI ((laN (σ 2) s_ t a_.toNat).1))), (5, .int (iI a_))]) rfl (fun ls hl => ?_)
                    refine lv_iload hx hb dX4_lays_80 (lv_at hl 1 rfl) ?_
                    refine n_bipush (z := 100) hx hb dX4_lays_82 (by decide) ?_
                    refine n_icmp_ne (tgt := 94) hx hb (r32 (by omega)) (r32 (by omega)) dX4_lays_84 (by decide) (fun c_84 => ?_) (fun c_84 => ?_)
                    · exact absurd c_70 c_84
                    · -- 84F
                      refine lv_iload_n hx hb dX4_lays_87 rfl (lv_at hl 5 rfl) ?_
                      refine n_iconst hx hb dX4_lays_88 ?_
                      refine lv_iload hx hb dX4_lays_89 (lv_at hl 6 rfl) ?_
                      refine n_ishl hx hb (by omega) (by omega) dX4_lays_91 ?_
                      refine n_ior hx hb dX4_lays_92 ?_
                      refine lv_istore_n hx hb dX4_lays_93 rfl hl (Nat.le_of_ble_eq_true rfl) (lv' := [(3, .int (iI (bOr ((laN (σ 2) s_ t a_.toNat).1) (1 * 2 ^ a_.toNat)))), (4, .int (iI 1)), (6, .int (iI (oT (σ 2) a_ t))), (0, .ref (G.2.2 0)), (1, .int (iI s_)), (2, .int (iI t)), (5, .int (iI a_))]) rfl (fun ls hl => ?_)
                      refine n_iinc hx hb dX4_lays_94 hl (k := 6) rfl (Nat.le_of_ble_eq_true rfl) (lv' := [(5, .int (iI (a_ + 1))), (3, .int (iI (bOr ((laN (σ 2) s_ t a_.toNat).1) (1 * 2 ^ a_.toNat)))), (4, .int (iI 1)), (6, .int (iI (oT (σ 2) a_ t))), (0, .ref (G.2.2 0)), (1, .int (iI s_)), (2, .int (iI t))]) rfl (fun ls hl => ?_)
                      refine lv_goto (tgt := 22) hx hb dX4_lays_97 (by decide) ?_
                      have hl : lv_has ls 7 [(0, .ref (G.2.2 0)), (1, .int (iI s_)), (2, .int (iI t)), (3, .int (iI (bOr ((laN (σ 2) s_ t a_.toNat).1) (1 * 2 ^ a_.toNat)))), (4, .int (iI 1)), (5, .int (iI (a_ + 1)))] := lv_sub hl [4, 5, 6, 1, 2, 0] rfl
                      have hl : lv_has ls 7 [(0, .ref (G.2.2 0)), (1, .int (iI s_)), (2, .int (iI t)), (3, .int (iI ((laN (σ 2) s_ t (a_ + 1).toNat).1))), (4, .int (iI ((laN (σ 2) s_ t (a_ + 1).toNat).2))), (5, .int (iI (a_ + 1)))] := by rw [laN_e ha0, if_neg c_41]; show lv_has ls _ [_, _, _, (3, .int (iI (if _ then _ else _))), (4, .int (iI (if _ then _ else _))), _]; (repeat' split) <;> first | exact hl | (exfalso; omega)
                      refine ih_22 σ51 (a_ + 1) ?_ ?_ ?_ ?_ _ _ _ hH hl
                      · omega
                      · omega
                      · omega
                      · omega
            · -- 41F
              refine lv_goto (tgt := 94) hx hb dX4_lays_44 (by decide) ?_
              refine n_iinc hx hb dX4_lays_94 hl (k := 5) rfl (Nat.le_of_ble_eq_true rfl) (lv' := [(5, .int (iI (a_ + 1))), (0, .ref (G.2.2 0)), (1, .int (iI s_)), (2, .int (iI t)), (3, .int (iI ((laN (σ 2) s_ t a_.toNat).1))), (4, .int (iI ((laN (σ 2) s_ t a_.toNat).2)))]) rfl (fun ls hl => ?_)
              refine lv_goto (tgt := 22) hx hb dX4_lays_97 (by decide) ?_
              have hl : lv_has ls 7 [(0, .ref (G.2.2 0)), (1, .int (iI s_)), (2, .int (iI t)), (3, .int (iI ((laN (σ 2) s_ t a_.toNat).1))), (4, .int (iI ((laN (σ 2) s_ t a_.toNat).2))), (5, .int (iI (a_ + 1)))] := lv_sub hl [1, 2, 3, 4, 5, 0] rfl
              have hl : lv_has ls 7 [(0, .ref (G.2.2 0)), (1, .int (iI s_)), (2, .int (iI t)), (3, .int (iI ((laN (σ 2) s_ t (a_ + 1).toNat).1))), (4, .int (iI ((laN (σ 2) s_ t (a_ + 1).toNat).2))), (5, .int (iI (a_ + 1)))] := by rw [laN_e ha0, if_pos c_41]; exact hl
              refine ih_22 τ1 (a_ + 1) ?_ ?_ ?_ ?_ _ _ _ hH hl
              · omega
              · omega
              · omega
              · omega
      refine lv_iload_n hx hb dX4_lays_2 rfl (lv_at hl 2 rfl) ?_
      refine lv_aload_n hx hb dX4_lays_3 rfl (lv_at hl 0 rfl) ?_
      refine m_get 2 (by decide) hx hb hts hown hK hj hH q1475 (fun _ h9 => h9) rfl dX4_lays_4 ?_
      refine n_sipush (z := 1755) hx hb dX4_lays_7 (by decide) ?_
      refine ml_2 hx hb hK hj hH (by omega) (by omega) dX4_lays_10 ?_
      refine W.eq (g2 := F0 m 11 ls (.int (iI (σ 2 1755)) :: .int (iI t) :: [])) rfl ?_
      refine n_icmp_ge (tgt := 122) hx hb (r32 (by omega)) (r32 (by omega)) dX4_lays_11 (by decide) (fun c_11 => ?_) (fun c_11 => ?_)
      · -- 11T
        refine m_vret hx hb hr hlk hH dX4_lays_122 ?_
        exact ⟨A, mx_sc, fun j a b => hAt j a (by omega)⟩
      · -- 11F
        refine n_iconst hx hb dX4_lays_14 ?_
        refine lv_istore_n hx hb dX4_lays_15 rfl hl (Nat.le_of_ble_eq_true rfl) (lv' := [(3, .int (iI 0)), (0, .ref (G.2.2 0)), (1, .int (iI s_)), (2, .int (iI t))]) rfl (fun ls hl => ?_)
        refine n_iconst hx hb dX4_lays_16 ?_
        refine lv_istore hx hb dX4_lays_17 hl (Nat.le_of_ble_eq_true rfl) (lv' := [(4, .int (iI 1)), (3, .int (iI 0)), (0, .ref (G.2.2 0)), (1, .int (iI s_)), (2, .int (iI t))]) rfl (fun ls hl => ?_)
        refine n_iconst hx hb dX4_lays_19 ?_
        refine lv_istore hx hb dX4_lays_20 hl (Nat.le_of_ble_eq_true rfl) (lv' := [(5, .int (iI 0)), (4, .int (iI 1)), (3, .int (iI 0)), (0, .ref (G.2.2 0)), (1, .int (iI s_)), (2, .int (iI t))]) rfl (fun ls hl => ?_)
        have hl : lv_has ls 7 [(0, .ref (G.2.2 0)), (1, .int (iI s_)), (2, .int (iI t)), (3, .int (iI 0)), (4, .int (iI 1)), (5, .int (iI 0))] := lv_sub hl [3, 4, 5, 2, 1, 0] rfl
        have hl : lv_has ls 7 [(0, .ref (G.2.2 0)), (1, .int (iI s_)), (2, .int (iI t)), (3, .int (iI ((laN (σ 2) s_ t (0 : Int).toNat).1))), (4, .int (iI ((laN (σ 2) s_ t (0 : Int).toNat).2))), (5, .int (iI 0))] := by exact hl
        refine L22 20 τ 0 ?_ ?_ ?_ ?_ _ _ _ hH hl
        · omega
        · omega
        · omega
        · omega
  have hH := MH_to hH (τ := mx (sa σ 27 (σ 27)) σ) (by rw [sa_self]; exact mx_self.symm)
  refine n_iconst hx hb dX4_lays_0 ?_
  refine lv_istore_n hx hb dX4_lays_1 rfl hl (Nat.le_of_ble_eq_true rfl) (lv' := [(2, .int (iI 0)), (0, .ref (G.2.2 0)), (1, .int (iI s_))]) rfl (fun ls hl => ?_)
  have hl : lv_has ls 7 [(0, .ref (G.2.2 0)), (1, .int (iI s_)), (2, .int (iI 0))] := lv_sub hl [1, 2, 0] rfl
  refine L2 20 σ (σ 27) 0 ?_ ?_ ?_ ?_ _ _ _ hH hl
  · exact fun j a b => by omega
  · omega
  · omega
  · omega
theorem kd_X4_tellingOf : yX4_tellingOf.cls = RX4 ∧ yX4_tellingOf.cls ≠ "java/lang/invoke/MethodHandle" ∧ yX4_tellingOf.cls ≠ "java/lang/invoke/VarHandle" ∧ (parseMethodDescriptor yX4_tellingOf.desc).map (fun d => d.parameters.length) = some 1 := by decide +kernel
theorem mm_tellingOf (l : Launch) (G : MG) (σ : St) (s_ : Int) (sz : Nat) (hs0 : 0 ≤ s_) (hs1 : s_ < 4096) (hI : KI (σ 2)) (hT : TT (σ 2)) (hF : FWok (σ 26)) : Met l yX4_tellingOf (ws_ yX4_tellingOf cX4_tellingOf 8 (some .int)) (rmD 70) (mP G [.ref (G.2.2 0), .int (iI s_)] σ sz) (mQi G σ sz (fun z σ' => z = fwS (laT (σ 2) s_) s_ (σ 2 1755).toNat (fun _ => 0) (s_ + 1).toNat s_ ∧ σ' 28 0 = (bsN (laT (σ 2) s_) (fwS (laT (σ 2) s_) s_ (σ 2 1755).toNat (fun _ => 0) s_.toNat) s_ (σ 2 1755).toNat).2 ∧ FWok (σ' 26) ∧ ∀ f : Nat, f ≤ 4 ∨ (6 ≤ f ∧ f ≤ 17) → σ' f = σ f)) 0 0 (mA G σ sz) := by
  refine m_start (by decide) (Nat.le_of_ble_eq_true rfl) ?_
  intro p e s m below meth c ⟨S, hr, hlk, hH, hK, hj, hsz, hnm⟩ ls hl
  subst hsz
  obtain ⟨hx, hb, hml, hown, hts⟩ := S
  have S : CallFix p m c _ _ s _ lw_all RX4 := ⟨hx, hb, hml, hown, hts⟩
  have hA : ∀ q, s.heap.size ≤ q → mA G σ s.heap.size q := fun q hq => Or.inr hq
  have hl : lv_has ls 8 [(0, .ref (G.2.2 0)), (1, .int (iI s_))] := hl
  have b0 := hI.c
  unfold kCnt at b0
  have L12 : ∀ (q : Nat) (τ : St) (A : Int → Int) (C : Int → Int) (F : Int → Int) (k : Int), (hAt : ∀ t : Int, 0 ≤ t → t < σ 2 1755 → A t = laT (σ 2) s_ t) → (hk0 : 1 ≤ k) → (hk1 : k ≤ s_ + 1) → (hFk : F = fwS A s_ (σ 2 1755).toNat (σ 26) k.toNat) → (hC : C 0 = if s_ < k then (bsN A (fwS A s_ (σ 2 1755).toNat (σ 26) s_.toNat) s_ (σ 2 1755).toNat).2 else -1) → (hq : s_ + 1 < (q : Int) + k) → ∀ (H : Heap) (locs : List Loc) (ls : Array Slot), MH G (mA G σ s.heap.size) (mx (sa (sa (sa σ 27 A) 28 C) 26 F) τ) s.heap H locs → lv_has ls 8 [(0, .ref (G.2.2 0)), (1, .int (iI s_)), (2, .int (iI k))] → W p l e (rmD 70) s m ([.ref (G.2.2 0), .int (iI s_)] : List Value).toArray below meth c H locs 0 0 (MQ below (mQi G σ s.heap.size (fun z σ' => z = fwS (laT (σ 2) s_) s_ (σ 2 1755).toNat (fun _ => 0) (s_ + 1).toNat s_ ∧ σ' 28 0 = (bsN (laT (σ 2) s_) (fwS (laT (σ 2) s_) s_ (σ 2 1755).toNat (fun _ => 0) s_.toNat) s_ (σ 2 1755).toNat).2 ∧ FWok (σ' 26) ∧ ∀ f : Nat, f ≤ 4 ∨ (6 ≤ f ∧ f ≤ 17) → σ' f = σ f)) ([.ref (G.2.2 0), .int (iI s_)] : List Value).toArray s 0 0 (mA G σ s.heap.size)) (F0 m 12 ls []) := by
    intro q
    induction q with
    | zero => intro τ A C F k hAt hk0 hk1 hFk hC hq; exfalso; omega
    | succ q ih_12 =>
      intro τ A C F k hAt hk0 hk1 hFk hC hq H locs ls hH hl
      have hFo : FWok F := by rw [hFk]; exact fwS_r hF _ (by omega)
      have L33 : ∀ (q1 : Nat) (τ1 : St) (C1 : Int → Int) (t : Int), (hsub : subP k s_) → (hk2 : k ≤ s_) → (ht0 : 0 ≤ t) → (ht1 : t ≤ σ 2 1755) → (hC1 : C1 0 = if k = s_ then (bsN A F k t.toNat).2 else -1) → (hq1 : σ 2 1755 < (q1 : Int) + t) → ∀ (H : Heap) (locs : List Loc) (ls : Array Slot), MH G (mA G σ s.heap.size) (mx (sa (sa (sa σ 27 A) 28 C1) 26 F) τ1) s.heap H locs → lv_has ls 8 [(0, .ref (G.2.2 0)), (1, .int (iI s_)), (2, .int (iI k)), (3, .int (iI ((bsN A F k t.toNat).1))), (4, .int (iI t))] → W p l e (rmD 70) s m ([.ref (G.2.2 0), .int (iI s_)] : List Value).toArray below meth c H locs 0 0 (MQ below (mQi G σ s.heap.size (fun z σ' => z = fwS (laT (σ 2) s_) s_ (σ 2 1755).toNat (fun _ => 0) (s_ + 1).toNat s_ ∧ σ' 28 0 = (bsN (laT (σ 2) s_) (fwS (laT (σ 2) s_) s_ (σ 2 1755).toNat (fun _ => 0) s_.toNat) s_ (σ 2 1755).toNat).2 ∧ FWok (σ' 26) ∧ ∀ f : Nat, f ≤ 4 ∨ (6 ≤ f ∧ f ≤ 17) → σ' f = σ f)) ([.ref (G.2.2 0), .int (iI s_)] : List Value).toArray s 0 0 (mA G σ s.heap.size)) (F0 m 33 ls []) := by
        intro q1
        induction q1 with
        | zero => intro τ1 C1 t hsub hk2 ht0 ht1 hC1 hq1; exfalso; omega
        | succ q1 ih_33 =>
          intro τ1 C1 t hsub hk2 ht0 ht1 hC1 hq1 H locs ls hH hl
          have hbs := bsN_r (Y := A) hFo (show 0 ≤ k by omega) (by omega) t.toNat
          have hsp := bsplit (s := k) (y := A t) (by omega) (by omega)
          refine lv_iload hx hb dX4_tellingOf_33 (lv_at hl 4 rfl) ?_
          refine lv_aload_n hx hb dX4_tellingOf_35 rfl (lv_at hl 0 rfl) ?_
          refine m_get 2 (by decide) hx hb hts hown hK hj hH q1475 (fun _ h9 => h9) rfl dX4_tellingOf_36 ?_
          refine n_sipush (z := 1755) hx hb dX4_tellingOf_39 (by decide) ?_
          refine ml_2 hx hb hK hj hH (by omega) (by omega) dX4_tellingOf_42 ?_
          refine W.eq (g2 := F0 m 43 ls (.int (iI (σ 2 1755)) :: .int (iI t) :: [])) rfl ?_
          refine n_icmp_ge (tgt := 166) hx hb (r32 (by omega)) (r32 (by omega)) dX4_tellingOf_43 (by decide) (fun c_43 => ?_) (fun c_43 => ?_)
          · -- 43T
            have HC9 : C1 0 = if s_ < k + 1 then (bsN A (fwS A s_ (σ 2 1755).toNat (σ 26) s_.toNat) s_ (σ 2 1755).toNat).2 else -1 := by
              rw [hC1]
              by_cases z : k = s_
              · rw [if_pos z, if_pos (by omega), hFk, show (σ 2 1755).toNat = t.toNat by omega, z]
              · rw [if_neg z, if_neg (by omega)]
            refine lv_aload_n hx hb dX4_tellingOf_166 rfl (lv_at hl 0 rfl) ?_
            refine m_get 26 (by decide) hx hb hts hown hK hj hH q1499 (fun _ h9 => h9) rfl dX4_tellingOf_167 ?_
            refine lv_iload_n hx hb dX4_tellingOf_170 rfl (lv_at hl 2 rfl) ?_
            refine lv_iload_n hx hb dX4_tellingOf_171 rfl (lv_at hl 3 rfl) ?_
            refine n_iconst hx hb dX4_tellingOf_172 ?_
            refine n_icmp_ne (tgt := 180) hx hb (r32 (by omega)) (r32 (by omega)) dX4_tellingOf_173 (by decide) (fun c_173 => ?_) (fun c_173 => ?_)
            · -- 173T
              refine lv_iload_n hx hb dX4_tellingOf_180 rfl (lv_at hl 3 rfl) ?_
              refine ms_26 hx hb hK hj hH (by omega) (by omega) dX4_tellingOf_181 (fun H locs hH => ?_)
              have hH := MH_to hH (τ := mx (sa (sa (sa σ 27 A) 28 C1) 26 (up F k ((bsN A F k t.toNat).1))) τ1) (mx_stb (by decide))
              refine n_iinc hx hb dX4_tellingOf_182 hl (k := 2) rfl (Nat.le_of_ble_eq_true rfl) (lv' := [(2, .int (iI (k + 1))), (0, .ref (G.2.2 0)), (1, .int (iI s_)), (3, .int (iI ((bsN A F k t.toNat).1))), (4, .int (iI t))]) rfl (fun ls hl => ?_)
              refine lv_goto (tgt := 12) hx hb dX4_tellingOf_185 (by decide) ?_
              have hl : lv_has ls 8 [(0, .ref (G.2.2 0)), (1, .int (iI s_)), (2, .int (iI (k + 1)))] := lv_sub hl [1, 2, 0] rfl
              refine ih_12 τ1 A C1 (up F k ((bsN A F k t.toNat).1)) (k + 1) ?_ ?_ ?_ ?_ ?_ ?_ _ _ _ hH hl
              · exact hAt
              · omega
              · omega
              · rw [fwS_e (by omega), if_pos hsub, ← hFk, show (σ 2 1755).toNat = t.toNat by omega, if_neg c_173]
              · exact HC9
              · omega
            · -- 173F
              refine n_iconst hx hb dX4_tellingOf_176 ?_
              refine lv_goto (tgt := 181) hx hb dX4_tellingOf_177 (by decide) ?_
              refine ms_26 hx hb hK hj hH (by omega) (by omega) dX4_tellingOf_181 (fun H locs hH => ?_)
              have hH := MH_to hH (τ := mx (sa (sa (sa σ 27 A) 28 C1) 26 (up F k 0)) τ1) (mx_stb (by decide))
              refine n_iinc hx hb dX4_tellingOf_182 hl (k := 2) rfl (Nat.le_of_ble_eq_true rfl) (lv' := [(2, .int (iI (k + 1))), (0, .ref (G.2.2 0)), (1, .int (iI s_)), (3, .int (iI ((bsN A F k t.toNat).1))), (4, .int (iI t))]) rfl (fun ls hl => ?_)
              refine lv_goto (tgt := 12) hx hb dX4_tellingOf_185 (by decide) ?_
              have hl : lv_has ls 8 [(0, .ref (G.2.2 0)), (1, .int (iI s_)), (2, .int (iI (k + 1)))] := lv_sub hl [1, 2, 0] rfl
              refine ih_12 τ1 A C1 (up F k 0) (k + 1) ?_ ?_ ?_ ?_ ?_ ?_ _ _ _ hH hl
              · exact hAt
              · omega
              · omega
              · rw [fwS_e (by omega), if_pos hsub, ← hFk, show (σ 2 1755).toNat = t.toNat by omega, if_pos c_173]
              · exact HC9
              · omega
          · -- 43F
            have hlt := hAt t ht0 (by omega)
            have hyr : R32 (A t) := by
              rw [hlt]; unfold laT
              split
              · exact r32 (by decide)
              · exact (laN_r _).1
            have hyr2 := R32.n hyr
            refine lv_iload_n hx hb dX4_tellingOf_46 rfl (lv_at hl 2 rfl) ?_
            refine lv_aload_n hx hb dX4_tellingOf_47 rfl (lv_at hl 0 rfl) ?_
            refine m_get 27 (by decide) hx hb hts hown hK hj hH q1500 (fun _ h9 => h9) rfl dX4_tellingOf_48 ?_
            refine lv_iload hx hb dX4_tellingOf_51 (lv_at hl 4 rfl) ?_
            refine ml_27 hx hb hK hj hH (by omega) (by omega) dX4_tellingOf_53 ?_
            refine W.eq (g2 := F0 m 54 ls (.int (iI (A t)) :: .int (iI k) :: [])) rfl ?_
            refine n_iand hx hb dX4_tellingOf_54 ?_
            refine lv_istore hx hb dX4_tellingOf_55 hl (Nat.le_of_ble_eq_true rfl) (lv' := [(5, .int (iI (bAnd k (A t)))), (0, .ref (G.2.2 0)), (1, .int (iI s_)), (2, .int (iI k)), (3, .int (iI ((bsN A F k t.toNat).1))), (4, .int (iI t))]) rfl (fun ls hl => ?_)
            refine lv_iload_n hx hb dX4_tellingOf_57 rfl (lv_at hl 3 rfl) ?_
            refine lv_aload_n hx hb dX4_tellingOf_58 rfl (lv_at hl 1 rfl) ?_
            refine m_get 27 (by decide) hx hb hts hown hK hj hH q1500 (fun _ h9 => h9) rfl dX4_tellingOf_59 ?_
            refine lv_iload hx hb dX4_tellingOf_62 (lv_at hl 5 rfl) ?_
            refine ml_27 hx hb hK hj hH (by omega) (by omega) dX4_tellingOf_64 ?_
            refine W.eq (g2 := F0 m 65 ls (.int (iI (A t)) :: .int (iI k) :: [])) rfl ?_
            refine n_iconst hx hb dX4_tellingOf_65 ?_
            refine n_ixor hx hb dX4_tellingOf_66 ?_
            refine n_iand hx hb dX4_tellingOf_67 ?_
            refine lv_istore hx hb dX4_tellingOf_68 hl (Nat.le_of_ble_eq_true rfl) (lv' := [(6, .int (iI (bAnd k (bXor (A t) (-1))))), (5, .int (iI (bAnd k (A t)))), (0, .ref (G.2.2 0)), (1, .int (iI s_)), (2, .int (iI k)), (3, .int (iI ((bsN A F k t.toNat).1))), (4, .int (iI t))]) rfl (fun ls hl => ?_)
            refine lv_aload_n hx hb dX4_tellingOf_70 rfl (lv_at hl 2 rfl) ?_
            refine m_get 27 (by decide) hx hb hts hown hK hj hH q1500 (fun _ h9 => h9) rfl dX4_tellingOf_71 ?_
            refine lv_iload hx hb dX4_tellingOf_74 (lv_at hl 6 rfl) ?_
            refine ml_27 hx hb hK hj hH (by omega) (by omega) dX4_tellingOf_76 ?_
            refine W.eq (g2 := F0 m 77 ls (.int (iI (A t)) :: [])) rfl ?_
            refine n_iconst hx hb dX4_tellingOf_77 ?_
            refine n_icmp_eq (tgt := 160) hx hb (r32 (by omega)) (r32 (by omega)) dX4_tellingOf_78 (by decide) (fun c_78 => ?_) (fun c_78 => ?_)
            · -- 78T
              have HN : ¬ (cutP (A t) k ∧ ((bsN A F k t.toNat).1 = -1 ∨ fvI F (A t) k < (bsN A F k t.toNat).1)) := fun h => h.1.1 c_78
              refine n_iinc hx hb dX4_tellingOf_160 hl (k := 6) rfl (Nat.le_of_ble_eq_true rfl) (lv' := [(4, .int (iI (t + 1))), (6, .int (iI (bAnd k (bXor (A t) (-1))))), (5, .int (iI (bAnd k (A t)))), (0, .ref (G.2.2 0)), (1, .int (iI s_)), (2, .int (iI k)), (3, .int (iI ((bsN A F k t.toNat).1)))]) rfl (fun ls hl => ?_)
              refine lv_goto (tgt := 33) hx hb dX4_tellingOf_163 (by decide) ?_
              have hl : lv_has ls 8 [(0, .ref (G.2.2 0)), (1, .int (iI s_)), (2, .int (iI k)), (3, .int (iI ((bsN A F k t.toNat).1))), (4, .int (iI (t + 1)))] := lv_sub hl [3, 4, 5, 6, 0] rfl
              have hl : lv_has ls 8 [(0, .ref (G.2.2 0)), (1, .int (iI s_)), (2, .int (iI k)), (3, .int (iI ((bsN A F k (t + 1).toNat).1))), (4, .int (iI (t + 1)))] := by rw [bsN_e ht0, if_neg HN]; exact hl
              refine ih_33 τ1 C1 (t + 1) ?_ ?_ ?_ ?_ ?_ ?_ _ _ _ hH hl
              · exact hsub
              · omega
              · omega
              · omega
              · rw [bsN_e ht0, if_neg HN]; exact hC1
              · omega
            · -- 78F
              refine lv_iload hx hb dX4_tellingOf_81 (lv_at hl 1 rfl) ?_
              refine n_if_eq (tgt := 160) hx hb (r32 (by omega)) dX4_tellingOf_83 (by decide) (fun c_83 => ?_) (fun c_83 => ?_)
              · -- 83T
                have HN : ¬ (cutP (A t) k ∧ ((bsN A F k t.toNat).1 = -1 ∨ fvI F (A t) k < (bsN A F k t.toNat).1)) := fun h => h.1.2.1 c_83
                refine n_iinc hx hb dX4_tellingOf_160 hl (k := 6) rfl (Nat.le_of_ble_eq_true rfl) (lv' := [(4, .int (iI (t + 1))), (6, .int (iI (bAnd k (bXor (A t) (-1))))), (5, .int (iI (bAnd k (A t)))), (0, .ref (G.2.2 0)), (1, .int (iI s_)), (2, .int (iI k)), (3, .int (iI ((bsN A F k t.toNat).1)))]) rfl (fun ls hl => ?_)
                refine lv_goto (tgt := 33) hx hb dX4_tellingOf_163 (by decide) ?_
                have hl : lv_has ls 8 [(0, .ref (G.2.2 0)), (1, .int (iI s_)), (2, .int (iI k)), (3, .int (iI ((bsN A F k t.toNat).1))), (4, .int (iI (t + 1)))] := lv_sub hl [3, 4, 5, 6, 0] rfl
                have hl : lv_has ls 8 [(0, .ref (G.2.2 0)), (1, .int (iI s_)), (2, .int (iI k)), (3, .int (iI ((bsN A F k (t + 1).toNat).1))), (4, .int (iI (t + 1)))] := by rw [bsN_e ht0, if_neg HN]; exact hl
                refine ih_33 τ1 C1 (t + 1) ?_ ?_ ?_ ?_ ?_ ?_ _ _ _ hH hl
                · exact hsub
                · omega
                · omega
                · omega
                · rw [bsN_e ht0, if_neg HN]; exact hC1
                · omega
              · -- 83F
                refine lv_iload hx hb dX4_tellingOf_86 (lv_at hl 0 rfl) ?_
                refine n_if_ne (tgt := 94) hx hb (r32 (by omega)) dX4_tellingOf_88 (by decide) (fun c_88 => ?_) (fun c_88 => ?_)
                · -- 88T
                  have hfa := hFo (bAnd k (A t)) hsp.1 (by omega)
                  have hfb := hFo (bAnd k (bXor (A t) (-1))) hsp.2.1 (by omega)
                  refine n_iconst hx hb dX4_tellingOf_94 ?_
                  refine lv_aload_n hx hb dX4_tellingOf_95 rfl (lv_at hl 2 rfl) ?_
                  refine m_get 26 (by decide) hx hb hts hown hK hj hH q1499 (fun _ h9 => h9) rfl dX4_tellingOf_96 ?_
                  refine lv_iload hx hb dX4_tellingOf_99 (lv_at hl 1 rfl) ?_
                  refine ml_26 hx hb hK hj hH (by omega) (by omega) dX4_tellingOf_101 ?_
                  refine W.eq (g2 := F0 m 102 ls (.int (iI (F (bAnd k (A t)))) :: .int (iI 1) :: [])) rfl ?_
                  refine lv_aload_n hx hb dX4_tellingOf_102 rfl (lv_at hl 2 rfl) ?_
                  refine m_get 26 (by decide) hx hb hts hown hK hj hH q1499 (fun _ h9 => h9) rfl dX4_tellingOf_103 ?_
                  refine lv_iload hx hb dX4_tellingOf_106 (lv_at hl 0 rfl) ?_
                  refine ml_26 hx hb hK hj hH (by omega) (by omega) dX4_tellingOf_108 ?_
                  refine W.eq (g2 := F0 m 109 ls (.int (iI (F (bAnd k (bXor (A t) (-1))))) :: .int (iI (F (bAnd k (A t)))) :: .int (iI 1) :: [])) rfl ?_
                  refine n_icmp_le (tgt := 122) hx hb (r32 (by omega)) (r32 (by omega)) dX4_tellingOf_109 (by decide) (fun c_109 => ?_) (fun c_109 => ?_)
                  · -- 109T
                    have hfv : fvI F (A t) k = 1 + F (bAnd k (bXor (A t) (-1))) := by
                      unfold fvI
                      rw [if_neg (by omega)]
                    refine lv_aload_n hx hb dX4_tellingOf_122 rfl (lv_at hl 2 rfl) ?_
                    refine m_get 26 (by decide) hx hb hts hown hK hj hH q1499 (fun _ h9 => h9) rfl dX4_tellingOf_123 ?_
                    refine lv_iload hx hb dX4_tellingOf_126 (lv_at hl 0 rfl) ?_
                    refine ml_26 hx hb hK hj hH (by omega) (by omega) dX4_tellingOf_128 ?_
                    refine W.eq (g2 := F0 m 129 ls (.int (iI (F (bAnd k (bXor (A t) (-1))))) :: .int (iI 1) :: [])) rfl ?_
                    refine n_iadd hx hb dX4_tellingOf_129 ?_
                    refine lv_istore hx hb dX4_tellingOf_130 hl (Nat.le_of_ble_eq_true rfl) (lv' := [(7, .int (iI (1 + (F (bAnd k (bXor (A t) (-1))))))), (6, .int (iI (bAnd k (bXor (A t) (-1))))), (5, .int (iI (bAnd k (A t)))), (0, .ref (G.2.2 0)), (1, .int (iI s_)), (2, .int (iI k)), (3, .int (iI ((bsN A F k t.toNat).1))), (4, .int (iI t))]) rfl (fun ls hl => ?_)
                    refine lv_iload_n hx hb dX4_tellingOf_132 rfl (lv_at hl 6 rfl) ?_
                    refine n_iconst hx hb dX4_tellingOf_133 ?_
                    refine n_icmp_eq (tgt := 146) hx hb (r32 (by omega)) (r32 (by omega)) dX4_tellingOf_134 (by decide) (fun c_134 => ?_) (fun c_134 => ?_)
                    · -- 134T
                      refine lv_iload hx hb dX4_tellingOf_146 (lv_at hl 0 rfl) ?_
                      refine lv_istore_n hx hb dX4_tellingOf_148 rfl hl (Nat.le_of_ble_eq_true rfl) (lv' := [(3, .int (iI (1 + (F (bAnd k (bXor (A t) (-1))))))), (7, .int (iI (1 + (F (bAnd k (bXor (A t) (-1))))))), (6, .int (iI (bAnd k (bXor (A t) (-1))))), (5, .int (iI (bAnd k (A t)))), (0, .ref (G.2.2 0)), (1, .int (iI s_)), (2, .int (iI k)), (4, .int (iI t))]) rfl (fun ls hl => ?_)
                      refine lv_iload_n hx hb dX4_tellingOf_149 rfl (lv_at hl 6 rfl) ?_
                      refine lv_iload_n hx hb dX4_tellingOf_150 rfl (lv_at hl 5 rfl) ?_
                      refine n_icmp_ne (tgt := 160) hx hb (r32 (by omega)) (r32 (by omega)) dX4_tellingOf_151 (by decide) (fun c_151 => ?_) (fun c_151 => ?_)
                      · -- 151T
                        have HP : cutP (A t) k ∧ ((bsN A F k t.toNat).1 = -1 ∨ fvI F (A t) k < (bsN A F k t.toNat).1) := ⟨⟨c_78, c_83, c_88⟩, by rw [hfv]; omega⟩
                        refine n_iinc hx hb dX4_tellingOf_160 hl (k := 7) rfl (Nat.le_of_ble_eq_true rfl) (lv' := [(4, .int (iI (t + 1))), (3, .int (iI (1 + (F (bAnd k (bXor (A t) (-1))))))), (7, .int (iI (1 + (F (bAnd k (bXor (A t) (-1))))))), (6, .int (iI (bAnd k (bXor (A t) (-1))))), (5, .int (iI (bAnd k (A t)))), (0, .ref (G.2.2 0)), (1, .int (iI s_)), (2, .int (iI k))]) rfl (fun ls hl => ?_)
                        refine lv_goto (tgt := 33) hx hb dX4_tellingOf_163 (by decide) ?_
                        have hl : lv_has ls 8 [(0, .ref (G.2.2 0)), (1, .int (iI s_)), (2, .int (iI k)), (3, .int (iI (1 + (F (bAnd k (bXor (A t) (-1))))))), (4, .int (iI (t + 1)))] := lv_sub hl [5, 6, 7, 1, 0] rfl
                        have hl : lv_has ls 8 [(0, .ref (G.2.2 0)), (1, .int (iI s_)), (2, .int (iI k)), (3, .int (iI ((bsN A F k (t + 1).toNat).1))), (4, .int (iI (t + 1)))] := by rw [bsN_e ht0, if_pos HP, hfv]; exact hl
                        refine ih_33 τ1 C1 (t + 1) ?_ ?_ ?_ ?_ ?_ ?_ _ _ _ hH hl
                        · exact hsub
                        · omega
                        · omega
                        · omega
                        · rw [if_neg c_151]; exact hC1.trans (if_neg c_151)
                        · omega
                      · -- 151F
                        have HP : cutP (A t) k ∧ ((bsN A F k t.toNat).1 = -1 ∨ fvI F (A t) k < (bsN A F k t.toNat).1) := ⟨⟨c_78, c_83, c_88⟩, by rw [hfv]; omega⟩
                        refine lv_aload_n hx hb dX4_tellingOf_154 rfl (lv_at hl 4 rfl) ?_
                        refine lv_iload hx hb dX4_tellingOf_155 (lv_at hl 7 rfl) ?_
                        refine mp_28 hx hb hts hown hK hj hH q1501 (fun _ h9 => h9) dX4_tellingOf_157 (fun H locs hH => ?_)
                        have hH := MH_to hH (τ := mx (sa (sa (sa σ 27 A) 28 (up C1 0 t)) 26 F) τ1) (mx_stb2 (by decide) (by decide))
                        refine n_iinc hx hb dX4_tellingOf_160 hl (k := 7) rfl (Nat.le_of_ble_eq_true rfl) (lv' := [(4, .int (iI (t + 1))), (3, .int (iI (1 + (F (bAnd k (bXor (A t) (-1))))))), (7, .int (iI (1 + (F (bAnd k (bXor (A t) (-1))))))), (6, .int (iI (bAnd k (bXor (A t) (-1))))), (5, .int (iI (bAnd k (A t)))), (0, .ref (G.2.2 0)), (1, .int (iI s_)), (2, .int (iI k))]) rfl (fun ls hl => ?_)
                        refine lv_goto (tgt := 33) hx hb dX4_tellingOf_163 (by decide) ?_
                        have hl : lv_has ls 8 [(0, .ref (G.2.2 0)), (1, .int (iI s_)), (2, .int (iI k)), (3, .int (iI (1 + (F (bAnd k (bXor (A t) (-1))))))), (4, .int (iI (t + 1)))] := lv_sub hl [5, 6, 7, 1, 0] rfl
                        have hl : lv_has ls 8 [(0, .ref (G.2.2 0)), (1, .int (iI s_)), (2, .int (iI k)), (3, .int (iI ((bsN A F k (t + 1).toNat).1))), (4, .int (iI (t + 1)))] := by rw [bsN_e ht0, if_pos HP, hfv]; exact hl
                        refine ih_33 τ1 (up C1 0 t) (t + 1) ?_ ?_ ?_ ?_ ?_ ?_ _ _ _ hH hl
                        · exact hsub
                        · omega
                        · omega
                        · omega
                        · rw [up_s, if_pos c_151, bsN_e ht0, if_pos HP]
                        · omega
                    · -- 134F
                      refine lv_iload hx hb dX4_tellingOf_137 (lv_at hl 0 rfl) ?_
                      refine lv_iload_n hx hb dX4_tellingOf_139 rfl (lv_at hl 6 rfl) ?_
                      refine n_icmp_lt (tgt := 146) hx hb (r32 (by omega)) (r32 (by omega)) dX4_tellingOf_140 (by decide) (fun c_140 => ?_) (fun c_140 => ?_)
                      · -- 140T
                        refine lv_iload hx hb dX4_tellingOf_146 (lv_at hl 0 rfl) ?_
                        refine lv_istore_n hx hb dX4_tellingOf_148 rfl hl (Nat.le_of_ble_eq_true rfl) (lv' := [(3, .int (iI (1 + (F (bAnd k (bXor (A t) (-1))))))), (7, .int (iI (1 + (F (bAnd k (bXor (A t) (-1))))))), (6, .int (iI (bAnd k (bXor (A t) (-1))))), (5, .int (iI (bAnd k (A t)))), (0, .ref (G.2.2 0)), (1, .int (iI s_)), (2, .int (iI k)), (4, .int (iI t))]) rfl (fun ls hl => ?_)
                        refine lv_iload_n hx hb dX4_tellingOf_149 rfl (lv_at hl 6 rfl) ?_
                        refine lv_iload_n hx hb dX4_tellingOf_150 rfl (lv_at hl 5 rfl) ?_
                        refine n_icmp_ne (tgt := 160) hx hb (r32 (by omega)) (r32 (by omega)) dX4_tellingOf_151 (by decide) (fun c_151 => ?_) (fun c_151 => ?_)
                        · -- 151T
                          have HP : cutP (A t) k ∧ ((bsN A F k t.toNat).1 = -1 ∨ fvI F (A t) k < (bsN A F k t.toNat).1) := ⟨⟨c_78, c_83, c_88⟩, by rw [hfv]; omega⟩
                          refine n_iinc hx hb dX4_tellingOf_160 hl (k := 7) rfl (Nat.le_of_ble_eq_true rfl) (lv' := [(4, .int (iI (t + 1))), (3, .int (iI (1 + (F (bAnd k (bXor (A t) (-1))))))), (7, .int (iI (1 + (F (bAnd k (bXor (A t) (-1))))))), (6, .int (iI (bAnd k (bXor (A t) (-1))))), (5, .int (iI (bAnd k (A t)))), (0, .ref (G.2.2 0)), (1, .int (iI s_)), (2, .int (iI k))]) rfl (fun ls hl => ?_)
                          refine lv_goto (tgt := 33) hx hb dX4_tellingOf_163 (by decide) ?_
                          have hl : lv_has ls 8 [(0, .ref (G.2.2 0)), (1, .int (iI s_)), (2, .int (iI k)), (3, .int (iI (1 + (F (bAnd k (bXor (A t) (-1))))))), (4, .int (iI (t + 1)))] := lv_sub hl [5, 6, 7, 1, 0] rfl
                          have hl : lv_has ls 8 [(0, .ref (G.2.2 0)), (1, .int (iI s_)), (2, .int (iI k)), (3, .int (iI ((bsN A F k (t + 1).toNat).1))), (4, .int (iI (t + 1)))] := by rw [bsN_e ht0, if_pos HP, hfv]; exact hl
                          refine ih_33 τ1 C1 (t + 1) ?_ ?_ ?_ ?_ ?_ ?_ _ _ _ hH hl
                          · exact hsub
                          · omega
                          · omega
                          · omega
                          · rw [if_neg c_151]; exact hC1.trans (if_neg c_151)
                          · omega
                        · -- 151F
                          have HP : cutP (A t) k ∧ ((bsN A F k t.toNat).1 = -1 ∨ fvI F (A t) k < (bsN A F k t.toNat).1) := ⟨⟨c_78, c_83, c_88⟩, by rw [hfv]; omega⟩
                          refine lv_aload_n hx hb dX4_tellingOf_154 rfl (lv_at hl 4 rfl) ?_
                          refine lv_iload hx hb dX4_tellingOf_155 (lv_at hl 7 rfl) ?_
                          refine mp_28 hx hb hts hown hK hj hH q1501 (fun _ h9 => h9) dX4_tellingOf_157 (fun H locs hH => ?_)
                          have hH := MH_to hH (τ := mx (sa (sa (sa σ 27 A) 28 (up C1 0 t)) 26 F) τ1) (mx_stb2 (by decide) (by decide))
                          refine n_iinc hx hb dX4_tellingOf_160 hl (k := 7) rfl (Nat.le_of_ble_eq_true rfl) (lv' := [(4, .int (iI (t + 1))), (3, .int (iI (1 + (F (bAnd k (bXor (A t) (-1))))))), (7, .int (iI (1 + (F (bAnd k (bXor (A t) (-1))))))), (6, .int (iI (bAnd k (bXor (A t) (-1))))), (5, .int (iI (bAnd k (A t)))), (0, .ref (G.2.2 0)), (1, .int (iI s_)), (2, .int (iI k))]) rfl (fun ls hl => ?_)
                          refine lv_goto (tgt := 33) hx hb dX4_tellingOf_163 (by decide) ?_
                          have hl : lv_has ls 8 [(0, .ref (G.2.2 0)), (1, .int (iI s_)), (2, .int (iI k)), (3, .int (iI (1 + (F (bAnd k (bXor (A t) (-1))))))), (4, .int (iI (t + 1)))] := lv_sub hl [5, 6, 7, 1, 0] rfl
                          have hl : lv_has ls 8 [(0, .ref (G.2.2 0)), (1, .int (iI s_)), (2, .int (iI k)), (3, .int (iI ((bsN A F k (t + 1).toNat).1))), (4, .int (iI (t + 1)))] := by rw [bsN_e ht0, if_pos HP, hfv]; exact hl
                          refine ih_33 τ1 (up C1 0 t) (t + 1) ?_ ?_ ?_ ?_ ?_ ?_ _ _ _ hH hl
                          · exact hsub
                          · omega
                          · omega
                          · omega
                          · rw [up_s, if_pos c_151, bsN_e ht0, if_pos HP]
                          · omega
                      · -- 140F
                        have HN : ¬ (cutP (A t) k ∧ ((bsN A F k t.toNat).1 = -1 ∨ fvI F (A t) k < (bsN A F k t.toNat).1)) := fun h => by
                          have h2 := h.2
                          rw [hfv] at h2
                          omega
                        refine lv_goto (tgt := 160) hx hb dX4_tellingOf_143 (by decide) ?_
                        refine n_iinc hx hb dX4_tellingOf_160 hl (k := 7) rfl (Nat.le_of_ble_eq_true rfl) (lv' := [(4, .int (iI (t + 1))), (7, .int (iI (1 + (F (bAnd k (bXor (A t) (-1))))))), (6, .int (iI (bAnd k (bXor (A t) (-1))))), (5, .int (iI (bAnd k (A t)))), (0, .ref (G.2.2 0)), (1, .int (iI s_)), (2, .int (iI k)), (3, .int (iI ((bsN A F k t.toNat).1)))]) rfl (fun ls hl => ?_)
                        refine lv_goto (tgt := 33) hx hb dX4_tellingOf_163 (by decide) ?_
                        have hl : lv_has ls 8 [(0, .ref (G.2.2 0)), (1, .int (iI s_)), (2, .int (iI k)), (3, .int (iI ((bsN A F k t.toNat).1))), (4, .int (iI (t + 1)))] := lv_sub hl [4, 5, 6, 7, 0] rfl
                        have hl : lv_has ls 8 [(0, .ref (G.2.2 0)), (1, .int (iI s_)), (2, .int (iI k)), (3, .int (iI ((bsN A F k (t + 1).toNat).1))), (4, .int (iI (t + 1)))] := by rw [bsN_e ht0, if_neg HN]; exact hl
                        refine ih_33 τ1 C1 (t + 1) ?_ ?_ ?_ ?_ ?_ ?_ _ _ _ hH hl
                        · exact hsub
                        · omega
                        · omega
                        · omega
                        · rw [bsN_e ht0, if_neg HN]; exact hC1
                        · omega
                  · -- 109F
                    have hfv : fvI F (A t) k = 1 + F (bAnd k (A t)) := by
                      unfold fvI
                      rw [if_pos (by omega)]
                    refine lv_aload_n hx hb dX4_tellingOf_112 rfl (lv_at hl 2 rfl) ?_
                    refine m_get 26 (by decide) hx hb hts hown hK hj hH q1499 (fun _ h9 => h9) rfl dX4_tellingOf_113 ?_
                    refine lv_iload hx hb dX4_tellingOf_116 (lv_at hl 1 rfl) ?_
                    refine ml_26 hx hb hK hj hH (by omega) (by omega) dX4_tellingOf_118 ?_
                    refine W.eq (g2 := F0 m 119 ls (.int (iI (F (bAnd k (A t)))) :: .int (iI 1) :: [])) rfl ?_
                    refine lv_goto (tgt := 129) hx hb dX4_tellingOf_119 (by decide) ?_
                    refine n_iadd hx hb dX4_tellingOf_129 ?_
                    refine lv_istore hx hb dX4_tellingOf_130 hl (Nat.le_of_ble_eq_true rfl) (lv' := [(7, .int (iI (1 + (F (bAnd k (A t)))))), (6, .int (iI (bAnd k (bXor (A t) (-1))))), (5, .int (iI (bAnd k (A t)))), (0, .ref (G.2.2 0)), (1, .int (iI s_)), (2, .int (iI k)), (3, .int (iI ((bsN A F k t.toNat).1))), (4, .int (iI t))]) rfl (fun ls hl => ?_)
                    refine lv_iload_n hx hb dX4_tellingOf_132 rfl (lv_at hl 6 rfl) ?_
                    refine n_iconst hx hb dX4_tellingOf_133 ?_
                    refine n_icmp_eq (tgt := 146) hx hb (r32 (by omega)) (r32 (by omega)) dX4_tellingOf_134 (by decide) (fun c_134 => ?_) (fun c_134 => ?_)
                    · -- 134T
                      refine lv_iload hx hb dX4_tellingOf_146 (lv_at hl 0 rfl) ?_
                      refine lv_istore_n hx hb dX4_tellingOf_148 rfl hl (Nat.le_of_ble_eq_true rfl) (lv' := [(3, .int (iI (1 + (F (bAnd k (A t)))))), (7, .int (iI (1 + (F (bAnd k (A t)))))), (6, .int (iI (bAnd k (bXor (A t) (-1))))), (5, .int (iI (bAnd k (A t)))), (0, .ref (G.2.2 0)), (1, .int (iI s_)), (2, .int (iI k)), (4, .int (iI t))]) rfl (fun ls hl => ?_)
                      refine lv_iload_n hx hb dX4_tellingOf_149 rfl (lv_at hl 6 rfl) ?_
                      refine lv_iload_n hx hb dX4_tellingOf_150 rfl (lv_at hl 5 rfl) ?_
                      refine n_icmp_ne (tgt := 160) hx hb (r32 (by omega)) (r32 (by omega)) dX4_tellingOf_151 (by decide) (fun c_151 => ?_) (fun c_151 => ?_)
                      · -- 151T
                        have HP : cutP (A t) k ∧ ((bsN A F k t.toNat).1 = -1 ∨ fvI F (A t) k < (bsN A F k t.toNat).1) := ⟨⟨c_78, c_83, c_88⟩, by rw [hfv]; omega⟩
                        refine n_iinc hx hb dX4_tellingOf_160 hl (k := 7) rfl (Nat.le_of_ble_eq_true rfl) (lv' := [(4, .int (iI (t + 1))), (3, .int (iI (1 + (F (bAnd k (A t)))))), (7, .int (iI (1 + (F (bAnd k (A t)))))), (6, .int (iI (bAnd k (bXor (A t) (-1))))), (5, .int (iI (bAnd k (A t)))), (0, .ref (G.2.2 0)), (1, .int (iI s_)), (2, .int (iI k))]) rfl (fun ls hl => ?_)
                        refine lv_goto (tgt := 33) hx hb dX4_tellingOf_163 (by decide) ?_
                        have hl : lv_has ls 8 [(0, .ref (G.2.2 0)), (1, .int (iI s_)), (2, .int (iI k)), (3, .int (iI (1 + (F (bAnd k (A t)))))), (4, .int (iI (t + 1)))] := lv_sub hl [5, 6, 7, 1, 0] rfl
                        have hl : lv_has ls 8 [(0, .ref (G.2.2 0)), (1, .int (iI s_)), (2, .int (iI k)), (3, .int (iI ((bsN A F k (t + 1).toNat).1))), (4, .int (iI (t + 1)))] := by rw [bsN_e ht0, if_pos HP, hfv]; exact hl
                        refine ih_33 τ1 C1 (t + 1) ?_ ?_ ?_ ?_ ?_ ?_ _ _ _ hH hl
                        · exact hsub
                        · omega
                        · omega
                        · omega
                        · rw [if_neg c_151]; exact hC1.trans (if_neg c_151)
                        · omega
                      · -- 151F
                        have HP : cutP (A t) k ∧ ((bsN A F k t.toNat).1 = -1 ∨ fvI F (A t) k < (bsN A F k t.toNat).1) := ⟨⟨c_78, c_83, c_88⟩, by rw [hfv]; omega⟩
                        refine lv_aload_n hx hb dX4_tellingOf_154 rfl (lv_at hl 4 rfl) ?_
                        refine lv_iload hx hb dX4_tellingOf_155 (lv_at hl 7 rfl) ?_
                        refine mp_28 hx hb hts hown hK hj hH q1501 (fun _ h9 => h9) dX4_tellingOf_157 (fun H locs hH => ?_)
                        have hH := MH_to hH (τ := mx (sa (sa (sa σ 27 A) 28 (up C1 0 t)) 26 F) τ1) (mx_stb2 (by decide) (by decide))
                        refine n_iinc hx hb dX4_tellingOf_160 hl (k := 7) rfl (Nat.le_of_ble_eq_true rfl) (lv' := [(4, .int (iI (t + 1))), (3, .int (iI (1 + (F (bAnd k (A t)))))), (7, .int (iI (1 + (F (bAnd k (A t)))))), (6, .int (iI (bAnd k (bXor (A t) (-1))))), (5, .int (iI (bAnd k (A t)))), (0, .ref (G.2.2 0)), (1, .int (iI s_)), (2, .int (iI k))]) rfl (fun ls hl => ?_)
                        refine lv_goto (tgt := 33) hx hb dX4_tellingOf_163 (by decide) ?_
                        have hl : lv_has ls 8 [(0, .ref (G.2.2 0)), (1, .int (iI s_)), (2, .int (iI k)), (3, .int (iI (1 + (F (bAnd k (A t)))))), (4, .int (iI (t + 1)))] := lv_sub hl [5, 6, 7, 1, 0] rfl
                        have hl : lv_has ls 8 [(0, .ref (G.2.2 0)), (1, .int (iI s_)), (2, .int (iI k)), (3, .int (iI ((bsN A F k (t + 1).toNat).1))), (4, .int (iI (t + 1)))] := by rw [bsN_e ht0, if_pos HP, hfv]; exact hl
                        refine ih_33 τ1 (up C1 0 t) (t + 1) ?_ ?_ ?_ ?_ ?_ ?_ _ _ _ hH hl
                        · exact hsub
                        · omega
                        · omega
                        · omega
                        · rw [up_s, if_pos c_151, bsN_e ht0, if_pos HP]
                        · omega
                    · -- 134F
                      refine lv_iload hx hb dX4_tellingOf_137 (lv_at hl 0 rfl) ?_
                      refine lv_iload_n hx hb dX4_tellingOf_139 rfl (lv_at hl 6 rfl) ?_
                      refine n_icmp_lt (tgt := 146) hx hb (r32 (by omega)) (r32 (by omega)) dX4_tellingOf_140 (by decide) (fun c_140 => ?_) (fun c_140 => ?_)
                      · -- 140T
                        refine lv_iload hx hb dX4_tellingOf_146 (lv_at hl 0 rfl) ?_
                        refine lv_istore_n hx hb dX4_tellingOf_148 rfl hl (Nat.le_of_ble_eq_true rfl) (lv' := [(3, .int (iI (1 + (F (bAnd k (A t)))))), (7, .int (iI (1 + (F (bAnd k (A t)))))), (6, .int (iI (bAnd k (bXor (A t) (-1))))), (5, .int (iI (bAnd k (A t)))), (0, .ref (G.2.2 0)), (1, .int (iI s_)), (2, .int (iI k)), (4, .int (iI t))]) rfl (fun ls hl => ?_)
                        refine lv_iload_n hx hb dX4_tellingOf_149 rfl (lv_at hl 6 rfl) ?_
                        refine lv_iload_n hx hb dX4_tellingOf_150 rfl (lv_at hl 5 rfl) ?_
                        refine n_icmp_ne (tgt := 160) hx hb (r32 (by omega)) (r32 (by omega)) dX4_tellingOf_151 (by decide) (fun c_151 => ?_) (fun c_151 => ?_)
                        · -- 151T
                          have HP : cutP (A t) k ∧ ((bsN A F k t.toNat).1 = -1 ∨ fvI F (A t) k < (bsN A F k t.toNat).1) := ⟨⟨c_78, c_83, c_88⟩, by rw [hfv]; omega⟩
                          refine n_iinc hx hb dX4_tellingOf_160 hl (k := 7) rfl (Nat.le_of_ble_eq_true rfl) (lv' := [(4, .int (iI (t + 1))), (3, .int (iI (1 + (F (bAnd k (A t)))))), (7, .int (iI (1 + (F (bAnd k (A t)))))), (6, .int (iI (bAnd k (bXor (A t) (-1))))), (5, .int (iI (bAnd k (A t)))), (0, .ref (G.2.2 0)), (1, .int (iI s_)), (2, .int (iI k))]) rfl (fun ls hl => ?_)
                          refine lv_goto (tgt := 33) hx hb dX4_tellingOf_163 (by decide) ?_
                          have hl : lv_has ls 8 [(0, .ref (G.2.2 0)), (1, .int (iI s_)), (2, .int (iI k)), (3, .int (iI (1 + (F (bAnd k (A t)))))), (4, .int (iI (t + 1)))] := lv_sub hl [5, 6, 7, 1, 0] rfl
                          have hl : lv_has ls 8 [(0, .ref (G.2.2 0)), (1, .int (iI s_)), (2, .int (iI k)), (3, .int (iI ((bsN A F k (t + 1).toNat).1))), (4, .int (iI (t + 1)))] := by rw [bsN_e ht0, if_pos HP, hfv]; exact hl
                          refine ih_33 τ1 C1 (t + 1) ?_ ?_ ?_ ?_ ?_ ?_ _ _ _ hH hl
                          · exact hsub
                          · omega
                          · omega
                          · omega
                          · rw [if_neg c_151]; exact hC1.trans (if_neg c_151)
                          · omega
                        · -- 151F
                          have HP : cutP (A t) k ∧ ((bsN A F k t.toNat).1 = -1 ∨ fvI F (A t) k < (bsN A F k t.toNat).1) := ⟨⟨c_78, c_83, c_88⟩, by rw [hfv]; omega⟩
                          refine lv_aload_n hx hb dX4_tellingOf_154 rfl (lv_at hl 4 rfl) ?_
                          refine lv_iload hx hb dX4_tellingOf_155 (lv_at hl 7 rfl) ?_
                          refine mp_28 hx hb hts hown hK hj hH q1501 (fun _ h9 => h9) dX4_tellingOf_157 (fun H locs hH => ?_)
                          have hH := MH_to hH (τ := mx (sa (sa (sa σ 27 A) 28 (up C1 0 t)) 26 F) τ1) (mx_stb2 (by decide) (by decide))
                          refine n_iinc hx hb dX4_tellingOf_160 hl (k := 7) rfl (Nat.le_of_ble_eq_true rfl) (lv' := [(4, .int (iI (t + 1))), (3, .int (iI (1 + (F (bAnd k (A t)))))), (7, .int (iI (1 + (F (bAnd k (A t)))))), (6, .int (iI (bAnd k (bXor (A t) (-1))))), (5, .int (iI (bAnd k (A t)))), (0, .ref (G.2.2 0)), (1, .int (iI s_)), (2, .int (iI k))]) rfl (fun ls hl => ?_)
                          refine lv_goto (tgt := 33) hx hb dX4_tellingOf_163 (by decide) ?_
                          have hl : lv_has ls 8 [(0, .ref (G.2.2 0)), (1, .int (iI s_)), (2, .int (iI k)), (3, .int (iI (1 + (F (bAnd k (A t)))))), (4, .int (iI (t + 1)))] := lv_sub hl [5, 6, 7, 1, 0] rfl
                          have hl : lv_has ls 8 [(0, .ref (G.2.2 0)), (1, .int (iI s_)), (2, .int (iI k)), (3, .int (iI ((bsN A F k (t + 1).toNat).1))), (4, .int (iI (t + 1)))] := by rw [bsN_e ht0, if_pos HP, hfv]; exact hl
                          refine ih_33 τ1 (up C1 0 t) (t + 1) ?_ ?_ ?_ ?_ ?_ ?_ _ _ _ hH hl
                          · exact hsub
                          · omega
                          · omega
                          · omega
                          · rw [up_s, if_pos c_151, bsN_e ht0, if_pos HP]
                          · omega
                      · -- 140F
                        have HN : ¬ (cutP (A t) k ∧ ((bsN A F k t.toNat).1 = -1 ∨ fvI F (A t) k < (bsN A F k t.toNat).1)) := fun h => by
                          have h2 := h.2
                          rw [hfv] at h2
                          omega
                        refine lv_goto (tgt := 160) hx hb dX4_tellingOf_143 (by decide) ?_
                        refine n_iinc hx hb dX4_tellingOf_160 hl (k := 7) rfl (Nat.le_of_ble_eq_true rfl) (lv' := [(4, .int (iI (t + 1))), (7, .int (iI (1 + (F (bAnd k (A t)))))), (6, .int (iI (bAnd k (bXor (A t) (-1))))), (5, .int (iI (bAnd k (A t)))), (0, .ref (G.2.2 0)), (1, .int (iI s_)), (2, .int (iI k)), (3, .int (iI ((bsN A F k t.toNat).1)))]) rfl (fun ls hl => ?_)
                        refine lv_goto (tgt := 33) hx hb dX4_tellingOf_163 (by decide) ?_
                        have hl : lv_has ls 8 [(0, .ref (G.2.2 0)), (1, .int (iI s_)), (2, .int (iI k)), (3, .int (iI ((bsN A F k t.toNat).1))), (4, .int (iI (t + 1)))] := lv_sub hl [4, 5, 6, 7, 0] rfl
                        have hl : lv_has ls 8 [(0, .ref (G.2.2 0)), (1, .int (iI s_)), (2, .int (iI k)), (3, .int (iI ((bsN A F k (t + 1).toNat).1))), (4, .int (iI (t + 1)))] := by rw [bsN_e ht0, if_neg HN]; exact hl
                        refine ih_33 τ1 C1 (t + 1) ?_ ?_ ?_ ?_ ?_ ?_ _ _ _ hH hl
                        · exact hsub
                        · omega
                        · omega
                        · omega
                        · rw [bsN_e ht0, if_neg HN]; exact hC1
                        · omega
                · -- 88F
                  have HN : ¬ (cutP (A t) k ∧ ((bsN A F k t.toNat).1 = -1 ∨ fvI F (A t) k < (bsN A F k t.toNat).1)) := fun h => h.1.2.2 c_88
                  refine lv_goto (tgt := 160) hx hb dX4_tellingOf_91 (by decide) ?_
                  refine n_iinc hx hb dX4_tellingOf_160 hl (k := 6) rfl (Nat.le_of_ble_eq_true rfl) (lv' := [(4, .int (iI (t + 1))), (6, .int (iI (bAnd k (bXor (A t) (-1))))), (5, .int (iI (bAnd k (A t)))), (0, .ref (G.2.2 0)), (1, .int (iI s_)), (2, .int (iI k)), (3, .int (iI ((bsN A F k t.toNat).1)))]) rfl (fun ls hl => ?_)
                  refine lv_goto (tgt := 33) hx hb dX4_tellingOf_163 (by decide) ?_
                  have hl : lv_has ls 8 [(0, .ref (G.2.2 0)), (1, .int (iI s_)), (2, .int (iI k)), (3, .int (iI ((bsN A F k t.toNat).1))), (4, .int (iI (t + 1)))] := lv_sub hl [3, 4, 5, 6, 0] rfl
                  have hl : lv_has ls 8 [(0, .ref (G.2.2 0)), (1, .int (iI s_)), (2, .int (iI k)), (3, .int (iI ((bsN A F k (t + 1).toNat).1))), (4, .int (iI (t + 1)))] := by rw [bsN_e ht0, if_neg HN]; exact hl
                  refine ih_33 τ1 C1 (t + 1) ?_ ?_ ?_ ?_ ?_ ?_ _ _ _ hH hl
                  · exact hsub
                  · omega
                  · omega
                  · omega
                  · rw [bsN_e ht0, if_neg HN]; exact hC1
                  · omega
      refine lv_iload_n hx hb dX4_tellingOf_12 rfl (lv_at hl 2 rfl) ?_
      refine lv_iload_n hx hb dX4_tellingOf_13 rfl (lv_at hl 1 rfl) ?_
      refine n_icmp_gt (tgt := 188) hx hb (r32 (by omega)) (r32 (by omega)) dX4_tellingOf_14 (by decide) (fun c_14 => ?_) (fun c_14 => ?_)
      · -- 14T
        refine lv_aload_n hx hb dX4_tellingOf_188 rfl (lv_at hl 0 rfl) ?_
        refine m_get 26 (by decide) hx hb hts hown hK hj hH q1499 (fun _ h9 => h9) rfl dX4_tellingOf_189 ?_
        refine lv_iload_n hx hb dX4_tellingOf_192 rfl (lv_at hl 1 rfl) ?_
        refine ml_26 hx hb hK hj hH (by omega) (by omega) dX4_tellingOf_193 ?_
        refine W.eq (g2 := F0 m 194 ls (.int (iI (F s_)) :: [])) rfl ?_
        refine m_iret hx hb hr hlk hH dX4_tellingOf_194 ?_
        have hk : k = s_ + 1 := by omega
        subst hk
        rw [hFk]
        have hY := fwS_Y (F := σ 26) (s := s_) (n := (σ 2 1755).toNat) (Y := A) (Y' := laT (σ 2) s_) (fun t ht => hAt t (by omega) (by omega))
        have hY2 := bsN_Y (F := fwS A s_ (σ 2 1755).toNat (σ 26) s_.toNat) (s := s_) (n := (σ 2 1755).toNat) (Y := A) (Y' := laT (σ 2) s_) (fun t ht => hAt t (by omega) (by omega)) _ (Nat.le_refl _)
        refine ⟨?_, ?_, ?_, ?_⟩
        · rw [hY]; exact fwS_cg _ (by omega) _ hs0 (by omega) (subP_self s_)
        · show C 0 = _
          rw [hC, if_pos (by omega), hY2, hY, bsN_F hs0 hs1 (subP_self s_)]
        · show FWok (fwS A s_ (σ 2 1755).toNat (σ 26) (s_ + 1).toNat)
          rw [← hFk]
          exact hFo
        · intro f hf
          unfold mx
          rw [if_pos (Or.inl hf), sa_n (by omega), sa_n (by omega), sa_n (by omega)]
      · -- 14F
        refine lv_iload_n hx hb dX4_tellingOf_17 rfl (lv_at hl 2 rfl) ?_
        refine lv_iload_n hx hb dX4_tellingOf_18 rfl (lv_at hl 1 rfl) ?_
        refine n_iconst hx hb dX4_tellingOf_19 ?_
        refine n_ixor hx hb dX4_tellingOf_20 ?_
        refine n_iand hx hb dX4_tellingOf_21 ?_
        have hbr1 := R32.n (bAnd_r (a := k) (b := bXor s_ (-1)))
        refine n_if_eq (tgt := 28) hx hb (r32 (by omega)) dX4_tellingOf_22 (by decide) (fun c_22 => ?_) (fun c_22 => ?_)
        · -- 22T
          refine n_iconst hx hb dX4_tellingOf_28 ?_
          refine lv_istore_n hx hb dX4_tellingOf_29 rfl hl (Nat.le_of_ble_eq_true rfl) (lv' := [(3, .int (iI (-1))), (0, .ref (G.2.2 0)), (1, .int (iI s_)), (2, .int (iI k))]) rfl (fun ls hl => ?_)
          refine n_iconst hx hb dX4_tellingOf_30 ?_
          refine lv_istore hx hb dX4_tellingOf_31 hl (Nat.le_of_ble_eq_true rfl) (lv' := [(4, .int (iI 0)), (3, .int (iI (-1))), (0, .ref (G.2.2 0)), (1, .int (iI s_)), (2, .int (iI k))]) rfl (fun ls hl => ?_)
          have hl : lv_has ls 8 [(0, .ref (G.2.2 0)), (1, .int (iI s_)), (2, .int (iI k)), (3, .int (iI (-1))), (4, .int (iI 0))] := lv_sub hl [2, 3, 4, 1, 0] rfl
          have hl : lv_has ls 8 [(0, .ref (G.2.2 0)), (1, .int (iI s_)), (2, .int (iI k)), (3, .int (iI ((bsN A F k (0 : Int).toNat).1))), (4, .int (iI 0))] := by exact hl
          refine L33 20 τ C 0 ?_ ?_ ?_ ?_ ?_ ?_ _ _ _ hH hl
          · exact c_22
          · omega
          · omega
          · omega
          · rw [hC, if_neg (by omega)]; split <;> rfl
          · omega
        · -- 22F
          refine lv_goto (tgt := 182) hx hb dX4_tellingOf_25 (by decide) ?_
          refine n_iinc hx hb dX4_tellingOf_182 hl (k := 2) rfl (Nat.le_of_ble_eq_true rfl) (lv' := [(2, .int (iI (k + 1))), (0, .ref (G.2.2 0)), (1, .int (iI s_))]) rfl (fun ls hl => ?_)
          refine lv_goto (tgt := 12) hx hb dX4_tellingOf_185 (by decide) ?_
          have hl : lv_has ls 8 [(0, .ref (G.2.2 0)), (1, .int (iI s_)), (2, .int (iI (k + 1)))] := lv_sub hl [1, 2, 0] rfl
          refine ih_12 τ A C F (k + 1) ?_ ?_ ?_ ?_ ?_ ?_ _ _ _ hH hl
          · exact hAt
          · omega
          · omega
          · rw [fwS_e (by omega), if_neg c_22]; exact hFk
          · rw [hC, if_neg (by omega), if_neg (fun z => c_22 (by
              have z2 : k = s_ := by omega
              rw [z2]; exact subP_self s_))]
          · omega
  refine lv_aload_n hx hb dX4_tellingOf_0 rfl (lv_at hl 0 rfl) ?_
  refine lv_iload_n hx hb dX4_tellingOf_1 rfl (lv_at hl 1 rfl) ?_
  refine m_callv (m_runV (As := [.int (iI s_)]) (rest := []) S hH hK hj hl.1 (mm_lays l G σ s_ _ (r32 (by omega)) hI hT) (lw_V q1949 q1951 qs97 q109 q1952) kd_X4_lays rfl rfl dX4_tellingOf_2) hH hA (fun σ2 H locs q_2 hH => ?_)
  obtain ⟨A, hA2, hA3⟩ := q_2
  have hH := MH_to hH (τ := mx (sa (sa (sa σ 27 A) 28 (σ 28)) 26 (σ 26)) σ2) (by
    have e8 : sa (sa σ 27 A) 28 (σ 28) = sa σ 27 A := sa_self (τ := sa σ 27 A) (f := 28)
    have e9 : sa (sa σ 27 A) 26 (σ 26) = sa σ 27 A := sa_self (τ := sa σ 27 A) (f := 26)
    rw [e8, e9]
    refine mx_of (τ := sa σ 27 A) ?_
    rw [mx_self]
    exact hA2)
  refine lv_aload_n hx hb dX4_tellingOf_5 rfl (lv_at hl 0 rfl) ?_
  refine n_iconst hx hb dX4_tellingOf_6 ?_
  refine mp_28 hx hb hts hown hK hj hH q1501 (fun _ h9 => h9) dX4_tellingOf_7 (fun H locs hH => ?_)
  have hH := MH_to hH (τ := mx (sa (sa (sa σ 27 A) 28 (up (σ 28) 0 (-1))) 26 (σ 26)) σ2) (mx_stb2 (by decide) (by decide))
  refine n_iconst hx hb dX4_tellingOf_10 ?_
  refine lv_istore_n hx hb dX4_tellingOf_11 rfl hl (Nat.le_of_ble_eq_true rfl) (lv' := [(2, .int (iI 1)), (0, .ref (G.2.2 0)), (1, .int (iI s_))]) rfl (fun ls hl => ?_)
  have hl : lv_has ls 8 [(0, .ref (G.2.2 0)), (1, .int (iI s_)), (2, .int (iI 1))] := lv_sub hl [1, 2, 0] rfl
  refine L12 4100 σ2 A (up (σ 28) 0 (-1)) (σ 26) 1 ?_ ?_ ?_ ?_ ?_ ?_ _ _ _ hH hl
  · exact hA3
  · omega
  · omega
  · exact (fwS_1 hF).symm
  · rw [up_s]
    split
    · rw [show s_ = 0 by omega, bsN_0]
    · rfl
  · omega
theorem kd_X4_telling : yX4_telling.cls = RX4 ∧ yX4_telling.cls ≠ "java/lang/invoke/MethodHandle" ∧ yX4_telling.cls ≠ "java/lang/invoke/VarHandle" ∧ (parseMethodDescriptor yX4_telling.desc).map (fun d => d.parameters.length) = some 2 := by decide +kernel
theorem mm_telling (l : Launch) (G : MG) (σ : St) (s_ : Int) (w_ : Int) (sz : Nat) (h_s_ : R32 s_) (h_w_ : R32 w_) (hI : KI (σ 2)) (hT : TT (σ 2)) (hF : FWok (σ 26)) : Met l yX4_telling (ws_ yX4_telling cX4_telling 4 (some .int)) (rmD 71) (mP G [.ref (G.2.2 0), .int (iI s_), .int (iI w_)] σ sz) (mQi G σ sz (fun z σ' => z = telF (σ 2) s_ w_ ∧ FWok (σ' 26) ∧ ∀ f : Nat, f ≤ 4 ∨ (6 ≤ f ∧ f ≤ 17) → σ' f = σ f)) 0 0 (mA G σ sz) := by
  refine m_start (by decide) (Nat.le_of_ble_eq_true rfl) ?_
  intro p e s m below meth c ⟨S, hr, hlk, hH, hK, hj, hsz, hnm⟩ ls hl
  subst hsz
  obtain ⟨hx, hb, hml, hown, hts⟩ := S
  have S : CallFix p m c _ _ s _ lw_all RX4 := ⟨hx, hb, hml, hown, hts⟩
  have hA : ∀ q, s.heap.size ≤ q → mA G σ s.heap.size q := fun q hq => Or.inr hq
  have hl : lv_has ls 4 [(0, .ref (G.2.2 0)), (1, .int (iI s_)), (2, .int (iI w_))] := hl
  have b0 := hI.c
  unfold kCnt at b0
  have h_s_ := R32.n h_s_
  have h_w_ := R32.n h_w_
  have hp := pow_r b0.2.2.2.2.2.2.1.1 b0.2.2.2.2.2.2.1.2
  refine lv_aload_n hx hb dX4_telling_0 rfl (lv_at hl 0 rfl) ?_
  refine lv_iload_n hx hb dX4_telling_1 rfl (lv_at hl 1 rfl) ?_
  refine m_calliF (m_runV (As := [.int (iI s_)]) (rest := []) S hH hK hj hl.1 (mm_areTexts l G σ s_ _ (r32 (by omega)) (by omega) (by omega)) (lw_V q1925 q1927 qs93 q109 q1928) kd_X4_areTexts rfl rfl dX4_telling_2) hH hA (fun H locs hH => ?_)
  refine z_if_eq (tgt := 17) hx hb dX4_telling_5 (by decide) (fun c_5 => ?_) (fun c_5 => ?_)
  · -- 5T
    refine n_iconst hx hb dX4_telling_17 ?_
    refine m_iret hx hb hr hlk hH dX4_telling_18 ?_
    exact ⟨by rw [telF, if_neg (by omega)], hF, fun _ _ => rfl⟩
  · -- 5F
    refine lv_iload_n hx hb dX4_telling_8 rfl (lv_at hl 2 rfl) ?_
    refine n_iconst hx hb dX4_telling_9 ?_
    refine n_iconst hx hb dX4_telling_10 ?_
    refine m_calliF (m_runS (As := [.int (iI w_), .int (iI 0), .int (iI 1)]) (rest := []) S hH hK hj hl.1 (mm_in l G σ w_ 0 1 _ (r32 (by omega)) (r32 (by omega)) (r32 (by omega))) (lw_S q1569 q1570 q109 q1571) kd_X4_in rfl rfl dX4_telling_11) hH hA (fun H locs hH => ?_)
    refine z_if_ne (tgt := 19) hx hb dX4_telling_14 (by decide) (fun c_14 => ?_) (fun c_14 => ?_)
    · -- 14T
      refine lv_aload_n hx hb dX4_telling_19 rfl (lv_at hl 0 rfl) ?_
      refine lv_iload_n hx hb dX4_telling_20 rfl (lv_at hl 1 rfl) ?_
      refine m_calli (m_runV (As := [.int (iI s_)]) (rest := []) S hH hK hj hl.1 (mm_tellingOf l G σ s_ _ (by omega) (by omega) hI hT hF) (lw_V q1945 q1947 qs96 q109 q1948) kd_X4_tellingOf rfl rfl dX4_telling_21) hH hA (fun z21 σ21 H locs q_21 hH => ?_)
      obtain ⟨e1, e2, e3, e4⟩ := q_21
      subst e1
      refine lv_istore_n hx hb dX4_telling_24 rfl hl (Nat.le_of_ble_eq_true rfl) (lv' := [(3, .int (iI (fwS (laT (σ 2) s_) s_ (σ 2 1755).toNat (fun _ => 0) (s_ + 1).toNat s_))), (0, .ref (G.2.2 0)), (1, .int (iI s_)), (2, .int (iI w_))]) rfl (fun ls hl => ?_)
      refine lv_iload_n hx hb dX4_telling_25 rfl (lv_at hl 3 rfl) ?_
      refine n_if_ne (tgt := 33) hx hb (r32 (by omega)) dX4_telling_26 (by decide) (fun c_26 => ?_) (fun c_26 => ?_)
      · -- 26T
        refine lv_aload_n hx hb dX4_telling_33 rfl (lv_at hl 1 rfl) ?_
        refine m_get 28 (by decide) hx hb hts hown hK hj hH q1501 (fun _ h9 => h9) rfl dX4_telling_34 ?_
        refine m_iret hx hb hr hlk hH dX4_telling_37 ?_
        exact ⟨by rw [telF, if_pos (by omega), if_neg (by omega), e2], e3, e4⟩
      · -- 26F
        refine lv_iload_n hx hb dX4_telling_29 rfl (lv_at hl 0 rfl) ?_
        refine lv_goto (tgt := 37) hx hb dX4_telling_30 (by decide) ?_
        refine m_iret hx hb hr hlk hH dX4_telling_37 ?_
        exact ⟨by rw [telF, if_pos (by omega), if_pos (by omega)], e3, e4⟩
    · -- 14F
      refine n_iconst hx hb dX4_telling_17 ?_
      refine m_iret hx hb hr hlk hH dX4_telling_18 ?_
      exact ⟨by rw [telF, if_neg (by omega)], hF, fun _ _ => rfl⟩
theorem kd_X4_suits : yX4_suits.cls = RX4 ∧ yX4_suits.cls ≠ "java/lang/invoke/MethodHandle" ∧ yX4_suits.cls ≠ "java/lang/invoke/VarHandle" ∧ (parseMethodDescriptor yX4_suits.desc).map (fun d => d.parameters.length) = some 2 := by decide +kernel
theorem mm_suits (l : Launch) (G : MG) (σ : St) (s_ : Int) (b_ : Int) (sz : Nat) (hs : R32 s_) (hb0 : 0 ≤ b_) (hb1 : b_ < 6) (hI : KI (σ 2)) : Met l yX4_suits (ws_ yX4_suits cX4_suits 4 (some .boolean)) (rmD 2) (mP G [.ref (G.2.2 0), .int (iI s_), .int (iI b_)] σ sz) (mQi G σ sz (fun z σ' => z = (suT (σ 2) s_ b_) ∧ σ' = σ)) 0 0 (mA G σ sz) := by
  refine m_start (by decide) (Nat.le_of_ble_eq_true rfl) ?_
  intro p e s m below meth c ⟨S, hr, hlk, hH, hK, hj, hsz, hnm⟩ ls hl
  subst hsz
  obtain ⟨hx, hb, hml, hown, hts⟩ := S
  have S : CallFix p m c _ _ s _ lw_all RX4 := ⟨hx, hb, hml, hown, hts⟩
  have hA : ∀ q, s.heap.size ≤ q → mA G σ s.heap.size q := fun q hq => Or.inr hq
  have hl : lv_has ls 4 [(0, .ref (G.2.2 0)), (1, .int (iI s_)), (2, .int (iI b_))] := hl
  have b0 := hI.c
  unfold kCnt at b0
  have hs := R32.n hs
  have L2 : ∀ (q : Nat) (k : Int), (hk0 : 0 ≤ k) → (hk1 : k ≤ σ 2 1752) → (hq : σ 2 1752 < (q : Int) + k) → (he : suN (σ 2) s_ b_ (σ 2 1752).toNat 0 = suN (σ 2) s_ b_ (σ 2 1752 - k).toNat k) → ∀ (H : Heap) (locs : List Loc) (ls : Array Slot), MH G (mA G σ s.heap.size) σ s.heap H locs → lv_has ls 4 [(0, .ref (G.2.2 0)), (1, .int (iI s_)), (2, .int (iI b_)), (3, .int (iI k))] → W p l e (rmD 2) s m ([.ref (G.2.2 0), .int (iI s_), .int (iI b_)] : List Value).toArray below meth c H locs 0 0 (MQ below (mQi G σ s.heap.size (fun z σ' => z = (suT (σ 2) s_ b_) ∧ σ' = σ)) ([.ref (G.2.2 0), .int (iI s_), .int (iI b_)] : List Value).toArray s 0 0 (mA G σ s.heap.size)) (F0 m 2 ls []) := by
    intro q
    induction q with
    | zero => intro k hk0 hk1 hq he; exfalso; omega
    | succ q ih_2 =>
      intro k hk0 hk1 hq he H locs ls hH hl
      refine lv_iload_n hx hb dX4_suits_2 rfl (lv_at hl 3 rfl) ?_
      refine lv_aload_n hx hb dX4_suits_3 rfl (lv_at hl 0 rfl) ?_
      refine m_get 2 (by decide) hx hb hts hown hK hj hH q1475 (fun _ h9 => h9) rfl dX4_suits_4 ?_
      refine n_sipush (z := 1752) hx hb dX4_suits_7 (by decide) ?_
      refine ml_2 hx hb hK hj hH (by omega) (by omega) dX4_suits_10 ?_
      refine n_icmp_ge (tgt := 45) hx hb (r32 (by omega)) (r32 (by omega)) dX4_suits_11 (by decide) (fun c_11 => ?_) (fun c_11 => ?_)
      · -- 11T
        refine n_iconst hx hb dX4_suits_45 ?_
        refine m_zret hx hb hr hlk hH dX4_suits_46 (Or.inl rfl) ?_
        exact ⟨by rw [suT, he, show (σ 2 1752 - k).toNat = 0 by omega, suN], rfl⟩
      · -- 11F
        refine lv_iload_n hx hb dX4_suits_14 rfl (lv_at hl 1 rfl) ?_
        refine lv_iload_n hx hb dX4_suits_15 rfl (lv_at hl 3 rfl) ?_
        refine n_ishr hx hb (r32 (by omega)) (by omega) (by omega) dX4_suits_16 ?_
        refine n_iconst hx hb dX4_suits_17 ?_
        refine n_and1 hx hb dX4_suits_18 ?_
        refine n_iconst hx hb dX4_suits_19 ?_
        refine n_icmp_ne (tgt := 39) hx hb (r32 (by omega)) (r32 (by omega)) dX4_suits_20 (by decide) (fun c_20 => ?_) (fun c_20 => ?_)
        · -- 20T
          refine n_iinc hx hb dX4_suits_39 hl (k := 3) rfl (Nat.le_of_ble_eq_true rfl) (lv' := [(3, .int (iI (k + 1))), (0, .ref (G.2.2 0)), (1, .int (iI s_)), (2, .int (iI b_))]) rfl (fun ls hl => ?_)
          refine lv_goto (tgt := 2) hx hb dX4_suits_42 (by decide) ?_
          have hl : lv_has ls 4 [(0, .ref (G.2.2 0)), (1, .int (iI s_)), (2, .int (iI b_)), (3, .int (iI (k + 1)))] := lv_sub hl [1, 2, 3, 0] rfl
          refine ih_2 (k + 1) ?_ ?_ ?_ ?_ _ _ _ hH hl
          · omega
          · omega
          · omega
          · rw [he, suN_e (by omega), if_neg (by omega)]
        · -- 20F
          have hkk := hI.k k hk0 (by omega)
          unfold kKind at hkk
          refine lv_aload_n hx hb dX4_suits_23 rfl (lv_at hl 0 rfl) ?_
          refine lv_iload_n hx hb dX4_suits_24 rfl (lv_at hl 3 rfl) ?_
          refine n_iconst hx hb dX4_suits_25 ?_
          refine m_calliF (m_runV (As := [.int (iI k), .int (iI 2)]) (rest := []) S hH hK hj hl.1 (mm_kindOf l G σ k 2 _ (by omega) (by omega) (by omega) (by omega)) (lw_V q1629 q1631 qs49 q109 q1632) kd_X4_kindOf rfl rfl dX4_suits_26) hH hA (fun H locs hH => ?_)
          refine lv_iload_n hx hb dX4_suits_29 rfl (lv_at hl 2 rfl) ?_
          refine n_ishr hx hb (r32 (by omega)) (by omega) (by omega) dX4_suits_30 ?_
          refine n_iconst hx hb dX4_suits_31 ?_
          refine n_and1 hx hb dX4_suits_32 ?_
          refine n_iconst hx hb dX4_suits_33 ?_
          refine n_icmp_ne (tgt := 39) hx hb (r32 (by omega)) (r32 (by omega)) dX4_suits_34 (by decide) (fun c_34 => ?_) (fun c_34 => ?_)
          · -- 34T
            refine n_iinc hx hb dX4_suits_39 hl (k := 3) rfl (Nat.le_of_ble_eq_true rfl) (lv' := [(3, .int (iI (k + 1))), (0, .ref (G.2.2 0)), (1, .int (iI s_)), (2, .int (iI b_))]) rfl (fun ls hl => ?_)
            refine lv_goto (tgt := 2) hx hb dX4_suits_42 (by decide) ?_
            have hl : lv_has ls 4 [(0, .ref (G.2.2 0)), (1, .int (iI s_)), (2, .int (iI b_)), (3, .int (iI (k + 1)))] := lv_sub hl [1, 2, 3, 0] rfl
            refine ih_2 (k + 1) ?_ ?_ ?_ ?_ _ _ _ hH hl
            · omega
            · omega
            · omega
            · rw [he, suN_e (by omega), if_neg (by omega)]
          · -- 34F
            refine n_iconst hx hb dX4_suits_37 ?_
            refine m_zret hx hb hr hlk hH dX4_suits_38 (Or.inr rfl) ?_
            exact ⟨by rw [suT, he, suN_e (by omega), if_pos (by omega)], rfl⟩
  refine n_iconst hx hb dX4_suits_0 ?_
  refine lv_istore_n hx hb dX4_suits_1 rfl hl (Nat.le_of_ble_eq_true rfl) (lv' := [(3, .int (iI 0)), (0, .ref (G.2.2 0)), (1, .int (iI s_)), (2, .int (iI b_))]) rfl (fun ls hl => ?_)
  have hl : lv_has ls 4 [(0, .ref (G.2.2 0)), (1, .int (iI s_)), (2, .int (iI b_)), (3, .int (iI 0))] := lv_sub hl [1, 2, 3, 0] rfl
  refine L2 20 0 ?_ ?_ ?_ ?_ _ _ _ hH hl
  · omega
  · omega
  · omega
  · rw [Int.sub_zero]
theorem kd_X4_fits : yX4_fits.cls = RX4 ∧ yX4_fits.cls ≠ "java/lang/invoke/MethodHandle" ∧ yX4_fits.cls ≠ "java/lang/invoke/VarHandle" ∧ (parseMethodDescriptor yX4_fits.desc).map (fun d => d.parameters.length) = some 3 := by decide +kernel
theorem mm_fits (l : Launch) (G : MG) (σ : St) (s_ : Int) (ht_ : Int) (mi_ : Int) (sz : Nat) (hs : R32 s_) (hh0 : 0 ≤ ht_) (hh1 : ht_ ≤ 7) (hm0 : 1 ≤ mi_) (hm1 : mi_ ≤ 255) (hI : KI (σ 2)) : Met l yX4_fits (ws_ yX4_fits cX4_fits 8 (some .boolean)) (rmD 3) (mP G [.ref (G.2.2 0), .int (iI s_), .int (iI ht_), .int (iI mi_)] σ sz) (mQi G σ sz (fun z σ' => z = (fitF (σ 2) s_ ht_ mi_) ∧ Sc σ σ')) 0 0 (mA G σ sz) := by
  refine m_start (by decide) (Nat.le_of_ble_eq_true rfl) ?_
  intro p e s m below meth c ⟨S, hr, hlk, hH, hK, hj, hsz, hnm⟩ ls hl
  subst hsz
  obtain ⟨hx, hb, hml, hown, hts⟩ := S
  have S : CallFix p m c _ _ s _ lw_all RX4 := ⟨hx, hb, hml, hown, hts⟩
  have hA : ∀ q, s.heap.size ≤ q → mA G σ s.heap.size q := fun q hq => Or.inr hq
  have hl : lv_has ls 8 [(0, .ref (G.2.2 0)), (1, .int (iI s_)), (2, .int (iI ht_)), (3, .int (iI mi_))] := hl
  have b0 := hI.c
  unfold kCnt at b0
  have hs := R32.n hs
  have hH := MH_to hH (τ := mx σ σ) mx_self.symm
  have L3 : ∀ (q : Nat) (τ : St) (k : Int), (hk0 : 0 ≤ k) → (hk1 : k ≤ σ 2 1754) → (hq : σ 2 1754 < (q : Int) + k) → (he : fiT (σ 2) s_ ht_ mi_ (σ 2 1754).toNat 0 = fiT (σ 2) s_ ht_ mi_ (σ 2 1754 - k).toNat k) → ∀ (H : Heap) (locs : List Loc) (ls : Array Slot), MH G (mA G σ s.heap.size) (mx σ τ) s.heap H locs → lv_has ls 8 [(0, .ref (G.2.2 0)), (1, .int (iI s_)), (2, .int (iI ht_)), (3, .int (iI mi_)), (4, .int (iI k))] → W p l e (rmD 3) s m ([.ref (G.2.2 0), .int (iI s_), .int (iI ht_), .int (iI mi_)] : List Value).toArray below meth c H locs 0 0 (MQ below (mQi G σ s.heap.size (fun z σ' => z = (fitF (σ 2) s_ ht_ mi_) ∧ Sc σ σ')) ([.ref (G.2.2 0), .int (iI s_), .int (iI ht_), .int (iI mi_)] : List Value).toArray s 0 0 (mA G σ s.heap.size)) (F0 m 3 ls []) := by
    intro q
    induction q with
    | zero => intro τ k hk0 hk1 hq he; exfalso; omega
    | succ q ih_3 =>
      intro τ k hk0 hk1 hq he H locs ls hH hl
      have L84 : ∀ (hd_ : Int), (hk2 : k < σ 2 1754) → (c1 : loA (σ 2) k 1 = 2) → (c6 : loA (σ 2) k 6 = 0) → (c7 : loA (σ 2) k 7 = 0) → (hhd : (hd_ = 1 ∧ (loA (σ 2) k 2 ≠ 0 ∨ loA (σ 2) k 3 ≠ 0)) ∨ (hd_ = 0 ∧ loA (σ 2) k 2 = 0 ∧ loA (σ 2) k 3 = 0)) → ∀ (H : Heap) (locs : List Loc) (ls : Array Slot), MH G (mA G σ s.heap.size) (mx σ (rwS σ τ (1224 + 10 * k))) s.heap H locs → lv_has ls 8 [(0, .ref (G.2.2 0)), (1, .int (iI s_)), (2, .int (iI ht_)), (3, .int (iI mi_)), (4, .int (iI k)), (5, .int (iI hd_))] → W p l e (rmD 3) s m ([.ref (G.2.2 0), .int (iI s_), .int (iI ht_), .int (iI mi_)] : List Value).toArray below meth c H locs 0 0 (MQ below (mQi G σ s.heap.size (fun z σ' => z = (fitF (σ 2) s_ ht_ mi_) ∧ Sc σ σ')) ([.ref (G.2.2 0), .int (iI s_), .int (iI ht_), .int (iI mi_)] : List Value).toArray s 0 0 (mA G σ s.heap.size)) (F0 m 84 ls []) := by
        intro hd_ hk2 c1 c6 c7 hhd H locs ls hH hl
        have hcl := (hI.o k hk0 hk2).1
        have hcs := (hI.o k hk0 hk2).2
        unfold caseOK at hcl
        have hcl : (0 ≤ loA (σ 2) k 0 ∧ loA (σ 2) k 0 ≤ 5) ∧ (0 ≤ loA (σ 2) k 1 ∧ loA (σ 2) k 1 ≤ 5) ∧ (0 ≤ loA (σ 2) k 2 ∧ loA (σ 2) k 2 ≤ 7) ∧ (0 ≤ loA (σ 2) k 3 ∧ loA (σ 2) k 3 ≤ 255) ∧ (0 ≤ loA (σ 2) k 4 ∧ loA (σ 2) k 4 ≤ 255) ∧ _ := hcl
        have L126 : ∀ (mo_ : Int), (hmo : (mo_ = 1 ∧ moP (loA (σ 2) k) ht_ mi_) ∨ (mo_ = 0 ∧ ¬ moP (loA (σ 2) k) ht_ mi_)) → ∀ (H : Heap) (locs : List Loc) (ls : Array Slot), MH G (mA G σ s.heap.size) (mx σ (rwS σ τ (1224 + 10 * k))) s.heap H locs → lv_has ls 8 [(0, .ref (G.2.2 0)), (1, .int (iI s_)), (2, .int (iI ht_)), (3, .int (iI mi_)), (4, .int (iI k)), (5, .int (iI hd_)), (6, .int (iI mo_))] → W p l e (rmD 3) s m ([.ref (G.2.2 0), .int (iI s_), .int (iI ht_), .int (iI mi_)] : List Value).toArray below meth c H locs 0 0 (MQ below (mQi G σ s.heap.size (fun z σ' => z = (fitF (σ 2) s_ ht_ mi_) ∧ Sc σ σ')) ([.ref (G.2.2 0), .int (iI s_), .int (iI ht_), .int (iI mi_)] : List Value).toArray s 0 0 (mA G σ s.heap.size)) (F0 m 126 ls []) := by
          intro mo_ hmo H locs ls hH hl
          have L168 : ∀ (le_ : Int), (hle : (le_ = 1 ∧ leP (loA (σ 2) k) ht_ mi_) ∨ (le_ = 0 ∧ ¬ leP (loA (σ 2) k) ht_ mi_)) → ∀ (H : Heap) (locs : List Loc) (ls : Array Slot), MH G (mA G σ s.heap.size) (mx σ (rwS σ τ (1224 + 10 * k))) s.heap H locs → lv_has ls 8 [(0, .ref (G.2.2 0)), (1, .int (iI s_)), (2, .int (iI ht_)), (3, .int (iI mi_)), (4, .int (iI k)), (5, .int (iI hd_)), (6, .int (iI mo_)), (7, .int (iI le_))] → W p l e (rmD 3) s m ([.ref (G.2.2 0), .int (iI s_), .int (iI ht_), .int (iI mi_)] : List Value).toArray below meth c H locs 0 0 (MQ below (mQi G σ s.heap.size (fun z σ' => z = (fitF (σ 2) s_ ht_ mi_) ∧ Sc σ σ')) ([.ref (G.2.2 0), .int (iI s_), .int (iI ht_), .int (iI mi_)] : List Value).toArray s 0 0 (mA G σ s.heap.size)) (F0 m 168 ls []) := by
            intro le_ hle H locs ls hH hl
            have hsu := suT_01 (σ 2) s_ (loA (σ 2) k 0)
            refine lv_iload hx hb dX4_fits_168 (lv_at hl 6 rfl) ?_
            refine n_if_eq (tgt := 199) hx hb (r32 (by omega)) dX4_fits_170 (by decide) (fun c_170 => ?_) (fun c_170 => ?_)
            · -- 170T
              refine lv_iload hx hb dX4_fits_199 (lv_at hl 7 rfl) ?_
              refine n_if_eq (tgt := 240) hx hb (r32 (by omega)) dX4_fits_201 (by decide) (fun c_201 => ?_) (fun c_201 => ?_)
              · -- 201T
                refine n_iinc hx hb dX4_fits_240 hl (k := 4) rfl (Nat.le_of_ble_eq_true rfl) (lv' := [(4, .int (iI (k + 1))), (0, .ref (G.2.2 0)), (1, .int (iI s_)), (2, .int (iI ht_)), (3, .int (iI mi_)), (5, .int (iI hd_)), (6, .int (iI mo_)), (7, .int (iI le_))]) rfl (fun ls hl => ?_)
                refine lv_goto (tgt := 3) hx hb dX4_fits_243 (by decide) ?_
                have hl : lv_has ls 8 [(0, .ref (G.2.2 0)), (1, .int (iI s_)), (2, .int (iI ht_)), (3, .int (iI mi_)), (4, .int (iI (k + 1)))] := lv_sub hl [1, 2, 3, 4, 0] rfl
                refine ih_3 (rwS σ τ (1224 + 10 * k)) (k + 1) ?_ ?_ ?_ ?_ _ _ _ hH hl
                · omega
                · omega
                · omega
                · rw [he, fiT_e (by omega), if_neg (by intro hu; omega)]
              · -- 201F
                refine lv_aload_n hx hb dX4_fits_204 rfl (lv_at hl 0 rfl) ?_
                refine lv_iload hx hb dX4_fits_205 (lv_at hl 4 rfl) ?_
                refine m_calliF (m_runV (As := [.int (iI k)]) (rest := []) S hH hK hj hl.1 (mm_seenAt l G (mx σ (rwS σ τ (1224 + 10 * k))) k _ (by omega) (by omega)) (lw_V q1872 q1874 qs89 q109 q1875) kd_X4_seenAt rfl rfl dX4_fits_207) hH hA (fun H locs hH => ?_)
                refine W.eq (g2 := F0 m 210 ls (.int (iI (σ 2 (1224 + 10 * k + 9))) :: [])) rfl ?_
                refine n_if_ne (tgt := 240) hx hb (r32 (by omega)) dX4_fits_210 (by decide) (fun c_210 => ?_) (fun c_210 => ?_)
                · -- 210T
                  refine n_iinc hx hb dX4_fits_240 hl (k := 4) rfl (Nat.le_of_ble_eq_true rfl) (lv' := [(4, .int (iI (k + 1))), (0, .ref (G.2.2 0)), (1, .int (iI s_)), (2, .int (iI ht_)), (3, .int (iI mi_)), (5, .int (iI hd_)), (6, .int (iI mo_)), (7, .int (iI le_))]) rfl (fun ls hl => ?_)
                  refine lv_goto (tgt := 3) hx hb dX4_fits_243 (by decide) ?_
                  have hl : lv_has ls 8 [(0, .ref (G.2.2 0)), (1, .int (iI s_)), (2, .int (iI ht_)), (3, .int (iI mi_)), (4, .int (iI (k + 1)))] := lv_sub hl [1, 2, 3, 4, 0] rfl
                  refine ih_3 (rwS σ τ (1224 + 10 * k)) (k + 1) ?_ ?_ ?_ ?_ _ _ _ hH hl
                  · omega
                  · omega
                  · omega
                  · rw [he, fiT_e (by omega), if_neg (by intro hu; omega)]
                · -- 210F
                  refine lv_aload_n hx hb dX4_fits_213 rfl (lv_at hl 0 rfl) ?_
                  refine m_get 5 (by decide) hx hb hts hown hK hj hH q1478 (fun _ h9 => h9) rfl dX4_fits_214 ?_
                  refine n_iconst hx hb dX4_fits_217 ?_
                  refine ml_5 hx hb hK hj hH (by omega) (by omega) dX4_fits_218 ?_
                  refine W.eq (g2 := F0 m 219 ls (.int (iI (loA (σ 2) k 4)) :: [])) (by rw [mx_rw5 (by decide) (by decide)]; rfl) ?_
                  refine n_bipush (z := 30) hx hb dX4_fits_219 (by decide) ?_
                  refine n_icmp_lt (tgt := 240) hx hb (r32 (by omega)) (r32 (by omega)) dX4_fits_221 (by decide) (fun c_221 => ?_) (fun c_221 => ?_)
                  · -- 221T
                    refine n_iinc hx hb dX4_fits_240 hl (k := 4) rfl (Nat.le_of_ble_eq_true rfl) (lv' := [(4, .int (iI (k + 1))), (0, .ref (G.2.2 0)), (1, .int (iI s_)), (2, .int (iI ht_)), (3, .int (iI mi_)), (5, .int (iI hd_)), (6, .int (iI mo_)), (7, .int (iI le_))]) rfl (fun ls hl => ?_)
                    refine lv_goto (tgt := 3) hx hb dX4_fits_243 (by decide) ?_
                    have hl : lv_has ls 8 [(0, .ref (G.2.2 0)), (1, .int (iI s_)), (2, .int (iI ht_)), (3, .int (iI mi_)), (4, .int (iI (k + 1)))] := lv_sub hl [1, 2, 3, 4, 0] rfl
                    refine ih_3 (rwS σ τ (1224 + 10 * k)) (k + 1) ?_ ?_ ?_ ?_ _ _ _ hH hl
                    · omega
                    · omega
                    · omega
                    · rw [he, fiT_e (by omega), if_neg (by intro hu; omega)]
                  · -- 221F
                    refine lv_aload_n hx hb dX4_fits_224 rfl (lv_at hl 0 rfl) ?_
                    refine lv_iload_n hx hb dX4_fits_225 rfl (lv_at hl 1 rfl) ?_
                    refine lv_aload_n hx hb dX4_fits_226 rfl (lv_at hl 0 rfl) ?_
                    refine m_get 5 (by decide) hx hb hts hown hK hj hH q1478 (fun _ h9 => h9) rfl dX4_fits_227 ?_
                    refine n_iconst hx hb dX4_fits_230 ?_
                    refine ml_5 hx hb hK hj hH (by omega) (by omega) dX4_fits_231 ?_
                    refine W.eq (g2 := F0 m 232 ls (.int (iI (loA (σ 2) k 0)) :: .int (iI s_) :: .ref (G.2.2 0) :: [])) (by rw [mx_rw5 (by decide) (by decide)]; rfl) ?_
                    refine m_calliF (m_runV (As := [.int (iI s_), .int (iI (loA (σ 2) k 0))]) (rest := []) S hH hK hj hl.1 (mm_suits l G (mx σ (rwS σ τ (1224 + 10 * k))) s_ (loA (σ 2) k 0) _ (r32 (by omega)) (by omega) (by omega) hI) (lw_V q1987 q1989 qs99 q109 q1990) kd_X4_suits rfl rfl dX4_fits_232) hH hA (fun H locs hH => ?_)
                    refine W.eq (g2 := F0 m 235 ls (.int (iI (suT (σ 2) s_ (loA (σ 2) k 0))) :: [])) rfl ?_
                    refine n_if_eq (tgt := 240) hx hb (r32 (by omega)) dX4_fits_235 (by decide) (fun c_235 => ?_) (fun c_235 => ?_)
                    · -- 235T
                      refine n_iinc hx hb dX4_fits_240 hl (k := 4) rfl (Nat.le_of_ble_eq_true rfl) (lv' := [(4, .int (iI (k + 1))), (0, .ref (G.2.2 0)), (1, .int (iI s_)), (2, .int (iI ht_)), (3, .int (iI mi_)), (5, .int (iI hd_)), (6, .int (iI mo_)), (7, .int (iI le_))]) rfl (fun ls hl => ?_)
                      refine lv_goto (tgt := 3) hx hb dX4_fits_243 (by decide) ?_
                      have hl : lv_has ls 8 [(0, .ref (G.2.2 0)), (1, .int (iI s_)), (2, .int (iI ht_)), (3, .int (iI mi_)), (4, .int (iI (k + 1)))] := lv_sub hl [1, 2, 3, 4, 0] rfl
                      refine ih_3 (rwS σ τ (1224 + 10 * k)) (k + 1) ?_ ?_ ?_ ?_ _ _ _ hH hl
                      · omega
                      · omega
                      · omega
                      · rw [he, fiT_e (by omega), if_neg (by intro hu; omega)]
                    · -- 235F
                      refine n_iconst hx hb dX4_fits_238 ?_
                      refine m_zret hx hb hr hlk hH dX4_fits_239 (Or.inl rfl) ?_
                      refine ⟨?_, mx_sc⟩
                      show _ = fitF _ _ _ _
                      rw [fitF, he, fiT_e (by omega), if_pos ⟨c1, c6, c7, by omega⟩]
            · -- 170F
              refine lv_aload_n hx hb dX4_fits_173 rfl (lv_at hl 0 rfl) ?_
              refine lv_iload hx hb dX4_fits_174 (lv_at hl 4 rfl) ?_
              refine m_calliF (m_runV (As := [.int (iI k)]) (rest := []) S hH hK hj hl.1 (mm_seenAt l G (mx σ (rwS σ τ (1224 + 10 * k))) k _ (by omega) (by omega)) (lw_V q1872 q1874 qs89 q109 q1875) kd_X4_seenAt rfl rfl dX4_fits_176) hH hA (fun H locs hH => ?_)
              refine W.eq (g2 := F0 m 179 ls (.int (iI (σ 2 (1224 + 10 * k + 9))) :: [])) rfl ?_
              refine n_iconst hx hb dX4_fits_179 ?_
              refine n_icmp_ne (tgt := 199) hx hb (r32 (by omega)) (r32 (by omega)) dX4_fits_180 (by decide) (fun c_180 => ?_) (fun c_180 => ?_)
              · -- 180T
                refine lv_iload hx hb dX4_fits_199 (lv_at hl 7 rfl) ?_
                refine n_if_eq (tgt := 240) hx hb (r32 (by omega)) dX4_fits_201 (by decide) (fun c_201 => ?_) (fun c_201 => ?_)
                · -- 201T
                  refine n_iinc hx hb dX4_fits_240 hl (k := 4) rfl (Nat.le_of_ble_eq_true rfl) (lv' := [(4, .int (iI (k + 1))), (0, .ref (G.2.2 0)), (1, .int (iI s_)), (2, .int (iI ht_)), (3, .int (iI mi_)), (5, .int (iI hd_)), (6, .int (iI mo_)), (7, .int (iI le_))]) rfl (fun ls hl => ?_)
                  refine lv_goto (tgt := 3) hx hb dX4_fits_243 (by decide) ?_
                  have hl : lv_has ls 8 [(0, .ref (G.2.2 0)), (1, .int (iI s_)), (2, .int (iI ht_)), (3, .int (iI mi_)), (4, .int (iI (k + 1)))] := lv_sub hl [1, 2, 3, 4, 0] rfl
                  refine ih_3 (rwS σ τ (1224 + 10 * k)) (k + 1) ?_ ?_ ?_ ?_ _ _ _ hH hl
                  · omega
                  · omega
                  · omega
                  · rw [he, fiT_e (by omega), if_neg (by intro hu; omega)]
                · -- 201F
                  refine lv_aload_n hx hb dX4_fits_204 rfl (lv_at hl 0 rfl) ?_
                  refine lv_iload hx hb dX4_fits_205 (lv_at hl 4 rfl) ?_
                  refine m_calliF (m_runV (As := [.int (iI k)]) (rest := []) S hH hK hj hl.1 (mm_seenAt l G (mx σ (rwS σ τ (1224 + 10 * k))) k _ (by omega) (by omega)) (lw_V q1872 q1874 qs89 q109 q1875) kd_X4_seenAt rfl rfl dX4_fits_207) hH hA (fun H locs hH => ?_)
                  refine W.eq (g2 := F0 m 210 ls (.int (iI (σ 2 (1224 + 10 * k + 9))) :: [])) rfl ?_
                  refine n_if_ne (tgt := 240) hx hb (r32 (by omega)) dX4_fits_210 (by decide) (fun c_210 => ?_) (fun c_210 => ?_)
                  · -- 210T
                    refine n_iinc hx hb dX4_fits_240 hl (k := 4) rfl (Nat.le_of_ble_eq_true rfl) (lv' := [(4, .int (iI (k + 1))), (0, .ref (G.2.2 0)), (1, .int (iI s_)), (2, .int (iI ht_)), (3, .int (iI mi_)), (5, .int (iI hd_)), (6, .int (iI mo_)), (7, .int (iI le_))]) rfl (fun ls hl => ?_)
                    refine lv_goto (tgt := 3) hx hb dX4_fits_243 (by decide) ?_
                    have hl : lv_has ls 8 [(0, .ref (G.2.2 0)), (1, .int (iI s_)), (2, .int (iI ht_)), (3, .int (iI mi_)), (4, .int (iI (k + 1)))] := lv_sub hl [1, 2, 3, 4, 0] rfl
                    refine ih_3 (rwS σ τ (1224 + 10 * k)) (k + 1) ?_ ?_ ?_ ?_ _ _ _ hH hl
                    · omega
                    · omega
                    · omega
                    · rw [he, fiT_e (by omega), if_neg (by intro hu; omega)]
                  · -- 210F
                    refine lv_aload_n hx hb dX4_fits_213 rfl (lv_at hl 0 rfl) ?_
                    refine m_get 5 (by decide) hx hb hts hown hK hj hH q1478 (fun _ h9 => h9) rfl dX4_fits_214 ?_
                    refine n_iconst hx hb dX4_fits_217 ?_
                    refine ml_5 hx hb hK hj hH (by omega) (by omega) dX4_fits_218 ?_
                    refine W.eq (g2 := F0 m 219 ls (.int (iI (loA (σ 2) k 4)) :: [])) (by rw [mx_rw5 (by decide) (by decide)]; rfl) ?_
                    refine n_bipush (z := 30) hx hb dX4_fits_219 (by decide) ?_
                    refine n_icmp_lt (tgt := 240) hx hb (r32 (by omega)) (r32 (by omega)) dX4_fits_221 (by decide) (fun c_221 => ?_) (fun c_221 => ?_)
                    · -- 221T
                      refine n_iinc hx hb dX4_fits_240 hl (k := 4) rfl (Nat.le_of_ble_eq_true rfl) (lv' := [(4, .int (iI (k + 1))), (0, .ref (G.2.2 0)), (1, .int (iI s_)), (2, .int (iI ht_)), (3, .int (iI mi_)), (5, .int (iI hd_)), (6, .int (iI mo_)), (7, .int (iI le_))]) rfl (fun ls hl => ?_)
                      refine lv_goto (tgt := 3) hx hb dX4_fits_243 (by decide) ?_
                      have hl : lv_has ls 8 [(0, .ref (G.2.2 0)), (1, .int (iI s_)), (2, .int (iI ht_)), (3, .int (iI mi_)), (4, .int (iI (k + 1)))] := lv_sub hl [1, 2, 3, 4, 0] rfl
                      refine ih_3 (rwS σ τ (1224 + 10 * k)) (k + 1) ?_ ?_ ?_ ?_ _ _ _ hH hl
                      · omega
                      · omega
                      · omega
                      · rw [he, fiT_e (by omega), if_neg (by intro hu; omega)]
                    · -- 221F
                      refine lv_aload_n hx hb dX4_fits_224 rfl (lv_at hl 0 rfl) ?_
                      refine lv_iload_n hx hb dX4_fits_225 rfl (lv_at hl 1 rfl) ?_
                      refine lv_aload_n hx hb dX4_fits_226 rfl (lv_at hl 0 rfl) ?_
                      refine m_get 5 (by decide) hx hb hts hown hK hj hH q1478 (fun _ h9 => h9) rfl dX4_fits_227 ?_
                      refine n_iconst hx hb dX4_fits_230 ?_
                      refine ml_5 hx hb hK hj hH (by omega) (by omega) dX4_fits_231 ?_
                      refine W.eq (g2 := F0 m 232 ls (.int (iI (loA (σ 2) k 0)) :: .int (iI s_) :: .ref (G.2.2 0) :: [])) (by rw [mx_rw5 (by decide) (by decide)]; rfl) ?_
                      refine m_calliF (m_runV (As := [.int (iI s_), .int (iI (loA (σ 2) k 0))]) (rest := []) S hH hK hj hl.1 (mm_suits l G (mx σ (rwS σ τ (1224 + 10 * k))) s_ (loA (σ 2) k 0) _ (r32 (by omega)) (by omega) (by omega) hI) (lw_V q1987 q1989 qs99 q109 q1990) kd_X4_suits rfl rfl dX4_fits_232) hH hA (fun H locs hH => ?_)
                      refine W.eq (g2 := F0 m 235 ls (.int (iI (suT (σ 2) s_ (loA (σ 2) k 0))) :: [])) rfl ?_
                      refine n_if_eq (tgt := 240) hx hb (r32 (by omega)) dX4_fits_235 (by decide) (fun c_235 => ?_) (fun c_235 => ?_)
                      · -- 235T
                        refine n_iinc hx hb dX4_fits_240 hl (k := 4) rfl (Nat.le_of_ble_eq_true rfl) (lv' := [(4, .int (iI (k + 1))), (0, .ref (G.2.2 0)), (1, .int (iI s_)), (2, .int (iI ht_)), (3, .int (iI mi_)), (5, .int (iI hd_)), (6, .int (iI mo_)), (7, .int (iI le_))]) rfl (fun ls hl => ?_)
                        refine lv_goto (tgt := 3) hx hb dX4_fits_243 (by decide) ?_
                        have hl : lv_has ls 8 [(0, .ref (G.2.2 0)), (1, .int (iI s_)), (2, .int (iI ht_)), (3, .int (iI mi_)), (4, .int (iI (k + 1)))] := lv_sub hl [1, 2, 3, 4, 0] rfl
                        refine ih_3 (rwS σ τ (1224 + 10 * k)) (k + 1) ?_ ?_ ?_ ?_ _ _ _ hH hl
                        · omega
                        · omega
                        · omega
                        · rw [he, fiT_e (by omega), if_neg (by intro hu; omega)]
                      · -- 235F
                        refine n_iconst hx hb dX4_fits_238 ?_
                        refine m_zret hx hb hr hlk hH dX4_fits_239 (Or.inl rfl) ?_
                        refine ⟨?_, mx_sc⟩
                        show _ = fitF _ _ _ _
                        rw [fitF, he, fiT_e (by omega), if_pos ⟨c1, c6, c7, by omega⟩]
              · -- 180F
                refine lv_aload_n hx hb dX4_fits_183 rfl (lv_at hl 0 rfl) ?_
                refine lv_iload_n hx hb dX4_fits_184 rfl (lv_at hl 1 rfl) ?_
                refine lv_aload_n hx hb dX4_fits_185 rfl (lv_at hl 0 rfl) ?_
                refine m_get 5 (by decide) hx hb hts hown hK hj hH q1478 (fun _ h9 => h9) rfl dX4_fits_186 ?_
                refine n_iconst hx hb dX4_fits_189 ?_
                refine ml_5 hx hb hK hj hH (by omega) (by omega) dX4_fits_190 ?_
                refine W.eq (g2 := F0 m 191 ls (.int (iI (loA (σ 2) k 0)) :: .int (iI s_) :: .ref (G.2.2 0) :: [])) (by rw [mx_rw5 (by decide) (by decide)]; rfl) ?_
                refine m_calliF (m_runV (As := [.int (iI s_), .int (iI (loA (σ 2) k 0))]) (rest := []) S hH hK hj hl.1 (mm_suits l G (mx σ (rwS σ τ (1224 + 10 * k))) s_ (loA (σ 2) k 0) _ (r32 (by omega)) (by omega) (by omega) hI) (lw_V q1987 q1989 qs99 q109 q1990) kd_X4_suits rfl rfl dX4_fits_191) hH hA (fun H locs hH => ?_)
                refine W.eq (g2 := F0 m 194 ls (.int (iI (suT (σ 2) s_ (loA (σ 2) k 0))) :: [])) rfl ?_
                refine n_if_ne (tgt := 199) hx hb (r32 (by omega)) dX4_fits_194 (by decide) (fun c_194 => ?_) (fun c_194 => ?_)
                · -- 194T
                  refine lv_iload hx hb dX4_fits_199 (lv_at hl 7 rfl) ?_
                  refine n_if_eq (tgt := 240) hx hb (r32 (by omega)) dX4_fits_201 (by decide) (fun c_201 => ?_) (fun c_201 => ?_)
                  · -- 201T
                    refine n_iinc hx hb dX4_fits_240 hl (k := 4) rfl (Nat.le_of_ble_eq_true rfl) (lv' := [(4, .int (iI (k + 1))), (0, .ref (G.2.2 0)), (1, .int (iI s_)), (2, .int (iI ht_)), (3, .int (iI mi_)), (5, .int (iI hd_)), (6, .int (iI mo_)), (7, .int (iI le_))]) rfl (fun ls hl => ?_)
                    refine lv_goto (tgt := 3) hx hb dX4_fits_243 (by decide) ?_
                    have hl : lv_has ls 8 [(0, .ref (G.2.2 0)), (1, .int (iI s_)), (2, .int (iI ht_)), (3, .int (iI mi_)), (4, .int (iI (k + 1)))] := lv_sub hl [1, 2, 3, 4, 0] rfl
                    refine ih_3 (rwS σ τ (1224 + 10 * k)) (k + 1) ?_ ?_ ?_ ?_ _ _ _ hH hl
                    · omega
                    · omega
                    · omega
                    · rw [he, fiT_e (by omega), if_neg (by intro hu; omega)]
                  · -- 201F
                    refine lv_aload_n hx hb dX4_fits_204 rfl (lv_at hl 0 rfl) ?_
                    refine lv_iload hx hb dX4_fits_205 (lv_at hl 4 rfl) ?_
                    refine m_calliF (m_runV (As := [.int (iI k)]) (rest := []) S hH hK hj hl.1 (mm_seenAt l G (mx σ (rwS σ τ (1224 + 10 * k))) k _ (by omega) (by omega)) (lw_V q1872 q1874 qs89 q109 q1875) kd_X4_seenAt rfl rfl dX4_fits_207) hH hA (fun H locs hH => ?_)
                    refine W.eq (g2 := F0 m 210 ls (.int (iI (σ 2 (1224 + 10 * k + 9))) :: [])) rfl ?_
                    refine n_if_ne (tgt := 240) hx hb (r32 (by omega)) dX4_fits_210 (by decide) (fun c_210 => ?_) (fun c_210 => ?_)
                    · -- 210T
                      refine n_iinc hx hb dX4_fits_240 hl (k := 4) rfl (Nat.le_of_ble_eq_true rfl) (lv' := [(4, .int (iI (k + 1))), (0, .ref (G.2.2 0)), (1, .int (iI s_)), (2, .int (iI ht_)), (3, .int (iI mi_)), (5, .int (iI hd_)), (6, .int (iI mo_)), (7, .int (iI le_))]) rfl (fun ls hl => ?_)
                      refine lv_goto (tgt := 3) hx hb dX4_fits_243 (by decide) ?_
                      have hl : lv_has ls 8 [(0, .ref (G.2.2 0)), (1, .int (iI s_)), (2, .int (iI ht_)), (3, .int (iI mi_)), (4, .int (iI (k + 1)))] := lv_sub hl [1, 2, 3, 4, 0] rfl
                      refine ih_3 (rwS σ τ (1224 + 10 * k)) (k + 1) ?_ ?_ ?_ ?_ _ _ _ hH hl
                      · omega
                      · omega
                      · omega
                      · rw [he, fiT_e (by omega), if_neg (by intro hu; omega)]
                    · -- 210F
                      refine lv_aload_n hx hb dX4_fits_213 rfl (lv_at hl 0 rfl) ?_
                      refine m_get 5 (by decide) hx hb hts hown hK hj hH q1478 (fun _ h9 => h9) rfl dX4_fits_214 ?_
                      refine n_iconst hx hb dX4_fits_217 ?_
                      refine ml_5 hx hb hK hj hH (by omega) (by omega) dX4_fits_218 ?_
                      refine W.eq (g2 := F0 m 219 ls (.int (iI (loA (σ 2) k 4)) :: [])) (by rw [mx_rw5 (by decide) (by decide)]; rfl) ?_
                      refine n_bipush (z := 30) hx hb dX4_fits_219 (by decide) ?_
                      refine n_icmp_lt (tgt := 240) hx hb (r32 (by omega)) (r32 (by omega)) dX4_fits_221 (by decide) (fun c_221 => ?_) (fun c_221 => ?_)
                      · -- 221T
                        refine n_iinc hx hb dX4_fits_240 hl (k := 4) rfl (Nat.le_of_ble_eq_true rfl) (lv' := [(4, .int (iI (k + 1))), (0, .ref (G.2.2 0)), (1, .int (iI s_)), (2, .int (iI ht_)), (3, .int (iI mi_)), (5, .int (iI hd_)), (6, .int (iI mo_)), (7, .int (iI le_))]) rfl (fun ls hl => ?_)
                        refine lv_goto (tgt := 3) hx hb dX4_fits_243 (by decide) ?_
                        have hl : lv_has ls 8 [(0, .ref (G.2.2 0)), (1, .int (iI s_)), (2, .int (iI ht_)), (3, .int (iI mi_)), (4, .int (iI (k + 1)))] := lv_sub hl [1, 2, 3, 4, 0] rfl
                        refine ih_3 (rwS σ τ (1224 + 10 * k)) (k + 1) ?_ ?_ ?_ ?_ _ _ _ hH hl
                        · omega
                        · omega
                        · omega
                        · rw [he, fiT_e (by omega), if_neg (by intro hu; omega)]
                      · -- 221F
                        refine lv_aload_n hx hb dX4_fits_224 rfl (lv_at hl 0 rfl) ?_
                        refine lv_iload_n hx hb dX4_fits_225 rfl (lv_at hl 1 rfl) ?_
                        refine lv_aload_n hx hb dX4_fits_226 rfl (lv_at hl 0 rfl) ?_
                        refine m_get 5 (by decide) hx hb hts hown hK hj hH q1478 (fun _ h9 => h9) rfl dX4_fits_227 ?_
                        refine n_iconst hx hb dX4_fits_230 ?_
                        refine ml_5 hx hb hK hj hH (by omega) (by omega) dX4_fits_231 ?_
                        refine W.eq (g2 := F0 m 232 ls (.int (iI (loA (σ 2) k 0)) :: .int (iI s_) :: .ref (G.2.2 0) :: [])) (by rw [mx_rw5 (by decide) (by decide)]; rfl) ?_
                        refine m_calliF (m_runV (As := [.int (iI s_), .int (iI (loA (σ 2) k 0))]) (rest := []) S hH hK hj hl.1 (mm_suits l G (mx σ (rwS σ τ (1224 + 10 * k))) s_ (loA (σ 2) k 0) _ (r32 (by omega)) (by omega) (by omega) hI) (lw_V q1987 q1989 qs99 q109 q1990) kd_X4_suits rfl rfl dX4_fits_232) hH hA (fun H locs hH => ?_)
                        refine W.eq (g2 := F0 m 235 ls (.int (iI (suT (σ 2) s_ (loA (σ 2) k 0))) :: [])) rfl ?_
                        refine n_if_eq (tgt := 240) hx hb (r32 (by omega)) dX4_fits_235 (by decide) (fun c_235 => ?_) (fun c_235 => ?_)
                        · exact absurd c_235 c_194
                        · -- 235F
                          refine n_iconst hx hb dX4_fits_238 ?_
                          refine m_zret hx hb hr hlk hH dX4_fits_239 (Or.inl rfl) ?_
                          refine ⟨?_, mx_sc⟩
                          show _ = fitF _ _ _ _
                          rw [fitF, he, fiT_e (by omega), if_pos ⟨c1, c6, c7, by omega⟩]
                · -- 194F
                  refine n_iconst hx hb dX4_fits_197 ?_
                  refine m_zret hx hb hr hlk hH dX4_fits_198 (Or.inl rfl) ?_
                  refine ⟨?_, mx_sc⟩
                  show _ = fitF _ _ _ _
                  rw [fitF, he, fiT_e (by omega), if_pos ⟨c1, c6, c7, by omega⟩]
          refine lv_iload hx hb dX4_fits_126 (lv_at hl 5 rfl) ?_
          refine n_if_eq (tgt := 161) hx hb (r32 (by omega)) dX4_fits_128 (by decide) (fun c_128 => ?_) (fun c_128 => ?_)
          · -- 128T
            refine n_iconst hx hb dX4_fits_161 ?_
            refine lv_goto (tgt := 166) hx hb dX4_fits_162 (by decide) ?_
            refine lv_istore hx hb dX4_fits_166 hl (Nat.le_of_ble_eq_true rfl) (lv' := [(7, .int (iI 1)), (0, .ref (G.2.2 0)), (1, .int (iI s_)), (2, .int (iI ht_)), (3, .int (iI mi_)), (4, .int (iI k)), (5, .int (iI hd_)), (6, .int (iI mo_))]) rfl (fun ls hl => ?_)
            have hl : lv_has ls 8 [(0, .ref (G.2.2 0)), (1, .int (iI s_)), (2, .int (iI ht_)), (3, .int (iI mi_)), (4, .int (iI k)), (5, .int (iI hd_)), (6, .int (iI mo_)), (7, .int (iI 1))] := lv_sub hl [1, 2, 3, 4, 5, 6, 7, 0] rfl
            refine L168 1 ?_ _ _ _ hH hl
            · omega
          · -- 128F
            refine lv_aload_n hx hb dX4_fits_131 rfl (lv_at hl 0 rfl) ?_
            refine m_get 5 (by decide) hx hb hts hown hK hj hH q1478 (fun _ h9 => h9) rfl dX4_fits_132 ?_
            refine n_iconst hx hb dX4_fits_135 ?_
            refine ml_5 hx hb hK hj hH (by omega) (by omega) dX4_fits_136 ?_
            refine W.eq (g2 := F0 m 137 ls (.int (iI (loA (σ 2) k 2)) :: [])) (by rw [mx_rw5 (by decide) (by decide)]; rfl) ?_
            refine lv_iload_n hx hb dX4_fits_137 rfl (lv_at hl 2 rfl) ?_
            refine n_icmp_lt (tgt := 161) hx hb (r32 (by omega)) (r32 (by omega)) dX4_fits_138 (by decide) (fun c_138 => ?_) (fun c_138 => ?_)
            · -- 138T
              refine n_iconst hx hb dX4_fits_161 ?_
              refine lv_goto (tgt := 166) hx hb dX4_fits_162 (by decide) ?_
              refine lv_istore hx hb dX4_fits_166 hl (Nat.le_of_ble_eq_true rfl) (lv' := [(7, .int (iI 1)), (0, .ref (G.2.2 0)), (1, .int (iI s_)), (2, .int (iI ht_)), (3, .int (iI mi_)), (4, .int (iI k)), (5, .int (iI hd_)), (6, .int (iI mo_))]) rfl (fun ls hl => ?_)
              have hl : lv_has ls 8 [(0, .ref (G.2.2 0)), (1, .int (iI s_)), (2, .int (iI ht_)), (3, .int (iI mi_)), (4, .int (iI k)), (5, .int (iI hd_)), (6, .int (iI mo_)), (7, .int (iI 1))] := lv_sub hl [1, 2, 3, 4, 5, 6, 7, 0] rfl
              refine L168 1 ?_ _ _ _ hH hl
              · omega
            · -- 138F
              refine lv_aload_n hx hb dX4_fits_141 rfl (lv_at hl 0 rfl) ?_
              refine m_get 5 (by decide) hx hb hts hown hK hj hH q1478 (fun _ h9 => h9) rfl dX4_fits_142 ?_
              refine n_iconst hx hb dX4_fits_145 ?_
              refine ml_5 hx hb hK hj hH (by omega) (by omega) dX4_fits_146 ?_
              refine W.eq (g2 := F0 m 147 ls (.int (iI (loA (σ 2) k 2)) :: [])) (by rw [mx_rw5 (by decide) (by decide)]; rfl) ?_
              refine lv_iload_n hx hb dX4_fits_147 rfl (lv_at hl 2 rfl) ?_
              refine n_icmp_ne (tgt := 165) hx hb (r32 (by omega)) (r32 (by omega)) dX4_fits_148 (by decide) (fun c_148 => ?_) (fun c_148 => ?_)
              · -- 148T
                refine n_iconst hx hb dX4_fits_165 ?_
                refine lv_istore hx hb dX4_fits_166 hl (Nat.le_of_ble_eq_true rfl) (lv' := [(7, .int (iI 0)), (0, .ref (G.2.2 0)), (1, .int (iI s_)), (2, .int (iI ht_)), (3, .int (iI mi_)), (4, .int (iI k)), (5, .int (iI hd_)), (6, .int (iI mo_))]) rfl (fun ls hl => ?_)
                have hl : lv_has ls 8 [(0, .ref (G.2.2 0)), (1, .int (iI s_)), (2, .int (iI ht_)), (3, .int (iI mi_)), (4, .int (iI k)), (5, .int (iI hd_)), (6, .int (iI mo_)), (7, .int (iI 0))] := lv_sub hl [1, 2, 3, 4, 5, 6, 7, 0] rfl
                refine L168 0 ?_ _ _ _ hH hl
                · omega
              · -- 148F
                refine lv_aload_n hx hb dX4_fits_151 rfl (lv_at hl 0 rfl) ?_
                refine m_get 5 (by decide) hx hb hts hown hK hj hH q1478 (fun _ h9 => h9) rfl dX4_fits_152 ?_
                refine n_iconst hx hb dX4_fits_155 ?_
                refine ml_5 hx hb hK hj hH (by omega) (by omega) dX4_fits_156 ?_
                refine W.eq (g2 := F0 m 157 ls (.int (iI (loA (σ 2) k 3)) :: [])) (by rw [mx_rw5 (by decide) (by decide)]; rfl) ?_
                refine lv_iload_n hx hb dX4_fits_157 rfl (lv_at hl 3 rfl) ?_
                refine n_icmp_gt (tgt := 165) hx hb (r32 (by omega)) (r32 (by omega)) dX4_fits_158 (by decide) (fun c_158 => ?_) (fun c_158 => ?_)
                · -- 158T
                  refine n_iconst hx hb dX4_fits_165 ?_
                  refine lv_istore hx hb dX4_fits_166 hl (Nat.le_of_ble_eq_true rfl) (lv' := [(7, .int (iI 0)), (0, .ref (G.2.2 0)), (1, .int (iI s_)), (2, .int (iI ht_)), (3, .int (iI mi_)), (4, .int (iI k)), (5, .int (iI hd_)), (6, .int (iI mo_))]) rfl (fun ls hl => ?_)
                  have hl : lv_has ls 8 [(0, .ref (G.2.2 0)), (1, .int (iI s_)), (2, .int (iI ht_)), (3, .int (iI mi_)), (4, .int (iI k)), (5, .int (iI hd_)), (6, .int (iI mo_)), (7, .int (iI 0))] := lv_sub hl [1, 2, 3, 4, 5, 6, 7, 0] rfl
                  refine L168 0 ?_ _ _ _ hH hl
                  · omega
                · -- 158F
                  refine n_iconst hx hb dX4_fits_161 ?_
                  refine lv_goto (tgt := 166) hx hb dX4_fits_162 (by decide) ?_
                  refine lv_istore hx hb dX4_fits_166 hl (Nat.le_of_ble_eq_true rfl) (lv' := [(7, .int (iI 1)), (0, .ref (G.2.2 0)), (1, .int (iI s_)), (2, .int (iI ht_)), (3, .int (iI mi_)), (4, .int (iI k)), (5, .int (iI hd_)), (6, .int (iI mo_))]) rfl (fun ls hl => ?_)
                  have hl : lv_has ls 8 [(0, .ref (G.2.2 0)), (1, .int (iI s_)), (2, .int (iI ht_)), (3, .int (iI mi_)), (4, .int (iI k)), (5, .int (iI hd_)), (6, .int (iI mo_)), (7, .int (iI 1))] := lv_sub hl [1, 2, 3, 4, 5, 6, 7, 0] rfl
                  refine L168 1 ?_ _ _ _ hH hl
                  · omega
        refine lv_iload hx hb dX4_fits_84 (lv_at hl 5 rfl) ?_
        refine n_if_eq (tgt := 123) hx hb (r32 (by omega)) dX4_fits_86 (by decide) (fun c_86 => ?_) (fun c_86 => ?_)
        · -- 86T
          refine n_iconst hx hb dX4_fits_123 ?_
          refine lv_istore hx hb dX4_fits_124 hl (Nat.le_of_ble_eq_true rfl) (lv' := [(6, .int (iI 0)), (0, .ref (G.2.2 0)), (1, .int (iI s_)), (2, .int (iI ht_)), (3, .int (iI mi_)), (4, .int (iI k)), (5, .int (iI hd_))]) rfl (fun ls hl => ?_)
          have hl : lv_has ls 8 [(0, .ref (G.2.2 0)), (1, .int (iI s_)), (2, .int (iI ht_)), (3, .int (iI mi_)), (4, .int (iI k)), (5, .int (iI hd_)), (6, .int (iI 0))] := lv_sub hl [1, 2, 3, 4, 5, 6, 0] rfl
          refine L126 0 ?_ _ _ _ hH hl
          · omega
        · -- 86F
          refine lv_aload_n hx hb dX4_fits_89 rfl (lv_at hl 0 rfl) ?_
          refine m_get 5 (by decide) hx hb hts hown hK hj hH q1478 (fun _ h9 => h9) rfl dX4_fits_90 ?_
          refine n_iconst hx hb dX4_fits_93 ?_
          refine ml_5 hx hb hK hj hH (by omega) (by omega) dX4_fits_94 ?_
          refine W.eq (g2 := F0 m 95 ls (.int (iI (loA (σ 2) k 2)) :: [])) (by rw [mx_rw5 (by decide) (by decide)]; rfl) ?_
          refine lv_iload_n hx hb dX4_fits_95 rfl (lv_at hl 2 rfl) ?_
          refine n_icmp_gt (tgt := 119) hx hb (r32 (by omega)) (r32 (by omega)) dX4_fits_96 (by decide) (fun c_96 => ?_) (fun c_96 => ?_)
          · -- 96T
            refine n_iconst hx hb dX4_fits_119 ?_
            refine lv_goto (tgt := 124) hx hb dX4_fits_120 (by decide) ?_
            refine lv_istore hx hb dX4_fits_124 hl (Nat.le_of_ble_eq_true rfl) (lv' := [(6, .int (iI 1)), (0, .ref (G.2.2 0)), (1, .int (iI s_)), (2, .int (iI ht_)), (3, .int (iI mi_)), (4, .int (iI k)), (5, .int (iI hd_))]) rfl (fun ls hl => ?_)
            have hl : lv_has ls 8 [(0, .ref (G.2.2 0)), (1, .int (iI s_)), (2, .int (iI ht_)), (3, .int (iI mi_)), (4, .int (iI k)), (5, .int (iI hd_)), (6, .int (iI 1))] := lv_sub hl [1, 2, 3, 4, 5, 6, 0] rfl
            refine L126 1 ?_ _ _ _ hH hl
            · omega
          · -- 96F
            refine lv_aload_n hx hb dX4_fits_99 rfl (lv_at hl 0 rfl) ?_
            refine m_get 5 (by decide) hx hb hts hown hK hj hH q1478 (fun _ h9 => h9) rfl dX4_fits_100 ?_
            refine n_iconst hx hb dX4_fits_103 ?_
            refine ml_5 hx hb hK hj hH (by omega) (by omega) dX4_fits_104 ?_
            refine W.eq (g2 := F0 m 105 ls (.int (iI (loA (σ 2) k 2)) :: [])) (by rw [mx_rw5 (by decide) (by decide)]; rfl) ?_
            refine lv_iload_n hx hb dX4_fits_105 rfl (lv_at hl 2 rfl) ?_
            refine n_icmp_ne (tgt := 123) hx hb (r32 (by omega)) (r32 (by omega)) dX4_fits_106 (by decide) (fun c_106 => ?_) (fun c_106 => ?_)
            · -- 106T
              refine n_iconst hx hb dX4_fits_123 ?_
              refine lv_istore hx hb dX4_fits_124 hl (Nat.le_of_ble_eq_true rfl) (lv' := [(6, .int (iI 0)), (0, .ref (G.2.2 0)), (1, .int (iI s_)), (2, .int (iI ht_)), (3, .int (iI mi_)), (4, .int (iI k)), (5, .int (iI hd_))]) rfl (fun ls hl => ?_)
              have hl : lv_has ls 8 [(0, .ref (G.2.2 0)), (1, .int (iI s_)), (2, .int (iI ht_)), (3, .int (iI mi_)), (4, .int (iI k)), (5, .int (iI hd_)), (6, .int (iI 0))] := lv_sub hl [1, 2, 3, 4, 5, 6, 0] rfl
              refine L126 0 ?_ _ _ _ hH hl
              · omega
            · -- 106F
              refine lv_aload_n hx hb dX4_fits_109 rfl (lv_at hl 0 rfl) ?_
              refine m_get 5 (by decide) hx hb hts hown hK hj hH q1478 (fun _ h9 => h9) rfl dX4_fits_110 ?_
              refine n_iconst hx hb dX4_fits_113 ?_
              refine ml_5 hx hb hK hj hH (by omega) (by omega) dX4_fits_114 ?_
              refine W.eq (g2 := F0 m 115 ls (.int (iI (loA (σ 2) k 3)) :: [])) (by rw [mx_rw5 (by decide) (by decide)]; rfl) ?_
              refine lv_iload_n hx hb dX4_fits_115 rfl (lv_at hl 3 rfl) ?_
              refine n_icmp_lt (tgt := 123) hx hb (r32 (by omega)) (r32 (by omega)) dX4_fits_116 (by decide) (fun c_116 => ?_) (fun c_116 => ?_)
              · -- 116T
                refine n_iconst hx hb dX4_fits_123 ?_
                refine lv_istore hx hb dX4_fits_124 hl (Nat.le_of_ble_eq_true rfl) (lv' := [(6, .int (iI 0)), (0, .ref (G.2.2 0)), (1, .int (iI s_)), (2, .int (iI ht_)), (3, .int (iI mi_)), (4, .int (iI k)), (5, .int (iI hd_))]) rfl (fun ls hl => ?_)
                have hl : lv_has ls 8 [(0, .ref (G.2.2 0)), (1, .int (iI s_)), (2, .int (iI ht_)), (3, .int (iI mi_)), (4, .int (iI k)), (5, .int (iI hd_)), (6, .int (iI 0))] := lv_sub hl [1, 2, 3, 4, 5, 6, 0] rfl
                refine L126 0 ?_ _ _ _ hH hl
                · omega
              · -- 116F
                refine n_iconst hx hb dX4_fits_119 ?_
                refine lv_goto (tgt := 124) hx hb dX4_fits_120 (by decide) ?_
                refine lv_istore hx hb dX4_fits_124 hl (Nat.le_of_ble_eq_true rfl) (lv' := [(6, .int (iI 1)), (0, .ref (G.2.2 0)), (1, .int (iI s_)), (2, .int (iI ht_)), (3, .int (iI mi_)), (4, .int (iI k)), (5, .int (iI hd_))]) rfl (fun ls hl => ?_)
                have hl : lv_has ls 8 [(0, .ref (G.2.2 0)), (1, .int (iI s_)), (2, .int (iI ht_)), (3, .int (iI mi_)), (4, .int (iI k)), (5, .int (iI hd_)), (6, .int (iI 1))] := lv_sub hl [1, 2, 3, 4, 5, 6, 0] rfl
                refine L126 1 ?_ _ _ _ hH hl
                · omega
      refine lv_iload hx hb dX4_fits_3 (lv_at hl 4 rfl) ?_
      refine lv_aload_n hx hb dX4_fits_5 rfl (lv_at hl 0 rfl) ?_
      refine m_get 2 (by decide) hx hb hts hown hK hj hH q1475 (fun _ h9 => h9) rfl dX4_fits_6 ?_
      refine n_sipush (z := 1754) hx hb dX4_fits_9 (by decide) ?_
      refine ml_2 hx hb hK hj hH (by omega) (by omega) dX4_fits_12 ?_
      refine W.eq (g2 := F0 m 13 ls (.int (iI (σ 2 1754)) :: .int (iI k) :: [])) rfl ?_
      refine n_icmp_ge (tgt := 246) hx hb (r32 (by omega)) (r32 (by omega)) dX4_fits_13 (by decide) (fun c_13 => ?_) (fun c_13 => ?_)
      · -- 13T
        refine n_iconst hx hb dX4_fits_246 ?_
        refine m_zret hx hb hr hlk hH dX4_fits_247 (Or.inr rfl) ?_
        refine ⟨?_, mx_sc⟩
        show _ = fitF _ _ _ _
        rw [fitF, he, show (σ 2 1754 - k).toNat = 0 by omega, fiT]
      · -- 13F
        have hcl := (hI.o k hk0 (by omega)).1
        unfold caseOK at hcl
        have hcl : (0 ≤ loA (σ 2) k 0 ∧ loA (σ 2) k 0 ≤ 5) ∧ (0 ≤ loA (σ 2) k 1 ∧ loA (σ 2) k 1 ≤ 5) ∧ (0 ≤ loA (σ 2) k 2 ∧ loA (σ 2) k 2 ≤ 7) ∧ (0 ≤ loA (σ 2) k 3 ∧ loA (σ 2) k 3 ≤ 255) ∧ (0 ≤ loA (σ 2) k 4 ∧ loA (σ 2) k 4 ≤ 255) ∧ (0 ≤ loA (σ 2) k 5 ∧ loA (σ 2) k 5 ≤ 11) ∧ (0 ≤ loA (σ 2) k 6 ∧ loA (σ 2) k 6 ≤ 255) ∧ (0 ≤ loA (σ 2) k 7 ∧ loA (σ 2) k 7 ≤ 1) ∧ _ := hcl
        refine lv_aload_n hx hb dX4_fits_16 rfl (lv_at hl 0 rfl) ?_
        refine lv_aload_n hx hb dX4_fits_17 rfl (lv_at hl 0 rfl) ?_
        refine lv_iload hx hb dX4_fits_18 (lv_at hl 4 rfl) ?_
        refine m_calliF (m_runV (As := [.int (iI k)]) (rest := [.ref (G.2.2 0)]) S hH hK hj hl.1 (mm_lookAt l G (mx σ τ) k _ ) (lw_V q1682 q1684 qs54 q109 q1685) kd_X4_lookAt rfl rfl dX4_fits_20) hH hA (fun H locs hH => ?_)
        refine m_callvF (m_runV (As := [.int (iI (1224 + 10 * k))]) (rest := []) S hH hK hj hl.1 (mm_takesRow l G (mx σ τ) (1224 + 10 * k) _ (by omega) (by omega)) (lw_V q1811 q1813 qs75 q109 q1814) kd_X4_takesRow rfl rfl dX4_fits_23) hH hA (fun H locs hH => ?_)
        have hH := MH_to hH (τ := mx σ (rwS σ τ (1224 + 10 * k))) mx_row
        refine lv_aload_n hx hb dX4_fits_26 rfl (lv_at hl 0 rfl) ?_
        refine m_get 5 (by decide) hx hb hts hown hK hj hH q1478 (fun _ h9 => h9) rfl dX4_fits_27 ?_
        refine n_iconst hx hb dX4_fits_30 ?_
        refine ml_5 hx hb hK hj hH (by omega) (by omega) dX4_fits_31 ?_
        refine W.eq (g2 := F0 m 32 ls (.int (iI (loA (σ 2) k 1)) :: [])) (by rw [mx_rw5 (by decide) (by decide)]; rfl) ?_
        refine n_iconst hx hb dX4_fits_32 ?_
        refine n_icmp_ne (tgt := 240) hx hb (r32 (by omega)) (r32 (by omega)) dX4_fits_33 (by decide) (fun c_33 => ?_) (fun c_33 => ?_)
        · -- 33T
          refine n_iinc hx hb dX4_fits_240 hl (k := 4) rfl (Nat.le_of_ble_eq_true rfl) (lv' := [(4, .int (iI (k + 1))), (0, .ref (G.2.2 0)), (1, .int (iI s_)), (2, .int (iI ht_)), (3, .int (iI mi_))]) rfl (fun ls hl => ?_)
          refine lv_goto (tgt := 3) hx hb dX4_fits_243 (by decide) ?_
          have hl : lv_has ls 8 [(0, .ref (G.2.2 0)), (1, .int (iI s_)), (2, .int (iI ht_)), (3, .int (iI mi_)), (4, .int (iI (k + 1)))] := lv_sub hl [1, 2, 3, 4, 0] rfl
          refine ih_3 (rwS σ τ (1224 + 10 * k)) (k + 1) ?_ ?_ ?_ ?_ _ _ _ hH hl
          · omega
          · omega
          · omega
          · rw [he, fiT_e (by omega), if_neg (by intro hu; omega)]
        · -- 33F
          refine lv_aload_n hx hb dX4_fits_36 rfl (lv_at hl 0 rfl) ?_
          refine m_get 5 (by decide) hx hb hts hown hK hj hH q1478 (fun _ h9 => h9) rfl dX4_fits_37 ?_
          refine n_bipush (z := 6) hx hb dX4_fits_40 (by decide) ?_
          refine ml_5 hx hb hK hj hH (by omega) (by omega) dX4_fits_42 ?_
          refine W.eq (g2 := F0 m 43 ls (.int (iI (loA (σ 2) k 6)) :: [])) (by rw [mx_rw5 (by decide) (by decide)]; rfl) ?_
          refine n_if_ne (tgt := 240) hx hb (r32 (by omega)) dX4_fits_43 (by decide) (fun c_43 => ?_) (fun c_43 => ?_)
          · -- 43T
            refine n_iinc hx hb dX4_fits_240 hl (k := 4) rfl (Nat.le_of_ble_eq_true rfl) (lv' := [(4, .int (iI (k + 1))), (0, .ref (G.2.2 0)), (1, .int (iI s_)), (2, .int (iI ht_)), (3, .int (iI mi_))]) rfl (fun ls hl => ?_)
            refine lv_goto (tgt := 3) hx hb dX4_fits_243 (by decide) ?_
            have hl : lv_has ls 8 [(0, .ref (G.2.2 0)), (1, .int (iI s_)), (2, .int (iI ht_)), (3, .int (iI mi_)), (4, .int (iI (k + 1)))] := lv_sub hl [1, 2, 3, 4, 0] rfl
            refine ih_3 (rwS σ τ (1224 + 10 * k)) (k + 1) ?_ ?_ ?_ ?_ _ _ _ hH hl
            · omega
            · omega
            · omega
            · rw [he, fiT_e (by omega), if_neg (by intro hu; omega)]
          · -- 43F
            refine lv_aload_n hx hb dX4_fits_46 rfl (lv_at hl 0 rfl) ?_
            refine m_get 5 (by decide) hx hb hts hown hK hj hH q1478 (fun _ h9 => h9) rfl dX4_fits_47 ?_
            refine n_bipush (z := 7) hx hb dX4_fits_50 (by decide) ?_
            refine ml_5 hx hb hK hj hH (by omega) (by omega) dX4_fits_52 ?_
            refine W.eq (g2 := F0 m 53 ls (.int (iI (loA (σ 2) k 7)) :: [])) (by rw [mx_rw5 (by decide) (by decide)]; rfl) ?_
            refine n_if_eq (tgt := 59) hx hb (r32 (by omega)) dX4_fits_53 (by decide) (fun c_53 => ?_) (fun c_53 => ?_)
            · -- 53T
              refine lv_aload_n hx hb dX4_fits_59 rfl (lv_at hl 0 rfl) ?_
              refine m_get 5 (by decide) hx hb hts hown hK hj hH q1478 (fun _ h9 => h9) rfl dX4_fits_60 ?_
              refine n_iconst hx hb dX4_fits_63 ?_
              refine ml_5 hx hb hK hj hH (by omega) (by omega) dX4_fits_64 ?_
              refine W.eq (g2 := F0 m 65 ls (.int (iI (loA (σ 2) k 2)) :: [])) (by rw [mx_rw5 (by decide) (by decide)]; rfl) ?_
              refine n_if_ne (tgt := 77) hx hb (r32 (by omega)) dX4_fits_65 (by decide) (fun c_65 => ?_) (fun c_65 => ?_)
              · -- 65T
                refine n_iconst hx hb dX4_fits_77 ?_
                refine lv_goto (tgt := 82) hx hb dX4_fits_78 (by decide) ?_
                refine lv_istore hx hb dX4_fits_82 hl (Nat.le_of_ble_eq_true rfl) (lv' := [(5, .int (iI 1)), (0, .ref (G.2.2 0)), (1, .int (iI s_)), (2, .int (iI ht_)), (3, .int (iI mi_)), (4, .int (iI k))]) rfl (fun ls hl => ?_)
                have hl : lv_has ls 8 [(0, .ref (G.2.2 0)), (1, .int (iI s_)), (2, .int (iI ht_)), (3, .int (iI mi_)), (4, .int (iI k)), (5, .int (iI 1))] := lv_sub hl [1, 2, 3, 4, 5, 0] rfl
                refine L84 1 ?_ ?_ ?_ ?_ ?_ _ _ _ hH hl
                · omega
                · omega
                · omega
                · omega
                · omega
              · -- 65F
                refine lv_aload_n hx hb dX4_fits_68 rfl (lv_at hl 0 rfl) ?_
                refine m_get 5 (by decide) hx hb hts hown hK hj hH q1478 (fun _ h9 => h9) rfl dX4_fits_69 ?_
                refine n_iconst hx hb dX4_fits_72 ?_
                refine ml_5 hx hb hK hj hH (by omega) (by omega) dX4_fits_73 ?_
                refine W.eq (g2 := F0 m 74 ls (.int (iI (loA (σ 2) k 3)) :: [])) (by rw [mx_rw5 (by decide) (by decide)]; rfl) ?_
                refine n_if_eq (tgt := 81) hx hb (r32 (by omega)) dX4_fits_74 (by decide) (fun c_74 => ?_) (fun c_74 => ?_)
                · -- 74T
                  refine n_iconst hx hb dX4_fits_81 ?_
                  refine lv_istore hx hb dX4_fits_82 hl (Nat.le_of_ble_eq_true rfl) (lv' := [(5, .int (iI 0)), (0, .ref (G.2.2 0)), (1, .int (iI s_)), (2, .int (iI ht_)), (3, .int (iI mi_)), (4, .int (iI k))]) rfl (fun ls hl => ?_)
                  have hl : lv_has ls 8 [(0, .ref (G.2.2 0)), (1, .int (iI s_)), (2, .int (iI ht_)), (3, .int (iI mi_)), (4, .int (iI k)), (5, .int (iI 0))] := lv_sub hl [1, 2, 3, 4, 5, 0] rfl
                  refine L84 0 ?_ ?_ ?_ ?_ ?_ _ _ _ hH hl
                  · omega
                  · omega
                  · omega
                  · omega
                  · omega
                · -- 74F
                  refine n_iconst hx hb dX4_fits_77 ?_
                  refine lv_goto (tgt := 82) hx hb dX4_fits_78 (by decide) ?_
                  refine lv_istore hx hb dX4_fits_82 hl (Nat.le_of_ble_eq_true rfl) (lv' := [(5, .int (iI 1)), (0, .ref (G.2.2 0)), (1, .int (iI s_)), (2, .int (iI ht_)), (3, .int (iI mi_)), (4, .int (iI k))]) rfl (fun ls hl => ?_)
                  have hl : lv_has ls 8 [(0, .ref (G.2.2 0)), (1, .int (iI s_)), (2, .int (iI ht_)), (3, .int (iI mi_)), (4, .int (iI k)), (5, .int (iI 1))] := lv_sub hl [1, 2, 3, 4, 5, 0] rfl
                  refine L84 1 ?_ ?_ ?_ ?_ ?_ _ _ _ hH hl
                  · omega
                  · omega
                  · omega
                  · omega
                  · omega
            · -- 53F
              refine lv_goto (tgt := 240) hx hb dX4_fits_56 (by decide) ?_
              refine n_iinc hx hb dX4_fits_240 hl (k := 4) rfl (Nat.le_of_ble_eq_true rfl) (lv' := [(4, .int (iI (k + 1))), (0, .ref (G.2.2 0)), (1, .int (iI s_)), (2, .int (iI ht_)), (3, .int (iI mi_))]) rfl (fun ls hl => ?_)
              refine lv_goto (tgt := 3) hx hb dX4_fits_243 (by decide) ?_
              have hl : lv_has ls 8 [(0, .ref (G.2.2 0)), (1, .int (iI s_)), (2, .int (iI ht_)), (3, .int (iI mi_)), (4, .int (iI (k + 1)))] := lv_sub hl [1, 2, 3, 4, 0] rfl
              refine ih_3 (rwS σ τ (1224 + 10 * k)) (k + 1) ?_ ?_ ?_ ?_ _ _ _ hH hl
              · omega
              · omega
              · omega
              · rw [he, fiT_e (by omega), if_neg (by intro hu; omega)]
  refine n_iconst hx hb dX4_fits_0 ?_
  refine lv_istore hx hb dX4_fits_1 hl (Nat.le_of_ble_eq_true rfl) (lv' := [(4, .int (iI 0)), (0, .ref (G.2.2 0)), (1, .int (iI s_)), (2, .int (iI ht_)), (3, .int (iI mi_))]) rfl (fun ls hl => ?_)
  have hl : lv_has ls 8 [(0, .ref (G.2.2 0)), (1, .int (iI s_)), (2, .int (iI ht_)), (3, .int (iI mi_)), (4, .int (iI 0))] := lv_sub hl [1, 2, 3, 4, 0] rfl
  refine L3 50 σ 0 ?_ ?_ ?_ ?_ _ _ _ hH hl
  · omega
  · omega
  · omega
  · rw [Int.sub_zero]
theorem kd_X4_outlive : yX4_outlive.cls = RX4 ∧ yX4_outlive.cls ≠ "java/lang/invoke/MethodHandle" ∧ yX4_outlive.cls ≠ "java/lang/invoke/VarHandle" ∧ (parseMethodDescriptor yX4_outlive.desc).map (fun d => d.parameters.length) = some 3 := by decide +kernel
theorem mm_outlive (l : Launch) (G : MG) (σ : St) (ht_ : Int) (mi_ : Int) (w_ : Int) (sz : Nat) (h_ht_ : R32 ht_) (h_mi_ : R32 mi_) (h_w_ : R32 w_) (hI : KI (σ 2)) : Met l yX4_outlive (ws_ yX4_outlive cX4_outlive 8 (some .int)) (rmD 4) (mP G [.ref (G.2.2 0), .int (iI ht_), .int (iI mi_), .int (iI w_)] σ sz) (mQi G σ sz (fun z σ' => z = (olvF (σ 2) ht_ mi_ w_) ∧ Sc σ σ')) 0 0 (mA G σ sz) := by
  refine m_start (by decide) (Nat.le_of_ble_eq_true rfl) ?_
  intro p e s m below meth c ⟨S, hr, hlk, hH, hK, hj, hsz, hnm⟩ ls hl
  subst hsz
  obtain ⟨hx, hb, hml, hown, hts⟩ := S
  have S : CallFix p m c _ _ s _ lw_all RX4 := ⟨hx, hb, hml, hown, hts⟩
  have hA : ∀ q, s.heap.size ≤ q → mA G σ s.heap.size q := fun q hq => Or.inr hq
  have hl : lv_has ls 8 [(0, .ref (G.2.2 0)), (1, .int (iI ht_)), (2, .int (iI mi_)), (3, .int (iI w_))] := hl
  have b0 := hI.c
  unfold kCnt at b0
  have h_ht_ := R32.n h_ht_
  have h_mi_ := R32.n h_mi_
  have h_w_ := R32.n h_w_
  have hp := pow_r b0.2.2.1.1 (by omega)
  have hH := MH_to hH (τ := mx σ σ) mx_self.symm
  have L55 : ∀ (q : Nat) (τ : St) (k : Int), (hg : (0 ≤ ht_ ∧ ht_ ≤ 7) ∧ (1 ≤ mi_ ∧ mi_ ≤ 255) ∧ (0 ≤ w_ ∧ w_ ≤ 2)) → (hk0 : 0 ≤ k) → (hk1 : k ≤ 2 ^ (σ 2 1752).toNat) → (hq : 2 ^ (σ 2 1752).toNat < (q : Int) + k) → ∀ (H : Heap) (locs : List Loc) (ls : Array Slot), MH G (mA G σ s.heap.size) (mx σ τ) s.heap H locs → lv_has ls 8 [(0, .ref (G.2.2 0)), (1, .int (iI ht_)), (2, .int (iI mi_)), (3, .int (iI w_)), (4, .int (iI ((olN (σ 2) ht_ mi_ k.toNat).1))), (5, .int (iI ((olN (σ 2) ht_ mi_ k.toNat).2.1))), (6, .int (iI ((olN (σ 2) ht_ mi_ k.toNat).2.2))), (7, .int (iI k))] → W p l e (rmD 4) s m ([.ref (G.2.2 0), .int (iI ht_), .int (iI mi_), .int (iI w_)] : List Value).toArray below meth c H locs 0 0 (MQ below (mQi G σ s.heap.size (fun z σ' => z = (olvF (σ 2) ht_ mi_ w_) ∧ Sc σ σ')) ([.ref (G.2.2 0), .int (iI ht_), .int (iI mi_), .int (iI w_)] : List Value).toArray s 0 0 (mA G σ s.heap.size)) (F0 m 55 ls []) := by
    intro q
    induction q with
    | zero => intro τ k hg hk0 hk1 hq; exfalso; omega
    | succ q ih_55 =>
      intro τ k hg hk0 hk1 hq H locs ls hH hl
      have hfi := fitF_01 (σ 2) k ht_ mi_
      have hol := olN_r (κ := σ 2) (ht := ht_) (mi := mi_) k.toNat
      refine lv_iload hx hb dX4_outlive_55 (lv_at hl 7 rfl) ?_
      refine n_iconst hx hb dX4_outlive_57 ?_
      refine lv_aload_n hx hb dX4_outlive_58 rfl (lv_at hl 0 rfl) ?_
      refine m_get 2 (by decide) hx hb hts hown hK hj hH q1475 (fun _ h9 => h9) rfl dX4_outlive_59 ?_
      refine n_sipush (z := 1752) hx hb dX4_outlive_62 (by decide) ?_
      refine ml_2 hx hb hK hj hH (by omega) (by omega) dX4_outlive_65 ?_
      refine W.eq (g2 := F0 m 66 ls (.int (iI (σ 2 1752)) :: .int (iI 1) :: .int (iI k) :: [])) rfl ?_
      refine n_ishl hx hb (by omega) (by omega) dX4_outlive_66 ?_
      refine W.eq (g2 := F0 m 67 ls (.int (iI (2 ^ (σ 2 1752).toNat)) :: .int (iI k) :: [])) (by rw [Int.one_mul]) ?_
      refine n_icmp_ge (tgt := 107) hx hb (r32 (by omega)) (r32 (by omega)) dX4_outlive_67 (by decide) (fun c_67 => ?_) (fun c_67 => ?_)
      · -- 67T
        refine lv_iload_n hx hb dX4_outlive_107 rfl (lv_at hl 3 rfl) ?_
        refine n_if_ne (tgt := 116) hx hb (r32 (by omega)) dX4_outlive_108 (by decide) (fun c_108 => ?_) (fun c_108 => ?_)
        · -- 108T
          refine lv_iload_n hx hb dX4_outlive_116 rfl (lv_at hl 3 rfl) ?_
          refine n_iconst hx hb dX4_outlive_117 ?_
          refine n_icmp_ne (tgt := 126) hx hb (r32 (by omega)) (r32 (by omega)) dX4_outlive_118 (by decide) (fun c_118 => ?_) (fun c_118 => ?_)
          · -- 118T
            refine lv_iload hx hb dX4_outlive_126 (lv_at hl 4 rfl) ?_
            refine n_if_ne (tgt := 135) hx hb (r32 (by omega)) dX4_outlive_128 (by decide) (fun c_128 => ?_) (fun c_128 => ?_)
            · -- 128T
              refine lv_iload hx hb dX4_outlive_135 (lv_at hl 5 rfl) ?_
              refine m_iret hx hb hr hlk hH dX4_outlive_137 ?_
              refine ⟨?_, mx_sc⟩
              show _ = olvF _ _ _ _
              rw [olvF, if_pos hg, show ((2 : Int) ^ (σ 2 1752).toNat).toNat = k.toNat by omega]
              (repeat' split) <;> first | rfl | (exfalso; omega)
            · -- 128F
              refine n_iconst hx hb dX4_outlive_131 ?_
              refine lv_goto (tgt := 137) hx hb dX4_outlive_132 (by decide) ?_
              refine m_iret hx hb hr hlk hH dX4_outlive_137 ?_
              refine ⟨?_, mx_sc⟩
              show _ = olvF _ _ _ _
              rw [olvF, if_pos hg, show ((2 : Int) ^ (σ 2 1752).toNat).toNat = k.toNat by omega]
              (repeat' split) <;> first | rfl | (exfalso; omega)
          · -- 118F
            refine lv_iload hx hb dX4_outlive_121 (lv_at hl 6 rfl) ?_
            refine lv_goto (tgt := 137) hx hb dX4_outlive_123 (by decide) ?_
            refine m_iret hx hb hr hlk hH dX4_outlive_137 ?_
            refine ⟨?_, mx_sc⟩
            show _ = olvF _ _ _ _
            rw [olvF, if_pos hg, show ((2 : Int) ^ (σ 2 1752).toNat).toNat = k.toNat by omega]
            (repeat' split) <;> first | rfl | (exfalso; omega)
        · -- 108F
          refine lv_iload hx hb dX4_outlive_111 (lv_at hl 4 rfl) ?_
          refine lv_goto (tgt := 137) hx hb dX4_outlive_113 (by decide) ?_
          refine m_iret hx hb hr hlk hH dX4_outlive_137 ?_
          refine ⟨?_, mx_sc⟩
          show _ = olvF _ _ _ _
          rw [olvF, if_pos hg, show ((2 : Int) ^ (σ 2 1752).toNat).toNat = k.toNat by omega]
          (repeat' split) <;> first | rfl | (exfalso; omega)
      · -- 67F
        refine lv_aload_n hx hb dX4_outlive_70 rfl (lv_at hl 0 rfl) ?_
        refine lv_iload hx hb dX4_outlive_71 (lv_at hl 7 rfl) ?_
        refine lv_iload_n hx hb dX4_outlive_73 rfl (lv_at hl 1 rfl) ?_
        refine lv_iload_n hx hb dX4_outlive_74 rfl (lv_at hl 2 rfl) ?_
        refine m_calli (m_runV (As := [.int (iI k), .int (iI ht_), .int (iI mi_)]) (rest := []) S hH hK hj hl.1 (mm_fits l G (mx σ τ) k ht_ mi_ _ (r32 (by omega)) (by omega) (by omega) (by omega) (by omega) hI) (lw_V q1983 q1985 qs98 q109 q1986) kd_X4_fits rfl rfl dX4_outlive_75) hH hA (fun z75 σ75 H locs q_75 hH => ?_)
        obtain ⟨e_75, q_75⟩ := q_75
        have e_75 : z75 = (fitF (σ 2) k ht_ mi_) := e_75
        subst e_75
        have hH := MH_to hH (τ := mx σ σ75) (mx_of q_75)
        refine n_if_ne (tgt := 84) hx hb (r32 (by omega)) dX4_outlive_78 (by decide) (fun c_78 => ?_) (fun c_78 => ?_)
        · -- 78T
          refine n_iinc hx hb dX4_outlive_84 hl (k := 4) rfl (Nat.le_of_ble_eq_true rfl) (lv' := [(4, .int (iI (((olN (σ 2) ht_ mi_ k.toNat).1) + 1))), (0, .ref (G.2.2 0)), (1, .int (iI ht_)), (2, .int (iI mi_)), (3, .int (iI w_)), (5, .int (iI ((olN (σ 2) ht_ mi_ k.toNat).2.1))), (6, .int (iI ((olN (σ 2) ht_ mi_ k.toNat).2.2))), (7, .int (iI k))]) rfl (fun ls hl => ?_)
          refine lv_iload hx hb dX4_outlive_87 (lv_at hl 5 rfl) ?_
          refine lv_iload hx hb dX4_outlive_89 (lv_at hl 7 rfl) ?_
          refine n_iand hx hb dX4_outlive_91 ?_
          refine lv_istore hx hb dX4_outlive_92 hl (Nat.le_of_ble_eq_true rfl) (lv' := [(5, .int (iI (bAnd ((olN (σ 2) ht_ mi_ k.toNat).2.1) k))), (4, .int (iI (((olN (σ 2) ht_ mi_ k.toNat).1) + 1))), (0, .ref (G.2.2 0)), (1, .int (iI ht_)), (2, .int (iI mi_)), (3, .int (iI w_)), (6, .int (iI ((olN (σ 2) ht_ mi_ k.toNat).2.2))), (7, .int (iI k))]) rfl (fun ls hl => ?_)
          refine lv_iload hx hb dX4_outlive_94 (lv_at hl 6 rfl) ?_
          refine lv_iload hx hb dX4_outlive_96 (lv_at hl 7 rfl) ?_
          refine n_ior hx hb dX4_outlive_98 ?_
          refine lv_istore hx hb dX4_outlive_99 hl (Nat.le_of_ble_eq_true rfl) (lv' := [(6, .int (iI (bOr ((olN (σ 2) ht_ mi_ k.toNat).2.2) k))), (5, .int (iI (bAnd ((olN (σ 2) ht_ mi_ k.toNat).2.1) k))), (4, .int (iI (((olN (σ 2) ht_ mi_ k.toNat).1) + 1))), (0, .ref (G.2.2 0)), (1, .int (iI ht_)), (2, .int (iI mi_)), (3, .int (iI w_)), (7, .int (iI k))]) rfl (fun ls hl => ?_)
          refine n_iinc hx hb dX4_outlive_101 hl (k := 7) rfl (Nat.le_of_ble_eq_true rfl) (lv' := [(7, .int (iI (k + 1))), (6, .int (iI (bOr ((olN (σ 2) ht_ mi_ k.toNat).2.2) k))), (5, .int (iI (bAnd ((olN (σ 2) ht_ mi_ k.toNat).2.1) k))), (4, .int (iI (((olN (σ 2) ht_ mi_ k.toNat).1) + 1))), (0, .ref (G.2.2 0)), (1, .int (iI ht_)), (2, .int (iI mi_)), (3, .int (iI w_))]) rfl (fun ls hl => ?_)
          refine lv_goto (tgt := 55) hx hb dX4_outlive_104 (by decide) ?_
          have hl : lv_has ls 8 [(0, .ref (G.2.2 0)), (1, .int (iI ht_)), (2, .int (iI mi_)), (3, .int (iI w_)), (4, .int (iI (((olN (σ 2) ht_ mi_ k.toNat).1) + 1))), (5, .int (iI (bAnd ((olN (σ 2) ht_ mi_ k.toNat).2.1) k))), (6, .int (iI (bOr ((olN (σ 2) ht_ mi_ k.toNat).2.2) k))), (7, .int (iI (k + 1)))] := lv_sub hl [4, 5, 6, 7, 3, 2, 1, 0] rfl
          have hl : lv_has ls 8 [(0, .ref (G.2.2 0)), (1, .int (iI ht_)), (2, .int (iI mi_)), (3, .int (iI w_)), (4, .int (iI ((olN (σ 2) ht_ mi_ (k + 1).toNat).1))), (5, .int (iI ((olN (σ 2) ht_ mi_ (k + 1).toNat).2.1))), (6, .int (iI ((olN (σ 2) ht_ mi_ (k + 1).toNat).2.2))), (7, .int (iI (k + 1)))] := by rw [olN_e hk0, if_pos (by omega)]; exact hl
          refine ih_55 σ75 (k + 1) ?_ ?_ ?_ ?_ _ _ _ hH hl
          · exact hg
          · omega
          · omega
          · omega
        · -- 78F
          refine lv_goto (tgt := 101) hx hb dX4_outlive_81 (by decide) ?_
          refine n_iinc hx hb dX4_outlive_101 hl (k := 7) rfl (Nat.le_of_ble_eq_true rfl) (lv' := [(7, .int (iI (k + 1))), (0, .ref (G.2.2 0)), (1, .int (iI ht_)), (2, .int (iI mi_)), (3, .int (iI w_)), (4, .int (iI ((olN (σ 2) ht_ mi_ k.toNat).1))), (5, .int (iI ((olN (σ 2) ht_ mi_ k.toNat).2.1))), (6, .int (iI ((olN (σ 2) ht_ mi_ k.toNat).2.2)))]) rfl (fun ls hl => ?_)
          refine lv_goto (tgt := 55) hx hb dX4_outlive_104 (by decide) ?_
          have hl : lv_has ls 8 [(0, .ref (G.2.2 0)), (1, .int (iI ht_)), (2, .int (iI mi_)), (3, .int (iI w_)), (4, .int (iI ((olN (σ 2) ht_ mi_ k.toNat).1))), (5, .int (iI ((olN (σ 2) ht_ mi_ k.toNat).2.1))), (6, .int (iI ((olN (σ 2) ht_ mi_ k.toNat).2.2))), (7, .int (iI (k + 1)))] := lv_sub hl [1, 2, 3, 4, 5, 6, 7, 0] rfl
          have hl : lv_has ls 8 [(0, .ref (G.2.2 0)), (1, .int (iI ht_)), (2, .int (iI mi_)), (3, .int (iI w_)), (4, .int (iI ((olN (σ 2) ht_ mi_ (k + 1).toNat).1))), (5, .int (iI ((olN (σ 2) ht_ mi_ (k + 1).toNat).2.1))), (6, .int (iI ((olN (σ 2) ht_ mi_ (k + 1).toNat).2.2))), (7, .int (iI (k + 1)))] := by rw [olN_e hk0, if_neg (by omega)]; exact hl
          refine ih_55 σ75 (k + 1) ?_ ?_ ?_ ?_ _ _ _ hH hl
          · exact hg
          · omega
          · omega
          · omega
  refine lv_iload_n hx hb dX4_outlive_0 rfl (lv_at hl 1 rfl) ?_
  refine n_iconst hx hb dX4_outlive_1 ?_
  refine n_bipush (z := 7) hx hb dX4_outlive_2 (by decide) ?_
  refine m_calliF (m_runS (As := [.int (iI ht_), .int (iI 0), .int (iI 7)]) (rest := []) S hH hK hj hl.1 (mm_in l G (mx σ σ) ht_ 0 7 _ (r32 (by omega)) (r32 (by omega)) (r32 (by omega))) (lw_S q1569 q1570 q109 q1571) kd_X4_in rfl rfl dX4_outlive_4) hH hA (fun H locs hH => ?_)
  refine z_if_eq (tgt := 30) hx hb dX4_outlive_7 (by decide) (fun c_7 => ?_) (fun c_7 => ?_)
  · -- 7T
    refine n_iconst hx hb dX4_outlive_30 ?_
    refine m_iret hx hb hr hlk hH dX4_outlive_31 ?_
    refine ⟨?_, mx_sc⟩
    show _ = olvF _ _ _ _
    rw [olvF, if_neg (by omega)]
  · -- 7F
    refine lv_iload_n hx hb dX4_outlive_10 rfl (lv_at hl 2 rfl) ?_
    refine n_iconst hx hb dX4_outlive_11 ?_
    refine n_sipush (z := 255) hx hb dX4_outlive_12 (by decide) ?_
    refine m_calliF (m_runS (As := [.int (iI mi_), .int (iI 1), .int (iI 255)]) (rest := []) S hH hK hj hl.1 (mm_in l G (mx σ σ) mi_ 1 255 _ (r32 (by omega)) (r32 (by omega)) (r32 (by omega))) (lw_S q1569 q1570 q109 q1571) kd_X4_in rfl rfl dX4_outlive_15) hH hA (fun H locs hH => ?_)
    refine z_if_eq (tgt := 30) hx hb dX4_outlive_18 (by decide) (fun c_18 => ?_) (fun c_18 => ?_)
    · -- 18T
      refine n_iconst hx hb dX4_outlive_30 ?_
      refine m_iret hx hb hr hlk hH dX4_outlive_31 ?_
      refine ⟨?_, mx_sc⟩
      show _ = olvF _ _ _ _
      rw [olvF, if_neg (by omega)]
    · -- 18F
      refine lv_iload_n hx hb dX4_outlive_21 rfl (lv_at hl 3 rfl) ?_
      refine n_iconst hx hb dX4_outlive_22 ?_
      refine n_iconst hx hb dX4_outlive_23 ?_
      refine m_calliF (m_runS (As := [.int (iI w_), .int (iI 0), .int (iI 2)]) (rest := []) S hH hK hj hl.1 (mm_in l G (mx σ σ) w_ 0 2 _ (r32 (by omega)) (r32 (by omega)) (r32 (by omega))) (lw_S q1569 q1570 q109 q1571) kd_X4_in rfl rfl dX4_outlive_24) hH hA (fun H locs hH => ?_)
      refine z_if_ne (tgt := 32) hx hb dX4_outlive_27 (by decide) (fun c_27 => ?_) (fun c_27 => ?_)
      · -- 27T
        refine n_iconst hx hb dX4_outlive_32 ?_
        refine lv_istore hx hb dX4_outlive_33 hl (Nat.le_of_ble_eq_true rfl) (lv' := [(4, .int (iI 0)), (0, .ref (G.2.2 0)), (1, .int (iI ht_)), (2, .int (iI mi_)), (3, .int (iI w_))]) rfl (fun ls hl => ?_)
        refine n_iconst hx hb dX4_outlive_35 ?_
        refine lv_aload_n hx hb dX4_outlive_36 rfl (lv_at hl 1 rfl) ?_
        refine m_get 2 (by decide) hx hb hts hown hK hj hH q1475 (fun _ h9 => h9) rfl dX4_outlive_37 ?_
        refine n_sipush (z := 1752) hx hb dX4_outlive_40 (by decide) ?_
        refine ml_2 hx hb hK hj hH (by omega) (by omega) dX4_outlive_43 ?_
        refine W.eq (g2 := F0 m 44 ls (.int (iI (σ 2 1752)) :: .int (iI 1) :: [])) rfl ?_
        refine n_ishl hx hb (by omega) (by omega) dX4_outlive_44 ?_
        refine n_iconst hx hb dX4_outlive_45 ?_
        refine n_isub hx hb dX4_outlive_46 ?_
        refine lv_istore hx hb dX4_outlive_47 hl (Nat.le_of_ble_eq_true rfl) (lv' := [(5, .int (iI ((1 * 2 ^ (σ 2 1752).toNat) - 1))), (4, .int (iI 0)), (0, .ref (G.2.2 0)), (1, .int (iI ht_)), (2, .int (iI mi_)), (3, .int (iI w_))]) rfl (fun ls hl => ?_)
        refine n_iconst hx hb dX4_outlive_49 ?_
        refine lv_istore hx hb dX4_outlive_50 hl (Nat.le_of_ble_eq_true rfl) (lv' := [(6, .int (iI 0)), (5, .int (iI ((1 * 2 ^ (σ 2 1752).toNat) - 1))), (4, .int (iI 0)), (0, .ref (G.2.2 0)), (1, .int (iI ht_)), (2, .int (iI mi_)), (3, .int (iI w_))]) rfl (fun ls hl => ?_)
        refine n_iconst hx hb dX4_outlive_52 ?_
        refine lv_istore hx hb dX4_outlive_53 hl (Nat.le_of_ble_eq_true rfl) (lv' := [(7, .int (iI 0)), (6, .int (iI 0)), (5, .int (iI ((1 * 2 ^ (σ 2 1752).toNat) - 1))), (4, .int (iI 0)), (0, .ref (G.2.2 0)), (1, .int (iI ht_)), (2, .int (iI mi_)), (3, .int (iI w_))]) rfl (fun ls hl => ?_)
        have hl : lv_has ls 8 [(0, .ref (G.2.2 0)), (1, .int (iI ht_)), (2, .int (iI mi_)), (3, .int (iI w_)), (4, .int (iI 0)), (5, .int (iI ((1 * 2 ^ (σ 2 1752).toNat) - 1))), (6, .int (iI 0)), (7, .int (iI 0))] := lv_sub hl [4, 5, 6, 7, 3, 2, 1, 0] rfl
        have hl : lv_has ls 8 [(0, .ref (G.2.2 0)), (1, .int (iI ht_)), (2, .int (iI mi_)), (3, .int (iI w_)), (4, .int (iI ((olN (σ 2) ht_ mi_ (0 : Int).toNat).1))), (5, .int (iI ((olN (σ 2) ht_ mi_ (0 : Int).toNat).2.1))), (6, .int (iI ((olN (σ 2) ht_ mi_ (0 : Int).toNat).2.2))), (7, .int (iI 0))] := by exact hl
        refine L55 4100 σ 0 ?_ ?_ ?_ ?_ _ _ _ hH hl
        · omega
        · omega
        · omega
        · omega
      · -- 27F
        refine n_iconst hx hb dX4_outlive_30 ?_
        refine m_iret hx hb hr hlk hH dX4_outlive_31 ?_
        refine ⟨?_, mx_sc⟩
        show _ = olvF _ _ _ _
        rw [olvF, if_neg (by omega)]
