theorem kd_X4_oddsOf : yX4_oddsOf.cls = RX4 ∧ yX4_oddsOf.cls ≠ "java/lang/invoke/MethodHandle" ∧ yX4_oddsOf.cls ≠ "java/lang/invoke/VarHandle" ∧ (parseMethodDescriptor yX4_oddsOf.desc).map (fun d => d.parameters.length) = some 1 := by decide +kernel
theorem mm_oddsOf (l : Launch) (G : MG) (σ : St) (x_ : Int) (sz : Nat) (h0 : 0 ≤ x_) (h1 : x_ < σ 2 1756) (hI : KI (σ 2)) (hT : TT (σ 2)) (ha : caseOK (σ 5)) : Met l yX4_oddsOf (ws_ yX4_oddsOf cX4_oddsOf 4 (some .int)) (rmD 67) (mP G [.ref (G.2.2 0), .int (iI x_)] σ sz) (mQi G σ sz (fun z σ' => z = (odd (tm (σ 2) x_) (σ 5)) ∧ Sc σ σ' ∧ σ' 5 = σ 5)) 0 0 (mA G σ sz) := by
  refine m_start (by decide) (Nat.le_of_ble_eq_true rfl) ?_
  intro p e s m below meth c ⟨S, hr, hlk, hH, hK, hj, hsz, hnm⟩ ls hl
  subst hsz
  obtain ⟨hx, hb, hml, hown, hts⟩ := S
  have S : CallFix p m c _ _ s _ lw_all RX4 := ⟨hx, hb, hml, hown, hts⟩
  have hA : ∀ q, s.heap.size ≤ q → mA G σ s.heap.size q := fun q hq => Or.inr hq
  have hl : lv_has ls 4 [(0, .ref (G.2.2 0)), (1, .int (iI x_))] := hl
  have b0 := hI.c
  unfold kCnt at b0
  have hlen := hT.n h0 h1
  have hH := MH_to hH (τ := mx σ σ) mx_self.symm
  have L9 : ∀ (q : Nat) (τ : St) (i : Int), (hQ : AskQ (σ 2) x_ (σ 5) τ) → (k5 : τ 5 = σ 5) → (hi0 : 0 ≤ i) → (hi1 : i ≤ ((tm (σ 2) x_).length : Int)) → (hq : ((tm (σ 2) x_).length : Int) < (q : Int) + i) → ∀ (H : Heap) (locs : List Loc) (ls : Array Slot), MH G (mA G σ s.heap.size) (mx σ τ) s.heap H locs → lv_has ls 4 [(0, .ref (G.2.2 0)), (1, .int (iI x_)), (2, .int (iI (oddN (tm (σ 2) x_) (σ 5) i.toNat))), (3, .int (iI i))] → W p l e (rmD 67) s m ([.ref (G.2.2 0), .int (iI x_)] : List Value).toArray below meth c H locs 0 0 (MQ below (mQi G σ s.heap.size (fun z σ' => z = (odd (tm (σ 2) x_) (σ 5)) ∧ Sc σ σ' ∧ σ' 5 = σ 5)) ([.ref (G.2.2 0), .int (iI x_)] : List Value).toArray s 0 0 (mA G σ s.heap.size)) (F0 m 9 ls []) := by
    intro q
    induction q with
    | zero => intro τ i hQ k5 hi0 hi1 hq; exfalso; omega
    | succ q ih_9 =>
      intro τ i hQ k5 hi0 hi1 hq H locs ls hH hl
      have hd := hd_r hT h0 (by omega : x_ < 12) i.toNat
      have hh := ho_01 (l := tm (σ 2) x_) (a := σ 5) i.toNat
      have hs := sa_r hT h0 (by omega : x_ < 12) (ha) i.toNat
      have ho := oddN_r (l := tm (σ 2) x_) (a := σ 5) i.toNat
      refine lv_iload_n hx hb dX4_oddsOf_9 rfl (lv_at hl 3 rfl) ?_
      refine lv_aload_n hx hb dX4_oddsOf_10 rfl (lv_at hl 0 rfl) ?_
      refine m_get 21 (by decide) hx hb hts hown hK hj hH q1494 (fun _ h9 => h9) rfl dX4_oddsOf_11 ?_
      refine W.eq (g2 := F0 m 14 ls (.int (iI (τ 21 0)) :: .int (iI i) :: [])) rfl ?_
      refine W.eq (g2 := F0 m 14 ls (.int (iI ((tm (σ 2) x_).length : Int)) :: .int (iI i) :: [])) (by rw [hQ.1]) ?_
      refine n_icmp_ge (tgt := 83) hx hb (r32 (by omega)) (r32 (by omega)) dX4_oddsOf_14 (by decide) (fun c_14 => ?_) (fun c_14 => ?_)
      · -- 14T
        refine lv_iload_n hx hb dX4_oddsOf_83 rfl (lv_at hl 2 rfl) ?_
        refine m_iret hx hb hr hlk hH dX4_oddsOf_84 ?_
        refine ⟨?_, mx_sc, ?_⟩
        · show oddN _ _ _ = oddN _ _ _
          rw [show i.toNat = (tm (σ 2) x_).length by omega]
        · exact k5
      · -- 14F
        refine lv_aload_n hx hb dX4_oddsOf_17 rfl (lv_at hl 0 rfl) ?_
        refine m_get 23 (by decide) hx hb hts hown hK hj hH q1496 (fun _ h9 => h9) rfl dX4_oddsOf_18 ?_
        refine lv_iload_n hx hb dX4_oddsOf_21 rfl (lv_at hl 3 rfl) ?_
        refine ml_23 hx hb hK hj hH (by omega) (by omega) dX4_oddsOf_22 ?_
        refine W.eq (g2 := F0 m 23 ls (.int (iI (τ 23 i)) :: [])) rfl ?_
        refine W.eq (g2 := F0 m 23 ls (.int (iI (hoN (tm (σ 2) x_) (σ 5) i.toNat)) :: [])) (by rw [(hQ.2 i (by omega) (by omega)).2.1]) ?_
        refine n_if_eq (tgt := 77) hx hb (r32 (by omega)) dX4_oddsOf_23 (by decide) (fun c_23 => ?_) (fun c_23 => ?_)
        · -- 23T
          refine n_iinc hx hb dX4_oddsOf_77 hl (k := 3) rfl (Nat.le_of_ble_eq_true rfl) (lv' := [(3, .int (iI (i + 1))), (0, .ref (G.2.2 0)), (1, .int (iI x_)), (2, .int (iI (oddN (tm (σ 2) x_) (σ 5) i.toNat)))]) rfl (fun ls hl => ?_)
          refine lv_goto (tgt := 9) hx hb dX4_oddsOf_80 (by decide) ?_
          have hl : lv_has ls 4 [(0, .ref (G.2.2 0)), (1, .int (iI x_)), (2, .int (iI (oddN (tm (σ 2) x_) (σ 5) i.toNat))), (3, .int (iI (i + 1)))] := lv_sub hl [1, 2, 3, 0] rfl
          have hl : lv_has ls 4 [(0, .ref (G.2.2 0)), (1, .int (iI x_)), (2, .int (iI (oddN (tm (σ 2) x_) (σ 5) (i + 1).toNat))), (3, .int (iI (i + 1)))] := by rw [oddN_e hi0]; (repeat' split) <;> first | exact hl | (exfalso; omega)
          refine ih_9 τ (i + 1) ?_ ?_ ?_ ?_ ?_ _ _ _ hH hl
          · exact hQ
          · exact k5
          · omega
          · omega
          · omega
        · -- 23F
          refine lv_aload_n hx hb dX4_oddsOf_26 rfl (lv_at hl 0 rfl) ?_
          refine m_get 22 (by decide) hx hb hts hown hK hj hH q1495 (fun _ h9 => h9) rfl dX4_oddsOf_27 ?_
          refine lv_iload_n hx hb dX4_oddsOf_30 rfl (lv_at hl 3 rfl) ?_
          refine ml_22 hx hb hK hj hH (by omega) (by omega) dX4_oddsOf_31 ?_
          refine W.eq (g2 := F0 m 32 ls (.int (iI (τ 22 i)) :: [])) rfl ?_
          refine W.eq (g2 := F0 m 32 ls (.int (iI (hdN (tm (σ 2) x_) i.toNat)) :: [])) (by rw [(hQ.2 i (by omega) (by omega)).1]) ?_
          refine n_iconst hx hb dX4_oddsOf_32 ?_
          refine n_icmp_gt (tgt := 77) hx hb (r32 (by omega)) (r32 (by omega)) dX4_oddsOf_33 (by decide) (fun c_33 => ?_) (fun c_33 => ?_)
          · -- 33T
            refine n_iinc hx hb dX4_oddsOf_77 hl (k := 3) rfl (Nat.le_of_ble_eq_true rfl) (lv' := [(3, .int (iI (i + 1))), (0, .ref (G.2.2 0)), (1, .int (iI x_)), (2, .int (iI (oddN (tm (σ 2) x_) (σ 5) i.toNat)))]) rfl (fun ls hl => ?_)
            refine lv_goto (tgt := 9) hx hb dX4_oddsOf_80 (by decide) ?_
            have hl : lv_has ls 4 [(0, .ref (G.2.2 0)), (1, .int (iI x_)), (2, .int (iI (oddN (tm (σ 2) x_) (σ 5) i.toNat))), (3, .int (iI (i + 1)))] := lv_sub hl [1, 2, 3, 0] rfl
            have hl : lv_has ls 4 [(0, .ref (G.2.2 0)), (1, .int (iI x_)), (2, .int (iI (oddN (tm (σ 2) x_) (σ 5) (i + 1).toNat))), (3, .int (iI (i + 1)))] := by rw [oddN_e hi0]; (repeat' split) <;> first | exact hl | (exfalso; omega)
            refine ih_9 τ (i + 1) ?_ ?_ ?_ ?_ ?_ _ _ _ hH hl
            · exact hQ
            · exact k5
            · omega
            · omega
            · omega
          · -- 33F
            refine lv_aload_n hx hb dX4_oddsOf_36 rfl (lv_at hl 0 rfl) ?_
            refine m_get 22 (by decide) hx hb hts hown hK hj hH q1495 (fun _ h9 => h9) rfl dX4_oddsOf_37 ?_
            refine lv_iload_n hx hb dX4_oddsOf_40 rfl (lv_at hl 3 rfl) ?_
            refine ml_22 hx hb hK hj hH (by omega) (by omega) dX4_oddsOf_41 ?_
            refine W.eq (g2 := F0 m 42 ls (.int (iI (τ 22 i)) :: [])) rfl ?_
            refine W.eq (g2 := F0 m 42 ls (.int (iI (hdN (tm (σ 2) x_) i.toNat)) :: [])) (by rw [(hQ.2 i (by omega) (by omega)).1]) ?_
            refine n_iconst hx hb dX4_oddsOf_42 ?_
            refine n_icmp_ne (tgt := 50) hx hb (r32 (by omega)) (r32 (by omega)) dX4_oddsOf_43 (by decide) (fun c_43 => ?_) (fun c_43 => ?_)
            · -- 43T
              refine lv_aload_n hx hb dX4_oddsOf_50 rfl (lv_at hl 0 rfl) ?_
              refine m_get 22 (by decide) hx hb hts hown hK hj hH q1495 (fun _ h9 => h9) rfl dX4_oddsOf_51 ?_
              refine lv_iload_n hx hb dX4_oddsOf_54 rfl (lv_at hl 3 rfl) ?_
              refine ml_22 hx hb hK hj hH (by omega) (by omega) dX4_oddsOf_55 ?_
              refine W.eq (g2 := F0 m 56 ls (.int (iI (τ 22 i)) :: [])) rfl ?_
              refine W.eq (g2 := F0 m 56 ls (.int (iI (hdN (tm (σ 2) x_) i.toNat)) :: [])) (by rw [(hQ.2 i (by omega) (by omega)).1]) ?_
              refine n_iconst hx hb dX4_oddsOf_56 ?_
              refine n_icmp_ne (tgt := 65) hx hb (r32 (by omega)) (r32 (by omega)) dX4_oddsOf_57 (by decide) (fun c_57 => ?_) (fun c_57 => ?_)
              · -- 57T
                refine lv_aload_n hx hb dX4_oddsOf_65 rfl (lv_at hl 0 rfl) ?_
                refine m_get 24 (by decide) hx hb hts hown hK hj hH q1497 (fun _ h9 => h9) rfl dX4_oddsOf_66 ?_
                refine lv_iload_n hx hb dX4_oddsOf_69 rfl (lv_at hl 3 rfl) ?_
                refine ml_24 hx hb hK hj hH (by omega) (by omega) dX4_oddsOf_70 ?_
                refine W.eq (g2 := F0 m 71 ls (.long (lI (τ 24 i)) :: [])) rfl ?_
                refine W.eq (g2 := F0 m 71 ls (.long (lI (saN (tm (σ 2) x_) (σ 5) i.toNat)) :: [])) (by rw [(hQ.2 i (by omega) (by omega)).2.2]) ?_
                refine n_bipush (z := 100) hx hb dX4_oddsOf_71 (by decide) ?_
                refine m_calliF (m_runS (As := [.long (lI (saN (tm (σ 2) x_) (σ 5) i.toNat)), .int (iI 100)]) (rest := []) S hH hK hj hl.1 (mm_near l G (mx σ τ) (saN (tm (σ 2) x_) (σ 5) i.toNat) 100 _ (r64 (by omega)) (r32 (by omega))) (lw_S q1869 q1870 q109 q1871) kd_X4_near rfl rfl dX4_oddsOf_73) hH hA (fun H locs hH => ?_)
                refine W.eq (g2 := F0 m 76 ls (.int (iI (nearI (saN (tm (σ 2) x_) (σ 5) i.toNat) 100)) :: [])) rfl ?_
                refine lv_istore_n hx hb dX4_oddsOf_76 rfl hl (Nat.le_of_ble_eq_true rfl) (lv' := [(2, .int (iI (nearI (saN (tm (σ 2) x_) (σ 5) i.toNat) 100))), (0, .ref (G.2.2 0)), (1, .int (iI x_)), (3, .int (iI i))]) rfl (fun ls hl => ?_)
                refine n_iinc hx hb dX4_oddsOf_77 hl (k := 3) rfl (Nat.le_of_ble_eq_true rfl) (lv' := [(3, .int (iI (i + 1))), (2, .int (iI (nearI (saN (tm (σ 2) x_) (σ 5) i.toNat) 100))), (0, .ref (G.2.2 0)), (1, .int (iI x_))]) rfl (fun ls hl => ?_)
                refine lv_goto (tgt := 9) hx hb dX4_oddsOf_80 (by decide) ?_
                have hl : lv_has ls 4 [(0, .ref (G.2.2 0)), (1, .int (iI x_)), (2, .int (iI (nearI (saN (tm (σ 2) x_) (σ 5) i.toNat) 100))), (3, .int (iI (i + 1)))] := lv_sub hl [2, 3, 1, 0] rfl
                have hl : lv_has ls 4 [(0, .ref (G.2.2 0)), (1, .int (iI x_)), (2, .int (iI (oddN (tm (σ 2) x_) (σ 5) (i + 1).toNat))), (3, .int (iI (i + 1)))] := by rw [oddN_e hi0]; (repeat' split) <;> first | exact hl | (exfalso; omega)
                refine ih_9 τ (i + 1) ?_ ?_ ?_ ?_ ?_ _ _ _ hH hl
                · exact hQ
                · exact k5
                · omega
                · omega
                · omega
              · -- 57F
                refine n_bipush (z := 100) hx hb dX4_oddsOf_60 (by decide) ?_
                refine lv_goto (tgt := 76) hx hb dX4_oddsOf_62 (by decide) ?_
                refine lv_istore_n hx hb dX4_oddsOf_76 rfl hl (Nat.le_of_ble_eq_true rfl) (lv' := [(2, .int (iI 100)), (0, .ref (G.2.2 0)), (1, .int (iI x_)), (3, .int (iI i))]) rfl (fun ls hl => ?_)
                refine n_iinc hx hb dX4_oddsOf_77 hl (k := 3) rfl (Nat.le_of_ble_eq_true rfl) (lv' := [(3, .int (iI (i + 1))), (2, .int (iI 100)), (0, .ref (G.2.2 0)), (1, .int (iI x_))]) rfl (fun ls hl => ?_)
                refine lv_goto (tgt := 9) hx hb dX4_oddsOf_80 (by decide) ?_
                have hl : lv_has ls 4 [(0, .ref (G.2.2 0)), (1, .int (iI x_)), (2, .int (iI 100)), (3, .int (iI (i + 1)))] := lv_sub hl [2, 3, 1, 0] rfl
                have hl : lv_has ls 4 [(0, .ref (G.2.2 0)), (1, .int (iI x_)), (2, .int (iI (oddN (tm (σ 2) x_) (σ 5) (i + 1).toNat))), (3, .int (iI (i + 1)))] := by rw [oddN_e hi0]; (repeat' split) <;> first | exact hl | (exfalso; omega)
                refine ih_9 τ (i + 1) ?_ ?_ ?_ ?_ ?_ _ _ _ hH hl
                · exact hQ
                · exact k5
                · omega
                · omega
                · omega
            · -- 43F
              refine n_iconst hx hb dX4_oddsOf_46 ?_
              refine lv_goto (tgt := 76) hx hb dX4_oddsOf_47 (by decide) ?_
              refine lv_istore_n hx hb dX4_oddsOf_76 rfl hl (Nat.le_of_ble_eq_true rfl) (lv' := [(2, .int (iI 0)), (0, .ref (G.2.2 0)), (1, .int (iI x_)), (3, .int (iI i))]) rfl (fun ls hl => ?_)
              refine n_iinc hx hb dX4_oddsOf_77 hl (k := 3) rfl (Nat.le_of_ble_eq_true rfl) (lv' := [(3, .int (iI (i + 1))), (2, .int (iI 0)), (0, .ref (G.2.2 0)), (1, .int (iI x_))]) rfl (fun ls hl => ?_)
              refine lv_goto (tgt := 9) hx hb dX4_oddsOf_80 (by decide) ?_
              have hl : lv_has ls 4 [(0, .ref (G.2.2 0)), (1, .int (iI x_)), (2, .int (iI 0)), (3, .int (iI (i + 1)))] := lv_sub hl [2, 3, 1, 0] rfl
              have hl : lv_has ls 4 [(0, .ref (G.2.2 0)), (1, .int (iI x_)), (2, .int (iI (oddN (tm (σ 2) x_) (σ 5) (i + 1).toNat))), (3, .int (iI (i + 1)))] := by rw [oddN_e hi0]; (repeat' split) <;> first | exact hl | (exfalso; omega)
              refine ih_9 τ (i + 1) ?_ ?_ ?_ ?_ ?_ _ _ _ hH hl
              · exact hQ
              · exact k5
              · omega
              · omega
              · omega
  refine lv_aload_n hx hb dX4_oddsOf_0 rfl (lv_at hl 0 rfl) ?_
  refine lv_iload_n hx hb dX4_oddsOf_1 rfl (lv_at hl 1 rfl) ?_
  refine m_callv (m_runV (As := [.int (iI x_)]) (rest := []) S hH hK hj hl.1 (mm_asks l G (mx σ σ) (tm (σ 2) x_) x_ _ h0 (by omega) hT.x ha (hT.p h0 h1) hlen) (lw_V q1819 q1821 qs77 q109 q1822) kd_X4_asks rfl rfl dX4_oddsOf_2) hH hA (fun σ2 H locs q_2 hH => ?_)
  have hH := MH_to hH (τ := mx σ σ2) (mx_of q_2.sc)
  refine n_iconst hx hb dX4_oddsOf_5 ?_
  refine lv_istore_n hx hb dX4_oddsOf_6 rfl hl (Nat.le_of_ble_eq_true rfl) (lv' := [(2, .int (iI 0)), (0, .ref (G.2.2 0)), (1, .int (iI x_))]) rfl (fun ls hl => ?_)
  refine n_iconst hx hb dX4_oddsOf_7 ?_
  refine lv_istore_n hx hb dX4_oddsOf_8 rfl hl (Nat.le_of_ble_eq_true rfl) (lv' := [(3, .int (iI 0)), (2, .int (iI 0)), (0, .ref (G.2.2 0)), (1, .int (iI x_))]) rfl (fun ls hl => ?_)
  have hl : lv_has ls 4 [(0, .ref (G.2.2 0)), (1, .int (iI x_)), (2, .int (iI 0)), (3, .int (iI 0))] := lv_sub hl [2, 3, 1, 0] rfl
  have hl : lv_has ls 4 [(0, .ref (G.2.2 0)), (1, .int (iI x_)), (2, .int (iI (oddN (tm (σ 2) x_) (σ 5) (0 : Int).toNat))), (3, .int (iI 0))] := by exact hl
  refine L9 20 σ2 0 ?_ ?_ ?_ ?_ ?_ _ _ _ hH hl
  · exact AskQ_of q_2 (fun j _ _ => rfl)
  · exact q_2.a5
  · omega
  · omega
  · omega
theorem kd_X4_price : yX4_price.cls = RX4 ∧ yX4_price.cls ≠ "java/lang/invoke/MethodHandle" ∧ yX4_price.cls ≠ "java/lang/invoke/VarHandle" ∧ (parseMethodDescriptor yX4_price.desc).map (fun d => d.parameters.length) = some 2 := by decide +kernel
theorem mm_price (l : Launch) (G : MG) (σ : St) (x_ : Int) (k_ : Int) (sz : Nat) (h0 : 0 ≤ x_) (h1 : x_ < σ 2 1756) (hI : KI (σ 2)) (hT : TT (σ 2)) (hk0 : 0 ≤ k_) (hk1 : k_ < σ 2 1754) : Met l yX4_price (ws_ yX4_price cX4_price 6 (some .int)) (rmD 67) (mP G [.ref (G.2.2 0), .int (iI x_), .int (iI k_)] σ sz) (mQi G σ sz (fun z σ' => z = (pL (σ 2) x_ k_) ∧ Sc σ σ' ∧ AskQ (σ 2) x_ (loA (σ 2) k_) σ')) 0 0 (mA G σ sz) := by
  refine m_start (by decide) (Nat.le_of_ble_eq_true rfl) ?_
  intro p e s m below meth c ⟨S, hr, hlk, hH, hK, hj, hsz, hnm⟩ ls hl
  subst hsz
  obtain ⟨hx, hb, hml, hown, hts⟩ := S
  have S : CallFix p m c _ _ s _ lw_all RX4 := ⟨hx, hb, hml, hown, hts⟩
  have hA : ∀ q, s.heap.size ≤ q → mA G σ s.heap.size q := fun q hq => Or.inr hq
  have hl : lv_has ls 6 [(0, .ref (G.2.2 0)), (1, .int (iI x_)), (2, .int (iI k_))] := hl
  have b0 := hI.c
  unfold kCnt at b0
  have hlen := hT.n h0 h1
  have hca : caseOK (loA (σ 2) k_) := (hI.o k_ hk0 hk1).1
  have hH := MH_to hH (τ := mx σ σ) mx_self.symm
  have L19 : ∀ (q : Nat) (τ : St) (i : Int), (hQ : AskQ (σ 2) x_ (loA (σ 2) k_) τ) → (hi0 : 0 ≤ i) → (hi1 : i ≤ ((tm (σ 2) x_).length : Int)) → (hq : ((tm (σ 2) x_).length : Int) < (q : Int) + i) → ∀ (H : Heap) (locs : List Loc) (ls : Array Slot), MH G (mA G σ s.heap.size) (mx σ τ) s.heap H locs → lv_has ls 6 [(0, .ref (G.2.2 0)), (1, .int (iI x_)), (2, .int (iI k_)), (3, .int (iI (priN (tm (σ 2) x_) (loA (σ 2) k_) i.toNat))), (4, .int (iI i))] → W p l e (rmD 67) s m ([.ref (G.2.2 0), .int (iI x_), .int (iI k_)] : List Value).toArray below meth c H locs 0 0 (MQ below (mQi G σ s.heap.size (fun z σ' => z = (pL (σ 2) x_ k_) ∧ Sc σ σ' ∧ AskQ (σ 2) x_ (loA (σ 2) k_) σ')) ([.ref (G.2.2 0), .int (iI x_), .int (iI k_)] : List Value).toArray s 0 0 (mA G σ s.heap.size)) (F0 m 19 ls []) := by
    intro q
    induction q with
    | zero => intro τ i hQ hi0 hi1 hq; exfalso; omega
    | succ q ih_19 =>
      intro τ i hQ hi0 hi1 hq H locs ls hH hl
      have hd := hd_r hT h0 (by omega : x_ < 12) i.toNat
      have hh := ho_01 (l := tm (σ 2) x_) (a := loA (σ 2) k_) i.toNat
      have hs := sa_r hT h0 (by omega : x_ < 12) (hca) i.toNat
      have ho := priN_r (l := tm (σ 2) x_) (a := loA (σ 2) k_) i.toNat
      have hn := nearI_r (v := saN (tm (σ 2) x_) (loA (σ 2) k_) i.toNat) (m := 1000) (by decide)
      refine lv_iload hx hb dX4_price_19 (lv_at hl 4 rfl) ?_
      refine lv_aload_n hx hb dX4_price_21 rfl (lv_at hl 0 rfl) ?_
      refine m_get 21 (by decide) hx hb hts hown hK hj hH q1494 (fun _ h9 => h9) rfl dX4_price_22 ?_
      refine W.eq (g2 := F0 m 25 ls (.int (iI (τ 21 0)) :: .int (iI i) :: [])) rfl ?_
      refine W.eq (g2 := F0 m 25 ls (.int (iI ((tm (σ 2) x_).length : Int)) :: .int (iI i) :: [])) (by rw [hQ.1]) ?_
      refine n_icmp_ge (tgt := 87) hx hb (r32 (by omega)) (r32 (by omega)) dX4_price_25 (by decide) (fun c_25 => ?_) (fun c_25 => ?_)
      · -- 25T
        refine lv_iload_n hx hb dX4_price_87 rfl (lv_at hl 3 rfl) ?_
        refine m_iret hx hb hr hlk hH dX4_price_88 ?_
        refine ⟨?_, mx_sc, ?_⟩
        · show priN _ _ _ = priN _ _ _
          rw [show i.toNat = (tm (σ 2) x_).length by omega]
        · exact hQ
      · -- 25F
        refine lv_aload_n hx hb dX4_price_28 rfl (lv_at hl 0 rfl) ?_
        refine m_get 22 (by decide) hx hb hts hown hK hj hH q1495 (fun _ h9 => h9) rfl dX4_price_29 ?_
        refine lv_iload hx hb dX4_price_32 (lv_at hl 4 rfl) ?_
        refine ml_22 hx hb hK hj hH (by omega) (by omega) dX4_price_34 ?_
        refine W.eq (g2 := F0 m 35 ls (.int (iI (τ 22 i)) :: [])) rfl ?_
        refine W.eq (g2 := F0 m 35 ls (.int (iI (hdN (tm (σ 2) x_) i.toNat)) :: [])) (by rw [(hQ.2 i (by omega) (by omega)).1]) ?_
        refine n_iconst hx hb dX4_price_35 ?_
        refine n_icmp_ne (tgt := 81) hx hb (r32 (by omega)) (r32 (by omega)) dX4_price_36 (by decide) (fun c_36 => ?_) (fun c_36 => ?_)
        · -- 36T
          refine n_iinc hx hb dX4_price_81 hl (k := 4) rfl (Nat.le_of_ble_eq_true rfl) (lv' := [(4, .int (iI (i + 1))), (0, .ref (G.2.2 0)), (1, .int (iI x_)), (2, .int (iI k_)), (3, .int (iI (priN (tm (σ 2) x_) (loA (σ 2) k_) i.toNat)))]) rfl (fun ls hl => ?_)
          refine lv_goto (tgt := 19) hx hb dX4_price_84 (by decide) ?_
          have hl : lv_has ls 6 [(0, .ref (G.2.2 0)), (1, .int (iI x_)), (2, .int (iI k_)), (3, .int (iI (priN (tm (σ 2) x_) (loA (σ 2) k_) i.toNat))), (4, .int (iI (i + 1)))] := lv_sub hl [1, 2, 3, 4, 0] rfl
          have hl : lv_has ls 6 [(0, .ref (G.2.2 0)), (1, .int (iI x_)), (2, .int (iI k_)), (3, .int (iI (priN (tm (σ 2) x_) (loA (σ 2) k_) (i + 1).toNat))), (4, .int (iI (i + 1)))] := by rw [priN_e hi0]; (repeat' split) <;> first | exact hl | (exfalso; omega)
          refine ih_19 τ (i + 1) ?_ ?_ ?_ ?_ _ _ _ hH hl
          · exact hQ
          · omega
          · omega
          · omega
        · -- 36F
          refine lv_aload_n hx hb dX4_price_39 rfl (lv_at hl 0 rfl) ?_
          refine m_get 23 (by decide) hx hb hts hown hK hj hH q1496 (fun _ h9 => h9) rfl dX4_price_40 ?_
          refine lv_iload hx hb dX4_price_43 (lv_at hl 4 rfl) ?_
          refine ml_23 hx hb hK hj hH (by omega) (by omega) dX4_price_45 ?_
          refine W.eq (g2 := F0 m 46 ls (.int (iI (τ 23 i)) :: [])) rfl ?_
          refine W.eq (g2 := F0 m 46 ls (.int (iI (hoN (tm (σ 2) x_) (loA (σ 2) k_) i.toNat)) :: [])) (by rw [(hQ.2 i (by omega) (by omega)).2.1]) ?_
          refine n_if_ne (tgt := 52) hx hb (r32 (by omega)) dX4_price_46 (by decide) (fun c_46 => ?_) (fun c_46 => ?_)
          · -- 46T
            refine lv_aload_n hx hb dX4_price_52 rfl (lv_at hl 0 rfl) ?_
            refine m_get 24 (by decide) hx hb hts hown hK hj hH q1497 (fun _ h9 => h9) rfl dX4_price_53 ?_
            refine lv_iload hx hb dX4_price_56 (lv_at hl 4 rfl) ?_
            refine ml_24 hx hb hK hj hH (by omega) (by omega) dX4_price_58 ?_
            refine W.eq (g2 := F0 m 59 ls (.long (lI (τ 24 i)) :: [])) rfl ?_
            refine W.eq (g2 := F0 m 59 ls (.long (lI (saN (tm (σ 2) x_) (loA (σ 2) k_) i.toNat)) :: [])) (by rw [(hQ.2 i (by omega) (by omega)).2.2]) ?_
            refine n_sipush (z := 1000) hx hb dX4_price_59 (by decide) ?_
            refine m_calliF (m_runS (As := [.long (lI (saN (tm (σ 2) x_) (loA (σ 2) k_) i.toNat)), .int (iI 1000)]) (rest := []) S hH hK hj hl.1 (mm_near l G (mx σ τ) (saN (tm (σ 2) x_) (loA (σ 2) k_) i.toNat) 1000 _ (r64 (by omega)) (r32 (by omega))) (lw_S q1869 q1870 q109 q1871) kd_X4_near rfl rfl dX4_price_62) hH hA (fun H locs hH => ?_)
            refine W.eq (g2 := F0 m 65 ls (.int (iI (nearI (saN (tm (σ 2) x_) (loA (σ 2) k_) i.toNat) 1000)) :: [])) rfl ?_
            refine lv_istore hx hb dX4_price_65 hl (Nat.le_of_ble_eq_true rfl) (lv' := [(5, .int (iI (nearI (saN (tm (σ 2) x_) (loA (σ 2) k_) i.toNat) 1000))), (0, .ref (G.2.2 0)), (1, .int (iI x_)), (2, .int (iI k_)), (3, .int (iI (priN (tm (σ 2) x_) (loA (σ 2) k_) i.toNat))), (4, .int (iI i))]) rfl (fun ls hl => ?_)
            refine lv_iload_n hx hb dX4_price_67 rfl (lv_at hl 4 rfl) ?_
            refine n_iconst hx hb dX4_price_68 ?_
            refine n_icmp_eq (tgt := 78) hx hb (r32 (by omega)) (r32 (by omega)) dX4_price_69 (by decide) (fun c_69 => ?_) (fun c_69 => ?_)
            · -- 69T
              refine lv_iload hx hb dX4_price_78 (lv_at hl 0 rfl) ?_
              refine lv_istore_n hx hb dX4_price_80 rfl hl (Nat.le_of_ble_eq_true rfl) (lv' := [(3, .int (iI (nearI (saN (tm (σ 2) x_) (loA (σ 2) k_) i.toNat) 1000))), (5, .int (iI (nearI (saN (tm (σ 2) x_) (loA (σ 2) k_) i.toNat) 1000))), (0, .ref (G.2.2 0)), (1, .int (iI x_)), (2, .int (iI k_)), (4, .int (iI i))]) rfl (fun ls hl => ?_)
              refine n_iinc hx hb dX4_price_81 hl (k := 5) rfl (Nat.le_of_ble_eq_true rfl) (lv' := [(4, .int (iI (i + 1))), (3, .int (iI (nearI (saN (tm (σ 2) x_) (loA (σ 2) k_) i.toNat) 1000))), (5, .int (iI (nearI (saN (tm (σ 2) x_) (loA (σ 2) k_) i.toNat) 1000))), (0, .ref (G.2.2 0)), (1, .int (iI x_)), (2, .int (iI k_))]) rfl (fun ls hl => ?_)
              refine lv_goto (tgt := 19) hx hb dX4_price_84 (by decide) ?_
              have hl : lv_has ls 6 [(0, .ref (G.2.2 0)), (1, .int (iI x_)), (2, .int (iI k_)), (3, .int (iI (nearI (saN (tm (σ 2) x_) (loA (σ 2) k_) i.toNat) 1000))), (4, .int (iI (i + 1)))] := lv_sub hl [3, 4, 5, 1, 0] rfl
              have hl : lv_has ls 6 [(0, .ref (G.2.2 0)), (1, .int (iI x_)), (2, .int (iI k_)), (3, .int (iI (priN (tm (σ 2) x_) (loA (σ 2) k_) (i + 1).toNat))), (4, .int (iI (i + 1)))] := by rw [priN_e hi0]; (repeat' split) <;> first | exact hl | (exfalso; omega)
              refine ih_19 τ (i + 1) ?_ ?_ ?_ ?_ _ _ _ hH hl
              · exact hQ
              · omega
              · omega
              · omega
            · -- 69F
              refine lv_iload hx hb dX4_price_72 (lv_at hl 0 rfl) ?_
              refine lv_iload_n hx hb dX4_price_74 rfl (lv_at hl 4 rfl) ?_
              refine n_icmp_ge (tgt := 81) hx hb (r32 (by omega)) (r32 (by omega)) dX4_price_75 (by decide) (fun c_75 => ?_) (fun c_75 => ?_)
              · -- 75T
                refine n_iinc hx hb dX4_price_81 hl (k := 5) rfl (Nat.le_of_ble_eq_true rfl) (lv' := [(4, .int (iI (i + 1))), (5, .int (iI (nearI (saN (tm (σ 2) x_) (loA (σ 2) k_) i.toNat) 1000))), (0, .ref (G.2.2 0)), (1, .int (iI x_)), (2, .int (iI k_)), (3, .int (iI (priN (tm (σ 2) x_) (loA (σ 2) k_) i.toNat)))]) rfl (fun ls hl => ?_)
                refine lv_goto (tgt := 19) hx hb dX4_price_84 (by decide) ?_
                have hl : lv_has ls 6 [(0, .ref (G.2.2 0)), (1, .int (iI x_)), (2, .int (iI k_)), (3, .int (iI (priN (tm (σ 2) x_) (loA (σ 2) k_) i.toNat))), (4, .int (iI (i + 1)))] := lv_sub hl [2, 3, 4, 5, 0] rfl
                have hl : lv_has ls 6 [(0, .ref (G.2.2 0)), (1, .int (iI x_)), (2, .int (iI k_)), (3, .int (iI (priN (tm (σ 2) x_) (loA (σ 2) k_) (i + 1).toNat))), (4, .int (iI (i + 1)))] := by rw [priN_e hi0]; (repeat' split) <;> first | exact hl | (exfalso; omega)
                refine ih_19 τ (i + 1) ?_ ?_ ?_ ?_ _ _ _ hH hl
                · exact hQ
                · omega
                · omega
                · omega
              · -- 75F
                refine lv_iload hx hb dX4_price_78 (lv_at hl 0 rfl) ?_
                refine lv_istore_n hx hb dX4_price_80 rfl hl (Nat.le_of_ble_eq_true rfl) (lv' := [(3, .int (iI (nearI (saN (tm (σ 2) x_) (loA (σ 2) k_) i.toNat) 1000))), (5, .int (iI (nearI (saN (tm (σ 2) x_) (loA (σ 2) k_) i.toNat) 1000))), (0, .ref (G.2.2 0)), (1, .int (iI x_)), (2, .int (iI k_)), (4, .int (iI i))]) rfl (fun ls hl => ?_)
                refine n_iinc hx hb dX4_price_81 hl (k := 5) rfl (Nat.le_of_ble_eq_true rfl) (lv' := [(4, .int (iI (i + 1))), (3, .int (iI (nearI (saN (tm (σ 2) x_) (loA (σ 2) k_) i.toNat) 1000))), (5, .int (iI (nearI (saN (tm (σ 2) x_) (loA (σ 2) k_) i.toNat) 1000))), (0, .ref (G.2.2 0)), (1, .int (iI x_)), (2, .int (iI k_))]) rfl (fun ls hl => ?_)
                refine lv_goto (tgt := 19) hx hb dX4_price_84 (by decide) ?_
                have hl : lv_has ls 6 [(0, .ref (G.2.2 0)), (1, .int (iI x_)), (2, .int (iI k_)), (3, .int (iI (nearI (saN (tm (σ 2) x_) (loA (σ 2) k_) i.toNat) 1000))), (4, .int (iI (i + 1)))] := lv_sub hl [3, 4, 5, 1, 0] rfl
                have hl : lv_has ls 6 [(0, .ref (G.2.2 0)), (1, .int (iI x_)), (2, .int (iI k_)), (3, .int (iI (priN (tm (σ 2) x_) (loA (σ 2) k_) (i + 1).toNat))), (4, .int (iI (i + 1)))] := by rw [priN_e hi0]; (repeat' split) <;> first | exact hl | (exfalso; omega)
                refine ih_19 τ (i + 1) ?_ ?_ ?_ ?_ _ _ _ hH hl
                · exact hQ
                · omega
                · omega
                · omega
          · -- 46F
            refine lv_goto (tgt := 81) hx hb dX4_price_49 (by decide) ?_
            refine n_iinc hx hb dX4_price_81 hl (k := 4) rfl (Nat.le_of_ble_eq_true rfl) (lv' := [(4, .int (iI (i + 1))), (0, .ref (G.2.2 0)), (1, .int (iI x_)), (2, .int (iI k_)), (3, .int (iI (priN (tm (σ 2) x_) (loA (σ 2) k_) i.toNat)))]) rfl (fun ls hl => ?_)
            refine lv_goto (tgt := 19) hx hb dX4_price_84 (by decide) ?_
            have hl : lv_has ls 6 [(0, .ref (G.2.2 0)), (1, .int (iI x_)), (2, .int (iI k_)), (3, .int (iI (priN (tm (σ 2) x_) (loA (σ 2) k_) i.toNat))), (4, .int (iI (i + 1)))] := lv_sub hl [1, 2, 3, 4, 0] rfl
            have hl : lv_has ls 6 [(0, .ref (G.2.2 0)), (1, .int (iI x_)), (2, .int (iI k_)), (3, .int (iI (priN (tm (σ 2) x_) (loA (σ 2) k_) (i + 1).toNat))), (4, .int (iI (i + 1)))] := by rw [priN_e hi0]; (repeat' split) <;> first | exact hl | (exfalso; omega)
            refine ih_19 τ (i + 1) ?_ ?_ ?_ ?_ _ _ _ hH hl
            · exact hQ
            · omega
            · omega
            · omega
  refine lv_aload_n hx hb dX4_price_0 rfl (lv_at hl 0 rfl) ?_
  refine lv_aload_n hx hb dX4_price_1 rfl (lv_at hl 0 rfl) ?_
  refine lv_iload_n hx hb dX4_price_2 rfl (lv_at hl 2 rfl) ?_
  refine m_calliF (m_runV (As := [.int (iI k_)]) (rest := [.ref (G.2.2 0)]) S hH hK hj hl.1 (mm_lookAt l G (mx σ σ) k_ _ ) (lw_V q1682 q1684 qs54 q109 q1685) kd_X4_lookAt rfl rfl dX4_price_3) hH hA (fun H locs hH => ?_)
  refine m_callvF (m_runV (As := [.int (iI (1224 + 10 * k_))]) (rest := []) S hH hK hj hl.1 (mm_takesRow l G (mx σ σ) (1224 + 10 * k_) _ (by omega) (by omega)) (lw_V q1811 q1813 qs75 q109 q1814) kd_X4_takesRow rfl rfl dX4_price_6) hH hA (fun H locs hH => ?_)
  have hH := MH_to hH (τ := mx σ (rwS σ σ (1224 + 10 * k_))) mx_row
  refine lv_aload_n hx hb dX4_price_9 rfl (lv_at hl 0 rfl) ?_
  refine lv_iload_n hx hb dX4_price_10 rfl (lv_at hl 1 rfl) ?_
  refine m_callv (m_runV (As := [.int (iI x_)]) (rest := []) S hH hK hj hl.1 (mm_asks l G (mx σ (rwS σ σ (1224 + 10 * k_))) (tm (σ 2) x_) x_ _ h0 (by omega) hT.x (rw_ok hca) (hT.p h0 h1) hlen) (lw_V q1819 q1821 qs77 q109 q1822) kd_X4_asks rfl rfl dX4_price_11) hH hA (fun σ11 H locs q_11 hH => ?_)
  have hH := MH_to hH (τ := mx σ σ11) (mx_of q_11.sc)
  refine n_iconst hx hb dX4_price_14 ?_
  refine lv_istore_n hx hb dX4_price_15 rfl hl (Nat.le_of_ble_eq_true rfl) (lv' := [(3, .int (iI (-1))), (0, .ref (G.2.2 0)), (1, .int (iI x_)), (2, .int (iI k_))]) rfl (fun ls hl => ?_)
  refine n_iconst hx hb dX4_price_16 ?_
  refine lv_istore hx hb dX4_price_17 hl (Nat.le_of_ble_eq_true rfl) (lv' := [(4, .int (iI 0)), (3, .int (iI (-1))), (0, .ref (G.2.2 0)), (1, .int (iI x_)), (2, .int (iI k_))]) rfl (fun ls hl => ?_)
  have hl : lv_has ls 6 [(0, .ref (G.2.2 0)), (1, .int (iI x_)), (2, .int (iI k_)), (3, .int (iI (-1))), (4, .int (iI 0))] := lv_sub hl [2, 3, 4, 1, 0] rfl
  have hl : lv_has ls 6 [(0, .ref (G.2.2 0)), (1, .int (iI x_)), (2, .int (iI k_)), (3, .int (iI (priN (tm (σ 2) x_) (loA (σ 2) k_) (0 : Int).toNat))), (4, .int (iI 0))] := by exact hl
  refine L19 20 σ11 0 ?_ ?_ ?_ ?_ _ _ _ hH hl
  · exact AskQ_of q_11 (fun j h0 h1 => rwS_5 h0 h1)
  · omega
  · omega
  · omega
theorem kd_X4_isFair : yX4_isFair.cls = RX4 ∧ yX4_isFair.cls ≠ "java/lang/invoke/MethodHandle" ∧ yX4_isFair.cls ≠ "java/lang/invoke/VarHandle" ∧ (parseMethodDescriptor yX4_isFair.desc).map (fun d => d.parameters.length) = some 2 := by decide +kernel
theorem mm_isFair (l : Launch) (G : MG) (σ : St) (x_ : Int) (t_ : Int) (sz : Nat) (h0 : 0 ≤ x_) (h1 : x_ < σ 2 1756) (hI : KI (σ 2)) (hT : TT (σ 2)) (ht0 : 0 ≤ t_) (ht1 : t_ < σ 2 1755) : Met l yX4_isFair (ws_ yX4_isFair cX4_isFair 5 (some .boolean)) (rmD 67) (mP G [.ref (G.2.2 0), .int (iI x_), .int (iI t_)] σ sz) (mQi G σ sz (fun z σ' => z = (fT (σ 2) x_ t_) ∧ Sc σ σ')) 0 0 (mA G σ sz) := by
  refine m_start (by decide) (Nat.le_of_ble_eq_true rfl) ?_
  intro p e s m below meth c ⟨S, hr, hlk, hH, hK, hj, hsz, hnm⟩ ls hl
  subst hsz
  obtain ⟨hx, hb, hml, hown, hts⟩ := S
  have S : CallFix p m c _ _ s _ lw_all RX4 := ⟨hx, hb, hml, hown, hts⟩
  have hA : ∀ q, s.heap.size ≤ q → mA G σ s.heap.size q := fun q hq => Or.inr hq
  have hl : lv_has ls 5 [(0, .ref (G.2.2 0)), (1, .int (iI x_)), (2, .int (iI t_))] := hl
  have b0 := hI.c
  unfold kCnt at b0
  have hlen := hT.n h0 h1
  have hca : caseOK (trA (σ 2) t_) := hI.t t_ ht0 ht1
  have hH := MH_to hH (τ := mx σ σ) mx_self.symm
  have L19 : ∀ (q : Nat) (τ : St) (i : Int) (any : Int), (hQ : AskQ (σ 2) x_ (trA (σ 2) t_) τ) → (hi0 : 0 ≤ i) → (hi1 : i ≤ ((tm (σ 2) x_).length : Int)) → (hq : ((tm (σ 2) x_).length : Int) < (q : Int) + i) → (hany : any = 0 ∨ any = 1) → (he : fairN (tm (σ 2) x_) (trA (σ 2) t_) (tm (σ 2) x_).length 0 0 = fairN (tm (σ 2) x_) (trA (σ 2) t_) (((tm (σ 2) x_).length : Int) - i).toNat i.toNat any) → ∀ (H : Heap) (locs : List Loc) (ls : Array Slot), MH G (mA G σ s.heap.size) (mx σ τ) s.heap H locs → lv_has ls 5 [(0, .ref (G.2.2 0)), (1, .int (iI x_)), (2, .int (iI t_)), (3, .int (iI any)), (4, .int (iI i))] → W p l e (rmD 67) s m ([.ref (G.2.2 0), .int (iI x_), .int (iI t_)] : List Value).toArray below meth c H locs 0 0 (MQ below (mQi G σ s.heap.size (fun z σ' => z = (fT (σ 2) x_ t_) ∧ Sc σ σ')) ([.ref (G.2.2 0), .int (iI x_), .int (iI t_)] : List Value).toArray s 0 0 (mA G σ s.heap.size)) (F0 m 19 ls []) := by
    intro q
    induction q with
    | zero => intro τ i any hQ hi0 hi1 hq hany he; exfalso; omega
    | succ q ih_19 =>
      intro τ i any hQ hi0 hi1 hq hany he H locs ls hH hl
      have hd := hd_r hT h0 (by omega : x_ < 12) i.toNat
      have hh := ho_01 (l := tm (σ 2) x_) (a := trA (σ 2) t_) i.toNat
      have hs := sa_r hT h0 (by omega : x_ < 12) (hca) i.toNat
      refine lv_iload hx hb dX4_isFair_19 (lv_at hl 4 rfl) ?_
      refine lv_aload_n hx hb dX4_isFair_21 rfl (lv_at hl 0 rfl) ?_
      refine m_get 21 (by decide) hx hb hts hown hK hj hH q1494 (fun _ h9 => h9) rfl dX4_isFair_22 ?_
      refine W.eq (g2 := F0 m 25 ls (.int (iI (τ 21 0)) :: .int (iI i) :: [])) rfl ?_
      refine W.eq (g2 := F0 m 25 ls (.int (iI ((tm (σ 2) x_).length : Int)) :: .int (iI i) :: [])) (by rw [hQ.1]) ?_
      refine n_icmp_ge (tgt := 62) hx hb (r32 (by omega)) (r32 (by omega)) dX4_isFair_25 (by decide) (fun c_25 => ?_) (fun c_25 => ?_)
      · -- 25T
        refine lv_iload_n hx hb dX4_isFair_62 rfl (lv_at hl 3 rfl) ?_
        refine n_if_ne (tgt := 70) hx hb (r32 (by omega)) dX4_isFair_63 (by decide) (fun c_63 => ?_) (fun c_63 => ?_)
        · -- 63T
          refine n_iconst hx hb dX4_isFair_70 ?_
          refine m_zret hx hb hr hlk hH dX4_isFair_71 (Or.inl rfl) ?_
          refine ⟨?_, mx_sc⟩
          show _ = fairN _ _ _ _ _
          rw [he, show ((tm (σ 2) x_).length - i).toNat = 0 by omega, fairN]
          first | rw [if_pos (by omega)] | rw [if_neg (by omega)]
        · -- 63F
          refine n_iconst hx hb dX4_isFair_66 ?_
          refine lv_goto (tgt := 71) hx hb dX4_isFair_67 (by decide) ?_
          refine m_zret hx hb hr hlk hH dX4_isFair_71 (Or.inr rfl) ?_
          refine ⟨?_, mx_sc⟩
          show _ = fairN _ _ _ _ _
          rw [he, show ((tm (σ 2) x_).length - i).toNat = 0 by omega, fairN]
          first | rw [if_pos (by omega)] | rw [if_neg (by omega)]
      · -- 25F
        refine lv_aload_n hx hb dX4_isFair_28 rfl (lv_at hl 0 rfl) ?_
        refine m_get 22 (by decide) hx hb hts hown hK hj hH q1495 (fun _ h9 => h9) rfl dX4_isFair_29 ?_
        refine lv_iload hx hb dX4_isFair_32 (lv_at hl 4 rfl) ?_
        refine ml_22 hx hb hK hj hH (by omega) (by omega) dX4_isFair_34 ?_
        refine W.eq (g2 := F0 m 35 ls (.int (iI (τ 22 i)) :: [])) rfl ?_
        refine W.eq (g2 := F0 m 35 ls (.int (iI (hdN (tm (σ 2) x_) i.toNat)) :: [])) (by rw [(hQ.2 i (by omega) (by omega)).1]) ?_
        refine n_iconst hx hb dX4_isFair_35 ?_
        refine n_icmp_eq (tgt := 42) hx hb (r32 (by omega)) (r32 (by omega)) dX4_isFair_36 (by decide) (fun c_36 => ?_) (fun c_36 => ?_)
        · -- 36T
          refine n_iconst hx hb dX4_isFair_42 ?_
          refine lv_istore_n hx hb dX4_isFair_43 rfl hl (Nat.le_of_ble_eq_true rfl) (lv' := [(3, .int (iI 1)), (0, .ref (G.2.2 0)), (1, .int (iI x_)), (2, .int (iI t_)), (4, .int (iI i))]) rfl (fun ls hl => ?_)
          refine lv_aload_n hx hb dX4_isFair_44 rfl (lv_at hl 1 rfl) ?_
          refine m_get 23 (by decide) hx hb hts hown hK hj hH q1496 (fun _ h9 => h9) rfl dX4_isFair_45 ?_
          refine lv_iload hx hb dX4_isFair_48 (lv_at hl 4 rfl) ?_
          refine ml_23 hx hb hK hj hH (by omega) (by omega) dX4_isFair_50 ?_
          refine W.eq (g2 := F0 m 51 ls (.int (iI (τ 23 i)) :: [])) rfl ?_
          refine W.eq (g2 := F0 m 51 ls (.int (iI (hoN (tm (σ 2) x_) (trA (σ 2) t_) i.toNat)) :: [])) (by rw [(hQ.2 i (by omega) (by omega)).2.1]) ?_
          refine n_if_eq (tgt := 56) hx hb (r32 (by omega)) dX4_isFair_51 (by decide) (fun c_51 => ?_) (fun c_51 => ?_)
          · -- 51T
            refine n_iinc hx hb dX4_isFair_56 hl (k := 4) rfl (Nat.le_of_ble_eq_true rfl) (lv' := [(4, .int (iI (i + 1))), (3, .int (iI 1)), (0, .ref (G.2.2 0)), (1, .int (iI x_)), (2, .int (iI t_))]) rfl (fun ls hl => ?_)
            refine lv_goto (tgt := 19) hx hb dX4_isFair_59 (by decide) ?_
            have hl : lv_has ls 5 [(0, .ref (G.2.2 0)), (1, .int (iI x_)), (2, .int (iI t_)), (3, .int (iI 1)), (4, .int (iI (i + 1)))] := lv_sub hl [2, 3, 4, 1, 0] rfl
            refine ih_19 τ (i + 1) 1 ?_ ?_ ?_ ?_ ?_ ?_ _ _ _ hH hl
            · exact hQ
            · omega
            · omega
            · omega
            · omega
            · rw [he, fairN_e hi0 (by omega)]
              (repeat' split) <;> first | rfl | (exfalso; omega)
          · -- 51F
            refine n_iconst hx hb dX4_isFair_54 ?_
            refine m_zret hx hb hr hlk hH dX4_isFair_55 (Or.inr rfl) ?_
            refine ⟨?_, mx_sc⟩
            show _ = fairN _ _ _ _ _
            rw [he, fairN_e hi0 (by omega), if_pos (by omega), if_pos (by omega)]
        · -- 36F
          refine lv_goto (tgt := 56) hx hb dX4_isFair_39 (by decide) ?_
          refine n_iinc hx hb dX4_isFair_56 hl (k := 4) rfl (Nat.le_of_ble_eq_true rfl) (lv' := [(4, .int (iI (i + 1))), (0, .ref (G.2.2 0)), (1, .int (iI x_)), (2, .int (iI t_)), (3, .int (iI any))]) rfl (fun ls hl => ?_)
          refine lv_goto (tgt := 19) hx hb dX4_isFair_59 (by decide) ?_
          have hl : lv_has ls 5 [(0, .ref (G.2.2 0)), (1, .int (iI x_)), (2, .int (iI t_)), (3, .int (iI any)), (4, .int (iI (i + 1)))] := lv_sub hl [1, 2, 3, 4, 0] rfl
          refine ih_19 τ (i + 1) any ?_ ?_ ?_ ?_ ?_ ?_ _ _ _ hH hl
          · exact hQ
          · omega
          · omega
          · omega
          · omega
          · rw [he, fairN_e hi0 (by omega)]
            (repeat' split) <;> first | rfl | (exfalso; omega)
  refine lv_aload_n hx hb dX4_isFair_0 rfl (lv_at hl 0 rfl) ?_
  refine lv_aload_n hx hb dX4_isFair_1 rfl (lv_at hl 0 rfl) ?_
  refine lv_iload_n hx hb dX4_isFair_2 rfl (lv_at hl 2 rfl) ?_
  refine m_calliF (m_runV (As := [.int (iI t_)]) (rest := [.ref (G.2.2 0)]) S hH hK hj hl.1 (mm_trialAt l G (mx σ σ) t_ _ ) (lw_V q1690 q1692 qs55 q109 q1693) kd_X4_trialAt rfl rfl dX4_isFair_3) hH hA (fun H locs hH => ?_)
  refine m_callvF (m_runV (As := [.int (iI (1624 + 9 * t_))]) (rest := []) S hH hK hj hl.1 (mm_takesRow l G (mx σ σ) (1624 + 9 * t_) _ (by omega) (by omega)) (lw_V q1811 q1813 qs75 q109 q1814) kd_X4_takesRow rfl rfl dX4_isFair_6) hH hA (fun H locs hH => ?_)
  have hH := MH_to hH (τ := mx σ (rwS σ σ (1624 + 9 * t_))) mx_row
  refine lv_aload_n hx hb dX4_isFair_9 rfl (lv_at hl 0 rfl) ?_
  refine lv_iload_n hx hb dX4_isFair_10 rfl (lv_at hl 1 rfl) ?_
  refine m_callv (m_runV (As := [.int (iI x_)]) (rest := []) S hH hK hj hl.1 (mm_asks l G (mx σ (rwS σ σ (1624 + 9 * t_))) (tm (σ 2) x_) x_ _ h0 (by omega) hT.x (rw_ok hca) (hT.p h0 h1) hlen) (lw_V q1819 q1821 qs77 q109 q1822) kd_X4_asks rfl rfl dX4_isFair_11) hH hA (fun σ11 H locs q_11 hH => ?_)
  have hH := MH_to hH (τ := mx σ σ11) (mx_of q_11.sc)
  refine n_iconst hx hb dX4_isFair_14 ?_
  refine lv_istore_n hx hb dX4_isFair_15 rfl hl (Nat.le_of_ble_eq_true rfl) (lv' := [(3, .int (iI 0)), (0, .ref (G.2.2 0)), (1, .int (iI x_)), (2, .int (iI t_))]) rfl (fun ls hl => ?_)
  refine n_iconst hx hb dX4_isFair_16 ?_
  refine lv_istore hx hb dX4_isFair_17 hl (Nat.le_of_ble_eq_true rfl) (lv' := [(4, .int (iI 0)), (3, .int (iI 0)), (0, .ref (G.2.2 0)), (1, .int (iI x_)), (2, .int (iI t_))]) rfl (fun ls hl => ?_)
  have hl : lv_has ls 5 [(0, .ref (G.2.2 0)), (1, .int (iI x_)), (2, .int (iI t_)), (3, .int (iI 0)), (4, .int (iI 0))] := lv_sub hl [2, 3, 4, 1, 0] rfl
  refine L19 20 σ11 0 0 ?_ ?_ ?_ ?_ ?_ ?_ _ _ _ hH hl
  · exact AskQ_of q_11 (fun j h0 h1 => rwS_5 h0 h1)
  · omega
  · omega
  · omega
  · omega
  · rw [show (((tm (σ 2) x_).length : Int) - 0).toNat = (tm (σ 2) x_).length by omega]; rfl
theorem kd_X4_oddsOfTrial : yX4_oddsOfTrial.cls = RX4 ∧ yX4_oddsOfTrial.cls ≠ "java/lang/invoke/MethodHandle" ∧ yX4_oddsOfTrial.cls ≠ "java/lang/invoke/VarHandle" ∧ (parseMethodDescriptor yX4_oddsOfTrial.desc).map (fun d => d.parameters.length) = some 2 := by decide +kernel
theorem mm_oddsOfTrial (l : Launch) (G : MG) (σ : St) (x_ : Int) (t_ : Int) (sz : Nat) (h0 : 0 ≤ x_) (h1 : x_ < σ 2 1756) (hI : KI (σ 2)) (hT : TT (σ 2)) (ht0 : 0 ≤ t_) (ht1 : t_ < σ 2 1755) : Met l yX4_oddsOfTrial (ws_ yX4_oddsOfTrial cX4_oddsOfTrial 3 (some .int)) (rmD 68) (mP G [.ref (G.2.2 0), .int (iI x_), .int (iI t_)] σ sz) (mQi G σ sz (fun z σ' => z = (oT (σ 2) x_ t_) ∧ Sc σ σ')) 0 0 (mA G σ sz) := by
  refine m_start (by decide) (Nat.le_of_ble_eq_true rfl) ?_
  intro p e s m below meth c ⟨S, hr, hlk, hH, hK, hj, hsz, hnm⟩ ls hl
  subst hsz
  obtain ⟨hx, hb, hml, hown, hts⟩ := S
  have S : CallFix p m c _ _ s _ lw_all RX4 := ⟨hx, hb, hml, hown, hts⟩
  have hA : ∀ q, s.heap.size ≤ q → mA G σ s.heap.size q := fun q hq => Or.inr hq
  have hl : lv_has ls 3 [(0, .ref (G.2.2 0)), (1, .int (iI x_)), (2, .int (iI t_))] := hl
  have b0 := hI.c
  unfold kCnt at b0
  have hlen := hT.n h0 h1
  have hca : caseOK (trA (σ 2) t_) := hI.t t_ ht0 ht1
  have hH := MH_to hH (τ := mx σ σ) mx_self.symm
  refine lv_aload_n hx hb dX4_oddsOfTrial_0 rfl (lv_at hl 0 rfl) ?_
  refine lv_aload_n hx hb dX4_oddsOfTrial_1 rfl (lv_at hl 0 rfl) ?_
  refine lv_iload_n hx hb dX4_oddsOfTrial_2 rfl (lv_at hl 2 rfl) ?_
  refine m_calliF (m_runV (As := [.int (iI t_)]) (rest := [.ref (G.2.2 0)]) S hH hK hj hl.1 (mm_trialAt l G (mx σ σ) t_ _ ) (lw_V q1690 q1692 qs55 q109 q1693) kd_X4_trialAt rfl rfl dX4_oddsOfTrial_3) hH hA (fun H locs hH => ?_)
  refine m_callvF (m_runV (As := [.int (iI (1624 + 9 * t_))]) (rest := []) S hH hK hj hl.1 (mm_takesRow l G (mx σ σ) (1624 + 9 * t_) _ (by omega) (by omega)) (lw_V q1811 q1813 qs75 q109 q1814) kd_X4_takesRow rfl rfl dX4_oddsOfTrial_6) hH hA (fun H locs hH => ?_)
  have hH := MH_to hH (τ := mx σ (rwS σ σ (1624 + 9 * t_))) mx_row
  refine lv_aload_n hx hb dX4_oddsOfTrial_9 rfl (lv_at hl 0 rfl) ?_
  refine lv_iload_n hx hb dX4_oddsOfTrial_10 rfl (lv_at hl 1 rfl) ?_
  refine m_calli (m_runV (As := [.int (iI x_)]) (rest := []) S hH hK hj hl.1 (mm_oddsOf l G (mx σ (rwS σ σ (1624 + 9 * t_))) x_ _ h0 h1 hI hT (rw_ok hca)) (lw_V q1815 q1817 qs76 q109 q1818) kd_X4_oddsOf rfl rfl dX4_oddsOfTrial_11) hH hA (fun z11 σ11 H locs q_11 hH => ?_)
  obtain ⟨e_11, q_11⟩ := q_11
  have e_11 : z11 = (odd (tm (σ 2) x_) ((rwS σ σ (1624 + 9 * t_)) 5)) := e_11
  subst e_11
  obtain ⟨q_11, k_11⟩ := q_11
  have k_11 : σ11 5 = (rwS σ σ (1624 + 9 * t_)) 5 := k_11
  have hH := MH_to hH (τ := mx σ σ11) (mx_of q_11)
  refine m_iret hx hb hr hlk hH dX4_oddsOfTrial_14 ?_
  refine ⟨?_, mx_sc⟩
  exact odd_loc (tm_loc _ _) (fun j h0 h1 => rwS_5 h0 h1)
theorem kd_X4_oddsOfLook : yX4_oddsOfLook.cls = RX4 ∧ yX4_oddsOfLook.cls ≠ "java/lang/invoke/MethodHandle" ∧ yX4_oddsOfLook.cls ≠ "java/lang/invoke/VarHandle" ∧ (parseMethodDescriptor yX4_oddsOfLook.desc).map (fun d => d.parameters.length) = some 2 := by decide +kernel
theorem mm_oddsOfLook (l : Launch) (G : MG) (σ : St) (x_ : Int) (k_ : Int) (sz : Nat) (h0 : 0 ≤ x_) (h1 : x_ < σ 2 1756) (hI : KI (σ 2)) (hT : TT (σ 2)) (hk0 : 0 ≤ k_) (hk1 : k_ < σ 2 1754) : Met l yX4_oddsOfLook (ws_ yX4_oddsOfLook cX4_oddsOfLook 4 (some .int)) (rmD 68) (mP G [.ref (G.2.2 0), .int (iI x_), .int (iI k_)] σ sz) (mQi G σ sz (fun z σ' => z = (oL (σ 2) x_ k_) ∧ Sc σ σ')) 0 0 (mA G σ sz) := by
  refine m_start (by decide) (Nat.le_of_ble_eq_true rfl) ?_
  intro p e s m below meth c ⟨S, hr, hlk, hH, hK, hj, hsz, hnm⟩ ls hl
  subst hsz
  obtain ⟨hx, hb, hml, hown, hts⟩ := S
  have S : CallFix p m c _ _ s _ lw_all RX4 := ⟨hx, hb, hml, hown, hts⟩
  have hA : ∀ q, s.heap.size ≤ q → mA G σ s.heap.size q := fun q hq => Or.inr hq
  have hl : lv_has ls 4 [(0, .ref (G.2.2 0)), (1, .int (iI x_)), (2, .int (iI k_))] := hl
  have b0 := hI.c
  unfold kCnt at b0
  have hlen := hT.n h0 h1
  have hca : caseOK (loA (σ 2) k_) := (hI.o k_ hk0 hk1).1
  have hse := (hI.o k_ hk0 hk1).2
  have hH := MH_to hH (τ := mx σ σ) mx_self.symm
  refine lv_aload_n hx hb dX4_oddsOfLook_0 rfl (lv_at hl 0 rfl) ?_
  refine lv_aload_n hx hb dX4_oddsOfLook_1 rfl (lv_at hl 0 rfl) ?_
  refine lv_iload_n hx hb dX4_oddsOfLook_2 rfl (lv_at hl 2 rfl) ?_
  refine m_calliF (m_runV (As := [.int (iI k_)]) (rest := [.ref (G.2.2 0)]) S hH hK hj hl.1 (mm_lookAt l G (mx σ σ) k_ _ ) (lw_V q1682 q1684 qs54 q109 q1685) kd_X4_lookAt rfl rfl dX4_oddsOfLook_3) hH hA (fun H locs hH => ?_)
  refine m_callvF (m_runV (As := [.int (iI (1224 + 10 * k_))]) (rest := []) S hH hK hj hl.1 (mm_takesRow l G (mx σ σ) (1224 + 10 * k_) _ (by omega) (by omega)) (lw_V q1811 q1813 qs75 q109 q1814) kd_X4_takesRow rfl rfl dX4_oddsOfLook_6) hH hA (fun H locs hH => ?_)
  have hH := MH_to hH (τ := mx σ (rwS σ σ (1224 + 10 * k_))) mx_row
  refine lv_aload_n hx hb dX4_oddsOfLook_9 rfl (lv_at hl 0 rfl) ?_
  refine lv_iload_n hx hb dX4_oddsOfLook_10 rfl (lv_at hl 1 rfl) ?_
  refine m_calli (m_runV (As := [.int (iI x_)]) (rest := []) S hH hK hj hl.1 (mm_oddsOf l G (mx σ (rwS σ σ (1224 + 10 * k_))) x_ _ h0 h1 hI hT (rw_ok hca)) (lw_V q1815 q1817 qs76 q109 q1818) kd_X4_oddsOf rfl rfl dX4_oddsOfLook_11) hH hA (fun z11 σ11 H locs q_11 hH => ?_)
  obtain ⟨e_11, q_11⟩ := q_11
  have e_11 : z11 = (odd (tm (σ 2) x_) ((rwS σ σ (1224 + 10 * k_)) 5)) := e_11
  subst e_11
  obtain ⟨q_11, k_11⟩ := q_11
  have k_11 : σ11 5 = (rwS σ σ (1224 + 10 * k_)) 5 := k_11
  have hH := MH_to hH (τ := mx σ σ11) (mx_of q_11)
  refine W.eq (g2 := F0 m 14 ls (.int (iI (odd (tm (σ 2) x_) (loA (σ 2) k_))) :: [])) (by rw [odd_loc (tm_loc _ _) (fun j h0 h1 => rwS_5 h0 h1)]; rfl) ?_
  have ho := odd_r (tm (σ 2) x_) (loA (σ 2) k_)
  refine lv_istore_n hx hb dX4_oddsOfLook_14 rfl hl (Nat.le_of_ble_eq_true rfl) (lv' := [(3, .int (iI (odd (tm (σ 2) x_) (loA (σ 2) k_)))), (0, .ref (G.2.2 0)), (1, .int (iI x_)), (2, .int (iI k_))]) rfl (fun ls hl => ?_)
  refine lv_aload_n hx hb dX4_oddsOfLook_15 rfl (lv_at hl 1 rfl) ?_
  refine lv_iload_n hx hb dX4_oddsOfLook_16 rfl (lv_at hl 3 rfl) ?_
  refine m_calliF (m_runV (As := [.int (iI k_)]) (rest := []) S hH hK hj hl.1 (mm_seenAt l G (mx σ σ11) k_ _ (by omega) (by omega)) (lw_V q1872 q1874 qs89 q109 q1875) kd_X4_seenAt rfl rfl dX4_oddsOfLook_17) hH hA (fun H locs hH => ?_)
  refine W.eq (g2 := F0 m 20 ls (.int (iI (σ 2 (1224 + 10 * k_ + 9))) :: [])) rfl ?_
  refine n_iconst hx hb dX4_oddsOfLook_20 ?_
  refine n_icmp_ne (tgt := 28) hx hb (r32 (by omega)) (r32 (by omega)) dX4_oddsOfLook_21 (by decide) (fun c_21 => ?_) (fun c_21 => ?_)
  · -- 21T
    refine n_bipush (z := 100) hx hb dX4_oddsOfLook_28 (by decide) ?_
    refine lv_iload_n hx hb dX4_oddsOfLook_30 rfl (lv_at hl 0 rfl) ?_
    refine n_isub hx hb dX4_oddsOfLook_31 ?_
    refine m_iret hx hb hr hlk hH dX4_oddsOfLook_32 ?_
    refine ⟨?_, mx_sc⟩
    exact (if_neg c_21).symm
  · -- 21F
    refine lv_iload_n hx hb dX4_oddsOfLook_24 rfl (lv_at hl 0 rfl) ?_
    refine lv_goto (tgt := 32) hx hb dX4_oddsOfLook_25 (by decide) ?_
    refine m_iret hx hb hr hlk hH dX4_oddsOfLook_32 ?_
    refine ⟨?_, mx_sc⟩
    exact (if_pos c_21).symm
