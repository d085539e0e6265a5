theorem kd_X4_heat : yX4_heat.cls = RX4 ∧ yX4_heat.cls ≠ "java/lang/invoke/MethodHandle" ∧ yX4_heat.cls ≠ "java/lang/invoke/VarHandle" ∧ (parseMethodDescriptor yX4_heat.desc).map (fun d => d.parameters.length) = some 3 := by decide +kernel
theorem mm_heat (l : Launch) (G : MG) (σ : St) (f : Int) (ht : Int) (mi : Int) (sz : Nat) (h_f : R32 f) (h_ht : R32 ht) (h_mi : R32 mi) (hI : KI (σ 2)) : Met l yX4_heat (ws_ yX4_heat cX4_heat 7 (some .int)) (rmD 3) (mP G [.ref (G.2.2 0), .int (iI f), .int (iI ht), .int (iI mi)] σ sz) (mQi G σ sz (fun z σ' => (z, σ') = heatF σ f ht mi)) 0 0 (mA G σ sz) := by
  refine m_start (by decide) (Nat.le_of_ble_eq_true rfl) ?_
  intro p e s m below meth c ⟨S, hr, hlk, hH, hK, hj, hsz, hnm⟩ ls hl
  subst hsz
  obtain ⟨hx, hb, hml, hown, hts⟩ := S
  have S : CallFix p m c _ _ s _ lw_all RX4 := ⟨hx, hb, hml, hown, hts⟩
  have hA : ∀ q, s.heap.size ≤ q → mA G σ s.heap.size q := fun q hq => Or.inr hq
  have hl : lv_has ls 7 [(0, .ref (G.2.2 0)), (1, .int (iI f)), (2, .int (iI ht)), (3, .int (iI mi))] := hl
  have b0 := hI.c
  unfold kCnt at b0
  have h_f := R32.n h_f
  have h_ht := R32.n h_ht
  have h_mi := R32.n h_mi
  have L48 : ∀ (n : Nat) (i : Int), (h0 : 0 ≤ i) → (h1 : i ≤ σ 2 (184 + 26 * f + 16)) → (hn : σ 2 (184 + 26 * f + 16) < (n : Int) + i) → (hg : (0 ≤ ht ∧ ht ≤ 7) ∧ (1 ≤ mi ∧ mi ≤ 255)) → (hf : 0 ≤ f ∧ f ≤ σ 2 1753 - 1) → ∀ (H : Heap) (locs : List Loc) (ls : Array Slot), MH G (mA G σ s.heap.size) ((heatL σ f ht mi i.toNat).1) s.heap H locs → lv_has ls 7 [(0, .ref (G.2.2 0)), (1, .int (iI f)), (2, .int (iI ht)), (3, .int (iI mi)), (4, .int (iI ((heatL σ f ht mi i.toNat).2))), (5, .int (iI i))] → W p l e (rmD 3) s m ([.ref (G.2.2 0), .int (iI f), .int (iI ht), .int (iI mi)] : List Value).toArray below meth c H locs 0 0 (MQ below (mQi G σ s.heap.size (fun z σ' => (z, σ') = heatF σ f ht mi)) ([.ref (G.2.2 0), .int (iI f), .int (iI ht), .int (iI mi)] : List Value).toArray s 0 0 (mA G σ s.heap.size)) (F0 m 48 ls []) := by
    intro n
    induction n with
    | zero => intro i h0 h1 hn hg hf; exfalso; omega
    | succ n ih_48 =>
      intro i h0 h1 hn hg hf H locs ls hH hl
      have b1 := hI.f f (by omega) (by omega)
      unfold kFlask fl at b1
      have hq := heatL_n σ f ht mi i.toNat
      have hq2 : ((i.toNat : Nat) : Int) = i := by omega
      have ho := fun j => heatL_o σ f ht mi j i.toNat
      refine lv_iload hx hb dX4_heat_48 (lv_at hl 5 rfl) ?_
      refine lv_aload_n hx hb dX4_heat_50 rfl (lv_at hl 0 rfl) ?_
      refine lv_iload_n hx hb dX4_heat_51 rfl (lv_at hl 1 rfl) ?_
      refine n_bipush (z := 16) hx hb dX4_heat_52 (by decide) ?_
      refine m_calliF (m_runV (As := [.int (iI f), .int (iI 16)]) (rest := [.int (iI i)]) S hH hK hj hl.1 (mm_flaskOf l G ((heatL σ f ht mi i.toNat).1) f 16 _ (by omega) (by omega) (by omega) (by omega)) (lw_V q1625 q1627 qs48 q109 q1628) kd_X4_flaskOf rfl rfl dX4_heat_54) hH hA (fun H locs hH => ?_)
      refine W.eq (g2 := F0 m 57 ls (.int (iI (σ 2 (184 + 26 * f + 16))) :: .int (iI i) :: [])) (by rw [ho _ (by omega)]) ?_
      refine n_icmp_ge (tgt := 155) hx hb (r32 (by omega)) (r32 (by omega)) dX4_heat_57 (by decide) (fun c_57 => ?_) (fun c_57 => ?_)
      · -- 57T
        obtain rfl : i = (σ 2 (184 + 26 * f + 16)) := by omega
        refine lv_aload_n hx hb dX4_heat_155 rfl (lv_at hl 0 rfl) ?_
        refine lv_iload_n hx hb dX4_heat_156 rfl (lv_at hl 1 rfl) ?_
        refine n_bipush (z := 16) hx hb dX4_heat_157 (by decide) ?_
        refine lv_iload hx hb dX4_heat_159 (lv_at hl 4 rfl) ?_
        refine m_callvF (m_runV (As := [.int (iI f), .int (iI 16), .int (iI ((heatL σ f ht mi (σ 2 (184 + 26 * f + 16)).toNat).2))]) (rest := []) S hH hK hj hl.1 (mm_sets l G ((heatL σ f ht mi (σ 2 (184 + 26 * f + 16)).toNat).1) f 16 ((heatL σ f ht mi (σ 2 (184 + 26 * f + 16)).toNat).2) _ (by omega) (by omega) (by omega) (by omega)) (lw_V q1613 q1615 qs46 q109 q1616) kd_X4_sets rfl rfl dX4_heat_161) hH hA (fun H locs hH => ?_)
        refine lv_aload_n hx hb dX4_heat_164 rfl (lv_at hl 0 rfl) ?_
        refine lv_iload_n hx hb dX4_heat_165 rfl (lv_at hl 1 rfl) ?_
        refine n_iconst hx hb dX4_heat_166 ?_
        refine lv_iload_n hx hb dX4_heat_167 rfl (lv_at hl 2 rfl) ?_
        refine m_callvF (m_runV (As := [.int (iI f), .int (iI 2), .int (iI ht)]) (rest := []) S hH hK hj hl.1 (mm_sets l G (st ((heatL σ f ht mi (σ 2 (184 + 26 * f + 16)).toNat).1) 2 (184 + 26 * f + 16) ((heatL σ f ht mi (σ 2 (184 + 26 * f + 16)).toNat).2)) f 2 ht _ (by omega) (by omega) (by omega) (by omega)) (lw_V q1613 q1615 qs46 q109 q1616) kd_X4_sets rfl rfl dX4_heat_168) hH hA (fun H locs hH => ?_)
        refine lv_aload_n hx hb dX4_heat_171 rfl (lv_at hl 0 rfl) ?_
        refine lv_iload_n hx hb dX4_heat_172 rfl (lv_at hl 1 rfl) ?_
        refine n_iconst hx hb dX4_heat_173 ?_
        refine lv_iload_n hx hb dX4_heat_174 rfl (lv_at hl 3 rfl) ?_
        refine m_callvF (m_runV (As := [.int (iI f), .int (iI 3), .int (iI mi)]) (rest := []) S hH hK hj hl.1 (mm_sets l G (st (st ((heatL σ f ht mi (σ 2 (184 + 26 * f + 16)).toNat).1) 2 (184 + 26 * f + 16) ((heatL σ f ht mi (σ 2 (184 + 26 * f + 16)).toNat).2)) 2 (184 + 26 * f + 2) ht) f 3 mi _ (by omega) (by omega) (by omega) (by omega)) (lw_V q1613 q1615 qs46 q109 q1616) kd_X4_sets rfl rfl dX4_heat_175) hH hA (fun H locs hH => ?_)
        refine lv_aload_n hx hb dX4_heat_178 rfl (lv_at hl 0 rfl) ?_
        refine lv_iload_n hx hb dX4_heat_179 rfl (lv_at hl 1 rfl) ?_
        refine n_iconst hx hb dX4_heat_180 ?_
        refine lv_aload_n hx hb dX4_heat_181 rfl (lv_at hl 0 rfl) ?_
        refine m_get 2 (by decide) hx hb hts hown hK hj hH q1475 (fun _ h9 => h9) rfl dX4_heat_182 ?_
        refine n_sipush (z := 1750) hx hb dX4_heat_185 (by decide) ?_
        refine ml_2 hx hb hK hj hH (by omega) (by omega) dX4_heat_188 ?_
        refine W.eq (g2 := F0 m 189 ls (.int (iI (σ 2 1750)) :: .int (iI 4) :: .int (iI f) :: .ref (G.2.2 0) :: [])) (by rw [st_i (by omega), st_i (by omega), st_i (by omega), ho _ (by omega)]) ?_
        refine m_callvF (m_runV (As := [.int (iI f), .int (iI 4), .int (iI (σ 2 1750))]) (rest := []) S hH hK hj hl.1 (mm_sets l G (st (st (st ((heatL σ f ht mi (σ 2 (184 + 26 * f + 16)).toNat).1) 2 (184 + 26 * f + 16) ((heatL σ f ht mi (σ 2 (184 + 26 * f + 16)).toNat).2)) 2 (184 + 26 * f + 2) ht) 2 (184 + 26 * f + 3) mi) f 4 (σ 2 1750) _ (by omega) (by omega) (by omega) (by omega)) (lw_V q1613 q1615 qs46 q109 q1616) kd_X4_sets rfl rfl dX4_heat_189) hH hA (fun H locs hH => ?_)
        refine lv_aload_n hx hb dX4_heat_192 rfl (lv_at hl 0 rfl) ?_
        refine lv_iload_n hx hb dX4_heat_193 rfl (lv_at hl 1 rfl) ?_
        refine n_bipush (z := 6) hx hb dX4_heat_194 (by decide) ?_
        refine n_iconst hx hb dX4_heat_196 ?_
        refine m_callvF (m_runV (As := [.int (iI f), .int (iI 6), .int (iI 0)]) (rest := []) S hH hK hj hl.1 (mm_sets l G (st (st (st (st ((heatL σ f ht mi (σ 2 (184 + 26 * f + 16)).toNat).1) 2 (184 + 26 * f + 16) ((heatL σ f ht mi (σ 2 (184 + 26 * f + 16)).toNat).2)) 2 (184 + 26 * f + 2) ht) 2 (184 + 26 * f + 3) mi) 2 (184 + 26 * f + 4) (σ 2 1750)) f 6 0 _ (by omega) (by omega) (by omega) (by omega)) (lw_V q1613 q1615 qs46 q109 q1616) kd_X4_sets rfl rfl dX4_heat_197) hH hA (fun H locs hH => ?_)
        refine lv_aload_n hx hb dX4_heat_200 rfl (lv_at hl 0 rfl) ?_
        refine lv_iload_n hx hb dX4_heat_201 rfl (lv_at hl 1 rfl) ?_
        refine n_bipush (z := 7) hx hb dX4_heat_202 (by decide) ?_
        refine n_iconst hx hb dX4_heat_204 ?_
        refine m_callvF (m_runV (As := [.int (iI f), .int (iI 7), .int (iI 0)]) (rest := []) S hH hK hj hl.1 (mm_sets l G (st (st (st (st (st ((heatL σ f ht mi (σ 2 (184 + 26 * f + 16)).toNat).1) 2 (184 + 26 * f + 16) ((heatL σ f ht mi (σ 2 (184 + 26 * f + 16)).toNat).2)) 2 (184 + 26 * f + 2) ht) 2 (184 + 26 * f + 3) mi) 2 (184 + 26 * f + 4) (σ 2 1750)) 2 (184 + 26 * f + 6) 0) f 7 0 _ (by omega) (by omega) (by omega) (by omega)) (lw_V q1613 q1615 qs46 q109 q1616) kd_X4_sets rfl rfl dX4_heat_205) hH hA (fun H locs hH => ?_)
        refine lv_aload_n hx hb dX4_heat_208 rfl (lv_at hl 0 rfl) ?_
        refine lv_iload_n hx hb dX4_heat_209 rfl (lv_at hl 1 rfl) ?_
        refine n_bipush (z := 11) hx hb dX4_heat_210 (by decide) ?_
        refine n_iconst hx hb dX4_heat_212 ?_
        refine m_callvF (m_runV (As := [.int (iI f), .int (iI 11), .int (iI 0)]) (rest := []) S hH hK hj hl.1 (mm_sets l G (st (st (st (st (st (st ((heatL σ f ht mi (σ 2 (184 + 26 * f + 16)).toNat).1) 2 (184 + 26 * f + 16) ((heatL σ f ht mi (σ 2 (184 + 26 * f + 16)).toNat).2)) 2 (184 + 26 * f + 2) ht) 2 (184 + 26 * f + 3) mi) 2 (184 + 26 * f + 4) (σ 2 1750)) 2 (184 + 26 * f + 6) 0) 2 (184 + 26 * f + 7) 0) f 11 0 _ (by omega) (by omega) (by omega) (by omega)) (lw_V q1613 q1615 qs46 q109 q1616) kd_X4_sets rfl rfl dX4_heat_213) hH hA (fun H locs hH => ?_)
        refine lv_aload_n hx hb dX4_heat_216 rfl (lv_at hl 0 rfl) ?_
        refine lv_iload hx hb dX4_heat_217 (lv_at hl 4 rfl) ?_
        refine m_calliF (m_runV (As := [.int (iI ((heatL σ f ht mi (σ 2 (184 + 26 * f + 16)).toNat).2))]) (rest := []) S hH hK hj hl.1 (mm_good l G (st (st (st (st (st (st (st ((heatL σ f ht mi (σ 2 (184 + 26 * f + 16)).toNat).1) 2 (184 + 26 * f + 16) ((heatL σ f ht mi (σ 2 (184 + 26 * f + 16)).toNat).2)) 2 (184 + 26 * f + 2) ht) 2 (184 + 26 * f + 3) mi) 2 (184 + 26 * f + 4) (σ 2 1750)) 2 (184 + 26 * f + 6) 0) 2 (184 + 26 * f + 7) 0) 2 (184 + 26 * f + 11) 0) ((heatL σ f ht mi (σ 2 (184 + 26 * f + 16)).toNat).2) _ ) (lw_V q1576 q1578 qs44 q109 q1579) kd_X4_good rfl rfl dX4_heat_219) hH hA (fun H locs hH => ?_)
        refine m_iret hx hb hr hlk hH dX4_heat_222 ?_
        unfold heatF
        rw [if_pos hg, if_pos hf]
        all_goals rfl
      · -- 57F
        have b3 := b1.2.2.2.2.2.2.2.2.2.2.2.2.2.2.2.2.2 i (by omega) (by omega)
        have b4 := hI.k (σ 2 (184 + 26 * f + (17 + 2 * i))) (by omega) (by omega)
        unfold kKind at b4
        refine lv_aload_n hx hb dX4_heat_60 rfl (lv_at hl 0 rfl) ?_
        refine lv_iload_n hx hb dX4_heat_61 rfl (lv_at hl 1 rfl) ?_
        refine n_bipush (z := 17) hx hb dX4_heat_62 (by decide) ?_
        refine n_iconst hx hb dX4_heat_64 ?_
        refine lv_iload hx hb dX4_heat_65 (lv_at hl 5 rfl) ?_
        refine n_imul hx hb dX4_heat_67 ?_
        refine n_iadd hx hb dX4_heat_68 ?_
        refine m_calliF (m_runV (As := [.int (iI f), .int (iI (17 + (2 * i)))]) (rest := []) S hH hK hj hl.1 (mm_flaskOf l G ((heatL σ f ht mi i.toNat).1) f (17 + (2 * i)) _ (by omega) (by omega) (by omega) (by omega)) (lw_V q1625 q1627 qs48 q109 q1628) kd_X4_flaskOf rfl rfl dX4_heat_69) hH hA (fun H locs hH => ?_)
        refine W.eq (g2 := F0 m 72 ls (.int (iI (σ 2 (184 + 26 * f + (17 + 2 * i)))) :: [])) (by rw [ho _ (by omega)]) ?_
        refine lv_istore hx hb dX4_heat_72 hl (Nat.le_of_ble_eq_true rfl) (lv' := [(6, .int (iI (σ 2 (184 + 26 * f + (17 + 2 * i))))), (0, .ref (G.2.2 0)), (1, .int (iI f)), (2, .int (iI ht)), (3, .int (iI mi)), (4, .int (iI ((heatL σ f ht mi i.toNat).2))), (5, .int (iI i))]) rfl (fun ls hl => ?_)
        refine lv_iload_n hx hb dX4_heat_74 rfl (lv_at hl 3 rfl) ?_
        refine lv_aload_n hx hb dX4_heat_75 rfl (lv_at hl 1 rfl) ?_
        refine lv_iload hx hb dX4_heat_76 (lv_at hl 0 rfl) ?_
        refine n_iconst hx hb dX4_heat_78 ?_
        refine m_calliF (m_runV (As := [.int (iI (σ 2 (184 + 26 * f + (17 + 2 * i)))), .int (iI 0)]) (rest := [.int (iI ht)]) S hH hK hj hl.1 (mm_kindOf l G ((heatL σ f ht mi i.toNat).1) (σ 2 (184 + 26 * f + (17 + 2 * i))) 0 _ (by omega) (by omega) (by omega) (by omega)) (lw_V q1629 q1631 qs49 q109 q1632) kd_X4_kindOf rfl rfl dX4_heat_79) hH hA (fun H locs hH => ?_)
        refine W.eq (g2 := F0 m 82 ls (.int (iI (σ 2 (136 + 6 * (σ 2 (184 + 26 * f + (17 + 2 * i))) + 0))) :: .int (iI ht) :: [])) (by rw [ho _ (by omega)]) ?_
        refine n_icmp_gt (tgt := 149) hx hb (r32 (by omega)) (r32 (by omega)) dX4_heat_82 (by decide) (fun c_82 => ?_) (fun c_82 => ?_)
        · -- 82T
          refine n_iinc hx hb dX4_heat_149 hl (k := 6) rfl (Nat.le_of_ble_eq_true rfl) (lv' := [(5, .int (iI (i + 1))), (6, .int (iI (σ 2 (184 + 26 * f + (17 + 2 * i))))), (0, .ref (G.2.2 0)), (1, .int (iI f)), (2, .int (iI ht)), (3, .int (iI mi)), (4, .int (iI ((heatL σ f ht mi i.toNat).2)))]) rfl (fun ls hl => ?_)
          refine lv_goto (tgt := 48) hx hb dX4_heat_152 (by decide) ?_
          have hl : lv_has ls 7 [(0, .ref (G.2.2 0)), (1, .int (iI f)), (2, .int (iI ht)), (3, .int (iI mi)), (4, .int (iI ((heatL σ f ht mi i.toNat).2))), (5, .int (iI (i + 1)))] := lv_sub hl [2, 3, 4, 5, 6, 0] rfl
          have hl : lv_has ls 7 [(0, .ref (G.2.2 0)), (1, .int (iI f)), (2, .int (iI ht)), (3, .int (iI mi)), (4, .int (iI ((heatL σ f ht mi (i + 1).toNat).2))), (5, .int (iI (i + 1)))] := by rw [heatL_d (by omega) (by unfold dropP; omega)]; exact hl
          have hH := MH_to hH (τ := (heatL σ f ht mi (i + 1).toNat).1) (congrArg Prod.fst (heatL_d (by omega) (by unfold dropP; omega)).symm)
          refine ih_48 (i + 1) ?_ ?_ ?_ ?_ ?_ _ _ _ hH hl
          · omega
          · omega
          · omega
          · omega
          · omega
        · -- 82F
          refine lv_iload_n hx hb dX4_heat_85 rfl (lv_at hl 3 rfl) ?_
          refine lv_aload_n hx hb dX4_heat_86 rfl (lv_at hl 1 rfl) ?_
          refine lv_iload hx hb dX4_heat_87 (lv_at hl 0 rfl) ?_
          refine n_iconst hx hb dX4_heat_89 ?_
          refine m_calliF (m_runV (As := [.int (iI (σ 2 (184 + 26 * f + (17 + 2 * i)))), .int (iI 0)]) (rest := [.int (iI ht)]) S hH hK hj hl.1 (mm_kindOf l G ((heatL σ f ht mi i.toNat).1) (σ 2 (184 + 26 * f + (17 + 2 * i))) 0 _ (by omega) (by omega) (by omega) (by omega)) (lw_V q1629 q1631 qs49 q109 q1632) kd_X4_kindOf rfl rfl dX4_heat_90) hH hA (fun H locs hH => ?_)
          refine W.eq (g2 := F0 m 93 ls (.int (iI (σ 2 (136 + 6 * (σ 2 (184 + 26 * f + (17 + 2 * i))) + 0))) :: .int (iI ht) :: [])) (by rw [ho _ (by omega)]) ?_
          refine n_icmp_ne (tgt := 110) hx hb (r32 (by omega)) (r32 (by omega)) dX4_heat_93 (by decide) (fun c_93 => ?_) (fun c_93 => ?_)
          · -- 93T
            refine lv_aload_n hx hb dX4_heat_110 rfl (lv_at hl 1 rfl) ?_
            refine lv_iload_n hx hb dX4_heat_111 rfl (lv_at hl 2 rfl) ?_
            refine n_bipush (z := 17) hx hb dX4_heat_112 (by decide) ?_
            refine n_iconst hx hb dX4_heat_114 ?_
            refine lv_iload hx hb dX4_heat_115 (lv_at hl 5 rfl) ?_
            refine n_imul hx hb dX4_heat_117 ?_
            refine n_iadd hx hb dX4_heat_118 ?_
            refine lv_iload hx hb dX4_heat_119 (lv_at hl 0 rfl) ?_
            refine m_callvF (m_runV (As := [.int (iI f), .int (iI (17 + (2 * ((heatL σ f ht mi i.toNat).2)))), .int (iI (σ 2 (184 + 26 * f + (17 + 2 * i))))]) (rest := []) S hH hK hj hl.1 (mm_sets l G ((heatL σ f ht mi i.toNat).1) f (17 + (2 * ((heatL σ f ht mi i.toNat).2))) (σ 2 (184 + 26 * f + (17 + 2 * i))) _ (by omega) (by omega) (by omega) (by omega)) (lw_V q1613 q1615 qs46 q109 q1616) kd_X4_sets rfl rfl dX4_heat_121) hH hA (fun H locs hH => ?_)
            refine lv_aload_n hx hb dX4_heat_124 rfl (lv_at hl 1 rfl) ?_
            refine lv_iload_n hx hb dX4_heat_125 rfl (lv_at hl 2 rfl) ?_
            refine n_bipush (z := 17) hx hb dX4_heat_126 (by decide) ?_
            refine n_iconst hx hb dX4_heat_128 ?_
            refine lv_iload hx hb dX4_heat_129 (lv_at hl 5 rfl) ?_
            refine n_imul hx hb dX4_heat_131 ?_
            refine n_iadd hx hb dX4_heat_132 ?_
            refine n_iconst hx hb dX4_heat_133 ?_
            refine n_iadd hx hb dX4_heat_134 ?_
            refine lv_aload_n hx hb dX4_heat_135 rfl (lv_at hl 1 rfl) ?_
            refine m_get 2 (by decide) hx hb hts hown hK hj hH q1475 (fun _ h9 => h9) rfl dX4_heat_136 ?_
            refine n_sipush (z := 1750) hx hb dX4_heat_139 (by decide) ?_
            refine ml_2 hx hb hK hj hH (by omega) (by omega) dX4_heat_142 ?_
            refine W.eq (g2 := F0 m 143 ls (.int (iI (σ 2 1750)) :: .int (iI ((17 + (2 * ((heatL σ f ht mi i.toNat).2))) + 1)) :: .int (iI f) :: .ref (G.2.2 0) :: [])) (by rw [st_i (by omega), ho _ (by omega)]) ?_
            refine m_callvF (m_runV (As := [.int (iI f), .int (iI ((17 + (2 * ((heatL σ f ht mi i.toNat).2))) + 1)), .int (iI (σ 2 1750))]) (rest := []) S hH hK hj hl.1 (mm_sets l G (st ((heatL σ f ht mi i.toNat).1) 2 (184 + 26 * f + (17 + (2 * ((heatL σ f ht mi i.toNat).2)))) (σ 2 (184 + 26 * f + (17 + 2 * i)))) f ((17 + (2 * ((heatL σ f ht mi i.toNat).2))) + 1) (σ 2 1750) _ (by omega) (by omega) (by omega) (by omega)) (lw_V q1613 q1615 qs46 q109 q1616) kd_X4_sets rfl rfl dX4_heat_143) hH hA (fun H locs hH => ?_)
            refine n_iinc hx hb dX4_heat_146 hl (k := 5) rfl (Nat.le_of_ble_eq_true rfl) (lv' := [(4, .int (iI (((heatL σ f ht mi i.toNat).2) + 1))), (6, .int (iI (σ 2 (184 + 26 * f + (17 + 2 * i))))), (0, .ref (G.2.2 0)), (1, .int (iI f)), (2, .int (iI ht)), (3, .int (iI mi)), (5, .int (iI i))]) rfl (fun ls hl => ?_)
            refine n_iinc hx hb dX4_heat_149 hl (k := 6) rfl (Nat.le_of_ble_eq_true rfl) (lv' := [(5, .int (iI (i + 1))), (4, .int (iI (((heatL σ f ht mi i.toNat).2) + 1))), (6, .int (iI (σ 2 (184 + 26 * f + (17 + 2 * i))))), (0, .ref (G.2.2 0)), (1, .int (iI f)), (2, .int (iI ht)), (3, .int (iI mi))]) rfl (fun ls hl => ?_)
            refine lv_goto (tgt := 48) hx hb dX4_heat_152 (by decide) ?_
            have hl : lv_has ls 7 [(0, .ref (G.2.2 0)), (1, .int (iI f)), (2, .int (iI ht)), (3, .int (iI mi)), (4, .int (iI (((heatL σ f ht mi i.toNat).2) + 1))), (5, .int (iI (i + 1)))] := lv_sub hl [3, 4, 5, 6, 1, 0] rfl
            have hl : lv_has ls 7 [(0, .ref (G.2.2 0)), (1, .int (iI f)), (2, .int (iI ht)), (3, .int (iI mi)), (4, .int (iI ((heatL σ f ht mi (i + 1).toNat).2))), (5, .int (iI (i + 1)))] := by rw [heatL_k (by omega) (by unfold dropP; omega)]; exact hl
            have hH := MH_to hH (τ := (heatL σ f ht mi (i + 1).toNat).1) (congrArg Prod.fst (heatL_k (by omega) (by unfold dropP; omega)).symm)
            refine ih_48 (i + 1) ?_ ?_ ?_ ?_ ?_ _ _ _ hH hl
            · omega
            · omega
            · omega
            · omega
            · omega
          · -- 93F
            refine lv_iload_n hx hb dX4_heat_96 rfl (lv_at hl 4 rfl) ?_
            refine lv_aload_n hx hb dX4_heat_97 rfl (lv_at hl 1 rfl) ?_
            refine lv_iload hx hb dX4_heat_98 (lv_at hl 0 rfl) ?_
            refine n_iconst hx hb dX4_heat_100 ?_
            refine m_calliF (m_runV (As := [.int (iI (σ 2 (184 + 26 * f + (17 + 2 * i)))), .int (iI 1)]) (rest := [.int (iI mi)]) S hH hK hj hl.1 (mm_kindOf l G ((heatL σ f ht mi i.toNat).1) (σ 2 (184 + 26 * f + (17 + 2 * i))) 1 _ (by omega) (by omega) (by omega) (by omega)) (lw_V q1629 q1631 qs49 q109 q1632) kd_X4_kindOf rfl rfl dX4_heat_101) hH hA (fun H locs hH => ?_)
            refine W.eq (g2 := F0 m 104 ls (.int (iI (σ 2 (136 + 6 * (σ 2 (184 + 26 * f + (17 + 2 * i))) + 1))) :: .int (iI mi) :: [])) (by rw [ho _ (by omega)]) ?_
            refine n_icmp_lt (tgt := 110) hx hb (r32 (by omega)) (r32 (by omega)) dX4_heat_104 (by decide) (fun c_104 => ?_) (fun c_104 => ?_)
            · -- 104T
              refine lv_aload_n hx hb dX4_heat_110 rfl (lv_at hl 1 rfl) ?_
              refine lv_iload_n hx hb dX4_heat_111 rfl (lv_at hl 2 rfl) ?_
              refine n_bipush (z := 17) hx hb dX4_heat_112 (by decide) ?_
              refine n_iconst hx hb dX4_heat_114 ?_
              refine lv_iload hx hb dX4_heat_115 (lv_at hl 5 rfl) ?_
              refine n_imul hx hb dX4_heat_117 ?_
              refine n_iadd hx hb dX4_heat_118 ?_
              refine lv_iload hx hb dX4_heat_119 (lv_at hl 0 rfl) ?_
              refine m_callvF (m_runV (As := [.int (iI f), .int (iI (17 + (2 * ((heatL σ f ht mi i.toNat).2)))), .int (iI (σ 2 (184 + 26 * f + (17 + 2 * i))))]) (rest := []) S hH hK hj hl.1 (mm_sets l G ((heatL σ f ht mi i.toNat).1) f (17 + (2 * ((heatL σ f ht mi i.toNat).2))) (σ 2 (184 + 26 * f + (17 + 2 * i))) _ (by omega) (by omega) (by omega) (by omega)) (lw_V q1613 q1615 qs46 q109 q1616) kd_X4_sets rfl rfl dX4_heat_121) hH hA (fun H locs hH => ?_)
              refine lv_aload_n hx hb dX4_heat_124 rfl (lv_at hl 1 rfl) ?_
              refine lv_iload_n hx hb dX4_heat_125 rfl (lv_at hl 2 rfl) ?_
              refine n_bipush (z := 17) hx hb dX4_heat_126 (by decide) ?_
              refine n_iconst hx hb dX4_heat_128 ?_
              refine lv_iload hx hb dX4_heat_129 (lv_at hl 5 rfl) ?_
              refine n_imul hx hb dX4_heat_131 ?_
              refine n_iadd hx hb dX4_heat_132 ?_
              refine n_iconst hx hb dX4_heat_133 ?_
              refine n_iadd hx hb dX4_heat_134 ?_
              refine lv_aload_n hx hb dX4_heat_135 rfl (lv_at hl 1 rfl) ?_
              refine m_get 2 (by decide) hx hb hts hown hK hj hH q1475 (fun _ h9 => h9) rfl dX4_heat_136 ?_
              refine n_sipush (z := 1750) hx hb dX4_heat_139 (by decide) ?_
              refine ml_2 hx hb hK hj hH (by omega) (by omega) dX4_heat_142 ?_
              refine W.eq (g2 := F0 m 143 ls (.int (iI (σ 2 1750)) :: .int (iI ((17 + (2 * ((heatL σ f ht mi i.toNat).2))) + 1)) :: .int (iI f) :: .ref (G.2.2 0) :: [])) (by rw [st_i (by omega), ho _ (by omega)]) ?_
              refine m_callvF (m_runV (As := [.int (iI f), .int (iI ((17 + (2 * ((heatL σ f ht mi i.toNat).2))) + 1)), .int (iI (σ 2 1750))]) (rest := []) S hH hK hj hl.1 (mm_sets l G (st ((heatL σ f ht mi i.toNat).1) 2 (184 + 26 * f + (17 + (2 * ((heatL σ f ht mi i.toNat).2)))) (σ 2 (184 + 26 * f + (17 + 2 * i)))) f ((17 + (2 * ((heatL σ f ht mi i.toNat).2))) + 1) (σ 2 1750) _ (by omega) (by omega) (by omega) (by omega)) (lw_V q1613 q1615 qs46 q109 q1616) kd_X4_sets rfl rfl dX4_heat_143) hH hA (fun H locs hH => ?_)
              refine n_iinc hx hb dX4_heat_146 hl (k := 5) rfl (Nat.le_of_ble_eq_true rfl) (lv' := [(4, .int (iI (((heatL σ f ht mi i.toNat).2) + 1))), (6, .int (iI (σ 2 (184 + 26 * f + (17 + 2 * i))))), (0, .ref (G.2.2 0)), (1, .int (iI f)), (2, .int (iI ht)), (3, .int (iI mi)), (5, .int (iI i))]) rfl (fun ls hl => ?_)
              refine n_iinc hx hb dX4_heat_149 hl (k := 6) rfl (Nat.le_of_ble_eq_true rfl) (lv' := [(5, .int (iI (i + 1))), (4, .int (iI (((heatL σ f ht mi i.toNat).2) + 1))), (6, .int (iI (σ 2 (184 + 26 * f + (17 + 2 * i))))), (0, .ref (G.2.2 0)), (1, .int (iI f)), (2, .int (iI ht)), (3, .int (iI mi))]) rfl (fun ls hl => ?_)
              refine lv_goto (tgt := 48) hx hb dX4_heat_152 (by decide) ?_
              have hl : lv_has ls 7 [(0, .ref (G.2.2 0)), (1, .int (iI f)), (2, .int (iI ht)), (3, .int (iI mi)), (4, .int (iI (((heatL σ f ht mi i.toNat).2) + 1))), (5, .int (iI (i + 1)))] := lv_sub hl [3, 4, 5, 6, 1, 0] rfl
              have hl : lv_has ls 7 [(0, .ref (G.2.2 0)), (1, .int (iI f)), (2, .int (iI ht)), (3, .int (iI mi)), (4, .int (iI ((heatL σ f ht mi (i + 1).toNat).2))), (5, .int (iI (i + 1)))] := by rw [heatL_k (by omega) (by unfold dropP; omega)]; exact hl
              have hH := MH_to hH (τ := (heatL σ f ht mi (i + 1).toNat).1) (congrArg Prod.fst (heatL_k (by omega) (by unfold dropP; omega)).symm)
              refine ih_48 (i + 1) ?_ ?_ ?_ ?_ ?_ _ _ _ hH hl
              · omega
              · omega
              · omega
              · omega
              · omega
            · -- 104F
              refine lv_goto (tgt := 149) hx hb dX4_heat_107 (by decide) ?_
              refine n_iinc hx hb dX4_heat_149 hl (k := 6) rfl (Nat.le_of_ble_eq_true rfl) (lv' := [(5, .int (iI (i + 1))), (6, .int (iI (σ 2 (184 + 26 * f + (17 + 2 * i))))), (0, .ref (G.2.2 0)), (1, .int (iI f)), (2, .int (iI ht)), (3, .int (iI mi)), (4, .int (iI ((heatL σ f ht mi i.toNat).2)))]) rfl (fun ls hl => ?_)
              refine lv_goto (tgt := 48) hx hb dX4_heat_152 (by decide) ?_
              have hl : lv_has ls 7 [(0, .ref (G.2.2 0)), (1, .int (iI f)), (2, .int (iI ht)), (3, .int (iI mi)), (4, .int (iI ((heatL σ f ht mi i.toNat).2))), (5, .int (iI (i + 1)))] := lv_sub hl [2, 3, 4, 5, 6, 0] rfl
              have hl : lv_has ls 7 [(0, .ref (G.2.2 0)), (1, .int (iI f)), (2, .int (iI ht)), (3, .int (iI mi)), (4, .int (iI ((heatL σ f ht mi (i + 1).toNat).2))), (5, .int (iI (i + 1)))] := by rw [heatL_d (by omega) (by unfold dropP; omega)]; exact hl
              have hH := MH_to hH (τ := (heatL σ f ht mi (i + 1).toNat).1) (congrArg Prod.fst (heatL_d (by omega) (by unfold dropP; omega)).symm)
              refine ih_48 (i + 1) ?_ ?_ ?_ ?_ ?_ _ _ _ hH hl
              · omega
              · omega
              · omega
              · omega
              · omega
  refine lv_iload_n hx hb dX4_heat_0 rfl (lv_at hl 2 rfl) ?_
  refine n_iconst hx hb dX4_heat_1 ?_
  refine n_bipush (z := 7) hx hb dX4_heat_2 (by decide) ?_
  refine m_calliF (m_runS (As := [.int (iI ht), .int (iI 0), .int (iI 7)]) (rest := []) S hH hK hj hl.1 (mm_in l G σ ht 0 7 _ (r32 (by omega)) (r32 (by omega)) (r32 (by omega))) (lw_S q1569 q1570 q109 q1571) kd_X4_in rfl rfl dX4_heat_4) hH hA (fun H locs hH => ?_)
  refine z_if_eq (tgt := 21) hx hb dX4_heat_7 (by decide) (fun c_7 => ?_) (fun c_7 => ?_)
  · -- 7T
    refine lv_aload_n hx hb dX4_heat_21 rfl (lv_at hl 0 rfl) ?_
    refine n_iconst hx hb dX4_heat_22 ?_
    refine m_calliF (m_runV (As := [.int (iI (-1))]) (rest := []) S hH hK hj hl.1 (mm_refuses l G σ (-1) _ (by omega) (by omega)) (lw_V q1572 q1574 qs43 q109 q1575) kd_X4_refuses rfl rfl dX4_heat_23) hH hA (fun H locs hH => ?_)
    refine m_iret hx hb hr hlk hH dX4_heat_26 ?_
    unfold heatF
    (repeat' split) <;> first | (exfalso; omega) | rfl
  · -- 7F
    refine lv_iload_n hx hb dX4_heat_10 rfl (lv_at hl 3 rfl) ?_
    refine n_iconst hx hb dX4_heat_11 ?_
    refine n_sipush (z := 255) hx hb dX4_heat_12 (by decide) ?_
    refine m_calliF (m_runS (As := [.int (iI mi), .int (iI 1), .int (iI 255)]) (rest := []) S hH hK hj hl.1 (mm_in l G σ mi 1 255 _ (r32 (by omega)) (r32 (by omega)) (r32 (by omega))) (lw_S q1569 q1570 q109 q1571) kd_X4_in rfl rfl dX4_heat_15) hH hA (fun H locs hH => ?_)
    refine z_if_ne (tgt := 27) hx hb dX4_heat_18 (by decide) (fun c_18 => ?_) (fun c_18 => ?_)
    · -- 18T
      refine lv_aload_n hx hb dX4_heat_27 rfl (lv_at hl 0 rfl) ?_
      refine lv_iload_n hx hb dX4_heat_28 rfl (lv_at hl 1 rfl) ?_
      refine m_calliF (m_runV (As := [.int (iI f)]) (rest := []) S hH hK hj hl.1 (mm_isFlask l G σ f _ (r32 (by omega)) (by omega) (by omega)) (lw_V q1621 q1623 qs47 q109 q1624) kd_X4_isFlask rfl rfl dX4_heat_29) hH hA (fun H locs hH => ?_)
      refine z_if_ne (tgt := 42) hx hb dX4_heat_32 (by decide) (fun c_32 => ?_) (fun c_32 => ?_)
      · -- 32T
        have b1 := hI.f f (by omega) (by omega)
        unfold kFlask fl at b1
        refine n_iconst hx hb dX4_heat_42 ?_
        refine lv_istore hx hb dX4_heat_43 hl (Nat.le_of_ble_eq_true rfl) (lv' := [(4, .int (iI 0)), (0, .ref (G.2.2 0)), (1, .int (iI f)), (2, .int (iI ht)), (3, .int (iI mi))]) rfl (fun ls hl => ?_)
        refine n_iconst hx hb dX4_heat_45 ?_
        refine lv_istore hx hb dX4_heat_46 hl (Nat.le_of_ble_eq_true rfl) (lv' := [(5, .int (iI 0)), (4, .int (iI 0)), (0, .ref (G.2.2 0)), (1, .int (iI f)), (2, .int (iI ht)), (3, .int (iI mi))]) rfl (fun ls hl => ?_)
        have hl : lv_has ls 7 [(0, .ref (G.2.2 0)), (1, .int (iI f)), (2, .int (iI ht)), (3, .int (iI mi)), (4, .int (iI 0)), (5, .int (iI 0))] := lv_sub hl [2, 3, 4, 5, 1, 0] rfl
        refine L48 6 0 ?_ ?_ ?_ ?_ ?_ _ _ _ hH hl
        · omega
        · omega
        · omega
        · omega
        · omega
      · -- 32F
        refine lv_aload_n hx hb dX4_heat_35 rfl (lv_at hl 0 rfl) ?_
        refine n_bipush (z := -2) hx hb dX4_heat_36 (by decide) ?_
        refine m_calliF (m_runV (As := [.int (iI (-2))]) (rest := []) S hH hK hj hl.1 (mm_refuses l G σ (-2) _ (by omega) (by omega)) (lw_V q1572 q1574 qs43 q109 q1575) kd_X4_refuses rfl rfl dX4_heat_38) hH hA (fun H locs hH => ?_)
        refine m_iret hx hb hr hlk hH dX4_heat_41 ?_
        unfold heatF
        (repeat' split) <;> first | (exfalso; omega) | rfl
    · -- 18F
      refine lv_aload_n hx hb dX4_heat_21 rfl (lv_at hl 0 rfl) ?_
      refine n_iconst hx hb dX4_heat_22 ?_
      refine m_calliF (m_runV (As := [.int (iI (-1))]) (rest := []) S hH hK hj hl.1 (mm_refuses l G σ (-1) _ (by omega) (by omega)) (lw_V q1572 q1574 qs43 q109 q1575) kd_X4_refuses rfl rfl dX4_heat_23) hH hA (fun H locs hH => ?_)
      refine m_iret hx hb hr hlk hH dX4_heat_26 ?_
      unfold heatF
      (repeat' split) <;> first | (exfalso; omega) | rfl
