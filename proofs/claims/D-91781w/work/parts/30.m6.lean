theorem kd_X4_turns : yX4_turns.cls = RX4 ∧ yX4_turns.cls ≠ "java/lang/invoke/MethodHandle" ∧ yX4_turns.cls ≠ "java/lang/invoke/VarHandle" ∧ (parseMethodDescriptor yX4_turns.desc).map (fun d => d.parameters.length) = some 1 := by decide +kernel
theorem mm_turns (l : Launch) (G : MG) (σ : St) (β : Int → Int) (f : Int) (sz : Nat) (hI : KG (σ 2) β) (hf0 : 0 ≤ f) (hf1 : f < σ 2 1753) (hβ : 0 ≤ β f ∧ β f ≤ 1000) : Met l yX4_turns (ws_ yX4_turns cX4_turns 9 none) (rmD 3) (mP G [.ref (G.2.2 0), .int (iI f)] σ sz) (mQv G σ sz (fun σ' => σ' = turnsF σ f)) 0 0 (mA G σ sz) := by
  refine m_start (by decide) (Nat.le_of_ble_eq_true rfl) ?_
  intro p e s m below meth c ⟨S, hr, hlk, hH, hK, hj, hsz, hnm⟩ ls hl
  subst hsz
  obtain ⟨hx, hb, hml, hown, hts⟩ := S
  have S : CallFix p m c _ _ s _ lw_all RX4 := ⟨hx, hb, hml, hown, hts⟩
  have hA : ∀ q, s.heap.size ≤ q → mA G σ s.heap.size q := fun q hq => Or.inr hq
  have hl : lv_has ls 9 [(0, .ref (G.2.2 0)), (1, .int (iI f))] := hl
  have b0 := KG.c hI
  unfold kCnt at b0
  have b1 := KG.f hI f hf0 hf1
  unfold kFlask fl at b1
  have b2 := KG.l hI
  have b3 := KG.b hI (σ 2 (184 + 26 * f + 0)) (by omega) (by omega)
  have L73 : ∀ (n : Nat) (i : Int), (h0 : 0 ≤ i) → (h1 : i ≤ σ 2 (184 + 26 * f + 16)) → (hn : σ 2 (184 + 26 * f + 16) < (n : Int) + i) → (ht13 : ¬ σ 2 (184 + 26 * f + 13) = 1) → (hby : byF σ f i.toNat = -1 ∨ (0 ≤ byF σ f i.toNat ∧ byF σ f i.toNat ≤ 8)) → ∀ (H : Heap) (locs : List Loc) (ls : Array Slot), MH G (mA G σ s.heap.size) σ s.heap H locs → lv_has ls 9 [(0, .ref (G.2.2 0)), (1, .int (iI f)), (2, .int (iI (zb (airP (σ 2 (184 + 26 * f + 1)) (σ 2 (184 + 26 * f + 6)))))), (4, .int (iI (zb (genP σ f)))), (5, .int (iI (byF σ f i.toNat))), (6, .int (iI i))] → W p l e (rmD 3) s m ([.ref (G.2.2 0), .int (iI f)] : List Value).toArray below meth c H locs 0 0 (MQ below (mQv G σ s.heap.size (fun σ' => σ' = turnsF σ f)) ([.ref (G.2.2 0), .int (iI f)] : List Value).toArray s 0 0 (mA G σ s.heap.size)) (F0 m 73 ls []) := by
    intro n
    induction n with
    | zero => intro i h0 h1 hn ht13 hby; exfalso; omega
    | succ n ih_73 =>
      intro i h0 h1 hn ht13 hby H locs ls hH hl
      have L144 : ∀ (z : Int), (hz : z = zb (σ 2 (136 + 6 * σ 2 (184 + 26 * f + (17 + 2 * i)) + 2) / 2 ^ (σ 2 (184 + 26 * f + 0)).toNat % 2 = 1 ∧ (σ 2 (136 + 6 * σ 2 (184 + 26 * f + (17 + 2 * i)) + 4) = 0 ∨ airP (σ 2 (184 + 26 * f + 1)) (σ 2 (184 + 26 * f + 6))))) → (h1 : i < σ 2 (184 + 26 * f + 16)) → (c_88 : byF σ f i.toNat = -1) → ∀ (H : Heap) (locs : List Loc) (ls : Array Slot), MH G (mA G σ s.heap.size) σ s.heap H locs → lv_has ls 9 [(0, .ref (G.2.2 0)), (1, .int (iI f)), (2, .int (iI (zb (airP (σ 2 (184 + 26 * f + 1)) (σ 2 (184 + 26 * f + 6)))))), (4, .int (iI (zb (genP σ f)))), (5, .int (iI (byF σ f i.toNat))), (6, .int (iI i)), (7, .int (iI (σ 2 (184 + 26 * f + (17 + 2 * i)))))] → W p l e (rmD 3) s m ([.ref (G.2.2 0), .int (iI f)] : List Value).toArray below meth c H locs 0 0 (MQ below (mQv G σ s.heap.size (fun σ' => σ' = turnsF σ f)) ([.ref (G.2.2 0), .int (iI f)] : List Value).toArray s 0 0 (mA G σ s.heap.size)) (F0 m 144 ls [.int (iI z)]) := by
        intro z hz h1 c_88 H locs ls hH hl
        subst hz
        have b4 := b1.2.2.2.2.2.2.2.2.2.2.2.2.2.2.2.2.2 i (by omega) (by omega)
        have b5 := KG.k hI (σ 2 (184 + 26 * f + (17 + 2 * i))) (by omega) (by omega)
        unfold kKind at b5
        refine lv_istore hx hb dX4_turns_144 hl (Nat.le_of_ble_eq_true rfl) (lv' := [(8, .int (iI (zb (σ 2 (136 + 6 * σ 2 (184 + 26 * f + (17 + 2 * i)) + 2) / 2 ^ (σ 2 (184 + 26 * f + 0)).toNat % 2 = 1 ∧ (σ 2 (136 + 6 * σ 2 (184 + 26 * f + (17 + 2 * i)) + 4) = 0 ∨ airP (σ 2 (184 + 26 * f + 1)) (σ 2 (184 + 26 * f + 6))))))), (0, .ref (G.2.2 0)), (1, .int (iI f)), (2, .int (iI (zb (airP (σ 2 (184 + 26 * f + 1)) (σ 2 (184 + 26 * f + 6)))))), (4, .int (iI (zb (genP σ f)))), (5, .int (iI (byF σ f i.toNat))), (6, .int (iI i)), (7, .int (iI (σ 2 (184 + 26 * f + (17 + 2 * i)))))]) rfl (fun ls hl => ?_)
        refine lv_iload hx hb dX4_turns_146 (lv_at hl 0 rfl) ?_
        refine z_if_eq (tgt := 190) hx hb dX4_turns_148 (by decide) (fun c_148 => ?_) (fun c_148 => ?_)
        · -- 148T
          refine n_iinc hx hb dX4_turns_190 hl (k := 6) rfl (Nat.le_of_ble_eq_true rfl) (lv' := [(6, .int (iI (i + 1))), (8, .int (iI (zb (σ 2 (136 + 6 * σ 2 (184 + 26 * f + (17 + 2 * i)) + 2) / 2 ^ (σ 2 (184 + 26 * f + 0)).toNat % 2 = 1 ∧ (σ 2 (136 + 6 * σ 2 (184 + 26 * f + (17 + 2 * i)) + 4) = 0 ∨ airP (σ 2 (184 + 26 * f + 1)) (σ 2 (184 + 26 * f + 6))))))), (0, .ref (G.2.2 0)), (1, .int (iI f)), (2, .int (iI (zb (airP (σ 2 (184 + 26 * f + 1)) (σ 2 (184 + 26 * f + 6)))))), (4, .int (iI (zb (genP σ f)))), (5, .int (iI (byF σ f i.toNat))), (7, .int (iI (σ 2 (184 + 26 * f + (17 + 2 * i)))))]) rfl (fun ls hl => ?_)
          refine lv_goto (tgt := 73) hx hb dX4_turns_193 (by decide) ?_
          have hl : lv_has ls 9 [(0, .ref (G.2.2 0)), (1, .int (iI f)), (2, .int (iI (zb (airP (σ 2 (184 + 26 * f + 1)) (σ 2 (184 + 26 * f + 6)))))), (4, .int (iI (zb (genP σ f)))), (5, .int (iI (byF σ f i.toNat))), (6, .int (iI (i + 1)))] := lv_sub hl [2, 3, 4, 5, 6, 0] rfl
          have hl : lv_has ls 9 [(0, .ref (G.2.2 0)), (1, .int (iI f)), (2, .int (iI (zb (airP (σ 2 (184 + 26 * f + 1)) (σ 2 (184 + 26 * f + 6)))))), (4, .int (iI (zb (genP σ f)))), (5, .int (iI (byF σ f (i + 1).toNat))), (6, .int (iI (i + 1)))] := by rw [byF_d (by omega) c_88 (by unfold canP airP; unfold airP at *; omega)]; exact hl
          refine ih_73 (i + 1) ?_ ?_ ?_ ?_ ?_ _ _ _ hH hl
          · omega
          · omega
          · omega
          · omega
          · exact Or.inl (by rw [byF_d (by omega) c_88 (by unfold canP airP; unfold airP at *; omega)]; exact c_88)
        · -- 148F
          refine lv_aload_n hx hb dX4_turns_151 rfl (lv_at hl 1 rfl) ?_
          refine m_get 2 (by decide) hx hb hts hown hK hj hH q1475 (fun _ h9 => h9) rfl dX4_turns_152 ?_
          refine n_sipush (z := 1750) hx hb dX4_turns_155 (by decide) ?_
          refine ml_2 hx hb hK hj hH (by omega) (by omega) dX4_turns_158 ?_
          refine lv_aload_n hx hb dX4_turns_159 rfl (lv_at hl 1 rfl) ?_
          refine lv_iload_n hx hb dX4_turns_160 rfl (lv_at hl 2 rfl) ?_
          refine n_bipush (z := 17) hx hb dX4_turns_161 (by decide) ?_
          refine n_iconst hx hb dX4_turns_163 ?_
          refine lv_iload hx hb dX4_turns_164 (lv_at hl 6 rfl) ?_
          refine n_imul hx hb dX4_turns_166 ?_
          refine n_iadd hx hb dX4_turns_167 ?_
          refine n_iconst hx hb dX4_turns_168 ?_
          refine n_iadd hx hb dX4_turns_169 ?_
          refine m_calliF (m_runV (As := [.int (iI f), .int (iI ((17 + (2 * i)) + 1))]) (rest := [.int (iI (σ 2 1750))]) S hH hK hj hl.1 (mm_flaskOf l G σ f ((17 + (2 * i)) + 1) _ (by omega) (by omega) (by omega) (by omega)) (lw_V q1625 q1627 qs48 q109 q1628) kd_X4_flaskOf rfl rfl dX4_turns_170) hH hA (fun H locs hH => ?_)
          refine n_isub hx hb dX4_turns_173 ?_
          refine n_iconst hx hb dX4_turns_174 ?_
          refine n_iadd hx hb dX4_turns_175 ?_
          refine lv_aload_n hx hb dX4_turns_176 rfl (lv_at hl 1 rfl) ?_
          refine lv_iload hx hb dX4_turns_177 (lv_at hl 7 rfl) ?_
          refine n_iconst hx hb dX4_turns_179 ?_
          refine m_calliF (m_runV (As := [.int (iI (σ 2 (184 + 26 * f + (17 + 2 * i)))), .int (iI 3)]) (rest := [.int (iI (((σ 2 1750) - (σ 2 (184 + 26 * f + ((17 + (2 * i)) + 1)))) + 1))]) S hH hK hj hl.1 (mm_kindOf l G σ (σ 2 (184 + 26 * f + (17 + 2 * i))) 3 _ (by omega) (by omega) (by omega) (by omega)) (lw_V q1629 q1631 qs49 q109 q1632) kd_X4_kindOf rfl rfl dX4_turns_180) hH hA (fun H locs hH => ?_)
          refine n_icmp_lt (tgt := 190) hx hb (r32 (by omega)) (r32 (by omega)) dX4_turns_183 (by decide) (fun c_183 => ?_) (fun c_183 => ?_)
          · -- 183T
            refine n_iinc hx hb dX4_turns_190 hl (k := 6) rfl (Nat.le_of_ble_eq_true rfl) (lv' := [(6, .int (iI (i + 1))), (8, .int (iI (zb (σ 2 (136 + 6 * σ 2 (184 + 26 * f + (17 + 2 * i)) + 2) / 2 ^ (σ 2 (184 + 26 * f + 0)).toNat % 2 = 1 ∧ (σ 2 (136 + 6 * σ 2 (184 + 26 * f + (17 + 2 * i)) + 4) = 0 ∨ airP (σ 2 (184 + 26 * f + 1)) (σ 2 (184 + 26 * f + 6))))))), (0, .ref (G.2.2 0)), (1, .int (iI f)), (2, .int (iI (zb (airP (σ 2 (184 + 26 * f + 1)) (σ 2 (184 + 26 * f + 6)))))), (4, .int (iI (zb (genP σ f)))), (5, .int (iI (byF σ f i.toNat))), (7, .int (iI (σ 2 (184 + 26 * f + (17 + 2 * i)))))]) rfl (fun ls hl => ?_)
            refine lv_goto (tgt := 73) hx hb dX4_turns_193 (by decide) ?_
            have hl : lv_has ls 9 [(0, .ref (G.2.2 0)), (1, .int (iI f)), (2, .int (iI (zb (airP (σ 2 (184 + 26 * f + 1)) (σ 2 (184 + 26 * f + 6)))))), (4, .int (iI (zb (genP σ f)))), (5, .int (iI (byF σ f i.toNat))), (6, .int (iI (i + 1)))] := lv_sub hl [2, 3, 4, 5, 6, 0] rfl
            have hl : lv_has ls 9 [(0, .ref (G.2.2 0)), (1, .int (iI f)), (2, .int (iI (zb (airP (σ 2 (184 + 26 * f + 1)) (σ 2 (184 + 26 * f + 6)))))), (4, .int (iI (zb (genP σ f)))), (5, .int (iI (byF σ f (i + 1).toNat))), (6, .int (iI (i + 1)))] := by rw [byF_d (by omega) c_88 (by unfold canP airP; unfold airP at *; omega)]; exact hl
            refine ih_73 (i + 1) ?_ ?_ ?_ ?_ ?_ _ _ _ hH hl
            · omega
            · omega
            · omega
            · omega
            · exact Or.inl (by rw [byF_d (by omega) c_88 (by unfold canP airP; unfold airP at *; omega)]; exact c_88)
          · -- 183F
            refine lv_iload hx hb dX4_turns_186 (lv_at hl 7 rfl) ?_
            refine lv_istore hx hb dX4_turns_188 hl (Nat.le_of_ble_eq_true rfl) (lv' := [(5, .int (iI (σ 2 (184 + 26 * f + (17 + 2 * i))))), (8, .int (iI (zb (σ 2 (136 + 6 * σ 2 (184 + 26 * f + (17 + 2 * i)) + 2) / 2 ^ (σ 2 (184 + 26 * f + 0)).toNat % 2 = 1 ∧ (σ 2 (136 + 6 * σ 2 (184 + 26 * f + (17 + 2 * i)) + 4) = 0 ∨ airP (σ 2 (184 + 26 * f + 1)) (σ 2 (184 + 26 * f + 6))))))), (0, .ref (G.2.2 0)), (1, .int (iI f)), (2, .int (iI (zb (airP (σ 2 (184 + 26 * f + 1)) (σ 2 (184 + 26 * f + 6)))))), (4, .int (iI (zb (genP σ f)))), (6, .int (iI i)), (7, .int (iI (σ 2 (184 + 26 * f + (17 + 2 * i)))))]) rfl (fun ls hl => ?_)
            refine n_iinc hx hb dX4_turns_190 hl (k := 6) rfl (Nat.le_of_ble_eq_true rfl) (lv' := [(6, .int (iI (i + 1))), (5, .int (iI (σ 2 (184 + 26 * f + (17 + 2 * i))))), (8, .int (iI (zb (σ 2 (136 + 6 * σ 2 (184 + 26 * f + (17 + 2 * i)) + 2) / 2 ^ (σ 2 (184 + 26 * f + 0)).toNat % 2 = 1 ∧ (σ 2 (136 + 6 * σ 2 (184 + 26 * f + (17 + 2 * i)) + 4) = 0 ∨ airP (σ 2 (184 + 26 * f + 1)) (σ 2 (184 + 26 * f + 6))))))), (0, .ref (G.2.2 0)), (1, .int (iI f)), (2, .int (iI (zb (airP (σ 2 (184 + 26 * f + 1)) (σ 2 (184 + 26 * f + 6)))))), (4, .int (iI (zb (genP σ f)))), (7, .int (iI (σ 2 (184 + 26 * f + (17 + 2 * i)))))]) rfl (fun ls hl => ?_)
            refine lv_goto (tgt := 73) hx hb dX4_turns_193 (by decide) ?_
            have hl : lv_has ls 9 [(0, .ref (G.2.2 0)), (1, .int (iI f)), (2, .int (iI (zb (airP (σ 2 (184 + 26 * f + 1)) (σ 2 (184 + 26 * f + 6)))))), (4, .int (iI (zb (genP σ f)))), (5, .int (iI (σ 2 (184 + 26 * f + (17 + 2 * i))))), (6, .int (iI (i + 1)))] := lv_sub hl [3, 4, 5, 6, 1, 0] rfl
            have hl : lv_has ls 9 [(0, .ref (G.2.2 0)), (1, .int (iI f)), (2, .int (iI (zb (airP (σ 2 (184 + 26 * f + 1)) (σ 2 (184 + 26 * f + 6)))))), (4, .int (iI (zb (genP σ f)))), (5, .int (iI (byF σ f (i + 1).toNat))), (6, .int (iI (i + 1)))] := by rw [byF_c (by omega) c_88 (by unfold canP airP; unfold airP at *; omega)]; exact hl
            refine ih_73 (i + 1) ?_ ?_ ?_ ?_ ?_ _ _ _ hH hl
            · omega
            · omega
            · omega
            · omega
            · exact Or.inr (by rw [byF_c (by omega) c_88 (by unfold canP airP; unfold airP at *; omega)]; omega)
      refine lv_iload hx hb dX4_turns_73 (lv_at hl 5 rfl) ?_
      refine lv_aload_n hx hb dX4_turns_75 rfl (lv_at hl 0 rfl) ?_
      refine lv_iload_n hx hb dX4_turns_76 rfl (lv_at hl 1 rfl) ?_
      refine n_bipush (z := 16) hx hb dX4_turns_77 (by decide) ?_
      refine m_calliF (m_runV (As := [.int (iI f), .int (iI 16)]) (rest := [.int (iI i)]) S hH hK hj hl.1 (mm_flaskOf l G σ f 16 _ (by omega) (by omega) (by omega) (by omega)) (lw_V q1625 q1627 qs48 q109 q1628) kd_X4_flaskOf rfl rfl dX4_turns_79) hH hA (fun H locs hH => ?_)
      refine n_icmp_ge (tgt := 196) hx hb (r32 (by omega)) (r32 (by omega)) dX4_turns_82 (by decide) (fun c_82 => ?_) (fun c_82 => ?_)
      · -- 82T
        have hbyA : byA σ f = byF σ f i.toNat := by
          unfold byA
          first | (rw [show i = σ 2 (184 + 26 * f + 16) by omega]; done) | (rw [show (σ 2 (184 + 26 * f + 16)).toNat = i.toNat + ((σ 2 (184 + 26 * f + 16)).toNat - i.toNat) by omega]; exact byF_stay (by omega) _)
        refine lv_iload hx hb dX4_turns_196 (lv_at hl 3 rfl) ?_
        refine z_if_ne (tgt := 208) hx hb dX4_turns_198 (by decide) (fun c_198 => ?_) (fun c_198 => ?_)
        · -- 198T
          refine lv_aload_n hx hb dX4_turns_208 rfl (lv_at hl 0 rfl) ?_
          refine lv_iload_n hx hb dX4_turns_209 rfl (lv_at hl 1 rfl) ?_
          refine n_bipush (z := 13) hx hb dX4_turns_210 (by decide) ?_
          refine n_iconst hx hb dX4_turns_212 ?_
          refine m_callvF (m_runV (As := [.int (iI f), .int (iI 13), .int (iI 1)]) (rest := []) S hH hK hj hl.1 (mm_sets l G σ f 13 1 _ (by omega) (by omega) (by omega) (by omega)) (lw_V q1613 q1615 qs46 q109 q1616) kd_X4_sets rfl rfl dX4_turns_213) hH hA (fun H locs hH => ?_)
          refine lv_aload_n hx hb dX4_turns_216 rfl (lv_at hl 0 rfl) ?_
          refine lv_iload_n hx hb dX4_turns_217 rfl (lv_at hl 1 rfl) ?_
          refine n_bipush (z := 14) hx hb dX4_turns_218 (by decide) ?_
          refine lv_iload hx hb dX4_turns_220 (lv_at hl 4 rfl) ?_
          refine m_callvF (m_runV (As := [.int (iI f), .int (iI 14), .int (iI (byF σ f i.toNat))]) (rest := []) S hH hK hj hl.1 (mm_sets l G (st σ 2 (184 + 26 * f + 13) 1) f 14 (byF σ f i.toNat) _ (by omega) (by omega) (by omega) (by omega)) (lw_V q1613 q1615 qs46 q109 q1616) kd_X4_sets rfl rfl dX4_turns_222) hH hA (fun H locs hH => ?_)
          refine lv_aload_n hx hb dX4_turns_225 rfl (lv_at hl 0 rfl) ?_
          refine lv_iload_n hx hb dX4_turns_226 rfl (lv_at hl 1 rfl) ?_
          refine n_bipush (z := 15) hx hb dX4_turns_227 (by decide) ?_
          refine lv_aload_n hx hb dX4_turns_229 rfl (lv_at hl 0 rfl) ?_
          refine m_get 2 (by decide) hx hb hts hown hK hj hH q1475 (fun _ h9 => h9) rfl dX4_turns_230 ?_
          refine n_sipush (z := 1750) hx hb dX4_turns_233 (by decide) ?_
          refine ml_2 hx hb hK hj hH (by omega) (by omega) dX4_turns_236 ?_
          refine W.eq (g2 := F0 m 237 ls (.int (iI (σ 2 1750)) :: .int (iI 15) :: .int (iI f) :: .ref (G.2.2 0) :: [])) (by rw [st_i (by omega), st_i (by omega)]) ?_
          refine m_callvF (m_runV (As := [.int (iI f), .int (iI 15), .int (iI (σ 2 1750))]) (rest := []) S hH hK hj hl.1 (mm_sets l G (st (st σ 2 (184 + 26 * f + 13) 1) 2 (184 + 26 * f + 14) (byF σ f i.toNat)) f 15 (σ 2 1750) _ (by omega) (by omega) (by omega) (by omega)) (lw_V q1613 q1615 qs46 q109 q1616) kd_X4_sets rfl rfl dX4_turns_237) hH hA (fun H locs hH => ?_)
          refine m_vret hx hb hr hlk hH dX4_turns_240 ?_
          unfold turnsF
          rw [if_neg ht13, hbyA]
          first | rw [if_pos (by omega)] | rw [if_neg (by omega)]
          all_goals rfl
        · -- 198F
          refine lv_iload hx hb dX4_turns_201 (lv_at hl 4 rfl) ?_
          refine n_iconst hx hb dX4_turns_203 ?_
          refine n_icmp_ne (tgt := 208) hx hb (r32 (by omega)) (r32 (by omega)) dX4_turns_204 (by decide) (fun c_204 => ?_) (fun c_204 => ?_)
          · -- 204T
            refine lv_aload_n hx hb dX4_turns_208 rfl (lv_at hl 0 rfl) ?_
            refine lv_iload_n hx hb dX4_turns_209 rfl (lv_at hl 1 rfl) ?_
            refine n_bipush (z := 13) hx hb dX4_turns_210 (by decide) ?_
            refine n_iconst hx hb dX4_turns_212 ?_
            refine m_callvF (m_runV (As := [.int (iI f), .int (iI 13), .int (iI 1)]) (rest := []) S hH hK hj hl.1 (mm_sets l G σ f 13 1 _ (by omega) (by omega) (by omega) (by omega)) (lw_V q1613 q1615 qs46 q109 q1616) kd_X4_sets rfl rfl dX4_turns_213) hH hA (fun H locs hH => ?_)
            refine lv_aload_n hx hb dX4_turns_216 rfl (lv_at hl 0 rfl) ?_
            refine lv_iload_n hx hb dX4_turns_217 rfl (lv_at hl 1 rfl) ?_
            refine n_bipush (z := 14) hx hb dX4_turns_218 (by decide) ?_
            refine lv_iload hx hb dX4_turns_220 (lv_at hl 4 rfl) ?_
            refine m_callvF (m_runV (As := [.int (iI f), .int (iI 14), .int (iI (byF σ f i.toNat))]) (rest := []) S hH hK hj hl.1 (mm_sets l G (st σ 2 (184 + 26 * f + 13) 1) f 14 (byF σ f i.toNat) _ (by omega) (by omega) (by omega) (by omega)) (lw_V q1613 q1615 qs46 q109 q1616) kd_X4_sets rfl rfl dX4_turns_222) hH hA (fun H locs hH => ?_)
            refine lv_aload_n hx hb dX4_turns_225 rfl (lv_at hl 0 rfl) ?_
            refine lv_iload_n hx hb dX4_turns_226 rfl (lv_at hl 1 rfl) ?_
            refine n_bipush (z := 15) hx hb dX4_turns_227 (by decide) ?_
            refine lv_aload_n hx hb dX4_turns_229 rfl (lv_at hl 0 rfl) ?_
            refine m_get 2 (by decide) hx hb hts hown hK hj hH q1475 (fun _ h9 => h9) rfl dX4_turns_230 ?_
            refine n_sipush (z := 1750) hx hb dX4_turns_233 (by decide) ?_
            refine ml_2 hx hb hK hj hH (by omega) (by omega) dX4_turns_236 ?_
            refine W.eq (g2 := F0 m 237 ls (.int (iI (σ 2 1750)) :: .int (iI 15) :: .int (iI f) :: .ref (G.2.2 0) :: [])) (by rw [st_i (by omega), st_i (by omega)]) ?_
            refine m_callvF (m_runV (As := [.int (iI f), .int (iI 15), .int (iI (σ 2 1750))]) (rest := []) S hH hK hj hl.1 (mm_sets l G (st (st σ 2 (184 + 26 * f + 13) 1) 2 (184 + 26 * f + 14) (byF σ f i.toNat)) f 15 (σ 2 1750) _ (by omega) (by omega) (by omega) (by omega)) (lw_V q1613 q1615 qs46 q109 q1616) kd_X4_sets rfl rfl dX4_turns_237) hH hA (fun H locs hH => ?_)
            refine m_vret hx hb hr hlk hH dX4_turns_240 ?_
            unfold turnsF
            rw [if_neg ht13, hbyA]
            first | rw [if_pos (by omega)] | rw [if_neg (by omega)]
            all_goals rfl
          · -- 204F
            refine m_vret hx hb hr hlk hH dX4_turns_207 ?_
            unfold turnsF
            rw [if_neg ht13, hbyA]
            first | rw [if_pos (by omega)] | rw [if_neg (by omega)]
            all_goals rfl
      · -- 82F
        refine lv_iload hx hb dX4_turns_85 (lv_at hl 4 rfl) ?_
        refine n_iconst hx hb dX4_turns_87 ?_
        refine n_icmp_ne (tgt := 196) hx hb (r32 (by omega)) (r32 (by omega)) dX4_turns_88 (by decide) (fun c_88 => ?_) (fun c_88 => ?_)
        · -- 88T
          have hbyA : byA σ f = byF σ f i.toNat := by
            unfold byA
            first | (rw [show i = σ 2 (184 + 26 * f + 16) by omega]; done) | (rw [show (σ 2 (184 + 26 * f + 16)).toNat = i.toNat + ((σ 2 (184 + 26 * f + 16)).toNat - i.toNat) by omega]; exact byF_stay (by omega) _)
          refine lv_iload hx hb dX4_turns_196 (lv_at hl 3 rfl) ?_
          refine z_if_ne (tgt := 208) hx hb dX4_turns_198 (by decide) (fun c_198 => ?_) (fun c_198 => ?_)
          · -- 198T
            refine lv_aload_n hx hb dX4_turns_208 rfl (lv_at hl 0 rfl) ?_
            refine lv_iload_n hx hb dX4_turns_209 rfl (lv_at hl 1 rfl) ?_
            refine n_bipush (z := 13) hx hb dX4_turns_210 (by decide) ?_
            refine n_iconst hx hb dX4_turns_212 ?_
            refine m_callvF (m_runV (As := [.int (iI f), .int (iI 13), .int (iI 1)]) (rest := []) S hH hK hj hl.1 (mm_sets l G σ f 13 1 _ (by omega) (by omega) (by omega) (by omega)) (lw_V q1613 q1615 qs46 q109 q1616) kd_X4_sets rfl rfl dX4_turns_213) hH hA (fun H locs hH => ?_)
            refine lv_aload_n hx hb dX4_turns_216 rfl (lv_at hl 0 rfl) ?_
            refine lv_iload_n hx hb dX4_turns_217 rfl (lv_at hl 1 rfl) ?_
            refine n_bipush (z := 14) hx hb dX4_turns_218 (by decide) ?_
            refine lv_iload hx hb dX4_turns_220 (lv_at hl 4 rfl) ?_
            refine m_callvF (m_runV (As := [.int (iI f), .int (iI 14), .int (iI (byF σ f i.toNat))]) (rest := []) S hH hK hj hl.1 (mm_sets l G (st σ 2 (184 + 26 * f + 13) 1) f 14 (byF σ f i.toNat) _ (by omega) (by omega) (by omega) (by omega)) (lw_V q1613 q1615 qs46 q109 q1616) kd_X4_sets rfl rfl dX4_turns_222) hH hA (fun H locs hH => ?_)
            refine lv_aload_n hx hb dX4_turns_225 rfl (lv_at hl 0 rfl) ?_
            refine lv_iload_n hx hb dX4_turns_226 rfl (lv_at hl 1 rfl) ?_
            refine n_bipush (z := 15) hx hb dX4_turns_227 (by decide) ?_
            refine lv_aload_n hx hb dX4_turns_229 rfl (lv_at hl 0 rfl) ?_
            refine m_get 2 (by decide) hx hb hts hown hK hj hH q1475 (fun _ h9 => h9) rfl dX4_turns_230 ?_
            refine n_sipush (z := 1750) hx hb dX4_turns_233 (by decide) ?_
            refine ml_2 hx hb hK hj hH (by omega) (by omega) dX4_turns_236 ?_
            refine W.eq (g2 := F0 m 237 ls (.int (iI (σ 2 1750)) :: .int (iI 15) :: .int (iI f) :: .ref (G.2.2 0) :: [])) (by rw [st_i (by omega), st_i (by omega)]) ?_
            refine m_callvF (m_runV (As := [.int (iI f), .int (iI 15), .int (iI (σ 2 1750))]) (rest := []) S hH hK hj hl.1 (mm_sets l G (st (st σ 2 (184 + 26 * f + 13) 1) 2 (184 + 26 * f + 14) (byF σ f i.toNat)) f 15 (σ 2 1750) _ (by omega) (by omega) (by omega) (by omega)) (lw_V q1613 q1615 qs46 q109 q1616) kd_X4_sets rfl rfl dX4_turns_237) hH hA (fun H locs hH => ?_)
            refine m_vret hx hb hr hlk hH dX4_turns_240 ?_
            unfold turnsF
            rw [if_neg ht13, hbyA]
            first | rw [if_pos (by omega)] | rw [if_neg (by omega)]
            all_goals rfl
          · -- 198F
            refine lv_iload hx hb dX4_turns_201 (lv_at hl 4 rfl) ?_
            refine n_iconst hx hb dX4_turns_203 ?_
            refine n_icmp_ne (tgt := 208) hx hb (r32 (by omega)) (r32 (by omega)) dX4_turns_204 (by decide) (fun c_204 => ?_) (fun c_204 => ?_)
            · -- 204T
              refine lv_aload_n hx hb dX4_turns_208 rfl (lv_at hl 0 rfl) ?_
              refine lv_iload_n hx hb dX4_turns_209 rfl (lv_at hl 1 rfl) ?_
              refine n_bipush (z := 13) hx hb dX4_turns_210 (by decide) ?_
              refine n_iconst hx hb dX4_turns_212 ?_
              refine m_callvF (m_runV (As := [.int (iI f), .int (iI 13), .int (iI 1)]) (rest := []) S hH hK hj hl.1 (mm_sets l G σ f 13 1 _ (by omega) (by omega) (by omega) (by omega)) (lw_V q1613 q1615 qs46 q109 q1616) kd_X4_sets rfl rfl dX4_turns_213) hH hA (fun H locs hH => ?_)
              refine lv_aload_n hx hb dX4_turns_216 rfl (lv_at hl 0 rfl) ?_
              refine lv_iload_n hx hb dX4_turns_217 rfl (lv_at hl 1 rfl) ?_
              refine n_bipush (z := 14) hx hb dX4_turns_218 (by decide) ?_
              refine lv_iload hx hb dX4_turns_220 (lv_at hl 4 rfl) ?_
              refine m_callvF (m_runV (As := [.int (iI f), .int (iI 14), .int (iI (byF σ f i.toNat))]) (rest := []) S hH hK hj hl.1 (mm_sets l G (st σ 2 (184 + 26 * f + 13) 1) f 14 (byF σ f i.toNat) _ (by omega) (by omega) (by omega) (by omega)) (lw_V q1613 q1615 qs46 q109 q1616) kd_X4_sets rfl rfl dX4_turns_222) hH hA (fun H locs hH => ?_)
              refine lv_aload_n hx hb dX4_turns_225 rfl (lv_at hl 0 rfl) ?_
              refine lv_iload_n hx hb dX4_turns_226 rfl (lv_at hl 1 rfl) ?_
              refine n_bipush (z := 15) hx hb dX4_turns_227 (by decide) ?_
              refine lv_aload_n hx hb dX4_turns_229 rfl (lv_at hl 0 rfl) ?_
              refine m_get 2 (by decide) hx hb hts hown hK hj hH q1475 (fun _ h9 => h9) rfl dX4_turns_230 ?_
              refine n_sipush (z := 1750) hx hb dX4_turns_233 (by decide) ?_
              refine ml_2 hx hb hK hj hH (by omega) (by omega) dX4_turns_236 ?_
              refine W.eq (g2 := F0 m 237 ls (.int (iI (σ 2 1750)) :: .int (iI 15) :: .int (iI f) :: .ref (G.2.2 0) :: [])) (by rw [st_i (by omega), st_i (by omega)]) ?_
              refine m_callvF (m_runV (As := [.int (iI f), .int (iI 15), .int (iI (σ 2 1750))]) (rest := []) S hH hK hj hl.1 (mm_sets l G (st (st σ 2 (184 + 26 * f + 13) 1) 2 (184 + 26 * f + 14) (byF σ f i.toNat)) f 15 (σ 2 1750) _ (by omega) (by omega) (by omega) (by omega)) (lw_V q1613 q1615 qs46 q109 q1616) kd_X4_sets rfl rfl dX4_turns_237) hH hA (fun H locs hH => ?_)
              refine m_vret hx hb hr hlk hH dX4_turns_240 ?_
              unfold turnsF
              rw [if_neg ht13, hbyA]
              first | rw [if_pos (by omega)] | rw [if_neg (by omega)]
              all_goals rfl
            · exact absurd c_204 c_88
        · -- 88F
          have b4 := b1.2.2.2.2.2.2.2.2.2.2.2.2.2.2.2.2.2 i (by omega) (by omega)
          have b5 := KG.k hI (σ 2 (184 + 26 * f + (17 + 2 * i))) (by omega) (by omega)
          unfold kKind at b5
          refine lv_aload_n hx hb dX4_turns_91 rfl (lv_at hl 0 rfl) ?_
          refine lv_iload_n hx hb dX4_turns_92 rfl (lv_at hl 1 rfl) ?_
          refine n_bipush (z := 17) hx hb dX4_turns_93 (by decide) ?_
          refine n_iconst hx hb dX4_turns_95 ?_
          refine lv_iload hx hb dX4_turns_96 (lv_at hl 5 rfl) ?_
          refine n_imul hx hb dX4_turns_98 ?_
          refine n_iadd hx hb dX4_turns_99 ?_
          refine m_calliF (m_runV (As := [.int (iI f), .int (iI (17 + (2 * i)))]) (rest := []) S hH hK hj hl.1 (mm_flaskOf l G σ f (17 + (2 * i)) _ (by omega) (by omega) (by omega) (by omega)) (lw_V q1625 q1627 qs48 q109 q1628) kd_X4_flaskOf rfl rfl dX4_turns_100) hH hA (fun H locs hH => ?_)
          refine lv_istore hx hb dX4_turns_103 hl (Nat.le_of_ble_eq_true rfl) (lv' := [(7, .int (iI (σ 2 (184 + 26 * f + (17 + (2 * i)))))), (0, .ref (G.2.2 0)), (1, .int (iI f)), (2, .int (iI (zb (airP (σ 2 (184 + 26 * f + 1)) (σ 2 (184 + 26 * f + 6)))))), (4, .int (iI (zb (genP σ f)))), (5, .int (iI (byF σ f i.toNat))), (6, .int (iI i))]) rfl (fun ls hl => ?_)
          refine lv_aload_n hx hb dX4_turns_105 rfl (lv_at hl 1 rfl) ?_
          refine lv_iload hx hb dX4_turns_106 (lv_at hl 0 rfl) ?_
          refine n_iconst hx hb dX4_turns_108 ?_
          refine m_calliF (m_runV (As := [.int (iI (σ 2 (184 + 26 * f + (17 + (2 * i))))), .int (iI 2)]) (rest := []) S hH hK hj hl.1 (mm_kindOf l G σ (σ 2 (184 + 26 * f + (17 + (2 * i)))) 2 _ (by omega) (by omega) (by omega) (by omega)) (lw_V q1629 q1631 qs49 q109 q1632) kd_X4_kindOf rfl rfl dX4_turns_109) hH hA (fun H locs hH => ?_)
          refine lv_aload_n hx hb dX4_turns_112 rfl (lv_at hl 1 rfl) ?_
          refine lv_iload_n hx hb dX4_turns_113 rfl (lv_at hl 2 rfl) ?_
          refine n_iconst hx hb dX4_turns_114 ?_
          refine m_calliF (m_runV (As := [.int (iI f), .int (iI 0)]) (rest := [.int (iI (σ 2 (136 + 6 * (σ 2 (184 + 26 * f + (17 + (2 * i)))) + 2)))]) S hH hK hj hl.1 (mm_flaskOf l G σ f 0 _ (by omega) (by omega) (by omega) (by omega)) (lw_V q1625 q1627 qs48 q109 q1628) kd_X4_flaskOf rfl rfl dX4_turns_115) hH hA (fun H locs hH => ?_)
          refine n_ishr hx hb (r32 (by omega)) (by omega) (by omega) dX4_turns_118 ?_
          refine n_iconst hx hb dX4_turns_119 ?_
          refine n_and1 hx hb dX4_turns_120 ?_
          refine n_iconst hx hb dX4_turns_121 ?_
          refine n_icmp_ne (tgt := 143) hx hb (r32 (by omega)) (r32 (by omega)) dX4_turns_122 (by decide) (fun c_122 => ?_) (fun c_122 => ?_)
          · -- 122T
            refine n_iconst hx hb dX4_turns_143 ?_
            have hl : lv_has ls 9 [(0, .ref (G.2.2 0)), (1, .int (iI f)), (2, .int (iI (zb (airP (σ 2 (184 + 26 * f + 1)) (σ 2 (184 + 26 * f + 6)))))), (4, .int (iI (zb (genP σ f)))), (5, .int (iI (byF σ f i.toNat))), (6, .int (iI i)), (7, .int (iI (σ 2 (184 + 26 * f + (17 + (2 * i))))))] := lv_sub hl [1, 2, 3, 4, 5, 6, 0] rfl
            refine L144 0 ?_ ?_ ?_ _ _ _ hH hl
            · first | exact (zb_t (by unfold airP at *; omega)).symm | exact (zb_f (by unfold airP at *; omega)).symm
            · omega
            · exact c_88
          · -- 122F
            refine lv_aload_n hx hb dX4_turns_125 rfl (lv_at hl 1 rfl) ?_
            refine lv_iload hx hb dX4_turns_126 (lv_at hl 0 rfl) ?_
            refine n_iconst hx hb dX4_turns_128 ?_
            refine m_calliF (m_runV (As := [.int (iI (σ 2 (184 + 26 * f + (17 + (2 * i))))), .int (iI 4)]) (rest := []) S hH hK hj hl.1 (mm_kindOf l G σ (σ 2 (184 + 26 * f + (17 + (2 * i)))) 4 _ (by omega) (by omega) (by omega) (by omega)) (lw_V q1629 q1631 qs49 q109 q1632) kd_X4_kindOf rfl rfl dX4_turns_129) hH hA (fun H locs hH => ?_)
            refine n_if_eq (tgt := 139) hx hb (r32 (by omega)) dX4_turns_132 (by decide) (fun c_132 => ?_) (fun c_132 => ?_)
            · -- 132T
              refine n_iconst hx hb dX4_turns_139 ?_
              refine lv_goto (tgt := 144) hx hb dX4_turns_140 (by decide) ?_
              have hl : lv_has ls 9 [(0, .ref (G.2.2 0)), (1, .int (iI f)), (2, .int (iI (zb (airP (σ 2 (184 + 26 * f + 1)) (σ 2 (184 + 26 * f + 6)))))), (4, .int (iI (zb (genP σ f)))), (5, .int (iI (byF σ f i.toNat))), (6, .int (iI i)), (7, .int (iI (σ 2 (184 + 26 * f + (17 + (2 * i))))))] := lv_sub hl [1, 2, 3, 4, 5, 6, 0] rfl
              refine L144 1 ?_ ?_ ?_ _ _ _ hH hl
              · first | exact (zb_t (by unfold airP at *; omega)).symm | exact (zb_f (by unfold airP at *; omega)).symm
              · omega
              · exact c_88
            · -- 132F
              refine lv_iload_n hx hb dX4_turns_135 rfl (lv_at hl 3 rfl) ?_
              refine z_if_eq (tgt := 143) hx hb dX4_turns_136 (by decide) (fun c_136 => ?_) (fun c_136 => ?_)
              · -- 136T
                refine n_iconst hx hb dX4_turns_143 ?_
                have hl : lv_has ls 9 [(0, .ref (G.2.2 0)), (1, .int (iI f)), (2, .int (iI (zb (airP (σ 2 (184 + 26 * f + 1)) (σ 2 (184 + 26 * f + 6)))))), (4, .int (iI (zb (genP σ f)))), (5, .int (iI (byF σ f i.toNat))), (6, .int (iI i)), (7, .int (iI (σ 2 (184 + 26 * f + (17 + (2 * i))))))] := lv_sub hl [1, 2, 3, 4, 5, 6, 0] rfl
                refine L144 0 ?_ ?_ ?_ _ _ _ hH hl
                · first | exact (zb_t (by unfold airP at *; omega)).symm | exact (zb_f (by unfold airP at *; omega)).symm
                · omega
                · exact c_88
              · -- 136F
                refine n_iconst hx hb dX4_turns_139 ?_
                refine lv_goto (tgt := 144) hx hb dX4_turns_140 (by decide) ?_
                have hl : lv_has ls 9 [(0, .ref (G.2.2 0)), (1, .int (iI f)), (2, .int (iI (zb (airP (σ 2 (184 + 26 * f + 1)) (σ 2 (184 + 26 * f + 6)))))), (4, .int (iI (zb (genP σ f)))), (5, .int (iI (byF σ f i.toNat))), (6, .int (iI i)), (7, .int (iI (σ 2 (184 + 26 * f + (17 + (2 * i))))))] := lv_sub hl [1, 2, 3, 4, 5, 6, 0] rfl
                refine L144 1 ?_ ?_ ?_ _ _ _ hH hl
                · first | exact (zb_t (by unfold airP at *; omega)).symm | exact (zb_f (by unfold airP at *; omega)).symm
                · omega
                · exact c_88
  have L65 : ∀ (z : Int), (hz : z = zb (genP σ f)) → (ht13 : ¬ σ 2 (184 + 26 * f + 13) = 1) → ∀ (H : Heap) (locs : List Loc) (ls : Array Slot), MH G (mA G σ s.heap.size) σ s.heap H locs → lv_has ls 9 [(0, .ref (G.2.2 0)), (1, .int (iI f)), (2, .int (iI (zb (airP (σ 2 (184 + 26 * f + 1)) (σ 2 (184 + 26 * f + 6)))))), (3, .int (iI (σ 2 (0 + 3 * σ 2 (184 + 26 * f + 0)))))] → W p l e (rmD 3) s m ([.ref (G.2.2 0), .int (iI f)] : List Value).toArray below meth c H locs 0 0 (MQ below (mQv G σ s.heap.size (fun σ' => σ' = turnsF σ f)) ([.ref (G.2.2 0), .int (iI f)] : List Value).toArray s 0 0 (mA G σ s.heap.size)) (F0 m 65 ls [.int (iI z)]) := by
    intro z hz ht13 H locs ls hH hl
    subst hz
    refine lv_istore hx hb dX4_turns_65 hl (Nat.le_of_ble_eq_true rfl) (lv' := [(4, .int (iI (zb (genP σ f)))), (0, .ref (G.2.2 0)), (1, .int (iI f)), (2, .int (iI (zb (airP (σ 2 (184 + 26 * f + 1)) (σ 2 (184 + 26 * f + 6)))))), (3, .int (iI (σ 2 (0 + 3 * σ 2 (184 + 26 * f + 0)))))]) rfl (fun ls hl => ?_)
    refine n_iconst hx hb dX4_turns_67 ?_
    refine lv_istore hx hb dX4_turns_68 hl (Nat.le_of_ble_eq_true rfl) (lv' := [(5, .int (iI (-1))), (4, .int (iI (zb (genP σ f)))), (0, .ref (G.2.2 0)), (1, .int (iI f)), (2, .int (iI (zb (airP (σ 2 (184 + 26 * f + 1)) (σ 2 (184 + 26 * f + 6)))))), (3, .int (iI (σ 2 (0 + 3 * σ 2 (184 + 26 * f + 0)))))]) rfl (fun ls hl => ?_)
    refine n_iconst hx hb dX4_turns_70 ?_
    refine lv_istore hx hb dX4_turns_71 hl (Nat.le_of_ble_eq_true rfl) (lv' := [(6, .int (iI 0)), (5, .int (iI (-1))), (4, .int (iI (zb (genP σ f)))), (0, .ref (G.2.2 0)), (1, .int (iI f)), (2, .int (iI (zb (airP (σ 2 (184 + 26 * f + 1)) (σ 2 (184 + 26 * f + 6)))))), (3, .int (iI (σ 2 (0 + 3 * σ 2 (184 + 26 * f + 0)))))]) rfl (fun ls hl => ?_)
    have hl : lv_has ls 9 [(0, .ref (G.2.2 0)), (1, .int (iI f)), (2, .int (iI (zb (airP (σ 2 (184 + 26 * f + 1)) (σ 2 (184 + 26 * f + 6)))))), (4, .int (iI (zb (genP σ f)))), (5, .int (iI (-1))), (6, .int (iI 0))] := lv_sub hl [3, 4, 5, 2, 1, 0] rfl
    refine L73 6 0 ?_ ?_ ?_ ?_ ?_ _ _ _ hH hl
    · omega
    · omega
    · omega
    · omega
    · exact Or.inl rfl
  refine lv_aload_n hx hb dX4_turns_0 rfl (lv_at hl 0 rfl) ?_
  refine lv_iload_n hx hb dX4_turns_1 rfl (lv_at hl 1 rfl) ?_
  refine n_bipush (z := 13) hx hb dX4_turns_2 (by decide) ?_
  refine m_calliF (m_runV (As := [.int (iI f), .int (iI 13)]) (rest := []) S hH hK hj hl.1 (mm_flaskOf l G σ f 13 _ (by omega) (by omega) (by omega) (by omega)) (lw_V q1625 q1627 qs48 q109 q1628) kd_X4_flaskOf rfl rfl dX4_turns_4) hH hA (fun H locs hH => ?_)
  refine n_iconst hx hb dX4_turns_7 ?_
  refine n_icmp_ne (tgt := 12) hx hb (r32 (by omega)) (r32 (by omega)) dX4_turns_8 (by decide) (fun c_8 => ?_) (fun c_8 => ?_)
  · -- 8T
    refine lv_aload_n hx hb dX4_turns_12 rfl (lv_at hl 0 rfl) ?_
    refine lv_iload_n hx hb dX4_turns_13 rfl (lv_at hl 1 rfl) ?_
    refine n_iconst hx hb dX4_turns_14 ?_
    refine m_calliF (m_runV (As := [.int (iI f), .int (iI 1)]) (rest := []) S hH hK hj hl.1 (mm_flaskOf l G σ f 1 _ (by omega) (by omega) (by omega) (by omega)) (lw_V q1625 q1627 qs48 q109 q1628) kd_X4_flaskOf rfl rfl dX4_turns_15) hH hA (fun H locs hH => ?_)
    refine lv_aload_n hx hb dX4_turns_18 rfl (lv_at hl 0 rfl) ?_
    refine lv_iload_n hx hb dX4_turns_19 rfl (lv_at hl 1 rfl) ?_
    refine n_bipush (z := 6) hx hb dX4_turns_20 (by decide) ?_
    refine m_calliF (m_runV (As := [.int (iI f), .int (iI 6)]) (rest := [.int (iI (σ 2 (184 + 26 * f + 1)))]) S hH hK hj hl.1 (mm_flaskOf l G σ f 6 _ (by omega) (by omega) (by omega) (by omega)) (lw_V q1625 q1627 qs48 q109 q1628) kd_X4_flaskOf rfl rfl dX4_turns_22) hH hA (fun H locs hH => ?_)
    refine m_calliF (m_runS (As := [.int (iI (σ 2 (184 + 26 * f + 1))), .int (iI (σ 2 (184 + 26 * f + 6)))]) (rest := []) S hH hK hj hl.1 (mm_hasAir l G σ (σ 2 (184 + 26 * f + 1)) (σ 2 (184 + 26 * f + 6)) _ (r32 (by omega)) (r32 (by omega))) (lw_S q1653 q1654 q109 q1655) kd_X4_hasAir rfl rfl dX4_turns_25) hH hA (fun H locs hH => ?_)
    refine lv_istore_n hx hb dX4_turns_28 rfl hl (Nat.le_of_ble_eq_true rfl) (lv' := [(2, .int (iI (zb (airP (σ 2 (184 + 26 * f + 1)) (σ 2 (184 + 26 * f + 6)))))), (0, .ref (G.2.2 0)), (1, .int (iI f))]) rfl (fun ls hl => ?_)
    refine lv_aload_n hx hb dX4_turns_29 rfl (lv_at hl 1 rfl) ?_
    refine m_get 2 (by decide) hx hb hts hown hK hj hH q1475 (fun _ h9 => h9) rfl dX4_turns_30 ?_
    refine n_iconst hx hb dX4_turns_33 ?_
    refine n_iconst hx hb dX4_turns_34 ?_
    refine lv_aload_n hx hb dX4_turns_35 rfl (lv_at hl 1 rfl) ?_
    refine lv_iload_n hx hb dX4_turns_36 rfl (lv_at hl 2 rfl) ?_
    refine n_iconst hx hb dX4_turns_37 ?_
    refine m_calliF (m_runV (As := [.int (iI f), .int (iI 0)]) (rest := [.int (iI 3), .int (iI 0), .ref (G.2.2 2)]) S hH hK hj hl.1 (mm_flaskOf l G σ f 0 _ (by omega) (by omega) (by omega) (by omega)) (lw_V q1625 q1627 qs48 q109 q1628) kd_X4_flaskOf rfl rfl dX4_turns_38) hH hA (fun H locs hH => ?_)
    refine n_imul hx hb dX4_turns_41 ?_
    refine n_iadd hx hb dX4_turns_42 ?_
    refine ml_2 hx hb hK hj hH (by omega) (by omega) dX4_turns_43 ?_
    refine lv_istore_n hx hb dX4_turns_44 rfl hl (Nat.le_of_ble_eq_true rfl) (lv' := [(3, .int (iI (σ 2 (0 + (3 * (σ 2 (184 + 26 * f + 0))))))), (2, .int (iI (zb (airP (σ 2 (184 + 26 * f + 1)) (σ 2 (184 + 26 * f + 6)))))), (0, .ref (G.2.2 0)), (1, .int (iI f))]) rfl (fun ls hl => ?_)
    refine lv_iload_n hx hb dX4_turns_45 rfl (lv_at hl 0 rfl) ?_
    refine n_if_le (tgt := 64) hx hb (r32 (by omega)) dX4_turns_46 (by decide) (fun c_46 => ?_) (fun c_46 => ?_)
    · -- 46T
      refine n_iconst hx hb dX4_turns_64 ?_
      have hl : lv_has ls 9 [(0, .ref (G.2.2 0)), (1, .int (iI f)), (2, .int (iI (zb (airP (σ 2 (184 + 26 * f + 1)) (σ 2 (184 + 26 * f + 6)))))), (3, .int (iI (σ 2 (0 + (3 * (σ 2 (184 + 26 * f + 0)))))))] := lv_sub hl [2, 3, 1, 0] rfl
      refine L65 0 ?_ ?_ _ _ _ hH hl
      · first | exact (zb_t (by unfold genP; omega)).symm | exact (zb_f (by unfold genP; omega)).symm
      · omega
    · -- 46F
      refine lv_aload_n hx hb dX4_turns_49 rfl (lv_at hl 2 rfl) ?_
      refine lv_iload_n hx hb dX4_turns_50 rfl (lv_at hl 3 rfl) ?_
      refine n_bipush (z := 11) hx hb dX4_turns_51 (by decide) ?_
      refine m_calliF (m_runV (As := [.int (iI f), .int (iI 11)]) (rest := []) S hH hK hj hl.1 (mm_flaskOf l G σ f 11 _ (by omega) (by omega) (by omega) (by omega)) (lw_V q1625 q1627 qs48 q109 q1628) kd_X4_flaskOf rfl rfl dX4_turns_53) hH hA (fun H locs hH => ?_)
      refine lv_iload_n hx hb dX4_turns_56 rfl (lv_at hl 0 rfl) ?_
      refine n_icmp_lt (tgt := 64) hx hb (r32 (by omega)) (r32 (by omega)) dX4_turns_57 (by decide) (fun c_57 => ?_) (fun c_57 => ?_)
      · -- 57T
        refine n_iconst hx hb dX4_turns_64 ?_
        have hl : lv_has ls 9 [(0, .ref (G.2.2 0)), (1, .int (iI f)), (2, .int (iI (zb (airP (σ 2 (184 + 26 * f + 1)) (σ 2 (184 + 26 * f + 6)))))), (3, .int (iI (σ 2 (0 + (3 * (σ 2 (184 + 26 * f + 0)))))))] := lv_sub hl [2, 3, 1, 0] rfl
        refine L65 0 ?_ ?_ _ _ _ hH hl
        · first | exact (zb_t (by unfold genP; omega)).symm | exact (zb_f (by unfold genP; omega)).symm
        · omega
      · -- 57F
        refine n_iconst hx hb dX4_turns_60 ?_
        refine lv_goto (tgt := 65) hx hb dX4_turns_61 (by decide) ?_
        have hl : lv_has ls 9 [(0, .ref (G.2.2 0)), (1, .int (iI f)), (2, .int (iI (zb (airP (σ 2 (184 + 26 * f + 1)) (σ 2 (184 + 26 * f + 6)))))), (3, .int (iI (σ 2 (0 + (3 * (σ 2 (184 + 26 * f + 0)))))))] := lv_sub hl [2, 3, 1, 0] rfl
        refine L65 1 ?_ ?_ _ _ _ hH hl
        · first | exact (zb_t (by unfold genP; omega)).symm | exact (zb_f (by unfold genP; omega)).symm
        · omega
  · -- 8F
    refine m_vret hx hb hr hlk hH dX4_turns_11 ?_
    unfold turnsF
    rw [if_pos c_8]
