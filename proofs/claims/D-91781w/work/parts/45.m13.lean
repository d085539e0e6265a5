theorem kd_X4_cuts : yX4_cuts.cls = RX4 ∧ yX4_cuts.cls ≠ "java/lang/invoke/MethodHandle" ∧ yX4_cuts.cls ≠ "java/lang/invoke/VarHandle" ∧ (parseMethodDescriptor yX4_cuts.desc).map (fun d => d.parameters.length) = some 1 := by decide +kernel
set_option maxHeartbeats 4000000 in
theorem mm_cuts (l : Launch) (G : MG) (σ : St) (n_ : Int) (sz : Nat) (hW : ∀ i : Nat, i < 134 → σ 6 i = wBy.getD i 0) (hn0 : 0 ≤ n_) (hn4 : n_ ≤ 400) (hTp : ∀ i, -128 ≤ σ 7 i ∧ σ 7 i < 128) : Met l yX4_cuts (ws_ yX4_cuts cX4_cuts 6 none) (rmD 2) (mP G [.ref (G.2.2 0), .int (iI n_)] σ sz) (mQv G σ sz (fun σ' => ∃ t : Nat, (t : Int) ≤ n_ ∧ (∀ j : Nat, j < t → 0 ≤ ps (σ 7) n_ j ∧ ps (σ 7) n_ j < n_) ∧ ps (σ 7) n_ t = n_ ∧ σ' = cutE σ n_ t)) 0 0 (mA G σ sz) := by
  refine m_start (by decide) (Nat.le_of_ble_eq_true rfl) ?_
  intro p e s m below meth c ⟨S, hr, hlk, hH, hK, hj, hsz, hnm⟩ ls hl
  subst hsz
  obtain ⟨hx, hb, hml, hown, hts⟩ := S
  have S : CallFix p m c _ _ s _ lw_all RX4 := ⟨hx, hb, hml, hown, hts⟩
  have hA : ∀ q, s.heap.size ≤ q → mA G σ s.heap.size q := fun q hq => Or.inr hq
  have hl : lv_has ls 6 [(0, .ref (G.2.2 0)), (1, .int (iI n_))] := hl
  have L7 : ∀ (n0 : Nat) (k : Int) (t : Nat), (hk0 : 0 ≤ k) → (hkn : k ≤ n_) → (hkt : (t : Int) ≤ k) → (hfu : n_ < (n0 : Int) + k) → (hsk : sk (σ 7) n_ k = ps (σ 7) n_ t) → (hps : ∀ j : Nat, j < t → 0 ≤ ps (σ 7) n_ j ∧ ps (σ 7) n_ j < n_) → ∀ (H : Heap) (locs : List Loc) (ls : Array Slot), MH G (mA G σ s.heap.size) (cutS σ n_ t) s.heap H locs → lv_has ls 6 [(0, .ref (G.2.2 0)), (1, .int (iI n_)), (2, .int (iI k))] → W p l e (rmD 2) s m ([.ref (G.2.2 0), .int (iI n_)] : List Value).toArray below meth c H locs 0 0 (MQ below (mQv G σ s.heap.size (fun σ' => ∃ t : Nat, (t : Int) ≤ n_ ∧ (∀ j : Nat, j < t → 0 ≤ ps (σ 7) n_ j ∧ ps (σ 7) n_ j < n_) ∧ ps (σ 7) n_ t = n_ ∧ σ' = cutE σ n_ t)) ([.ref (G.2.2 0), .int (iI n_)] : List Value).toArray s 0 0 (mA G σ s.heap.size)) (F0 m 7 ls []) := by
    intro n0
    induction n0 with
    | zero => intro k t hk0 hkn hkt hfu hsk hps; exfalso; omega
    | succ n0 ih_7 =>
      intro k t hk0 hkn hkt hfu hsk hps H locs ls hH hl
      have htk := hTp k
      have L100 : ∀ (en : Int), (hk0 : 0 ≤ k) → (hkn : k < n_) → (h32 : ¬ σ 7 k = 32) → (hen : en = enT (σ 7) n_ k) → ∀ (H : Heap) (locs : List Loc) (ls : Array Slot), MH G (mA G σ s.heap.size) (cutS σ n_ t) s.heap H locs → lv_has ls 6 [(0, .ref (G.2.2 0)), (1, .int (iI n_)), (2, .int (iI k)), (3, .int (iI (σ 7 k))), (4, .int (iI en))] → W p l e (rmD 2) s m ([.ref (G.2.2 0), .int (iI n_)] : List Value).toArray below meth c H locs 0 0 (MQ below (mQv G σ s.heap.size (fun σ' => ∃ t : Nat, (t : Int) ≤ n_ ∧ (∀ j : Nat, j < t → 0 ≤ ps (σ 7) n_ j ∧ ps (σ 7) n_ j < n_) ∧ ps (σ 7) n_ t = n_ ∧ σ' = cutE σ n_ t)) ([.ref (G.2.2 0), .int (iI n_)] : List Value).toArray s 0 0 (mA G σ s.heap.size)) (F0 m 100 ls []) := by
        intro en hk0 hkn h32 hen H locs ls hH hl
        subst hen
        have hen := enT_r (T := σ 7) (n := n_) (k := k) (by omega)
        have hpt : ps (σ 7) n_ t = k := by rw [← hsk, sk_n (fun q => h32 q.2)]
        have hcr := cdAt_r (σ 7) n_ k
        have L247 : ∀ (v : Int), (hv : v = vlAt (σ 7) n_ k) → ∀ (H : Heap) (locs : List Loc) (ls : Array Slot), MH G (mA G σ s.heap.size) (st (st (st (cutS σ n_ t) 13 t k) 11 t (cdAt (σ 7) n_ k)) 12 t v) s.heap H locs → lv_has ls 6 [(0, .ref (G.2.2 0)), (1, .int (iI n_)), (2, .int (iI k)), (4, .int (iI (enT (σ 7) n_ k)))] → W p l e (rmD 2) s m ([.ref (G.2.2 0), .int (iI n_)] : List Value).toArray below meth c H locs 0 0 (MQ below (mQv G σ s.heap.size (fun σ' => ∃ t : Nat, (t : Int) ≤ n_ ∧ (∀ j : Nat, j < t → 0 ≤ ps (σ 7) n_ j ∧ ps (σ 7) n_ j < n_) ∧ ps (σ 7) n_ t = n_ ∧ σ' = cutE σ n_ t)) ([.ref (G.2.2 0), .int (iI n_)] : List Value).toArray s 0 0 (mA G σ s.heap.size)) (F0 m 247 ls []) := by
          intro v hv H locs ls hH hl
          refine lv_aload_n hx hb dX4_cuts_247 rfl (lv_at hl 0 rfl) ?_
          refine lv_dup hx hb dX4_cuts_248 rfl ?_
          refine m_get 14 (by decide) hx hb hts hown hK hj hH q1487 (fun _ h9 => h9) rfl dX4_cuts_249 ?_
          refine W.eq (g2 := F0 m 252 ls (.int (iI (t : Int)) :: .ref (G.2.2 0) :: [])) (by rfl) ?_
          refine n_iconst hx hb dX4_cuts_252 ?_
          refine n_iadd hx hb dX4_cuts_253 ?_
          refine mp_14 hx hb hts hown hK hj hH q1487 (fun _ h9 => h9) dX4_cuts_254 (fun H locs hH => ?_)
          have hH := MH_to hH (τ := cutS σ n_ (t + 1)) ((cutS_s hpt rfl hv))
          refine lv_iload hx hb dX4_cuts_257 (lv_at hl 3 rfl) ?_
          refine lv_istore_n hx hb dX4_cuts_259 rfl hl (Nat.le_of_ble_eq_true rfl) (lv' := [(2, .int (iI (enT (σ 7) n_ k))), (0, .ref (G.2.2 0)), (1, .int (iI n_)), (4, .int (iI (enT (σ 7) n_ k)))]) rfl (fun ls hl => ?_)
          refine lv_goto (tgt := 7) hx hb dX4_cuts_260 (by decide) ?_
          have hl : lv_has ls 6 [(0, .ref (G.2.2 0)), (1, .int (iI n_)), (2, .int (iI (enT (σ 7) n_ k)))] := lv_sub hl [1, 2, 0] rfl
          refine ih_7 (enT (σ 7) n_ k) (t + 1) ?_ ?_ ?_ ?_ ?_ ?_ _ _ _ hH hl
          · omega
          · omega
          · omega
          · omega
          · show _ = sk (σ 7) n_ (enT (σ 7) n_ (ps (σ 7) n_ t))
            rw [hpt]
          · intro j q
            rcases Nat.lt_or_eq_of_le (Nat.le_of_lt_succ q) with y | y
            · exact hps j y
            · rw [y, hpt]; omega
        have L169 : ∀ (n3 : Nat) (i : Int), (hi0 : k ≤ i) → (hi1 : i ≤ enT (σ 7) n_ k) → (hi2 : enT (σ 7) n_ k < (n3 : Int) + i) → (hid : i = k ∨ digP (σ 7 k)) → ∀ (H : Heap) (locs : List Loc) (ls : Array Slot), MH G (mA G σ s.heap.size) (st (st (st (cutS σ n_ t) 13 t k) 11 t (cdAt (σ 7) n_ k)) 12 t (vlN (σ 7) k (i - k).toNat)) s.heap H locs → lv_has ls 6 [(0, .ref (G.2.2 0)), (1, .int (iI n_)), (2, .int (iI k)), (3, .int (iI (σ 7 k))), (4, .int (iI (enT (σ 7) n_ k))), (5, .int (iI i))] → W p l e (rmD 2) s m ([.ref (G.2.2 0), .int (iI n_)] : List Value).toArray below meth c H locs 0 0 (MQ below (mQv G σ s.heap.size (fun σ' => ∃ t : Nat, (t : Int) ≤ n_ ∧ (∀ j : Nat, j < t → 0 ≤ ps (σ 7) n_ j ∧ ps (σ 7) n_ j < n_) ∧ ps (σ 7) n_ t = n_ ∧ σ' = cutE σ n_ t)) ([.ref (G.2.2 0), .int (iI n_)] : List Value).toArray s 0 0 (mA G σ s.heap.size)) (F0 m 169 ls []) := by
          intro n3
          induction n3 with
          | zero => intro i hi0 hi1 hi2 hid; exfalso; omega
          | succ n3 ih_169 =>
            intro i hi0 hi1 hi2 hid H locs ls hH hl
            have hti := hTp i
            refine lv_iload hx hb dX4_cuts_169 (lv_at hl 5 rfl) ?_
            refine lv_iload hx hb dX4_cuts_171 (lv_at hl 4 rfl) ?_
            refine n_icmp_ge (tgt := 247) hx hb (r32 (by omega)) (r32 (by omega)) dX4_cuts_173 (by decide) (fun c_173 => ?_) (fun c_173 => ?_)
            · -- 173T
              have hl : lv_has ls 6 [(0, .ref (G.2.2 0)), (1, .int (iI n_)), (2, .int (iI k)), (4, .int (iI (enT (σ 7) n_ k)))] := lv_sub hl [0, 1, 2, 4] rfl
              refine L247 (vlN (σ 7) k (i - k).toNat) ?_ _ _ _ hH hl
              · first | exact vl_fin hid (Or.inl c_180) | exact vl_fin hid (Or.inr (by omega))
            · -- 173F
              refine lv_iload_n hx hb dX4_cuts_176 rfl (lv_at hl 3 rfl) ?_
              refine m_calliF (m_runS (As := [.int (iI (σ 7 k))]) (rest := []) S hH hK hj hl.1 (mm_isDigit l G (st (st (st (cutS σ n_ t) 13 t k) 11 t (cdAt (σ 7) n_ k)) 12 t (vlN (σ 7) k (i - k).toNat)) (σ 7 k) _ (r32 (by omega))) (lw_S q1736 q1737 q109 q1738) kd_X4_isDigit rfl rfl dX4_cuts_177) hH hA (fun H locs hH => ?_)
              refine z_if_eq (tgt := 247) hx hb dX4_cuts_180 (by decide) (fun c_180 => ?_) (fun c_180 => ?_)
              · -- 180T
                have hl : lv_has ls 6 [(0, .ref (G.2.2 0)), (1, .int (iI n_)), (2, .int (iI k)), (4, .int (iI (enT (σ 7) n_ k)))] := lv_sub hl [0, 1, 2, 4] rfl
                refine L247 (vlN (σ 7) k (i - k).toNat) ?_ _ _ _ hH hl
                · first | exact vl_fin hid (Or.inl c_180) | exact vl_fin hid (Or.inr (by omega))
              · -- 180F
                have hvr := vlN_r (T := σ 7) (k := k) (i - k).toNat (fun j q => enT_d (n := n_) c_180 (by omega) (by omega))
                refine lv_aload_n hx hb dX4_cuts_183 rfl (lv_at hl 0 rfl) ?_
                refine m_get 12 (by decide) hx hb hts hown hK hj hH q1485 (fun _ h9 => h9) rfl dX4_cuts_184 ?_
                refine lv_aload_n hx hb dX4_cuts_187 rfl (lv_at hl 0 rfl) ?_
                refine m_get 14 (by decide) hx hb hts hown hK hj hH q1487 (fun _ h9 => h9) rfl dX4_cuts_188 ?_
                refine W.eq (g2 := F0 m 191 ls (.int (iI (t : Int)) :: .ref (G.2.2 12) :: [])) (by rfl) ?_
                refine lv_aload_n hx hb dX4_cuts_191 rfl (lv_at hl 0 rfl) ?_
                refine m_get 12 (by decide) hx hb hts hown hK hj hH q1485 (fun _ h9 => h9) rfl dX4_cuts_192 ?_
                refine lv_aload_n hx hb dX4_cuts_195 rfl (lv_at hl 0 rfl) ?_
                refine m_get 14 (by decide) hx hb hts hown hK hj hH q1487 (fun _ h9 => h9) rfl dX4_cuts_196 ?_
                refine W.eq (g2 := F0 m 199 ls (.int (iI (t : Int)) :: .ref (G.2.2 12) :: .int (iI (t : Int)) :: .ref (G.2.2 12) :: [])) (by rfl) ?_
                refine ml_12 hx hb hK hj hH (by omega) (by omega) dX4_cuts_199 ?_
                refine W.eq (g2 := F0 m 200 ls (.int (iI (vlN (σ 7) k (i - k).toNat)) :: .int (iI (t : Int)) :: .ref (G.2.2 12) :: [])) (by rw [st_s]) ?_
                refine lv_ldc (v := iI 1000000) hx hb hown (hts _ q1608) dX4_cuts_200 ?_
                refine n_icmp_le (tgt := 217) hx hb (r32 (by omega)) (r32 (by omega)) dX4_cuts_202 (by decide) (fun c_202 => ?_) (fun c_202 => ?_)
                · -- 202T
                  refine n_bipush (z := 10) hx hb dX4_cuts_217 (by decide) ?_
                  refine lv_aload_n hx hb dX4_cuts_219 rfl (lv_at hl 0 rfl) ?_
                  refine m_get 12 (by decide) hx hb hts hown hK hj hH q1485 (fun _ h9 => h9) rfl dX4_cuts_220 ?_
                  refine lv_aload_n hx hb dX4_cuts_223 rfl (lv_at hl 0 rfl) ?_
                  refine m_get 14 (by decide) hx hb hts hown hK hj hH q1487 (fun _ h9 => h9) rfl dX4_cuts_224 ?_
                  refine W.eq (g2 := F0 m 227 ls (.int (iI (t : Int)) :: .ref (G.2.2 12) :: .int (iI 10) :: .int (iI (t : Int)) :: .ref (G.2.2 12) :: [])) (by rfl) ?_
                  refine ml_12 hx hb hK hj hH (by omega) (by omega) dX4_cuts_227 ?_
                  refine W.eq (g2 := F0 m 228 ls (.int (iI (vlN (σ 7) k (i - k).toNat)) :: .int (iI 10) :: .int (iI (t : Int)) :: .ref (G.2.2 12) :: [])) (by rw [st_s]) ?_
                  refine n_imul hx hb dX4_cuts_228 ?_
                  refine lv_aload_n hx hb dX4_cuts_229 rfl (lv_at hl 0 rfl) ?_
                  refine m_get 7 (by decide) hx hb hts hown hK hj hH q1480 (fun _ h9 => h9) rfl dX4_cuts_230 ?_
                  refine lv_iload hx hb dX4_cuts_233 (lv_at hl 5 rfl) ?_
                  refine ml_7 hx hb hK hj hH (by omega) (by omega) dX4_cuts_235 ?_
                  refine W.eq (g2 := F0 m 236 ls (.int (iI (σ 7 i)) :: .int (iI (10 * (vlN (σ 7) k (i - k).toNat))) :: .int (iI (t : Int)) :: .ref (G.2.2 12) :: [])) (by rw [st_n (by decide), st_n (by decide), st_n (by decide), cutS_o (by decide) (by decide) (by decide) (by decide)]) ?_
                  refine n_iadd hx hb dX4_cuts_236 ?_
                  refine n_bipush (z := 48) hx hb dX4_cuts_237 (by decide) ?_
                  refine n_isub hx hb dX4_cuts_239 ?_
                  refine ms_12 hx hb hK hj hH (by omega) (by omega) dX4_cuts_240 (fun H locs hH => ?_)
                  refine n_iinc hx hb dX4_cuts_241 hl (k := 5) rfl (Nat.le_of_ble_eq_true rfl) (lv' := [(5, .int (iI (i + 1))), (0, .ref (G.2.2 0)), (1, .int (iI n_)), (2, .int (iI k)), (3, .int (iI (σ 7 k))), (4, .int (iI (enT (σ 7) n_ k)))]) rfl (fun ls hl => ?_)
                  refine lv_goto (tgt := 169) hx hb dX4_cuts_244 (by decide) ?_
                  have hl : lv_has ls 6 [(0, .ref (G.2.2 0)), (1, .int (iI n_)), (2, .int (iI k)), (3, .int (iI (σ 7 k))), (4, .int (iI (enT (σ 7) n_ k))), (5, .int (iI (i + 1)))] := lv_sub hl [1, 2, 3, 4, 5, 0] rfl
                  have hH := MH_to hH (τ := st (st (st (cutS σ n_ t) 13 t k) 11 t (cdAt (σ 7) n_ k)) 12 t (vlN (σ 7) k ((i + 1) - k).toNat)) ((by rw [st_st, show (i + 1 - k).toNat = (i - k + 1).toNat by omega, vlN_s (by omega), show k + (i - k) = i by omega]; first | rw [if_pos (by omega)] | rw [if_neg (by omega)]))
                  refine ih_169 (i + 1) ?_ ?_ ?_ ?_ _ _ _ hH hl
                  · omega
                  · omega
                  · omega
                  · exact Or.inr c_180
                · -- 202F
                  refine lv_aload_n hx hb dX4_cuts_205 rfl (lv_at hl 0 rfl) ?_
                  refine m_get 12 (by decide) hx hb hts hown hK hj hH q1485 (fun _ h9 => h9) rfl dX4_cuts_206 ?_
                  refine lv_aload_n hx hb dX4_cuts_209 rfl (lv_at hl 0 rfl) ?_
                  refine m_get 14 (by decide) hx hb hts hown hK hj hH q1487 (fun _ h9 => h9) rfl dX4_cuts_210 ?_
                  refine W.eq (g2 := F0 m 213 ls (.int (iI (t : Int)) :: .ref (G.2.2 12) :: .int (iI (t : Int)) :: .ref (G.2.2 12) :: [])) (by rfl) ?_
                  refine ml_12 hx hb hK hj hH (by omega) (by omega) dX4_cuts_213 ?_
                  refine W.eq (g2 := F0 m 214 ls (.int (iI (vlN (σ 7) k (i - k).toNat)) :: .int (iI (t : Int)) :: .ref (G.2.2 12) :: [])) (by rw [st_s]) ?_
                  refine lv_goto (tgt := 240) hx hb dX4_cuts_214 (by decide) ?_
                  refine ms_12 hx hb hK hj hH (by omega) (by omega) dX4_cuts_240 (fun H locs hH => ?_)
                  refine n_iinc hx hb dX4_cuts_241 hl (k := 5) rfl (Nat.le_of_ble_eq_true rfl) (lv' := [(5, .int (iI (i + 1))), (0, .ref (G.2.2 0)), (1, .int (iI n_)), (2, .int (iI k)), (3, .int (iI (σ 7 k))), (4, .int (iI (enT (σ 7) n_ k)))]) rfl (fun ls hl => ?_)
                  refine lv_goto (tgt := 169) hx hb dX4_cuts_244 (by decide) ?_
                  have hl : lv_has ls 6 [(0, .ref (G.2.2 0)), (1, .int (iI n_)), (2, .int (iI k)), (3, .int (iI (σ 7 k))), (4, .int (iI (enT (σ 7) n_ k))), (5, .int (iI (i + 1)))] := lv_sub hl [1, 2, 3, 4, 5, 0] rfl
                  have hH := MH_to hH (τ := st (st (st (cutS σ n_ t) 13 t k) 11 t (cdAt (σ 7) n_ k)) 12 t (vlN (σ 7) k ((i + 1) - k).toNat)) ((by rw [st_st, show (i + 1 - k).toNat = (i - k + 1).toNat by omega, vlN_s (by omega), show k + (i - k) = i by omega]; first | rw [if_pos (by omega)] | rw [if_neg (by omega)]))
                  refine ih_169 (i + 1) ?_ ?_ ?_ ?_ _ _ _ hH hl
                  · omega
                  · omega
                  · omega
                  · exact Or.inr c_180
        have L165 : ∀ (z : Int), (hz : z = cdAt (σ 7) n_ k) → ∀ (H : Heap) (locs : List Loc) (ls : Array Slot), MH G (mA G σ s.heap.size) (st (st (cutS σ n_ t) 13 t k) 12 t 0) s.heap H locs → lv_has ls 6 [(0, .ref (G.2.2 0)), (1, .int (iI n_)), (2, .int (iI k)), (3, .int (iI (σ 7 k))), (4, .int (iI (enT (σ 7) n_ k)))] → W p l e (rmD 2) s m ([.ref (G.2.2 0), .int (iI n_)] : List Value).toArray below meth c H locs 0 0 (MQ below (mQv G σ s.heap.size (fun σ' => ∃ t : Nat, (t : Int) ≤ n_ ∧ (∀ j : Nat, j < t → 0 ≤ ps (σ 7) n_ j ∧ ps (σ 7) n_ j < n_) ∧ ps (σ 7) n_ t = n_ ∧ σ' = cutE σ n_ t)) ([.ref (G.2.2 0), .int (iI n_)] : List Value).toArray s 0 0 (mA G σ s.heap.size)) (F0 m 165 ls [.int (iI z), .int (iI (t : Int)), .ref (G.2.2 11)]) := by
          intro z hz H locs ls hH hl
          subst hz
          refine ms_11 hx hb hK hj hH (by omega) (by omega) dX4_cuts_165 (fun H locs hH => ?_)
          refine lv_iload_n hx hb dX4_cuts_166 rfl (lv_at hl 2 rfl) ?_
          refine lv_istore hx hb dX4_cuts_167 hl (Nat.le_of_ble_eq_true rfl) (lv' := [(5, .int (iI k)), (0, .ref (G.2.2 0)), (1, .int (iI n_)), (2, .int (iI k)), (3, .int (iI (σ 7 k))), (4, .int (iI (enT (σ 7) n_ k)))]) rfl (fun ls hl => ?_)
          have hl : lv_has ls 6 [(0, .ref (G.2.2 0)), (1, .int (iI n_)), (2, .int (iI k)), (3, .int (iI (σ 7 k))), (4, .int (iI (enT (σ 7) n_ k))), (5, .int (iI k))] := lv_sub hl [1, 2, 3, 4, 5, 0] rfl
          have hH := MH_to hH (τ := st (st (st (cutS σ n_ t) 13 t k) 11 t (cdAt (σ 7) n_ k)) 12 t (vlN (σ 7) k (k - k).toNat)) ((by rw [st_comm (by decide), show (k - k).toNat = 0 by omega]; rfl))
          refine L169 402 k ?_ ?_ ?_ ?_ _ _ _ hH hl
          · omega
          · omega
          · omega
          · omega
        refine lv_aload_n hx hb dX4_cuts_100 rfl (lv_at hl 0 rfl) ?_
        refine m_get 13 (by decide) hx hb hts hown hK hj hH q1486 (fun _ h9 => h9) rfl dX4_cuts_101 ?_
        refine lv_aload_n hx hb dX4_cuts_104 rfl (lv_at hl 0 rfl) ?_
        refine m_get 14 (by decide) hx hb hts hown hK hj hH q1487 (fun _ h9 => h9) rfl dX4_cuts_105 ?_
        refine W.eq (g2 := F0 m 108 ls (.int (iI (t : Int)) :: .ref (G.2.2 13) :: [])) (by rfl) ?_
        refine lv_iload_n hx hb dX4_cuts_108 rfl (lv_at hl 2 rfl) ?_
        refine ms_13 hx hb hK hj hH (by omega) (by omega) dX4_cuts_109 (fun H locs hH => ?_)
        refine lv_aload_n hx hb dX4_cuts_110 rfl (lv_at hl 0 rfl) ?_
        refine m_get 12 (by decide) hx hb hts hown hK hj hH q1485 (fun _ h9 => h9) rfl dX4_cuts_111 ?_
        refine lv_aload_n hx hb dX4_cuts_114 rfl (lv_at hl 0 rfl) ?_
        refine m_get 14 (by decide) hx hb hts hown hK hj hH q1487 (fun _ h9 => h9) rfl dX4_cuts_115 ?_
        refine W.eq (g2 := F0 m 118 ls (.int (iI (t : Int)) :: .ref (G.2.2 12) :: [])) (by rfl) ?_
        refine n_iconst hx hb dX4_cuts_118 ?_
        refine ms_12 hx hb hK hj hH (by omega) (by omega) dX4_cuts_119 (fun H locs hH => ?_)
        refine lv_aload_n hx hb dX4_cuts_120 rfl (lv_at hl 0 rfl) ?_
        refine m_get 11 (by decide) hx hb hts hown hK hj hH q1484 (fun _ h9 => h9) rfl dX4_cuts_121 ?_
        refine lv_aload_n hx hb dX4_cuts_124 rfl (lv_at hl 0 rfl) ?_
        refine m_get 14 (by decide) hx hb hts hown hK hj hH q1487 (fun _ h9 => h9) rfl dX4_cuts_125 ?_
        refine W.eq (g2 := F0 m 128 ls (.int (iI (t : Int)) :: .ref (G.2.2 11) :: [])) (by rfl) ?_
        refine lv_iload_n hx hb dX4_cuts_128 rfl (lv_at hl 3 rfl) ?_
        refine m_calliF (m_runS (As := [.int (iI (σ 7 k))]) (rest := [.int (iI (t : Int)), .ref (G.2.2 11)]) S hH hK hj hl.1 (mm_isSmall l G (st (st (cutS σ n_ t) 13 (t : Int) k) 12 (t : Int) 0) (σ 7 k) _ (r32 (by omega))) (lw_S q1733 q1734 q109 q1735) kd_X4_isSmall rfl rfl dX4_cuts_129) hH hA (fun H locs hH => ?_)
        refine z_if_eq (tgt := 145) hx hb dX4_cuts_132 (by decide) (fun c_132 => ?_) (fun c_132 => ?_)
        · -- 132T
          refine lv_iload_n hx hb dX4_cuts_145 rfl (lv_at hl 3 rfl) ?_
          refine m_calliF (m_runS (As := [.int (iI (σ 7 k))]) (rest := [.int (iI (t : Int)), .ref (G.2.2 11)]) S hH hK hj hl.1 (mm_isDigit l G (st (st (cutS σ n_ t) 13 (t : Int) k) 12 (t : Int) 0) (σ 7 k) _ (r32 (by omega))) (lw_S q1736 q1737 q109 q1738) kd_X4_isDigit rfl rfl dX4_cuts_146) hH hA (fun H locs hH => ?_)
          refine z_if_eq (tgt := 157) hx hb dX4_cuts_149 (by decide) (fun c_149 => ?_) (fun c_149 => ?_)
          · -- 149T
            refine n_bipush (z := 100) hx hb dX4_cuts_157 (by decide) ?_
            refine lv_iload_n hx hb dX4_cuts_159 rfl (lv_at hl 3 rfl) ?_
            refine n_sipush (z := 255) hx hb dX4_cuts_160 (by decide) ?_
            refine n_and255 hx hb dX4_cuts_163 ?_
            refine n_iadd hx hb dX4_cuts_164 ?_
            have hl : lv_has ls 6 [(0, .ref (G.2.2 0)), (1, .int (iI n_)), (2, .int (iI k)), (3, .int (iI (σ 7 k))), (4, .int (iI (enT (σ 7) n_ k)))] := lv_sub hl [0, 1, 2, 3, 4] rfl
            refine L165 (100 + ((σ 7 k) % 256)) ?_ _ _ _ hH hl
            · unfold cdAt
              first | rw [if_pos c_132] | rw [if_neg c_132, if_pos c_149] | rw [if_neg c_132, if_neg c_149]
          · -- 149F
            refine n_bipush (z := 50) hx hb dX4_cuts_152 (by decide) ?_
            refine lv_goto (tgt := 165) hx hb dX4_cuts_154 (by decide) ?_
            have hl : lv_has ls 6 [(0, .ref (G.2.2 0)), (1, .int (iI n_)), (2, .int (iI k)), (3, .int (iI (σ 7 k))), (4, .int (iI (enT (σ 7) n_ k)))] := lv_sub hl [0, 1, 2, 3, 4] rfl
            refine L165 50 ?_ _ _ _ hH hl
            · unfold cdAt
              first | rw [if_pos c_132] | rw [if_neg c_132, if_pos c_149] | rw [if_neg c_132, if_neg c_149]
        · -- 132F
          refine lv_aload_n hx hb dX4_cuts_135 rfl (lv_at hl 0 rfl) ?_
          refine lv_iload_n hx hb dX4_cuts_136 rfl (lv_at hl 2 rfl) ?_
          refine lv_iload hx hb dX4_cuts_137 (lv_at hl 4 rfl) ?_
          refine m_calliF (m_runV (As := [.int (iI k), .int (iI (enT (σ 7) n_ k))]) (rest := [.int (iI (t : Int)), .ref (G.2.2 11)]) S hH hK hj hl.1 (mm_wordOf l G (st (st (cutS σ n_ t) 13 (t : Int) k) 12 (t : Int) 0) k (enT (σ 7) n_ k) _ (by rw [st_n (by decide), st_n (by decide), cutS_o (by decide) (by decide) (by decide) (by decide)]; exact hW) (by omega) (by omega) (by omega) (by rw [st_n (by decide), st_n (by decide), cutS_o (by decide) (by decide) (by decide) (by decide)]; exact hTp)) (lw_V q1739 q1741 qs60 q109 q1742) kd_X4_wordOf rfl rfl dX4_cuts_139) hH hA (fun H locs hH => ?_)
          refine W.eq (g2 := F0 m 142 ls (.int (iI (cdAt (σ 7) n_ k)) :: .int (iI (t : Int)) :: .ref (G.2.2 11) :: [])) (by rw [show wordNo _ k (enT (σ 7) n_ k) = cdAt (σ 7) n_ k from (by unfold cdAt; rw [if_pos c_132]; rw [st_n (by decide), st_n (by decide), cutS_o (by decide) (by decide) (by decide) (by decide)])]) ?_
          refine lv_goto (tgt := 165) hx hb dX4_cuts_142 (by decide) ?_
          have hl : lv_has ls 6 [(0, .ref (G.2.2 0)), (1, .int (iI n_)), (2, .int (iI k)), (3, .int (iI (σ 7 k))), (4, .int (iI (enT (σ 7) n_ k)))] := lv_sub hl [0, 1, 2, 3, 4] rfl
          refine L165 (cdAt (σ 7) n_ k) ?_ _ _ _ hH hl
          · unfold cdAt
            first | rw [if_pos c_132] | rw [if_neg c_132, if_pos c_149] | rw [if_neg c_132, if_neg c_149]
      have L75 : ∀ (n2 : Nat) (j : Int), (hk0 : 0 ≤ k) → (hkn : k < n_) → (h32 : ¬ σ 7 k = 32) → (hlo : digP (σ 7 k)) → (hj0 : k + 1 ≤ j) → (hj1 : j ≤ n_) → (hj2 : n_ < (n2 : Int) + j) → (hje : digE (σ 7) n_ j = digE (σ 7) n_ (k + 1)) → ∀ (H : Heap) (locs : List Loc) (ls : Array Slot), MH G (mA G σ s.heap.size) (cutS σ n_ t) s.heap H locs → lv_has ls 6 [(0, .ref (G.2.2 0)), (1, .int (iI n_)), (2, .int (iI k)), (3, .int (iI (σ 7 k))), (4, .int (iI j))] → W p l e (rmD 2) s m ([.ref (G.2.2 0), .int (iI n_)] : List Value).toArray below meth c H locs 0 0 (MQ below (mQv G σ s.heap.size (fun σ' => ∃ t : Nat, (t : Int) ≤ n_ ∧ (∀ j : Nat, j < t → 0 ≤ ps (σ 7) n_ j ∧ ps (σ 7) n_ j < n_) ∧ ps (σ 7) n_ t = n_ ∧ σ' = cutE σ n_ t)) ([.ref (G.2.2 0), .int (iI n_)] : List Value).toArray s 0 0 (mA G σ s.heap.size)) (F0 m 75 ls []) := by
        intro n2
        induction n2 with
        | zero => intro j hk0 hkn h32 hlo hj0 hj1 hj2 hje; exfalso; omega
        | succ n2 ih_75 =>
          intro j hk0 hkn h32 hlo hj0 hj1 hj2 hje H locs ls hH hl
          have htj := hTp j
          refine lv_iload hx hb dX4_cuts_75 (lv_at hl 4 rfl) ?_
          refine lv_iload_n hx hb dX4_cuts_77 rfl (lv_at hl 1 rfl) ?_
          refine n_icmp_ge (tgt := 100) hx hb (r32 (by omega)) (r32 (by omega)) dX4_cuts_78 (by decide) (fun c_78 => ?_) (fun c_78 => ?_)
          · -- 78T
            have hl : lv_has ls 6 [(0, .ref (G.2.2 0)), (1, .int (iI n_)), (2, .int (iI k)), (3, .int (iI (σ 7 k))), (4, .int (iI j))] := lv_sub hl [0, 1, 2, 3, 4] rfl
            refine L100 j ?_ ?_ ?_ ?_ _ _ _ hH hl
            · omega
            · omega
            · omega
            · first | exact en_1 hje c_72 | exact en_2 hlo hje (by omega) | exact en_2 hlo hje (fun q => c_91 q.2)
          · -- 78F
            refine lv_aload_n hx hb dX4_cuts_81 rfl (lv_at hl 0 rfl) ?_
            refine m_get 7 (by decide) hx hb hts hown hK hj hH q1480 (fun _ h9 => h9) rfl dX4_cuts_82 ?_
            refine lv_iload hx hb dX4_cuts_85 (lv_at hl 4 rfl) ?_
            refine ml_7 hx hb hK hj hH (by omega) (by omega) dX4_cuts_87 ?_
            refine W.eq (g2 := F0 m 88 ls (.int (iI (σ 7 j)) :: [])) (by rw [cutS_o (by decide) (by decide) (by decide) (by decide)]) ?_
            refine m_calliF (m_runS (As := [.int (iI (σ 7 j))]) (rest := []) S hH hK hj hl.1 (mm_isDigit l G (cutS σ n_ t) (σ 7 j) _ (r32 (by omega))) (lw_S q1736 q1737 q109 q1738) kd_X4_isDigit rfl rfl dX4_cuts_88) hH hA (fun H locs hH => ?_)
            refine z_if_eq (tgt := 100) hx hb dX4_cuts_91 (by decide) (fun c_91 => ?_) (fun c_91 => ?_)
            · -- 91T
              have hl : lv_has ls 6 [(0, .ref (G.2.2 0)), (1, .int (iI n_)), (2, .int (iI k)), (3, .int (iI (σ 7 k))), (4, .int (iI j))] := lv_sub hl [0, 1, 2, 3, 4] rfl
              refine L100 j ?_ ?_ ?_ ?_ _ _ _ hH hl
              · omega
              · omega
              · omega
              · first | exact en_1 hje c_72 | exact en_2 hlo hje (by omega) | exact en_2 hlo hje (fun q => c_91 q.2)
            · -- 91F
              refine n_iinc hx hb dX4_cuts_94 hl (k := 4) rfl (Nat.le_of_ble_eq_true rfl) (lv' := [(4, .int (iI (j + 1))), (0, .ref (G.2.2 0)), (1, .int (iI n_)), (2, .int (iI k)), (3, .int (iI (σ 7 k)))]) rfl (fun ls hl => ?_)
              refine lv_goto (tgt := 75) hx hb dX4_cuts_97 (by decide) ?_
              have hl : lv_has ls 6 [(0, .ref (G.2.2 0)), (1, .int (iI n_)), (2, .int (iI k)), (3, .int (iI (σ 7 k))), (4, .int (iI (j + 1)))] := lv_sub hl [1, 2, 3, 4, 0] rfl
              refine ih_75 (j + 1) ?_ ?_ ?_ ?_ ?_ ?_ ?_ ?_ _ _ _ hH hl
              · omega
              · omega
              · omega
              · exact hlo
              · omega
              · omega
              · omega
              · first | rfl | (rw [← digE_y (by omega) c_91]; exact hje)
      have L68 : ∀ (j : Int), (hk0 : 0 ≤ k) → (hkn : k < n_) → (h32 : ¬ σ 7 k = 32) → (hje : (lowP (σ 7 k) ∧ j = enT (σ 7) n_ k) ∨ (¬ lowP (σ 7 k) ∧ j = k + 1)) → ∀ (H : Heap) (locs : List Loc) (ls : Array Slot), MH G (mA G σ s.heap.size) (cutS σ n_ t) s.heap H locs → lv_has ls 6 [(0, .ref (G.2.2 0)), (1, .int (iI n_)), (2, .int (iI k)), (3, .int (iI (σ 7 k))), (4, .int (iI j))] → W p l e (rmD 2) s m ([.ref (G.2.2 0), .int (iI n_)] : List Value).toArray below meth c H locs 0 0 (MQ below (mQv G σ s.heap.size (fun σ' => ∃ t : Nat, (t : Int) ≤ n_ ∧ (∀ j : Nat, j < t → 0 ≤ ps (σ 7) n_ j ∧ ps (σ 7) n_ j < n_) ∧ ps (σ 7) n_ t = n_ ∧ σ' = cutE σ n_ t)) ([.ref (G.2.2 0), .int (iI n_)] : List Value).toArray s 0 0 (mA G σ s.heap.size)) (F0 m 68 ls []) := by
        intro j hk0 hkn h32 hje H locs ls hH hl
        refine lv_iload_n hx hb dX4_cuts_68 rfl (lv_at hl 3 rfl) ?_
        refine m_calliF (m_runS (As := [.int (iI (σ 7 k))]) (rest := []) S hH hK hj hl.1 (mm_isDigit l G (cutS σ n_ t) (σ 7 k) _ (r32 (by omega))) (lw_S q1736 q1737 q109 q1738) kd_X4_isDigit rfl rfl dX4_cuts_69) hH hA (fun H locs hH => ?_)
        refine z_if_eq (tgt := 100) hx hb dX4_cuts_72 (by decide) (fun c_72 => ?_) (fun c_72 => ?_)
        · -- 72T
          have hl : lv_has ls 6 [(0, .ref (G.2.2 0)), (1, .int (iI n_)), (2, .int (iI k)), (3, .int (iI (σ 7 k))), (4, .int (iI j))] := lv_sub hl [0, 1, 2, 3, 4] rfl
          refine L100 j ?_ ?_ ?_ ?_ _ _ _ hH hl
          · omega
          · omega
          · omega
          · first | exact en_1 hje c_72 | exact en_2 hlo hje (by omega) | exact en_2 hlo hje (fun q => c_91 q.2)
        · -- 72F
          have hl : lv_has ls 6 [(0, .ref (G.2.2 0)), (1, .int (iI n_)), (2, .int (iI k)), (3, .int (iI (σ 7 k))), (4, .int (iI j))] := lv_sub hl [0, 1, 2, 3, 4] rfl
          refine L75 402 j ?_ ?_ ?_ ?_ ?_ ?_ ?_ ?_ _ _ _ hH hl
          · omega
          · omega
          · omega
          · exact c_72
          · omega
          · omega
          · omega
          · rcases hje with q | q
            · exact absurd q.1 (by omega)
            · rw [q.2]
      have L43 : ∀ (n1 : Nat) (j : Int), (hk0 : 0 ≤ k) → (hkn : k < n_) → (h32 : ¬ σ 7 k = 32) → (hlo : lowP (σ 7 k)) → (hj0 : k + 1 ≤ j) → (hj1 : j ≤ n_) → (hj2 : n_ < (n1 : Int) + j) → (hje : lowE (σ 7) n_ j = lowE (σ 7) n_ (k + 1)) → ∀ (H : Heap) (locs : List Loc) (ls : Array Slot), MH G (mA G σ s.heap.size) (cutS σ n_ t) s.heap H locs → lv_has ls 6 [(0, .ref (G.2.2 0)), (1, .int (iI n_)), (2, .int (iI k)), (3, .int (iI (σ 7 k))), (4, .int (iI j))] → W p l e (rmD 2) s m ([.ref (G.2.2 0), .int (iI n_)] : List Value).toArray below meth c H locs 0 0 (MQ below (mQv G σ s.heap.size (fun σ' => ∃ t : Nat, (t : Int) ≤ n_ ∧ (∀ j : Nat, j < t → 0 ≤ ps (σ 7) n_ j ∧ ps (σ 7) n_ j < n_) ∧ ps (σ 7) n_ t = n_ ∧ σ' = cutE σ n_ t)) ([.ref (G.2.2 0), .int (iI n_)] : List Value).toArray s 0 0 (mA G σ s.heap.size)) (F0 m 43 ls []) := by
        intro n1
        induction n1 with
        | zero => intro j hk0 hkn h32 hlo hj0 hj1 hj2 hje; exfalso; omega
        | succ n1 ih_43 =>
          intro j hk0 hkn h32 hlo hj0 hj1 hj2 hje H locs ls hH hl
          have htj := hTp j
          refine lv_iload hx hb dX4_cuts_43 (lv_at hl 4 rfl) ?_
          refine lv_iload_n hx hb dX4_cuts_45 rfl (lv_at hl 1 rfl) ?_
          refine n_icmp_ge (tgt := 68) hx hb (r32 (by omega)) (r32 (by omega)) dX4_cuts_46 (by decide) (fun c_46 => ?_) (fun c_46 => ?_)
          · -- 46T
            have hl : lv_has ls 6 [(0, .ref (G.2.2 0)), (1, .int (iI n_)), (2, .int (iI k)), (3, .int (iI (σ 7 k))), (4, .int (iI j))] := lv_sub hl [0, 1, 2, 3, 4] rfl
            refine L68 j ?_ ?_ ?_ ?_ _ _ _ hH hl
            · omega
            · omega
            · omega
            · first | exact Or.inr ⟨c_40, rfl⟩ | exact Or.inl ⟨hlo, en_3 hlo hje (by omega)⟩ | exact Or.inl ⟨hlo, en_3 hlo hje (fun q => c_59 q.2)⟩
          · -- 46F
            refine lv_aload_n hx hb dX4_cuts_49 rfl (lv_at hl 0 rfl) ?_
            refine m_get 7 (by decide) hx hb hts hown hK hj hH q1480 (fun _ h9 => h9) rfl dX4_cuts_50 ?_
            refine lv_iload hx hb dX4_cuts_53 (lv_at hl 4 rfl) ?_
            refine ml_7 hx hb hK hj hH (by omega) (by omega) dX4_cuts_55 ?_
            refine W.eq (g2 := F0 m 56 ls (.int (iI (σ 7 j)) :: [])) (by rw [cutS_o (by decide) (by decide) (by decide) (by decide)]) ?_
            refine m_calliF (m_runS (As := [.int (iI (σ 7 j))]) (rest := []) S hH hK hj hl.1 (mm_isSmall l G (cutS σ n_ t) (σ 7 j) _ (r32 (by omega))) (lw_S q1733 q1734 q109 q1735) kd_X4_isSmall rfl rfl dX4_cuts_56) hH hA (fun H locs hH => ?_)
            refine z_if_eq (tgt := 68) hx hb dX4_cuts_59 (by decide) (fun c_59 => ?_) (fun c_59 => ?_)
            · -- 59T
              have hl : lv_has ls 6 [(0, .ref (G.2.2 0)), (1, .int (iI n_)), (2, .int (iI k)), (3, .int (iI (σ 7 k))), (4, .int (iI j))] := lv_sub hl [0, 1, 2, 3, 4] rfl
              refine L68 j ?_ ?_ ?_ ?_ _ _ _ hH hl
              · omega
              · omega
              · omega
              · first | exact Or.inr ⟨c_40, rfl⟩ | exact Or.inl ⟨hlo, en_3 hlo hje (by omega)⟩ | exact Or.inl ⟨hlo, en_3 hlo hje (fun q => c_59 q.2)⟩
            · -- 59F
              refine n_iinc hx hb dX4_cuts_62 hl (k := 4) rfl (Nat.le_of_ble_eq_true rfl) (lv' := [(4, .int (iI (j + 1))), (0, .ref (G.2.2 0)), (1, .int (iI n_)), (2, .int (iI k)), (3, .int (iI (σ 7 k)))]) rfl (fun ls hl => ?_)
              refine lv_goto (tgt := 43) hx hb dX4_cuts_65 (by decide) ?_
              have hl : lv_has ls 6 [(0, .ref (G.2.2 0)), (1, .int (iI n_)), (2, .int (iI k)), (3, .int (iI (σ 7 k))), (4, .int (iI (j + 1)))] := lv_sub hl [1, 2, 3, 4, 0] rfl
              refine ih_43 (j + 1) ?_ ?_ ?_ ?_ ?_ ?_ ?_ ?_ _ _ _ hH hl
              · omega
              · omega
              · omega
              · exact hlo
              · omega
              · omega
              · omega
              · first | rfl | (rw [← lowE_y (by omega) c_59]; exact hje)
      refine lv_iload_n hx hb dX4_cuts_7 rfl (lv_at hl 2 rfl) ?_
      refine lv_iload_n hx hb dX4_cuts_8 rfl (lv_at hl 1 rfl) ?_
      refine n_icmp_ge (tgt := 263) hx hb (r32 (by omega)) (r32 (by omega)) dX4_cuts_9 (by decide) (fun c_9 => ?_) (fun c_9 => ?_)
      · -- 9T
        refine lv_aload_n hx hb dX4_cuts_263 rfl (lv_at hl 0 rfl) ?_
        refine m_get 13 (by decide) hx hb hts hown hK hj hH q1486 (fun _ h9 => h9) rfl dX4_cuts_264 ?_
        refine lv_aload_n hx hb dX4_cuts_267 rfl (lv_at hl 0 rfl) ?_
        refine m_get 14 (by decide) hx hb hts hown hK hj hH q1487 (fun _ h9 => h9) rfl dX4_cuts_268 ?_
        refine W.eq (g2 := F0 m 271 ls (.int (iI (t : Int)) :: .ref (G.2.2 13) :: [])) (by rfl) ?_
        refine lv_iload_n hx hb dX4_cuts_271 rfl (lv_at hl 1 rfl) ?_
        refine ms_13 hx hb hK hj hH (by omega) (by omega) dX4_cuts_272 (fun H locs hH => ?_)
        refine lv_aload_n hx hb dX4_cuts_273 rfl (lv_at hl 0 rfl) ?_
        refine m_get 11 (by decide) hx hb hts hown hK hj hH q1484 (fun _ h9 => h9) rfl dX4_cuts_274 ?_
        refine lv_aload_n hx hb dX4_cuts_277 rfl (lv_at hl 0 rfl) ?_
        refine m_get 14 (by decide) hx hb hts hown hK hj hH q1487 (fun _ h9 => h9) rfl dX4_cuts_278 ?_
        refine W.eq (g2 := F0 m 281 ls (.int (iI (t : Int)) :: .ref (G.2.2 11) :: [])) (by rfl) ?_
        refine n_iconst hx hb dX4_cuts_281 ?_
        refine ms_11 hx hb hK hj hH (by omega) (by omega) dX4_cuts_282 (fun H locs hH => ?_)
        refine lv_aload_n hx hb dX4_cuts_283 rfl (lv_at hl 0 rfl) ?_
        refine m_get 12 (by decide) hx hb hts hown hK hj hH q1485 (fun _ h9 => h9) rfl dX4_cuts_284 ?_
        refine lv_aload_n hx hb dX4_cuts_287 rfl (lv_at hl 0 rfl) ?_
        refine m_get 14 (by decide) hx hb hts hown hK hj hH q1487 (fun _ h9 => h9) rfl dX4_cuts_288 ?_
        refine W.eq (g2 := F0 m 291 ls (.int (iI (t : Int)) :: .ref (G.2.2 12) :: [])) (by rfl) ?_
        refine n_iconst hx hb dX4_cuts_291 ?_
        refine ms_12 hx hb hK hj hH (by omega) (by omega) dX4_cuts_292 (fun H locs hH => ?_)
        refine m_vret hx hb hr hlk hH dX4_cuts_293 ?_
        exact ⟨t, by omega, hps, by rw [← hsk, sk_n (by omega)]; omega, rfl⟩
      · -- 9F
        have c_9x : k < n_ := by omega
        refine lv_aload_n hx hb dX4_cuts_12 rfl (lv_at hl 0 rfl) ?_
        refine m_get 7 (by decide) hx hb hts hown hK hj hH q1480 (fun _ h9 => h9) rfl dX4_cuts_13 ?_
        refine lv_iload_n hx hb dX4_cuts_16 rfl (lv_at hl 2 rfl) ?_
        refine ml_7 hx hb hK hj hH (by omega) (by omega) dX4_cuts_17 ?_
        refine W.eq (g2 := F0 m 18 ls (.int (iI (σ 7 k)) :: [])) (by rw [cutS_o (by decide) (by decide) (by decide) (by decide)]) ?_
        refine lv_istore_n hx hb dX4_cuts_18 rfl hl (Nat.le_of_ble_eq_true rfl) (lv' := [(3, .int (iI (σ 7 k))), (0, .ref (G.2.2 0)), (1, .int (iI n_)), (2, .int (iI k))]) rfl (fun ls hl => ?_)
        refine lv_iload_n hx hb dX4_cuts_19 rfl (lv_at hl 0 rfl) ?_
        refine n_bipush (z := 32) hx hb dX4_cuts_20 (by decide) ?_
        refine n_icmp_ne (tgt := 31) hx hb (r32 (by omega)) (r32 (by omega)) dX4_cuts_22 (by decide) (fun c_22 => ?_) (fun c_22 => ?_)
        · -- 22T
          refine lv_iload_n hx hb dX4_cuts_31 rfl (lv_at hl 3 rfl) ?_
          refine n_iconst hx hb dX4_cuts_32 ?_
          refine n_iadd hx hb dX4_cuts_33 ?_
          refine lv_istore hx hb dX4_cuts_34 hl (Nat.le_of_ble_eq_true rfl) (lv' := [(4, .int (iI (k + 1))), (3, .int (iI (σ 7 k))), (0, .ref (G.2.2 0)), (1, .int (iI n_)), (2, .int (iI k))]) rfl (fun ls hl => ?_)
          refine lv_iload_n hx hb dX4_cuts_36 rfl (lv_at hl 1 rfl) ?_
          refine m_calliF (m_runS (As := [.int (iI (σ 7 k))]) (rest := []) S hH hK hj hl.1 (mm_isSmall l G (cutS σ n_ t) (σ 7 k) _ (r32 (by omega))) (lw_S q1733 q1734 q109 q1735) kd_X4_isSmall rfl rfl dX4_cuts_37) hH hA (fun H locs hH => ?_)
          refine z_if_eq (tgt := 68) hx hb dX4_cuts_40 (by decide) (fun c_40 => ?_) (fun c_40 => ?_)
          · -- 40T
            have hl : lv_has ls 6 [(0, .ref (G.2.2 0)), (1, .int (iI n_)), (2, .int (iI k)), (3, .int (iI (σ 7 k))), (4, .int (iI (k + 1)))] := lv_sub hl [2, 3, 4, 1, 0] rfl
            refine L68 (k + 1) ?_ ?_ ?_ ?_ _ _ _ hH hl
            · omega
            · omega
            · omega
            · first | exact Or.inr ⟨c_40, rfl⟩ | exact Or.inl ⟨hlo, en_3 hlo hje (by omega)⟩ | exact Or.inl ⟨hlo, en_3 hlo hje (fun q => c_59 q.2)⟩
          · -- 40F
            have hl : lv_has ls 6 [(0, .ref (G.2.2 0)), (1, .int (iI n_)), (2, .int (iI k)), (3, .int (iI (σ 7 k))), (4, .int (iI (k + 1)))] := lv_sub hl [2, 3, 4, 1, 0] rfl
            refine L43 402 (k + 1) ?_ ?_ ?_ ?_ ?_ ?_ ?_ ?_ _ _ _ hH hl
            · omega
            · omega
            · omega
            · exact c_40
            · omega
            · omega
            · omega
            · first | rfl | (rw [← lowE_y (by omega) c_59]; exact hje)
        · -- 22F
          refine n_iinc hx hb dX4_cuts_25 hl (k := 3) rfl (Nat.le_of_ble_eq_true rfl) (lv' := [(2, .int (iI (k + 1))), (3, .int (iI (σ 7 k))), (0, .ref (G.2.2 0)), (1, .int (iI n_))]) rfl (fun ls hl => ?_)
          refine lv_goto (tgt := 7) hx hb dX4_cuts_28 (by decide) ?_
          have hl : lv_has ls 6 [(0, .ref (G.2.2 0)), (1, .int (iI n_)), (2, .int (iI (k + 1)))] := lv_sub hl [2, 3, 0] rfl
          refine ih_7 (k + 1) t ?_ ?_ ?_ ?_ ?_ ?_ _ _ _ hH hl
          · omega
          · omega
          · omega
          · omega
          · rw [← sk_y c_9x (by omega)]; exact hsk
          · exact hps
  refine lv_aload_n hx hb dX4_cuts_0 rfl (lv_at hl 0 rfl) ?_
  refine n_iconst hx hb dX4_cuts_1 ?_
  refine mp_14 hx hb hts hown hK hj hH q1487 (fun _ h9 => h9) dX4_cuts_2 (fun H locs hH => ?_)
  refine n_iconst hx hb dX4_cuts_5 ?_
  refine lv_istore_n hx hb dX4_cuts_6 rfl hl (Nat.le_of_ble_eq_true rfl) (lv' := [(2, .int (iI 0)), (0, .ref (G.2.2 0)), (1, .int (iI n_))]) rfl (fun ls hl => ?_)
  have hl : lv_has ls 6 [(0, .ref (G.2.2 0)), (1, .int (iI n_)), (2, .int (iI 0))] := lv_sub hl [1, 2, 0] rfl
  have hH := MH_to hH (τ := cutS σ n_ 0) (cutS_0)
  refine L7 402 0 0 ?_ ?_ ?_ ?_ ?_ ?_ _ _ _ hH hl
  · omega
  · omega
  · omega
  · omega
  · rfl
  · exact fun j q => absurd q (Nat.not_lt_zero j)
