theorem kd_X4_row : yX4_row.cls = RX4 ∧ yX4_row.cls ≠ "java/lang/invoke/MethodHandle" ∧ yX4_row.cls ≠ "java/lang/invoke/VarHandle" ∧ (parseMethodDescriptor yX4_row.desc).map (fun d => d.parameters.length) = some 1 := by decide +kernel
theorem mm_row (l : Launch) (G : MG) (σ : St) (w_ : Int) (sz : Nat) (h_w_ : R32 w_) (hI : KI (σ 2)) (h0 : 0 ≤ σ 9 0) (h1 : σ 9 0 ≤ 400) : Met l yX4_row (ws_ yX4_row cX4_row 9 (some .int)) (rmD 3) (mP G [.ref (G.2.2 0), .int (iI w_)] σ sz) (mQi G σ sz (fun z σ' => (z, σ') = rowF σ w_)) 0 0 (mA G σ sz) := by
  refine m_start (by decide) (Nat.le_of_ble_eq_true rfl) ?_
  intro p e s m below meth c ⟨S, hr, hlk, hH, hK, hj, hsz, hnm⟩ ls hl
  subst hsz
  obtain ⟨hx, hb, hml, hown, hts⟩ := S
  have S : CallFix p m c _ _ s _ lw_all RX4 := ⟨hx, hb, hml, hown, hts⟩
  have hA : ∀ q, s.heap.size ≤ q → mA G σ s.heap.size q := fun q hq => Or.inr hq
  have hl : lv_has ls 9 [(0, .ref (G.2.2 0)), (1, .int (iI w_))] := hl
  have b0 := hI.c
  unfold kCnt at b0
  have h_w_ := R32.n h_w_
  rcases Classical.em (w_ = 0) with hw | hw
  · -- looks
    have L54 : ∀ (q : Nat) (τ : St) (n : Int) (c_ : Int), (hg : 0 ≤ w_ ∧ w_ ≤ 1) → (h9 : ¬ σ 9 0 = 0) → (hrw : rwN σ w_ c_.toNat = (n, τ)) → (h7 : τ 7 = σ 7) → (hcn : (0 ≤ τ 2 1754 ∧ τ 2 1754 ≤ 40) ∧ (0 ≤ τ 2 1755 ∧ τ 2 1755 ≤ 12)) → (hc0 : 0 ≤ c_) → (hc1 : 10 * c_ ≤ σ 9 0) → (hq : σ 9 0 < (q : Int) + 10 * c_) → ∀ (H : Heap) (locs : List Loc) (ls : Array Slot), MH G (mA G σ s.heap.size) τ s.heap H locs → lv_has ls 9 [(0, .ref (G.2.2 0)), (1, .int (iI w_)), (2, .int (iI (σ 9 0))), (3, .int (iI 10)), (4, .int (iI n)), (5, .int (iI (10 * c_)))] → W p l e (rmD 3) s m ([.ref (G.2.2 0), .int (iI w_)] : List Value).toArray below meth c H locs 0 0 (MQ below (mQi G σ s.heap.size (fun z σ' => (z, σ') = rowF σ w_)) ([.ref (G.2.2 0), .int (iI w_)] : List Value).toArray s 0 0 (mA G σ s.heap.size)) (F0 m 54 ls []) := by
      intro q
      induction q with
      | zero => intro τ n c_ hg h9 hrw h7 hcn hc0 hc1 hq; exfalso; omega
      | succ q ih_54 =>
        intro τ n c_ hg h9 hrw h7 hcn hc0 hc1 hq H locs ls hH hl
        have hto := rto_0 (κ := τ 2) hw hcn
        have L200 : ∀ (q2 : Nat) (k2 : Int), (hgd : ¬ rgN (σ 7) (10 * c_) (rg0 (τ 2) w_) 10 = 0) → (hat : 10 * c_ + 10 ≤ σ 9 0) → (hk0 : 0 ≤ k2) → (hk1 : k2 ≤ 10) → (hq1 : 10 < (q2 : Int) + k2) → ∀ (H : Heap) (locs : List Loc) (ls : Array Slot), MH G (mA G σ s.heap.size) (rwA τ w_ (10 * c_) k2) s.heap H locs → lv_has ls 9 [(0, .ref (G.2.2 0)), (1, .int (iI w_)), (2, .int (iI (σ 9 0))), (3, .int (iI 10)), (4, .int (iI n)), (5, .int (iI (10 * c_))), (7, .int (iI (rto (τ 2) w_))), (8, .int (iI k2))] → W p l e (rmD 3) s m ([.ref (G.2.2 0), .int (iI w_)] : List Value).toArray below meth c H locs 0 0 (MQ below (mQi G σ s.heap.size (fun z σ' => (z, σ') = rowF σ w_)) ([.ref (G.2.2 0), .int (iI w_)] : List Value).toArray s 0 0 (mA G σ s.heap.size)) (F0 m 200 ls []) := by
          intro q2
          induction q2 with
          | zero => intro k2 hgd hat hk0 hk1 hq1; exfalso; omega
          | succ q2 ih_200 =>
            intro k2 hgd hat hk0 hk1 hq1 H locs ls hH hl
            refine lv_iload hx hb dX4_row_200 (lv_at hl 7 rfl) ?_
            refine lv_iload_n hx hb dX4_row_202 rfl (lv_at hl 3 rfl) ?_
            refine n_icmp_ge (tgt := 236) hx hb (r32 (by omega)) (r32 (by omega)) dX4_row_203 (by decide) (fun c_203 => ?_) (fun c_203 => ?_)
            · -- 203T
              obtain rfl : k2 = (10 : Int) := by omega
              refine lv_aload_n hx hb dX4_row_236 rfl (lv_at hl 0 rfl) ?_
              refine m_get 2 (by decide) hx hb hts hown hK hj hH q1475 (fun _ h9 => h9) rfl dX4_row_237 ?_
              refine lv_iload_n hx hb dX4_row_240 rfl (lv_at hl 1 rfl) ?_
              refine n_if_ne (tgt := 250) hx hb (r32 (by omega)) dX4_row_241 (by decide) (fun c_241 => ?_) (fun c_241 => ?_)
              · exact absurd hw c_241
              · -- 241F
                refine n_sipush (z := 1754) hx hb dX4_row_244 (by decide) ?_
                refine lv_goto (tgt := 253) hx hb dX4_row_247 (by decide) ?_
                refine lv_dup2_11 hx hb dX4_row_253 rfl rfl ?_
                refine ml_2 hx hb hK hj hH (by omega) (by omega) dX4_row_254 ?_
                refine W.eq (g2 := F0 m 255 ls (.int (iI (τ 2 1754)) :: .int (iI 1754) :: .ref (G.2.2 2) :: [])) (by rw [rwA_o (by omega)]) ?_
                refine n_iconst hx hb dX4_row_255 ?_
                refine n_iadd hx hb dX4_row_256 ?_
                refine ms_2 hx hb hK hj hH (by omega) (by omega) dX4_row_257 (fun H locs hH => ?_)
                have hH := MH_to hH (τ := rwB τ w_ (10 * c_)) (by rw [rwB, rwd_0 hw, rct_0 hw])
                refine n_iinc hx hb dX4_row_258 hl (k := 4) rfl (Nat.le_of_ble_eq_true rfl) (lv' := [(4, .int (iI (n + 1))), (0, .ref (G.2.2 0)), (1, .int (iI w_)), (2, .int (iI (σ 9 0))), (3, .int (iI 10)), (5, .int (iI (10 * c_))), (7, .int (iI (rto (τ 2) w_))), (8, .int (iI (10 : Int)))]) rfl (fun ls hl => ?_)
                refine lv_iload hx hb dX4_row_261 (lv_at hl 5 rfl) ?_
                refine lv_iload_n hx hb dX4_row_263 rfl (lv_at hl 4 rfl) ?_
                refine n_iadd hx hb dX4_row_264 ?_
                refine lv_istore hx hb dX4_row_265 hl (Nat.le_of_ble_eq_true rfl) (lv' := [(5, .int (iI ((10 * c_) + 10))), (4, .int (iI (n + 1))), (0, .ref (G.2.2 0)), (1, .int (iI w_)), (2, .int (iI (σ 9 0))), (3, .int (iI 10)), (7, .int (iI (rto (τ 2) w_))), (8, .int (iI (10 : Int)))]) rfl (fun ls hl => ?_)
                refine lv_goto (tgt := 54) hx hb dX4_row_267 (by decide) ?_
                have hl : lv_has ls 9 [(0, .ref (G.2.2 0)), (1, .int (iI w_)), (2, .int (iI (σ 9 0))), (3, .int (iI 10)), (4, .int (iI (n + 1))), (5, .int (iI ((10 * c_) + 10)))] := lv_sub hl [2, 3, 4, 5, 1, 0] rfl
                have hl : lv_has ls 9 [(0, .ref (G.2.2 0)), (1, .int (iI w_)), (2, .int (iI (σ 9 0))), (3, .int (iI 10)), (4, .int (iI (n + 1))), (5, .int (iI (10 * (c_ + 1))))] := by rw [show 10 * (c_ + 1) = 10 * c_ + 10 by omega]; exact hl
                refine ih_54 (rwB τ w_ (10 * c_)) (n + 1) (c_ + 1) ?_ ?_ ?_ ?_ ?_ ?_ ?_ ?_ _ _ _ hH hl
                · exact hg
                · exact h9
                · rw [rwN_0 hw hc0 hrw, if_neg hgd]
                · exact h7
                · rw [rwB_0a hw hcn, rwB_0b hw hcn]
                  have h8 := rgN_g hgd
                  unfold rg0 at h8
                  rw [if_pos hw] at h8
                  split at h8
                  · omega
                  · omega
                · omega
                · omega
                · omega
            · -- 203F
              refine lv_aload_n hx hb dX4_row_206 rfl (lv_at hl 0 rfl) ?_
              refine m_get 2 (by decide) hx hb hts hown hK hj hH q1475 (fun _ h9 => h9) rfl dX4_row_207 ?_
              refine lv_iload hx hb dX4_row_210 (lv_at hl 6 rfl) ?_
              refine lv_iload hx hb dX4_row_212 (lv_at hl 7 rfl) ?_
              refine n_iadd hx hb dX4_row_214 ?_
              refine lv_aload_n hx hb dX4_row_215 rfl (lv_at hl 0 rfl) ?_
              refine m_get 7 (by decide) hx hb hts hown hK hj hH q1480 (fun _ h9 => h9) rfl dX4_row_216 ?_
              refine lv_iload hx hb dX4_row_219 (lv_at hl 5 rfl) ?_
              refine lv_iload hx hb dX4_row_221 (lv_at hl 7 rfl) ?_
              refine n_iadd hx hb dX4_row_223 ?_
              refine ml_7 hx hb hK hj hH (by omega) (by omega) dX4_row_224 ?_
              refine W.eq (g2 := F0 m 225 ls (.int (iI (τ 7 (10 * c_ + k2))) :: .int (iI ((rto (τ 2) w_) + k2)) :: .ref (G.2.2 2) :: [])) (by rfl) ?_
              refine n_sipush (z := 255) hx hb dX4_row_225 (by decide) ?_
              refine n_and255 hx hb dX4_row_228 ?_
              refine ms_2 hx hb hK hj hH (by omega) (by omega) dX4_row_229 (fun H locs hH => ?_)
              refine n_iinc hx hb dX4_row_230 hl (k := 7) rfl (Nat.le_of_ble_eq_true rfl) (lv' := [(8, .int (iI (k2 + 1))), (0, .ref (G.2.2 0)), (1, .int (iI w_)), (2, .int (iI (σ 9 0))), (3, .int (iI 10)), (4, .int (iI n)), (5, .int (iI (10 * c_))), (7, .int (iI (rto (τ 2) w_)))]) rfl (fun ls hl => ?_)
              refine lv_goto (tgt := 200) hx hb dX4_row_233 (by decide) ?_
              have hl : lv_has ls 9 [(0, .ref (G.2.2 0)), (1, .int (iI w_)), (2, .int (iI (σ 9 0))), (3, .int (iI 10)), (4, .int (iI n)), (5, .int (iI (10 * c_))), (7, .int (iI (rto (τ 2) w_))), (8, .int (iI (k2 + 1)))] := lv_sub hl [1, 2, 3, 4, 5, 6, 7, 0] rfl
              have hH := MH_to hH (τ := rwA τ w_ (10 * c_) (k2 + 1)) (rwA_s hk0)
              refine ih_200 (k2 + 1) ?_ ?_ ?_ ?_ ?_ _ _ _ hH hl
              · exact hgd
              · exact hat
              · omega
              · omega
              · omega
        have L110 : ∀ (q1 : Nat) (k : Int), (hat : 10 * c_ + 10 ≤ σ 9 0) → (hk0 : 0 ≤ k) → (hk1 : k ≤ 10) → (hq1 : 10 < (q1 : Int) + k) → ∀ (H : Heap) (locs : List Loc) (ls : Array Slot), MH G (mA G σ s.heap.size) τ s.heap H locs → lv_has ls 9 [(0, .ref (G.2.2 0)), (1, .int (iI w_)), (2, .int (iI (σ 9 0))), (3, .int (iI 10)), (4, .int (iI n)), (5, .int (iI (10 * c_))), (6, .int (iI (rgN (σ 7) (10 * c_) (rg0 (τ 2) w_) k.toNat))), (7, .int (iI k))] → W p l e (rmD 3) s m ([.ref (G.2.2 0), .int (iI w_)] : List Value).toArray below meth c H locs 0 0 (MQ below (mQi G σ s.heap.size (fun z σ' => (z, σ') = rowF σ w_)) ([.ref (G.2.2 0), .int (iI w_)] : List Value).toArray s 0 0 (mA G σ s.heap.size)) (F0 m 110 ls []) := by
          intro q1
          induction q1 with
          | zero => intro k hat hk0 hk1 hq1; exfalso; omega
          | succ q1 ih_110 =>
            intro k hat hk0 hk1 hq1 H locs ls hH hl
            have hr01 := rgN_01 (T := σ 7) (b := 10 * c_) (rg0_01 (τ 2) w_) k.toNat
            refine lv_iload hx hb dX4_row_110 (lv_at hl 7 rfl) ?_
            refine lv_iload_n hx hb dX4_row_112 rfl (lv_at hl 3 rfl) ?_
            refine n_icmp_ge (tgt := 156) hx hb (r32 (by omega)) (r32 (by omega)) dX4_row_113 (by decide) (fun c_113 => ?_) (fun c_113 => ?_)
            · -- 113T
              obtain rfl : k = (10 : Int) := by omega
              refine lv_iload hx hb dX4_row_156 (lv_at hl 6 rfl) ?_
              refine n_if_ne (tgt := 164) hx hb (r32 (by omega)) dX4_row_158 (by decide) (fun c_158 => ?_) (fun c_158 => ?_)
              · -- 158T
                refine lv_iload_n hx hb dX4_row_164 rfl (lv_at hl 1 rfl) ?_
                refine n_if_ne (tgt := 183) hx hb (r32 (by omega)) dX4_row_165 (by decide) (fun c_165 => ?_) (fun c_165 => ?_)
                · exact absurd hw c_165
                · -- 165F
                  refine lv_aload_n hx hb dX4_row_168 rfl (lv_at hl 0 rfl) ?_
                  refine lv_aload_n hx hb dX4_row_169 rfl (lv_at hl 0 rfl) ?_
                  refine m_get 2 (by decide) hx hb hts hown hK hj hH q1475 (fun _ h9 => h9) rfl dX4_row_170 ?_
                  refine n_sipush (z := 1754) hx hb dX4_row_173 (by decide) ?_
                  refine ml_2 hx hb hK hj hH (by omega) (by omega) dX4_row_176 ?_
                  refine m_calliF (m_runV (As := [.int (iI (τ 2 1754))]) (rest := []) S hH hK hj hl.1 (mm_lookAt l G τ (τ 2 1754) _ ) (lw_V q1682 q1684 qs54 q109 q1685) kd_X4_lookAt rfl rfl dX4_row_177) hH hA (fun H locs hH => ?_)
                  refine lv_goto (tgt := 195) hx hb dX4_row_180 (by decide) ?_
                  refine lv_istore hx hb dX4_row_195 hl (Nat.le_of_ble_eq_true rfl) (lv' := [(7, .int (iI (1224 + 10 * (τ 2 1754)))), (0, .ref (G.2.2 0)), (1, .int (iI w_)), (2, .int (iI (σ 9 0))), (3, .int (iI 10)), (4, .int (iI n)), (5, .int (iI (10 * c_))), (6, .int (iI (rgN (σ 7) (10 * c_) (rg0 (τ 2) w_) (10 : Int).toNat)))]) rfl (fun ls hl => ?_)
                  refine n_iconst hx hb dX4_row_197 ?_
                  refine lv_istore hx hb dX4_row_198 hl (Nat.le_of_ble_eq_true rfl) (lv' := [(8, .int (iI 0)), (7, .int (iI (1224 + 10 * (τ 2 1754)))), (0, .ref (G.2.2 0)), (1, .int (iI w_)), (2, .int (iI (σ 9 0))), (3, .int (iI 10)), (4, .int (iI n)), (5, .int (iI (10 * c_))), (6, .int (iI (rgN (σ 7) (10 * c_) (rg0 (τ 2) w_) (10 : Int).toNat)))]) rfl (fun ls hl => ?_)
                  have hl : lv_has ls 9 [(0, .ref (G.2.2 0)), (1, .int (iI w_)), (2, .int (iI (σ 9 0))), (3, .int (iI 10)), (4, .int (iI n)), (5, .int (iI (10 * c_))), (7, .int (iI (1224 + 10 * (τ 2 1754)))), (8, .int (iI 0))] := lv_sub hl [2, 3, 4, 5, 6, 7, 1, 0] rfl
                  have hl : lv_has ls 9 [(0, .ref (G.2.2 0)), (1, .int (iI w_)), (2, .int (iI (σ 9 0))), (3, .int (iI 10)), (4, .int (iI n)), (5, .int (iI (10 * c_))), (7, .int (iI (rto (τ 2) w_))), (8, .int (iI 0))] := by rw [rto_0e hw]; exact hl
                  have hH := MH_to hH (τ := rwA τ w_ (10 * c_) 0) (rwA_0.symm)
                  refine L200 20 0 ?_ ?_ ?_ ?_ ?_ _ _ _ hH hl
                  · exact c_158
                  · exact hat
                  · omega
                  · omega
                  · omega
              · -- 158F
                refine lv_goto (tgt := 261) hx hb dX4_row_161 (by decide) ?_
                refine lv_iload hx hb dX4_row_261 (lv_at hl 5 rfl) ?_
                refine lv_iload_n hx hb dX4_row_263 rfl (lv_at hl 3 rfl) ?_
                refine n_iadd hx hb dX4_row_264 ?_
                refine lv_istore hx hb dX4_row_265 hl (Nat.le_of_ble_eq_true rfl) (lv' := [(5, .int (iI ((10 * c_) + 10))), (0, .ref (G.2.2 0)), (1, .int (iI w_)), (2, .int (iI (σ 9 0))), (3, .int (iI 10)), (4, .int (iI n)), (6, .int (iI (rgN (σ 7) (10 * c_) (rg0 (τ 2) w_) (10 : Int).toNat))), (7, .int (iI (10 : Int)))]) rfl (fun ls hl => ?_)
                refine lv_goto (tgt := 54) hx hb dX4_row_267 (by decide) ?_
                have hl : lv_has ls 9 [(0, .ref (G.2.2 0)), (1, .int (iI w_)), (2, .int (iI (σ 9 0))), (3, .int (iI 10)), (4, .int (iI n)), (5, .int (iI ((10 * c_) + 10)))] := lv_sub hl [1, 2, 3, 4, 5, 0] rfl
                have hl : lv_has ls 9 [(0, .ref (G.2.2 0)), (1, .int (iI w_)), (2, .int (iI (σ 9 0))), (3, .int (iI 10)), (4, .int (iI n)), (5, .int (iI (10 * (c_ + 1))))] := by rw [show 10 * (c_ + 1) = 10 * c_ + 10 by omega]; exact hl
                refine ih_54 τ n (c_ + 1) ?_ ?_ ?_ ?_ ?_ ?_ ?_ ?_ _ _ _ hH hl
                · exact hg
                · exact h9
                · rw [rwN_0 hw hc0 hrw, if_pos (show rgN (σ 7) (10 * c_) (rg0 (τ 2) w_) 10 = 0 from c_158)]
                · exact h7
                · exact hcn
                · omega
                · omega
                · omega
            · -- 113F
              refine lv_iload hx hb dX4_row_116 (lv_at hl 6 rfl) ?_
              refine n_if_eq (tgt := 147) hx hb (r32 (by omega)) dX4_row_118 (by decide) (fun c_118 => ?_) (fun c_118 => ?_)
              · -- 118T
                refine n_iconst hx hb dX4_row_147 ?_
                refine lv_istore hx hb dX4_row_148 hl (Nat.le_of_ble_eq_true rfl) (lv' := [(6, .int (iI 0)), (0, .ref (G.2.2 0)), (1, .int (iI w_)), (2, .int (iI (σ 9 0))), (3, .int (iI 10)), (4, .int (iI n)), (5, .int (iI (10 * c_))), (7, .int (iI k))]) rfl (fun ls hl => ?_)
                refine n_iinc hx hb dX4_row_150 hl (k := 7) rfl (Nat.le_of_ble_eq_true rfl) (lv' := [(7, .int (iI (k + 1))), (6, .int (iI 0)), (0, .ref (G.2.2 0)), (1, .int (iI w_)), (2, .int (iI (σ 9 0))), (3, .int (iI 10)), (4, .int (iI n)), (5, .int (iI (10 * c_)))]) rfl (fun ls hl => ?_)
                refine lv_goto (tgt := 110) hx hb dX4_row_153 (by decide) ?_
                have hl : lv_has ls 9 [(0, .ref (G.2.2 0)), (1, .int (iI w_)), (2, .int (iI (σ 9 0))), (3, .int (iI 10)), (4, .int (iI n)), (5, .int (iI (10 * c_))), (6, .int (iI 0)), (7, .int (iI (k + 1)))] := lv_sub hl [2, 3, 4, 5, 6, 7, 1, 0] rfl
                have hl : lv_has ls 9 [(0, .ref (G.2.2 0)), (1, .int (iI w_)), (2, .int (iI (σ 9 0))), (3, .int (iI 10)), (4, .int (iI n)), (5, .int (iI (10 * c_))), (6, .int (iI (rgN (σ 7) (10 * c_) (rg0 (τ 2) w_) (k + 1).toNat))), (7, .int (iI (k + 1)))] := by rw [rgN_e hk0, if_neg (fun h => h.1 c_118)]; exact hl
                refine ih_110 (k + 1) ?_ ?_ ?_ ?_ _ _ _ hH hl
                · omega
                · omega
                · omega
                · omega
              · -- 118F
                refine lv_iload hx hb dX4_row_121 (lv_at hl 7 rfl) ?_
                refine lv_aload_n hx hb dX4_row_123 rfl (lv_at hl 0 rfl) ?_
                refine m_get 7 (by decide) hx hb hts hown hK hj hH q1480 (fun _ h9 => h9) rfl dX4_row_124 ?_
                refine lv_iload hx hb dX4_row_127 (lv_at hl 5 rfl) ?_
                refine lv_iload hx hb dX4_row_129 (lv_at hl 7 rfl) ?_
                refine n_iadd hx hb dX4_row_131 ?_
                refine ml_7 hx hb hK hj hH (by omega) (by omega) dX4_row_132 ?_
                refine W.eq (g2 := F0 m 133 ls (.int (iI (σ 7 (10 * c_ + k))) :: .int (iI k) :: [])) (by rw [h7]) ?_
                refine n_sipush (z := 255) hx hb dX4_row_133 (by decide) ?_
                refine n_and255 hx hb dX4_row_136 ?_
                refine m_calliF (m_runS (As := [.int (iI k), .int (iI ((σ 7 (10 * c_ + k)) % 256))]) (rest := []) S hH hK hj hl.1 (mm_isCase l G τ k ((σ 7 (10 * c_ + k)) % 256) _ (r32 (by omega)) (r32 (by omega))) (lw_S q1698 q1699 q109 q1700) kd_X4_isCase rfl rfl dX4_row_137) hH hA (fun H locs hH => ?_)
                refine z_if_eq (tgt := 147) hx hb dX4_row_140 (by decide) (fun c_140 => ?_) (fun c_140 => ?_)
                · -- 140T
                  refine n_iconst hx hb dX4_row_147 ?_
                  refine lv_istore hx hb dX4_row_148 hl (Nat.le_of_ble_eq_true rfl) (lv' := [(6, .int (iI 0)), (0, .ref (G.2.2 0)), (1, .int (iI w_)), (2, .int (iI (σ 9 0))), (3, .int (iI 10)), (4, .int (iI n)), (5, .int (iI (10 * c_))), (7, .int (iI k))]) rfl (fun ls hl => ?_)
                  refine n_iinc hx hb dX4_row_150 hl (k := 7) rfl (Nat.le_of_ble_eq_true rfl) (lv' := [(7, .int (iI (k + 1))), (6, .int (iI 0)), (0, .ref (G.2.2 0)), (1, .int (iI w_)), (2, .int (iI (σ 9 0))), (3, .int (iI 10)), (4, .int (iI n)), (5, .int (iI (10 * c_)))]) rfl (fun ls hl => ?_)
                  refine lv_goto (tgt := 110) hx hb dX4_row_153 (by decide) ?_
                  have hl : lv_has ls 9 [(0, .ref (G.2.2 0)), (1, .int (iI w_)), (2, .int (iI (σ 9 0))), (3, .int (iI 10)), (4, .int (iI n)), (5, .int (iI (10 * c_))), (6, .int (iI 0)), (7, .int (iI (k + 1)))] := lv_sub hl [2, 3, 4, 5, 6, 7, 1, 0] rfl
                  have hl : lv_has ls 9 [(0, .ref (G.2.2 0)), (1, .int (iI w_)), (2, .int (iI (σ 9 0))), (3, .int (iI 10)), (4, .int (iI n)), (5, .int (iI (10 * c_))), (6, .int (iI (rgN (σ 7) (10 * c_) (rg0 (τ 2) w_) (k + 1).toNat))), (7, .int (iI (k + 1)))] := by rw [rgN_e hk0, if_neg (fun h => c_140 h.2)]; exact hl
                  refine ih_110 (k + 1) ?_ ?_ ?_ ?_ _ _ _ hH hl
                  · omega
                  · omega
                  · omega
                  · omega
                · -- 140F
                  refine n_iconst hx hb dX4_row_143 ?_
                  refine lv_goto (tgt := 148) hx hb dX4_row_144 (by decide) ?_
                  refine lv_istore hx hb dX4_row_148 hl (Nat.le_of_ble_eq_true rfl) (lv' := [(6, .int (iI 1)), (0, .ref (G.2.2 0)), (1, .int (iI w_)), (2, .int (iI (σ 9 0))), (3, .int (iI 10)), (4, .int (iI n)), (5, .int (iI (10 * c_))), (7, .int (iI k))]) rfl (fun ls hl => ?_)
                  refine n_iinc hx hb dX4_row_150 hl (k := 7) rfl (Nat.le_of_ble_eq_true rfl) (lv' := [(7, .int (iI (k + 1))), (6, .int (iI 1)), (0, .ref (G.2.2 0)), (1, .int (iI w_)), (2, .int (iI (σ 9 0))), (3, .int (iI 10)), (4, .int (iI n)), (5, .int (iI (10 * c_)))]) rfl (fun ls hl => ?_)
                  refine lv_goto (tgt := 110) hx hb dX4_row_153 (by decide) ?_
                  have hl : lv_has ls 9 [(0, .ref (G.2.2 0)), (1, .int (iI w_)), (2, .int (iI (σ 9 0))), (3, .int (iI 10)), (4, .int (iI n)), (5, .int (iI (10 * c_))), (6, .int (iI 1)), (7, .int (iI (k + 1)))] := lv_sub hl [2, 3, 4, 5, 6, 7, 1, 0] rfl
                  have hl : lv_has ls 9 [(0, .ref (G.2.2 0)), (1, .int (iI w_)), (2, .int (iI (σ 9 0))), (3, .int (iI 10)), (4, .int (iI n)), (5, .int (iI (10 * c_))), (6, .int (iI (rgN (σ 7) (10 * c_) (rg0 (τ 2) w_) (k + 1).toNat))), (7, .int (iI (k + 1)))] := by rw [rgN_e hk0, if_pos ⟨c_118, c_140⟩]; exact hl
                  refine ih_110 (k + 1) ?_ ?_ ?_ ?_ _ _ _ hH hl
                  · omega
                  · omega
                  · omega
                  · omega
        refine lv_iload hx hb dX4_row_54 (lv_at hl 5 rfl) ?_
        refine lv_iload_n hx hb dX4_row_56 rfl (lv_at hl 3 rfl) ?_
        refine n_iadd hx hb dX4_row_57 ?_
        refine lv_iload_n hx hb dX4_row_58 rfl (lv_at hl 2 rfl) ?_
        refine n_icmp_gt (tgt := 270) hx hb (r32 (by omega)) (r32 (by omega)) dX4_row_59 (by decide) (fun c_59 => ?_) (fun c_59 => ?_)
        · -- 59T
          refine lv_aload_n hx hb dX4_row_270 rfl (lv_at hl 0 rfl) ?_
          refine lv_iload hx hb dX4_row_271 (lv_at hl 4 rfl) ?_
          refine m_calliF (m_runV (As := [.int (iI n)]) (rest := []) S hH hK hj hl.1 (mm_good l G τ n _ ) (lw_V q1576 q1578 qs44 q109 q1579) kd_X4_good rfl rfl dX4_row_273) hH hA (fun H locs hH => ?_)
          refine m_iret hx hb hr hlk hH dX4_row_276 ?_
          unfold rowF
          rw [if_pos hg, if_neg h9, show (σ 9 0 / rwd w_).toNat = c_.toNat from (by rw [rwd_0 hw]; omega), hrw]
        · -- 59F
          refine lv_iload_n hx hb dX4_row_62 rfl (lv_at hl 1 rfl) ?_
          refine n_if_ne (tgt := 87) hx hb (r32 (by omega)) dX4_row_63 (by decide) (fun c_63 => ?_) (fun c_63 => ?_)
          · exact absurd hw c_63
          · -- 63F
            refine lv_aload_n hx hb dX4_row_66 rfl (lv_at hl 0 rfl) ?_
            refine m_get 2 (by decide) hx hb hts hown hK hj hH q1475 (fun _ h9 => h9) rfl dX4_row_67 ?_
            refine n_sipush (z := 1754) hx hb dX4_row_70 (by decide) ?_
            refine ml_2 hx hb hK hj hH (by omega) (by omega) dX4_row_73 ?_
            refine n_bipush (z := 40) hx hb dX4_row_74 (by decide) ?_
            refine n_icmp_ge (tgt := 83) hx hb (r32 (by omega)) (r32 (by omega)) dX4_row_76 (by decide) (fun c_76 => ?_) (fun c_76 => ?_)
            · -- 76T
              have hg0 : rg0 (τ 2) w_ = 0 := by rw [rg0, if_pos hw, if_neg (by omega)]
              refine n_iconst hx hb dX4_row_83 ?_
              refine lv_goto (tgt := 105) hx hb dX4_row_84 (by decide) ?_
              refine lv_istore hx hb dX4_row_105 hl (Nat.le_of_ble_eq_true rfl) (lv' := [(6, .int (iI 0)), (0, .ref (G.2.2 0)), (1, .int (iI w_)), (2, .int (iI (σ 9 0))), (3, .int (iI 10)), (4, .int (iI n)), (5, .int (iI (10 * c_)))]) rfl (fun ls hl => ?_)
              refine n_iconst hx hb dX4_row_107 ?_
              refine lv_istore hx hb dX4_row_108 hl (Nat.le_of_ble_eq_true rfl) (lv' := [(7, .int (iI 0)), (6, .int (iI 0)), (0, .ref (G.2.2 0)), (1, .int (iI w_)), (2, .int (iI (σ 9 0))), (3, .int (iI 10)), (4, .int (iI n)), (5, .int (iI (10 * c_)))]) rfl (fun ls hl => ?_)
              have hl : lv_has ls 9 [(0, .ref (G.2.2 0)), (1, .int (iI w_)), (2, .int (iI (σ 9 0))), (3, .int (iI 10)), (4, .int (iI n)), (5, .int (iI (10 * c_))), (6, .int (iI 0)), (7, .int (iI 0))] := lv_sub hl [2, 3, 4, 5, 6, 7, 1, 0] rfl
              have hl : lv_has ls 9 [(0, .ref (G.2.2 0)), (1, .int (iI w_)), (2, .int (iI (σ 9 0))), (3, .int (iI 10)), (4, .int (iI n)), (5, .int (iI (10 * c_))), (6, .int (iI (rgN (σ 7) (10 * c_) (rg0 (τ 2) w_) (0 : Int).toNat))), (7, .int (iI 0))] := by rw [show rgN (σ 7) (10 * c_) (rg0 (τ 2) w_) (0 : Int).toNat = rg0 (τ 2) w_ from rfl, hg0]; exact hl
              refine L110 20 0 ?_ ?_ ?_ ?_ _ _ _ hH hl
              · omega
              · omega
              · omega
              · omega
            · -- 76F
              have hg0 : rg0 (τ 2) w_ = 1 := by rw [rg0, if_pos hw, if_pos (by omega)]
              refine n_iconst hx hb dX4_row_79 ?_
              refine lv_goto (tgt := 105) hx hb dX4_row_80 (by decide) ?_
              refine lv_istore hx hb dX4_row_105 hl (Nat.le_of_ble_eq_true rfl) (lv' := [(6, .int (iI 1)), (0, .ref (G.2.2 0)), (1, .int (iI w_)), (2, .int (iI (σ 9 0))), (3, .int (iI 10)), (4, .int (iI n)), (5, .int (iI (10 * c_)))]) rfl (fun ls hl => ?_)
              refine n_iconst hx hb dX4_row_107 ?_
              refine lv_istore hx hb dX4_row_108 hl (Nat.le_of_ble_eq_true rfl) (lv' := [(7, .int (iI 0)), (6, .int (iI 1)), (0, .ref (G.2.2 0)), (1, .int (iI w_)), (2, .int (iI (σ 9 0))), (3, .int (iI 10)), (4, .int (iI n)), (5, .int (iI (10 * c_)))]) rfl (fun ls hl => ?_)
              have hl : lv_has ls 9 [(0, .ref (G.2.2 0)), (1, .int (iI w_)), (2, .int (iI (σ 9 0))), (3, .int (iI 10)), (4, .int (iI n)), (5, .int (iI (10 * c_))), (6, .int (iI 1)), (7, .int (iI 0))] := lv_sub hl [2, 3, 4, 5, 6, 7, 1, 0] rfl
              have hl : lv_has ls 9 [(0, .ref (G.2.2 0)), (1, .int (iI w_)), (2, .int (iI (σ 9 0))), (3, .int (iI 10)), (4, .int (iI n)), (5, .int (iI (10 * c_))), (6, .int (iI (rgN (σ 7) (10 * c_) (rg0 (τ 2) w_) (0 : Int).toNat))), (7, .int (iI 0))] := by rw [show rgN (σ 7) (10 * c_) (rg0 (τ 2) w_) (0 : Int).toNat = rg0 (τ 2) w_ from rfl, hg0]; exact hl
              refine L110 20 0 ?_ ?_ ?_ ?_ _ _ _ hH hl
              · omega
              · omega
              · omega
              · omega
    refine lv_aload_n hx hb dX4_row_0 rfl (lv_at hl 0 rfl) ?_
    refine m_get 9 (by decide) hx hb hts hown hK hj hH q1482 (fun _ h9 => h9) rfl dX4_row_1 ?_
    refine lv_istore_n hx hb dX4_row_4 rfl hl (Nat.le_of_ble_eq_true rfl) (lv' := [(2, .int (iI (σ 9 0))), (0, .ref (G.2.2 0)), (1, .int (iI w_))]) rfl (fun ls hl => ?_)
    refine lv_aload_n hx hb dX4_row_5 rfl (lv_at hl 1 rfl) ?_
    refine n_iconst hx hb dX4_row_6 ?_
    refine mp_9 hx hb hts hown hK hj hH q1482 (fun _ h9 => h9) dX4_row_7 (fun H locs hH => ?_)
    refine lv_iload_n hx hb dX4_row_10 rfl (lv_at hl 2 rfl) ?_
    refine n_iconst hx hb dX4_row_11 ?_
    refine n_iconst hx hb dX4_row_12 ?_
    refine m_calliF (m_runS (As := [.int (iI w_), .int (iI 0), .int (iI 1)]) (rest := []) S hH hK hj hl.1 (mm_in l G (st σ 9 0 0) w_ 0 1 _ (r32 (by omega)) (r32 (by omega)) (r32 (by omega))) (lw_S q1569 q1570 q109 q1571) kd_X4_in rfl rfl dX4_row_13) hH hA (fun H locs hH => ?_)
    refine z_if_ne (tgt := 25) hx hb dX4_row_16 (by decide) (fun c_16 => ?_) (fun c_16 => ?_)
    · -- 16T
      refine lv_iload_n hx hb dX4_row_25 rfl (lv_at hl 0 rfl) ?_
      refine n_if_ne (tgt := 36) hx hb (r32 (by omega)) dX4_row_26 (by decide) (fun c_26 => ?_) (fun c_26 => ?_)
      · -- 26T
        refine lv_iload_n hx hb dX4_row_36 rfl (lv_at hl 2 rfl) ?_
        refine n_if_ne (tgt := 45) hx hb (r32 (by omega)) dX4_row_37 (by decide) (fun c_37 => ?_) (fun c_37 => ?_)
        · exact absurd hw c_37
        · -- 37F
          refine n_bipush (z := 10) hx hb dX4_row_40 (by decide) ?_
          refine lv_goto (tgt := 47) hx hb dX4_row_42 (by decide) ?_
          refine lv_istore_n hx hb dX4_row_47 rfl hl (Nat.le_of_ble_eq_true rfl) (lv' := [(3, .int (iI 10)), (2, .int (iI (σ 9 0))), (0, .ref (G.2.2 0)), (1, .int (iI w_))]) rfl (fun ls hl => ?_)
          refine n_iconst hx hb dX4_row_48 ?_
          refine lv_istore hx hb dX4_row_49 hl (Nat.le_of_ble_eq_true rfl) (lv' := [(4, .int (iI 0)), (3, .int (iI 10)), (2, .int (iI (σ 9 0))), (0, .ref (G.2.2 0)), (1, .int (iI w_))]) rfl (fun ls hl => ?_)
          refine n_iconst hx hb dX4_row_51 ?_
          refine lv_istore hx hb dX4_row_52 hl (Nat.le_of_ble_eq_true rfl) (lv' := [(5, .int (iI 0)), (4, .int (iI 0)), (3, .int (iI 10)), (2, .int (iI (σ 9 0))), (0, .ref (G.2.2 0)), (1, .int (iI w_))]) rfl (fun ls hl => ?_)
          have hl : lv_has ls 9 [(0, .ref (G.2.2 0)), (1, .int (iI w_)), (2, .int (iI (σ 9 0))), (3, .int (iI 10)), (4, .int (iI 0)), (5, .int (iI 0))] := lv_sub hl [4, 5, 3, 2, 1, 0] rfl
          have hl : lv_has ls 9 [(0, .ref (G.2.2 0)), (1, .int (iI w_)), (2, .int (iI (σ 9 0))), (3, .int (iI 10)), (4, .int (iI 0)), (5, .int (iI (10 * 0)))] := by exact hl
          refine L54 402 (st σ 9 0 0) 0 0 ?_ ?_ ?_ ?_ ?_ ?_ ?_ ?_ _ _ _ hH hl
          · omega
          · exact c_26
          · rfl
          · rfl
          · exact ⟨b0.2.2.2.2.1, b0.2.2.2.2.2.1⟩
          · omega
          · omega
          · omega
      · -- 26F
        refine lv_aload_n hx hb dX4_row_29 rfl (lv_at hl 1 rfl) ?_
        refine n_bipush (z := -6) hx hb dX4_row_30 (by decide) ?_
        refine m_calliF (m_runV (As := [.int (iI (-6))]) (rest := []) S hH hK hj hl.1 (mm_refuses l G (st σ 9 0 0) (-6) _ (by omega) (by omega)) (lw_V q1572 q1574 qs43 q109 q1575) kd_X4_refuses rfl rfl dX4_row_32) hH hA (fun H locs hH => ?_)
        refine m_iret hx hb hr hlk hH dX4_row_35 ?_
        unfold rowF
        rw [if_pos (by omega), if_pos (by omega)]
    · -- 16F
      refine lv_aload_n hx hb dX4_row_19 rfl (lv_at hl 1 rfl) ?_
      refine n_iconst hx hb dX4_row_20 ?_
      refine m_calliF (m_runV (As := [.int (iI (-1))]) (rest := []) S hH hK hj hl.1 (mm_refuses l G (st σ 9 0 0) (-1) _ (by omega) (by omega)) (lw_V q1572 q1574 qs43 q109 q1575) kd_X4_refuses rfl rfl dX4_row_21) hH hA (fun H locs hH => ?_)
      refine m_iret hx hb hr hlk hH dX4_row_24 ?_
      unfold rowF
      rw [if_neg (by omega)]
  · -- trials
    have L54 : ∀ (q : Nat) (τ : St) (n : Int) (c_ : Int), (hg : 0 ≤ w_ ∧ w_ ≤ 1) → (h9 : ¬ σ 9 0 = 0) → (hrw : rwN σ w_ c_.toNat = (n, τ)) → (h7 : τ 7 = σ 7) → (hcn : (0 ≤ τ 2 1754 ∧ τ 2 1754 ≤ 40) ∧ (0 ≤ τ 2 1755 ∧ τ 2 1755 ≤ 12)) → (hc0 : 0 ≤ c_) → (hc1 : 9 * c_ ≤ σ 9 0) → (hq : σ 9 0 < (q : Int) + 9 * c_) → ∀ (H : Heap) (locs : List Loc) (ls : Array Slot), MH G (mA G σ s.heap.size) τ s.heap H locs → lv_has ls 9 [(0, .ref (G.2.2 0)), (1, .int (iI w_)), (2, .int (iI (σ 9 0))), (3, .int (iI 9)), (4, .int (iI n)), (5, .int (iI (9 * c_)))] → W p l e (rmD 3) s m ([.ref (G.2.2 0), .int (iI w_)] : List Value).toArray below meth c H locs 0 0 (MQ below (mQi G σ s.heap.size (fun z σ' => (z, σ') = rowF σ w_)) ([.ref (G.2.2 0), .int (iI w_)] : List Value).toArray s 0 0 (mA G σ s.heap.size)) (F0 m 54 ls []) := by
      intro q
      induction q with
      | zero => intro τ n c_ hg h9 hrw h7 hcn hc0 hc1 hq; exfalso; omega
      | succ q ih_54 =>
        intro τ n c_ hg h9 hrw h7 hcn hc0 hc1 hq H locs ls hH hl
        have hto := rto_1 (κ := τ 2) hw hcn
        have L200 : ∀ (q2 : Nat) (k2 : Int), (hgd : ¬ rgN (σ 7) (9 * c_) (rg0 (τ 2) w_) 9 = 0) → (hat : 9 * c_ + 9 ≤ σ 9 0) → (hk0 : 0 ≤ k2) → (hk1 : k2 ≤ 9) → (hq1 : 9 < (q2 : Int) + k2) → ∀ (H : Heap) (locs : List Loc) (ls : Array Slot), MH G (mA G σ s.heap.size) (rwA τ w_ (9 * c_) k2) s.heap H locs → lv_has ls 9 [(0, .ref (G.2.2 0)), (1, .int (iI w_)), (2, .int (iI (σ 9 0))), (3, .int (iI 9)), (4, .int (iI n)), (5, .int (iI (9 * c_))), (7, .int (iI (rto (τ 2) w_))), (8, .int (iI k2))] → W p l e (rmD 3) s m ([.ref (G.2.2 0), .int (iI w_)] : List Value).toArray below meth c H locs 0 0 (MQ below (mQi G σ s.heap.size (fun z σ' => (z, σ') = rowF σ w_)) ([.ref (G.2.2 0), .int (iI w_)] : List Value).toArray s 0 0 (mA G σ s.heap.size)) (F0 m 200 ls []) := by
          intro q2
          induction q2 with
          | zero => intro k2 hgd hat hk0 hk1 hq1; exfalso; omega
          | succ q2 ih_200 =>
            intro k2 hgd hat hk0 hk1 hq1 H locs ls hH hl
            refine lv_iload hx hb dX4_row_200 (lv_at hl 7 rfl) ?_
            refine lv_iload_n hx hb dX4_row_202 rfl (lv_at hl 3 rfl) ?_
            refine n_icmp_ge (tgt := 236) hx hb (r32 (by omega)) (r32 (by omega)) dX4_row_203 (by decide) (fun c_203 => ?_) (fun c_203 => ?_)
            · -- 203T
              obtain rfl : k2 = (9 : Int) := by omega
              refine lv_aload_n hx hb dX4_row_236 rfl (lv_at hl 0 rfl) ?_
              refine m_get 2 (by decide) hx hb hts hown hK hj hH q1475 (fun _ h9 => h9) rfl dX4_row_237 ?_
              refine lv_iload_n hx hb dX4_row_240 rfl (lv_at hl 1 rfl) ?_
              refine n_if_ne (tgt := 250) hx hb (r32 (by omega)) dX4_row_241 (by decide) (fun c_241 => ?_) (fun c_241 => ?_)
              · -- 241T
                refine n_sipush (z := 1755) hx hb dX4_row_250 (by decide) ?_
                refine lv_dup2_11 hx hb dX4_row_253 rfl rfl ?_
                refine ml_2 hx hb hK hj hH (by omega) (by omega) dX4_row_254 ?_
                refine W.eq (g2 := F0 m 255 ls (.int (iI (τ 2 1755)) :: .int (iI 1755) :: .ref (G.2.2 2) :: [])) (by rw [rwA_o (by omega)]) ?_
                refine n_iconst hx hb dX4_row_255 ?_
                refine n_iadd hx hb dX4_row_256 ?_
                refine ms_2 hx hb hK hj hH (by omega) (by omega) dX4_row_257 (fun H locs hH => ?_)
                have hH := MH_to hH (τ := rwB τ w_ (9 * c_)) (by rw [rwB, rwd_1 hw, rct_1 hw])
                refine n_iinc hx hb dX4_row_258 hl (k := 4) rfl (Nat.le_of_ble_eq_true rfl) (lv' := [(4, .int (iI (n + 1))), (0, .ref (G.2.2 0)), (1, .int (iI w_)), (2, .int (iI (σ 9 0))), (3, .int (iI 9)), (5, .int (iI (9 * c_))), (7, .int (iI (rto (τ 2) w_))), (8, .int (iI (9 : Int)))]) rfl (fun ls hl => ?_)
                refine lv_iload hx hb dX4_row_261 (lv_at hl 5 rfl) ?_
                refine lv_iload_n hx hb dX4_row_263 rfl (lv_at hl 4 rfl) ?_
                refine n_iadd hx hb dX4_row_264 ?_
                refine lv_istore hx hb dX4_row_265 hl (Nat.le_of_ble_eq_true rfl) (lv' := [(5, .int (iI ((9 * c_) + 9))), (4, .int (iI (n + 1))), (0, .ref (G.2.2 0)), (1, .int (iI w_)), (2, .int (iI (σ 9 0))), (3, .int (iI 9)), (7, .int (iI (rto (τ 2) w_))), (8, .int (iI (9 : Int)))]) rfl (fun ls hl => ?_)
                refine lv_goto (tgt := 54) hx hb dX4_row_267 (by decide) ?_
                have hl : lv_has ls 9 [(0, .ref (G.2.2 0)), (1, .int (iI w_)), (2, .int (iI (σ 9 0))), (3, .int (iI 9)), (4, .int (iI (n + 1))), (5, .int (iI ((9 * c_) + 9)))] := lv_sub hl [2, 3, 4, 5, 1, 0] rfl
                have hl : lv_has ls 9 [(0, .ref (G.2.2 0)), (1, .int (iI w_)), (2, .int (iI (σ 9 0))), (3, .int (iI 9)), (4, .int (iI (n + 1))), (5, .int (iI (9 * (c_ + 1))))] := by rw [show 9 * (c_ + 1) = 9 * c_ + 9 by omega]; exact hl
                refine ih_54 (rwB τ w_ (9 * c_)) (n + 1) (c_ + 1) ?_ ?_ ?_ ?_ ?_ ?_ ?_ ?_ _ _ _ hH hl
                · exact hg
                · exact h9
                · rw [rwN_1 hw hc0 hrw, if_neg hgd]
                · exact h7
                · rw [rwB_1a hw hcn, rwB_1b hw hcn]
                  have h8 := rgN_g hgd
                  unfold rg0 at h8
                  rw [if_neg hw] at h8
                  split at h8
                  · omega
                  · omega
                · omega
                · omega
                · omega
              · exact absurd c_241 hw
            · -- 203F
              refine lv_aload_n hx hb dX4_row_206 rfl (lv_at hl 0 rfl) ?_
              refine m_get 2 (by decide) hx hb hts hown hK hj hH q1475 (fun _ h9 => h9) rfl dX4_row_207 ?_
              refine lv_iload hx hb dX4_row_210 (lv_at hl 6 rfl) ?_
              refine lv_iload hx hb dX4_row_212 (lv_at hl 7 rfl) ?_
              refine n_iadd hx hb dX4_row_214 ?_
              refine lv_aload_n hx hb dX4_row_215 rfl (lv_at hl 0 rfl) ?_
              refine m_get 7 (by decide) hx hb hts hown hK hj hH q1480 (fun _ h9 => h9) rfl dX4_row_216 ?_
              refine lv_iload hx hb dX4_row_219 (lv_at hl 5 rfl) ?_
              refine lv_iload hx hb dX4_row_221 (lv_at hl 7 rfl) ?_
              refine n_iadd hx hb dX4_row_223 ?_
              refine ml_7 hx hb hK hj hH (by omega) (by omega) dX4_row_224 ?_
              refine W.eq (g2 := F0 m 225 ls (.int (iI (τ 7 (9 * c_ + k2))) :: .int (iI ((rto (τ 2) w_) + k2)) :: .ref (G.2.2 2) :: [])) (by rfl) ?_
              refine n_sipush (z := 255) hx hb dX4_row_225 (by decide) ?_
              refine n_and255 hx hb dX4_row_228 ?_
              refine ms_2 hx hb hK hj hH (by omega) (by omega) dX4_row_229 (fun H locs hH => ?_)
              refine n_iinc hx hb dX4_row_230 hl (k := 7) rfl (Nat.le_of_ble_eq_true rfl) (lv' := [(8, .int (iI (k2 + 1))), (0, .ref (G.2.2 0)), (1, .int (iI w_)), (2, .int (iI (σ 9 0))), (3, .int (iI 9)), (4, .int (iI n)), (5, .int (iI (9 * c_))), (7, .int (iI (rto (τ 2) w_)))]) rfl (fun ls hl => ?_)
              refine lv_goto (tgt := 200) hx hb dX4_row_233 (by decide) ?_
              have hl : lv_has ls 9 [(0, .ref (G.2.2 0)), (1, .int (iI w_)), (2, .int (iI (σ 9 0))), (3, .int (iI 9)), (4, .int (iI n)), (5, .int (iI (9 * c_))), (7, .int (iI (rto (τ 2) w_))), (8, .int (iI (k2 + 1)))] := lv_sub hl [1, 2, 3, 4, 5, 6, 7, 0] rfl
              have hH := MH_to hH (τ := rwA τ w_ (9 * c_) (k2 + 1)) (rwA_s hk0)
              refine ih_200 (k2 + 1) ?_ ?_ ?_ ?_ ?_ _ _ _ hH hl
              · exact hgd
              · exact hat
              · omega
              · omega
              · omega
        have L110 : ∀ (q1 : Nat) (k : Int), (hat : 9 * c_ + 9 ≤ σ 9 0) → (hk0 : 0 ≤ k) → (hk1 : k ≤ 9) → (hq1 : 9 < (q1 : Int) + k) → ∀ (H : Heap) (locs : List Loc) (ls : Array Slot), MH G (mA G σ s.heap.size) τ s.heap H locs → lv_has ls 9 [(0, .ref (G.2.2 0)), (1, .int (iI w_)), (2, .int (iI (σ 9 0))), (3, .int (iI 9)), (4, .int (iI n)), (5, .int (iI (9 * c_))), (6, .int (iI (rgN (σ 7) (9 * c_) (rg0 (τ 2) w_) k.toNat))), (7, .int (iI k))] → W p l e (rmD 3) s m ([.ref (G.2.2 0), .int (iI w_)] : List Value).toArray below meth c H locs 0 0 (MQ below (mQi G σ s.heap.size (fun z σ' => (z, σ') = rowF σ w_)) ([.ref (G.2.2 0), .int (iI w_)] : List Value).toArray s 0 0 (mA G σ s.heap.size)) (F0 m 110 ls []) := by
          intro q1
          induction q1 with
          | zero => intro k hat hk0 hk1 hq1; exfalso; omega
          | succ q1 ih_110 =>
            intro k hat hk0 hk1 hq1 H locs ls hH hl
            have hr01 := rgN_01 (T := σ 7) (b := 9 * c_) (rg0_01 (τ 2) w_) k.toNat
            refine lv_iload hx hb dX4_row_110 (lv_at hl 7 rfl) ?_
            refine lv_iload_n hx hb dX4_row_112 rfl (lv_at hl 3 rfl) ?_
            refine n_icmp_ge (tgt := 156) hx hb (r32 (by omega)) (r32 (by omega)) dX4_row_113 (by decide) (fun c_113 => ?_) (fun c_113 => ?_)
            · -- 113T
              obtain rfl : k = (9 : Int) := by omega
              refine lv_iload hx hb dX4_row_156 (lv_at hl 6 rfl) ?_
              refine n_if_ne (tgt := 164) hx hb (r32 (by omega)) dX4_row_158 (by decide) (fun c_158 => ?_) (fun c_158 => ?_)
              · -- 158T
                refine lv_iload_n hx hb dX4_row_164 rfl (lv_at hl 1 rfl) ?_
                refine n_if_ne (tgt := 183) hx hb (r32 (by omega)) dX4_row_165 (by decide) (fun c_165 => ?_) (fun c_165 => ?_)
                · -- 165T
                  refine lv_aload_n hx hb dX4_row_183 rfl (lv_at hl 0 rfl) ?_
                  refine lv_aload_n hx hb dX4_row_184 rfl (lv_at hl 0 rfl) ?_
                  refine m_get 2 (by decide) hx hb hts hown hK hj hH q1475 (fun _ h9 => h9) rfl dX4_row_185 ?_
                  refine n_sipush (z := 1755) hx hb dX4_row_188 (by decide) ?_
                  refine ml_2 hx hb hK hj hH (by omega) (by omega) dX4_row_191 ?_
                  refine m_calliF (m_runV (As := [.int (iI (τ 2 1755))]) (rest := []) S hH hK hj hl.1 (mm_trialAt l G τ (τ 2 1755) _ ) (lw_V q1690 q1692 qs55 q109 q1693) kd_X4_trialAt rfl rfl dX4_row_192) hH hA (fun H locs hH => ?_)
                  refine lv_istore hx hb dX4_row_195 hl (Nat.le_of_ble_eq_true rfl) (lv' := [(7, .int (iI (1624 + 9 * (τ 2 1755)))), (0, .ref (G.2.2 0)), (1, .int (iI w_)), (2, .int (iI (σ 9 0))), (3, .int (iI 9)), (4, .int (iI n)), (5, .int (iI (9 * c_))), (6, .int (iI (rgN (σ 7) (9 * c_) (rg0 (τ 2) w_) (9 : Int).toNat)))]) rfl (fun ls hl => ?_)
                  refine n_iconst hx hb dX4_row_197 ?_
                  refine lv_istore hx hb dX4_row_198 hl (Nat.le_of_ble_eq_true rfl) (lv' := [(8, .int (iI 0)), (7, .int (iI (1624 + 9 * (τ 2 1755)))), (0, .ref (G.2.2 0)), (1, .int (iI w_)), (2, .int (iI (σ 9 0))), (3, .int (iI 9)), (4, .int (iI n)), (5, .int (iI (9 * c_))), (6, .int (iI (rgN (σ 7) (9 * c_) (rg0 (τ 2) w_) (9 : Int).toNat)))]) rfl (fun ls hl => ?_)
                  have hl : lv_has ls 9 [(0, .ref (G.2.2 0)), (1, .int (iI w_)), (2, .int (iI (σ 9 0))), (3, .int (iI 9)), (4, .int (iI n)), (5, .int (iI (9 * c_))), (7, .int (iI (1624 + 9 * (τ 2 1755)))), (8, .int (iI 0))] := lv_sub hl [2, 3, 4, 5, 6, 7, 1, 0] rfl
                  have hl : lv_has ls 9 [(0, .ref (G.2.2 0)), (1, .int (iI w_)), (2, .int (iI (σ 9 0))), (3, .int (iI 9)), (4, .int (iI n)), (5, .int (iI (9 * c_))), (7, .int (iI (rto (τ 2) w_))), (8, .int (iI 0))] := by rw [rto_1e hw]; exact hl
                  have hH := MH_to hH (τ := rwA τ w_ (9 * c_) 0) (rwA_0.symm)
                  refine L200 20 0 ?_ ?_ ?_ ?_ ?_ _ _ _ hH hl
                  · exact c_158
                  · exact hat
                  · omega
                  · omega
                  · omega
                · exact absurd c_165 hw
              · -- 158F
                refine lv_goto (tgt := 261) hx hb dX4_row_161 (by decide) ?_
                refine lv_iload hx hb dX4_row_261 (lv_at hl 5 rfl) ?_
                refine lv_iload_n hx hb dX4_row_263 rfl (lv_at hl 3 rfl) ?_
                refine n_iadd hx hb dX4_row_264 ?_
                refine lv_istore hx hb dX4_row_265 hl (Nat.le_of_ble_eq_true rfl) (lv' := [(5, .int (iI ((9 * c_) + 9))), (0, .ref (G.2.2 0)), (1, .int (iI w_)), (2, .int (iI (σ 9 0))), (3, .int (iI 9)), (4, .int (iI n)), (6, .int (iI (rgN (σ 7) (9 * c_) (rg0 (τ 2) w_) (9 : Int).toNat))), (7, .int (iI (9 : Int)))]) rfl (fun ls hl => ?_)
                refine lv_goto (tgt := 54) hx hb dX4_row_267 (by decide) ?_
                have hl : lv_has ls 9 [(0, .ref (G.2.2 0)), (1, .int (iI w_)), (2, .int (iI (σ 9 0))), (3, .int (iI 9)), (4, .int (iI n)), (5, .int (iI ((9 * c_) + 9)))] := lv_sub hl [1, 2, 3, 4, 5, 0] rfl
                have hl : lv_has ls 9 [(0, .ref (G.2.2 0)), (1, .int (iI w_)), (2, .int (iI (σ 9 0))), (3, .int (iI 9)), (4, .int (iI n)), (5, .int (iI (9 * (c_ + 1))))] := by rw [show 9 * (c_ + 1) = 9 * c_ + 9 by omega]; exact hl
                refine ih_54 τ n (c_ + 1) ?_ ?_ ?_ ?_ ?_ ?_ ?_ ?_ _ _ _ hH hl
                · exact hg
                · exact h9
                · rw [rwN_1 hw hc0 hrw, if_pos (show rgN (σ 7) (9 * c_) (rg0 (τ 2) w_) 9 = 0 from c_158)]
                · exact h7
                · exact hcn
                · omega
                · omega
                · omega
            · -- 113F
              refine lv_iload hx hb dX4_row_116 (lv_at hl 6 rfl) ?_
              refine n_if_eq (tgt := 147) hx hb (r32 (by omega)) dX4_row_118 (by decide) (fun c_118 => ?_) (fun c_118 => ?_)
              · -- 118T
                refine n_iconst hx hb dX4_row_147 ?_
                refine lv_istore hx hb dX4_row_148 hl (Nat.le_of_ble_eq_true rfl) (lv' := [(6, .int (iI 0)), (0, .ref (G.2.2 0)), (1, .int (iI w_)), (2, .int (iI (σ 9 0))), (3, .int (iI 9)), (4, .int (iI n)), (5, .int (iI (9 * c_))), (7, .int (iI k))]) rfl (fun ls hl => ?_)
                refine n_iinc hx hb dX4_row_150 hl (k := 7) rfl (Nat.le_of_ble_eq_true rfl) (lv' := [(7, .int (iI (k + 1))), (6, .int (iI 0)), (0, .ref (G.2.2 0)), (1, .int (iI w_)), (2, .int (iI (σ 9 0))), (3, .int (iI 9)), (4, .int (iI n)), (5, .int (iI (9 * c_)))]) rfl (fun ls hl => ?_)
                refine lv_goto (tgt := 110) hx hb dX4_row_153 (by decide) ?_
                have hl : lv_has ls 9 [(0, .ref (G.2.2 0)), (1, .int (iI w_)), (2, .int (iI (σ 9 0))), (3, .int (iI 9)), (4, .int (iI n)), (5, .int (iI (9 * c_))), (6, .int (iI 0)), (7, .int (iI (k + 1)))] := lv_sub hl [2, 3, 4, 5, 6, 7, 1, 0] rfl
                have hl : lv_has ls 9 [(0, .ref (G.2.2 0)), (1, .int (iI w_)), (2, .int (iI (σ 9 0))), (3, .int (iI 9)), (4, .int (iI n)), (5, .int (iI (9 * c_))), (6, .int (iI (rgN (σ 7) (9 * c_) (rg0 (τ 2) w_) (k + 1).toNat))), (7, .int (iI (k + 1)))] := by rw [rgN_e hk0, if_neg (fun h => h.1 c_118)]; exact hl
                refine ih_110 (k + 1) ?_ ?_ ?_ ?_ _ _ _ hH hl
                · omega
                · omega
                · omega
                · omega
              · -- 118F
                refine lv_iload hx hb dX4_row_121 (lv_at hl 7 rfl) ?_
                refine lv_aload_n hx hb dX4_row_123 rfl (lv_at hl 0 rfl) ?_
                refine m_get 7 (by decide) hx hb hts hown hK hj hH q1480 (fun _ h9 => h9) rfl dX4_row_124 ?_
                refine lv_iload hx hb dX4_row_127 (lv_at hl 5 rfl) ?_
                refine lv_iload hx hb dX4_row_129 (lv_at hl 7 rfl) ?_
                refine n_iadd hx hb dX4_row_131 ?_
                refine ml_7 hx hb hK hj hH (by omega) (by omega) dX4_row_132 ?_
                refine W.eq (g2 := F0 m 133 ls (.int (iI (σ 7 (9 * c_ + k))) :: .int (iI k) :: [])) (by rw [h7]) ?_
                refine n_sipush (z := 255) hx hb dX4_row_133 (by decide) ?_
                refine n_and255 hx hb dX4_row_136 ?_
                refine m_calliF (m_runS (As := [.int (iI k), .int (iI ((σ 7 (9 * c_ + k)) % 256))]) (rest := []) S hH hK hj hl.1 (mm_isCase l G τ k ((σ 7 (9 * c_ + k)) % 256) _ (r32 (by omega)) (r32 (by omega))) (lw_S q1698 q1699 q109 q1700) kd_X4_isCase rfl rfl dX4_row_137) hH hA (fun H locs hH => ?_)
                refine z_if_eq (tgt := 147) hx hb dX4_row_140 (by decide) (fun c_140 => ?_) (fun c_140 => ?_)
                · -- 140T
                  refine n_iconst hx hb dX4_row_147 ?_
                  refine lv_istore hx hb dX4_row_148 hl (Nat.le_of_ble_eq_true rfl) (lv' := [(6, .int (iI 0)), (0, .ref (G.2.2 0)), (1, .int (iI w_)), (2, .int (iI (σ 9 0))), (3, .int (iI 9)), (4, .int (iI n)), (5, .int (iI (9 * c_))), (7, .int (iI k))]) rfl (fun ls hl => ?_)
                  refine n_iinc hx hb dX4_row_150 hl (k := 7) rfl (Nat.le_of_ble_eq_true rfl) (lv' := [(7, .int (iI (k + 1))), (6, .int (iI 0)), (0, .ref (G.2.2 0)), (1, .int (iI w_)), (2, .int (iI (σ 9 0))), (3, .int (iI 9)), (4, .int (iI n)), (5, .int (iI (9 * c_)))]) rfl (fun ls hl => ?_)
                  refine lv_goto (tgt := 110) hx hb dX4_row_153 (by decide) ?_
                  have hl : lv_has ls 9 [(0, .ref (G.2.2 0)), (1, .int (iI w_)), (2, .int (iI (σ 9 0))), (3, .int (iI 9)), (4, .int (iI n)), (5, .int (iI (9 * c_))), (6, .int (iI 0)), (7, .int (iI (k + 1)))] := lv_sub hl [2, 3, 4, 5, 6, 7, 1, 0] rfl
                  have hl : lv_has ls 9 [(0, .ref (G.2.2 0)), (1, .int (iI w_)), (2, .int (iI (σ 9 0))), (3, .int (iI 9)), (4, .int (iI n)), (5, .int (iI (9 * c_))), (6, .int (iI (rgN (σ 7) (9 * c_) (rg0 (τ 2) w_) (k + 1).toNat))), (7, .int (iI (k + 1)))] := by rw [rgN_e hk0, if_neg (fun h => c_140 h.2)]; exact hl
                  refine ih_110 (k + 1) ?_ ?_ ?_ ?_ _ _ _ hH hl
                  · omega
                  · omega
                  · omega
                  · omega
                · -- 140F
                  refine n_iconst hx hb dX4_row_143 ?_
                  refine lv_goto (tgt := 148) hx hb dX4_row_144 (by decide) ?_
                  refine lv_istore hx hb dX4_row_148 hl (Nat.le_of_ble_eq_true rfl) (lv' := [(6, .int (iI 1)), (0, .ref (G.2.2 0)), (1, .int (iI w_)), (2, .int (iI (σ 9 0))), (3, .int (iI 9)), (4, .int (iI n)), (5, .int (iI (9 * c_))), (7, .int (iI k))]) rfl (fun ls hl => ?_)
                  refine n_iinc hx hb dX4_row_150 hl (k := 7) rfl (Nat.le_of_ble_eq_true rfl) (lv' := [(7, .int (iI (k + 1))), (6, .int (iI 1)), (0, .ref (G.2.2 0)), (1, .int (iI w_)), (2, .int (iI (σ 9 0))), (3, .int (iI 9)), (4, .int (iI n)), (5, .int (iI (9 * c_)))]) rfl (fun ls hl => ?_)
                  refine lv_goto (tgt := 110) hx hb dX4_row_153 (by decide) ?_
                  have hl : lv_has ls 9 [(0, .ref (G.2.2 0)), (1, .int (iI w_)), (2, .int (iI (σ 9 0))), (3, .int (iI 9)), (4, .int (iI n)), (5, .int (iI (9 * c_))), (6, .int (iI 1)), (7, .int (iI (k + 1)))] := lv_sub hl [2, 3, 4, 5, 6, 7, 1, 0] rfl
                  have hl : lv_has ls 9 [(0, .ref (G.2.2 0)), (1, .int (iI w_)), (2, .int (iI (σ 9 0))), (3, .int (iI 9)), (4, .int (iI n)), (5, .int (iI (9 * c_))), (6, .int (iI (rgN (σ 7) (9 * c_) (rg0 (τ 2) w_) (k + 1).toNat))), (7, .int (iI (k + 1)))] := by rw [rgN_e hk0, if_pos ⟨c_118, c_140⟩]; exact hl
                  refine ih_110 (k + 1) ?_ ?_ ?_ ?_ _ _ _ hH hl
                  · omega
                  · omega
                  · omega
                  · omega
        refine lv_iload hx hb dX4_row_54 (lv_at hl 5 rfl) ?_
        refine lv_iload_n hx hb dX4_row_56 rfl (lv_at hl 3 rfl) ?_
        refine n_iadd hx hb dX4_row_57 ?_
        refine lv_iload_n hx hb dX4_row_58 rfl (lv_at hl 2 rfl) ?_
        refine n_icmp_gt (tgt := 270) hx hb (r32 (by omega)) (r32 (by omega)) dX4_row_59 (by decide) (fun c_59 => ?_) (fun c_59 => ?_)
        · -- 59T
          refine lv_aload_n hx hb dX4_row_270 rfl (lv_at hl 0 rfl) ?_
          refine lv_iload hx hb dX4_row_271 (lv_at hl 4 rfl) ?_
          refine m_calliF (m_runV (As := [.int (iI n)]) (rest := []) S hH hK hj hl.1 (mm_good l G τ n _ ) (lw_V q1576 q1578 qs44 q109 q1579) kd_X4_good rfl rfl dX4_row_273) hH hA (fun H locs hH => ?_)
          refine m_iret hx hb hr hlk hH dX4_row_276 ?_
          unfold rowF
          rw [if_pos hg, if_neg h9, show (σ 9 0 / rwd w_).toNat = c_.toNat from (by rw [rwd_1 hw]; omega), hrw]
        · -- 59F
          refine lv_iload_n hx hb dX4_row_62 rfl (lv_at hl 1 rfl) ?_
          refine n_if_ne (tgt := 87) hx hb (r32 (by omega)) dX4_row_63 (by decide) (fun c_63 => ?_) (fun c_63 => ?_)
          · -- 63T
            refine lv_aload_n hx hb dX4_row_87 rfl (lv_at hl 0 rfl) ?_
            refine m_get 2 (by decide) hx hb hts hown hK hj hH q1475 (fun _ h9 => h9) rfl dX4_row_88 ?_
            refine n_sipush (z := 1755) hx hb dX4_row_91 (by decide) ?_
            refine ml_2 hx hb hK hj hH (by omega) (by omega) dX4_row_94 ?_
            refine n_bipush (z := 12) hx hb dX4_row_95 (by decide) ?_
            refine n_icmp_ge (tgt := 104) hx hb (r32 (by omega)) (r32 (by omega)) dX4_row_97 (by decide) (fun c_97 => ?_) (fun c_97 => ?_)
            · -- 97T
              have hg0 : rg0 (τ 2) w_ = 0 := by rw [rg0, if_neg hw, if_neg (by omega)]
              refine n_iconst hx hb dX4_row_104 ?_
              refine lv_istore hx hb dX4_row_105 hl (Nat.le_of_ble_eq_true rfl) (lv' := [(6, .int (iI 0)), (0, .ref (G.2.2 0)), (1, .int (iI w_)), (2, .int (iI (σ 9 0))), (3, .int (iI 9)), (4, .int (iI n)), (5, .int (iI (9 * c_)))]) rfl (fun ls hl => ?_)
              refine n_iconst hx hb dX4_row_107 ?_
              refine lv_istore hx hb dX4_row_108 hl (Nat.le_of_ble_eq_true rfl) (lv' := [(7, .int (iI 0)), (6, .int (iI 0)), (0, .ref (G.2.2 0)), (1, .int (iI w_)), (2, .int (iI (σ 9 0))), (3, .int (iI 9)), (4, .int (iI n)), (5, .int (iI (9 * c_)))]) rfl (fun ls hl => ?_)
              have hl : lv_has ls 9 [(0, .ref (G.2.2 0)), (1, .int (iI w_)), (2, .int (iI (σ 9 0))), (3, .int (iI 9)), (4, .int (iI n)), (5, .int (iI (9 * c_))), (6, .int (iI 0)), (7, .int (iI 0))] := lv_sub hl [2, 3, 4, 5, 6, 7, 1, 0] rfl
              have hl : lv_has ls 9 [(0, .ref (G.2.2 0)), (1, .int (iI w_)), (2, .int (iI (σ 9 0))), (3, .int (iI 9)), (4, .int (iI n)), (5, .int (iI (9 * c_))), (6, .int (iI (rgN (σ 7) (9 * c_) (rg0 (τ 2) w_) (0 : Int).toNat))), (7, .int (iI 0))] := by rw [show rgN (σ 7) (9 * c_) (rg0 (τ 2) w_) (0 : Int).toNat = rg0 (τ 2) w_ from rfl, hg0]; exact hl
              refine L110 20 0 ?_ ?_ ?_ ?_ _ _ _ hH hl
              · omega
              · omega
              · omega
              · omega
            · -- 97F
              have hg0 : rg0 (τ 2) w_ = 1 := by rw [rg0, if_neg hw, if_pos (by omega)]
              refine n_iconst hx hb dX4_row_100 ?_
              refine lv_goto (tgt := 105) hx hb dX4_row_101 (by decide) ?_
              refine lv_istore hx hb dX4_row_105 hl (Nat.le_of_ble_eq_true rfl) (lv' := [(6, .int (iI 1)), (0, .ref (G.2.2 0)), (1, .int (iI w_)), (2, .int (iI (σ 9 0))), (3, .int (iI 9)), (4, .int (iI n)), (5, .int (iI (9 * c_)))]) rfl (fun ls hl => ?_)
              refine n_iconst hx hb dX4_row_107 ?_
              refine lv_istore hx hb dX4_row_108 hl (Nat.le_of_ble_eq_true rfl) (lv' := [(7, .int (iI 0)), (6, .int (iI 1)), (0, .ref (G.2.2 0)), (1, .int (iI w_)), (2, .int (iI (σ 9 0))), (3, .int (iI 9)), (4, .int (iI n)), (5, .int (iI (9 * c_)))]) rfl (fun ls hl => ?_)
              have hl : lv_has ls 9 [(0, .ref (G.2.2 0)), (1, .int (iI w_)), (2, .int (iI (σ 9 0))), (3, .int (iI 9)), (4, .int (iI n)), (5, .int (iI (9 * c_))), (6, .int (iI 1)), (7, .int (iI 0))] := lv_sub hl [2, 3, 4, 5, 6, 7, 1, 0] rfl
              have hl : lv_has ls 9 [(0, .ref (G.2.2 0)), (1, .int (iI w_)), (2, .int (iI (σ 9 0))), (3, .int (iI 9)), (4, .int (iI n)), (5, .int (iI (9 * c_))), (6, .int (iI (rgN (σ 7) (9 * c_) (rg0 (τ 2) w_) (0 : Int).toNat))), (7, .int (iI 0))] := by rw [show rgN (σ 7) (9 * c_) (rg0 (τ 2) w_) (0 : Int).toNat = rg0 (τ 2) w_ from rfl, hg0]; exact hl
              refine L110 20 0 ?_ ?_ ?_ ?_ _ _ _ hH hl
              · omega
              · omega
              · omega
              · omega
          · exact absurd c_63 hw
    refine lv_aload_n hx hb dX4_row_0 rfl (lv_at hl 0 rfl) ?_
    refine m_get 9 (by decide) hx hb hts hown hK hj hH q1482 (fun _ h9 => h9) rfl dX4_row_1 ?_
    refine lv_istore_n hx hb dX4_row_4 rfl hl (Nat.le_of_ble_eq_true rfl) (lv' := [(2, .int (iI (σ 9 0))), (0, .ref (G.2.2 0)), (1, .int (iI w_))]) rfl (fun ls hl => ?_)
    refine lv_aload_n hx hb dX4_row_5 rfl (lv_at hl 1 rfl) ?_
    refine n_iconst hx hb dX4_row_6 ?_
    refine mp_9 hx hb hts hown hK hj hH q1482 (fun _ h9 => h9) dX4_row_7 (fun H locs hH => ?_)
    refine lv_iload_n hx hb dX4_row_10 rfl (lv_at hl 2 rfl) ?_
    refine n_iconst hx hb dX4_row_11 ?_
    refine n_iconst hx hb dX4_row_12 ?_
    refine m_calliF (m_runS (As := [.int (iI w_), .int (iI 0), .int (iI 1)]) (rest := []) S hH hK hj hl.1 (mm_in l G (st σ 9 0 0) w_ 0 1 _ (r32 (by omega)) (r32 (by omega)) (r32 (by omega))) (lw_S q1569 q1570 q109 q1571) kd_X4_in rfl rfl dX4_row_13) hH hA (fun H locs hH => ?_)
    refine z_if_ne (tgt := 25) hx hb dX4_row_16 (by decide) (fun c_16 => ?_) (fun c_16 => ?_)
    · -- 16T
      refine lv_iload_n hx hb dX4_row_25 rfl (lv_at hl 0 rfl) ?_
      refine n_if_ne (tgt := 36) hx hb (r32 (by omega)) dX4_row_26 (by decide) (fun c_26 => ?_) (fun c_26 => ?_)
      · -- 26T
        refine lv_iload_n hx hb dX4_row_36 rfl (lv_at hl 2 rfl) ?_
        refine n_if_ne (tgt := 45) hx hb (r32 (by omega)) dX4_row_37 (by decide) (fun c_37 => ?_) (fun c_37 => ?_)
        · -- 37T
          refine n_bipush (z := 9) hx hb dX4_row_45 (by decide) ?_
          refine lv_istore_n hx hb dX4_row_47 rfl hl (Nat.le_of_ble_eq_true rfl) (lv' := [(3, .int (iI 9)), (2, .int (iI (σ 9 0))), (0, .ref (G.2.2 0)), (1, .int (iI w_))]) rfl (fun ls hl => ?_)
          refine n_iconst hx hb dX4_row_48 ?_
          refine lv_istore hx hb dX4_row_49 hl (Nat.le_of_ble_eq_true rfl) (lv' := [(4, .int (iI 0)), (3, .int (iI 9)), (2, .int (iI (σ 9 0))), (0, .ref (G.2.2 0)), (1, .int (iI w_))]) rfl (fun ls hl => ?_)
          refine n_iconst hx hb dX4_row_51 ?_
          refine lv_istore hx hb dX4_row_52 hl (Nat.le_of_ble_eq_true rfl) (lv' := [(5, .int (iI 0)), (4, .int (iI 0)), (3, .int (iI 9)), (2, .int (iI (σ 9 0))), (0, .ref (G.2.2 0)), (1, .int (iI w_))]) rfl (fun ls hl => ?_)
          have hl : lv_has ls 9 [(0, .ref (G.2.2 0)), (1, .int (iI w_)), (2, .int (iI (σ 9 0))), (3, .int (iI 9)), (4, .int (iI 0)), (5, .int (iI 0))] := lv_sub hl [4, 5, 3, 2, 1, 0] rfl
          have hl : lv_has ls 9 [(0, .ref (G.2.2 0)), (1, .int (iI w_)), (2, .int (iI (σ 9 0))), (3, .int (iI 9)), (4, .int (iI 0)), (5, .int (iI (9 * 0)))] := by exact hl
          refine L54 402 (st σ 9 0 0) 0 0 ?_ ?_ ?_ ?_ ?_ ?_ ?_ ?_ _ _ _ hH hl
          · omega
          · exact c_26
          · rfl
          · rfl
          · exact ⟨b0.2.2.2.2.1, b0.2.2.2.2.2.1⟩
          · omega
          · omega
          · omega
        · exact absurd c_37 hw
      · -- 26F
        refine lv_aload_n hx hb dX4_row_29 rfl (lv_at hl 1 rfl) ?_
        refine n_bipush (z := -6) hx hb dX4_row_30 (by decide) ?_
        refine m_calliF (m_runV (As := [.int (iI (-6))]) (rest := []) S hH hK hj hl.1 (mm_refuses l G (st σ 9 0 0) (-6) _ (by omega) (by omega)) (lw_V q1572 q1574 qs43 q109 q1575) kd_X4_refuses rfl rfl dX4_row_32) hH hA (fun H locs hH => ?_)
        refine m_iret hx hb hr hlk hH dX4_row_35 ?_
        unfold rowF
        rw [if_pos (by omega), if_pos (by omega)]
    · -- 16F
      refine lv_aload_n hx hb dX4_row_19 rfl (lv_at hl 1 rfl) ?_
      refine n_iconst hx hb dX4_row_20 ?_
      refine m_calliF (m_runV (As := [.int (iI (-1))]) (rest := []) S hH hK hj hl.1 (mm_refuses l G (st σ 9 0 0) (-1) _ (by omega) (by omega)) (lw_V q1572 q1574 qs43 q109 q1575) kd_X4_refuses rfl rfl dX4_row_21) hH hA (fun H locs hH => ?_)
      refine m_iret hx hb hr hlk hH dX4_row_24 ?_
      unfold rowF
      rw [if_neg (by omega)]
