theorem kd_X0_row : yX0_row.cls = RX0 ∧ yX0_row.cls ≠ "java/lang/invoke/MethodHandle" ∧ yX0_row.cls ≠ "java/lang/invoke/VarHandle" ∧ (parseMethodDescriptor yX0_row.desc).map (fun d => d.parameters.length) = some 1 := by decide +kernel
set_option maxHeartbeats 4000000 in
theorem xm_X0_row (l : Launch) (G : MG) (M : Hp) (σ : St) (x : XGh) (ω : XCt) (a : Nat) (w_ : Int) (sz : Nat) (hR : RX G M a σ x ω) (h_w_ : R32 w_) (ht0 : 0 ≤ σ 9 0) (ht1 : σ 9 0 ≤ 400) (hb8 : ∀ i, 0 ≤ i → i < 400 → -128 ≤ σ 7 i ∧ σ 7 i < 128) (hI : KI (σ 2)) (hT : TT (σ 2)) (h40 : F40 σ) : Met l yX0_row (ws_ yX0_row cX0_row 8 (some .int)) (rmX 6 100 600) (xP G XN [.ref a, .int (iI w_)] M sz) (xQi G (DA M sz) (fun z M' => z = (rowF σ w_).1 ∧ ∃ x' ω', RX G M' a (rowF σ w_).2 x' ω')) 100 600 (DA M sz) := by
  refine x_start (by decide) (Nat.le_of_ble_eq_true rfl) ?_
  intro p e s m below meth c ⟨S, hr, hlk, hH, hK, hXN, hsz, hnm⟩ ls hl
  subst hsz
  obtain ⟨hx, hb, hml, hown, hts⟩ := S
  have S : CallFix p m c _ _ s _ lw_all RX0 := ⟨hx, hb, hml, hown, hts⟩
  have hA : ∀ q, s.heap.size ≤ q → DA M s.heap.size q := fun q hq => Or.inr hq
  have hl : lv_has ls 8 [(0, .ref a), (1, .int (iI w_))] := hl
  have b0 := hI.c
  unfold kCnt at b0
  have h_w_ := R32.n h_w_
  have hW := WK_of hI hT
  by_cases hw : w_ = 0
  · -- rows of 10
    have L55 : ∀ (q : Nat) (N1 : Hp) (xp : XGh) (ωp : XCt) (τ : St) (n_ : Int) (cr : Int), (hRp : RX G N1 a τ xp ωp) → (hW1 : WK (τ 2)) → (hF1 : F40 τ) → (he : rwN σ w_ cr.toNat = (n_, τ)) → (h0 : 0 ≤ cr) → (h1 : 10 * cr ≤ σ 9 0) → (hq : σ 9 0 < (q : Int) + 10 * cr) → (hn0 : 0 ≤ n_ ∧ n_ ≤ cr) → (ht7 : τ 7 = σ 7) → (hs0 : ¬ σ 9 0 = 0) → (hwr : 0 ≤ w_ ∧ w_ ≤ 1) → ∀ (H : Heap) (locs : List Loc) (ls : Array Slot), XV G (DA M s.heap.size) N1 s.heap H locs → lv_has ls 8 [(0, .ref a), (1, .int (iI w_)), (2, .int (iI (σ 9 0))), (3, .int (iI n_)), (4, .int (iI 10)), (5, .int (iI (10 * cr)))] → W p l e (rmX 6 100 600) s m ([.ref a, .int (iI w_)] : List Value).toArray below meth c H locs (2 * cr.toNat) (12 * cr.toNat) (MQ below (xQi G (DA M s.heap.size) (fun z M' => z = (rowF σ w_).1 ∧ ∃ x' ω', RX G M' a (rowF σ w_).2 x' ω')) ([.ref a, .int (iI w_)] : List Value).toArray s 100 600 (DA M s.heap.size)) (F0 m 55 ls []) := by
      intro q
      induction q with
      | zero => intro N1 xp ωp τ n_ cr hRp hW1 hF1 he h0 h1 hq hn0 ht7 hs0 hwr; exfalso; omega
      | succ q ih_55 =>
        intro N1 xp ωp τ n_ cr hRp hW1 hF1 he h0 h1 hq hn0 ht7 hs0 hwr H locs ls hH hl
        have b1 := hW1.1
        unfold kCnt at b1
        refine lv_iload hx hb dX0_row_55 (lv_at hl 5 rfl) ?_
        refine lv_iload hx hb dX0_row_57 (lv_at hl 4 rfl) ?_
        refine n_iadd hx hb dX0_row_59 ?_
        refine lv_iload_n hx hb dX0_row_60 rfl (lv_at hl 2 rfl) ?_
        refine n_icmp_gt (tgt := 261) hx hb (r32 (by omega)) (r32 (by omega)) dX0_row_61 (by decide) (fun c_61 => ?_) (fun c_61 => ?_)
        · -- 61T
          have hcr : σ 9 0 / rwd w_ = cr := by rw [rwd_0 hw]; omega
          refine lv_aload_n hx hb dX0_row_261 rfl (lv_at hl 0 rfl) ?_
          refine lv_iload_n hx hb dX0_row_262 rfl (lv_at hl 3 rfl) ?_
          refine x_calli (x_runV (As := [.int (iI n_)]) (rest := []) S hH hK (fun _ _ hW => XN.warm hW hXN) XN_b hl.1 hRp.o rfl (xm_X0_done l G N1 τ xp ωp a n_ _ hRp) (lw_V q425 q427 qs1 q105 q428) kd_X0_done rfl rfl dX0_row_263 (hf := ⟨by dsimp only [rmX]; omega, by dsimp only [rmX]; omega⟩)) hH hA (fun z263 M263_ H locs q_263 hH hz_263 => ?_)
          obtain ⟨e_263, ω263x, hR263x⟩ := q_263
          subst e_263
          refine W.widen (k := 100) (n := 600) (by omega) (by omega) ?_
          refine x_iret hx hb hr hlk hH dX0_row_266 ?_
          exact cmd_ret2 (F := rowF σ w_) (by rw [rowF, if_pos (by omega), if_neg hs0, hcr, he]) hR263x
        · -- 61F
          have L129 : ∀ (q1 : Nat) (N2 : Hp) (ωr : XCt) (j : Int), (hRr : RX G N2 a τ xp ωr) → (j0 : 0 ≤ j) → (j1 : j ≤ 9) → (hq1 : 9 < (q1 : Int) + j) → (hsh : ∀ i, 0 ≤ i → i < j → gy ωr 22 i = τ 7 (10 * cr + i) % 256) → ∀ (H : Heap) (locs : List Loc) (ls : Array Slot), XV G (DA M s.heap.size) N2 s.heap H locs → lv_has ls 8 [(0, .ref a), (1, .int (iI w_)), (2, .int (iI (σ 9 0))), (3, .int (iI n_)), (4, .int (iI 10)), (5, .int (iI (10 * cr))), (6, .int (iI (if rgN (σ 7) (10 * cr) (rg0 (τ 2) w_) j.toNat ≠ 0 ∧ (σ 7 (10 * cr + 9)) % 256 ≤ 1 then (1 : Int) else 0))), (7, .int (iI j))] → W p l e (rmX 6 100 600) s m ([.ref a, .int (iI w_)] : List Value).toArray below meth c H locs (2 * cr.toNat) (12 * cr.toNat) (MQ below (xQi G (DA M s.heap.size) (fun z M' => z = (rowF σ w_).1 ∧ ∃ x' ω', RX G M' a (rowF σ w_).2 x' ω')) ([.ref a, .int (iI w_)] : List Value).toArray s 100 600 (DA M s.heap.size)) (F0 m 129 ls []) := by
            intro q1
            induction q1 with
            | zero => intro N2 ωr j hRr j0 j1 hq1 hsh; exfalso; omega
            | succ q1 ih_129 =>
              intro N2 ωr j hRr j0 j1 hq1 hsh H locs ls hH hl
              refine lv_iload hx hb dX0_row_129 (lv_at hl 7 rfl) ?_
              refine n_bipush (z := 9) hx hb dX0_row_131 (by decide) ?_
              refine n_icmp_ge (tgt := 196) hx hb (r32 (by omega)) (r32 (by omega)) dX0_row_133 (by decide) (fun c_133 => ?_) (fun c_133 => ?_)
              · -- 133T
                have hj9 : j = 9 := by omega
                refine lv_iload hx hb dX0_row_196 (lv_at hl 6 rfl) ?_
                refine n_if_ne (tgt := 204) hx hb (r32 (by omega)) dX0_row_198 (by decide) (fun c_198 => ?_) (fun c_198 => ?_)
                · -- 198T
                  have h8 := hb8 (10 * cr + 9) (by omega) (by omega)
                  have hp9 : σ 7 (10 * cr + 9) % 256 ≤ 1 := by rw [hj9] at c_198; exact rg10_p c_198
                  refine lv_iload_n hx hb dX0_row_204 rfl (lv_at hl 1 rfl) ?_
                  refine n_if_ne (tgt := 239) hx hb (r32 (by omega)) dX0_row_205 (by decide) (fun c_205 => ?_) (fun c_205 => ?_)
                  · exact absurd hw c_205
                  · -- 205F
                    refine lv_aload_n hx hb dX0_row_208 rfl (lv_at hl 0 rfl) ?_
                    refine lv_aload_n hx hb dX0_row_209 rfl (lv_at hl 0 rfl) ?_
                    refine x_get hx hb hts in_X0 hown hK hH hRr.o rfl 4 (by decide) q343 (fun _ h9 => h9) rfl (by decide) dX0_row_210 ?_
                    refine lv_aload_n hx hb dX0_row_213 rfl (lv_at hl 0 rfl) ?_
                    refine x_get hx hb hts in_X0 hown hK hH hRr.o rfl 5 (by decide) q345 (fun _ h9 => h9) rfl (by decide) dX0_row_214 ?_
                    refine lv_iload hx hb dX0_row_217 (lv_at hl 5 rfl) ?_
                    refine n_bipush (z := 9) hx hb dX0_row_219 (by decide) ?_
                    refine n_iadd hx hb dX0_row_221 ?_
                    refine x_bald hx hb hK hH hRr.p5 (by omega) (by omega) (Nat.le_of_ble_eq_true rfl) dX0_row_222 ?_
                    refine W.eq (g2 := F0 m 223 ls (.int (iI (τ 7 ((10 * cr) + 9))) :: .ref (gp xp 4) :: .ref a :: [])) (by first | (rw [hRr.tape (by omega) (by omega)]; done) | (rw [hRr.tape (by omega) (by omega)]; rfl)) ?_
                    refine W.eq (g2 := F0 m 223 ls (.int (iI (σ 7 (10 * cr + 9))) :: .ref (gp xp 4) :: .ref a :: [])) (by rw [ht7]) ?_
                    refine n_iconst hx hb dX0_row_223 ?_
                    refine n_icmp_ne (tgt := 231) hx hb (r32 (by omega)) (r32 (by omega)) dX0_row_224 (by decide) (fun c_224 => ?_) (fun c_224 => ?_)
                    · -- 224T
                      refine n_iconst hx hb dX0_row_231 ?_
                      refine W.eq (g2 := F0 m 232 ls (.int (iI (τ 7 (10 * cr + 9) % 256)) :: .ref (gp xp 4) :: .ref a :: [])) (by rw [ht7, show σ 7 (10 * cr + 9) % 256 = 0 by omega]) ?_
                      refine x_calli (x_runV (As := [.ref (gp xp 4), .int (iI (τ 7 (10 * cr + 9) % 256))]) (rest := []) S hH hK (fun _ _ hW => XN.warm hW hXN) XN_b hl.1 hRr.o rfl (xm_X0_addLook l G N2 τ xp ωr (fun k => τ 7 (10 * cr + k) % 256) a (τ 7 (10 * cr + 9) % 256) _ hRr hW1 hF1 (by rw [hj9] at c_198; exact rg_l hw (rg10_n c_198)) (fun i i0 i1 => hsh i i0 (by omega)) (by rw [ht7]; omega)) (lw_V q744 q746 qs8 q105 q747) kd_X0_addLook rfl rfl dX0_row_232 (hf := ⟨by dsimp only [rmX]; omega, by dsimp only [rmX]; omega⟩)) hH hA (fun z232 M232_ H locs q_232 hH hz_232 => ?_)
                      obtain ⟨e_232, x232x, ω232x, hR232x, hW232x, hF232x⟩ := q_232
                      subst e_232
                      refine lv_pop hx hb dX0_row_235 rfl ?_
                      refine lv_goto (tgt := 248) hx hb dX0_row_236 (by decide) ?_
                      refine n_iinc hx hb dX0_row_248 hl (k := 3) rfl (Nat.le_of_ble_eq_true rfl) (lv' := [(3, .int (iI (n_ + 1))), (0, .ref a), (1, .int (iI w_)), (2, .int (iI (σ 9 0))), (4, .int (iI 10)), (5, .int (iI (10 * cr))), (6, .int (iI (if rgN (σ 7) (10 * cr) (rg0 (τ 2) w_) j.toNat ≠ 0 ∧ (σ 7 (10 * cr + 9)) % 256 ≤ 1 then (1 : Int) else 0))), (7, .int (iI j))]) rfl (fun ls hl => ?_)
                      refine lv_iload hx hb dX0_row_251 (lv_at hl 5 rfl) ?_
                      refine lv_iload hx hb dX0_row_253 (lv_at hl 4 rfl) ?_
                      refine n_iadd hx hb dX0_row_255 ?_
                      refine lv_istore hx hb dX0_row_256 hl (Nat.le_of_ble_eq_true rfl) (lv' := [(5, .int (iI ((10 * cr) + 10))), (3, .int (iI (n_ + 1))), (0, .ref a), (1, .int (iI w_)), (2, .int (iI (σ 9 0))), (4, .int (iI 10)), (6, .int (iI (if rgN (σ 7) (10 * cr) (rg0 (τ 2) w_) j.toNat ≠ 0 ∧ (σ 7 (10 * cr + 9)) % 256 ≤ 1 then (1 : Int) else 0))), (7, .int (iI j))]) rfl (fun ls hl => ?_)
                      refine lv_goto (tgt := 55) hx hb dX0_row_258 (by decide) ?_
                      have hl : lv_has ls 8 [(0, .ref a), (1, .int (iI w_)), (2, .int (iI (σ 9 0))), (3, .int (iI (n_ + 1))), (4, .int (iI 10)), (5, .int (iI ((10 * cr) + 10)))] := lv_sub hl [2, 3, 4, 1, 5, 0] rfl
                      have hl : lv_has ls 8 [(0, .ref a), (1, .int (iI w_)), (2, .int (iI (σ 9 0))), (3, .int (iI (n_ + 1))), (4, .int (iI 10)), (5, .int (iI (10 * (cr + 1))))] := by rw [show 10 * (cr + 1) = 10 * cr + 10 by omega]; exact hl
                      refine W.widen (k := 2 * (cr + 1).toNat) (n := 12 * (cr + 1).toNat) (by omega) (by omega) ?_
                      refine ih_55 M232_ x232x ω232x (addL τ (fun k => τ 7 (10 * cr + k) % 256) (τ 7 (10 * cr + 9) % 256)) (n_ + 1) (cr + 1) ?_ ?_ ?_ ?_ ?_ ?_ ?_ ?_ ?_ ?_ ?_ _ _ _ hH hl
                      · exact hR232x
                      · exact hW232x
                      · exact hF232x
                      · rw [rwN_0 hw h0 he, if_neg (by rw [hj9] at c_198; exact rg10_n c_198), rwB_L hw (by omega)]
                      · omega
                      · omega
                      · omega
                      · omega
                      · rw [addL_g (by decide)]; exact ht7
                      · exact hs0
                      · omega
                    · -- 224F
                      refine n_iconst hx hb dX0_row_227 ?_
                      refine lv_goto (tgt := 232) hx hb dX0_row_228 (by decide) ?_
                      refine W.eq (g2 := F0 m 232 ls (.int (iI (τ 7 (10 * cr + 9) % 256)) :: .ref (gp xp 4) :: .ref a :: [])) (by rw [ht7, show σ 7 (10 * cr + 9) % 256 = 1 by omega]) ?_
                      refine x_calli (x_runV (As := [.ref (gp xp 4), .int (iI (τ 7 (10 * cr + 9) % 256))]) (rest := []) S hH hK (fun _ _ hW => XN.warm hW hXN) XN_b hl.1 hRr.o rfl (xm_X0_addLook l G N2 τ xp ωr (fun k => τ 7 (10 * cr + k) % 256) a (τ 7 (10 * cr + 9) % 256) _ hRr hW1 hF1 (by rw [hj9] at c_198; exact rg_l hw (rg10_n c_198)) (fun i i0 i1 => hsh i i0 (by omega)) (by rw [ht7]; omega)) (lw_V q744 q746 qs8 q105 q747) kd_X0_addLook rfl rfl dX0_row_232 (hf := ⟨by dsimp only [rmX]; omega, by dsimp only [rmX]; omega⟩)) hH hA (fun z232 M232_ H locs q_232 hH hz_232 => ?_)
                      obtain ⟨e_232, x232x, ω232x, hR232x, hW232x, hF232x⟩ := q_232
                      subst e_232
                      refine lv_pop hx hb dX0_row_235 rfl ?_
                      refine lv_goto (tgt := 248) hx hb dX0_row_236 (by decide) ?_
                      refine n_iinc hx hb dX0_row_248 hl (k := 3) rfl (Nat.le_of_ble_eq_true rfl) (lv' := [(3, .int (iI (n_ + 1))), (0, .ref a), (1, .int (iI w_)), (2, .int (iI (σ 9 0))), (4, .int (iI 10)), (5, .int (iI (10 * cr))), (6, .int (iI (if rgN (σ 7) (10 * cr) (rg0 (τ 2) w_) j.toNat ≠ 0 ∧ (σ 7 (10 * cr + 9)) % 256 ≤ 1 then (1 : Int) else 0))), (7, .int (iI j))]) rfl (fun ls hl => ?_)
                      refine lv_iload hx hb dX0_row_251 (lv_at hl 5 rfl) ?_
                      refine lv_iload hx hb dX0_row_253 (lv_at hl 4 rfl) ?_
                      refine n_iadd hx hb dX0_row_255 ?_
                      refine lv_istore hx hb dX0_row_256 hl (Nat.le_of_ble_eq_true rfl) (lv' := [(5, .int (iI ((10 * cr) + 10))), (3, .int (iI (n_ + 1))), (0, .ref a), (1, .int (iI w_)), (2, .int (iI (σ 9 0))), (4, .int (iI 10)), (6, .int (iI (if rgN (σ 7) (10 * cr) (rg0 (τ 2) w_) j.toNat ≠ 0 ∧ (σ 7 (10 * cr + 9)) % 256 ≤ 1 then (1 : Int) else 0))), (7, .int (iI j))]) rfl (fun ls hl => ?_)
                      refine lv_goto (tgt := 55) hx hb dX0_row_258 (by decide) ?_
                      have hl : lv_has ls 8 [(0, .ref a), (1, .int (iI w_)), (2, .int (iI (σ 9 0))), (3, .int (iI (n_ + 1))), (4, .int (iI 10)), (5, .int (iI ((10 * cr) + 10)))] := lv_sub hl [2, 3, 4, 1, 5, 0] rfl
                      have hl : lv_has ls 8 [(0, .ref a), (1, .int (iI w_)), (2, .int (iI (σ 9 0))), (3, .int (iI (n_ + 1))), (4, .int (iI 10)), (5, .int (iI (10 * (cr + 1))))] := by rw [show 10 * (cr + 1) = 10 * cr + 10 by omega]; exact hl
                      refine W.widen (k := 2 * (cr + 1).toNat) (n := 12 * (cr + 1).toNat) (by omega) (by omega) ?_
                      refine ih_55 M232_ x232x ω232x (addL τ (fun k => τ 7 (10 * cr + k) % 256) (τ 7 (10 * cr + 9) % 256)) (n_ + 1) (cr + 1) ?_ ?_ ?_ ?_ ?_ ?_ ?_ ?_ ?_ ?_ ?_ _ _ _ hH hl
                      · exact hR232x
                      · exact hW232x
                      · exact hF232x
                      · rw [rwN_0 hw h0 he, if_neg (by rw [hj9] at c_198; exact rg10_n c_198), rwB_L hw (by omega)]
                      · omega
                      · omega
                      · omega
                      · omega
                      · rw [addL_g (by decide)]; exact ht7
                      · exact hs0
                      · omega
                · -- 198F
                  refine lv_goto (tgt := 251) hx hb dX0_row_201 (by decide) ?_
                  refine lv_iload hx hb dX0_row_251 (lv_at hl 5 rfl) ?_
                  refine lv_iload hx hb dX0_row_253 (lv_at hl 4 rfl) ?_
                  refine n_iadd hx hb dX0_row_255 ?_
                  refine lv_istore hx hb dX0_row_256 hl (Nat.le_of_ble_eq_true rfl) (lv' := [(5, .int (iI ((10 * cr) + 10))), (0, .ref a), (1, .int (iI w_)), (2, .int (iI (σ 9 0))), (3, .int (iI n_)), (4, .int (iI 10)), (6, .int (iI (if rgN (σ 7) (10 * cr) (rg0 (τ 2) w_) j.toNat ≠ 0 ∧ (σ 7 (10 * cr + 9)) % 256 ≤ 1 then (1 : Int) else 0))), (7, .int (iI j))]) rfl (fun ls hl => ?_)
                  refine lv_goto (tgt := 55) hx hb dX0_row_258 (by decide) ?_
                  have hl : lv_has ls 8 [(0, .ref a), (1, .int (iI w_)), (2, .int (iI (σ 9 0))), (3, .int (iI n_)), (4, .int (iI 10)), (5, .int (iI ((10 * cr) + 10)))] := lv_sub hl [1, 2, 3, 4, 5, 0] rfl
                  have hl : lv_has ls 8 [(0, .ref a), (1, .int (iI w_)), (2, .int (iI (σ 9 0))), (3, .int (iI n_)), (4, .int (iI 10)), (5, .int (iI (10 * (cr + 1))))] := by rw [show 10 * (cr + 1) = 10 * cr + 10 by omega]; exact hl
                  refine W.widen (k := 2 * (cr + 1).toNat) (n := 12 * (cr + 1).toNat) (by omega) (by omega) ?_
                  refine ih_55 N2 xp ωr τ n_ (cr + 1) ?_ ?_ ?_ ?_ ?_ ?_ ?_ ?_ ?_ ?_ ?_ _ _ _ hH hl
                  · exact hRr
                  · exact hW1
                  · exact hF1
                  · rw [rwN_0 hw h0 he, if_pos (by rw [hj9] at c_198; exact rg10_z c_198)]
                  · omega
                  · omega
                  · omega
                  · omega
                  · exact ht7
                  · exact hs0
                  · omega
              · -- 133F
                have h8j := hb8 (10 * cr + j) (by omega) (by omega)
                refine lv_aload_n hx hb dX0_row_136 rfl (lv_at hl 0 rfl) ?_
                refine x_get hx hb hts in_X0 hown hK hH hRr.o rfl 4 (by decide) q343 (fun _ h9 => h9) rfl (by decide) dX0_row_137 ?_
                refine x_get hx hb hts in_X2 hown hK hH hRr.p4 rfl 0 (by decide) q262 (fun _ h9 => h9) rfl (by decide) dX0_row_140 ?_
                refine lv_iload hx hb dX0_row_143 (lv_at hl 7 rfl) ?_
                refine lv_aload_n hx hb dX0_row_145 rfl (lv_at hl 0 rfl) ?_
                refine x_get hx hb hts in_X0 hown hK hH hRr.o rfl 5 (by decide) q345 (fun _ h9 => h9) rfl (by decide) dX0_row_146 ?_
                refine lv_iload hx hb dX0_row_149 (lv_at hl 5 rfl) ?_
                refine lv_iload hx hb dX0_row_151 (lv_at hl 7 rfl) ?_
                refine n_iadd hx hb dX0_row_153 ?_
                refine x_bald hx hb hK hH hRr.p5 (by omega) (by omega) (Nat.le_of_ble_eq_true rfl) dX0_row_154 ?_
                refine W.eq (g2 := F0 m 155 ls (.int (iI (τ 7 ((10 * cr) + j))) :: .int (iI j) :: .ref (gp xp 22) :: [])) (by first | (rw [hRr.tape (by omega) (by omega)]; done) | (rw [hRr.tape (by omega) (by omega)]; rfl)) ?_
                refine W.eq (g2 := F0 m 155 ls (.int (iI (σ 7 (10 * cr + j))) :: .int (iI j) :: .ref (gp xp 22) :: [])) (by rw [ht7]) ?_
                refine n_sipush (z := 255) hx hb dX0_row_155 (by decide) ?_
                refine n_and255 hx hb dX0_row_158 ?_
                refine x_iast hx hb hK hH hRr.p22 (by omega) (by omega) (Nat.le_of_ble_eq_true rfl) dX0_row_159 (fun H locs hH => ?_)
                obtain ⟨M1, e_M1⟩ : ∃ M1, M1 = hs N2 (gp xp 22) (aI (G.2.1 0) 9 (up (gy ωr 22) j ((σ 7 (10 * cr + j)) % 256))) := ⟨_, rfl⟩
                have hH := XV_to hH e_M1.symm
                have f1 : M1 (gp xp 22) = some (aI (G.2.1 0) 9 (up (gy ωr 22) j ((σ 7 (10 * cr + j)) % 256))) := by rw [e_M1]; exact hs_s
                obtain ⟨ω2, hR2, hY2, hZ2⟩ : ∃ ω2, RX G M1 a τ xp ω2 ∧ gy ω2 22 = up (gy ωr 22) j ((σ 7 (10 * cr + j)) % 256) ∧ ∀ j, j ≠ 22 → gy ω2 j = gy ωr j := ⟨_, by rw [e_M1]; exact hRr.scr (k := 22) (by decide) rfl (fun q => absurd q (by decide)), yS_s, fun j h => yS_n h⟩
                refine lv_iload hx hb dX0_row_160 (lv_at hl 6 rfl) ?_
                refine n_if_eq (tgt := 187) hx hb (r32 (by omega)) dX0_row_162 (by decide) (fun c_162 => ?_) (fun c_162 => ?_)
                · -- 162T
                  refine n_iconst hx hb dX0_row_187 ?_
                  refine lv_istore hx hb dX0_row_188 hl (Nat.le_of_ble_eq_true rfl) (lv' := [(6, .int (iI 0)), (0, .ref a), (1, .int (iI w_)), (2, .int (iI (σ 9 0))), (3, .int (iI n_)), (4, .int (iI 10)), (5, .int (iI (10 * cr))), (7, .int (iI j))]) rfl (fun ls hl => ?_)
                  refine n_iinc hx hb dX0_row_190 hl (k := 7) rfl (Nat.le_of_ble_eq_true rfl) (lv' := [(7, .int (iI (j + 1))), (6, .int (iI 0)), (0, .ref a), (1, .int (iI w_)), (2, .int (iI (σ 9 0))), (3, .int (iI n_)), (4, .int (iI 10)), (5, .int (iI (10 * cr)))]) rfl (fun ls hl => ?_)
                  refine lv_goto (tgt := 129) hx hb dX0_row_193 (by decide) ?_
                  have hl : lv_has ls 8 [(0, .ref a), (1, .int (iI w_)), (2, .int (iI (σ 9 0))), (3, .int (iI n_)), (4, .int (iI 10)), (5, .int (iI (10 * cr))), (6, .int (iI 0)), (7, .int (iI (j + 1)))] := lv_sub hl [2, 3, 4, 5, 6, 7, 1, 0] rfl
                  have hl : lv_has ls 8 [(0, .ref a), (1, .int (iI w_)), (2, .int (iI (σ 9 0))), (3, .int (iI n_)), (4, .int (iI 10)), (5, .int (iI (10 * cr))), (6, .int (iI (if rgN (σ 7) (10 * cr) (rg0 (τ 2) w_) (j + 1).toNat ≠ 0 ∧ (σ 7 (10 * cr + 9)) % 256 ≤ 1 then (1 : Int) else 0))), (7, .int (iI (j + 1)))] := by rw [pg_s j0, if_neg (fun z => z.1 c_162)]; exact hl
                  refine W.widen (k := 2 * cr.toNat) (n := 12 * cr.toNat) (by omega) (by omega) ?_
                  refine ih_129 M1 ω2 (j + 1) ?_ ?_ ?_ ?_ ?_ _ _ _ hH hl
                  · exact hR2
                  · omega
                  · omega
                  · omega
                  · intro i a b
                    rw [hY2]
                    by_cases z : i = j
                    · subst z; rw [up_s, ht7]
                    · rw [up_n z]; exact hsh i a (by omega)
                · -- 162F
                  refine lv_iload hx hb dX0_row_165 (lv_at hl 7 rfl) ?_
                  refine lv_aload_n hx hb dX0_row_167 rfl (lv_at hl 0 rfl) ?_
                  refine x_get hx hb hts in_X0 hown hK hH hR2.o rfl 4 (by decide) q343 (fun _ h9 => h9) rfl (by decide) dX0_row_168 ?_
                  refine x_get hx hb hts in_X2 hown hK hH hR2.p4 rfl 0 (by decide) q262 (fun _ h9 => h9) rfl (by decide) dX0_row_171 ?_
                  refine lv_iload hx hb dX0_row_174 (lv_at hl 7 rfl) ?_
                  refine x_iald hx hb hK hH hR2.p22 (by omega) (by omega) (Nat.le_of_ble_eq_true rfl) dX0_row_176 ?_
                  refine W.eq (g2 := F0 m 177 ls (.int (iI ((σ 7 (10 * cr + j)) % 256)) :: .int (iI j) :: [])) (by rw [hY2, up_s]) ?_
                  refine x_calliF (x_runS (As := [.int (iI j), .int (iI ((σ 7 (10 * cr + j)) % 256))]) (rest := []) S hH hK (fun _ _ hW => XN.warm hW hXN) XN_b hl.1 (xm_X0_isCaseNumber l G M1 j ((σ 7 (10 * cr + j)) % 256) _ (r32 (by omega)) (r32 (by omega)) (by omega) (by omega)) (lw_S q783 q784 q105 q785) kd_X0_isCaseNumber rfl rfl dX0_row_177 (hf := ⟨by dsimp only [rmX]; omega, by dsimp only [rmX]; omega⟩)) hH hA (fun H locs hH => ?_)
                  refine z_if_eq (tgt := 187) hx hb dX0_row_180 (by decide) (fun c_180 => ?_) (fun c_180 => ?_)
                  · -- 180T
                    refine n_iconst hx hb dX0_row_187 ?_
                    refine lv_istore hx hb dX0_row_188 hl (Nat.le_of_ble_eq_true rfl) (lv' := [(6, .int (iI 0)), (0, .ref a), (1, .int (iI w_)), (2, .int (iI (σ 9 0))), (3, .int (iI n_)), (4, .int (iI 10)), (5, .int (iI (10 * cr))), (7, .int (iI j))]) rfl (fun ls hl => ?_)
                    refine n_iinc hx hb dX0_row_190 hl (k := 7) rfl (Nat.le_of_ble_eq_true rfl) (lv' := [(7, .int (iI (j + 1))), (6, .int (iI 0)), (0, .ref a), (1, .int (iI w_)), (2, .int (iI (σ 9 0))), (3, .int (iI n_)), (4, .int (iI 10)), (5, .int (iI (10 * cr)))]) rfl (fun ls hl => ?_)
                    refine lv_goto (tgt := 129) hx hb dX0_row_193 (by decide) ?_
                    have hl : lv_has ls 8 [(0, .ref a), (1, .int (iI w_)), (2, .int (iI (σ 9 0))), (3, .int (iI n_)), (4, .int (iI 10)), (5, .int (iI (10 * cr))), (6, .int (iI 0)), (7, .int (iI (j + 1)))] := lv_sub hl [2, 3, 4, 5, 6, 7, 1, 0] rfl
                    have hl : lv_has ls 8 [(0, .ref a), (1, .int (iI w_)), (2, .int (iI (σ 9 0))), (3, .int (iI n_)), (4, .int (iI 10)), (5, .int (iI (10 * cr))), (6, .int (iI (if rgN (σ 7) (10 * cr) (rg0 (τ 2) w_) (j + 1).toNat ≠ 0 ∧ (σ 7 (10 * cr + 9)) % 256 ≤ 1 then (1 : Int) else 0))), (7, .int (iI (j + 1)))] := by rw [pg_s j0, if_neg (fun z => c_180 z.2)]; exact hl
                    refine W.widen (k := 2 * cr.toNat) (n := 12 * cr.toNat) (by omega) (by omega) ?_
                    refine ih_129 M1 ω2 (j + 1) ?_ ?_ ?_ ?_ ?_ _ _ _ hH hl
                    · exact hR2
                    · omega
                    · omega
                    · omega
                    · intro i a b
                      rw [hY2]
                      by_cases z : i = j
                      · subst z; rw [up_s, ht7]
                      · rw [up_n z]; exact hsh i a (by omega)
                  · -- 180F
                    refine n_iconst hx hb dX0_row_183 ?_
                    refine lv_goto (tgt := 188) hx hb dX0_row_184 (by decide) ?_
                    refine lv_istore hx hb dX0_row_188 hl (Nat.le_of_ble_eq_true rfl) (lv' := [(6, .int (iI 1)), (0, .ref a), (1, .int (iI w_)), (2, .int (iI (σ 9 0))), (3, .int (iI n_)), (4, .int (iI 10)), (5, .int (iI (10 * cr))), (7, .int (iI j))]) rfl (fun ls hl => ?_)
                    refine n_iinc hx hb dX0_row_190 hl (k := 7) rfl (Nat.le_of_ble_eq_true rfl) (lv' := [(7, .int (iI (j + 1))), (6, .int (iI 1)), (0, .ref a), (1, .int (iI w_)), (2, .int (iI (σ 9 0))), (3, .int (iI n_)), (4, .int (iI 10)), (5, .int (iI (10 * cr)))]) rfl (fun ls hl => ?_)
                    refine lv_goto (tgt := 129) hx hb dX0_row_193 (by decide) ?_
                    have hl : lv_has ls 8 [(0, .ref a), (1, .int (iI w_)), (2, .int (iI (σ 9 0))), (3, .int (iI n_)), (4, .int (iI 10)), (5, .int (iI (10 * cr))), (6, .int (iI 1)), (7, .int (iI (j + 1)))] := lv_sub hl [2, 3, 4, 5, 6, 7, 1, 0] rfl
                    have hl : lv_has ls 8 [(0, .ref a), (1, .int (iI w_)), (2, .int (iI (σ 9 0))), (3, .int (iI n_)), (4, .int (iI 10)), (5, .int (iI (10 * cr))), (6, .int (iI (if rgN (σ 7) (10 * cr) (rg0 (τ 2) w_) (j + 1).toNat ≠ 0 ∧ (σ 7 (10 * cr + 9)) % 256 ≤ 1 then (1 : Int) else 0))), (7, .int (iI (j + 1)))] := by rw [pg_s j0, if_pos ⟨c_162, c_180⟩]; exact hl
                    refine W.widen (k := 2 * cr.toNat) (n := 12 * cr.toNat) (by omega) (by omega) ?_
                    refine ih_129 M1 ω2 (j + 1) ?_ ?_ ?_ ?_ ?_ _ _ _ hH hl
                    · exact hR2
                    · omega
                    · omega
                    · omega
                    · intro i a b
                      rw [hY2]
                      by_cases z : i = j
                      · subst z; rw [up_s, ht7]
                      · rw [up_n z]; exact hsh i a (by omega)
          refine lv_iload_n hx hb dX0_row_64 rfl (lv_at hl 1 rfl) ?_
          refine n_if_ne (tgt := 107) hx hb (r32 (by omega)) dX0_row_65 (by decide) (fun c_65 => ?_) (fun c_65 => ?_)
          · exact absurd hw c_65
          · -- 65F
            refine lv_aload_n hx hb dX0_row_68 rfl (lv_at hl 0 rfl) ?_
            refine x_get hx hb hts in_X0 hown hK hH hRp.o rfl 0 (by decide) q339 (fun _ h9 => h9) rfl (by decide) dX0_row_69 ?_
            refine x_getN hx hb hts in_X1 hown hK hH hRp.b0 rfl 3 (by decide) hXN q168 (fun _ h9 => h9) rfl (by decide) dX0_row_72 ?_
            refine n_bipush (z := 40) hx hb dX0_row_75 (by decide) ?_
            refine n_icmp_ge (tgt := 103) hx hb (r32 (by omega)) (r32 (by omega)) dX0_row_77 (by decide) (fun c_77 => ?_) (fun c_77 => ?_)
            · -- 77T
              refine n_iconst hx hb dX0_row_103 ?_
              refine lv_goto (tgt := 124) hx hb dX0_row_104 (by decide) ?_
              refine lv_istore hx hb dX0_row_124 hl (Nat.le_of_ble_eq_true rfl) (lv' := [(6, .int (iI 0)), (0, .ref a), (1, .int (iI w_)), (2, .int (iI (σ 9 0))), (3, .int (iI n_)), (4, .int (iI 10)), (5, .int (iI (10 * cr)))]) rfl (fun ls hl => ?_)
              refine n_iconst hx hb dX0_row_126 ?_
              refine lv_istore hx hb dX0_row_127 hl (Nat.le_of_ble_eq_true rfl) (lv' := [(7, .int (iI 0)), (6, .int (iI 0)), (0, .ref a), (1, .int (iI w_)), (2, .int (iI (σ 9 0))), (3, .int (iI n_)), (4, .int (iI 10)), (5, .int (iI (10 * cr)))]) rfl (fun ls hl => ?_)
              have hl : lv_has ls 8 [(0, .ref a), (1, .int (iI w_)), (2, .int (iI (σ 9 0))), (3, .int (iI n_)), (4, .int (iI 10)), (5, .int (iI (10 * cr))), (6, .int (iI 0)), (7, .int (iI 0))] := lv_sub hl [2, 3, 4, 5, 6, 7, 1, 0] rfl
              have hl : lv_has ls 8 [(0, .ref a), (1, .int (iI w_)), (2, .int (iI (σ 9 0))), (3, .int (iI n_)), (4, .int (iI 10)), (5, .int (iI (10 * cr))), (6, .int (iI (if rgN (σ 7) (10 * cr) (rg0 (τ 2) w_) (0 : Int).toNat ≠ 0 ∧ (σ 7 (10 * cr + 9)) % 256 ≤ 1 then (1 : Int) else 0))), (7, .int (iI 0))] := by rw [if_neg (show ¬ (rgN (σ 7) (10 * cr) (rg0 (τ 2) w_) (0 : Int).toNat ≠ 0 ∧ (σ 7 (10 * cr + 9)) % 256 ≤ 1) by show ¬ (rg0 (τ 2) w_ ≠ 0 ∧ (σ 7 (10 * cr + 9)) % 256 ≤ 1); unfold rg0; rw [if_pos hw]; (repeat' split) <;> omega)]; exact hl
              refine W.widen (k := 2 * cr.toNat) (n := 12 * cr.toNat) (by omega) (by omega) ?_
              refine L129 11 N1 ωp 0 ?_ ?_ ?_ ?_ ?_ _ _ _ hH hl
              · exact hRp
              · omega
              · omega
              · omega
              · exact fun i a b => by omega
            · -- 77F
              have h8 := hb8 (10 * cr + 9) (by omega) (by omega)
              refine lv_aload_n hx hb dX0_row_80 rfl (lv_at hl 0 rfl) ?_
              refine x_get hx hb hts in_X0 hown hK hH hRp.o rfl 5 (by decide) q345 (fun _ h9 => h9) rfl (by decide) dX0_row_81 ?_
              refine lv_iload hx hb dX0_row_84 (lv_at hl 5 rfl) ?_
              refine n_bipush (z := 9) hx hb dX0_row_86 (by decide) ?_
              refine n_iadd hx hb dX0_row_88 ?_
              refine x_bald hx hb hK hH hRp.p5 (by omega) (by omega) (Nat.le_of_ble_eq_true rfl) dX0_row_89 ?_
              refine W.eq (g2 := F0 m 90 ls (.int (iI (τ 7 ((10 * cr) + 9))) :: [])) (by first | (rw [hRp.tape (by omega) (by omega)]; done) | (rw [hRp.tape (by omega) (by omega)]; rfl)) ?_
              refine W.eq (g2 := F0 m 90 ls (.int (iI (σ 7 (10 * cr + 9))) :: [])) (by rw [ht7]) ?_
              refine n_i2l hx hb (r32 (by omega)) dX0_row_90 ?_
              refine n_lconst (z := 0) hx hb dX0_row_91 (by decide) ?_
              refine n_lconst (z := 1) hx hb dX0_row_92 (by decide) ?_
              refine x_calliF (x_runS (As := [.long (lI (σ 7 (10 * cr + 9))), .long (lI 0), .long (lI 1)]) (rest := []) S hH hK (fun _ _ hW => XN.warm hW hXN) XN_b hl.1 (xm_X0_in l G N1 (σ 7 (10 * cr + 9)) 0 1 _ (r64 (by omega)) (r64 (by omega)) (r64 (by omega))) (lw_S q386 q387 q105 q388) kd_X0_in rfl rfl dX0_row_93 (hf := ⟨by dsimp only [rmX]; omega, by dsimp only [rmX]; omega⟩)) hH hA (fun H locs hH => ?_)
              refine z_if_eq (tgt := 103) hx hb dX0_row_96 (by decide) (fun c_96 => ?_) (fun c_96 => ?_)
              · -- 96T
                refine n_iconst hx hb dX0_row_103 ?_
                refine lv_goto (tgt := 124) hx hb dX0_row_104 (by decide) ?_
                refine lv_istore hx hb dX0_row_124 hl (Nat.le_of_ble_eq_true rfl) (lv' := [(6, .int (iI 0)), (0, .ref a), (1, .int (iI w_)), (2, .int (iI (σ 9 0))), (3, .int (iI n_)), (4, .int (iI 10)), (5, .int (iI (10 * cr)))]) rfl (fun ls hl => ?_)
                refine n_iconst hx hb dX0_row_126 ?_
                refine lv_istore hx hb dX0_row_127 hl (Nat.le_of_ble_eq_true rfl) (lv' := [(7, .int (iI 0)), (6, .int (iI 0)), (0, .ref a), (1, .int (iI w_)), (2, .int (iI (σ 9 0))), (3, .int (iI n_)), (4, .int (iI 10)), (5, .int (iI (10 * cr)))]) rfl (fun ls hl => ?_)
                have hl : lv_has ls 8 [(0, .ref a), (1, .int (iI w_)), (2, .int (iI (σ 9 0))), (3, .int (iI n_)), (4, .int (iI 10)), (5, .int (iI (10 * cr))), (6, .int (iI 0)), (7, .int (iI 0))] := lv_sub hl [2, 3, 4, 5, 6, 7, 1, 0] rfl
                have hl : lv_has ls 8 [(0, .ref a), (1, .int (iI w_)), (2, .int (iI (σ 9 0))), (3, .int (iI n_)), (4, .int (iI 10)), (5, .int (iI (10 * cr))), (6, .int (iI (if rgN (σ 7) (10 * cr) (rg0 (τ 2) w_) (0 : Int).toNat ≠ 0 ∧ (σ 7 (10 * cr + 9)) % 256 ≤ 1 then (1 : Int) else 0))), (7, .int (iI 0))] := by rw [if_neg (show ¬ (rgN (σ 7) (10 * cr) (rg0 (τ 2) w_) (0 : Int).toNat ≠ 0 ∧ (σ 7 (10 * cr + 9)) % 256 ≤ 1) by show ¬ (rg0 (τ 2) w_ ≠ 0 ∧ (σ 7 (10 * cr + 9)) % 256 ≤ 1); unfold rg0; rw [if_pos hw]; (repeat' split) <;> omega)]; exact hl
                refine W.widen (k := 2 * cr.toNat) (n := 12 * cr.toNat) (by omega) (by omega) ?_
                refine L129 11 N1 ωp 0 ?_ ?_ ?_ ?_ ?_ _ _ _ hH hl
                · exact hRp
                · omega
                · omega
                · omega
                · exact fun i a b => by omega
              · -- 96F
                refine n_iconst hx hb dX0_row_99 ?_
                refine lv_goto (tgt := 124) hx hb dX0_row_100 (by decide) ?_
                refine lv_istore hx hb dX0_row_124 hl (Nat.le_of_ble_eq_true rfl) (lv' := [(6, .int (iI 1)), (0, .ref a), (1, .int (iI w_)), (2, .int (iI (σ 9 0))), (3, .int (iI n_)), (4, .int (iI 10)), (5, .int (iI (10 * cr)))]) rfl (fun ls hl => ?_)
                refine n_iconst hx hb dX0_row_126 ?_
                refine lv_istore hx hb dX0_row_127 hl (Nat.le_of_ble_eq_true rfl) (lv' := [(7, .int (iI 0)), (6, .int (iI 1)), (0, .ref a), (1, .int (iI w_)), (2, .int (iI (σ 9 0))), (3, .int (iI n_)), (4, .int (iI 10)), (5, .int (iI (10 * cr)))]) rfl (fun ls hl => ?_)
                have hl : lv_has ls 8 [(0, .ref a), (1, .int (iI w_)), (2, .int (iI (σ 9 0))), (3, .int (iI n_)), (4, .int (iI 10)), (5, .int (iI (10 * cr))), (6, .int (iI 1)), (7, .int (iI 0))] := lv_sub hl [2, 3, 4, 5, 6, 7, 1, 0] rfl
                have hl : lv_has ls 8 [(0, .ref a), (1, .int (iI w_)), (2, .int (iI (σ 9 0))), (3, .int (iI n_)), (4, .int (iI 10)), (5, .int (iI (10 * cr))), (6, .int (iI (if rgN (σ 7) (10 * cr) (rg0 (τ 2) w_) (0 : Int).toNat ≠ 0 ∧ (σ 7 (10 * cr + 9)) % 256 ≤ 1 then (1 : Int) else 0))), (7, .int (iI 0))] := by rw [if_pos (show rgN (σ 7) (10 * cr) (rg0 (τ 2) w_) (0 : Int).toNat ≠ 0 ∧ (σ 7 (10 * cr + 9)) % 256 ≤ 1 by show rg0 (τ 2) w_ ≠ 0 ∧ (σ 7 (10 * cr + 9)) % 256 ≤ 1; unfold rg0; rw [if_pos hw, if_pos (by omega)]; exact ⟨by decide, by first | trivial | omega⟩)]; exact hl
                refine W.widen (k := 2 * cr.toNat) (n := 12 * cr.toNat) (by omega) (by omega) ?_
                refine L129 11 N1 ωp 0 ?_ ?_ ?_ ?_ ?_ _ _ _ hH hl
                · exact hRp
                · omega
                · omega
                · omega
                · exact fun i a b => by omega
    refine lv_aload_n hx hb dX0_row_0 rfl (lv_at hl 0 rfl) ?_
    refine x_get hx hb hts in_X0 hown hK hH hR.o rfl 6 (by decide) q347 (fun _ h9 => h9) rfl (by decide) dX0_row_1 ?_
    refine lv_istore_n hx hb dX0_row_4 rfl hl (Nat.le_of_ble_eq_true rfl) (lv' := [(2, .int (iI (σ 9 0))), (0, .ref a), (1, .int (iI w_))]) rfl (fun ls hl => ?_)
    refine n_iconst hx hb dX0_row_5 ?_
    refine lv_istore_n hx hb dX0_row_6 rfl hl (Nat.le_of_ble_eq_true rfl) (lv' := [(3, .int (iI 0)), (2, .int (iI (σ 9 0))), (0, .ref a), (1, .int (iI w_))]) rfl (fun ls hl => ?_)
    refine lv_aload_n hx hb dX0_row_7 rfl (lv_at hl 2 rfl) ?_
    refine n_iconst hx hb dX0_row_8 ?_
    refine x_put (ty := .int) hx hb hts in_X0 tyX0 tyX0_ok nmX0 hown hK hH hR.o rfl 6 (by decide) q347 (fun _ h9 => h9) rfl (by decide +kernel) rfl rfl (Nat.le_of_ble_eq_true rfl) (by decide) dX0_row_9 (fun H locs hH => ?_)
    obtain ⟨M3, e_M3⟩ : ∃ M3, M3 = hs M a (oB 1 [.ref (gb x 0 0), .ref (gp x 1), .ref (gp x 2), .int (iI (σ 0 0)), .ref (gp x 4), .ref (gp x 5), .int (iI 0), .ref (gp x 7), .int (iI (σ 10 0)), .ref (gp x 9), .ref (gp x 10), .ref (gp x 11), .long (lI (gl ω))]) := ⟨_, rfl⟩
    have hH := XV_to hH e_M3.symm
    have f3 : M3 a = some (oB 1 [.ref (gb x 0 0), .ref (gp x 1), .ref (gp x 2), .int (iI (σ 0 0)), .ref (gp x 4), .ref (gp x 5), .int (iI 0), .ref (gp x 7), .int (iI (σ 10 0)), .ref (gp x 9), .ref (gp x 10), .ref (gp x 11), .long (lI (gl ω))]) := by rw [e_M3]; exact hs_s
    obtain ⟨ω4, hR4⟩ : ∃ ω4, RX G M3 a (st σ 9 0 0) x ω4 := ⟨_, by rw [e_M3]; exact hR.x0 (f := 9) (v := 0) (by decide)⟩
    have hW4 : WK ((st σ 9 0 0) 2) := by rw [st_n (by decide)]; exact hW
    have hF4 : F40 (st σ 9 0 0) := F40_o h40 (by decide)
    refine lv_iload_n hx hb dX0_row_12 rfl (lv_at hl 3 rfl) ?_
    refine n_i2l hx hb (r32 (by omega)) dX0_row_13 ?_
    refine n_lconst (z := 0) hx hb dX0_row_14 (by decide) ?_
    refine n_lconst (z := 1) hx hb dX0_row_15 (by decide) ?_
    refine x_calliF (x_runS (As := [.long (lI w_), .long (lI 0), .long (lI 1)]) (rest := []) S hH hK (fun _ _ hW => XN.warm hW hXN) XN_b hl.1 (xm_X0_in l G M3 w_ 0 1 _ (r64 (by omega)) (r64 (by omega)) (r64 (by omega))) (lw_S q386 q387 q105 q388) kd_X0_in rfl rfl dX0_row_16 (hf := ⟨by dsimp only [rmX]; omega, by dsimp only [rmX]; omega⟩)) hH hA (fun H locs hH => ?_)
    refine z_if_ne (tgt := 28) hx hb dX0_row_19 (by decide) (fun c_19 => ?_) (fun c_19 => ?_)
    · -- 19T
      refine lv_iload_n hx hb dX0_row_28 rfl (lv_at hl 1 rfl) ?_
      refine n_if_ne (tgt := 39) hx hb (r32 (by omega)) dX0_row_29 (by decide) (fun c_29 => ?_) (fun c_29 => ?_)
      · -- 29T
        refine lv_iload_n hx hb dX0_row_39 rfl (lv_at hl 3 rfl) ?_
        refine n_if_ne (tgt := 48) hx hb (r32 (by omega)) dX0_row_40 (by decide) (fun c_40 => ?_) (fun c_40 => ?_)
        · exact absurd hw c_40
        · -- 40F
          refine n_bipush (z := 10) hx hb dX0_row_43 (by decide) ?_
          refine lv_goto (tgt := 50) hx hb dX0_row_45 (by decide) ?_
          refine lv_istore hx hb dX0_row_50 hl (Nat.le_of_ble_eq_true rfl) (lv' := [(4, .int (iI 10)), (3, .int (iI 0)), (2, .int (iI (σ 9 0))), (0, .ref a), (1, .int (iI w_))]) rfl (fun ls hl => ?_)
          refine n_iconst hx hb dX0_row_52 ?_
          refine lv_istore hx hb dX0_row_53 hl (Nat.le_of_ble_eq_true rfl) (lv' := [(5, .int (iI 0)), (4, .int (iI 10)), (3, .int (iI 0)), (2, .int (iI (σ 9 0))), (0, .ref a), (1, .int (iI w_))]) rfl (fun ls hl => ?_)
          have hl : lv_has ls 8 [(0, .ref a), (1, .int (iI w_)), (2, .int (iI (σ 9 0))), (3, .int (iI 0)), (4, .int (iI 10)), (5, .int (iI 0))] := lv_sub hl [4, 5, 3, 2, 1, 0] rfl
          have hl : lv_has ls 8 [(0, .ref a), (1, .int (iI w_)), (2, .int (iI (σ 9 0))), (3, .int (iI 0)), (4, .int (iI 10)), (5, .int (iI (10 * 0)))] := by exact hl
          refine W.widen (k := 2 * (0 : Int).toNat) (n := 12 * (0 : Int).toNat) (by omega) (by omega) ?_
          refine L55 401 M3 x ω4 (st σ 9 0 0) 0 (0 : Int) ?_ ?_ ?_ ?_ ?_ ?_ ?_ ?_ ?_ ?_ ?_ _ _ _ hH hl
          · exact hR4
          · exact hW4
          · exact hF4
          · rfl
          · omega
          · omega
          · omega
          · omega
          · exact st_n (by decide)
          · exact c_29
          · omega
      · -- 29F
        refine lv_aload_n hx hb dX0_row_32 rfl (lv_at hl 2 rfl) ?_
        refine n_bipush (z := -6) hx hb dX0_row_33 (by decide) ?_
        refine x_calli (x_runV (As := [.int (iI (-6))]) (rest := []) S hH hK (fun _ _ hW => XN.warm hW hXN) XN_b hl.1 hR4.o rfl (xm_X0_refuse l G M3 (st σ 9 0 0) x ω4 a (-6) _ hR4 (by omega) (by omega)) (lw_V q393 q395 qs0 q105 q396) kd_X0_refuse rfl rfl dX0_row_35 (hf := ⟨by dsimp only [rmX]; omega, by dsimp only [rmX]; omega⟩)) hH hA (fun z35 M35_ H locs q_35 hH hz_35 => ?_)
        obtain ⟨e_35, ω35x, hR35x⟩ := q_35
        subst e_35
        refine W.widen (k := 100) (n := 600) (by omega) (by omega) ?_
        refine x_iret hx hb hr hlk hH dX0_row_38 ?_
        exact cmd_ret2 (F := rowF σ w_) (by unfold rowF; (repeat' split) <;> first | rfl | (exfalso; omega)) hR35x
    · -- 19F
      refine lv_aload_n hx hb dX0_row_22 rfl (lv_at hl 2 rfl) ?_
      refine n_iconst hx hb dX0_row_23 ?_
      refine x_calli (x_runV (As := [.int (iI (-1))]) (rest := []) S hH hK (fun _ _ hW => XN.warm hW hXN) XN_b hl.1 hR4.o rfl (xm_X0_refuse l G M3 (st σ 9 0 0) x ω4 a (-1) _ hR4 (by omega) (by omega)) (lw_V q393 q395 qs0 q105 q396) kd_X0_refuse rfl rfl dX0_row_24 (hf := ⟨by dsimp only [rmX]; omega, by dsimp only [rmX]; omega⟩)) hH hA (fun z24 M24_ H locs q_24 hH hz_24 => ?_)
      obtain ⟨e_24, ω24x, hR24x⟩ := q_24
      subst e_24
      refine W.widen (k := 100) (n := 600) (by omega) (by omega) ?_
      refine x_iret hx hb hr hlk hH dX0_row_27 ?_
      exact cmd_ret2 (F := rowF σ w_) (by unfold rowF; (repeat' split) <;> first | rfl | (exfalso; omega)) hR24x
  · -- rows of 9
    have L55 : ∀ (q : Nat) (N1 : Hp) (xp : XGh) (ωp : XCt) (τ : St) (n_ : Int) (cr : Int), (hRp : RX G N1 a τ xp ωp) → (hW1 : WK (τ 2)) → (hF1 : F40 τ) → (he : rwN σ w_ cr.toNat = (n_, τ)) → (h0 : 0 ≤ cr) → (h1 : 9 * cr ≤ σ 9 0) → (hq : σ 9 0 < (q : Int) + 9 * cr) → (hn0 : 0 ≤ n_ ∧ n_ ≤ cr) → (ht7 : τ 7 = σ 7) → (hs0 : ¬ σ 9 0 = 0) → (hwr : 0 ≤ w_ ∧ w_ ≤ 1) → ∀ (H : Heap) (locs : List Loc) (ls : Array Slot), XV G (DA M s.heap.size) N1 s.heap H locs → lv_has ls 8 [(0, .ref a), (1, .int (iI w_)), (2, .int (iI (σ 9 0))), (3, .int (iI n_)), (4, .int (iI 9)), (5, .int (iI (9 * cr)))] → W p l e (rmX 6 100 600) s m ([.ref a, .int (iI w_)] : List Value).toArray below meth c H locs (2 * cr.toNat) (12 * cr.toNat) (MQ below (xQi G (DA M s.heap.size) (fun z M' => z = (rowF σ w_).1 ∧ ∃ x' ω', RX G M' a (rowF σ w_).2 x' ω')) ([.ref a, .int (iI w_)] : List Value).toArray s 100 600 (DA M s.heap.size)) (F0 m 55 ls []) := by
      intro q
      induction q with
      | zero => intro N1 xp ωp τ n_ cr hRp hW1 hF1 he h0 h1 hq hn0 ht7 hs0 hwr; exfalso; omega
      | succ q ih_55 =>
        intro N1 xp ωp τ n_ cr hRp hW1 hF1 he h0 h1 hq hn0 ht7 hs0 hwr H locs ls hH hl
        have b1 := hW1.1
        unfold kCnt at b1
        refine lv_iload hx hb dX0_row_55 (lv_at hl 5 rfl) ?_
        refine lv_iload hx hb dX0_row_57 (lv_at hl 4 rfl) ?_
        refine n_iadd hx hb dX0_row_59 ?_
        refine lv_iload_n hx hb dX0_row_60 rfl (lv_at hl 2 rfl) ?_
        refine n_icmp_gt (tgt := 261) hx hb (r32 (by omega)) (r32 (by omega)) dX0_row_61 (by decide) (fun c_61 => ?_) (fun c_61 => ?_)
        · -- 61T
          have hcr : σ 9 0 / rwd w_ = cr := by rw [rwd_1 hw]; omega
          refine lv_aload_n hx hb dX0_row_261 rfl (lv_at hl 0 rfl) ?_
          refine lv_iload_n hx hb dX0_row_262 rfl (lv_at hl 3 rfl) ?_
          refine x_calli (x_runV (As := [.int (iI n_)]) (rest := []) S hH hK (fun _ _ hW => XN.warm hW hXN) XN_b hl.1 hRp.o rfl (xm_X0_done l G N1 τ xp ωp a n_ _ hRp) (lw_V q425 q427 qs1 q105 q428) kd_X0_done rfl rfl dX0_row_263 (hf := ⟨by dsimp only [rmX]; omega, by dsimp only [rmX]; omega⟩)) hH hA (fun z263 M263_ H locs q_263 hH hz_263 => ?_)
          obtain ⟨e_263, ω263x, hR263x⟩ := q_263
          subst e_263
          refine W.widen (k := 100) (n := 600) (by omega) (by omega) ?_
          refine x_iret hx hb hr hlk hH dX0_row_266 ?_
          exact cmd_ret2 (F := rowF σ w_) (by rw [rowF, if_pos (by omega), if_neg hs0, hcr, he]) hR263x
        · -- 61F
          have L129 : ∀ (q1 : Nat) (N2 : Hp) (ωr : XCt) (j : Int), (hRr : RX G N2 a τ xp ωr) → (j0 : 0 ≤ j) → (j1 : j ≤ 9) → (hq1 : 9 < (q1 : Int) + j) → (hsh : ∀ i, 0 ≤ i → i < j → gy ωr 22 i = τ 7 (9 * cr + i) % 256) → ∀ (H : Heap) (locs : List Loc) (ls : Array Slot), XV G (DA M s.heap.size) N2 s.heap H locs → lv_has ls 8 [(0, .ref a), (1, .int (iI w_)), (2, .int (iI (σ 9 0))), (3, .int (iI n_)), (4, .int (iI 9)), (5, .int (iI (9 * cr))), (6, .int (iI (if rgN (σ 7) (9 * cr) (rg0 (τ 2) w_) j.toNat ≠ 0 ∧ True then (1 : Int) else 0))), (7, .int (iI j))] → W p l e (rmX 6 100 600) s m ([.ref a, .int (iI w_)] : List Value).toArray below meth c H locs (2 * cr.toNat) (12 * cr.toNat) (MQ below (xQi G (DA M s.heap.size) (fun z M' => z = (rowF σ w_).1 ∧ ∃ x' ω', RX G M' a (rowF σ w_).2 x' ω')) ([.ref a, .int (iI w_)] : List Value).toArray s 100 600 (DA M s.heap.size)) (F0 m 129 ls []) := by
            intro q1
            induction q1 with
            | zero => intro N2 ωr j hRr j0 j1 hq1 hsh; exfalso; omega
            | succ q1 ih_129 =>
              intro N2 ωr j hRr j0 j1 hq1 hsh H locs ls hH hl
              refine lv_iload hx hb dX0_row_129 (lv_at hl 7 rfl) ?_
              refine n_bipush (z := 9) hx hb dX0_row_131 (by decide) ?_
              refine n_icmp_ge (tgt := 196) hx hb (r32 (by omega)) (r32 (by omega)) dX0_row_133 (by decide) (fun c_133 => ?_) (fun c_133 => ?_)
              · -- 133T
                have hj9 : j = 9 := by omega
                refine lv_iload hx hb dX0_row_196 (lv_at hl 6 rfl) ?_
                refine n_if_ne (tgt := 204) hx hb (r32 (by omega)) dX0_row_198 (by decide) (fun c_198 => ?_) (fun c_198 => ?_)
                · -- 198T
                  refine lv_iload_n hx hb dX0_row_204 rfl (lv_at hl 1 rfl) ?_
                  refine n_if_ne (tgt := 239) hx hb (r32 (by omega)) dX0_row_205 (by decide) (fun c_205 => ?_) (fun c_205 => ?_)
                  · -- 205T
                    refine lv_aload_n hx hb dX0_row_239 rfl (lv_at hl 0 rfl) ?_
                    refine lv_aload_n hx hb dX0_row_240 rfl (lv_at hl 0 rfl) ?_
                    refine x_get hx hb hts in_X0 hown hK hH hRr.o rfl 4 (by decide) q343 (fun _ h9 => h9) rfl (by decide) dX0_row_241 ?_
                    refine x_calli (x_runV (As := [.ref (gp xp 4)]) (rest := []) S hH hK (fun _ _ hW => XN.warm hW hXN) XN_b hl.1 hRr.o rfl (xm_X0_addTrial l G N2 τ xp ωr (fun k => τ 7 (9 * cr + k) % 256) a _ hRr hW1 hF1 (by rw [hj9] at c_198; exact rg_t hw (rg9_n c_198)) (fun i i0 i1 => hsh i i0 (by omega))) (lw_V q774 q776 qs9 q105 q777) kd_X0_addTrial rfl rfl dX0_row_244 (hf := ⟨by dsimp only [rmX]; omega, by dsimp only [rmX]; omega⟩)) hH hA (fun z244 M244_ H locs q_244 hH hz_244 => ?_)
                    obtain ⟨e_244, x244x, ω244x, hR244x, hW244x, hF244x⟩ := q_244
                    subst e_244
                    refine lv_pop hx hb dX0_row_247 rfl ?_
                    refine n_iinc hx hb dX0_row_248 hl (k := 3) rfl (Nat.le_of_ble_eq_true rfl) (lv' := [(3, .int (iI (n_ + 1))), (0, .ref a), (1, .int (iI w_)), (2, .int (iI (σ 9 0))), (4, .int (iI 9)), (5, .int (iI (9 * cr))), (6, .int (iI (if rgN (σ 7) (9 * cr) (rg0 (τ 2) w_) j.toNat ≠ 0 ∧ True then (1 : Int) else 0))), (7, .int (iI j))]) rfl (fun ls hl => ?_)
                    refine lv_iload hx hb dX0_row_251 (lv_at hl 5 rfl) ?_
                    refine lv_iload hx hb dX0_row_253 (lv_at hl 4 rfl) ?_
                    refine n_iadd hx hb dX0_row_255 ?_
                    refine lv_istore hx hb dX0_row_256 hl (Nat.le_of_ble_eq_true rfl) (lv' := [(5, .int (iI ((9 * cr) + 9))), (3, .int (iI (n_ + 1))), (0, .ref a), (1, .int (iI w_)), (2, .int (iI (σ 9 0))), (4, .int (iI 9)), (6, .int (iI (if rgN (σ 7) (9 * cr) (rg0 (τ 2) w_) j.toNat ≠ 0 ∧ True then (1 : Int) else 0))), (7, .int (iI j))]) rfl (fun ls hl => ?_)
                    refine lv_goto (tgt := 55) hx hb dX0_row_258 (by decide) ?_
                    have hl : lv_has ls 8 [(0, .ref a), (1, .int (iI w_)), (2, .int (iI (σ 9 0))), (3, .int (iI (n_ + 1))), (4, .int (iI 9)), (5, .int (iI ((9 * cr) + 9)))] := lv_sub hl [2, 3, 4, 1, 5, 0] rfl
                    have hl : lv_has ls 8 [(0, .ref a), (1, .int (iI w_)), (2, .int (iI (σ 9 0))), (3, .int (iI (n_ + 1))), (4, .int (iI 9)), (5, .int (iI (9 * (cr + 1))))] := by rw [show 9 * (cr + 1) = 9 * cr + 9 by omega]; exact hl
                    refine W.widen (k := 2 * (cr + 1).toNat) (n := 12 * (cr + 1).toNat) (by omega) (by omega) ?_
                    refine ih_55 M244_ x244x ω244x (addT τ (fun k => τ 7 (9 * cr + k) % 256)) (n_ + 1) (cr + 1) ?_ ?_ ?_ ?_ ?_ ?_ ?_ ?_ ?_ ?_ ?_ _ _ _ hH hl
                    · exact hR244x
                    · exact hW244x
                    · exact hF244x
                    · rw [rwN_1 hw h0 he, if_neg (by rw [hj9] at c_198; exact rg9_n c_198), rwB_T hw]
                    · omega
                    · omega
                    · omega
                    · omega
                    · rw [addT_g (by decide)]; exact ht7
                    · exact hs0
                    · omega
                  · exact absurd c_205 hw
                · -- 198F
                  refine lv_goto (tgt := 251) hx hb dX0_row_201 (by decide) ?_
                  refine lv_iload hx hb dX0_row_251 (lv_at hl 5 rfl) ?_
                  refine lv_iload hx hb dX0_row_253 (lv_at hl 4 rfl) ?_
                  refine n_iadd hx hb dX0_row_255 ?_
                  refine lv_istore hx hb dX0_row_256 hl (Nat.le_of_ble_eq_true rfl) (lv' := [(5, .int (iI ((9 * cr) + 9))), (0, .ref a), (1, .int (iI w_)), (2, .int (iI (σ 9 0))), (3, .int (iI n_)), (4, .int (iI 9)), (6, .int (iI (if rgN (σ 7) (9 * cr) (rg0 (τ 2) w_) j.toNat ≠ 0 ∧ True then (1 : Int) else 0))), (7, .int (iI j))]) rfl (fun ls hl => ?_)
                  refine lv_goto (tgt := 55) hx hb dX0_row_258 (by decide) ?_
                  have hl : lv_has ls 8 [(0, .ref a), (1, .int (iI w_)), (2, .int (iI (σ 9 0))), (3, .int (iI n_)), (4, .int (iI 9)), (5, .int (iI ((9 * cr) + 9)))] := lv_sub hl [1, 2, 3, 4, 5, 0] rfl
                  have hl : lv_has ls 8 [(0, .ref a), (1, .int (iI w_)), (2, .int (iI (σ 9 0))), (3, .int (iI n_)), (4, .int (iI 9)), (5, .int (iI (9 * (cr + 1))))] := by rw [show 9 * (cr + 1) = 9 * cr + 9 by omega]; exact hl
                  refine W.widen (k := 2 * (cr + 1).toNat) (n := 12 * (cr + 1).toNat) (by omega) (by omega) ?_
                  refine ih_55 N2 xp ωr τ n_ (cr + 1) ?_ ?_ ?_ ?_ ?_ ?_ ?_ ?_ ?_ ?_ ?_ _ _ _ hH hl
                  · exact hRr
                  · exact hW1
                  · exact hF1
                  · rw [rwN_1 hw h0 he, if_pos (by rw [hj9] at c_198; exact rg9_z c_198)]
                  · omega
                  · omega
                  · omega
                  · omega
                  · exact ht7
                  · exact hs0
                  · omega
              · -- 133F
                have h8j := hb8 (9 * cr + j) (by omega) (by omega)
                refine lv_aload_n hx hb dX0_row_136 rfl (lv_at hl 0 rfl) ?_
                refine x_get hx hb hts in_X0 hown hK hH hRr.o rfl 4 (by decide) q343 (fun _ h9 => h9) rfl (by decide) dX0_row_137 ?_
                refine x_get hx hb hts in_X2 hown hK hH hRr.p4 rfl 0 (by decide) q262 (fun _ h9 => h9) rfl (by decide) dX0_row_140 ?_
                refine lv_iload hx hb dX0_row_143 (lv_at hl 7 rfl) ?_
                refine lv_aload_n hx hb dX0_row_145 rfl (lv_at hl 0 rfl) ?_
                refine x_get hx hb hts in_X0 hown hK hH hRr.o rfl 5 (by decide) q345 (fun _ h9 => h9) rfl (by decide) dX0_row_146 ?_
                refine lv_iload hx hb dX0_row_149 (lv_at hl 5 rfl) ?_
                refine lv_iload hx hb dX0_row_151 (lv_at hl 7 rfl) ?_
                refine n_iadd hx hb dX0_row_153 ?_
                refine x_bald hx hb hK hH hRr.p5 (by omega) (by omega) (Nat.le_of_ble_eq_true rfl) dX0_row_154 ?_
                refine W.eq (g2 := F0 m 155 ls (.int (iI (τ 7 ((9 * cr) + j))) :: .int (iI j) :: .ref (gp xp 22) :: [])) (by first | (rw [hRr.tape (by omega) (by omega)]; done) | (rw [hRr.tape (by omega) (by omega)]; rfl)) ?_
                refine W.eq (g2 := F0 m 155 ls (.int (iI (σ 7 (9 * cr + j))) :: .int (iI j) :: .ref (gp xp 22) :: [])) (by rw [ht7]) ?_
                refine n_sipush (z := 255) hx hb dX0_row_155 (by decide) ?_
                refine n_and255 hx hb dX0_row_158 ?_
                refine x_iast hx hb hK hH hRr.p22 (by omega) (by omega) (Nat.le_of_ble_eq_true rfl) dX0_row_159 (fun H locs hH => ?_)
                obtain ⟨M5, e_M5⟩ : ∃ M5, M5 = hs N2 (gp xp 22) (aI (G.2.1 0) 9 (up (gy ωr 22) j ((σ 7 (9 * cr + j)) % 256))) := ⟨_, rfl⟩
                have hH := XV_to hH e_M5.symm
                have f5 : M5 (gp xp 22) = some (aI (G.2.1 0) 9 (up (gy ωr 22) j ((σ 7 (9 * cr + j)) % 256))) := by rw [e_M5]; exact hs_s
                obtain ⟨ω6, hR6, hY6, hZ6⟩ : ∃ ω6, RX G M5 a τ xp ω6 ∧ gy ω6 22 = up (gy ωr 22) j ((σ 7 (9 * cr + j)) % 256) ∧ ∀ j, j ≠ 22 → gy ω6 j = gy ωr j := ⟨_, by rw [e_M5]; exact hRr.scr (k := 22) (by decide) rfl (fun q => absurd q (by decide)), yS_s, fun j h => yS_n h⟩
                refine lv_iload hx hb dX0_row_160 (lv_at hl 6 rfl) ?_
                refine n_if_eq (tgt := 187) hx hb (r32 (by omega)) dX0_row_162 (by decide) (fun c_162 => ?_) (fun c_162 => ?_)
                · -- 162T
                  refine n_iconst hx hb dX0_row_187 ?_
                  refine lv_istore hx hb dX0_row_188 hl (Nat.le_of_ble_eq_true rfl) (lv' := [(6, .int (iI 0)), (0, .ref a), (1, .int (iI w_)), (2, .int (iI (σ 9 0))), (3, .int (iI n_)), (4, .int (iI 9)), (5, .int (iI (9 * cr))), (7, .int (iI j))]) rfl (fun ls hl => ?_)
                  refine n_iinc hx hb dX0_row_190 hl (k := 7) rfl (Nat.le_of_ble_eq_true rfl) (lv' := [(7, .int (iI (j + 1))), (6, .int (iI 0)), (0, .ref a), (1, .int (iI w_)), (2, .int (iI (σ 9 0))), (3, .int (iI n_)), (4, .int (iI 9)), (5, .int (iI (9 * cr)))]) rfl (fun ls hl => ?_)
                  refine lv_goto (tgt := 129) hx hb dX0_row_193 (by decide) ?_
                  have hl : lv_has ls 8 [(0, .ref a), (1, .int (iI w_)), (2, .int (iI (σ 9 0))), (3, .int (iI n_)), (4, .int (iI 9)), (5, .int (iI (9 * cr))), (6, .int (iI 0)), (7, .int (iI (j + 1)))] := lv_sub hl [2, 3, 4, 5, 6, 7, 1, 0] rfl
                  have hl : lv_has ls 8 [(0, .ref a), (1, .int (iI w_)), (2, .int (iI (σ 9 0))), (3, .int (iI n_)), (4, .int (iI 9)), (5, .int (iI (9 * cr))), (6, .int (iI (if rgN (σ 7) (9 * cr) (rg0 (τ 2) w_) (j + 1).toNat ≠ 0 ∧ True then (1 : Int) else 0))), (7, .int (iI (j + 1)))] := by rw [pg_s j0, if_neg (fun z => z.1 c_162)]; exact hl
                  refine W.widen (k := 2 * cr.toNat) (n := 12 * cr.toNat) (by omega) (by omega) ?_
                  refine ih_129 M5 ω6 (j + 1) ?_ ?_ ?_ ?_ ?_ _ _ _ hH hl
                  · exact hR6
                  · omega
                  · omega
                  · omega
                  · intro i a b
                    rw [hY6]
                    by_cases z : i = j
                    · subst z; rw [up_s, ht7]
                    · rw [up_n z]; exact hsh i a (by omega)
                · -- 162F
                  refine lv_iload hx hb dX0_row_165 (lv_at hl 7 rfl) ?_
                  refine lv_aload_n hx hb dX0_row_167 rfl (lv_at hl 0 rfl) ?_
                  refine x_get hx hb hts in_X0 hown hK hH hR6.o rfl 4 (by decide) q343 (fun _ h9 => h9) rfl (by decide) dX0_row_168 ?_
                  refine x_get hx hb hts in_X2 hown hK hH hR6.p4 rfl 0 (by decide) q262 (fun _ h9 => h9) rfl (by decide) dX0_row_171 ?_
                  refine lv_iload hx hb dX0_row_174 (lv_at hl 7 rfl) ?_
                  refine x_iald hx hb hK hH hR6.p22 (by omega) (by omega) (Nat.le_of_ble_eq_true rfl) dX0_row_176 ?_
                  refine W.eq (g2 := F0 m 177 ls (.int (iI ((σ 7 (9 * cr + j)) % 256)) :: .int (iI j) :: [])) (by rw [hY6, up_s]) ?_
                  refine x_calliF (x_runS (As := [.int (iI j), .int (iI ((σ 7 (9 * cr + j)) % 256))]) (rest := []) S hH hK (fun _ _ hW => XN.warm hW hXN) XN_b hl.1 (xm_X0_isCaseNumber l G M5 j ((σ 7 (9 * cr + j)) % 256) _ (r32 (by omega)) (r32 (by omega)) (by omega) (by omega)) (lw_S q783 q784 q105 q785) kd_X0_isCaseNumber rfl rfl dX0_row_177 (hf := ⟨by dsimp only [rmX]; omega, by dsimp only [rmX]; omega⟩)) hH hA (fun H locs hH => ?_)
                  refine z_if_eq (tgt := 187) hx hb dX0_row_180 (by decide) (fun c_180 => ?_) (fun c_180 => ?_)
                  · -- 180T
                    refine n_iconst hx hb dX0_row_187 ?_
                    refine lv_istore hx hb dX0_row_188 hl (Nat.le_of_ble_eq_true rfl) (lv' := [(6, .int (iI 0)), (0, .ref a), (1, .int (iI w_)), (2, .int (iI (σ 9 0))), (3, .int (iI n_)), (4, .int (iI 9)), (5, .int (iI (9 * cr))), (7, .int (iI j))]) rfl (fun ls hl => ?_)
                    refine n_iinc hx hb dX0_row_190 hl (k := 7) rfl (Nat.le_of_ble_eq_true rfl) (lv' := [(7, .int (iI (j + 1))), (6, .int (iI 0)), (0, .ref a), (1, .int (iI w_)), (2, .int (iI (σ 9 0))), (3, .int (iI n_)), (4, .int (iI 9)), (5, .int (iI (9 * cr)))]) rfl (fun ls hl => ?_)
                    refine lv_goto (tgt := 129) hx hb dX0_row_193 (by decide) ?_
                    have hl : lv_has ls 8 [(0, .ref a), (1, .int (iI w_)), (2, .int (iI (σ 9 0))), (3, .int (iI n_)), (4, .int (iI 9)), (5, .int (iI (9 * cr))), (6, .int (iI 0)), (7, .int (iI (j + 1)))] := lv_sub hl [2, 3, 4, 5, 6, 7, 1, 0] rfl
                    have hl : lv_has ls 8 [(0, .ref a), (1, .int (iI w_)), (2, .int (iI (σ 9 0))), (3, .int (iI n_)), (4, .int (iI 9)), (5, .int (iI (9 * cr))), (6, .int (iI (if rgN (σ 7) (9 * cr) (rg0 (τ 2) w_) (j + 1).toNat ≠ 0 ∧ True then (1 : Int) else 0))), (7, .int (iI (j + 1)))] := by rw [pg_s j0, if_neg (fun z => c_180 z.2)]; exact hl
                    refine W.widen (k := 2 * cr.toNat) (n := 12 * cr.toNat) (by omega) (by omega) ?_
                    refine ih_129 M5 ω6 (j + 1) ?_ ?_ ?_ ?_ ?_ _ _ _ hH hl
                    · exact hR6
                    · omega
                    · omega
                    · omega
                    · intro i a b
                      rw [hY6]
                      by_cases z : i = j
                      · subst z; rw [up_s, ht7]
                      · rw [up_n z]; exact hsh i a (by omega)
                  · -- 180F
                    refine n_iconst hx hb dX0_row_183 ?_
                    refine lv_goto (tgt := 188) hx hb dX0_row_184 (by decide) ?_
                    refine lv_istore hx hb dX0_row_188 hl (Nat.le_of_ble_eq_true rfl) (lv' := [(6, .int (iI 1)), (0, .ref a), (1, .int (iI w_)), (2, .int (iI (σ 9 0))), (3, .int (iI n_)), (4, .int (iI 9)), (5, .int (iI (9 * cr))), (7, .int (iI j))]) rfl (fun ls hl => ?_)
                    refine n_iinc hx hb dX0_row_190 hl (k := 7) rfl (Nat.le_of_ble_eq_true rfl) (lv' := [(7, .int (iI (j + 1))), (6, .int (iI 1)), (0, .ref a), (1, .int (iI w_)), (2, .int (iI (σ 9 0))), (3, .int (iI n_)), (4, .int (iI 9)), (5, .int (iI (9 * cr)))]) rfl (fun ls hl => ?_)
                    refine lv_goto (tgt := 129) hx hb dX0_row_193 (by decide) ?_
                    have hl : lv_has ls 8 [(0, .ref a), (1, .int (iI w_)), (2, .int (iI (σ 9 0))), (3, .int (iI n_)), (4, .int (iI 9)), (5, .int (iI (9 * cr))), (6, .int (iI 1)), (7, .int (iI (j + 1)))] := lv_sub hl [2, 3, 4, 5, 6, 7, 1, 0] rfl
                    have hl : lv_has ls 8 [(0, .ref a), (1, .int (iI w_)), (2, .int (iI (σ 9 0))), (3, .int (iI n_)), (4, .int (iI 9)), (5, .int (iI (9 * cr))), (6, .int (iI (if rgN (σ 7) (9 * cr) (rg0 (τ 2) w_) (j + 1).toNat ≠ 0 ∧ True then (1 : Int) else 0))), (7, .int (iI (j + 1)))] := by rw [pg_s j0, if_pos ⟨c_162, c_180⟩]; exact hl
                    refine W.widen (k := 2 * cr.toNat) (n := 12 * cr.toNat) (by omega) (by omega) ?_
                    refine ih_129 M5 ω6 (j + 1) ?_ ?_ ?_ ?_ ?_ _ _ _ hH hl
                    · exact hR6
                    · omega
                    · omega
                    · omega
                    · intro i a b
                      rw [hY6]
                      by_cases z : i = j
                      · subst z; rw [up_s, ht7]
                      · rw [up_n z]; exact hsh i a (by omega)
          refine lv_iload_n hx hb dX0_row_64 rfl (lv_at hl 1 rfl) ?_
          refine n_if_ne (tgt := 107) hx hb (r32 (by omega)) dX0_row_65 (by decide) (fun c_65 => ?_) (fun c_65 => ?_)
          · -- 65T
            refine lv_aload_n hx hb dX0_row_107 rfl (lv_at hl 0 rfl) ?_
            refine x_get hx hb hts in_X0 hown hK hH hRp.o rfl 0 (by decide) q339 (fun _ h9 => h9) rfl (by decide) dX0_row_108 ?_
            refine x_getN hx hb hts in_X1 hown hK hH hRp.b0 rfl 4 (by decide) hXN q170 (fun _ h9 => h9) rfl (by decide) dX0_row_111 ?_
            refine n_bipush (z := 12) hx hb dX0_row_114 (by decide) ?_
            refine n_icmp_ge (tgt := 123) hx hb (r32 (by omega)) (r32 (by omega)) dX0_row_116 (by decide) (fun c_116 => ?_) (fun c_116 => ?_)
            · -- 116T
              refine n_iconst hx hb dX0_row_123 ?_
              refine lv_istore hx hb dX0_row_124 hl (Nat.le_of_ble_eq_true rfl) (lv' := [(6, .int (iI 0)), (0, .ref a), (1, .int (iI w_)), (2, .int (iI (σ 9 0))), (3, .int (iI n_)), (4, .int (iI 9)), (5, .int (iI (9 * cr)))]) rfl (fun ls hl => ?_)
              refine n_iconst hx hb dX0_row_126 ?_
              refine lv_istore hx hb dX0_row_127 hl (Nat.le_of_ble_eq_true rfl) (lv' := [(7, .int (iI 0)), (6, .int (iI 0)), (0, .ref a), (1, .int (iI w_)), (2, .int (iI (σ 9 0))), (3, .int (iI n_)), (4, .int (iI 9)), (5, .int (iI (9 * cr)))]) rfl (fun ls hl => ?_)
              have hl : lv_has ls 8 [(0, .ref a), (1, .int (iI w_)), (2, .int (iI (σ 9 0))), (3, .int (iI n_)), (4, .int (iI 9)), (5, .int (iI (9 * cr))), (6, .int (iI 0)), (7, .int (iI 0))] := lv_sub hl [2, 3, 4, 5, 6, 7, 1, 0] rfl
              have hl : lv_has ls 8 [(0, .ref a), (1, .int (iI w_)), (2, .int (iI (σ 9 0))), (3, .int (iI n_)), (4, .int (iI 9)), (5, .int (iI (9 * cr))), (6, .int (iI (if rgN (σ 7) (9 * cr) (rg0 (τ 2) w_) (0 : Int).toNat ≠ 0 ∧ True then (1 : Int) else 0))), (7, .int (iI 0))] := by rw [if_neg (show ¬ (rgN (σ 7) (9 * cr) (rg0 (τ 2) w_) (0 : Int).toNat ≠ 0 ∧ True) by show ¬ (rg0 (τ 2) w_ ≠ 0 ∧ True); unfold rg0; rw [if_neg hw]; (repeat' split) <;> omega)]; exact hl
              refine W.widen (k := 2 * cr.toNat) (n := 12 * cr.toNat) (by omega) (by omega) ?_
              refine L129 11 N1 ωp 0 ?_ ?_ ?_ ?_ ?_ _ _ _ hH hl
              · exact hRp
              · omega
              · omega
              · omega
              · exact fun i a b => by omega
            · -- 116F
              refine n_iconst hx hb dX0_row_119 ?_
              refine lv_goto (tgt := 124) hx hb dX0_row_120 (by decide) ?_
              refine lv_istore hx hb dX0_row_124 hl (Nat.le_of_ble_eq_true rfl) (lv' := [(6, .int (iI 1)), (0, .ref a), (1, .int (iI w_)), (2, .int (iI (σ 9 0))), (3, .int (iI n_)), (4, .int (iI 9)), (5, .int (iI (9 * cr)))]) rfl (fun ls hl => ?_)
              refine n_iconst hx hb dX0_row_126 ?_
              refine lv_istore hx hb dX0_row_127 hl (Nat.le_of_ble_eq_true rfl) (lv' := [(7, .int (iI 0)), (6, .int (iI 1)), (0, .ref a), (1, .int (iI w_)), (2, .int (iI (σ 9 0))), (3, .int (iI n_)), (4, .int (iI 9)), (5, .int (iI (9 * cr)))]) rfl (fun ls hl => ?_)
              have hl : lv_has ls 8 [(0, .ref a), (1, .int (iI w_)), (2, .int (iI (σ 9 0))), (3, .int (iI n_)), (4, .int (iI 9)), (5, .int (iI (9 * cr))), (6, .int (iI 1)), (7, .int (iI 0))] := lv_sub hl [2, 3, 4, 5, 6, 7, 1, 0] rfl
              have hl : lv_has ls 8 [(0, .ref a), (1, .int (iI w_)), (2, .int (iI (σ 9 0))), (3, .int (iI n_)), (4, .int (iI 9)), (5, .int (iI (9 * cr))), (6, .int (iI (if rgN (σ 7) (9 * cr) (rg0 (τ 2) w_) (0 : Int).toNat ≠ 0 ∧ True then (1 : Int) else 0))), (7, .int (iI 0))] := by rw [if_pos (show rgN (σ 7) (9 * cr) (rg0 (τ 2) w_) (0 : Int).toNat ≠ 0 ∧ True by show rg0 (τ 2) w_ ≠ 0 ∧ True; unfold rg0; rw [if_neg hw, if_pos (by omega)]; exact ⟨by decide, by first | trivial | omega⟩)]; exact hl
              refine W.widen (k := 2 * cr.toNat) (n := 12 * cr.toNat) (by omega) (by omega) ?_
              refine L129 11 N1 ωp 0 ?_ ?_ ?_ ?_ ?_ _ _ _ hH hl
              · exact hRp
              · omega
              · omega
              · omega
              · exact fun i a b => by omega
          · exact absurd c_65 hw
    refine lv_aload_n hx hb dX0_row_0 rfl (lv_at hl 0 rfl) ?_
    refine x_get hx hb hts in_X0 hown hK hH hR.o rfl 6 (by decide) q347 (fun _ h9 => h9) rfl (by decide) dX0_row_1 ?_
    refine lv_istore_n hx hb dX0_row_4 rfl hl (Nat.le_of_ble_eq_true rfl) (lv' := [(2, .int (iI (σ 9 0))), (0, .ref a), (1, .int (iI w_))]) rfl (fun ls hl => ?_)
    refine n_iconst hx hb dX0_row_5 ?_
    refine lv_istore_n hx hb dX0_row_6 rfl hl (Nat.le_of_ble_eq_true rfl) (lv' := [(3, .int (iI 0)), (2, .int (iI (σ 9 0))), (0, .ref a), (1, .int (iI w_))]) rfl (fun ls hl => ?_)
    refine lv_aload_n hx hb dX0_row_7 rfl (lv_at hl 2 rfl) ?_
    refine n_iconst hx hb dX0_row_8 ?_
    refine x_put (ty := .int) hx hb hts in_X0 tyX0 tyX0_ok nmX0 hown hK hH hR.o rfl 6 (by decide) q347 (fun _ h9 => h9) rfl (by decide +kernel) rfl rfl (Nat.le_of_ble_eq_true rfl) (by decide) dX0_row_9 (fun H locs hH => ?_)
    obtain ⟨M7, e_M7⟩ : ∃ M7, M7 = hs M a (oB 1 [.ref (gb x 0 0), .ref (gp x 1), .ref (gp x 2), .int (iI (σ 0 0)), .ref (gp x 4), .ref (gp x 5), .int (iI 0), .ref (gp x 7), .int (iI (σ 10 0)), .ref (gp x 9), .ref (gp x 10), .ref (gp x 11), .long (lI (gl ω))]) := ⟨_, rfl⟩
    have hH := XV_to hH e_M7.symm
    have f7 : M7 a = some (oB 1 [.ref (gb x 0 0), .ref (gp x 1), .ref (gp x 2), .int (iI (σ 0 0)), .ref (gp x 4), .ref (gp x 5), .int (iI 0), .ref (gp x 7), .int (iI (σ 10 0)), .ref (gp x 9), .ref (gp x 10), .ref (gp x 11), .long (lI (gl ω))]) := by rw [e_M7]; exact hs_s
    obtain ⟨ω8, hR8⟩ : ∃ ω8, RX G M7 a (st σ 9 0 0) x ω8 := ⟨_, by rw [e_M7]; exact hR.x0 (f := 9) (v := 0) (by decide)⟩
    have hW8 : WK ((st σ 9 0 0) 2) := by rw [st_n (by decide)]; exact hW
    have hF8 : F40 (st σ 9 0 0) := F40_o h40 (by decide)
    refine lv_iload_n hx hb dX0_row_12 rfl (lv_at hl 3 rfl) ?_
    refine n_i2l hx hb (r32 (by omega)) dX0_row_13 ?_
    refine n_lconst (z := 0) hx hb dX0_row_14 (by decide) ?_
    refine n_lconst (z := 1) hx hb dX0_row_15 (by decide) ?_
    refine x_calliF (x_runS (As := [.long (lI w_), .long (lI 0), .long (lI 1)]) (rest := []) S hH hK (fun _ _ hW => XN.warm hW hXN) XN_b hl.1 (xm_X0_in l G M7 w_ 0 1 _ (r64 (by omega)) (r64 (by omega)) (r64 (by omega))) (lw_S q386 q387 q105 q388) kd_X0_in rfl rfl dX0_row_16 (hf := ⟨by dsimp only [rmX]; omega, by dsimp only [rmX]; omega⟩)) hH hA (fun H locs hH => ?_)
    refine z_if_ne (tgt := 28) hx hb dX0_row_19 (by decide) (fun c_19 => ?_) (fun c_19 => ?_)
    · -- 19T
      refine lv_iload_n hx hb dX0_row_28 rfl (lv_at hl 1 rfl) ?_
      refine n_if_ne (tgt := 39) hx hb (r32 (by omega)) dX0_row_29 (by decide) (fun c_29 => ?_) (fun c_29 => ?_)
      · -- 29T
        refine lv_iload_n hx hb dX0_row_39 rfl (lv_at hl 3 rfl) ?_
        refine n_if_ne (tgt := 48) hx hb (r32 (by omega)) dX0_row_40 (by decide) (fun c_40 => ?_) (fun c_40 => ?_)
        · -- 40T
          refine n_bipush (z := 9) hx hb dX0_row_48 (by decide) ?_
          refine lv_istore hx hb dX0_row_50 hl (Nat.le_of_ble_eq_true rfl) (lv' := [(4, .int (iI 9)), (3, .int (iI 0)), (2, .int (iI (σ 9 0))), (0, .ref a), (1, .int (iI w_))]) rfl (fun ls hl => ?_)
          refine n_iconst hx hb dX0_row_52 ?_
          refine lv_istore hx hb dX0_row_53 hl (Nat.le_of_ble_eq_true rfl) (lv' := [(5, .int (iI 0)), (4, .int (iI 9)), (3, .int (iI 0)), (2, .int (iI (σ 9 0))), (0, .ref a), (1, .int (iI w_))]) rfl (fun ls hl => ?_)
          have hl : lv_has ls 8 [(0, .ref a), (1, .int (iI w_)), (2, .int (iI (σ 9 0))), (3, .int (iI 0)), (4, .int (iI 9)), (5, .int (iI 0))] := lv_sub hl [4, 5, 3, 2, 1, 0] rfl
          have hl : lv_has ls 8 [(0, .ref a), (1, .int (iI w_)), (2, .int (iI (σ 9 0))), (3, .int (iI 0)), (4, .int (iI 9)), (5, .int (iI (9 * 0)))] := by exact hl
          refine W.widen (k := 2 * (0 : Int).toNat) (n := 12 * (0 : Int).toNat) (by omega) (by omega) ?_
          refine L55 401 M7 x ω8 (st σ 9 0 0) 0 (0 : Int) ?_ ?_ ?_ ?_ ?_ ?_ ?_ ?_ ?_ ?_ ?_ _ _ _ hH hl
          · exact hR8
          · exact hW8
          · exact hF8
          · rfl
          · omega
          · omega
          · omega
          · omega
          · exact st_n (by decide)
          · exact c_29
          · omega
        · exact absurd c_40 hw
      · -- 29F
        refine lv_aload_n hx hb dX0_row_32 rfl (lv_at hl 2 rfl) ?_
        refine n_bipush (z := -6) hx hb dX0_row_33 (by decide) ?_
        refine x_calli (x_runV (As := [.int (iI (-6))]) (rest := []) S hH hK (fun _ _ hW => XN.warm hW hXN) XN_b hl.1 hR8.o rfl (xm_X0_refuse l G M7 (st σ 9 0 0) x ω8 a (-6) _ hR8 (by omega) (by omega)) (lw_V q393 q395 qs0 q105 q396) kd_X0_refuse rfl rfl dX0_row_35 (hf := ⟨by dsimp only [rmX]; omega, by dsimp only [rmX]; omega⟩)) hH hA (fun z35 M35_ H locs q_35 hH hz_35 => ?_)
        obtain ⟨e_35, ω35x, hR35x⟩ := q_35
        subst e_35
        refine W.widen (k := 100) (n := 600) (by omega) (by omega) ?_
        refine x_iret hx hb hr hlk hH dX0_row_38 ?_
        exact cmd_ret2 (F := rowF σ w_) (by unfold rowF; (repeat' split) <;> first | rfl | (exfalso; omega)) hR35x
    · -- 19F
      refine lv_aload_n hx hb dX0_row_22 rfl (lv_at hl 2 rfl) ?_
      refine n_iconst hx hb dX0_row_23 ?_
      refine x_calli (x_runV (As := [.int (iI (-1))]) (rest := []) S hH hK (fun _ _ hW => XN.warm hW hXN) XN_b hl.1 hR8.o rfl (xm_X0_refuse l G M7 (st σ 9 0 0) x ω8 a (-1) _ hR8 (by omega) (by omega)) (lw_V q393 q395 qs0 q105 q396) kd_X0_refuse rfl rfl dX0_row_24 (hf := ⟨by dsimp only [rmX]; omega, by dsimp only [rmX]; omega⟩)) hH hA (fun z24 M24_ H locs q_24 hH hz_24 => ?_)
      obtain ⟨e_24, ω24x, hR24x⟩ := q_24
      subst e_24
      refine W.widen (k := 100) (n := 600) (by omega) (by omega) ?_
      refine x_iret hx hb hr hlk hH dX0_row_27 ?_
      exact cmd_ret2 (F := rowF σ w_) (by unfold rowF; (repeat' split) <;> first | rfl | (exfalso; omega)) hR24x
