theorem kd_X4_falls : yX4_falls.cls = RX4 ∧ yX4_falls.cls ≠ "java/lang/invoke/MethodHandle" ∧ yX4_falls.cls ≠ "java/lang/invoke/VarHandle" ∧ (parseMethodDescriptor yX4_falls.desc).map (fun d => d.parameters.length) = some 1 := by decide +kernel
set_option maxHeartbeats 4000000 in
theorem mm_falls (l : Launch) (G : MG) (σ : St) (β : Int → Int) (f : Int) (sz : Nat) (hI : KG (σ 2) β) (hf0 : 0 ≤ f) (hf1 : f < σ 2 1753) (hβ : 0 ≤ β f ∧ β f ≤ 1000) : Met l yX4_falls (ws_ yX4_falls cX4_falls 10 none) (rmD 3) (mP G [.ref (G.2.2 0), .int (iI f)] σ sz) (mQv G σ sz (fun σ' => σ' = fallsF σ f)) 0 0 (mA G σ sz) := by
  refine m_start (by decide) (Nat.le_of_ble_eq_true rfl) ?_
  intro p e s m below meth c ⟨S, hr, hlk, hH, hK, hj, hsz, hnm⟩ ls hl
  subst hsz
  obtain ⟨hx, hb, hml, hown, hts⟩ := S
  have S : CallFix p m c _ _ s _ lw_all RX4 := ⟨hx, hb, hml, hown, hts⟩
  have hA : ∀ q, s.heap.size ≤ q → mA G σ s.heap.size q := fun q hq => Or.inr hq
  have hl : lv_has ls 10 [(0, .ref (G.2.2 0)), (1, .int (iI f))] := hl
  have b0 := KG.c hI
  unfold kCnt at b0
  have b1 := KG.f hI f hf0 hf1
  unfold kFlask fl at b1
  have b2 := KG.l hI
  have b3 := KG.b hI (σ 2 (184 + 26 * f + 0)) (by omega) (by omega)
  have hs1 := b2 (18 + σ 2 (184 + 26 * f + 1)) (by omega) (by omega)
  have hs2 := b2 (24 + σ 2 (184 + 26 * f + 8)) (by omega) (by omega)
  have hd := b2 (28 + σ 2 (184 + 26 * f + 5)) (by omega) (by omega)
  have hin := inF_r (σ := σ) (f := f) ⟨hs1.1, hs2.1⟩
  have hch := chF_r hin hd
  have hmul := mul_r hd.1 hd.2 hin.1 hin.2
  have hww := fun k a b => (KG.w hI (σ 2 (184 + 26 * f + 5)) k (by omega) (by omega) a b).1
  have hsum := wSum_r (σ := σ) (q := σ 2 (184 + 26 * f + 5)) hww (σ 2 1752).toNat (by omega)
  have hdr := drawF_r (σ 2)
  have hdr2 := drawF_r (drawS σ 2)
  have L291 : ∀ (n : Nat) (x : Int) (k : Int), (hk0 : 0 ≤ k) → (hx0 : 0 ≤ x) → (hx1 : x < 1000000000) → (hxt : x < wTail σ (σ 2 (184 + 26 * f + 5)) (σ 2 1752 - k).toNat k) → (hn : 8 < (n : Int) + k) → (hp : wPick σ (σ 2 (184 + 26 * f + 5)) (8 - k).toNat x k = wPick σ (σ 2 (184 + 26 * f + 5)) 8 (drawF (drawS σ 2) % wSum σ (σ 2 (184 + 26 * f + 5)) (σ 2 1752).toNat) 0) → (hs0 : ¬ wSum σ (σ 2 (184 + 26 * f + 5)) (σ 2 1752).toNat = 0) → (hc0 : ¬ chF σ f = 0) → (hc1 : ¬ chF σ f ≤ drawF (σ 2) % 100) → (h16 : ¬ σ 2 (184 + 26 * f + 16) = 4) → ∀ (H : Heap) (locs : List Loc) (ls : Array Slot), MH G (mA G σ s.heap.size) (drawS (drawS (fall2 σ f))) s.heap H locs → lv_has ls 10 [(0, .ref (G.2.2 0)), (1, .int (iI f)), (2, .int (iI (σ 2 (184 + 26 * f + 5)))), (7, .int (iI x)), (8, .int (iI k))] → W p l e (rmD 3) s m ([.ref (G.2.2 0), .int (iI f)] : List Value).toArray below meth c H locs 0 0 (MQ below (mQv G σ s.heap.size (fun σ' => σ' = fallsF σ f)) ([.ref (G.2.2 0), .int (iI f)] : List Value).toArray s 0 0 (mA G σ s.heap.size)) (F0 m 291 ls []) := by
    intro n
    induction n with
    | zero => intro x k hk0 hx0 hx1 hxt hn hp hs0 hc0 hc1 h16; exfalso; have := wTail_p hx0 hxt; omega
    | succ n ih_291 =>
      intro x k hk0 hx0 hx1 hxt hn hp hs0 hc0 hc1 h16 H locs ls hH hl
      have hkm := wTail_p hx0 hxt
      have hwk := hww k (by omega) (by omega)
      refine lv_iload hx hb dX4_falls_291 (lv_at hl 3 rfl) ?_
      refine lv_aload_n hx hb dX4_falls_293 rfl (lv_at hl 0 rfl) ?_
      refine m_get 2 (by decide) hx hb hts hown hK hj hH q1475 (fun _ h9 => h9) rfl dX4_falls_294 ?_
      refine n_bipush (z := 40) hx hb dX4_falls_297 (by decide) ?_
      refine n_bipush (z := 8) hx hb dX4_falls_299 (by decide) ?_
      refine lv_iload_n hx hb dX4_falls_301 rfl (lv_at hl 2 rfl) ?_
      refine n_imul hx hb dX4_falls_302 ?_
      refine n_iadd hx hb dX4_falls_303 ?_
      refine lv_iload hx hb dX4_falls_304 (lv_at hl 4 rfl) ?_
      refine n_iadd hx hb dX4_falls_306 ?_
      refine ml_2 hx hb hK hj hH (by omega) (by omega) dX4_falls_307 ?_
      refine W.eq (g2 := F0 m 308 ls (.int (iI (σ 2 (40 + 8 * σ 2 (184 + 26 * f + 5) + k))) :: .int (iI x) :: [])) (by rw [drawS_o (by omega), drawS_o (by omega), fall2_o _ _ _ (by omega) (by omega)]) ?_
      refine n_icmp_lt (tgt := 337) hx hb (r32 (by omega)) (r32 (by omega)) dX4_falls_308 (by decide) (fun c_308 => ?_) (fun c_308 => ?_)
      · -- 308T
        refine lv_aload_n hx hb dX4_falls_337 rfl (lv_at hl 0 rfl) ?_
        refine lv_iload_n hx hb dX4_falls_338 rfl (lv_at hl 1 rfl) ?_
        refine n_bipush (z := 16) hx hb dX4_falls_339 (by decide) ?_
        refine m_calliF (m_runV (As := [.int (iI f), .int (iI 16)]) (rest := []) S hH hK hj hl.1 (mm_flaskOf l G (drawS (drawS (fall2 σ f))) f 16 _ (by omega) (by omega) (by omega) (by omega)) (lw_V q1625 q1627 qs48 q109 q1628) kd_X4_flaskOf rfl rfl dX4_falls_341) hH hA (fun H locs hH => ?_)
        refine W.eq (g2 := F0 m 344 ls (.int (iI (σ 2 (184 + 26 * f + 16))) :: [])) (by rw [drawS_o (by omega), drawS_o (by omega), fall2_o _ _ _ (by omega) (by omega)]) ?_
        refine lv_istore hx hb dX4_falls_344 hl (Nat.le_of_ble_eq_true rfl) (lv' := [(9, .int (iI (σ 2 (184 + 26 * f + 16)))), (0, .ref (G.2.2 0)), (1, .int (iI f)), (2, .int (iI (σ 2 (184 + 26 * f + 5)))), (7, .int (iI x)), (8, .int (iI k))]) rfl (fun ls hl => ?_)
        refine lv_aload_n hx hb dX4_falls_346 rfl (lv_at hl 1 rfl) ?_
        refine lv_iload_n hx hb dX4_falls_347 rfl (lv_at hl 2 rfl) ?_
        refine n_bipush (z := 17) hx hb dX4_falls_348 (by decide) ?_
        refine n_iconst hx hb dX4_falls_350 ?_
        refine lv_iload hx hb dX4_falls_351 (lv_at hl 0 rfl) ?_
        refine n_imul hx hb dX4_falls_353 ?_
        refine n_iadd hx hb dX4_falls_354 ?_
        refine lv_iload hx hb dX4_falls_355 (lv_at hl 5 rfl) ?_
        refine m_callvF (m_runV (As := [.int (iI f), .int (iI (17 + (2 * (σ 2 (184 + 26 * f + 16))))), .int (iI k)]) (rest := []) S hH hK hj hl.1 (mm_sets l G (drawS (drawS (fall2 σ f))) f (17 + (2 * (σ 2 (184 + 26 * f + 16)))) k _ (by omega) (by omega) (by omega) (by omega)) (lw_V q1613 q1615 qs46 q109 q1616) kd_X4_sets rfl rfl dX4_falls_357) hH hA (fun H locs hH => ?_)
        refine lv_aload_n hx hb dX4_falls_360 rfl (lv_at hl 1 rfl) ?_
        refine lv_iload_n hx hb dX4_falls_361 rfl (lv_at hl 2 rfl) ?_
        refine n_bipush (z := 17) hx hb dX4_falls_362 (by decide) ?_
        refine n_iconst hx hb dX4_falls_364 ?_
        refine lv_iload hx hb dX4_falls_365 (lv_at hl 0 rfl) ?_
        refine n_imul hx hb dX4_falls_367 ?_
        refine n_iadd hx hb dX4_falls_368 ?_
        refine n_iconst hx hb dX4_falls_369 ?_
        refine n_iadd hx hb dX4_falls_370 ?_
        refine lv_aload_n hx hb dX4_falls_371 rfl (lv_at hl 1 rfl) ?_
        refine m_get 2 (by decide) hx hb hts hown hK hj hH q1475 (fun _ h9 => h9) rfl dX4_falls_372 ?_
        refine n_sipush (z := 1750) hx hb dX4_falls_375 (by decide) ?_
        refine ml_2 hx hb hK hj hH (by omega) (by omega) dX4_falls_378 ?_
        refine W.eq (g2 := F0 m 379 ls (.int (iI (σ 2 1750)) :: .int (iI ((17 + (2 * (σ 2 (184 + 26 * f + 16)))) + 1)) :: .int (iI f) :: .ref (G.2.2 0) :: [])) (by rw [st_i (by omega), drawS_o (by omega), drawS_o (by omega), fall2_o _ _ _ (by omega) (by omega)]) ?_
        refine m_callvF (m_runV (As := [.int (iI f), .int (iI ((17 + (2 * (σ 2 (184 + 26 * f + 16)))) + 1)), .int (iI (σ 2 1750))]) (rest := []) S hH hK hj hl.1 (mm_sets l G (st (drawS (drawS (fall2 σ f))) 2 (184 + 26 * f + (17 + (2 * (σ 2 (184 + 26 * f + 16))))) k) f ((17 + (2 * (σ 2 (184 + 26 * f + 16)))) + 1) (σ 2 1750) _ (by omega) (by omega) (by omega) (by omega)) (lw_V q1613 q1615 qs46 q109 q1616) kd_X4_sets rfl rfl dX4_falls_379) hH hA (fun H locs hH => ?_)
        refine lv_aload_n hx hb dX4_falls_382 rfl (lv_at hl 1 rfl) ?_
        refine lv_iload_n hx hb dX4_falls_383 rfl (lv_at hl 2 rfl) ?_
        refine n_bipush (z := 16) hx hb dX4_falls_384 (by decide) ?_
        refine lv_iload hx hb dX4_falls_386 (lv_at hl 0 rfl) ?_
        refine n_iconst hx hb dX4_falls_388 ?_
        refine n_iadd hx hb dX4_falls_389 ?_
        refine m_callvF (m_runV (As := [.int (iI f), .int (iI 16), .int (iI ((σ 2 (184 + 26 * f + 16)) + 1))]) (rest := []) S hH hK hj hl.1 (mm_sets l G (st (st (drawS (drawS (fall2 σ f))) 2 (184 + 26 * f + (17 + (2 * (σ 2 (184 + 26 * f + 16))))) k) 2 (184 + 26 * f + ((17 + (2 * (σ 2 (184 + 26 * f + 16)))) + 1)) (σ 2 1750)) f 16 ((σ 2 (184 + 26 * f + 16)) + 1) _ (by omega) (by omega) (by omega) (by omega)) (lw_V q1613 q1615 qs46 q109 q1616) kd_X4_sets rfl rfl dX4_falls_390) hH hA (fun H locs hH => ?_)
        refine m_vret hx hb hr hlk hH dX4_falls_393 ?_
        unfold fallsF
        rw [if_neg hc0, if_neg (by omega), if_neg hs0, ← hp, wPick_n (by omega) (by omega)]
        all_goals rfl
      · -- 308F
        refine lv_iload hx hb dX4_falls_311 (lv_at hl 3 rfl) ?_
        refine lv_aload_n hx hb dX4_falls_313 rfl (lv_at hl 0 rfl) ?_
        refine m_get 2 (by decide) hx hb hts hown hK hj hH q1475 (fun _ h9 => h9) rfl dX4_falls_314 ?_
        refine n_bipush (z := 40) hx hb dX4_falls_317 (by decide) ?_
        refine n_bipush (z := 8) hx hb dX4_falls_319 (by decide) ?_
        refine lv_iload_n hx hb dX4_falls_321 rfl (lv_at hl 2 rfl) ?_
        refine n_imul hx hb dX4_falls_322 ?_
        refine n_iadd hx hb dX4_falls_323 ?_
        refine lv_iload hx hb dX4_falls_324 (lv_at hl 4 rfl) ?_
        refine n_iadd hx hb dX4_falls_326 ?_
        refine ml_2 hx hb hK hj hH (by omega) (by omega) dX4_falls_327 ?_
        refine W.eq (g2 := F0 m 328 ls (.int (iI (σ 2 (40 + 8 * σ 2 (184 + 26 * f + 5) + k))) :: .int (iI x) :: [])) (by rw [drawS_o (by omega), drawS_o (by omega), fall2_o _ _ _ (by omega) (by omega)]) ?_
        refine n_isub hx hb dX4_falls_328 ?_
        refine lv_istore hx hb dX4_falls_329 hl (Nat.le_of_ble_eq_true rfl) (lv' := [(7, .int (iI (x - (σ 2 (40 + 8 * σ 2 (184 + 26 * f + 5) + k))))), (0, .ref (G.2.2 0)), (1, .int (iI f)), (2, .int (iI (σ 2 (184 + 26 * f + 5)))), (8, .int (iI k))]) rfl (fun ls hl => ?_)
        refine n_iinc hx hb dX4_falls_331 hl (k := 4) rfl (Nat.le_of_ble_eq_true rfl) (lv' := [(8, .int (iI (k + 1))), (7, .int (iI (x - (σ 2 (40 + 8 * σ 2 (184 + 26 * f + 5) + k))))), (0, .ref (G.2.2 0)), (1, .int (iI f)), (2, .int (iI (σ 2 (184 + 26 * f + 5))))]) rfl (fun ls hl => ?_)
        refine lv_goto (tgt := 291) hx hb dX4_falls_334 (by decide) ?_
        have hl : lv_has ls 10 [(0, .ref (G.2.2 0)), (1, .int (iI f)), (2, .int (iI (σ 2 (184 + 26 * f + 5)))), (7, .int (iI (x - (σ 2 (40 + 8 * σ 2 (184 + 26 * f + 5) + k))))), (8, .int (iI (k + 1)))] := lv_sub hl [2, 3, 4, 1, 0] rfl
        refine ih_291 (x - (σ 2 (40 + 8 * σ 2 (184 + 26 * f + 5) + k))) (k + 1) ?_ ?_ ?_ ?_ ?_ ?_ ?_ ?_ ?_ ?_ _ _ _ hH hl
        · omega
        · omega
        · omega
        · exact wTail_y hx0 hxt
        · omega
        · rw [← wPick_y (by omega) (by omega)]; exact hp
        · omega
        · omega
        · omega
        · omega
  have L235 : ∀ (n : Nat) (i : Int), (h0 : 0 ≤ i) → (h1 : i ≤ σ 2 1752) → (hn : σ 2 1752 < (n : Int) + i) → (hc0 : ¬ chF σ f = 0) → (hc1 : ¬ chF σ f ≤ drawF (σ 2) % 100) → (h16 : ¬ σ 2 (184 + 26 * f + 16) = 4) → ∀ (H : Heap) (locs : List Loc) (ls : Array Slot), MH G (mA G σ s.heap.size) (drawS (fall2 σ f)) s.heap H locs → lv_has ls 10 [(0, .ref (G.2.2 0)), (1, .int (iI f)), (2, .int (iI (σ 2 (184 + 26 * f + 5)))), (6, .int (iI (wSum σ (σ 2 (184 + 26 * f + 5)) i.toNat))), (7, .int (iI i))] → W p l e (rmD 3) s m ([.ref (G.2.2 0), .int (iI f)] : List Value).toArray below meth c H locs 0 0 (MQ below (mQv G σ s.heap.size (fun σ' => σ' = fallsF σ f)) ([.ref (G.2.2 0), .int (iI f)] : List Value).toArray s 0 0 (mA G σ s.heap.size)) (F0 m 235 ls []) := by
    intro n
    induction n with
    | zero => intro i h0 h1 hn hc0 hc1 h16; exfalso; omega
    | succ n ih_235 =>
      intro i h0 h1 hn hc0 hc1 h16 H locs ls hH hl
      have hd1 : fall2 σ f 2 1751 = σ 2 1751 := fall2_o σ f 1751 (by omega) (by omega)
      have hdd : drawS (fall2 σ f) 2 1751 = drawF (fall2 σ f 2) := drawS_d
      have hd3 := drawF_r (fall2 σ f 2)
      refine lv_iload hx hb dX4_falls_235 (lv_at hl 4 rfl) ?_
      refine lv_aload_n hx hb dX4_falls_237 rfl (lv_at hl 0 rfl) ?_
      refine m_get 2 (by decide) hx hb hts hown hK hj hH q1475 (fun _ h9 => h9) rfl dX4_falls_238 ?_
      refine n_sipush (z := 1752) hx hb dX4_falls_241 (by decide) ?_
      refine ml_2 hx hb hK hj hH (by omega) (by omega) dX4_falls_244 ?_
      refine W.eq (g2 := F0 m 245 ls (.int (iI (σ 2 1752)) :: .int (iI i) :: [])) (by rw [drawS_o (by omega), fall2_o _ _ _ (by omega) (by omega)]) ?_
      refine n_icmp_ge (tgt := 274) hx hb (r32 (by omega)) (r32 (by omega)) dX4_falls_245 (by decide) (fun c_245 => ?_) (fun c_245 => ?_)
      · -- 245T
        obtain rfl : i = (σ 2 1752) := by omega
        refine lv_iload hx hb dX4_falls_274 (lv_at hl 3 rfl) ?_
        refine n_if_ne (tgt := 280) hx hb (r32 (by omega)) dX4_falls_276 (by decide) (fun c_276 => ?_) (fun c_276 => ?_)
        · -- 276T
          have hmod := Int.emod_lt_of_pos (drawF (drawS σ 2)) (by omega : 0 < wSum σ (σ 2 (184 + 26 * f + 5)) (σ 2 1752).toNat)
          have hmod0 := Int.emod_nonneg (drawF (drawS σ 2)) (by omega : wSum σ (σ 2 (184 + 26 * f + 5)) (σ 2 1752).toNat ≠ 0)
          refine lv_aload_n hx hb dX4_falls_280 rfl (lv_at hl 0 rfl) ?_
          refine lv_iload hx hb dX4_falls_281 (lv_at hl 3 rfl) ?_
          refine m_calliF (m_runV (As := [.int (iI (wSum σ (σ 2 (184 + 26 * f + 5)) (σ 2 1752).toNat))]) (rest := []) S hH hK hj hl.1 (mm_draws l G (drawS (fall2 σ f)) (wSum σ (σ 2 (184 + 26 * f + 5)) (σ 2 1752).toNat) _ (by omega) (by omega) (by omega) (by omega)) (lw_V q1656 q1658 qs51 q109 q1659) kd_X4_draws rfl rfl dX4_falls_283) hH hA (fun H locs hH => ?_)
          refine W.eq (g2 := F0 m 286 ls (.int (iI (drawF (drawS σ 2) % wSum σ (σ 2 (184 + 26 * f + 5)) (σ 2 1752).toNat)) :: [])) (by rw [drawF_2 hd1]) ?_
          have hH := MH_to hH (τ := drawS (drawS (fall2 σ f))) (rfl)
          refine lv_istore hx hb dX4_falls_286 hl (Nat.le_of_ble_eq_true rfl) (lv' := [(7, .int (iI (drawF (drawS σ 2) % wSum σ (σ 2 (184 + 26 * f + 5)) (σ 2 1752).toNat))), (0, .ref (G.2.2 0)), (1, .int (iI f)), (2, .int (iI (σ 2 (184 + 26 * f + 5)))), (6, .int (iI (wSum σ (σ 2 (184 + 26 * f + 5)) (σ 2 1752).toNat)))]) rfl (fun ls hl => ?_)
          refine n_iconst hx hb dX4_falls_288 ?_
          refine lv_istore hx hb dX4_falls_289 hl (Nat.le_of_ble_eq_true rfl) (lv' := [(8, .int (iI 0)), (7, .int (iI (drawF (drawS σ 2) % wSum σ (σ 2 (184 + 26 * f + 5)) (σ 2 1752).toNat))), (0, .ref (G.2.2 0)), (1, .int (iI f)), (2, .int (iI (σ 2 (184 + 26 * f + 5)))), (6, .int (iI (wSum σ (σ 2 (184 + 26 * f + 5)) (σ 2 1752).toNat)))]) rfl (fun ls hl => ?_)
          have hl : lv_has ls 10 [(0, .ref (G.2.2 0)), (1, .int (iI f)), (2, .int (iI (σ 2 (184 + 26 * f + 5)))), (7, .int (iI (drawF (drawS σ 2) % wSum σ (σ 2 (184 + 26 * f + 5)) (σ 2 1752).toNat))), (8, .int (iI 0))] := lv_sub hl [2, 3, 4, 1, 0] rfl
          refine L291 9 (drawF (drawS σ 2) % wSum σ (σ 2 (184 + 26 * f + 5)) (σ 2 1752).toNat) 0 ?_ ?_ ?_ ?_ ?_ ?_ ?_ ?_ ?_ ?_ _ _ _ hH hl
          · omega
          · omega
          · omega
          · rw [wTail_all]; omega
          · omega
          · rfl
          · omega
          · omega
          · omega
          · omega
        · -- 276F
          refine m_vret hx hb hr hlk hH dX4_falls_279 ?_
          unfold fallsF
          rw [if_neg hc0, if_neg (by omega), if_pos c_276]
      · -- 245F
        have hwi := hww i (by omega) (by omega)
        have hsi := wSum_r (σ := σ) (q := σ 2 (184 + 26 * f + 5)) hww i.toNat (by omega)
        refine lv_iload hx hb dX4_falls_248 (lv_at hl 3 rfl) ?_
        refine lv_aload_n hx hb dX4_falls_250 rfl (lv_at hl 0 rfl) ?_
        refine m_get 2 (by decide) hx hb hts hown hK hj hH q1475 (fun _ h9 => h9) rfl dX4_falls_251 ?_
        refine n_bipush (z := 40) hx hb dX4_falls_254 (by decide) ?_
        refine n_bipush (z := 8) hx hb dX4_falls_256 (by decide) ?_
        refine lv_iload_n hx hb dX4_falls_258 rfl (lv_at hl 2 rfl) ?_
        refine n_imul hx hb dX4_falls_259 ?_
        refine n_iadd hx hb dX4_falls_260 ?_
        refine lv_iload hx hb dX4_falls_261 (lv_at hl 4 rfl) ?_
        refine n_iadd hx hb dX4_falls_263 ?_
        refine ml_2 hx hb hK hj hH (by omega) (by omega) dX4_falls_264 ?_
        refine W.eq (g2 := F0 m 265 ls (.int (iI (σ 2 (40 + 8 * σ 2 (184 + 26 * f + 5) + i))) :: .int (iI (wSum σ (σ 2 (184 + 26 * f + 5)) i.toNat)) :: [])) (by rw [drawS_o (by omega), fall2_o _ _ _ (by omega) (by omega)]) ?_
        refine n_iadd hx hb dX4_falls_265 ?_
        refine lv_istore hx hb dX4_falls_266 hl (Nat.le_of_ble_eq_true rfl) (lv' := [(6, .int (iI ((wSum σ (σ 2 (184 + 26 * f + 5)) i.toNat) + (σ 2 (40 + 8 * σ 2 (184 + 26 * f + 5) + i))))), (0, .ref (G.2.2 0)), (1, .int (iI f)), (2, .int (iI (σ 2 (184 + 26 * f + 5)))), (7, .int (iI i))]) rfl (fun ls hl => ?_)
        refine n_iinc hx hb dX4_falls_268 hl (k := 4) rfl (Nat.le_of_ble_eq_true rfl) (lv' := [(7, .int (iI (i + 1))), (6, .int (iI ((wSum σ (σ 2 (184 + 26 * f + 5)) i.toNat) + (σ 2 (40 + 8 * σ 2 (184 + 26 * f + 5) + i))))), (0, .ref (G.2.2 0)), (1, .int (iI f)), (2, .int (iI (σ 2 (184 + 26 * f + 5))))]) rfl (fun ls hl => ?_)
        refine lv_goto (tgt := 235) hx hb dX4_falls_271 (by decide) ?_
        have hl : lv_has ls 10 [(0, .ref (G.2.2 0)), (1, .int (iI f)), (2, .int (iI (σ 2 (184 + 26 * f + 5)))), (6, .int (iI ((wSum σ (σ 2 (184 + 26 * f + 5)) i.toNat) + (σ 2 (40 + 8 * σ 2 (184 + 26 * f + 5) + i))))), (7, .int (iI (i + 1)))] := lv_sub hl [2, 3, 4, 1, 0] rfl
        have hl : lv_has ls 10 [(0, .ref (G.2.2 0)), (1, .int (iI f)), (2, .int (iI (σ 2 (184 + 26 * f + 5)))), (6, .int (iI (wSum σ (σ 2 (184 + 26 * f + 5)) (i + 1).toNat))), (7, .int (iI (i + 1)))] := by rw [wSum_s (by omega)]; exact hl
        refine ih_235 (i + 1) ?_ ?_ ?_ ?_ ?_ ?_ _ _ _ hH hl
        · omega
        · omega
        · omega
        · omega
        · omega
        · omega
  have L201 : ∀ (τ : St), (hτ : τ = fall2 σ f) → ∀ (H : Heap) (locs : List Loc) (ls : Array Slot), MH G (mA G σ s.heap.size) τ s.heap H locs → lv_has ls 10 [(0, .ref (G.2.2 0)), (1, .int (iI f)), (2, .int (iI (σ 2 (184 + 26 * f + 5)))), (5, .int (iI (chF σ f)))] → W p l e (rmD 3) s m ([.ref (G.2.2 0), .int (iI f)] : List Value).toArray below meth c H locs 0 0 (MQ below (mQv G σ s.heap.size (fun σ' => σ' = fallsF σ f)) ([.ref (G.2.2 0), .int (iI f)] : List Value).toArray s 0 0 (mA G σ s.heap.size)) (F0 m 201 ls []) := by
    intro τ hτ H locs ls hH hl
    subst hτ
    have hd1 : fall2 σ f 2 1751 = σ 2 1751 := fall2_o σ f 1751 (by omega) (by omega)
    refine lv_iload hx hb dX4_falls_201 (lv_at hl 3 rfl) ?_
    refine n_if_eq (tgt := 228) hx hb (r32 (by omega)) dX4_falls_203 (by decide) (fun c_203 => ?_) (fun c_203 => ?_)
    · -- 203T
      refine m_vret hx hb hr hlk hH dX4_falls_228 ?_
      unfold fallsF
      rw [if_pos c_203]
    · -- 203F
      refine lv_aload_n hx hb dX4_falls_206 rfl (lv_at hl 0 rfl) ?_
      refine n_bipush (z := 100) hx hb dX4_falls_207 (by decide) ?_
      refine m_calliF (m_runV (As := [.int (iI 100)]) (rest := []) S hH hK hj hl.1 (mm_draws l G (fall2 σ f) 100 _ (by omega) (by omega) (by omega) (by omega)) (lw_V q1656 q1658 qs51 q109 q1659) kd_X4_draws rfl rfl dX4_falls_209) hH hA (fun H locs hH => ?_)
      refine W.eq (g2 := F0 m 212 ls (.int (iI (drawF (σ 2) % 100)) :: [])) (by rw [drawF_cg hd1]) ?_
      have hH := MH_to hH (τ := drawS (fall2 σ f)) (rfl)
      refine lv_iload hx hb dX4_falls_212 (lv_at hl 3 rfl) ?_
      refine n_icmp_ge (tgt := 228) hx hb (r32 (by omega)) (r32 (by omega)) dX4_falls_214 (by decide) (fun c_214 => ?_) (fun c_214 => ?_)
      · -- 214T
        refine m_vret hx hb hr hlk hH dX4_falls_228 ?_
        unfold fallsF
        rw [if_neg c_203, if_pos (Or.inl (by omega))]
      · -- 214F
        refine lv_aload_n hx hb dX4_falls_217 rfl (lv_at hl 0 rfl) ?_
        refine lv_iload_n hx hb dX4_falls_218 rfl (lv_at hl 1 rfl) ?_
        refine n_bipush (z := 16) hx hb dX4_falls_219 (by decide) ?_
        refine m_calliF (m_runV (As := [.int (iI f), .int (iI 16)]) (rest := []) S hH hK hj hl.1 (mm_flaskOf l G (drawS (fall2 σ f)) f 16 _ (by omega) (by omega) (by omega) (by omega)) (lw_V q1625 q1627 qs48 q109 q1628) kd_X4_flaskOf rfl rfl dX4_falls_221) hH hA (fun H locs hH => ?_)
        refine W.eq (g2 := F0 m 224 ls (.int (iI (σ 2 (184 + 26 * f + 16))) :: [])) (by rw [drawS_o (by omega), fall2_o _ _ _ (by omega) (by omega)]) ?_
        refine n_iconst hx hb dX4_falls_224 ?_
        refine n_icmp_ne (tgt := 229) hx hb (r32 (by omega)) (r32 (by omega)) dX4_falls_225 (by decide) (fun c_225 => ?_) (fun c_225 => ?_)
        · -- 225T
          refine n_iconst hx hb dX4_falls_229 ?_
          refine lv_istore hx hb dX4_falls_230 hl (Nat.le_of_ble_eq_true rfl) (lv' := [(6, .int (iI 0)), (0, .ref (G.2.2 0)), (1, .int (iI f)), (2, .int (iI (σ 2 (184 + 26 * f + 5)))), (5, .int (iI (chF σ f)))]) rfl (fun ls hl => ?_)
          refine n_iconst hx hb dX4_falls_232 ?_
          refine lv_istore hx hb dX4_falls_233 hl (Nat.le_of_ble_eq_true rfl) (lv' := [(7, .int (iI 0)), (6, .int (iI 0)), (0, .ref (G.2.2 0)), (1, .int (iI f)), (2, .int (iI (σ 2 (184 + 26 * f + 5)))), (5, .int (iI (chF σ f)))]) rfl (fun ls hl => ?_)
          have hl : lv_has ls 10 [(0, .ref (G.2.2 0)), (1, .int (iI f)), (2, .int (iI (σ 2 (184 + 26 * f + 5)))), (6, .int (iI 0)), (7, .int (iI 0))] := lv_sub hl [2, 3, 4, 1, 0] rfl
          refine L235 9 0 ?_ ?_ ?_ ?_ ?_ ?_ _ _ _ hH hl
          · omega
          · omega
          · omega
          · omega
          · omega
          · omega
        · -- 225F
          refine m_vret hx hb hr hlk hH dX4_falls_228 ?_
          unfold fallsF
          rw [if_neg c_203, if_pos (Or.inr (by omega))]
  have L166 : ∀ (τ : St), (hτ : τ = fall1 σ f) → ∀ (H : Heap) (locs : List Loc) (ls : Array Slot), MH G (mA G σ s.heap.size) τ s.heap H locs → lv_has ls 10 [(0, .ref (G.2.2 0)), (1, .int (iI f)), (2, .int (iI (σ 2 (184 + 26 * f + 5)))), (5, .int (iI (chF σ f)))] → W p l e (rmD 3) s m ([.ref (G.2.2 0), .int (iI f)] : List Value).toArray below meth c H locs 0 0 (MQ below (mQv G σ s.heap.size (fun σ' => σ' = fallsF σ f)) ([.ref (G.2.2 0), .int (iI f)] : List Value).toArray s 0 0 (mA G σ s.heap.size)) (F0 m 166 ls []) := by
    intro τ hτ H locs ls hH hl
    subst hτ
    have h6 : 0 ≤ fall1 σ f 2 (184 + 26 * f + 6) ∧ fall1 σ f 2 (184 + 26 * f + 6) ≤ 1001 := by
      rw [fall1_6]
      split <;> omega
    refine lv_aload_n hx hb dX4_falls_166 rfl (lv_at hl 0 rfl) ?_
    refine lv_iload_n hx hb dX4_falls_167 rfl (lv_at hl 1 rfl) ?_
    refine n_iconst hx hb dX4_falls_168 ?_
    refine m_calliF (m_runV (As := [.int (iI f), .int (iI 1)]) (rest := []) S hH hK hj hl.1 (mm_flaskOf l G (fall1 σ f) f 1 _ (by omega) (by omega) (by omega) (by omega)) (lw_V q1625 q1627 qs48 q109 q1628) kd_X4_flaskOf rfl rfl dX4_falls_169) hH hA (fun H locs hH => ?_)
    refine W.eq (g2 := F0 m 172 ls (.int (iI (σ 2 (184 + 26 * f + 1))) :: [])) (by rw [fall1_o _ _ _ (by omega)]) ?_
    refine lv_aload_n hx hb dX4_falls_172 rfl (lv_at hl 0 rfl) ?_
    refine lv_iload_n hx hb dX4_falls_173 rfl (lv_at hl 1 rfl) ?_
    refine n_bipush (z := 6) hx hb dX4_falls_174 (by decide) ?_
    refine m_calliF (m_runV (As := [.int (iI f), .int (iI 6)]) (rest := [.int (iI (σ 2 (184 + 26 * f + 1)))]) S hH hK hj hl.1 (mm_flaskOf l G (fall1 σ f) f 6 _ (by omega) (by omega) (by omega) (by omega)) (lw_V q1625 q1627 qs48 q109 q1628) kd_X4_flaskOf rfl rfl dX4_falls_176) hH hA (fun H locs hH => ?_)
    refine m_calliF (m_runS (As := [.int (iI (σ 2 (184 + 26 * f + 1))), .int (iI ((fall1 σ f) 2 (184 + 26 * f + 6)))]) (rest := []) S hH hK hj hl.1 (mm_hasAir l G (fall1 σ f) (σ 2 (184 + 26 * f + 1)) ((fall1 σ f) 2 (184 + 26 * f + 6)) _ (r32 (by omega)) (r32 (by omega))) (lw_S q1653 q1654 q109 q1655) kd_X4_hasAir rfl rfl dX4_falls_179) hH hA (fun H locs hH => ?_)
    refine z_if_eq (tgt := 201) hx hb dX4_falls_182 (by decide) (fun c_182 => ?_) (fun c_182 => ?_)
    · -- 182T
      have hl : lv_has ls 10 [(0, .ref (G.2.2 0)), (1, .int (iI f)), (2, .int (iI (σ 2 (184 + 26 * f + 5)))), (5, .int (iI (chF σ f)))] := lv_sub hl [0, 1, 2, 3] rfl
      refine L201 (fall1 σ f) ?_ _ _ _ hH hl
      · unfold fall2
        first | exact (if_pos c_182).symm | exact (if_neg c_182).symm
    · -- 182F
      refine lv_aload_n hx hb dX4_falls_185 rfl (lv_at hl 0 rfl) ?_
      refine lv_iload_n hx hb dX4_falls_186 rfl (lv_at hl 1 rfl) ?_
      refine n_bipush (z := 11) hx hb dX4_falls_187 (by decide) ?_
      refine lv_aload_n hx hb dX4_falls_189 rfl (lv_at hl 0 rfl) ?_
      refine lv_iload_n hx hb dX4_falls_190 rfl (lv_at hl 1 rfl) ?_
      refine n_bipush (z := 11) hx hb dX4_falls_191 (by decide) ?_
      refine m_calliF (m_runV (As := [.int (iI f), .int (iI 11)]) (rest := [.int (iI 11), .int (iI f), .ref (G.2.2 0)]) S hH hK hj hl.1 (mm_flaskOf l G (fall1 σ f) f 11 _ (by omega) (by omega) (by omega) (by omega)) (lw_V q1625 q1627 qs48 q109 q1628) kd_X4_flaskOf rfl rfl dX4_falls_193) hH hA (fun H locs hH => ?_)
      refine W.eq (g2 := F0 m 196 ls (.int (iI (σ 2 (184 + 26 * f + 11))) :: .int (iI 11) :: .int (iI f) :: .ref (G.2.2 0) :: [])) (by rw [fall1_o _ _ _ (by omega)]) ?_
      refine n_iconst hx hb dX4_falls_196 ?_
      refine n_iadd hx hb dX4_falls_197 ?_
      refine m_callvF (m_runV (As := [.int (iI f), .int (iI 11), .int (iI ((σ 2 (184 + 26 * f + 11)) + 1))]) (rest := []) S hH hK hj hl.1 (mm_sets l G (fall1 σ f) f 11 ((σ 2 (184 + 26 * f + 11)) + 1) _ (by omega) (by omega) (by omega) (by omega)) (lw_V q1613 q1615 qs46 q109 q1616) kd_X4_sets rfl rfl dX4_falls_198) hH hA (fun H locs hH => ?_)
      have hl : lv_has ls 10 [(0, .ref (G.2.2 0)), (1, .int (iI f)), (2, .int (iI (σ 2 (184 + 26 * f + 5)))), (5, .int (iI (chF σ f)))] := lv_sub hl [0, 1, 2, 3] rfl
      refine L201 (st (fall1 σ f) 2 (184 + 26 * f + 11) ((σ 2 (184 + 26 * f + 11)) + 1)) ?_ _ _ _ hH hl
      · unfold fall2
        first | exact (if_pos c_182).symm | exact (if_neg c_182).symm
  have L146 : ∀ (v : Int), (hv : v = chF σ f) → ∀ (H : Heap) (locs : List Loc) (ls : Array Slot), MH G (mA G σ s.heap.size) σ s.heap H locs → lv_has ls 10 [(0, .ref (G.2.2 0)), (1, .int (iI f)), (2, .int (iI (σ 2 (184 + 26 * f + 5)))), (3, .int (iI (zb (opP σ f)))), (5, .int (iI v))] → W p l e (rmD 3) s m ([.ref (G.2.2 0), .int (iI f)] : List Value).toArray below meth c H locs 0 0 (MQ below (mQv G σ s.heap.size (fun σ' => σ' = fallsF σ f)) ([.ref (G.2.2 0), .int (iI f)] : List Value).toArray s 0 0 (mA G σ s.heap.size)) (F0 m 146 ls []) := by
    intro v hv H locs ls hH hl
    subst hv
    refine lv_iload_n hx hb dX4_falls_146 rfl (lv_at hl 3 rfl) ?_
    refine z_if_eq (tgt := 166) hx hb dX4_falls_147 (by decide) (fun c_147 => ?_) (fun c_147 => ?_)
    · -- 147T
      have hl : lv_has ls 10 [(0, .ref (G.2.2 0)), (1, .int (iI f)), (2, .int (iI (σ 2 (184 + 26 * f + 5)))), (5, .int (iI (chF σ f)))] := lv_sub hl [0, 1, 2, 4] rfl
      refine L166 σ ?_ _ _ _ hH hl
      · unfold fall1
        first | exact (if_pos c_147).symm | exact (if_neg c_147).symm
    · -- 147F
      refine lv_aload_n hx hb dX4_falls_150 rfl (lv_at hl 0 rfl) ?_
      refine lv_iload_n hx hb dX4_falls_151 rfl (lv_at hl 1 rfl) ?_
      refine n_bipush (z := 6) hx hb dX4_falls_152 (by decide) ?_
      refine lv_aload_n hx hb dX4_falls_154 rfl (lv_at hl 0 rfl) ?_
      refine lv_iload_n hx hb dX4_falls_155 rfl (lv_at hl 1 rfl) ?_
      refine n_bipush (z := 6) hx hb dX4_falls_156 (by decide) ?_
      refine m_calliF (m_runV (As := [.int (iI f), .int (iI 6)]) (rest := [.int (iI 6), .int (iI f), .ref (G.2.2 0)]) S hH hK hj hl.1 (mm_flaskOf l G σ f 6 _ (by omega) (by omega) (by omega) (by omega)) (lw_V q1625 q1627 qs48 q109 q1628) kd_X4_flaskOf rfl rfl dX4_falls_158) hH hA (fun H locs hH => ?_)
      refine n_iconst hx hb dX4_falls_161 ?_
      refine n_iadd hx hb dX4_falls_162 ?_
      refine m_callvF (m_runV (As := [.int (iI f), .int (iI 6), .int (iI ((σ 2 (184 + 26 * f + 6)) + 1))]) (rest := []) S hH hK hj hl.1 (mm_sets l G σ f 6 ((σ 2 (184 + 26 * f + 6)) + 1) _ (by omega) (by omega) (by omega) (by omega)) (lw_V q1613 q1615 qs46 q109 q1616) kd_X4_sets rfl rfl dX4_falls_163) hH hA (fun H locs hH => ?_)
      have hl : lv_has ls 10 [(0, .ref (G.2.2 0)), (1, .int (iI f)), (2, .int (iI (σ 2 (184 + 26 * f + 5)))), (5, .int (iI (chF σ f)))] := lv_sub hl [0, 1, 2, 4] rfl
      refine L166 (st σ 2 (184 + 26 * f + 6) ((σ 2 (184 + 26 * f + 6)) + 1)) ?_ _ _ _ hH hl
      · unfold fall1
        first | exact (if_pos c_147).symm | exact (if_neg c_147).symm
  have L78 : ∀ (v : Int), (hv : v = inF σ f) → ∀ (H : Heap) (locs : List Loc) (ls : Array Slot), MH G (mA G σ s.heap.size) σ s.heap H locs → lv_has ls 10 [(0, .ref (G.2.2 0)), (1, .int (iI f)), (2, .int (iI (σ 2 (184 + 26 * f + 5)))), (3, .int (iI (zb (opP σ f)))), (4, .int (iI v))] → W p l e (rmD 3) s m ([.ref (G.2.2 0), .int (iI f)] : List Value).toArray below meth c H locs 0 0 (MQ below (mQv G σ s.heap.size (fun σ' => σ' = fallsF σ f)) ([.ref (G.2.2 0), .int (iI f)] : List Value).toArray s 0 0 (mA G σ s.heap.size)) (F0 m 78 ls []) := by
    intro v hv H locs ls hH hl
    subst hv
    refine lv_aload_n hx hb dX4_falls_78 rfl (lv_at hl 0 rfl) ?_
    refine m_get 2 (by decide) hx hb hts hown hK hj hH q1475 (fun _ h9 => h9) rfl dX4_falls_79 ?_
    refine n_bipush (z := 28) hx hb dX4_falls_82 (by decide) ?_
    refine lv_iload_n hx hb dX4_falls_84 rfl (lv_at hl 2 rfl) ?_
    refine n_iadd hx hb dX4_falls_85 ?_
    refine ml_2 hx hb hK hj hH (by omega) (by omega) dX4_falls_86 ?_
    refine lv_iload hx hb dX4_falls_87 (lv_at hl 4 rfl) ?_
    refine n_imul hx hb dX4_falls_89 ?_
    refine n_bipush (z := 100) hx hb dX4_falls_90 (by decide) ?_
    refine n_idiv hx hb (by omega) (by omega) (r32 (by omega)) (by omega) dX4_falls_92 ?_
    refine lv_istore hx hb dX4_falls_93 hl (Nat.le_of_ble_eq_true rfl) (lv' := [(5, .int (iI (((σ 2 (28 + (σ 2 (184 + 26 * f + 5)))) * (inF σ f)) / 100))), (0, .ref (G.2.2 0)), (1, .int (iI f)), (2, .int (iI (σ 2 (184 + 26 * f + 5)))), (3, .int (iI (zb (opP σ f)))), (4, .int (iI (inF σ f)))]) rfl (fun ls hl => ?_)
    refine lv_aload_n hx hb dX4_falls_95 rfl (lv_at hl 1 rfl) ?_
    refine lv_iload_n hx hb dX4_falls_96 rfl (lv_at hl 2 rfl) ?_
    refine n_bipush (z := 12) hx hb dX4_falls_97 (by decide) ?_
    refine m_calliF (m_runV (As := [.int (iI f), .int (iI 12)]) (rest := []) S hH hK hj hl.1 (mm_flaskOf l G σ f 12 _ (by omega) (by omega) (by omega) (by omega)) (lw_V q1625 q1627 qs48 q109 q1628) kd_X4_flaskOf rfl rfl dX4_falls_99) hH hA (fun H locs hH => ?_)
    refine lv_aload_n hx hb dX4_falls_102 rfl (lv_at hl 1 rfl) ?_
    refine m_get 2 (by decide) hx hb hts hown hK hj hH q1475 (fun _ h9 => h9) rfl dX4_falls_103 ?_
    refine n_sipush (z := 1750) hx hb dX4_falls_106 (by decide) ?_
    refine ml_2 hx hb hK hj hH (by omega) (by omega) dX4_falls_109 ?_
    refine W.eq (g2 := F0 m 110 ls (.int (iI (σ 2 1750)) :: .int (iI (σ 2 (184 + 26 * f + 12))) :: [])) (by rfl) ?_
    refine n_icmp_ne (tgt := 146) hx hb (r32 (by omega)) (r32 (by omega)) dX4_falls_110 (by decide) (fun c_110 => ?_) (fun c_110 => ?_)
    · -- 110T
      have hl : lv_has ls 10 [(0, .ref (G.2.2 0)), (1, .int (iI f)), (2, .int (iI (σ 2 (184 + 26 * f + 5)))), (3, .int (iI (zb (opP σ f)))), (5, .int (iI (((σ 2 (28 + (σ 2 (184 + 26 * f + 5)))) * (inF σ f)) / 100)))] := lv_sub hl [1, 2, 3, 4, 0] rfl
      refine L146 (((σ 2 (28 + (σ 2 (184 + 26 * f + 5)))) * (inF σ f)) / 100) ?_ _ _ _ hH hl
      · unfold chF
        first | exact (if_neg (by omega)).symm | (rw [if_pos (by omega)]; first | exact (if_pos (show duF σ f > 10 by unfold duF; omega)).symm | exact (if_neg (show ¬ duF σ f > 10 by unfold duF; omega)).symm)
    · -- 110F
      refine lv_aload_n hx hb dX4_falls_113 rfl (lv_at hl 1 rfl) ?_
      refine m_get 2 (by decide) hx hb hts hown hK hj hH q1475 (fun _ h9 => h9) rfl dX4_falls_114 ?_
      refine n_bipush (z := 28) hx hb dX4_falls_117 (by decide) ?_
      refine lv_iload_n hx hb dX4_falls_119 rfl (lv_at hl 3 rfl) ?_
      refine n_iadd hx hb dX4_falls_120 ?_
      refine ml_2 hx hb hK hj hH (by omega) (by omega) dX4_falls_121 ?_
      refine n_bipush (z := 10) hx hb dX4_falls_122 (by decide) ?_
      refine n_icmp_le (tgt := 132) hx hb (r32 (by omega)) (r32 (by omega)) dX4_falls_124 (by decide) (fun c_124 => ?_) (fun c_124 => ?_)
      · -- 124T
        refine n_bipush (z := 10) hx hb dX4_falls_132 (by decide) ?_
        refine lv_aload_n hx hb dX4_falls_134 rfl (lv_at hl 1 rfl) ?_
        refine m_get 2 (by decide) hx hb hts hown hK hj hH q1475 (fun _ h9 => h9) rfl dX4_falls_135 ?_
        refine n_bipush (z := 28) hx hb dX4_falls_138 (by decide) ?_
        refine lv_iload_n hx hb dX4_falls_140 rfl (lv_at hl 3 rfl) ?_
        refine n_iadd hx hb dX4_falls_141 ?_
        refine ml_2 hx hb hK hj hH (by omega) (by omega) dX4_falls_142 ?_
        refine n_imul hx hb dX4_falls_143 ?_
        refine lv_istore hx hb dX4_falls_144 hl (Nat.le_of_ble_eq_true rfl) (lv' := [(5, .int (iI (10 * (σ 2 (28 + (σ 2 (184 + 26 * f + 5))))))), (0, .ref (G.2.2 0)), (1, .int (iI f)), (2, .int (iI (σ 2 (184 + 26 * f + 5)))), (3, .int (iI (zb (opP σ f)))), (4, .int (iI (inF σ f)))]) rfl (fun ls hl => ?_)
        have hl : lv_has ls 10 [(0, .ref (G.2.2 0)), (1, .int (iI f)), (2, .int (iI (σ 2 (184 + 26 * f + 5)))), (3, .int (iI (zb (opP σ f)))), (5, .int (iI (10 * (σ 2 (28 + (σ 2 (184 + 26 * f + 5)))))))] := lv_sub hl [1, 2, 3, 4, 0] rfl
        refine L146 (10 * (σ 2 (28 + (σ 2 (184 + 26 * f + 5))))) ?_ _ _ _ hH hl
        · unfold chF
          first | exact (if_neg (by omega)).symm | (rw [if_pos (by omega)]; first | exact (if_pos (show duF σ f > 10 by unfold duF; omega)).symm | exact (if_neg (show ¬ duF σ f > 10 by unfold duF; omega)).symm)
      · -- 124F
        refine n_bipush (z := 100) hx hb dX4_falls_127 (by decide) ?_
        refine lv_goto (tgt := 144) hx hb dX4_falls_129 (by decide) ?_
        refine lv_istore hx hb dX4_falls_144 hl (Nat.le_of_ble_eq_true rfl) (lv' := [(5, .int (iI 100)), (0, .ref (G.2.2 0)), (1, .int (iI f)), (2, .int (iI (σ 2 (184 + 26 * f + 5)))), (3, .int (iI (zb (opP σ f)))), (4, .int (iI (inF σ f)))]) rfl (fun ls hl => ?_)
        have hl : lv_has ls 10 [(0, .ref (G.2.2 0)), (1, .int (iI f)), (2, .int (iI (σ 2 (184 + 26 * f + 5)))), (3, .int (iI (zb (opP σ f)))), (5, .int (iI 100))] := lv_sub hl [1, 2, 3, 4, 0] rfl
        refine L146 100 ?_ _ _ _ hH hl
        · unfold chF
          first | exact (if_neg (by omega)).symm | (rw [if_pos (by omega)]; first | exact (if_pos (show duF σ f > 10 by unfold duF; omega)).symm | exact (if_neg (show ¬ duF σ f > 10 by unfold duF; omega)).symm)
  have L30 : ∀ (z : Int), (hz : z = zb (opP σ f)) → ∀ (H : Heap) (locs : List Loc) (ls : Array Slot), MH G (mA G σ s.heap.size) σ s.heap H locs → lv_has ls 10 [(0, .ref (G.2.2 0)), (1, .int (iI f)), (2, .int (iI (σ 2 (184 + 26 * f + 5))))] → W p l e (rmD 3) s m ([.ref (G.2.2 0), .int (iI f)] : List Value).toArray below meth c H locs 0 0 (MQ below (mQv G σ s.heap.size (fun σ' => σ' = fallsF σ f)) ([.ref (G.2.2 0), .int (iI f)] : List Value).toArray s 0 0 (mA G σ s.heap.size)) (F0 m 30 ls [.int (iI z)]) := by
    intro z hz H locs ls hH hl
    subst hz
    refine lv_istore_n hx hb dX4_falls_30 rfl hl (Nat.le_of_ble_eq_true rfl) (lv' := [(3, .int (iI (zb (opP σ f)))), (0, .ref (G.2.2 0)), (1, .int (iI f)), (2, .int (iI (σ 2 (184 + 26 * f + 5))))]) rfl (fun ls hl => ?_)
    refine lv_aload_n hx hb dX4_falls_31 rfl (lv_at hl 1 rfl) ?_
    refine m_get 2 (by decide) hx hb hts hown hK hj hH q1475 (fun _ h9 => h9) rfl dX4_falls_32 ?_
    refine n_bipush (z := 18) hx hb dX4_falls_35 (by decide) ?_
    refine lv_aload_n hx hb dX4_falls_37 rfl (lv_at hl 1 rfl) ?_
    refine lv_iload_n hx hb dX4_falls_38 rfl (lv_at hl 2 rfl) ?_
    refine n_iconst hx hb dX4_falls_39 ?_
    refine m_calliF (m_runV (As := [.int (iI f), .int (iI 1)]) (rest := [.int (iI 18), .ref (G.2.2 2)]) S hH hK hj hl.1 (mm_flaskOf l G σ f 1 _ (by omega) (by omega) (by omega) (by omega)) (lw_V q1625 q1627 qs48 q109 q1628) kd_X4_flaskOf rfl rfl dX4_falls_40) hH hA (fun H locs hH => ?_)
    refine n_iadd hx hb dX4_falls_43 ?_
    refine ml_2 hx hb hK hj hH (by omega) (by omega) dX4_falls_44 ?_
    refine lv_aload_n hx hb dX4_falls_45 rfl (lv_at hl 1 rfl) ?_
    refine m_get 2 (by decide) hx hb hts hown hK hj hH q1475 (fun _ h9 => h9) rfl dX4_falls_46 ?_
    refine n_bipush (z := 24) hx hb dX4_falls_49 (by decide) ?_
    refine lv_aload_n hx hb dX4_falls_51 rfl (lv_at hl 1 rfl) ?_
    refine lv_iload_n hx hb dX4_falls_52 rfl (lv_at hl 2 rfl) ?_
    refine n_bipush (z := 8) hx hb dX4_falls_53 (by decide) ?_
    refine m_calliF (m_runV (As := [.int (iI f), .int (iI 8)]) (rest := [.int (iI 24), .ref (G.2.2 2), .int (iI (σ 2 (18 + (σ 2 (184 + 26 * f + 1)))))]) S hH hK hj hl.1 (mm_flaskOf l G σ f 8 _ (by omega) (by omega) (by omega) (by omega)) (lw_V q1625 q1627 qs48 q109 q1628) kd_X4_flaskOf rfl rfl dX4_falls_55) hH hA (fun H locs hH => ?_)
    refine n_iadd hx hb dX4_falls_58 ?_
    refine ml_2 hx hb hK hj hH (by omega) (by omega) dX4_falls_59 ?_
    refine n_iadd hx hb dX4_falls_60 ?_
    refine lv_istore hx hb dX4_falls_61 hl (Nat.le_of_ble_eq_true rfl) (lv' := [(4, .int (iI ((σ 2 (18 + (σ 2 (184 + 26 * f + 1)))) + (σ 2 (24 + (σ 2 (184 + 26 * f + 8))))))), (3, .int (iI (zb (opP σ f)))), (0, .ref (G.2.2 0)), (1, .int (iI f)), (2, .int (iI (σ 2 (184 + 26 * f + 5))))]) rfl (fun ls hl => ?_)
    refine lv_iload hx hb dX4_falls_63 (lv_at hl 0 rfl) ?_
    refine n_bipush (z := 100) hx hb dX4_falls_65 (by decide) ?_
    refine n_icmp_gt (tgt := 74) hx hb (r32 (by omega)) (r32 (by omega)) dX4_falls_67 (by decide) (fun c_67 => ?_) (fun c_67 => ?_)
    · -- 67T
      refine n_bipush (z := 100) hx hb dX4_falls_74 (by decide) ?_
      refine lv_istore hx hb dX4_falls_76 hl (Nat.le_of_ble_eq_true rfl) (lv' := [(4, .int (iI 100)), (3, .int (iI (zb (opP σ f)))), (0, .ref (G.2.2 0)), (1, .int (iI f)), (2, .int (iI (σ 2 (184 + 26 * f + 5))))]) rfl (fun ls hl => ?_)
      have hl : lv_has ls 10 [(0, .ref (G.2.2 0)), (1, .int (iI f)), (2, .int (iI (σ 2 (184 + 26 * f + 5)))), (3, .int (iI (zb (opP σ f)))), (4, .int (iI 100))] := lv_sub hl [2, 3, 4, 1, 0] rfl
      refine L78 100 ?_ _ _ _ hH hl
      · unfold inF
        first | exact (if_pos (Or.inl (by omega))).symm | exact (if_pos (Or.inr c_71)).symm | exact (if_neg (fun h => h.elim (fun q => by omega) c_71)).symm
    · -- 67F
      refine lv_iload_n hx hb dX4_falls_70 rfl (lv_at hl 1 rfl) ?_
      refine z_if_eq (tgt := 78) hx hb dX4_falls_71 (by decide) (fun c_71 => ?_) (fun c_71 => ?_)
      · -- 71T
        have hl : lv_has ls 10 [(0, .ref (G.2.2 0)), (1, .int (iI f)), (2, .int (iI (σ 2 (184 + 26 * f + 5)))), (3, .int (iI (zb (opP σ f)))), (4, .int (iI ((σ 2 (18 + (σ 2 (184 + 26 * f + 1)))) + (σ 2 (24 + (σ 2 (184 + 26 * f + 8)))))))] := lv_sub hl [2, 3, 4, 1, 0] rfl
        refine L78 ((σ 2 (18 + (σ 2 (184 + 26 * f + 1)))) + (σ 2 (24 + (σ 2 (184 + 26 * f + 8))))) ?_ _ _ _ hH hl
        · unfold inF
          first | exact (if_pos (Or.inl (by omega))).symm | exact (if_pos (Or.inr c_71)).symm | exact (if_neg (fun h => h.elim (fun q => by omega) c_71)).symm
      · -- 71F
        refine n_bipush (z := 100) hx hb dX4_falls_74 (by decide) ?_
        refine lv_istore hx hb dX4_falls_76 hl (Nat.le_of_ble_eq_true rfl) (lv' := [(4, .int (iI 100)), (3, .int (iI (zb (opP σ f)))), (0, .ref (G.2.2 0)), (1, .int (iI f)), (2, .int (iI (σ 2 (184 + 26 * f + 5))))]) rfl (fun ls hl => ?_)
        have hl : lv_has ls 10 [(0, .ref (G.2.2 0)), (1, .int (iI f)), (2, .int (iI (σ 2 (184 + 26 * f + 5)))), (3, .int (iI (zb (opP σ f)))), (4, .int (iI 100))] := lv_sub hl [2, 3, 4, 1, 0] rfl
        refine L78 100 ?_ _ _ _ hH hl
        · unfold inF
          first | exact (if_pos (Or.inl (by omega))).symm | exact (if_pos (Or.inr c_71)).symm | exact (if_neg (fun h => h.elim (fun q => by omega) c_71)).symm
  refine lv_aload_n hx hb dX4_falls_0 rfl (lv_at hl 0 rfl) ?_
  refine lv_iload_n hx hb dX4_falls_1 rfl (lv_at hl 1 rfl) ?_
  refine n_iconst hx hb dX4_falls_2 ?_
  refine m_calliF (m_runV (As := [.int (iI f), .int (iI 5)]) (rest := []) S hH hK hj hl.1 (mm_flaskOf l G σ f 5 _ (by omega) (by omega) (by omega) (by omega)) (lw_V q1625 q1627 qs48 q109 q1628) kd_X4_flaskOf rfl rfl dX4_falls_3) hH hA (fun H locs hH => ?_)
  refine lv_istore_n hx hb dX4_falls_6 rfl hl (Nat.le_of_ble_eq_true rfl) (lv' := [(2, .int (iI (σ 2 (184 + 26 * f + 5)))), (0, .ref (G.2.2 0)), (1, .int (iI f))]) rfl (fun ls hl => ?_)
  refine lv_aload_n hx hb dX4_falls_7 rfl (lv_at hl 1 rfl) ?_
  refine m_get 2 (by decide) hx hb hts hown hK hj hH q1475 (fun _ h9 => h9) rfl dX4_falls_8 ?_
  refine n_sipush (z := 1750) hx hb dX4_falls_11 (by decide) ?_
  refine ml_2 hx hb hK hj hH (by omega) (by omega) dX4_falls_14 ?_
  refine lv_aload_n hx hb dX4_falls_15 rfl (lv_at hl 1 rfl) ?_
  refine lv_iload_n hx hb dX4_falls_16 rfl (lv_at hl 2 rfl) ?_
  refine n_bipush (z := 10) hx hb dX4_falls_17 (by decide) ?_
  refine m_calliF (m_runV (As := [.int (iI f), .int (iI 10)]) (rest := [.int (iI (σ 2 1750))]) S hH hK hj hl.1 (mm_flaskOf l G σ f 10 _ (by omega) (by omega) (by omega) (by omega)) (lw_V q1625 q1627 qs48 q109 q1628) kd_X4_flaskOf rfl rfl dX4_falls_19) hH hA (fun H locs hH => ?_)
  refine n_icmp_gt (tgt := 29) hx hb (r32 (by omega)) (r32 (by omega)) dX4_falls_22 (by decide) (fun c_22 => ?_) (fun c_22 => ?_)
  · -- 22T
    refine n_iconst hx hb dX4_falls_29 ?_
    have hl : lv_has ls 10 [(0, .ref (G.2.2 0)), (1, .int (iI f)), (2, .int (iI (σ 2 (184 + 26 * f + 5))))] := lv_sub hl [1, 2, 0] rfl
    refine L30 0 ?_ _ _ _ hH hl
    · first | exact (zb_t (show opP σ f by unfold opP; omega)).symm | exact (zb_f (show ¬ opP σ f by unfold opP; omega)).symm
  · -- 22F
    refine n_iconst hx hb dX4_falls_25 ?_
    refine lv_goto (tgt := 30) hx hb dX4_falls_26 (by decide) ?_
    have hl : lv_has ls 10 [(0, .ref (G.2.2 0)), (1, .int (iI f)), (2, .int (iI (σ 2 (184 + 26 * f + 5))))] := lv_sub hl [1, 2, 0] rfl
    refine L30 1 ?_ _ _ _ hH hl
    · first | exact (zb_t (show opP σ f by unfold opP; omega)).symm | exact (zb_f (show ¬ opP σ f by unfold opP; omega)).symm
