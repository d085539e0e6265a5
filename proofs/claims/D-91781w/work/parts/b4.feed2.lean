section RSG
variable {G : MG} {M : Hp} {a : Nat} {σ σ' : St} {x : XGh} {ω : XCt}
/-- the component's heap knows only some of the model's state -/
theorem RX.sg (h : RX G M a σ x ω) (e0 : σ' 0 0 = σ 0 0) (e1 : ∀ i, 0 ≤ i → i < 7 → σ' 1 i = σ 1 i) (e2 : σ' 2 = σ 2) (e3 : σ' 3 = σ 3) (e4 : σ' 4 = σ 4) (e7 : ∀ i, 0 ≤ i → i < 400 → σ' 7 i = σ 7 i) (e9 : σ' 9 0 = σ 9 0) (e10 : σ' 10 0 = σ 10 0) : RX G M a σ' x ω := by
  have ex : xF σ' x ω = xF σ x ω := by unfold xF; rw [e0, e9, e10]
  have ec : xcell G σ' x ω = xcell G σ x ω := by unfold xcell; rw [ex]
  have ei : imK σ' = imK σ := by unfold imK; rw [e3]
  unfold RX at *
  rw [ec, e2, e4, ei]
  exact ⟨h.1, h.2.1, h.2.2.1, fun i i0 i1 => by rw [e1 i i0 i1]; exact h.2.2.2.1 i i0 i1, fun i i0 i1 => by rw [e7 i i0 i1]; exact h.2.2.2.2.1 i i0 i1, h.2.2.2.2.2⟩
end RSG
theorem feed_7 {σ S1 S2 S3 S4 : St} {a b c d e j : Int} (h1 : S1 = gN a 4 σ) (h2 : S2 = gN b 4 S1) (h3 : S3 = gN c 4 S2) (h4 : S4 = gN d 4 S3) : cpA (σ 7) (σ 9 0) 20 (fiveB (fiveS σ a b c d e)) j = gN e 4 S4 7 j := by
  have e1 : S1 9 0 = σ 9 0 + 4 := by rw [h1, gN_9]; rfl
  have e2 : S2 9 0 = σ 9 0 + 8 := by rw [h2, gN_9, e1]; omega
  have e3 : S3 9 0 = σ 9 0 + 12 := by rw [h3, gN_9, e2]; omega
  have e4 : S4 9 0 = σ 9 0 + 16 := by rw [h4, gN_9, e3]; omega
  unfold cpA
  by_cases hj : σ 9 0 ≤ j ∧ j < σ 9 0 + 20
  · rw [if_pos hj]
    have hk : j = σ 9 0 + 0 ∨ j = σ 9 0 + 1 ∨ j = σ 9 0 + 2 ∨ j = σ 9 0 + 3 ∨ j = σ 9 0 + 4 ∨ j = σ 9 0 + 5 ∨ j = σ 9 0 + 6 ∨ j = σ 9 0 + 7 ∨ j = σ 9 0 + 8 ∨ j = σ 9 0 + 9 ∨ j = σ 9 0 + 10 ∨ j = σ 9 0 + 11 ∨ j = σ 9 0 + 12 ∨ j = σ 9 0 + 13 ∨ j = σ 9 0 + 14 ∨ j = σ 9 0 + 15 ∨ j = σ 9 0 + 16 ∨ j = σ 9 0 + 17 ∨ j = σ 9 0 + 18 ∨ j = σ 9 0 + 19 := by omega
    rcases hk with q | q | q | q | q | q | q | q | q | q | q | q | q | q | q | q | q | q | q | q
    · subst q
      rw [show σ 9 0 + 0 - σ 9 0 = 0 by omega]
      rw [gN_o 4 S4 (by rw [e4]; omega), h4]
      rw [gN_o 4 S3 (by rw [e3]; omega), h3]
      rw [gN_o 4 S2 (by rw [e2]; omega), h2]
      rw [gN_o 4 S1 (by rw [e1]; omega), h1]
      rw [show (σ 9 0 + 0 : Int) = σ 9 0 + ((0 : Nat) : Int) by omega, gN_i 4 0 σ (by decide)]
      rfl
    · subst q
      rw [show σ 9 0 + 1 - σ 9 0 = 1 by omega]
      rw [gN_o 4 S4 (by rw [e4]; omega), h4]
      rw [gN_o 4 S3 (by rw [e3]; omega), h3]
      rw [gN_o 4 S2 (by rw [e2]; omega), h2]
      rw [gN_o 4 S1 (by rw [e1]; omega), h1]
      rw [show (σ 9 0 + 1 : Int) = σ 9 0 + ((1 : Nat) : Int) by omega, gN_i 4 1 σ (by decide)]
      rfl
    · subst q
      rw [show σ 9 0 + 2 - σ 9 0 = 2 by omega]
      rw [gN_o 4 S4 (by rw [e4]; omega), h4]
      rw [gN_o 4 S3 (by rw [e3]; omega), h3]
      rw [gN_o 4 S2 (by rw [e2]; omega), h2]
      rw [gN_o 4 S1 (by rw [e1]; omega), h1]
      rw [show (σ 9 0 + 2 : Int) = σ 9 0 + ((2 : Nat) : Int) by omega, gN_i 4 2 σ (by decide)]
      rfl
    · subst q
      rw [show σ 9 0 + 3 - σ 9 0 = 3 by omega]
      rw [gN_o 4 S4 (by rw [e4]; omega), h4]
      rw [gN_o 4 S3 (by rw [e3]; omega), h3]
      rw [gN_o 4 S2 (by rw [e2]; omega), h2]
      rw [gN_o 4 S1 (by rw [e1]; omega), h1]
      rw [show (σ 9 0 + 3 : Int) = σ 9 0 + ((3 : Nat) : Int) by omega, gN_i 4 3 σ (by decide)]
      rfl
    · subst q
      rw [show σ 9 0 + 4 - σ 9 0 = 4 by omega]
      rw [gN_o 4 S4 (by rw [e4]; omega), h4]
      rw [gN_o 4 S3 (by rw [e3]; omega), h3]
      rw [gN_o 4 S2 (by rw [e2]; omega), h2]
      rw [show (σ 9 0 + 4 : Int) = S1 9 0 + ((0 : Nat) : Int) by rw [e1]; omega, gN_i 4 0 S1 (by decide)]
      rfl
    · subst q
      rw [show σ 9 0 + 5 - σ 9 0 = 5 by omega]
      rw [gN_o 4 S4 (by rw [e4]; omega), h4]
      rw [gN_o 4 S3 (by rw [e3]; omega), h3]
      rw [gN_o 4 S2 (by rw [e2]; omega), h2]
      rw [show (σ 9 0 + 5 : Int) = S1 9 0 + ((1 : Nat) : Int) by rw [e1]; omega, gN_i 4 1 S1 (by decide)]
      rfl
    · subst q
      rw [show σ 9 0 + 6 - σ 9 0 = 6 by omega]
      rw [gN_o 4 S4 (by rw [e4]; omega), h4]
      rw [gN_o 4 S3 (by rw [e3]; omega), h3]
      rw [gN_o 4 S2 (by rw [e2]; omega), h2]
      rw [show (σ 9 0 + 6 : Int) = S1 9 0 + ((2 : Nat) : Int) by rw [e1]; omega, gN_i 4 2 S1 (by decide)]
      rfl
    · subst q
      rw [show σ 9 0 + 7 - σ 9 0 = 7 by omega]
      rw [gN_o 4 S4 (by rw [e4]; omega), h4]
      rw [gN_o 4 S3 (by rw [e3]; omega), h3]
      rw [gN_o 4 S2 (by rw [e2]; omega), h2]
      rw [show (σ 9 0 + 7 : Int) = S1 9 0 + ((3 : Nat) : Int) by rw [e1]; omega, gN_i 4 3 S1 (by decide)]
      rfl
    · subst q
      rw [show σ 9 0 + 8 - σ 9 0 = 8 by omega]
      rw [gN_o 4 S4 (by rw [e4]; omega), h4]
      rw [gN_o 4 S3 (by rw [e3]; omega), h3]
      rw [show (σ 9 0 + 8 : Int) = S2 9 0 + ((0 : Nat) : Int) by rw [e2]; omega, gN_i 4 0 S2 (by decide)]
      rfl
    · subst q
      rw [show σ 9 0 + 9 - σ 9 0 = 9 by omega]
      rw [gN_o 4 S4 (by rw [e4]; omega), h4]
      rw [gN_o 4 S3 (by rw [e3]; omega), h3]
      rw [show (σ 9 0 + 9 : Int) = S2 9 0 + ((1 : Nat) : Int) by rw [e2]; omega, gN_i 4 1 S2 (by decide)]
      rfl
    · subst q
      rw [show σ 9 0 + 10 - σ 9 0 = 10 by omega]
      rw [gN_o 4 S4 (by rw [e4]; omega), h4]
      rw [gN_o 4 S3 (by rw [e3]; omega), h3]
      rw [show (σ 9 0 + 10 : Int) = S2 9 0 + ((2 : Nat) : Int) by rw [e2]; omega, gN_i 4 2 S2 (by decide)]
      rfl
    · subst q
      rw [show σ 9 0 + 11 - σ 9 0 = 11 by omega]
      rw [gN_o 4 S4 (by rw [e4]; omega), h4]
      rw [gN_o 4 S3 (by rw [e3]; omega), h3]
      rw [show (σ 9 0 + 11 : Int) = S2 9 0 + ((3 : Nat) : Int) by rw [e2]; omega, gN_i 4 3 S2 (by decide)]
      rfl
    · subst q
      rw [show σ 9 0 + 12 - σ 9 0 = 12 by omega]
      rw [gN_o 4 S4 (by rw [e4]; omega), h4]
      rw [show (σ 9 0 + 12 : Int) = S3 9 0 + ((0 : Nat) : Int) by rw [e3]; omega, gN_i 4 0 S3 (by decide)]
      rfl
    · subst q
      rw [show σ 9 0 + 13 - σ 9 0 = 13 by omega]
      rw [gN_o 4 S4 (by rw [e4]; omega), h4]
      rw [show (σ 9 0 + 13 : Int) = S3 9 0 + ((1 : Nat) : Int) by rw [e3]; omega, gN_i 4 1 S3 (by decide)]
      rfl
    · subst q
      rw [show σ 9 0 + 14 - σ 9 0 = 14 by omega]
      rw [gN_o 4 S4 (by rw [e4]; omega), h4]
      rw [show (σ 9 0 + 14 : Int) = S3 9 0 + ((2 : Nat) : Int) by rw [e3]; omega, gN_i 4 2 S3 (by decide)]
      rfl
    · subst q
      rw [show σ 9 0 + 15 - σ 9 0 = 15 by omega]
      rw [gN_o 4 S4 (by rw [e4]; omega), h4]
      rw [show (σ 9 0 + 15 : Int) = S3 9 0 + ((3 : Nat) : Int) by rw [e3]; omega, gN_i 4 3 S3 (by decide)]
      rfl
    · subst q
      rw [show σ 9 0 + 16 - σ 9 0 = 16 by omega]
      rw [show (σ 9 0 + 16 : Int) = S4 9 0 + ((0 : Nat) : Int) by rw [e4]; omega, gN_i 4 0 S4 (by decide)]
      rfl
    · subst q
      rw [show σ 9 0 + 17 - σ 9 0 = 17 by omega]
      rw [show (σ 9 0 + 17 : Int) = S4 9 0 + ((1 : Nat) : Int) by rw [e4]; omega, gN_i 4 1 S4 (by decide)]
      rfl
    · subst q
      rw [show σ 9 0 + 18 - σ 9 0 = 18 by omega]
      rw [show (σ 9 0 + 18 : Int) = S4 9 0 + ((2 : Nat) : Int) by rw [e4]; omega, gN_i 4 2 S4 (by decide)]
      rfl
    · subst q
      rw [show σ 9 0 + 19 - σ 9 0 = 19 by omega]
      rw [show (σ 9 0 + 19 : Int) = S4 9 0 + ((3 : Nat) : Int) by rw [e4]; omega, gN_i 4 3 S4 (by decide)]
      rfl
  · rw [if_neg hj, gN_o 4 S4 (by rw [e4]; omega), h4, gN_o 4 S3 (by rw [e3]; omega), h3, gN_o 4 S2 (by rw [e2]; omega), h2, gN_o 4 S1 (by rw [e1]; omega), h1, gN_o 4 σ (by omega)]
theorem feed_R {G : MG} {M : Hp} {q : Nat} {σ : St} {x : XGh} {ω : XCt} {a b c d e : Int} (h : RX G M q (gN e 4 (gN d 4 (gN c 4 (gN b 4 (gN a 4 σ))))) x ω) (h20 : σ 9 0 + 20 ≤ 400) : gN e 4 (gN d 4 (gN c 4 (gN b 4 (gN a 4 σ)))) 9 0 = (feedF σ a b c d e).1 ∧ ∃ ω', RX G M q (feedF σ a b c d e).2 x ω' := by
  have hf : feedF σ a b c d e = (σ 9 0 + 20, st (sa (fiveS σ a b c d e) 7 (cpA (σ 7) (σ 9 0) 20 (fiveB (fiveS σ a b c d e)))) 9 0 (σ 9 0 + 20)) := if_pos h20
  have e9 : gN e 4 (gN d 4 (gN c 4 (gN b 4 (gN a 4 σ)))) 9 0 = σ 9 0 + 20 := by
    rw [gN_9, gN_9, gN_9, gN_9, gN_9]
    omega
  have en : ∀ f, f ≠ 7 ∧ f ≠ 9 → gN e 4 (gN d 4 (gN c 4 (gN b 4 (gN a 4 σ)))) f = σ f := fun f hf => by rw [gN_n hf, gN_n hf, gN_n hf, gN_n hf, gN_n hf]
  rw [hf]
  dsimp only
  have e5 : ∀ f, f ≠ 8 → fiveS σ a b c d e f = σ f := fun f hf => by
    unfold fiveS
    rw [st_n hf, st_n hf, st_n hf, st_n hf, st_n hf]
  have eo : ∀ f, f ≠ 7 ∧ f ≠ 9 → f ≠ 8 → st (sa (fiveS σ a b c d e) 7 (cpA (σ 7) (σ 9 0) 20 (fiveB (fiveS σ a b c d e)))) 9 0 (σ 9 0 + 20) f = gN e 4 (gN d 4 (gN c 4 (gN b 4 (gN a 4 σ)))) f := fun f hf h8 => by
    rw [st_n hf.2, sa_n hf.1, e5 f h8, en f hf]
  refine ⟨e9, ω, h.sg (by rw [eo 0 (by decide) (by decide)]) (fun i i0 i1 => by rw [eo 1 (by decide) (by decide)]) (eo 2 (by decide) (by decide)) (eo 3 (by decide) (by decide)) (eo 4 (by decide) (by decide)) (fun i i0 i1 => ?_) (by rw [st_s, e9]) (by rw [eo 10 (by decide) (by decide)])⟩
  rw [st_n (by decide), sa_s]
  exact feed_7 rfl rfl rfl rfl
theorem kd_X0_feed : yX0_feed.cls = RX0 ∧ yX0_feed.cls ≠ "java/lang/invoke/MethodHandle" ∧ yX0_feed.cls ≠ "java/lang/invoke/VarHandle" ∧ (parseMethodDescriptor yX0_feed.desc).map (fun d => d.parameters.length) = some 5 := by decide +kernel
theorem xm_X0_feed (l : Launch) (G : MG) (M : Hp) (σ : St) (x : XGh) (ω : XCt) (a : Nat) (p1 : Int) (p2 : Int) (p3 : Int) (p4 : Int) (p5 : Int) (sz : Nat) (hR : RX G M a σ x ω) (h_p1 : R32 p1) (h_p2 : R32 p2) (h_p3 : R32 p3) (h_p4 : R32 p4) (h_p5 : R32 p5) (h0 : 0 ≤ σ 9 0) (h1 : σ 9 0 ≤ 400) : Met l yX0_feed (ws_ yX0_feed cX0_feed 6 (some .int)) (rmD 2) (xP G XN [.ref a, .int (iI p1), .int (iI p2), .int (iI p3), .int (iI p4), .int (iI p5)] M sz) (xQi G (DA M sz) (fun z M' => z = (feedF σ p1 p2 p3 p4 p5).1 ∧ ∃ ω', RX G M' a (feedF σ p1 p2 p3 p4 p5).2 x ω')) 0 0 (DA M sz) := by
  refine x_start (by decide) (Nat.le_of_ble_eq_true rfl) ?_
  intro p e s m below meth c ⟨S, hr, hlk, hH, hK, hXN, hsz, hnm⟩ ls hl
  subst hsz
  obtain ⟨hx, hb, hml, hown, hts⟩ := S
  have S : CallFix p m c _ _ s _ lw_all RX0 := ⟨hx, hb, hml, hown, hts⟩
  have hA : ∀ q, s.heap.size ≤ q → DA M s.heap.size q := fun q hq => Or.inr hq
  have hl : lv_has ls 6 [(0, .ref a), (1, .int (iI p1)), (2, .int (iI p2)), (3, .int (iI p3)), (4, .int (iI p4)), (5, .int (iI p5))] := hl
  refine lv_aload_n hx hb dX0_feed_0 rfl (lv_at hl 0 rfl) ?_
  refine x_get hx hb hts in_X0 hown hK hH hR.o rfl 6 (by decide) q347 (fun _ h9 => h9) rfl (by decide) dX0_feed_1 ?_
  refine n_bipush (z := 20) hx hb dX0_feed_4 (by decide) ?_
  refine n_iadd hx hb dX0_feed_6 ?_
  refine n_sipush (z := 400) hx hb dX0_feed_7 (by decide) ?_
  refine n_icmp_le (tgt := 15) hx hb (r32 (by omega)) (r32 (by omega)) dX0_feed_10 (by decide) (fun c_10 => ?_) (fun c_10 => ?_)
  · -- 10T
    refine lv_aload_n hx hb dX0_feed_15 rfl (lv_at hl 0 rfl) ?_
    refine lv_iload_n hx hb dX0_feed_16 rfl (lv_at hl 1 rfl) ?_
    refine x_callv (x_runV (As := [.int (iI p1)]) (rest := []) S hH hK (fun _ _ hW => XN.warm hW hXN) XN_b hl.1 hR.o rfl (xm_X0_four l G M σ x ω a p1 _ hR h_p1 (by first | omega | (simp only [gN_9]; omega)) (by first | omega | (simp only [gN_9]; omega))) (lw_V q804 q806 qs12 q105 q807) kd_X0_four rfl rfl dX0_feed_17) hH hA (fun M17_ H locs q_17 hH hz_17 => ?_)
    obtain ⟨ω17x, hR17x⟩ := q_17
    refine lv_aload_n hx hb dX0_feed_20 rfl (lv_at hl 0 rfl) ?_
    refine lv_iload_n hx hb dX0_feed_21 rfl (lv_at hl 2 rfl) ?_
    refine x_callv (x_runV (As := [.int (iI p2)]) (rest := []) S hH hK (fun _ _ hW => XN.warm hW hXN) XN_b hl.1 hR17x.o rfl (xm_X0_four l G M17_ (gN p1 4 σ) x ω17x a p2 _ hR17x h_p2 (by first | omega | (simp only [gN_9]; omega)) (by first | omega | (simp only [gN_9]; omega))) (lw_V q804 q806 qs12 q105 q807) kd_X0_four rfl rfl dX0_feed_22) hH hA (fun M22_ H locs q_22 hH hz_22 => ?_)
    obtain ⟨ω22x, hR22x⟩ := q_22
    refine lv_aload_n hx hb dX0_feed_25 rfl (lv_at hl 0 rfl) ?_
    refine lv_iload_n hx hb dX0_feed_26 rfl (lv_at hl 3 rfl) ?_
    refine x_callv (x_runV (As := [.int (iI p3)]) (rest := []) S hH hK (fun _ _ hW => XN.warm hW hXN) XN_b hl.1 hR22x.o rfl (xm_X0_four l G M22_ (gN p2 4 (gN p1 4 σ)) x ω22x a p3 _ hR22x h_p3 (by first | omega | (simp only [gN_9]; omega)) (by first | omega | (simp only [gN_9]; omega))) (lw_V q804 q806 qs12 q105 q807) kd_X0_four rfl rfl dX0_feed_27) hH hA (fun M27_ H locs q_27 hH hz_27 => ?_)
    obtain ⟨ω27x, hR27x⟩ := q_27
    refine lv_aload_n hx hb dX0_feed_30 rfl (lv_at hl 0 rfl) ?_
    refine lv_iload hx hb dX0_feed_31 (lv_at hl 4 rfl) ?_
    refine x_callv (x_runV (As := [.int (iI p4)]) (rest := []) S hH hK (fun _ _ hW => XN.warm hW hXN) XN_b hl.1 hR27x.o rfl (xm_X0_four l G M27_ (gN p3 4 (gN p2 4 (gN p1 4 σ))) x ω27x a p4 _ hR27x h_p4 (by first | omega | (simp only [gN_9]; omega)) (by first | omega | (simp only [gN_9]; omega))) (lw_V q804 q806 qs12 q105 q807) kd_X0_four rfl rfl dX0_feed_33) hH hA (fun M33_ H locs q_33 hH hz_33 => ?_)
    obtain ⟨ω33x, hR33x⟩ := q_33
    refine lv_aload_n hx hb dX0_feed_36 rfl (lv_at hl 0 rfl) ?_
    refine lv_iload hx hb dX0_feed_37 (lv_at hl 5 rfl) ?_
    refine x_callv (x_runV (As := [.int (iI p5)]) (rest := []) S hH hK (fun _ _ hW => XN.warm hW hXN) XN_b hl.1 hR33x.o rfl (xm_X0_four l G M33_ (gN p4 4 (gN p3 4 (gN p2 4 (gN p1 4 σ)))) x ω33x a p5 _ hR33x h_p5 (by first | omega | (simp only [gN_9]; omega)) (by first | omega | (simp only [gN_9]; omega))) (lw_V q804 q806 qs12 q105 q807) kd_X0_four rfl rfl dX0_feed_39) hH hA (fun M39_ H locs q_39 hH hz_39 => ?_)
    obtain ⟨ω39x, hR39x⟩ := q_39
    refine lv_aload_n hx hb dX0_feed_42 rfl (lv_at hl 0 rfl) ?_
    refine x_get hx hb hts in_X0 hown hK hH hR39x.o rfl 6 (by decide) q347 (fun _ h9 => h9) rfl (by decide) dX0_feed_43 ?_
    refine x_iret hx hb hr hlk hH dX0_feed_46 ?_
    exact feed_R hR39x (by omega)
  · -- 10F
    refine n_iconst hx hb dX0_feed_13 ?_
    refine x_iret hx hb hr hlk hH dX0_feed_14 ?_
    exact cmd_ret (F := feedF σ p1 p2 p3 p4 p5) (if_neg (by omega)) hR
