theorem kd_X4_asks : yX4_asks.cls = RX4 ∧ yX4_asks.cls ≠ "java/lang/invoke/MethodHandle" ∧ yX4_asks.cls ≠ "java/lang/invoke/VarHandle" ∧ (parseMethodDescriptor yX4_asks.desc).map (fun d => d.parameters.length) = some 1 := by decide +kernel
theorem mm_asks (l : Launch) (G : MG) (σ : St) (cls : List Cl) (x_ : Int) (sz : Nat) (h0 : 0 ≤ x_) (h1 : x_ < 12) (hT : TX (σ 2)) (ha : caseOK (σ 5)) (hcl : tmP (σ 2) x_ = some cls) (hlen : cls.length ≤ 12) : Met l yX4_asks (ws_ yX4_asks cX4_asks 4 none) (rmD 66) (mP G [.ref (G.2.2 0), .int (iI x_)] σ sz) (mQv G σ sz (fun σ' => AskI σ x_ cls cls.length σ')) 0 0 (mA G σ sz) := by
  refine m_start (by decide) (Nat.le_of_ble_eq_true rfl) ?_
  intro p e s m below meth c ⟨S, hr, hlk, hH, hK, hj, hsz, hnm⟩ ls hl
  subst hsz
  obtain ⟨hx, hb, hml, hown, hts⟩ := S
  have S : CallFix p m c _ _ s _ lw_all RX4 := ⟨hx, hb, hml, hown, hts⟩
  have hA : ∀ q, s.heap.size ≤ q → mA G σ s.heap.size q := fun q hq => Or.inr hq
  have hl : lv_has ls 4 [(0, .ref (G.2.2 0)), (1, .int (iI x_))] := hl
  have hsz := hT.1 x_ h0 h1
  have L33 : ∀ (q : Nat) (τ : St) (i : Int) (b : Int) (n : Int), (hQ : AskI σ x_ cls n τ) → (hi0 : 0 ≤ i) → (hi1 : i ≤ (400 * x_ + σ 2 (1758 + x_)) + 1) → (hn0 : 0 ≤ n) → (hn1 : n ≤ cls.length) → (hc : clsP (tmC (σ 2) x_) (fun k => σ 2 (6570 + k)) (400 * x_ + σ 2 (1758 + x_)) q i = some (cls.drop n.toNat)) → ∀ (H : Heap) (locs : List Loc) (ls : Array Slot), MH G (mA G σ s.heap.size) (evS τ i b) s.heap H locs → lv_has ls 4 [(0, .ref (G.2.2 0)), (1, .int (iI x_))] → W p l e (rmD 66) s m ([.ref (G.2.2 0), .int (iI x_)] : List Value).toArray below meth c H locs 0 0 (MQ below (mQv G σ s.heap.size (fun σ' => AskI σ x_ cls cls.length σ')) ([.ref (G.2.2 0), .int (iI x_)] : List Value).toArray s 0 0 (mA G σ s.heap.size)) (F0 m 33 ls []) := by
    intro q
    induction q with
    | zero => intro τ i b n hQ hi0 hi1 hn0 hn1 hc; rw [clsP] at hc; cases hc
    | succ q ih_33 =>
      intro τ i b n hQ hi0 hi1 hn0 hn1 hc H locs ls hH hl
      have he := hQ.e
      have hm := hQ.m
      have hE := hQ.ev hT h0 h1 ha
      have hcd := hQ.cd
      have L158 : ∀ (τ3 : St) (j : Int) (b1 : Int) (b2 : Int) (w : Int), (hQ3 : AskI σ x_ cls n τ3) → (h22 : τ3 22 n = (cls.getD n.toNat cl0).1) → (h24 : τ3 24 n = clS (cls.getD n.toNat cl0) (σ 5)) → (hH1 : clH (cls.getD n.toNat cl0) (σ 5) = if w = 1 ∧ b2 = 0 ∧ b1 = 0 then 1 else 0) → (hw : w = 0 ∨ w = 1) → (hb1 : b1 = 0 ∨ b1 = 1) → (hb2 : b2 = 0 ∨ b2 = 1) → (e2 : clsP (tmC (σ 2) x_) (fun k => σ 2 (6570 + k)) (400 * x_ + σ 2 (1758 + x_)) q (j + 1) = some (cls.drop (n + 1).toNat)) → (hn2 : n < cls.length) → (hi2 : 0 ≤ j) → (hi3 : j ≤ (400 * x_ + σ 2 (1758 + x_))) → ∀ (H : Heap) (locs : List Loc) (ls : Array Slot), MH G (mA G σ s.heap.size) (evS τ3 j b2) s.heap H locs → lv_has ls 4 [(0, .ref (G.2.2 0)), (1, .int (iI x_)), (2, .int (iI b1))] → W p l e (rmD 66) s m ([.ref (G.2.2 0), .int (iI x_)] : List Value).toArray below meth c H locs 0 0 (MQ below (mQv G σ s.heap.size (fun σ' => AskI σ x_ cls cls.length σ')) ([.ref (G.2.2 0), .int (iI x_)] : List Value).toArray s 0 0 (mA G σ s.heap.size)) (F0 m 158 ls [.int (iI w)]) := by
        intro τ3 j b1 b2 w hQ3 h22 h24 hH1 hw hb1 hb2 e2 hn2 hi2 hi3 H locs ls hH hl
        have he3 := hQ3.e
        have hm3 := hQ3.m
        refine lv_istore_n hx hb dX4_asks_158 rfl hl (Nat.le_of_ble_eq_true rfl) (lv' := [(3, .int (iI w)), (0, .ref (G.2.2 0)), (1, .int (iI x_)), (2, .int (iI b1))]) rfl (fun ls hl => ?_)
        refine lv_aload_n hx hb dX4_asks_159 rfl (lv_at hl 1 rfl) ?_
        refine m_get 23 (by decide) hx hb hts hown hK hj hH q1496 (fun _ h9 => h9) rfl dX4_asks_160 ?_
        refine lv_aload_n hx hb dX4_asks_163 rfl (lv_at hl 1 rfl) ?_
        refine m_get 21 (by decide) hx hb hts hown hK hj hH q1494 (fun _ h9 => h9) rfl dX4_asks_164 ?_
        refine W.eq (g2 := F0 m 167 ls (.int (iI (τ3 21 0)) :: .ref (G.2.2 23) :: [])) rfl ?_
        refine W.eq (g2 := F0 m 167 ls (.int (iI n) :: .ref (G.2.2 23) :: [])) (by rw [hm3]) ?_
        refine lv_iload_n hx hb dX4_asks_167 rfl (lv_at hl 0 rfl) ?_
        refine n_if_eq (tgt := 186) hx hb (r32 (by omega)) dX4_asks_168 (by decide) (fun c_168 => ?_) (fun c_168 => ?_)
        · -- 168T
          refine n_iconst hx hb dX4_asks_186 ?_
          refine ms_23 hx hb hK hj hH (Or.inl rfl) (by omega) (by omega) dX4_asks_187 (fun H locs hH => ?_)
          have hH := MH_to hH (τ := evS (st τ3 23 n 0) j b2) (evS_st (by decide) (by decide))
          refine lv_aload_n hx hb dX4_asks_188 rfl (lv_at hl 1 rfl) ?_
          refine lv_dup hx hb dX4_asks_189 rfl ?_
          refine m_get 18 (by decide) hx hb hts hown hK hj hH q1491 (fun _ h9 => h9) rfl dX4_asks_190 ?_
          refine W.eq (g2 := F0 m 193 ls (.int (iI j) :: .ref (G.2.2 0) :: [])) rfl ?_
          refine n_iconst hx hb dX4_asks_193 ?_
          refine n_iadd hx hb dX4_asks_194 ?_
          refine mp_18 hx hb hts hown hK hj hH q1491 (fun _ h9 => h9) dX4_asks_195 (fun H locs hH => ?_)
          have hH := MH_to hH (τ := evS (st τ3 23 n 0) (j + 1) b2) evS_18
          refine lv_aload_n hx hb dX4_asks_198 rfl (lv_at hl 1 rfl) ?_
          refine lv_dup hx hb dX4_asks_199 rfl ?_
          refine m_get 21 (by decide) hx hb hts hown hK hj hH q1494 (fun _ h9 => h9) rfl dX4_asks_200 ?_
          refine W.eq (g2 := F0 m 203 ls (.int (iI ((st τ3 23 n 0) 21 0)) :: .ref (G.2.2 0) :: [])) rfl ?_
          refine W.eq (g2 := F0 m 203 ls (.int (iI n) :: .ref (G.2.2 0) :: [])) (by rw [st_n (by decide), hm3]) ?_
          refine n_iconst hx hb dX4_asks_203 ?_
          refine n_iadd hx hb dX4_asks_204 ?_
          refine mp_21 hx hb hts hown hK hj hH q1494 (fun _ h9 => h9) dX4_asks_205 (fun H locs hH => ?_)
          have hH := MH_to hH (τ := evS (st (st τ3 23 n 0) 21 0 (n + 1)) (j + 1) b2) (evS_st (by decide) (by decide))
          refine lv_goto (tgt := 33) hx hb dX4_asks_208 (by decide) ?_
          have hl : lv_has ls 4 [(0, .ref (G.2.2 0)), (1, .int (iI x_))] := lv_sub hl [1, 2] rfl
          refine ih_33 _ _ _ (n + 1) ?_ ?_ ?_ ?_ ?_ ?_ _ _ _ hH hl
          · exact AskI_nx (AskI_st hQ3 (by omega)) hn0 (by rw [st_n (by decide)]; exact h22) (by rw [st_s, hH1]; first | rw [if_pos (by omega)] | rw [if_neg (by omega)]) (by rw [st_n (by decide)]; exact h24)
          · omega
          · omega
          · omega
          · omega
          · exact e2
        · -- 168F
          refine lv_aload_n hx hb dX4_asks_171 rfl (lv_at hl 1 rfl) ?_
          refine m_get 20 (by decide) hx hb hts hown hK hj hH q1493 (fun _ h9 => h9) rfl dX4_asks_172 ?_
          refine W.eq (g2 := F0 m 175 ls (.int (iI b2) :: .int (iI n) :: .ref (G.2.2 23) :: [])) rfl ?_
          refine n_if_ne (tgt := 186) hx hb (r32 (by omega)) dX4_asks_175 (by decide) (fun c_175 => ?_) (fun c_175 => ?_)
          · -- 175T
            refine n_iconst hx hb dX4_asks_186 ?_
            refine ms_23 hx hb hK hj hH (Or.inl rfl) (by omega) (by omega) dX4_asks_187 (fun H locs hH => ?_)
            have hH := MH_to hH (τ := evS (st τ3 23 n 0) j b2) (evS_st (by decide) (by decide))
            refine lv_aload_n hx hb dX4_asks_188 rfl (lv_at hl 1 rfl) ?_
            refine lv_dup hx hb dX4_asks_189 rfl ?_
            refine m_get 18 (by decide) hx hb hts hown hK hj hH q1491 (fun _ h9 => h9) rfl dX4_asks_190 ?_
            refine W.eq (g2 := F0 m 193 ls (.int (iI j) :: .ref (G.2.2 0) :: [])) rfl ?_
            refine n_iconst hx hb dX4_asks_193 ?_
            refine n_iadd hx hb dX4_asks_194 ?_
            refine mp_18 hx hb hts hown hK hj hH q1491 (fun _ h9 => h9) dX4_asks_195 (fun H locs hH => ?_)
            have hH := MH_to hH (τ := evS (st τ3 23 n 0) (j + 1) b2) evS_18
            refine lv_aload_n hx hb dX4_asks_198 rfl (lv_at hl 1 rfl) ?_
            refine lv_dup hx hb dX4_asks_199 rfl ?_
            refine m_get 21 (by decide) hx hb hts hown hK hj hH q1494 (fun _ h9 => h9) rfl dX4_asks_200 ?_
            refine W.eq (g2 := F0 m 203 ls (.int (iI ((st τ3 23 n 0) 21 0)) :: .ref (G.2.2 0) :: [])) rfl ?_
            refine W.eq (g2 := F0 m 203 ls (.int (iI n) :: .ref (G.2.2 0) :: [])) (by rw [st_n (by decide), hm3]) ?_
            refine n_iconst hx hb dX4_asks_203 ?_
            refine n_iadd hx hb dX4_asks_204 ?_
            refine mp_21 hx hb hts hown hK hj hH q1494 (fun _ h9 => h9) dX4_asks_205 (fun H locs hH => ?_)
            have hH := MH_to hH (τ := evS (st (st τ3 23 n 0) 21 0 (n + 1)) (j + 1) b2) (evS_st (by decide) (by decide))
            refine lv_goto (tgt := 33) hx hb dX4_asks_208 (by decide) ?_
            have hl : lv_has ls 4 [(0, .ref (G.2.2 0)), (1, .int (iI x_))] := lv_sub hl [1, 2] rfl
            refine ih_33 _ _ _ (n + 1) ?_ ?_ ?_ ?_ ?_ ?_ _ _ _ hH hl
            · exact AskI_nx (AskI_st hQ3 (by omega)) hn0 (by rw [st_n (by decide)]; exact h22) (by rw [st_s, hH1]; first | rw [if_pos (by omega)] | rw [if_neg (by omega)]) (by rw [st_n (by decide)]; exact h24)
            · omega
            · omega
            · omega
            · omega
            · exact e2
          · -- 175F
            refine lv_iload_n hx hb dX4_asks_178 rfl (lv_at hl 3 rfl) ?_
            refine n_if_ne (tgt := 186) hx hb (r32 (by omega)) dX4_asks_179 (by decide) (fun c_179 => ?_) (fun c_179 => ?_)
            · -- 179T
              refine n_iconst hx hb dX4_asks_186 ?_
              refine ms_23 hx hb hK hj hH (Or.inl rfl) (by omega) (by omega) dX4_asks_187 (fun H locs hH => ?_)
              have hH := MH_to hH (τ := evS (st τ3 23 n 0) j b2) (evS_st (by decide) (by decide))
              refine lv_aload_n hx hb dX4_asks_188 rfl (lv_at hl 1 rfl) ?_
              refine lv_dup hx hb dX4_asks_189 rfl ?_
              refine m_get 18 (by decide) hx hb hts hown hK hj hH q1491 (fun _ h9 => h9) rfl dX4_asks_190 ?_
              refine W.eq (g2 := F0 m 193 ls (.int (iI j) :: .ref (G.2.2 0) :: [])) rfl ?_
              refine n_iconst hx hb dX4_asks_193 ?_
              refine n_iadd hx hb dX4_asks_194 ?_
              refine mp_18 hx hb hts hown hK hj hH q1491 (fun _ h9 => h9) dX4_asks_195 (fun H locs hH => ?_)
              have hH := MH_to hH (τ := evS (st τ3 23 n 0) (j + 1) b2) evS_18
              refine lv_aload_n hx hb dX4_asks_198 rfl (lv_at hl 1 rfl) ?_
              refine lv_dup hx hb dX4_asks_199 rfl ?_
              refine m_get 21 (by decide) hx hb hts hown hK hj hH q1494 (fun _ h9 => h9) rfl dX4_asks_200 ?_
              refine W.eq (g2 := F0 m 203 ls (.int (iI ((st τ3 23 n 0) 21 0)) :: .ref (G.2.2 0) :: [])) rfl ?_
              refine W.eq (g2 := F0 m 203 ls (.int (iI n) :: .ref (G.2.2 0) :: [])) (by rw [st_n (by decide), hm3]) ?_
              refine n_iconst hx hb dX4_asks_203 ?_
              refine n_iadd hx hb dX4_asks_204 ?_
              refine mp_21 hx hb hts hown hK hj hH q1494 (fun _ h9 => h9) dX4_asks_205 (fun H locs hH => ?_)
              have hH := MH_to hH (τ := evS (st (st τ3 23 n 0) 21 0 (n + 1)) (j + 1) b2) (evS_st (by decide) (by decide))
              refine lv_goto (tgt := 33) hx hb dX4_asks_208 (by decide) ?_
              have hl : lv_has ls 4 [(0, .ref (G.2.2 0)), (1, .int (iI x_))] := lv_sub hl [1, 2] rfl
              refine ih_33 _ _ _ (n + 1) ?_ ?_ ?_ ?_ ?_ ?_ _ _ _ hH hl
              · exact AskI_nx (AskI_st hQ3 (by omega)) hn0 (by rw [st_n (by decide)]; exact h22) (by rw [st_s, hH1]; first | rw [if_pos (by omega)] | rw [if_neg (by omega)]) (by rw [st_n (by decide)]; exact h24)
              · omega
              · omega
              · omega
              · omega
              · exact e2
            · -- 179F
              refine n_iconst hx hb dX4_asks_182 ?_
              refine lv_goto (tgt := 187) hx hb dX4_asks_183 (by decide) ?_
              refine ms_23 hx hb hK hj hH (Or.inr rfl) (by omega) (by omega) dX4_asks_187 (fun H locs hH => ?_)
              have hH := MH_to hH (τ := evS (st τ3 23 n 1) j b2) (evS_st (by decide) (by decide))
              refine lv_aload_n hx hb dX4_asks_188 rfl (lv_at hl 1 rfl) ?_
              refine lv_dup hx hb dX4_asks_189 rfl ?_
              refine m_get 18 (by decide) hx hb hts hown hK hj hH q1491 (fun _ h9 => h9) rfl dX4_asks_190 ?_
              refine W.eq (g2 := F0 m 193 ls (.int (iI j) :: .ref (G.2.2 0) :: [])) rfl ?_
              refine n_iconst hx hb dX4_asks_193 ?_
              refine n_iadd hx hb dX4_asks_194 ?_
              refine mp_18 hx hb hts hown hK hj hH q1491 (fun _ h9 => h9) dX4_asks_195 (fun H locs hH => ?_)
              have hH := MH_to hH (τ := evS (st τ3 23 n 1) (j + 1) b2) evS_18
              refine lv_aload_n hx hb dX4_asks_198 rfl (lv_at hl 1 rfl) ?_
              refine lv_dup hx hb dX4_asks_199 rfl ?_
              refine m_get 21 (by decide) hx hb hts hown hK hj hH q1494 (fun _ h9 => h9) rfl dX4_asks_200 ?_
              refine W.eq (g2 := F0 m 203 ls (.int (iI ((st τ3 23 n 1) 21 0)) :: .ref (G.2.2 0) :: [])) rfl ?_
              refine W.eq (g2 := F0 m 203 ls (.int (iI n) :: .ref (G.2.2 0) :: [])) (by rw [st_n (by decide), hm3]) ?_
              refine n_iconst hx hb dX4_asks_203 ?_
              refine n_iadd hx hb dX4_asks_204 ?_
              refine mp_21 hx hb hts hown hK hj hH q1494 (fun _ h9 => h9) dX4_asks_205 (fun H locs hH => ?_)
              have hH := MH_to hH (τ := evS (st (st τ3 23 n 1) 21 0 (n + 1)) (j + 1) b2) (evS_st (by decide) (by decide))
              refine lv_goto (tgt := 33) hx hb dX4_asks_208 (by decide) ?_
              have hl : lv_has ls 4 [(0, .ref (G.2.2 0)), (1, .int (iI x_))] := lv_sub hl [1, 2] rfl
              refine ih_33 _ _ _ (n + 1) ?_ ?_ ?_ ?_ ?_ ?_ _ _ _ hH hl
              · exact AskI_nx (AskI_st hQ3 (by omega)) hn0 (by rw [st_n (by decide)]; exact h22) (by rw [st_s, hH1]; first | rw [if_pos (by omega)] | rw [if_neg (by omega)]) (by rw [st_n (by decide)]; exact h24)
              · omega
              · omega
              · omega
              · omega
              · exact e2
      have L126 : ∀ (τ3 : St) (i1 : Int) (b1 : Int) (s0 : Option Mean) (w0 : Option Mean) (j : Int), (hQ3 : AskI σ x_ cls n τ3) → (h22 : τ3 22 n = (cls.getD n.toNat cl0).1) → (h24 : τ3 24 n = clS (cls.getD n.toNat cl0) (σ 5)) → (hg : (cls.getD n.toNat cl0).2 = (s0, w0)) → (hb1 : b1 = if (s0.all (fun f => (f (σ 5)).isSome)) = true then 0 else 1) → (e5 : (if tmC (σ 2) x_ i1 = 6 then (mn (tmC (σ 2) x_) (fun k => σ 2 (6570 + k)) 60 5 (i1 + 1)).map (fun r => (some r.1, r.2)) else some (none, i1)) = some (w0, j)) → (e2 : clsP (tmC (σ 2) x_) (fun k => σ 2 (6570 + k)) (400 * x_ + σ 2 (1758 + x_)) q (j + 1) = some (cls.drop (n + 1).toNat)) → (hn2 : n < cls.length) → (hi2 : 0 ≤ i1) → (hi3 : i1 ≤ (400 * x_ + σ 2 (1758 + x_))) → ∀ (H : Heap) (locs : List Loc) (ls : Array Slot), MH G (mA G σ s.heap.size) (evS τ3 i1 b1) s.heap H locs → lv_has ls 4 [(0, .ref (G.2.2 0)), (1, .int (iI x_))] → W p l e (rmD 66) s m ([.ref (G.2.2 0), .int (iI x_)] : List Value).toArray below meth c H locs 0 0 (MQ below (mQv G σ s.heap.size (fun σ' => AskI σ x_ cls cls.length σ')) ([.ref (G.2.2 0), .int (iI x_)] : List Value).toArray s 0 0 (mA G σ s.heap.size)) (F0 m 126 ls []) := by
        intro τ3 i1 b1 s0 w0 j hQ3 h22 h24 hg hb1 e5 e2 hn2 hi2 hi3 H locs ls hH hl
        have he3 := hQ3.e
        have hE3 := hQ3.ev hT h0 h1 ha
        have hb01 : b1 = 0 ∨ b1 = 1 := by rw [hb1]; split <;> omega
        rw [← hQ3.cd, ← hQ3.vl] at e5
        refine lv_aload_n hx hb dX4_asks_126 rfl (lv_at hl 0 rfl) ?_
        refine m_get 20 (by decide) hx hb hts hown hK hj hH q1493 (fun _ h9 => h9) rfl dX4_asks_127 ?_
        refine W.eq (g2 := F0 m 130 ls (.int (iI b1) :: [])) rfl ?_
        refine lv_istore_n hx hb dX4_asks_130 rfl hl (Nat.le_of_ble_eq_true rfl) (lv' := [(2, .int (iI b1)), (0, .ref (G.2.2 0)), (1, .int (iI x_))]) rfl (fun ls hl => ?_)
        refine lv_aload_n hx hb dX4_asks_131 rfl (lv_at hl 1 rfl) ?_
        refine n_iconst hx hb dX4_asks_132 ?_
        refine mp_20 hx hb hts hown hK hj hH q1493 (fun _ h9 => h9) (Or.inl rfl) dX4_asks_133 (fun H locs hH => ?_)
        have hH := MH_to hH (τ := evS τ3 i1 0) evS_20
        refine lv_aload_n hx hb dX4_asks_136 rfl (lv_at hl 1 rfl) ?_
        refine n_bipush (z := 6) hx hb dX4_asks_137 (by decide) ?_
        refine m_calliF (m_runV (As := [.int (iI 6)]) (rest := []) S hH hK hj hl.1 (mm_passes l G τ3 i1 (0 : Int) 6 _ hE3 (by omega) (by omega) (by omega) (by omega)) (lw_V q1839 q1841 qs82 q109 q1842) kd_X4_passes rfl rfl dX4_asks_139) hH hA (fun H locs hH => ?_)
        refine z_if_eq (tgt := 153) hx hb dX4_asks_142 (by decide) (fun c_142 => ?_) (fun c_142 => ?_)
        · -- 142T
          rw [if_neg c_142] at hH
          rw [if_neg c_142] at e5
          obtain ⟨rfl, rfl⟩ := Prod.mk.inj (Option.some.inj e5)
          refine n_iconst hx hb dX4_asks_153 ?_
          refine lv_goto (tgt := 158) hx hb dX4_asks_154 (by decide) ?_
          have hl : lv_has ls 4 [(0, .ref (G.2.2 0)), (1, .int (iI x_)), (2, .int (iI b1))] := lv_sub hl [1, 2, 0] rfl
          refine L158 _ _ b1 _ 1 ?_ ?_ ?_ ?_ ?_ ?_ ?_ ?_ ?_ ?_ ?_ _ _ _ hH hl
          · exact hQ3
          · exact h22
          · exact h24
          · first | exact clH_n hg hb1 | exact clH_f hg hb1 hz0 (by rw [h35] at hzv; exact hzv rfl rfl) (by rw [h35]) (by omega)
          · omega
          · exact hb01
          · first | exact Or.inl rfl | exact brk_01 (Or.inl rfl)
          · exact e2
          · omega
          · omega
          · omega
        · -- 142F
          rw [if_pos c_142] at hH
          rw [if_pos c_142] at e5
          obtain ⟨⟨f2, j2⟩, e6, e7⟩ := Option.map_eq_some_iff.mp e5
          obtain ⟨rfl, rfl⟩ := Prod.mk.inj e7
          have hlt := cdA_lt (σ := τ3) (k := i1) (by omega)
          have hle1 := EV_le (by omega) e6
          have h35 := hQ3.a5
          refine lv_aload_n hx hb dX4_asks_145 rfl (lv_at hl 1 rfl) ?_
          refine n_iconst hx hb dX4_asks_146 ?_
          refine m_calli (m_runV (As := [.int (iI 1)]) (rest := []) S hH hK hj hl.1 ((ev_all l G 60).2.2.2.2.2.1 τ3 (i1 + 1) 0 1 f2 j2 _ hE3 (by omega) (by omega) (Or.inl rfl) (Or.inr rfl) e6) (lw_V q1849 q1851 qs84 q109 q1852) kd_X4_testOf rfl rfl dX4_asks_147) hH hA (fun z147 σ147 H locs q_147 hH => ?_)
          obtain ⟨⟨hz0, hzv⟩, e9⟩ := q_147
          subst e9
          refine n_if_eq (tgt := 157) hx hb (r32 (by omega)) dX4_asks_150 (by decide) (fun c_150 => ?_) (fun c_150 => ?_)
          · -- 150T
            refine n_iconst hx hb dX4_asks_157 ?_
            have hl : lv_has ls 4 [(0, .ref (G.2.2 0)), (1, .int (iI x_)), (2, .int (iI b1))] := lv_sub hl [1, 2, 0] rfl
            refine L158 _ _ b1 _ 0 ?_ ?_ ?_ ?_ ?_ ?_ ?_ ?_ ?_ ?_ ?_ _ _ _ hH hl
            · exact hQ3
            · exact h22
            · exact h24
            · first | exact clH_n hg hb1 | exact clH_f hg hb1 hz0 (by rw [h35] at hzv; exact hzv rfl rfl) (by rw [h35]) (by omega)
            · omega
            · exact hb01
            · first | exact Or.inl rfl | exact brk_01 (Or.inl rfl)
            · exact e2
            · omega
            · omega
            · omega
          · -- 150F
            refine n_iconst hx hb dX4_asks_153 ?_
            refine lv_goto (tgt := 158) hx hb dX4_asks_154 (by decide) ?_
            have hl : lv_has ls 4 [(0, .ref (G.2.2 0)), (1, .int (iI x_)), (2, .int (iI b1))] := lv_sub hl [1, 2, 0] rfl
            refine L158 _ _ b1 _ 1 ?_ ?_ ?_ ?_ ?_ ?_ ?_ ?_ ?_ ?_ ?_ _ _ _ hH hl
            · exact hQ3
            · exact h22
            · exact h24
            · first | exact clH_n hg hb1 | exact clH_f hg hb1 hz0 (by rw [h35] at hzv; exact hzv rfl rfl) (by rw [h35]) (by omega)
            · omega
            · exact hb01
            · first | exact Or.inl rfl | exact brk_01 (Or.inl rfl)
            · exact e2
            · omega
            · omega
            · omega
      refine lv_aload_n hx hb dX4_asks_33 rfl (lv_at hl 0 rfl) ?_
      refine m_get 18 (by decide) hx hb hts hown hK hj hH q1491 (fun _ h9 => h9) rfl dX4_asks_34 ?_
      refine W.eq (g2 := F0 m 37 ls (.int (iI i) :: [])) rfl ?_
      refine lv_aload_n hx hb dX4_asks_37 rfl (lv_at hl 0 rfl) ?_
      refine m_get 19 (by decide) hx hb hts hown hK hj hH q1492 (fun _ h9 => h9) rfl dX4_asks_38 ?_
      refine W.eq (g2 := F0 m 41 ls (.int (iI (τ 19 0)) :: .int (iI i) :: [])) rfl ?_
      refine n_icmp_ge (tgt := 211) hx hb (r32 (by omega)) (r32 (by omega)) dX4_asks_41 (by decide) (fun c_41 => ?_) (fun c_41 => ?_)
      · -- 41T
        refine m_vret hx hb hr hlk hH dX4_asks_211 ?_
        exact (show n = (cls.length : Int) from by
          have h9 := clsP_n (by omega) hc
          rw [List.drop_eq_nil_iff] at h9
          omega) ▸ AskI_ev hQ
      · -- 41F
        obtain ⟨c0, j, r, e1, e2, e3⟩ := clsP_y (by omega) hc
        obtain ⟨s0, i1, w0, e4, e5, e8⟩ := clP_y e1
        obtain ⟨hd1, hd2, hd3⟩ := drop_c hn0 e3
        rw [← hd3] at e2
        have hci0 := cdA_r hE hi0
        refine lv_aload_n hx hb dX4_asks_44 rfl (lv_at hl 0 rfl) ?_
        refine n_iconst hx hb dX4_asks_45 ?_
        refine mp_20 hx hb hts hown hK hj hH q1493 (fun _ h9 => h9) (Or.inl rfl) dX4_asks_46 (fun H locs hH => ?_)
        have hH := MH_to hH (τ := evS τ i 0) evS_20
        refine lv_aload_n hx hb dX4_asks_49 rfl (lv_at hl 0 rfl) ?_
        refine m_get 22 (by decide) hx hb hts hown hK hj hH q1495 (fun _ h9 => h9) rfl dX4_asks_50 ?_
        refine lv_aload_n hx hb dX4_asks_53 rfl (lv_at hl 0 rfl) ?_
        refine m_get 21 (by decide) hx hb hts hown hK hj hH q1494 (fun _ h9 => h9) rfl dX4_asks_54 ?_
        refine W.eq (g2 := F0 m 57 ls (.int (iI (τ 21 0)) :: .ref (G.2.2 22) :: [])) rfl ?_
        refine W.eq (g2 := F0 m 57 ls (.int (iI n) :: .ref (G.2.2 22) :: [])) (by rw [hm]) ?_
        refine lv_aload_n hx hb dX4_asks_57 rfl (lv_at hl 0 rfl) ?_
        refine lv_aload_n hx hb dX4_asks_58 rfl (lv_at hl 0 rfl) ?_
        refine m_get 18 (by decide) hx hb hts hown hK hj hH q1491 (fun _ h9 => h9) rfl dX4_asks_59 ?_
        refine W.eq (g2 := F0 m 62 ls (.int (iI i) :: .ref (G.2.2 0) :: .int (iI n) :: .ref (G.2.2 22) :: [])) rfl ?_
        refine m_calliF (m_runV (As := [.int (iI i)]) (rest := [.int (iI n), .ref (G.2.2 22)]) S hH hK hj hl.1 (mm_codeAt l G τ i (0 : Int) i _ hE (by omega) (by omega) (by omega) (by omega) (by omega)) (lw_V q1823 q1825 qs78 q109 q1826) kd_X4_codeAt rfl rfl dX4_asks_62) hH hA (fun H locs hH => ?_)
        refine ms_22 hx hb hK hj hH (by omega) (by omega) dX4_asks_65 (fun H locs hH => ?_)
        have hH := MH_to hH (τ := evS (st τ 22 n (cdA τ i)) i (0 : Int)) (evS_st (by decide) (by decide))
        refine lv_aload_n hx hb dX4_asks_66 rfl (lv_at hl 0 rfl) ?_
        refine lv_dup hx hb dX4_asks_67 rfl ?_
        refine m_get 18 (by decide) hx hb hts hown hK hj hH q1491 (fun _ h9 => h9) rfl dX4_asks_68 ?_
        refine W.eq (g2 := F0 m 71 ls (.int (iI i) :: .ref (G.2.2 0) :: [])) rfl ?_
        refine n_iconst hx hb dX4_asks_71 ?_
        refine n_iadd hx hb dX4_asks_72 ?_
        refine mp_18 hx hb hts hown hK hj hH q1491 (fun _ h9 => h9) dX4_asks_73 (fun H locs hH => ?_)
        have hH := MH_to hH (τ := evS (st τ 22 n (cdA τ i)) (i + 1) (0 : Int)) evS_18
        refine lv_aload_n hx hb dX4_asks_76 rfl (lv_at hl 0 rfl) ?_
        refine m_get 24 (by decide) hx hb hts hown hK hj hH q1497 (fun _ h9 => h9) rfl dX4_asks_77 ?_
        refine lv_aload_n hx hb dX4_asks_80 rfl (lv_at hl 0 rfl) ?_
        refine m_get 21 (by decide) hx hb hts hown hK hj hH q1494 (fun _ h9 => h9) rfl dX4_asks_81 ?_
        refine W.eq (g2 := F0 m 84 ls (.int (iI ((st τ 22 n (cdA τ i)) 21 0)) :: .ref (G.2.2 24) :: [])) rfl ?_
        refine W.eq (g2 := F0 m 84 ls (.int (iI n) :: .ref (G.2.2 24) :: [])) (by rw [st_n (by decide), hm]) ?_
        refine n_lconst (z := 0) hx hb dX4_asks_84 (by decide) ?_
        refine ms_24 hx hb hK hj hH (by omega) (by omega) dX4_asks_85 (fun H locs hH => ?_)
        have hH := MH_to hH (τ := evS (st (st τ 22 n (cdA τ i)) 24 n 0) (i + 1) (0 : Int)) (evS_st (by decide) (by decide))
        obtain ⟨τ2, e_τ2⟩ : ∃ τ2, τ2 = st (st τ 22 n (cdA τ i)) 24 n 0 := ⟨_, rfl⟩
        have hH := MH_to hH (τ := evS τ2 (i + 1) 0) (by rw [e_τ2])
        have hQ2 : AskI σ x_ cls n τ2 := by rw [e_τ2]; exact AskI_st (AskI_st hQ (by omega)) (by omega)
        have hcc : cdA τ i = cdA τ2 i := by rw [hcd, hQ2.cd]
        have h22 : τ2 22 n = cdA τ2 i := by rw [e_τ2, st_n (by decide), st_s, ← e_τ2, hcc]
        have h24 : τ2 24 n = 0 := by rw [e_τ2, st_s]
        have hm2 := hQ2.m
        have he2 := hQ2.e
        have h25 := hQ2.a5
        rw [← hQ2.cd, ← hQ2.vl] at e4
        have hci := cdA_r hE hi0
        refine lv_aload_n hx hb dX4_asks_86 rfl (lv_at hl 0 rfl) ?_
        refine m_get 22 (by decide) hx hb hts hown hK hj hH q1495 (fun _ h9 => h9) rfl dX4_asks_87 ?_
        refine lv_aload_n hx hb dX4_asks_90 rfl (lv_at hl 0 rfl) ?_
        refine m_get 21 (by decide) hx hb hts hown hK hj hH q1494 (fun _ h9 => h9) rfl dX4_asks_91 ?_
        refine W.eq (g2 := F0 m 94 ls (.int (iI (τ2 21 0)) :: .ref (G.2.2 22) :: [])) rfl ?_
        refine W.eq (g2 := F0 m 94 ls (.int (iI n) :: .ref (G.2.2 22) :: [])) (by rw [hm2]) ?_
        refine ml_22 hx hb hK hj hH (by omega) (by omega) dX4_asks_94 ?_
        refine W.eq (g2 := F0 m 95 ls (.int (iI (τ2 22 n)) :: [])) rfl ?_
        refine W.eq (g2 := F0 m 95 ls (.int (iI (cdA τ2 i)) :: [])) (by rw [h22]) ?_
        refine n_iconst hx hb dX4_asks_95 ?_
        refine n_icmp_eq (tgt := 112) hx hb (r32 (by omega)) (r32 (by omega)) dX4_asks_96 (by decide) (fun c_96 => ?_) (fun c_96 => ?_)
        · -- 96T
          rw [if_pos (Or.inl c_96)] at e4
          obtain ⟨⟨f1, j1⟩, e6, e7⟩ := Option.map_eq_some_iff.mp e4
          obtain ⟨rfl, rfl⟩ := Prod.mk.inj e7
          have hle1 := EV_le (by omega) e6
          refine lv_aload_n hx hb dX4_asks_112 rfl (lv_at hl 0 rfl) ?_
          refine m_get 24 (by decide) hx hb hts hown hK hj hH q1497 (fun _ h9 => h9) rfl dX4_asks_113 ?_
          refine lv_aload_n hx hb dX4_asks_116 rfl (lv_at hl 0 rfl) ?_
          refine m_get 21 (by decide) hx hb hts hown hK hj hH q1494 (fun _ h9 => h9) rfl dX4_asks_117 ?_
          refine W.eq (g2 := F0 m 120 ls (.int (iI (τ2 21 0)) :: .ref (G.2.2 24) :: [])) rfl ?_
          refine W.eq (g2 := F0 m 120 ls (.int (iI n) :: .ref (G.2.2 24) :: [])) (by rw [hm2]) ?_
          refine lv_aload_n hx hb dX4_asks_120 rfl (lv_at hl 0 rfl) ?_
          refine n_iconst hx hb dX4_asks_121 ?_
          refine m_calllF (m_runV (As := [.int (iI 1)]) (rest := [.int (iI n), .ref (G.2.2 24)]) S hH hK hj hl.1 ((ev_all l G 60).2.2.1 τ2 (i + 1) 0 1 f1 j1 _ (hQ2.ev hT h0 h1 ha) (by omega) (by omega) (Or.inl rfl) (Or.inr rfl) e6) (lw_V q1827 q1829 qs79 q109 q1830) kd_X4_sumOf rfl rfl dX4_asks_122) hH hA (fun H locs hH => ?_)
          refine ms_24 hx hb hK hj hH (by omega) (by omega) dX4_asks_125 (fun H locs hH => ?_)
          have hH := MH_to hH (τ := evS (st τ2 24 n (lv f1 (τ2 5) 1 0)) j1 (brk f1 (τ2 5) 1 0)) (evS_st (by decide) (by decide))
          have hl : lv_has ls 4 [(0, .ref (G.2.2 0)), (1, .int (iI x_))] := lv_sub hl [0, 1] rfl
          refine L126 _ _ _ (some f1) w0 j ?_ ?_ ?_ ?_ ?_ ?_ ?_ ?_ ?_ ?_ _ _ _ hH hl
          · first | exact AskI_st hQ2 (by omega) | exact hQ2
          · rw [hd2, e8]; first | (rw [st_n (by decide), h22, hQ2.cd]) | rw [h22, hQ2.cd]
          · first | (rw [hd2, e8]; exact h24) | (rw [hd2, e8, st_s, h25]; exact if_pos ⟨rfl, rfl⟩)
          · rw [hd2, e8]
          · first | rfl | (rw [h25]; exact brk_all)
          · exact e5
          · exact e2
          · omega
          · omega
          · omega
        · -- 96F
          refine lv_aload_n hx hb dX4_asks_99 rfl (lv_at hl 0 rfl) ?_
          refine m_get 22 (by decide) hx hb hts hown hK hj hH q1495 (fun _ h9 => h9) rfl dX4_asks_100 ?_
          refine lv_aload_n hx hb dX4_asks_103 rfl (lv_at hl 0 rfl) ?_
          refine m_get 21 (by decide) hx hb hts hown hK hj hH q1494 (fun _ h9 => h9) rfl dX4_asks_104 ?_
          refine W.eq (g2 := F0 m 107 ls (.int (iI (τ2 21 0)) :: .ref (G.2.2 22) :: [])) rfl ?_
          refine W.eq (g2 := F0 m 107 ls (.int (iI n) :: .ref (G.2.2 22) :: [])) (by rw [hm2]) ?_
          refine ml_22 hx hb hK hj hH (by omega) (by omega) dX4_asks_107 ?_
          refine W.eq (g2 := F0 m 108 ls (.int (iI (τ2 22 n)) :: [])) rfl ?_
          refine W.eq (g2 := F0 m 108 ls (.int (iI (cdA τ2 i)) :: [])) (by rw [h22]) ?_
          refine n_iconst hx hb dX4_asks_108 ?_
          refine n_icmp_ne (tgt := 126) hx hb (r32 (by omega)) (r32 (by omega)) dX4_asks_109 (by decide) (fun c_109 => ?_) (fun c_109 => ?_)
          · -- 109T
            rw [if_neg (fun h => h.elim c_96 c_109)] at e4
            obtain ⟨rfl, rfl⟩ := Prod.mk.inj (Option.some.inj e4)
            have hl : lv_has ls 4 [(0, .ref (G.2.2 0)), (1, .int (iI x_))] := lv_sub hl [0, 1] rfl
            refine L126 _ _ _ none w0 j ?_ ?_ ?_ ?_ ?_ ?_ ?_ ?_ ?_ ?_ _ _ _ hH hl
            · first | exact AskI_st hQ2 (by omega) | exact hQ2
            · rw [hd2, e8]; first | (rw [st_n (by decide), h22, hQ2.cd]) | rw [h22, hQ2.cd]
            · first | (rw [hd2, e8]; exact h24) | (rw [hd2, e8, st_s, h25]; exact if_pos ⟨rfl, rfl⟩)
            · rw [hd2, e8]
            · first | rfl | (rw [h25]; exact brk_all)
            · exact e5
            · exact e2
            · omega
            · omega
            · omega
          · -- 109F
            rw [if_pos (Or.inr c_109)] at e4
            obtain ⟨⟨f1, j1⟩, e6, e7⟩ := Option.map_eq_some_iff.mp e4
            obtain ⟨rfl, rfl⟩ := Prod.mk.inj e7
            have hle1 := EV_le (by omega) e6
            refine lv_aload_n hx hb dX4_asks_112 rfl (lv_at hl 0 rfl) ?_
            refine m_get 24 (by decide) hx hb hts hown hK hj hH q1497 (fun _ h9 => h9) rfl dX4_asks_113 ?_
            refine lv_aload_n hx hb dX4_asks_116 rfl (lv_at hl 0 rfl) ?_
            refine m_get 21 (by decide) hx hb hts hown hK hj hH q1494 (fun _ h9 => h9) rfl dX4_asks_117 ?_
            refine W.eq (g2 := F0 m 120 ls (.int (iI (τ2 21 0)) :: .ref (G.2.2 24) :: [])) rfl ?_
            refine W.eq (g2 := F0 m 120 ls (.int (iI n) :: .ref (G.2.2 24) :: [])) (by rw [hm2]) ?_
            refine lv_aload_n hx hb dX4_asks_120 rfl (lv_at hl 0 rfl) ?_
            refine n_iconst hx hb dX4_asks_121 ?_
            refine m_calllF (m_runV (As := [.int (iI 1)]) (rest := [.int (iI n), .ref (G.2.2 24)]) S hH hK hj hl.1 ((ev_all l G 60).2.2.1 τ2 (i + 1) 0 1 f1 j1 _ (hQ2.ev hT h0 h1 ha) (by omega) (by omega) (Or.inl rfl) (Or.inr rfl) e6) (lw_V q1827 q1829 qs79 q109 q1830) kd_X4_sumOf rfl rfl dX4_asks_122) hH hA (fun H locs hH => ?_)
            refine ms_24 hx hb hK hj hH (by omega) (by omega) dX4_asks_125 (fun H locs hH => ?_)
            have hH := MH_to hH (τ := evS (st τ2 24 n (lv f1 (τ2 5) 1 0)) j1 (brk f1 (τ2 5) 1 0)) (evS_st (by decide) (by decide))
            have hl : lv_has ls 4 [(0, .ref (G.2.2 0)), (1, .int (iI x_))] := lv_sub hl [0, 1] rfl
            refine L126 _ _ _ (some f1) w0 j ?_ ?_ ?_ ?_ ?_ ?_ ?_ ?_ ?_ ?_ _ _ _ hH hl
            · first | exact AskI_st hQ2 (by omega) | exact hQ2
            · rw [hd2, e8]; first | (rw [st_n (by decide), h22, hQ2.cd]) | rw [h22, hQ2.cd]
            · first | (rw [hd2, e8]; exact h24) | (rw [hd2, e8, st_s, h25]; exact if_pos ⟨rfl, rfl⟩)
            · rw [hd2, e8]
            · first | rfl | (rw [h25]; exact brk_all)
            · exact e5
            · exact e2
            · omega
            · omega
            · omega
  have hH := MH_to hH (τ := evS σ (σ 18 0) (σ 20 0)) (evS_self.symm)
  refine lv_aload_n hx hb dX4_asks_0 rfl (lv_at hl 0 rfl) ?_
  refine n_sipush (z := 400) hx hb dX4_asks_1 (by decide) ?_
  refine lv_iload_n hx hb dX4_asks_4 rfl (lv_at hl 1 rfl) ?_
  refine n_imul hx hb dX4_asks_5 ?_
  refine mp_18 hx hb hts hown hK hj hH q1491 (fun _ h9 => h9) dX4_asks_6 (fun H locs hH => ?_)
  have hH := MH_to hH (τ := evS σ (400 * x_) (σ 20 0)) evS_18
  refine lv_aload_n hx hb dX4_asks_9 rfl (lv_at hl 0 rfl) ?_
  refine lv_aload_n hx hb dX4_asks_10 rfl (lv_at hl 0 rfl) ?_
  refine m_get 18 (by decide) hx hb hts hown hK hj hH q1491 (fun _ h9 => h9) rfl dX4_asks_11 ?_
  refine W.eq (g2 := F0 m 14 ls (.int (iI (400 * x_)) :: .ref (G.2.2 0) :: [])) rfl ?_
  refine lv_aload_n hx hb dX4_asks_14 rfl (lv_at hl 0 rfl) ?_
  refine m_get 2 (by decide) hx hb hts hown hK hj hH q1475 (fun _ h9 => h9) rfl dX4_asks_15 ?_
  refine n_sipush (z := 1758) hx hb dX4_asks_18 (by decide) ?_
  refine lv_iload_n hx hb dX4_asks_21 rfl (lv_at hl 1 rfl) ?_
  refine n_iadd hx hb dX4_asks_22 ?_
  refine ml_2 hx hb hK hj hH (by omega) (by omega) dX4_asks_23 ?_
  refine W.eq (g2 := F0 m 24 ls (.int (iI (σ 2 (1758 + x_))) :: .int (iI (400 * x_)) :: .ref (G.2.2 0) :: [])) rfl ?_
  refine n_iadd hx hb dX4_asks_24 ?_
  refine mp_19 hx hb hts hown hK hj hH q1492 (fun _ h9 => h9) dX4_asks_25 (fun H locs hH => ?_)
  have hH := MH_to hH (τ := evS (st σ 19 0 ((400 * x_) + (σ 2 (1758 + x_)))) (400 * x_) (σ 20 0)) (evS_st (by decide) (by decide))
  refine lv_aload_n hx hb dX4_asks_28 rfl (lv_at hl 0 rfl) ?_
  refine n_iconst hx hb dX4_asks_29 ?_
  refine mp_21 hx hb hts hown hK hj hH q1494 (fun _ h9 => h9) dX4_asks_30 (fun H locs hH => ?_)
  have hH := MH_to hH (τ := evS (st (st σ 19 0 ((400 * x_) + (σ 2 (1758 + x_)))) 21 0 0) (400 * x_) (σ 20 0)) (evS_st (by decide) (by decide))
  have hl : lv_has ls 4 [(0, .ref (G.2.2 0)), (1, .int (iI x_))] := lv_sub hl [0, 1] rfl
  refine L33 402 (st (st σ 19 0 (400 * x_ + σ 2 (1758 + x_))) 21 0 0) (400 * x_) (σ 20 0) 0 ?_ ?_ ?_ ?_ ?_ ?_ _ _ _ hH hl
  · exact AskI_0 rfl
  · omega
  · omega
  · omega
  · omega
  · exact hcl
