/-! the reader's own small methods -/
def RDx (G : MG) (M : Hp) (a : Nat) (σ : St) (P : Nat → Nat) : Prop := ∃ (x : XGh) (ω : XCt), RX G M a σ x ω ∧ gp x = P
theorem RD.rx {G : MG} {M : Hp} {a : Nat} {σ : St} {P : Nat → Nat} {τ : Int → Int} {bo : Nat} {lo : Int} {x : XGh} {F T l d p : Int} {pf : Int → Option Nat} (h : RD G M a σ P τ bo lo x F T l d p pf) : RDx G M a σ P := by
  obtain ⟨ω, h, e, -⟩ := h
  exact ⟨x, ω, h, e⟩
theorem nx_e {σ : St} {F1 T1 : Int} (h1 : F1 ≠ σ 9 0) (h2 : F1 < σ 9 0) (hl : lowP (σ 7 F1) → lowE (σ 7) (σ 9 0) T1 = lowE (σ 7) (σ 9 0) (F1 + 1)) (hd : digP (σ 7 F1) → digE (σ 7) (σ 9 0) T1 = digE (σ 7) (σ 9 0) (F1 + 1)) (hn : ¬ lowP (σ 7 F1) → ¬ digP (σ 7 F1) → T1 = F1 + 1) (hs : ¬ (T1 < σ 9 0 ∧ ((lowP (σ 7 F1) ∧ lowP (σ 7 T1)) ∨ (digP (σ 7 F1) ∧ digP (σ 7 T1))))) : enX σ F1 = T1 := by
  unfold enX
  rw [if_neg h1]
  unfold enT
  by_cases q : lowP (σ 7 F1)
  · rw [if_pos q, ← hl q]
    exact lowE_n (fun z => hs ⟨z.1, Or.inl ⟨q, z.2⟩⟩)
  · rw [if_neg q]
    by_cases d : digP (σ 7 F1)
    · rw [if_pos d, ← hd d]
      exact digE_n (fun z => hs ⟨z.1, Or.inr ⟨d, z.2⟩⟩)
    · rw [if_neg d]
      exact (hn q d).symm
section RSN
variable {p : Program} {l : Launch} {e : Env} {R : Room} {s : State} {m : MethodId} {args : Array Value} {below : List Frame} {meth : Method} {c : Code} {H : Heap} {locs : List Loc} {cells slots : Nat} {Q : State → Prop}
variable {cc : ByteArray} {pc : Nat} {ls : Array Slot} {rest st0 : List Value} {G : MG} {A : Nat → Prop} {M : Hp} {H0 : Heap}
variable {y : MethodName} {bytes : ByteArray} {maxL nL mc ms n index : Nat} {ret : Option FieldType} {rm : Room} {Qc : Array Value → State → Outcome → State → Prop} {free : Addr → Prop} {own C host : String} {As : List Value}
/-- a nest mate's static method -/
theorem x_runSN (S : CallFix p m c cc nL s args lw_all own) (hH : XV G A M H0 H locs) (hK : va_K G.1 clA (tyA G.2.1) s) (hXN : XN s) (hsz : ls.size = nL)
    (hM : Met l y (ws_ y bytes maxL ret) rm (xP G XN As M H.size) Qc mc ms free) (hG : GoodIn lw_all (ws_ y bytes maxL ret)) (hst' : (Cond.static y) ∈ lw_all) (hini : (Cond.initialized y.cls) ∈ lw_all) (hl : (Cond.methodLinkNest own index y host) ∈ lw_tbl) (hd : y.cls = C ∧ y.cls ≠ "java/lang/invoke/MethodHandle" ∧ y.cls ≠ "java/lang/invoke/VarHandle" ∧ (parseMethodDescriptor y.desc).map (fun d => d.parameters.length) = some n) (hn : As.length = n) (hst : st0 = As.reverse ++ rest) (d : decode cc pc = .ok (.invokestatic index, 3)) (hrc : rm.cells = mc := by rfl) (hrs : rm.slots = ms := by rfl)
    (hR : rm.frames + 1 ≤ R.frames ∧ 8 + (maxL + 11) + rm.locals ≤ R.locals := by exact ⟨Nat.le_of_ble_eq_true rfl, Nat.le_of_ble_eq_true rfl⟩) (hW : (rest.map fun v => v.category).sum ≤ 8 := by first | exact Nat.le_of_ble_eq_true rfl | decide) (hf : cells + mc ≤ R.cells ∧ slots + ms ≤ R.slots := by exact ⟨Nat.le_of_ble_eq_true rfl, Nat.le_of_ble_eq_true rfl⟩) : va_Run p l e R s m args below meth c H locs cells slots mc ms (F0 m pc ls st0) rest (Qc As.toArray) free :=
  va_runSN (As := As) (rest := rest) S hM ⟨va_cnB n S.2.2.2.2 hG rfl hrc hrs (hXN.1 _ hl rfl) (S.2.2.2.2 _ hini) hd.2 hR, S.2.2.2.2 _ hst', trivial⟩ ⟨xP_blind XN_b, xP_at hH hK (fun U _ hW => XN.warm hW hXN)⟩ rfl hn hsz hst (lv_room hW) d hf
end RSN
theorem kd_X3_next : yX3_next.cls = RX3 ∧ yX3_next.cls ≠ "java/lang/invoke/MethodHandle" ∧ yX3_next.cls ≠ "java/lang/invoke/VarHandle" ∧ (parseMethodDescriptor yX3_next.desc).map (fun d => d.parameters.length) = some 0 := by decide +kernel
set_option maxHeartbeats 1000000 in
theorem xm_X3_next (l : Launch) (G : MG) (M : Hp) (K : (Nat → Nat) × (Nat → Nat)) (a : Nat) (σ : St) (P : Nat → Nat) (τ : Int → Int) (bo : Nat) (lo : Int) (x : XGh) (F : Int) (T : Int) (l_ : Int) (d_ : Int) (p_ : Int) (pf : Int → Option Nat) (sz : Nat) (hD : RD G M a σ P τ bo lo x F T l_ d_ p_ pf) (hB8 : ∀ i, -128 ≤ σ 7 i ∧ σ 7 i < 128) (h0 : 0 ≤ T) (h1 : T ≤ σ 9 0) (h4 : σ 9 0 ≤ 400) : Met l yX3_next (ws_ yX3_next cX3_next 3 none) (rmD 2) (xP G (XRd K M) [.ref (P 7)] M sz) (xQv G (DA M sz) (fun M' => RD G M' a σ P τ bo lo x (sk (σ 7) (σ 9 0) T) (enX σ (sk (σ 7) (σ 9 0) T)) l_ d_ p_ pf ∧ Ext M M' x x)) 0 0 (DA M sz) := by
  refine x_start (by decide) (Nat.le_of_ble_eq_true rfl) ?_
  intro p e s m below meth c ⟨S, hr, hlk, hH, hK, hX, hsz, hnm⟩ ls hl
  have hXN : XN s := hX.1
  subst hsz
  obtain ⟨hx, hb, hml, hown, hts⟩ := S
  have S : CallFix p m c _ _ s _ lw_all RX3 := ⟨hx, hb, hml, hown, hts⟩
  have hA : ∀ q, s.heap.size ≤ q → DA M s.heap.size q := fun q hq => Or.inr hq
  have hl : lv_has ls 3 [(0, .ref (P 7))] := hl
  have L52 : ∀ (N2 : Hp) (F1 : Int), (hD2 : RD G N2 a σ P τ bo lo x F1 T l_ d_ p_ pf) → (hE2 : Ext M N2 x x) → (h2 : 0 ≤ F1) → (h3 : F1 ≤ σ 9 0) → (hs2 : sk (σ 7) (σ 9 0) T = F1) → ∀ (H : Heap) (locs : List Loc) (ls : Array Slot), XV G (DA M s.heap.size) N2 s.heap H locs → lv_has ls 3 [(0, .ref (P 7))] → W p l e (rmD 2) s m ([.ref (P 7)] : List Value).toArray below meth c H locs 0 0 (MQ below (xQv G (DA M s.heap.size) (fun M' => RD G M' a σ P τ bo lo x (sk (σ 7) (σ 9 0) T) (enX σ (sk (σ 7) (σ 9 0) T)) l_ d_ p_ pf ∧ Ext M M' x x))  ([.ref (P 7)] : List Value).toArray s 0 0 (DA M s.heap.size)) (F0 m 52 ls []) := by
    intro N2 F1 hD2 hE2 h2 h3 hs2 H locs ls hH hl
    have L117 : ∀ (q : Nat) (N3 : Hp) (T1 : Int), (hD3 : RD G N3 a σ P τ bo lo x F1 T1 l_ d_ p_ pf) → (hE3 : Ext M N3 x x) → (hF1 : F1 < σ 9 0) → (h5 : F1 + 1 ≤ T1) → (h6 : T1 ≤ σ 9 0) → (hl1 : lowP (σ 7 F1) → lowE (σ 7) (σ 9 0) T1 = lowE (σ 7) (σ 9 0) (F1 + 1)) → (hd1 : digP (σ 7 F1) → digE (σ 7) (σ 9 0) T1 = digE (σ 7) (σ 9 0) (F1 + 1)) → (hn1 : ¬ lowP (σ 7 F1) → ¬ digP (σ 7 F1) → T1 = F1 + 1) → (hq : σ 9 0 < (q : Int) + T1) → ∀ (H : Heap) (locs : List Loc) (ls : Array Slot), XV G (DA M s.heap.size) N3 s.heap H locs → lv_has ls 3 [(0, .ref (P 7)), (1, .int (iI (zb (lowP (σ 7 F1))))), (2, .int (iI (zb (digP (σ 7 F1)))))] → W p l e (rmD 2) s m ([.ref (P 7)] : List Value).toArray below meth c H locs 0 0 (MQ below (xQv G (DA M s.heap.size) (fun M' => RD G M' a σ P τ bo lo x (sk (σ 7) (σ 9 0) T) (enX σ (sk (σ 7) (σ 9 0) T)) l_ d_ p_ pf ∧ Ext M M' x x))  ([.ref (P 7)] : List Value).toArray s 0 0 (DA M s.heap.size)) (F0 m 117 ls []) := by
      intro q
      induction q with
      | zero => intro N3 T1 hD3 hE3 hF1 h5 h6 hl1 hd1 hn1 hq; exfalso; omega
      | succ q ih_117 =>
        intro N3 T1 hD3 hE3 hF1 h5 h6 hl1 hd1 hn1 hq H locs ls hH hl
        refine lv_aload_n hx hb dX3_next_117 rfl (lv_at hl 0 rfl) ?_
        refine x_get hx hb hts in_X3 hown hK hH hD3.c rfl 1 (by decide) q308 (fun _ h9 => h9) rfl (by decide) dX3_next_118 ?_
        refine lv_aload_n hx hb dX3_next_121 rfl (lv_at hl 0 rfl) ?_
        refine x_get hx hb hts in_X3 hown hK hH hD3.c rfl 9 (by decide) q316 (fun _ h9 => h9) rfl (by decide) dX3_next_122 ?_
        refine x_getN hx hb hts in_X0 hown hK hH hD3.o rfl 6 (by decide) hXN q346 (fun _ h9 => h9) rfl (by decide) dX3_next_125 ?_
        refine n_icmp_ge (tgt := 188) hx hb (r32 (by omega)) (r32 (by omega)) dX3_next_128 (by decide) (fun c_128 => ?_) (fun c_128 => ?_)
        · -- 128T
          refine x_vret hx hb hr hlk hH dX3_next_188 ?_
          refine ⟨?_, hE3⟩
          rw [hs2, nx_e (σ := σ) (F1 := F1) (T1 := T1) (by omega) (by omega) hl1 hd1 hn1 (by omega)]
          exact hD3
        · -- 128F
          refine lv_iload_n hx hb dX3_next_131 rfl (lv_at hl 1 rfl) ?_
          refine z_if_eq (tgt := 153) hx hb dX3_next_132 (by decide) (fun c_132 => ?_) (fun c_132 => ?_)
          · -- 132T
            refine lv_iload_n hx hb dX3_next_153 rfl (lv_at hl 2 rfl) ?_
            refine z_if_eq (tgt := 188) hx hb dX3_next_154 (by decide) (fun c_154 => ?_) (fun c_154 => ?_)
            · -- 154T
              refine x_vret hx hb hr hlk hH dX3_next_188 ?_
              refine ⟨?_, hE3⟩
              rw [hs2, nx_e (σ := σ) (F1 := F1) (T1 := T1) (by omega) (by omega) hl1 hd1 hn1 (by omega)]
              exact hD3
            · -- 154F
              refine lv_aload_n hx hb dX3_next_157 rfl (lv_at hl 0 rfl) ?_
              refine x_get hx hb hts in_X3 hown hK hH hD3.c rfl 9 (by decide) q316 (fun _ h9 => h9) rfl (by decide) dX3_next_158 ?_
              refine x_getN hx hb hts in_X0 hown hK hH hD3.o rfl 5 (by decide) hXN q344 (fun _ h9 => h9) rfl (by decide) dX3_next_161 ?_
              refine lv_aload_n hx hb dX3_next_164 rfl (lv_at hl 0 rfl) ?_
              refine x_get hx hb hts in_X3 hown hK hH hD3.c rfl 1 (by decide) q308 (fun _ h9 => h9) rfl (by decide) dX3_next_165 ?_
              refine x_bald hx hb hK hH hD3.tp (by omega) (by omega) (Nat.le_of_ble_eq_true rfl) dX3_next_168 ?_
              have hb_168 := hB8 T1
              refine W.eq (g2 := F0 m 169 ls (.int (iI (σ 7 T1)) :: [])) (by first | (rw [hD3.ht (i := T1) (by omega) (by omega)]; done) | (rw [hD3.ht (i := T1) (by omega) (by omega)]; rfl)) ?_
              refine x_calliF (x_runSN (As := [.int (iI (σ 7 T1))]) (rest := []) S hH hK hXN hl.1 (xm_X0_isDigit l G N3 (σ 7 T1) _ (r32 (by omega))) (lw_meth q832) q831 q105 q830 kd_X0_isDigit rfl rfl dX3_next_169) hH hA (fun H locs hH => ?_)
              refine z_if_eq (tgt := 188) hx hb dX3_next_172 (by decide) (fun c_172 => ?_) (fun c_172 => ?_)
              · -- 172T
                refine x_vret hx hb hr hlk hH dX3_next_188 ?_
                refine ⟨?_, hE3⟩
                rw [hs2, nx_e (σ := σ) (F1 := F1) (T1 := T1) (by omega) (by omega) hl1 hd1 hn1 (by omega)]
                exact hD3
              · -- 172F
                refine lv_aload_n hx hb dX3_next_175 rfl (lv_at hl 0 rfl) ?_
                refine lv_dup hx hb dX3_next_176 rfl ?_
                refine x_get hx hb hts in_X3 hown hK hH hD3.c rfl 1 (by decide) q308 (fun _ h9 => h9) rfl (by decide) dX3_next_177 ?_
                refine n_iconst hx hb dX3_next_180 ?_
                refine n_iadd hx hb dX3_next_181 ?_
                refine x_put (ty := .int) hx hb hts in_X3 tyX3 tyX3_ok nmX3 hown hK hH hD3.c rfl 1 (by decide) q308 (fun _ h9 => h9) rfl (by decide +kernel) rfl rfl (Nat.le_of_ble_eq_true rfl) (by decide) dX3_next_182 (fun H locs hH => ?_)
                obtain ⟨M1, e_M1⟩ : ∃ M1, M1 = hs N3 (P 7) (oB 4 [.int (iI F1), .int (iI (T1 + 1)), .int (iI l_), .int (iI d_), .int (iI p_), .ref (P 24), .ref (P 25), .ref (P 26), .ref (P 27), .ref a]) := ⟨_, rfl⟩
                have hH := XV_to hH e_M1.symm
                have f1 : M1 (P 7) = some (oB 4 [.int (iI F1), .int (iI (T1 + 1)), .int (iI l_), .int (iI d_), .int (iI p_), .ref (P 24), .ref (P 25), .ref (P 26), .ref (P 27), .ref a]) := by rw [e_M1]; exact hs_s
                obtain ⟨hD2, hX2⟩ := hD3.put1 (v := (T1 + 1))
                rw [← e_M1] at hD2 hX2
                have hE2 := hE3.tr hX2
                refine lv_goto (tgt := 117) hx hb dX3_next_185 (by decide) ?_
                have hl : lv_has ls 3 [(0, .ref (P 7)), (1, .int (iI (zb (lowP (σ 7 F1))))), (2, .int (iI (zb (digP (σ 7 F1)))))] := lv_sub hl [0, 1, 2] rfl
                refine ih_117 M1 (T1 + 1) ?_ ?_ ?_ ?_ ?_ ?_ ?_ ?_ ?_ _ _ _ hH hl
                · exact hD2
                · exact hE2
                · omega
                · omega
                · omega
                · intro z; first | (exfalso; omega) | (rw [← lowE_y (by omega) (by omega)]; exact hl1 z)
                · intro z; first | (exfalso; omega) | (rw [← digE_y (by omega) (by omega)]; exact hd1 z)
                · intro z z2; exfalso; omega
                · omega
          · -- 132F
            refine lv_aload_n hx hb dX3_next_135 rfl (lv_at hl 0 rfl) ?_
            refine x_get hx hb hts in_X3 hown hK hH hD3.c rfl 9 (by decide) q316 (fun _ h9 => h9) rfl (by decide) dX3_next_136 ?_
            refine x_getN hx hb hts in_X0 hown hK hH hD3.o rfl 5 (by decide) hXN q344 (fun _ h9 => h9) rfl (by decide) dX3_next_139 ?_
            refine lv_aload_n hx hb dX3_next_142 rfl (lv_at hl 0 rfl) ?_
            refine x_get hx hb hts in_X3 hown hK hH hD3.c rfl 1 (by decide) q308 (fun _ h9 => h9) rfl (by decide) dX3_next_143 ?_
            refine x_bald hx hb hK hH hD3.tp (by omega) (by omega) (Nat.le_of_ble_eq_true rfl) dX3_next_146 ?_
            have hb_146 := hB8 T1
            refine W.eq (g2 := F0 m 147 ls (.int (iI (σ 7 T1)) :: [])) (by first | (rw [hD3.ht (i := T1) (by omega) (by omega)]; done) | (rw [hD3.ht (i := T1) (by omega) (by omega)]; rfl)) ?_
            refine x_calliF (x_runSN (As := [.int (iI (σ 7 T1))]) (rest := []) S hH hK hXN hl.1 (xm_X0_isLetter l G N3 (σ 7 T1) _ (r32 (by omega))) (lw_meth q829) q828 q105 q827 kd_X0_isLetter rfl rfl dX3_next_147) hH hA (fun H locs hH => ?_)
            refine z_if_ne (tgt := 175) hx hb dX3_next_150 (by decide) (fun c_150 => ?_) (fun c_150 => ?_)
            · -- 150T
              refine lv_aload_n hx hb dX3_next_175 rfl (lv_at hl 0 rfl) ?_
              refine lv_dup hx hb dX3_next_176 rfl ?_
              refine x_get hx hb hts in_X3 hown hK hH hD3.c rfl 1 (by decide) q308 (fun _ h9 => h9) rfl (by decide) dX3_next_177 ?_
              refine n_iconst hx hb dX3_next_180 ?_
              refine n_iadd hx hb dX3_next_181 ?_
              refine x_put (ty := .int) hx hb hts in_X3 tyX3 tyX3_ok nmX3 hown hK hH hD3.c rfl 1 (by decide) q308 (fun _ h9 => h9) rfl (by decide +kernel) rfl rfl (Nat.le_of_ble_eq_true rfl) (by decide) dX3_next_182 (fun H locs hH => ?_)
              obtain ⟨M3, e_M3⟩ : ∃ M3, M3 = hs N3 (P 7) (oB 4 [.int (iI F1), .int (iI (T1 + 1)), .int (iI l_), .int (iI d_), .int (iI p_), .ref (P 24), .ref (P 25), .ref (P 26), .ref (P 27), .ref a]) := ⟨_, rfl⟩
              have hH := XV_to hH e_M3.symm
              have f3 : M3 (P 7) = some (oB 4 [.int (iI F1), .int (iI (T1 + 1)), .int (iI l_), .int (iI d_), .int (iI p_), .ref (P 24), .ref (P 25), .ref (P 26), .ref (P 27), .ref a]) := by rw [e_M3]; exact hs_s
              obtain ⟨hD4, hX4⟩ := hD3.put1 (v := (T1 + 1))
              rw [← e_M3] at hD4 hX4
              have hE4 := hE3.tr hX4
              refine lv_goto (tgt := 117) hx hb dX3_next_185 (by decide) ?_
              have hl : lv_has ls 3 [(0, .ref (P 7)), (1, .int (iI (zb (lowP (σ 7 F1))))), (2, .int (iI (zb (digP (σ 7 F1)))))] := lv_sub hl [0, 1, 2] rfl
              refine ih_117 M3 (T1 + 1) ?_ ?_ ?_ ?_ ?_ ?_ ?_ ?_ ?_ _ _ _ hH hl
              · exact hD4
              · exact hE4
              · omega
              · omega
              · omega
              · intro z; first | (exfalso; omega) | (rw [← lowE_y (by omega) (by omega)]; exact hl1 z)
              · intro z; first | (exfalso; omega) | (rw [← digE_y (by omega) (by omega)]; exact hd1 z)
              · intro z z2; exfalso; omega
              · omega
            · -- 150F
              refine lv_iload_n hx hb dX3_next_153 rfl (lv_at hl 2 rfl) ?_
              refine z_if_eq (tgt := 188) hx hb dX3_next_154 (by decide) (fun c_154 => ?_) (fun c_154 => ?_)
              · -- 154T
                refine x_vret hx hb hr hlk hH dX3_next_188 ?_
                refine ⟨?_, hE3⟩
                rw [hs2, nx_e (σ := σ) (F1 := F1) (T1 := T1) (by omega) (by omega) hl1 hd1 hn1 (by omega)]
                exact hD3
              · -- 154F
                refine lv_aload_n hx hb dX3_next_157 rfl (lv_at hl 0 rfl) ?_
                refine x_get hx hb hts in_X3 hown hK hH hD3.c rfl 9 (by decide) q316 (fun _ h9 => h9) rfl (by decide) dX3_next_158 ?_
                refine x_getN hx hb hts in_X0 hown hK hH hD3.o rfl 5 (by decide) hXN q344 (fun _ h9 => h9) rfl (by decide) dX3_next_161 ?_
                refine lv_aload_n hx hb dX3_next_164 rfl (lv_at hl 0 rfl) ?_
                refine x_get hx hb hts in_X3 hown hK hH hD3.c rfl 1 (by decide) q308 (fun _ h9 => h9) rfl (by decide) dX3_next_165 ?_
                refine x_bald hx hb hK hH hD3.tp (by omega) (by omega) (Nat.le_of_ble_eq_true rfl) dX3_next_168 ?_
                have hb_168 := hB8 T1
                refine W.eq (g2 := F0 m 169 ls (.int (iI (σ 7 T1)) :: [])) (by first | (rw [hD3.ht (i := T1) (by omega) (by omega)]; done) | (rw [hD3.ht (i := T1) (by omega) (by omega)]; rfl)) ?_
                refine x_calliF (x_runSN (As := [.int (iI (σ 7 T1))]) (rest := []) S hH hK hXN hl.1 (xm_X0_isDigit l G N3 (σ 7 T1) _ (r32 (by omega))) (lw_meth q832) q831 q105 q830 kd_X0_isDigit rfl rfl dX3_next_169) hH hA (fun H locs hH => ?_)
                refine z_if_eq (tgt := 188) hx hb dX3_next_172 (by decide) (fun c_172 => ?_) (fun c_172 => ?_)
                · -- 172T
                  refine x_vret hx hb hr hlk hH dX3_next_188 ?_
                  refine ⟨?_, hE3⟩
                  rw [hs2, nx_e (σ := σ) (F1 := F1) (T1 := T1) (by omega) (by omega) hl1 hd1 hn1 (by omega)]
                  exact hD3
                · -- 172F
                  refine lv_aload_n hx hb dX3_next_175 rfl (lv_at hl 0 rfl) ?_
                  refine lv_dup hx hb dX3_next_176 rfl ?_
                  refine x_get hx hb hts in_X3 hown hK hH hD3.c rfl 1 (by decide) q308 (fun _ h9 => h9) rfl (by decide) dX3_next_177 ?_
                  refine n_iconst hx hb dX3_next_180 ?_
                  refine n_iadd hx hb dX3_next_181 ?_
                  refine x_put (ty := .int) hx hb hts in_X3 tyX3 tyX3_ok nmX3 hown hK hH hD3.c rfl 1 (by decide) q308 (fun _ h9 => h9) rfl (by decide +kernel) rfl rfl (Nat.le_of_ble_eq_true rfl) (by decide) dX3_next_182 (fun H locs hH => ?_)
                  obtain ⟨M5, e_M5⟩ : ∃ M5, M5 = hs N3 (P 7) (oB 4 [.int (iI F1), .int (iI (T1 + 1)), .int (iI l_), .int (iI d_), .int (iI p_), .ref (P 24), .ref (P 25), .ref (P 26), .ref (P 27), .ref a]) := ⟨_, rfl⟩
                  have hH := XV_to hH e_M5.symm
                  have f5 : M5 (P 7) = some (oB 4 [.int (iI F1), .int (iI (T1 + 1)), .int (iI l_), .int (iI d_), .int (iI p_), .ref (P 24), .ref (P 25), .ref (P 26), .ref (P 27), .ref a]) := by rw [e_M5]; exact hs_s
                  obtain ⟨hD6, hX6⟩ := hD3.put1 (v := (T1 + 1))
                  rw [← e_M5] at hD6 hX6
                  have hE6 := hE3.tr hX6
                  refine lv_goto (tgt := 117) hx hb dX3_next_185 (by decide) ?_
                  have hl : lv_has ls 3 [(0, .ref (P 7)), (1, .int (iI (zb (lowP (σ 7 F1))))), (2, .int (iI (zb (digP (σ 7 F1)))))] := lv_sub hl [0, 1, 2] rfl
                  refine ih_117 M5 (T1 + 1) ?_ ?_ ?_ ?_ ?_ ?_ ?_ ?_ ?_ _ _ _ hH hl
                  · exact hD6
                  · exact hE6
                  · omega
                  · omega
                  · omega
                  · intro z; first | (exfalso; omega) | (rw [← lowE_y (by omega) (by omega)]; exact hl1 z)
                  · intro z; first | (exfalso; omega) | (rw [← digE_y (by omega) (by omega)]; exact hd1 z)
                  · intro z z2; exfalso; omega
                  · omega
    refine lv_aload_n hx hb dX3_next_52 rfl (lv_at hl 0 rfl) ?_
    refine lv_aload_n hx hb dX3_next_53 rfl (lv_at hl 0 rfl) ?_
    refine x_get hx hb hts in_X3 hown hK hH hD2.c rfl 0 (by decide) q307 (fun _ h9 => h9) rfl (by decide) dX3_next_54 ?_
    refine x_put (ty := .int) hx hb hts in_X3 tyX3 tyX3_ok nmX3 hown hK hH hD2.c rfl 1 (by decide) q308 (fun _ h9 => h9) rfl (by decide +kernel) rfl rfl (Nat.le_of_ble_eq_true rfl) (by decide) dX3_next_57 (fun H locs hH => ?_)
    obtain ⟨M7, e_M7⟩ : ∃ M7, M7 = hs N2 (P 7) (oB 4 [.int (iI F1), .int (iI F1), .int (iI l_), .int (iI d_), .int (iI p_), .ref (P 24), .ref (P 25), .ref (P 26), .ref (P 27), .ref a]) := ⟨_, rfl⟩
    have hH := XV_to hH e_M7.symm
    have f7 : M7 (P 7) = some (oB 4 [.int (iI F1), .int (iI F1), .int (iI l_), .int (iI d_), .int (iI p_), .ref (P 24), .ref (P 25), .ref (P 26), .ref (P 27), .ref a]) := by rw [e_M7]; exact hs_s
    obtain ⟨hD8, hX8⟩ := hD2.put1 (v := F1)
    rw [← e_M7] at hD8 hX8
    have hE8 := hE2.tr hX8
    refine lv_aload_n hx hb dX3_next_60 rfl (lv_at hl 0 rfl) ?_
    refine x_get hx hb hts in_X3 hown hK hH hD8.c rfl 1 (by decide) q308 (fun _ h9 => h9) rfl (by decide) dX3_next_61 ?_
    refine lv_aload_n hx hb dX3_next_64 rfl (lv_at hl 0 rfl) ?_
    refine x_get hx hb hts in_X3 hown hK hH hD8.c rfl 9 (by decide) q316 (fun _ h9 => h9) rfl (by decide) dX3_next_65 ?_
    refine x_getN hx hb hts in_X0 hown hK hH hD8.o rfl 6 (by decide) hXN q346 (fun _ h9 => h9) rfl (by decide) dX3_next_68 ?_
    refine n_icmp_ne (tgt := 75) hx hb (r32 (by omega)) (r32 (by omega)) dX3_next_71 (by decide) (fun c_71 => ?_) (fun c_71 => ?_)
    · -- 71T
      refine lv_aload_n hx hb dX3_next_75 rfl (lv_at hl 0 rfl) ?_
      refine x_get hx hb hts in_X3 hown hK hH hD8.c rfl 9 (by decide) q316 (fun _ h9 => h9) rfl (by decide) dX3_next_76 ?_
      refine x_getN hx hb hts in_X0 hown hK hH hD8.o rfl 5 (by decide) hXN q344 (fun _ h9 => h9) rfl (by decide) dX3_next_79 ?_
      refine lv_aload_n hx hb dX3_next_82 rfl (lv_at hl 0 rfl) ?_
      refine x_get hx hb hts in_X3 hown hK hH hD8.c rfl 1 (by decide) q308 (fun _ h9 => h9) rfl (by decide) dX3_next_83 ?_
      refine x_bald hx hb hK hH hD8.tp (by omega) (by omega) (Nat.le_of_ble_eq_true rfl) dX3_next_86 ?_
      have hb_86 := hB8 F1
      refine W.eq (g2 := F0 m 87 ls (.int (iI (σ 7 F1)) :: [])) (by first | (rw [hD8.ht (i := F1) (by omega) (by omega)]; done) | (rw [hD8.ht (i := F1) (by omega) (by omega)]; rfl)) ?_
      refine x_calliF (x_runSN (As := [.int (iI (σ 7 F1))]) (rest := []) S hH hK hXN hl.1 (xm_X0_isLetter l G M7 (σ 7 F1) _ (r32 (by omega))) (lw_meth q829) q828 q105 q827 kd_X0_isLetter rfl rfl dX3_next_87) hH hA (fun H locs hH => ?_)
      refine lv_istore_n hx hb dX3_next_90 rfl hl (Nat.le_of_ble_eq_true rfl) (lv' := [(1, .int (iI (zb (lowP (σ 7 F1))))), (0, .ref (P 7))]) rfl (fun ls hl => ?_)
      refine lv_aload_n hx hb dX3_next_91 rfl (lv_at hl 1 rfl) ?_
      refine x_get hx hb hts in_X3 hown hK hH hD8.c rfl 9 (by decide) q316 (fun _ h9 => h9) rfl (by decide) dX3_next_92 ?_
      refine x_getN hx hb hts in_X0 hown hK hH hD8.o rfl 5 (by decide) hXN q344 (fun _ h9 => h9) rfl (by decide) dX3_next_95 ?_
      refine lv_aload_n hx hb dX3_next_98 rfl (lv_at hl 1 rfl) ?_
      refine x_get hx hb hts in_X3 hown hK hH hD8.c rfl 1 (by decide) q308 (fun _ h9 => h9) rfl (by decide) dX3_next_99 ?_
      refine x_bald hx hb hK hH hD8.tp (by omega) (by omega) (Nat.le_of_ble_eq_true rfl) dX3_next_102 ?_
      have hb_102 := hB8 F1
      refine W.eq (g2 := F0 m 103 ls (.int (iI (σ 7 F1)) :: [])) (by first | (rw [hD8.ht (i := F1) (by omega) (by omega)]; done) | (rw [hD8.ht (i := F1) (by omega) (by omega)]; rfl)) ?_
      refine x_calliF (x_runSN (As := [.int (iI (σ 7 F1))]) (rest := []) S hH hK hXN hl.1 (xm_X0_isDigit l G M7 (σ 7 F1) _ (r32 (by omega))) (lw_meth q832) q831 q105 q830 kd_X0_isDigit rfl rfl dX3_next_103) hH hA (fun H locs hH => ?_)
      refine lv_istore_n hx hb dX3_next_106 rfl hl (Nat.le_of_ble_eq_true rfl) (lv' := [(2, .int (iI (zb (digP (σ 7 F1))))), (1, .int (iI (zb (lowP (σ 7 F1))))), (0, .ref (P 7))]) rfl (fun ls hl => ?_)
      refine lv_aload_n hx hb dX3_next_107 rfl (lv_at hl 2 rfl) ?_
      refine lv_dup hx hb dX3_next_108 rfl ?_
      refine x_get hx hb hts in_X3 hown hK hH hD8.c rfl 1 (by decide) q308 (fun _ h9 => h9) rfl (by decide) dX3_next_109 ?_
      refine n_iconst hx hb dX3_next_112 ?_
      refine n_iadd hx hb dX3_next_113 ?_
      refine x_put (ty := .int) hx hb hts in_X3 tyX3 tyX3_ok nmX3 hown hK hH hD8.c rfl 1 (by decide) q308 (fun _ h9 => h9) rfl (by decide +kernel) rfl rfl (Nat.le_of_ble_eq_true rfl) (by decide) dX3_next_114 (fun H locs hH => ?_)
      obtain ⟨M9, e_M9⟩ : ∃ M9, M9 = hs M7 (P 7) (oB 4 [.int (iI F1), .int (iI (F1 + 1)), .int (iI l_), .int (iI d_), .int (iI p_), .ref (P 24), .ref (P 25), .ref (P 26), .ref (P 27), .ref a]) := ⟨_, rfl⟩
      have hH := XV_to hH e_M9.symm
      have f9 : M9 (P 7) = some (oB 4 [.int (iI F1), .int (iI (F1 + 1)), .int (iI l_), .int (iI d_), .int (iI p_), .ref (P 24), .ref (P 25), .ref (P 26), .ref (P 27), .ref a]) := by rw [e_M9]; exact hs_s
      obtain ⟨hD10, hX10⟩ := hD8.put1 (v := (F1 + 1))
      rw [← e_M9] at hD10 hX10
      have hE10 := hE8.tr hX10
      have hl : lv_has ls 3 [(0, .ref (P 7)), (1, .int (iI (zb (lowP (σ 7 F1))))), (2, .int (iI (zb (digP (σ 7 F1)))))] := lv_sub hl [2, 1, 0] rfl
      refine L117 402 M9 (F1 + 1) ?_ ?_ ?_ ?_ ?_ ?_ ?_ ?_ ?_ _ _ _ hH hl
      · exact hD10
      · exact hE10
      · omega
      · omega
      · omega
      · exact fun _ => rfl
      · exact fun _ => rfl
      · exact fun _ _ => rfl
      · omega
    · -- 71F
      refine x_vret hx hb hr hlk hH dX3_next_74 ?_
      refine ⟨?_, hE8⟩
      rw [hs2, show enX σ F1 = F1 from if_pos (by omega)]
      exact hD8
  have L8 : ∀ (q : Nat) (N1 : Hp) (F1 : Int), (hD1 : RD G N1 a σ P τ bo lo x F1 T l_ d_ p_ pf) → (hE1 : Ext M N1 x x) → (h2 : T ≤ F1) → (h3 : F1 ≤ σ 9 0) → (hs1 : sk (σ 7) (σ 9 0) F1 = sk (σ 7) (σ 9 0) T) → (hq : σ 9 0 < (q : Int) + F1) → ∀ (H : Heap) (locs : List Loc) (ls : Array Slot), XV G (DA M s.heap.size) N1 s.heap H locs → lv_has ls 3 [(0, .ref (P 7))] → W p l e (rmD 2) s m ([.ref (P 7)] : List Value).toArray below meth c H locs 0 0 (MQ below (xQv G (DA M s.heap.size) (fun M' => RD G M' a σ P τ bo lo x (sk (σ 7) (σ 9 0) T) (enX σ (sk (σ 7) (σ 9 0) T)) l_ d_ p_ pf ∧ Ext M M' x x))  ([.ref (P 7)] : List Value).toArray s 0 0 (DA M s.heap.size)) (F0 m 8 ls []) := by
    intro q
    induction q with
    | zero => intro N1 F1 hD1 hE1 h2 h3 hs1 hq; exfalso; omega
    | succ q ih_8 =>
      intro N1 F1 hD1 hE1 h2 h3 hs1 hq H locs ls hH hl
      refine lv_aload_n hx hb dX3_next_8 rfl (lv_at hl 0 rfl) ?_
      refine x_get hx hb hts in_X3 hown hK hH hD1.c rfl 0 (by decide) q307 (fun _ h9 => h9) rfl (by decide) dX3_next_9 ?_
      refine lv_aload_n hx hb dX3_next_12 rfl (lv_at hl 0 rfl) ?_
      refine x_get hx hb hts in_X3 hown hK hH hD1.c rfl 9 (by decide) q316 (fun _ h9 => h9) rfl (by decide) dX3_next_13 ?_
      refine x_getN hx hb hts in_X0 hown hK hH hD1.o rfl 6 (by decide) hXN q346 (fun _ h9 => h9) rfl (by decide) dX3_next_16 ?_
      refine n_icmp_ge (tgt := 52) hx hb (r32 (by omega)) (r32 (by omega)) dX3_next_19 (by decide) (fun c_19 => ?_) (fun c_19 => ?_)
      · -- 19T
        have hl : lv_has ls 3 [(0, .ref (P 7))] := lv_sub hl [0] rfl
        refine L52 N1 F1 ?_ ?_ ?_ ?_ ?_ _ _ _ hH hl
        · exact hD1
        · exact hE1
        · omega
        · omega
        · rw [← hs1]; exact sk_n (by omega)
      · -- 19F
        refine lv_aload_n hx hb dX3_next_22 rfl (lv_at hl 0 rfl) ?_
        refine x_get hx hb hts in_X3 hown hK hH hD1.c rfl 9 (by decide) q316 (fun _ h9 => h9) rfl (by decide) dX3_next_23 ?_
        refine x_getN hx hb hts in_X0 hown hK hH hD1.o rfl 5 (by decide) hXN q344 (fun _ h9 => h9) rfl (by decide) dX3_next_26 ?_
        refine lv_aload_n hx hb dX3_next_29 rfl (lv_at hl 0 rfl) ?_
        refine x_get hx hb hts in_X3 hown hK hH hD1.c rfl 0 (by decide) q307 (fun _ h9 => h9) rfl (by decide) dX3_next_30 ?_
        refine x_bald hx hb hK hH hD1.tp (by omega) (by omega) (Nat.le_of_ble_eq_true rfl) dX3_next_33 ?_
        have hb_33 := hB8 F1
        refine W.eq (g2 := F0 m 34 ls (.int (iI (σ 7 F1)) :: [])) (by first | (rw [hD1.ht (i := F1) (by omega) (by omega)]; done) | (rw [hD1.ht (i := F1) (by omega) (by omega)]; rfl)) ?_
        refine n_bipush (z := 32) hx hb dX3_next_34 (by decide) ?_
        refine n_icmp_ne (tgt := 52) hx hb (r32 (by omega)) (r32 (by omega)) dX3_next_36 (by decide) (fun c_36 => ?_) (fun c_36 => ?_)
        · -- 36T
          have hl : lv_has ls 3 [(0, .ref (P 7))] := lv_sub hl [0] rfl
          refine L52 N1 F1 ?_ ?_ ?_ ?_ ?_ _ _ _ hH hl
          · exact hD1
          · exact hE1
          · omega
          · omega
          · rw [← hs1]; exact sk_n (by omega)
        · -- 36F
          refine lv_aload_n hx hb dX3_next_39 rfl (lv_at hl 0 rfl) ?_
          refine lv_dup hx hb dX3_next_40 rfl ?_
          refine x_get hx hb hts in_X3 hown hK hH hD1.c rfl 0 (by decide) q307 (fun _ h9 => h9) rfl (by decide) dX3_next_41 ?_
          refine n_iconst hx hb dX3_next_44 ?_
          refine n_iadd hx hb dX3_next_45 ?_
          refine x_put (ty := .int) hx hb hts in_X3 tyX3 tyX3_ok nmX3 hown hK hH hD1.c rfl 0 (by decide) q307 (fun _ h9 => h9) rfl (by decide +kernel) rfl rfl (Nat.le_of_ble_eq_true rfl) (by decide) dX3_next_46 (fun H locs hH => ?_)
          obtain ⟨M11, e_M11⟩ : ∃ M11, M11 = hs N1 (P 7) (oB 4 [.int (iI (F1 + 1)), .int (iI T), .int (iI l_), .int (iI d_), .int (iI p_), .ref (P 24), .ref (P 25), .ref (P 26), .ref (P 27), .ref a]) := ⟨_, rfl⟩
          have hH := XV_to hH e_M11.symm
          have f11 : M11 (P 7) = some (oB 4 [.int (iI (F1 + 1)), .int (iI T), .int (iI l_), .int (iI d_), .int (iI p_), .ref (P 24), .ref (P 25), .ref (P 26), .ref (P 27), .ref a]) := by rw [e_M11]; exact hs_s
          obtain ⟨hD12, hX12⟩ := hD1.put0 (v := (F1 + 1))
          rw [← e_M11] at hD12 hX12
          have hE12 := hE1.tr hX12
          refine lv_goto (tgt := 8) hx hb dX3_next_49 (by decide) ?_
          have hl : lv_has ls 3 [(0, .ref (P 7))] := lv_sub hl [0] rfl
          refine ih_8 M11 (F1 + 1) ?_ ?_ ?_ ?_ ?_ ?_ _ _ _ hH hl
          · exact hD12
          · exact hE12
          · omega
          · omega
          · rw [← sk_y (by omega) (by omega)]; exact hs1
          · omega
  refine lv_aload_n hx hb dX3_next_0 rfl (lv_at hl 0 rfl) ?_
  refine lv_aload_n hx hb dX3_next_1 rfl (lv_at hl 0 rfl) ?_
  refine x_get hx hb hts in_X3 hown hK hH hD.c rfl 1 (by decide) q308 (fun _ h9 => h9) rfl (by decide) dX3_next_2 ?_
  refine x_put (ty := .int) hx hb hts in_X3 tyX3 tyX3_ok nmX3 hown hK hH hD.c rfl 0 (by decide) q307 (fun _ h9 => h9) rfl (by decide +kernel) rfl rfl (Nat.le_of_ble_eq_true rfl) (by decide) dX3_next_5 (fun H locs hH => ?_)
  obtain ⟨M13, e_M13⟩ : ∃ M13, M13 = hs M (P 7) (oB 4 [.int (iI T), .int (iI T), .int (iI l_), .int (iI d_), .int (iI p_), .ref (P 24), .ref (P 25), .ref (P 26), .ref (P 27), .ref a]) := ⟨_, rfl⟩
  have hH := XV_to hH e_M13.symm
  have f13 : M13 (P 7) = some (oB 4 [.int (iI T), .int (iI T), .int (iI l_), .int (iI d_), .int (iI p_), .ref (P 24), .ref (P 25), .ref (P 26), .ref (P 27), .ref a]) := by rw [e_M13]; exact hs_s
  obtain ⟨hD14, hX14⟩ := hD.put0 (v := T)
  rw [← e_M13] at hD14 hX14
  have hl : lv_has ls 3 [(0, .ref (P 7))] := lv_sub hl [0] rfl
  refine L8 402 M13 T ?_ ?_ ?_ ?_ ?_ ?_ _ _ _ hH hl
  · exact hD14
  · exact hX14
  · omega
  · omega
  · rfl
  · omega
