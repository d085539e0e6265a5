section XU
variable {p : Program} {l : Launch} {e : Env} {R : Room} {s : State} {m : MethodId} {args : Array Value} {below : List Frame} {meth : Method} {c : Code} {H : Heap} {locs : List Loc} {cells slots : Nat} {Q : State → Prop}
variable {cc : ByteArray} {pc : Nat} {ls : Array Slot} {rest st0 : List Value} {G : MG} {A : Nat → Prop} {M : Hp} {H0 : Heap}
variable {x y : MethodName} {bytes : ByteArray} {maxL nL mc ms n index ci : Nat} {ret : Option FieldType} {rm : Room} {Qc : Array Value → State → Outcome → State → Prop} {free : Addr → Prop} {own C owner : String} {b : Addr} {As : List Value}
theorem x_runU {fs : List Value} {q : vw_C} (S : CallFix p m c cc nL s args lw_all own) (hH : XV G A M H0 H locs) (hK : va_K G.1 clA (tyA G.2.1) s) (hXN : XN s) (hsz : ls.size = nL) (hr : M b = some (oB ci fs)) (hc : clA[ci]? = some q)
    (hM : Met l y (ws_ y bytes maxL ret) rm (xP G XN (.ref b :: As) M H.size) Qc mc ms free) (hG : GoodIn lw_all (va_wsU own index C owner x y (ws_ y bytes maxL ret))) (hyx : y = ⟨owner, x.name, x.desc⟩) (hd : owner ≠ "java/lang/invoke/MethodHandle" ∧ owner ≠ "java/lang/invoke/VarHandle" ∧ (parseMethodDescriptor x.desc).map (fun d => d.parameters.length) = some n) (hn : As.length = n) (hst : st0 = As.reverse ++ .ref b :: rest) (d : decode cc pc = .ok (.invokevirtual index, 3)) (hqC : q.1 = C) (hrc : rm.cells = mc) (hrs : rm.slots = ms)
    (hR : rm.frames + 1 ≤ R.frames ∧ 8 + (maxL + 11) + rm.locals ≤ R.locals) (hW : (rest.map fun v => v.category).sum ≤ 8) (hf : cells + mc ≤ R.cells ∧ slots + ms ≤ R.slots) : va_Run p l e R s m args below meth c H locs cells slots mc ms (F0 m pc ls st0) rest (Qc (Value.ref b :: As).toArray) free :=
  va_runU (As := As) (rest := rest) (C := C) S hM (va_cwU n S.2.2.2.2 hG rfl hrc hrs hyx hd hR) ⟨xP_blind XN_b, by rw [← hqC]; exact hH.recv hK hr hc, xP_at hH hK (fun U _ hW => XN.warm hW hXN)⟩ rfl hn hsz hst (lv_room hW) d hf
end XU
theorem kd_X0_fits : yX0_fits.cls = RX0 ∧ yX0_fits.cls ≠ "java/lang/invoke/MethodHandle" ∧ yX0_fits.cls ≠ "java/lang/invoke/VarHandle" ∧ (parseMethodDescriptor yX0_fits.desc).map (fun d => d.parameters.length) = some 3 := by decide +kernel
theorem xm_X0_fits (l : Launch) (G : MG) (M : Hp) (σ : St) (x : XGh) (ω : XCt) (a : Nat) (s_ : Int) (ht_ : Int) (mi_ : Int) (sz : Nat) (hR : RX G M a σ x ω) (hs : R32 s_) (hh0 : 0 ≤ ht_) (hh1 : ht_ ≤ 7) (hm0 : 1 ≤ mi_) (hm1 : mi_ ≤ 255) (hI : KI (σ 2)) : Met l yX0_fits (ws_ yX0_fits cX0_fits 8 (some .boolean)) (rmD 3) (xP G XN [.ref a, .int (iI s_), .int (iI ht_), .int (iI mi_)] M sz) (xQi G (DA M sz) (fun z M' => z = (fitF (σ 2) s_ ht_ mi_) ∧ M' = M)) 0 0 (DA M sz) := by
  refine x_start (by decide) (Nat.le_of_ble_eq_true rfl) ?_
  intro p e s m below meth c ⟨S, hr, hlk, hH, hK, hXN, hsz, hnm⟩ ls hl
  subst hsz
  obtain ⟨hx, hb, hml, hown, hts⟩ := S
  have S : CallFix p m c _ _ s _ lw_all RX0 := ⟨hx, hb, hml, hown, hts⟩
  have hA : ∀ q, s.heap.size ≤ q → DA M s.heap.size q := fun q hq => Or.inr hq
  have hl : lv_has ls 8 [(0, .ref a), (1, .int (iI s_)), (2, .int (iI ht_)), (3, .int (iI mi_))] := hl
  have b0 := hI.c
  unfold kCnt at b0
  have hs := R32.n hs
  have L3 : ∀ (q : Nat) (k : Int), (hk0 : 0 ≤ k) → (hk1 : k ≤ σ 2 1754) → (hq : σ 2 1754 < (q : Int) + k) → (he : fiT (σ 2) s_ ht_ mi_ (σ 2 1754).toNat 0 = fiT (σ 2) s_ ht_ mi_ (σ 2 1754 - k).toNat k) → ∀ (H : Heap) (locs : List Loc) (ls : Array Slot), XV G (DA M s.heap.size) M s.heap H locs → lv_has ls 8 [(0, .ref a), (1, .int (iI s_)), (2, .int (iI ht_)), (3, .int (iI mi_)), (4, .int (iI k))] → W p l e (rmD 3) s m ([.ref a, .int (iI s_), .int (iI ht_), .int (iI mi_)] : List Value).toArray below meth c H locs 0 0 (MQ below (xQi G (DA M s.heap.size) (fun z M' => z = (fitF (σ 2) s_ ht_ mi_) ∧ M' = M)) ([.ref a, .int (iI s_), .int (iI ht_), .int (iI mi_)] : List Value).toArray s 0 0 (DA M s.heap.size)) (F0 m 3 ls []) := by
    intro q
    induction q with
    | zero => intro k hk0 hk1 hq he; exfalso; omega
    | succ q ih_3 =>
      intro k hk0 hk1 hq he H locs ls hH hl
      refine lv_iload hx hb dX0_fits_3 (lv_at hl 4 rfl) ?_
      refine lv_aload_n hx hb dX0_fits_5 rfl (lv_at hl 0 rfl) ?_
      refine x_get hx hb hts in_X0 hown hK hH hR.o rfl 0 (by decide) q339 (fun _ h9 => h9) rfl (by decide) dX0_fits_6 ?_
      refine x_getN hx hb hts in_X1 hown hK hH hR.b0 rfl 3 (by decide) hXN q168 (fun _ h9 => h9) rfl (by decide) dX0_fits_9 ?_
      refine n_icmp_ge (tgt := 198) hx hb (r32 (by omega)) (r32 (by omega)) dX0_fits_12 (by decide) (fun c_12 => ?_) (fun c_12 => ?_)
      · -- 12T
        refine n_iconst hx hb dX0_fits_198 ?_
        refine x_zret hx hb hr hlk hH dX0_fits_199 (Or.inr rfl) ?_
        refine ⟨?_, rfl⟩
        show _ = fitF _ _ _ _
        rw [fitF, he, show (σ 2 1754 - k).toNat = 0 by omega, fiT]
      · -- 12F
        have hcl := (hI.o k (by omega) (by omega)).1
        unfold caseOK at hcl
        have hcl : (0 ≤ loA (σ 2) k 0 ∧ loA (σ 2) k 0 ≤ 5) ∧ (0 ≤ loA (σ 2) k 1 ∧ loA (σ 2) k 1 ≤ 5) ∧ (0 ≤ loA (σ 2) k 2 ∧ loA (σ 2) k 2 ≤ 7) ∧ (0 ≤ loA (σ 2) k 3 ∧ loA (σ 2) k 3 ≤ 255) ∧ (0 ≤ loA (σ 2) k 4 ∧ loA (σ 2) k 4 ≤ 255) ∧ (0 ≤ loA (σ 2) k 5 ∧ loA (σ 2) k 5 ≤ 11) ∧ (0 ≤ loA (σ 2) k 6 ∧ loA (σ 2) k 6 ≤ 255) ∧ (0 ≤ loA (σ 2) k 7 ∧ loA (σ 2) k 7 ≤ 1) ∧ (0 ≤ loA (σ 2) k 8 ∧ loA (σ 2) k 8 ≤ 3) := hcl
        have hsu := suT_01 (σ 2) s_ (loA (σ 2) k 0)
        refine lv_aload_n hx hb dX0_fits_15 rfl (lv_at hl 0 rfl) ?_
        refine x_get hx hb hts in_X0 hown hK hH hR.o rfl 0 (by decide) q339 (fun _ h9 => h9) rfl (by decide) dX0_fits_16 ?_
        refine x_getN hx hb hts in_X1 hown hK hH hR.b0 rfl 10 (by decide) hXN q182 (fun _ h9 => h9) rfl (by decide) dX0_fits_19 ?_
        refine lv_iload hx hb dX0_fits_22 (lv_at hl 4 rfl) ?_
        obtain ⟨y1, n1, w1, u1, g1, k1, e1⟩ := hR.look (i := k) (by omega) (by omega)
        have v1 := (hI.o k (by omega) (by omega)).2
        refine x_aald hx hb hK hH 7 hR.b10 rfl (by omega) (by omega) (Nat.le_of_ble_eq_true rfl) (v := some y1) u1 dX0_fits_24 ?_
        refine lv_astore hx hb dX0_fits_25 hl (Nat.le_of_ble_eq_true rfl) (lv' := [(5, .ref y1), (0, .ref a), (1, .int (iI s_)), (2, .int (iI ht_)), (3, .int (iI mi_)), (4, .int (iI k))]) rfl (fun ls hl => ?_)
        refine lv_aload hx hb dX0_fits_27 (lv_at hl 0 rfl) ?_
        refine x_get hx hb hts in_X10 hown hK hH g1 rfl 0 (by decide) q263 (u_same (hts _ q264)) rfl (by decide) dX0_fits_29 ?_
        refine n_iconst hx hb dX0_fits_32 ?_
        refine x_iald hx hb hK hH k1 (by omega) (by omega) (Nat.le_of_ble_eq_true rfl) dX0_fits_33 ?_
        refine W.eq (g2 := F0 m 34 ls (.int (iI (loA (σ 2) k 1)) :: [])) (by first | (rw [e1 _ (by omega) (by omega)]; done) | (rw [e1 _ (by omega) (by omega)]; rfl)) ?_
        refine n_iconst hx hb dX0_fits_34 ?_
        refine n_icmp_ne (tgt := 192) hx hb (r32 (by omega)) (r32 (by omega)) dX0_fits_35 (by decide) (fun c_35 => ?_) (fun c_35 => ?_)
        · -- 35T
          refine n_iinc hx hb dX0_fits_192 hl (k := 5) rfl (Nat.le_of_ble_eq_true rfl) (lv' := [(4, .int (iI (k + 1))), (5, .ref y1), (0, .ref a), (1, .int (iI s_)), (2, .int (iI ht_)), (3, .int (iI mi_))]) rfl (fun ls hl => ?_)
          refine lv_goto (tgt := 3) hx hb dX0_fits_195 (by decide) ?_
          have hl : lv_has ls 8 [(0, .ref a), (1, .int (iI s_)), (2, .int (iI ht_)), (3, .int (iI mi_)), (4, .int (iI (k + 1)))] := lv_sub hl [2, 3, 4, 5, 0] rfl
          refine ih_3 (k + 1) ?_ ?_ ?_ ?_ _ _ _ hH hl
          · omega
          · omega
          · omega
          · rw [he, fiT_e (by omega), if_neg (by intro hu; omega)]
        · -- 35F
          refine lv_aload hx hb dX0_fits_38 (lv_at hl 0 rfl) ?_
          refine x_get hx hb hts in_X10 hown hK hH g1 rfl 0 (by decide) q263 (u_same (hts _ q264)) rfl (by decide) dX0_fits_40 ?_
          refine n_bipush (z := 6) hx hb dX0_fits_43 (by decide) ?_
          refine x_iald hx hb hK hH k1 (by omega) (by omega) (Nat.le_of_ble_eq_true rfl) dX0_fits_45 ?_
          refine W.eq (g2 := F0 m 46 ls (.int (iI (loA (σ 2) k 6)) :: [])) (by first | (rw [e1 _ (by omega) (by omega)]; done) | (rw [e1 _ (by omega) (by omega)]; rfl)) ?_
          refine n_if_gt (tgt := 192) hx hb (r32 (by omega)) dX0_fits_46 (by decide) (fun c_46 => ?_) (fun c_46 => ?_)
          · -- 46T
            refine n_iinc hx hb dX0_fits_192 hl (k := 5) rfl (Nat.le_of_ble_eq_true rfl) (lv' := [(4, .int (iI (k + 1))), (5, .ref y1), (0, .ref a), (1, .int (iI s_)), (2, .int (iI ht_)), (3, .int (iI mi_))]) rfl (fun ls hl => ?_)
            refine lv_goto (tgt := 3) hx hb dX0_fits_195 (by decide) ?_
            have hl : lv_has ls 8 [(0, .ref a), (1, .int (iI s_)), (2, .int (iI ht_)), (3, .int (iI mi_)), (4, .int (iI (k + 1)))] := lv_sub hl [2, 3, 4, 5, 0] rfl
            refine ih_3 (k + 1) ?_ ?_ ?_ ?_ _ _ _ hH hl
            · omega
            · omega
            · omega
            · rw [he, fiT_e (by omega), if_neg (by intro hu; omega)]
          · -- 46F
            refine lv_aload hx hb dX0_fits_49 (lv_at hl 0 rfl) ?_
            refine x_get hx hb hts in_X10 hown hK hH g1 rfl 0 (by decide) q263 (u_same (hts _ q264)) rfl (by decide) dX0_fits_51 ?_
            refine n_bipush (z := 7) hx hb dX0_fits_54 (by decide) ?_
            refine x_iald hx hb hK hH k1 (by omega) (by omega) (Nat.le_of_ble_eq_true rfl) dX0_fits_56 ?_
            refine W.eq (g2 := F0 m 57 ls (.int (iI (loA (σ 2) k 7)) :: [])) (by first | (rw [e1 _ (by omega) (by omega)]; done) | (rw [e1 _ (by omega) (by omega)]; rfl)) ?_
            refine n_iconst hx hb dX0_fits_57 ?_
            refine n_icmp_ne (tgt := 64) hx hb (r32 (by omega)) (r32 (by omega)) dX0_fits_58 (by decide) (fun c_58 => ?_) (fun c_58 => ?_)
            · -- 58T
              have L70 : ∀ (q1 : Nat) (i : Int) (hv : Int), (hv01 : hv = 0 ∨ hv = 1) → (hi0 : 0 ≤ i) → (hi1 : i ≤ σ 2 1752) → (hq1 : σ 2 1752 < (q1 : Int) + i) → (he2 : suN (σ 2) s_ (loA (σ 2) k 0) (σ 2 1752).toNat 0 = (if hv = 1 then 1 else suN (σ 2) s_ (loA (σ 2) k 0) (σ 2 1752 - i).toNat i)) → ∀ (H : Heap) (locs : List Loc) (ls : Array Slot), XV G (DA M s.heap.size) M s.heap H locs → lv_has ls 8 [(0, .ref a), (1, .int (iI s_)), (2, .int (iI ht_)), (3, .int (iI mi_)), (4, .int (iI k)), (5, .ref y1), (6, .int (iI hv)), (7, .int (iI i))] → W p l e (rmD 3) s m ([.ref a, .int (iI s_), .int (iI ht_), .int (iI mi_)] : List Value).toArray below meth c H locs 0 0 (MQ below (xQi G (DA M s.heap.size) (fun z M' => z = (fitF (σ 2) s_ ht_ mi_) ∧ M' = M)) ([.ref a, .int (iI s_), .int (iI ht_), .int (iI mi_)] : List Value).toArray s 0 0 (DA M s.heap.size)) (F0 m 70 ls []) := by
                intro q1
                induction q1 with
                | zero => intro i hv hv01 hi0 hi1 hq1 he2; exfalso; omega
                | succ q1 ih_70 =>
                  intro i hv hv01 hi0 hi1 hq1 he2 H locs ls hH hl
                  refine lv_iload hx hb dX0_fits_70 (lv_at hl 7 rfl) ?_
                  refine lv_aload_n hx hb dX0_fits_72 rfl (lv_at hl 0 rfl) ?_
                  refine x_get hx hb hts in_X0 hown hK hH hR.o rfl 0 (by decide) q339 (fun _ h9 => h9) rfl (by decide) dX0_fits_73 ?_
                  refine x_getN hx hb hts in_X1 hown hK hH hR.b0 rfl 1 (by decide) hXN q164 (fun _ h9 => h9) rfl (by decide) dX0_fits_76 ?_
                  refine n_icmp_ge (tgt := 133) hx hb (r32 (by omega)) (r32 (by omega)) dX0_fits_79 (by decide) (fun c_79 => ?_) (fun c_79 => ?_)
                  · -- 79T
                    have hsv : suT (σ 2) s_ (loA (σ 2) k 0) = hv := by
                      unfold suT
                      rw [he2, show (σ 2 1752 - i).toNat = 0 by omega, suN]
                      split <;> omega
                    refine lv_aload hx hb dX0_fits_133 (lv_at hl 5 rfl) ?_
                    refine lv_iload_n hx hb dX0_fits_135 rfl (lv_at hl 2 rfl) ?_
                    refine lv_iload_n hx hb dX0_fits_136 rfl (lv_at hl 3 rfl) ?_
                    refine x_calliF (x_runU (As := [.int (iI ht_), .int (iI mi_)]) (rest := []) (n := 2) S hH hK hXN hl.1 g1 rfl (xt_X2_heatedTo l G M σ _ _ k _ _ _ _ hI ⟨by omega, by omega⟩ g1 k1 e1 ⟨by omega, by omega⟩ ⟨by omega, by omega⟩) (lw_U q1354 q1355 q1357 q1358 q107 q1359) rfl kd_X2_heatedTo.2 rfl rfl dX0_fits_137 rfl rfl rfl ⟨Nat.le_of_ble_eq_true rfl, Nat.le_of_ble_eq_true rfl⟩ (Nat.le_of_ble_eq_true rfl) ⟨Nat.le_of_ble_eq_true rfl, Nat.le_of_ble_eq_true rfl⟩) hH hA (fun H locs hH => ?_)
                    refine n_name (fun to_ e_to_ => ?_)
                    refine lv_istore hx hb dX0_fits_140 hl (Nat.le_of_ble_eq_true rfl) (lv' := [(7, .int (iI to_)), (0, .ref a), (1, .int (iI s_)), (2, .int (iI ht_)), (3, .int (iI mi_)), (4, .int (iI k)), (5, .ref y1), (6, .int (iI hv))]) rfl (fun ls hl => ?_)
                    refine lv_aload hx hb dX0_fits_142 (lv_at hl 6 rfl) ?_
                    refine x_getN hx hb hts in_X10 hown hK hH g1 rfl 2 (by decide) hXN q755 (fun _ h9 => h9) rfl (by decide) dX0_fits_144 ?_
                    refine n_if_eq (tgt := 160) hx hb (r32 (by omega)) dX0_fits_147 (by decide) (fun c_147 => ?_) (fun c_147 => ?_)
                    · -- 147T
                      refine lv_aload hx hb dX0_fits_160 (lv_at hl 6 rfl) ?_
                      refine x_getN hx hb hts in_X10 hown hK hH g1 rfl 2 (by decide) hXN q755 (fun _ h9 => h9) rfl (by decide) dX0_fits_162 ?_
                      refine n_if_ne (tgt := 192) hx hb (r32 (by omega)) dX0_fits_165 (by decide) (fun c_165 => ?_) (fun c_165 => ?_)
                      · exact absurd c_147 c_165
                      · -- 165F
                        refine lv_iload hx hb dX0_fits_168 (lv_at hl 0 rfl) ?_
                        refine n_if_gt (tgt := 192) hx hb (r32 (by omega)) dX0_fits_170 (by decide) (fun c_170 => ?_) (fun c_170 => ?_)
                        · -- 170T
                          refine n_iinc hx hb dX0_fits_192 hl (k := 5) rfl (Nat.le_of_ble_eq_true rfl) (lv' := [(4, .int (iI (k + 1))), (7, .int (iI to_)), (0, .ref a), (1, .int (iI s_)), (2, .int (iI ht_)), (3, .int (iI mi_)), (5, .ref y1), (6, .int (iI hv))]) rfl (fun ls hl => ?_)
                          refine lv_goto (tgt := 3) hx hb dX0_fits_195 (by decide) ?_
                          have hl : lv_has ls 8 [(0, .ref a), (1, .int (iI s_)), (2, .int (iI ht_)), (3, .int (iI mi_)), (4, .int (iI (k + 1)))] := lv_sub hl [2, 3, 4, 5, 0] rfl
                          refine ih_3 (k + 1) ?_ ?_ ?_ ?_ _ _ _ hH hl
                          · omega
                          · omega
                          · omega
                          · rw [he, fiT_e (by omega), if_neg (by intro hu; omega)]
                        · -- 170F
                          refine lv_aload hx hb dX0_fits_173 (lv_at hl 6 rfl) ?_
                          refine x_get hx hb hts in_X10 hown hK hH g1 rfl 0 (by decide) q263 (u_same (hts _ q264)) rfl (by decide) dX0_fits_175 ?_
                          refine n_iconst hx hb dX0_fits_178 ?_
                          refine x_iald hx hb hK hH k1 (by omega) (by omega) (Nat.le_of_ble_eq_true rfl) dX0_fits_179 ?_
                          refine W.eq (g2 := F0 m 180 ls (.int (iI (loA (σ 2) k 4)) :: [])) (by first | (rw [e1 _ (by omega) (by omega)]; done) | (rw [e1 _ (by omega) (by omega)]; rfl)) ?_
                          refine n_bipush (z := 30) hx hb dX0_fits_180 (by decide) ?_
                          refine n_icmp_lt (tgt := 192) hx hb (r32 (by omega)) (r32 (by omega)) dX0_fits_182 (by decide) (fun c_182 => ?_) (fun c_182 => ?_)
                          · -- 182T
                            refine n_iinc hx hb dX0_fits_192 hl (k := 5) rfl (Nat.le_of_ble_eq_true rfl) (lv' := [(4, .int (iI (k + 1))), (7, .int (iI to_)), (0, .ref a), (1, .int (iI s_)), (2, .int (iI ht_)), (3, .int (iI mi_)), (5, .ref y1), (6, .int (iI hv))]) rfl (fun ls hl => ?_)
                            refine lv_goto (tgt := 3) hx hb dX0_fits_195 (by decide) ?_
                            have hl : lv_has ls 8 [(0, .ref a), (1, .int (iI s_)), (2, .int (iI ht_)), (3, .int (iI mi_)), (4, .int (iI (k + 1)))] := lv_sub hl [2, 3, 4, 5, 0] rfl
                            refine ih_3 (k + 1) ?_ ?_ ?_ ?_ _ _ _ hH hl
                            · omega
                            · omega
                            · omega
                            · rw [he, fiT_e (by omega), if_neg (by intro hu; omega)]
                          · -- 182F
                            refine lv_iload hx hb dX0_fits_185 (lv_at hl 7 rfl) ?_
                            refine n_if_eq (tgt := 192) hx hb (r32 (by omega)) dX0_fits_187 (by decide) (fun c_187 => ?_) (fun c_187 => ?_)
                            · -- 187T
                              refine n_iinc hx hb dX0_fits_192 hl (k := 5) rfl (Nat.le_of_ble_eq_true rfl) (lv' := [(4, .int (iI (k + 1))), (7, .int (iI to_)), (0, .ref a), (1, .int (iI s_)), (2, .int (iI ht_)), (3, .int (iI mi_)), (5, .ref y1), (6, .int (iI hv))]) rfl (fun ls hl => ?_)
                              refine lv_goto (tgt := 3) hx hb dX0_fits_195 (by decide) ?_
                              have hl : lv_has ls 8 [(0, .ref a), (1, .int (iI s_)), (2, .int (iI ht_)), (3, .int (iI mi_)), (4, .int (iI (k + 1)))] := lv_sub hl [2, 3, 4, 5, 0] rfl
                              refine ih_3 (k + 1) ?_ ?_ ?_ ?_ _ _ _ hH hl
                              · omega
                              · omega
                              · omega
                              · rw [he, fiT_e (by omega), if_neg (by intro hu; omega)]
                            · -- 187F
                              refine n_iconst hx hb dX0_fits_190 ?_
                              refine x_zret hx hb hr hlk hH dX0_fits_191 (Or.inl rfl) ?_
                              refine ⟨?_, rfl⟩
                              show _ = fitF _ _ _ _
                              rw [fitF, he, fiT_e (by omega), if_pos ⟨by omega, by omega, by omega, by omega⟩]
                    · -- 147F
                      refine lv_iload hx hb dX0_fits_150 (lv_at hl 0 rfl) ?_
                      refine n_if_lt (tgt := 160) hx hb (r32 (by omega)) dX0_fits_152 (by decide) (fun c_152 => ?_) (fun c_152 => ?_)
                      · -- 152T
                        refine lv_aload hx hb dX0_fits_160 (lv_at hl 6 rfl) ?_
                        refine x_getN hx hb hts in_X10 hown hK hH g1 rfl 2 (by decide) hXN q755 (fun _ h9 => h9) rfl (by decide) dX0_fits_162 ?_
                        refine n_if_ne (tgt := 192) hx hb (r32 (by omega)) dX0_fits_165 (by decide) (fun c_165 => ?_) (fun c_165 => ?_)
                        · -- 165T
                          refine n_iinc hx hb dX0_fits_192 hl (k := 5) rfl (Nat.le_of_ble_eq_true rfl) (lv' := [(4, .int (iI (k + 1))), (7, .int (iI to_)), (0, .ref a), (1, .int (iI s_)), (2, .int (iI ht_)), (3, .int (iI mi_)), (5, .ref y1), (6, .int (iI hv))]) rfl (fun ls hl => ?_)
                          refine lv_goto (tgt := 3) hx hb dX0_fits_195 (by decide) ?_
                          have hl : lv_has ls 8 [(0, .ref a), (1, .int (iI s_)), (2, .int (iI ht_)), (3, .int (iI mi_)), (4, .int (iI (k + 1)))] := lv_sub hl [2, 3, 4, 5, 0] rfl
                          refine ih_3 (k + 1) ?_ ?_ ?_ ?_ _ _ _ hH hl
                          · omega
                          · omega
                          · omega
                          · rw [he, fiT_e (by omega), if_neg (by intro hu; omega)]
                        · exact absurd c_165 c_147
                      · -- 152F
                        refine lv_iload hx hb dX0_fits_155 (lv_at hl 7 rfl) ?_
                        refine n_if_eq (tgt := 190) hx hb (r32 (by omega)) dX0_fits_157 (by decide) (fun c_157 => ?_) (fun c_157 => ?_)
                        · -- 157T
                          refine n_iconst hx hb dX0_fits_190 ?_
                          refine x_zret hx hb hr hlk hH dX0_fits_191 (Or.inl rfl) ?_
                          refine ⟨?_, rfl⟩
                          show _ = fitF _ _ _ _
                          rw [fitF, he, fiT_e (by omega), if_pos ⟨by omega, by omega, by omega, by omega⟩]
                        · -- 157F
                          refine lv_aload hx hb dX0_fits_160 (lv_at hl 6 rfl) ?_
                          refine x_getN hx hb hts in_X10 hown hK hH g1 rfl 2 (by decide) hXN q755 (fun _ h9 => h9) rfl (by decide) dX0_fits_162 ?_
                          refine n_if_ne (tgt := 192) hx hb (r32 (by omega)) dX0_fits_165 (by decide) (fun c_165 => ?_) (fun c_165 => ?_)
                          · -- 165T
                            refine n_iinc hx hb dX0_fits_192 hl (k := 5) rfl (Nat.le_of_ble_eq_true rfl) (lv' := [(4, .int (iI (k + 1))), (7, .int (iI to_)), (0, .ref a), (1, .int (iI s_)), (2, .int (iI ht_)), (3, .int (iI mi_)), (5, .ref y1), (6, .int (iI hv))]) rfl (fun ls hl => ?_)
                            refine lv_goto (tgt := 3) hx hb dX0_fits_195 (by decide) ?_
                            have hl : lv_has ls 8 [(0, .ref a), (1, .int (iI s_)), (2, .int (iI ht_)), (3, .int (iI mi_)), (4, .int (iI (k + 1)))] := lv_sub hl [2, 3, 4, 5, 0] rfl
                            refine ih_3 (k + 1) ?_ ?_ ?_ ?_ _ _ _ hH hl
                            · omega
                            · omega
                            · omega
                            · rw [he, fiT_e (by omega), if_neg (by intro hu; omega)]
                          · exact absurd c_165 c_147
                  · -- 79F
                    refine lv_iload hx hb dX0_fits_82 (lv_at hl 6 rfl) ?_
                    refine n_if_ne (tgt := 120) hx hb (r32 (by omega)) dX0_fits_84 (by decide) (fun c_84 => ?_) (fun c_84 => ?_)
                    · -- 84T
                      refine n_iconst hx hb dX0_fits_120 ?_
                      refine lv_goto (tgt := 125) hx hb dX0_fits_121 (by decide) ?_
                      refine lv_istore hx hb dX0_fits_125 hl (Nat.le_of_ble_eq_true rfl) (lv' := [(6, .int (iI 1)), (0, .ref a), (1, .int (iI s_)), (2, .int (iI ht_)), (3, .int (iI mi_)), (4, .int (iI k)), (5, .ref y1), (7, .int (iI i))]) rfl (fun ls hl => ?_)
                      refine n_iinc hx hb dX0_fits_127 hl (k := 7) rfl (Nat.le_of_ble_eq_true rfl) (lv' := [(7, .int (iI (i + 1))), (6, .int (iI 1)), (0, .ref a), (1, .int (iI s_)), (2, .int (iI ht_)), (3, .int (iI mi_)), (4, .int (iI k)), (5, .ref y1)]) rfl (fun ls hl => ?_)
                      refine lv_goto (tgt := 70) hx hb dX0_fits_130 (by decide) ?_
                      have hl : lv_has ls 8 [(0, .ref a), (1, .int (iI s_)), (2, .int (iI ht_)), (3, .int (iI mi_)), (4, .int (iI k)), (5, .ref y1), (6, .int (iI 1)), (7, .int (iI (i + 1)))] := lv_sub hl [2, 3, 4, 5, 6, 7, 1, 0] rfl
                      refine ih_70 (i + 1) 1 ?_ ?_ ?_ ?_ ?_ _ _ _ hH hl
                      · omega
                      · omega
                      · omega
                      · omega
                      · rw [he2, if_pos (by omega), if_pos rfl]
                    · -- 84F
                      refine lv_iload_n hx hb dX0_fits_87 rfl (lv_at hl 1 rfl) ?_
                      refine lv_iload hx hb dX0_fits_88 (lv_at hl 7 rfl) ?_
                      refine n_ishr hx hb (r32 (by omega)) (by omega) (by omega) dX0_fits_90 ?_
                      refine n_iconst hx hb dX0_fits_91 ?_
                      refine n_and1 hx hb dX0_fits_92 ?_
                      refine n_iconst hx hb dX0_fits_93 ?_
                      refine n_icmp_ne (tgt := 124) hx hb (r32 (by omega)) (r32 (by omega)) dX0_fits_94 (by decide) (fun c_94 => ?_) (fun c_94 => ?_)
                      · -- 94T
                        refine n_iconst hx hb dX0_fits_124 ?_
                        refine lv_istore hx hb dX0_fits_125 hl (Nat.le_of_ble_eq_true rfl) (lv' := [(6, .int (iI 0)), (0, .ref a), (1, .int (iI s_)), (2, .int (iI ht_)), (3, .int (iI mi_)), (4, .int (iI k)), (5, .ref y1), (7, .int (iI i))]) rfl (fun ls hl => ?_)
                        refine n_iinc hx hb dX0_fits_127 hl (k := 7) rfl (Nat.le_of_ble_eq_true rfl) (lv' := [(7, .int (iI (i + 1))), (6, .int (iI 0)), (0, .ref a), (1, .int (iI s_)), (2, .int (iI ht_)), (3, .int (iI mi_)), (4, .int (iI k)), (5, .ref y1)]) rfl (fun ls hl => ?_)
                        refine lv_goto (tgt := 70) hx hb dX0_fits_130 (by decide) ?_
                        have hl : lv_has ls 8 [(0, .ref a), (1, .int (iI s_)), (2, .int (iI ht_)), (3, .int (iI mi_)), (4, .int (iI k)), (5, .ref y1), (6, .int (iI 0)), (7, .int (iI (i + 1)))] := lv_sub hl [2, 3, 4, 5, 6, 7, 1, 0] rfl
                        refine ih_70 (i + 1) 0 ?_ ?_ ?_ ?_ ?_ _ _ _ hH hl
                        · omega
                        · omega
                        · omega
                        · omega
                        · rw [he2, if_neg (by omega), if_neg (by decide), suN_e (by omega), if_neg (by omega)]
                      · -- 94F
                        refine lv_aload_n hx hb dX0_fits_97 rfl (lv_at hl 0 rfl) ?_
                        refine x_get hx hb hts in_X0 hown hK hH hR.o rfl 0 (by decide) q339 (fun _ h9 => h9) rfl (by decide) dX0_fits_98 ?_
                        refine x_getN hx hb hts in_X1 hown hK hH hR.b0 rfl 8 (by decide) hXN q178 (fun _ h9 => h9) rfl (by decide) dX0_fits_101 ?_
                        refine lv_iload hx hb dX0_fits_104 (lv_at hl 7 rfl) ?_
                        obtain ⟨y2, u2, g2⟩ := hR.kind (i := i) (by omega) (by omega)
                        have g2 : _ = some (oB 5 [.int (iI (σ 2 (136 + 6 * i + 0))), .int (iI (σ 2 (136 + 6 * i + 1))), .int (iI (σ 2 (136 + 6 * i + 2))), .int (iI (σ 2 (136 + 6 * i + 3))), .int (iI (σ 2 (136 + 6 * i + 5))), .int (iI (σ 2 (136 + 6 * i + 4)))]) := g2
                        have v2 := hI.k i (by omega) (by omega)
                        unfold kKind at v2
                        refine x_aald hx hb hK hH 5 hR.b8 rfl (by omega) (by omega) (Nat.le_of_ble_eq_true rfl) (v := some y2) u2 dX0_fits_106 ?_
                        refine lv_aload hx hb dX0_fits_107 (lv_at hl 5 rfl) ?_
                        refine x_get hx hb hts in_X10 hown hK hH g1 rfl 0 (by decide) q263 (u_same (hts _ q264)) rfl (by decide) dX0_fits_109 ?_
                        refine n_iconst hx hb dX0_fits_112 ?_
                        refine x_iald hx hb hK hH k1 (by omega) (by omega) (Nat.le_of_ble_eq_true rfl) dX0_fits_113 ?_
                        refine W.eq (g2 := F0 m 114 ls (.int (iI (loA (σ 2) k 0)) :: .ref y2 :: [])) (by first | (rw [e1 _ (by omega) (by omega)]; done) | (rw [e1 _ (by omega) (by omega)]; rfl)) ?_
                        refine x_calliF (x_runV (As := [.int (iI (loA (σ 2) k 0))]) (rest := []) S hH hK (fun _ _ hW => XN.warm hW hXN) XN_b hl.1 g2 rfl (xm_X5_growsIn l G M _ _ (σ 2 (136 + 6 * i + 2)) _ _ _ y2 (loA (σ 2) k 0) _ g2 (by omega) (r32 (by omega))) (lw_V q1353 q723 q724 q110 q725) kd_X5_growsIn rfl rfl dX0_fits_114) hH hA (fun H locs hH => ?_)
                        refine z_if_eq (tgt := 124) hx hb dX0_fits_117 (by decide) (fun c_117 => ?_) (fun c_117 => ?_)
                        · -- 117T
                          refine n_iconst hx hb dX0_fits_124 ?_
                          refine lv_istore hx hb dX0_fits_125 hl (Nat.le_of_ble_eq_true rfl) (lv' := [(6, .int (iI 0)), (0, .ref a), (1, .int (iI s_)), (2, .int (iI ht_)), (3, .int (iI mi_)), (4, .int (iI k)), (5, .ref y1), (7, .int (iI i))]) rfl (fun ls hl => ?_)
                          refine n_iinc hx hb dX0_fits_127 hl (k := 7) rfl (Nat.le_of_ble_eq_true rfl) (lv' := [(7, .int (iI (i + 1))), (6, .int (iI 0)), (0, .ref a), (1, .int (iI s_)), (2, .int (iI ht_)), (3, .int (iI mi_)), (4, .int (iI k)), (5, .ref y1)]) rfl (fun ls hl => ?_)
                          refine lv_goto (tgt := 70) hx hb dX0_fits_130 (by decide) ?_
                          have hl : lv_has ls 8 [(0, .ref a), (1, .int (iI s_)), (2, .int (iI ht_)), (3, .int (iI mi_)), (4, .int (iI k)), (5, .ref y1), (6, .int (iI 0)), (7, .int (iI (i + 1)))] := lv_sub hl [2, 3, 4, 5, 6, 7, 1, 0] rfl
                          refine ih_70 (i + 1) 0 ?_ ?_ ?_ ?_ ?_ _ _ _ hH hl
                          · omega
                          · omega
                          · omega
                          · omega
                          · rw [he2, if_neg (by omega), if_neg (by decide), suN_e (by omega), if_neg (by omega)]
                        · -- 117F
                          refine n_iconst hx hb dX0_fits_120 ?_
                          refine lv_goto (tgt := 125) hx hb dX0_fits_121 (by decide) ?_
                          refine lv_istore hx hb dX0_fits_125 hl (Nat.le_of_ble_eq_true rfl) (lv' := [(6, .int (iI 1)), (0, .ref a), (1, .int (iI s_)), (2, .int (iI ht_)), (3, .int (iI mi_)), (4, .int (iI k)), (5, .ref y1), (7, .int (iI i))]) rfl (fun ls hl => ?_)
                          refine n_iinc hx hb dX0_fits_127 hl (k := 7) rfl (Nat.le_of_ble_eq_true rfl) (lv' := [(7, .int (iI (i + 1))), (6, .int (iI 1)), (0, .ref a), (1, .int (iI s_)), (2, .int (iI ht_)), (3, .int (iI mi_)), (4, .int (iI k)), (5, .ref y1)]) rfl (fun ls hl => ?_)
                          refine lv_goto (tgt := 70) hx hb dX0_fits_130 (by decide) ?_
                          have hl : lv_has ls 8 [(0, .ref a), (1, .int (iI s_)), (2, .int (iI ht_)), (3, .int (iI mi_)), (4, .int (iI k)), (5, .ref y1), (6, .int (iI 1)), (7, .int (iI (i + 1)))] := lv_sub hl [2, 3, 4, 5, 6, 7, 1, 0] rfl
                          refine ih_70 (i + 1) 1 ?_ ?_ ?_ ?_ ?_ _ _ _ hH hl
                          · omega
                          · omega
                          · omega
                          · omega
                          · rw [he2, if_neg (by omega), suN_e (by omega), if_pos ⟨by omega, by omega⟩, if_pos rfl]
              refine n_iconst hx hb dX0_fits_64 ?_
              refine lv_istore hx hb dX0_fits_65 hl (Nat.le_of_ble_eq_true rfl) (lv' := [(6, .int (iI 0)), (5, .ref y1), (0, .ref a), (1, .int (iI s_)), (2, .int (iI ht_)), (3, .int (iI mi_)), (4, .int (iI k))]) rfl (fun ls hl => ?_)
              refine n_iconst hx hb dX0_fits_67 ?_
              refine lv_istore hx hb dX0_fits_68 hl (Nat.le_of_ble_eq_true rfl) (lv' := [(7, .int (iI 0)), (6, .int (iI 0)), (5, .ref y1), (0, .ref a), (1, .int (iI s_)), (2, .int (iI ht_)), (3, .int (iI mi_)), (4, .int (iI k))]) rfl (fun ls hl => ?_)
              have hl : lv_has ls 8 [(0, .ref a), (1, .int (iI s_)), (2, .int (iI ht_)), (3, .int (iI mi_)), (4, .int (iI k)), (5, .ref y1), (6, .int (iI 0)), (7, .int (iI 0))] := lv_sub hl [3, 4, 5, 6, 7, 2, 1, 0] rfl
              refine L70 20 0 0 ?_ ?_ ?_ ?_ ?_ _ _ _ hH hl
              · omega
              · omega
              · omega
              · omega
              · rw [if_neg (by decide), Int.sub_zero]
            · -- 58F
              refine lv_goto (tgt := 192) hx hb dX0_fits_61 (by decide) ?_
              refine n_iinc hx hb dX0_fits_192 hl (k := 5) rfl (Nat.le_of_ble_eq_true rfl) (lv' := [(4, .int (iI (k + 1))), (5, .ref y1), (0, .ref a), (1, .int (iI s_)), (2, .int (iI ht_)), (3, .int (iI mi_))]) rfl (fun ls hl => ?_)
              refine lv_goto (tgt := 3) hx hb dX0_fits_195 (by decide) ?_
              have hl : lv_has ls 8 [(0, .ref a), (1, .int (iI s_)), (2, .int (iI ht_)), (3, .int (iI mi_)), (4, .int (iI (k + 1)))] := lv_sub hl [2, 3, 4, 5, 0] rfl
              refine ih_3 (k + 1) ?_ ?_ ?_ ?_ _ _ _ hH hl
              · omega
              · omega
              · omega
              · rw [he, fiT_e (by omega), if_neg (by intro hu; omega)]
  refine n_iconst hx hb dX0_fits_0 ?_
  refine lv_istore hx hb dX0_fits_1 hl (Nat.le_of_ble_eq_true rfl) (lv' := [(4, .int (iI 0)), (0, .ref a), (1, .int (iI s_)), (2, .int (iI ht_)), (3, .int (iI mi_))]) rfl (fun ls hl => ?_)
  have hl : lv_has ls 8 [(0, .ref a), (1, .int (iI s_)), (2, .int (iI ht_)), (3, .int (iI mi_)), (4, .int (iI 0))] := lv_sub hl [1, 2, 3, 4, 0] rfl
  refine L3 50 0 ?_ ?_ ?_ ?_ _ _ _ hH hl
  · omega
  · omega
  · omega
  · rw [Int.sub_zero]
theorem kd_X0_outlive : yX0_outlive.cls = RX0 ∧ yX0_outlive.cls ≠ "java/lang/invoke/MethodHandle" ∧ yX0_outlive.cls ≠ "java/lang/invoke/VarHandle" ∧ (parseMethodDescriptor yX0_outlive.desc).map (fun d => d.parameters.length) = some 3 := by decide +kernel
theorem xm_X0_outlive (l : Launch) (G : MG) (M : Hp) (σ : St) (x : XGh) (ω : XCt) (a : Nat) (ht_ : Int) (mi_ : Int) (w_ : Int) (sz : Nat) (hR : RX G M a σ x ω) (h_ht_ : R32 ht_) (h_mi_ : R32 mi_) (h_w_ : R32 w_) (hI : KI (σ 2)) : Met l yX0_outlive (ws_ yX0_outlive cX0_outlive 8 (some .int)) (rmD 4) (xP G XN [.ref a, .int (iI ht_), .int (iI mi_), .int (iI w_)] M sz) (xQi G (DA M sz) (fun z M' => z = (olvF (σ 2) ht_ mi_ w_) ∧ M' = M)) 0 0 (DA M sz) := by
  refine x_start (by decide) (Nat.le_of_ble_eq_true rfl) ?_
  intro p e s m below meth c ⟨S, hr, hlk, hH, hK, hXN, hsz, hnm⟩ ls hl
  subst hsz
  obtain ⟨hx, hb, hml, hown, hts⟩ := S
  have S : CallFix p m c _ _ s _ lw_all RX0 := ⟨hx, hb, hml, hown, hts⟩
  have hA : ∀ q, s.heap.size ≤ q → DA M s.heap.size q := fun q hq => Or.inr hq
  have hl : lv_has ls 8 [(0, .ref a), (1, .int (iI ht_)), (2, .int (iI mi_)), (3, .int (iI w_))] := hl
  have b0 := hI.c
  unfold kCnt at b0
  have h_ht_ := R32.n h_ht_
  have h_mi_ := R32.n h_mi_
  have h_w_ := R32.n h_w_
  have hp := pow_r b0.2.2.1.1 (by omega)
  have L60 : ∀ (q : Nat) (k : Int), (hg : (0 ≤ ht_ ∧ ht_ ≤ 7) ∧ (1 ≤ mi_ ∧ mi_ ≤ 255) ∧ (0 ≤ w_ ∧ w_ ≤ 2)) → (hk0 : 0 ≤ k) → (hk1 : k ≤ 2 ^ (σ 2 1752).toNat) → (hq : 2 ^ (σ 2 1752).toNat < (q : Int) + k) → ∀ (H : Heap) (locs : List Loc) (ls : Array Slot), XV G (DA M s.heap.size) M s.heap H locs → lv_has ls 8 [(0, .ref a), (1, .int (iI ht_)), (2, .int (iI mi_)), (3, .int (iI w_)), (4, .int (iI ((olN (σ 2) ht_ mi_ k.toNat).1))), (5, .int (iI ((olN (σ 2) ht_ mi_ k.toNat).2.1))), (6, .int (iI ((olN (σ 2) ht_ mi_ k.toNat).2.2))), (7, .int (iI k))] → W p l e (rmD 4) s m ([.ref a, .int (iI ht_), .int (iI mi_), .int (iI w_)] : List Value).toArray below meth c H locs 0 0 (MQ below (xQi G (DA M s.heap.size) (fun z M' => z = (olvF (σ 2) ht_ mi_ w_) ∧ M' = M)) ([.ref a, .int (iI ht_), .int (iI mi_), .int (iI w_)] : List Value).toArray s 0 0 (DA M s.heap.size)) (F0 m 60 ls []) := by
    intro q
    induction q with
    | zero => intro k hg hk0 hk1 hq; exfalso; omega
    | succ q ih_60 =>
      intro k hg hk0 hk1 hq H locs ls hH hl
      have hfi := fitF_01 (σ 2) k ht_ mi_
      have hol := olN_r (κ := σ 2) (ht := ht_) (mi := mi_) k.toNat
      refine lv_iload hx hb dX0_outlive_60 (lv_at hl 7 rfl) ?_
      refine n_iconst hx hb dX0_outlive_62 ?_
      refine lv_aload_n hx hb dX0_outlive_63 rfl (lv_at hl 0 rfl) ?_
      refine x_get hx hb hts in_X0 hown hK hH hR.o rfl 0 (by decide) q339 (fun _ h9 => h9) rfl (by decide) dX0_outlive_64 ?_
      refine x_getN hx hb hts in_X1 hown hK hH hR.b0 rfl 1 (by decide) hXN q164 (fun _ h9 => h9) rfl (by decide) dX0_outlive_67 ?_
      refine n_ishl hx hb (by omega) (by omega) dX0_outlive_70 ?_
      refine W.eq (g2 := F0 m 71 ls (.int (iI (2 ^ (σ 2 1752).toNat)) :: .int (iI k) :: [])) (by rw [Int.one_mul]) ?_
      refine n_icmp_ge (tgt := 111) hx hb (r32 (by omega)) (r32 (by omega)) dX0_outlive_71 (by decide) (fun c_71 => ?_) (fun c_71 => ?_)
      · -- 71T
        refine lv_iload_n hx hb dX0_outlive_111 rfl (lv_at hl 3 rfl) ?_
        refine n_if_ne (tgt := 120) hx hb (r32 (by omega)) dX0_outlive_112 (by decide) (fun c_112 => ?_) (fun c_112 => ?_)
        · -- 112T
          refine lv_iload_n hx hb dX0_outlive_120 rfl (lv_at hl 3 rfl) ?_
          refine n_iconst hx hb dX0_outlive_121 ?_
          refine n_icmp_ne (tgt := 139) hx hb (r32 (by omega)) (r32 (by omega)) dX0_outlive_122 (by decide) (fun c_122 => ?_) (fun c_122 => ?_)
          · -- 122T
            refine lv_iload hx hb dX0_outlive_139 (lv_at hl 6 rfl) ?_
            refine x_iret hx hb hr hlk hH dX0_outlive_141 ?_
            refine ⟨?_, rfl⟩
            show _ = olvF _ _ _ _
            rw [olvF, if_pos hg, show ((2 : Int) ^ (σ 2 1752).toNat).toNat = k.toNat by omega]
            (repeat' split) <;> first | rfl | (exfalso; omega)
          · -- 122F
            refine lv_iload hx hb dX0_outlive_125 (lv_at hl 4 rfl) ?_
            refine n_if_ne (tgt := 134) hx hb (r32 (by omega)) dX0_outlive_127 (by decide) (fun c_127 => ?_) (fun c_127 => ?_)
            · -- 127T
              refine lv_iload hx hb dX0_outlive_134 (lv_at hl 5 rfl) ?_
              refine lv_goto (tgt := 141) hx hb dX0_outlive_136 (by decide) ?_
              refine x_iret hx hb hr hlk hH dX0_outlive_141 ?_
              refine ⟨?_, rfl⟩
              show _ = olvF _ _ _ _
              rw [olvF, if_pos hg, show ((2 : Int) ^ (σ 2 1752).toNat).toNat = k.toNat by omega]
              (repeat' split) <;> first | rfl | (exfalso; omega)
            · -- 127F
              refine n_iconst hx hb dX0_outlive_130 ?_
              refine lv_goto (tgt := 141) hx hb dX0_outlive_131 (by decide) ?_
              refine x_iret hx hb hr hlk hH dX0_outlive_141 ?_
              refine ⟨?_, rfl⟩
              show _ = olvF _ _ _ _
              rw [olvF, if_pos hg, show ((2 : Int) ^ (σ 2 1752).toNat).toNat = k.toNat by omega]
              (repeat' split) <;> first | rfl | (exfalso; omega)
        · -- 112F
          refine lv_iload hx hb dX0_outlive_115 (lv_at hl 4 rfl) ?_
          refine lv_goto (tgt := 141) hx hb dX0_outlive_117 (by decide) ?_
          refine x_iret hx hb hr hlk hH dX0_outlive_141 ?_
          refine ⟨?_, rfl⟩
          show _ = olvF _ _ _ _
          rw [olvF, if_pos hg, show ((2 : Int) ^ (σ 2 1752).toNat).toNat = k.toNat by omega]
          (repeat' split) <;> first | rfl | (exfalso; omega)
      · -- 71F
        refine lv_aload_n hx hb dX0_outlive_74 rfl (lv_at hl 0 rfl) ?_
        refine lv_iload hx hb dX0_outlive_75 (lv_at hl 7 rfl) ?_
        refine lv_iload_n hx hb dX0_outlive_77 rfl (lv_at hl 1 rfl) ?_
        refine lv_iload_n hx hb dX0_outlive_78 rfl (lv_at hl 2 rfl) ?_
        refine x_calliF (x_runV (As := [.int (iI k), .int (iI ht_), .int (iI mi_)]) (rest := []) S hH hK (fun _ _ hW => XN.warm hW hXN) XN_b hl.1 hR.o rfl (xm_X0_fits l G M σ x ω a k ht_ mi_ _ hR (r32 (by omega)) (by omega) (by omega) (by omega) (by omega) hI) (lw_V q1349 q1351 qs38 q105 q1352) kd_X0_fits rfl rfl dX0_outlive_79) hH hA (fun H locs hH => ?_)
        refine n_if_ne (tgt := 88) hx hb (r32 (by omega)) dX0_outlive_82 (by decide) (fun c_82 => ?_) (fun c_82 => ?_)
        · -- 82T
          refine n_iinc hx hb dX0_outlive_88 hl (k := 4) rfl (Nat.le_of_ble_eq_true rfl) (lv' := [(4, .int (iI (((olN (σ 2) ht_ mi_ k.toNat).1) + 1))), (0, .ref a), (1, .int (iI ht_)), (2, .int (iI mi_)), (3, .int (iI w_)), (5, .int (iI ((olN (σ 2) ht_ mi_ k.toNat).2.1))), (6, .int (iI ((olN (σ 2) ht_ mi_ k.toNat).2.2))), (7, .int (iI k))]) rfl (fun ls hl => ?_)
          refine lv_iload hx hb dX0_outlive_91 (lv_at hl 5 rfl) ?_
          refine lv_iload hx hb dX0_outlive_93 (lv_at hl 7 rfl) ?_
          refine n_iand hx hb dX0_outlive_95 ?_
          refine lv_istore hx hb dX0_outlive_96 hl (Nat.le_of_ble_eq_true rfl) (lv' := [(5, .int (iI (bAnd ((olN (σ 2) ht_ mi_ k.toNat).2.1) k))), (4, .int (iI (((olN (σ 2) ht_ mi_ k.toNat).1) + 1))), (0, .ref a), (1, .int (iI ht_)), (2, .int (iI mi_)), (3, .int (iI w_)), (6, .int (iI ((olN (σ 2) ht_ mi_ k.toNat).2.2))), (7, .int (iI k))]) rfl (fun ls hl => ?_)
          refine lv_iload hx hb dX0_outlive_98 (lv_at hl 6 rfl) ?_
          refine lv_iload hx hb dX0_outlive_100 (lv_at hl 7 rfl) ?_
          refine n_ior hx hb dX0_outlive_102 ?_
          refine lv_istore hx hb dX0_outlive_103 hl (Nat.le_of_ble_eq_true rfl) (lv' := [(6, .int (iI (bOr ((olN (σ 2) ht_ mi_ k.toNat).2.2) k))), (5, .int (iI (bAnd ((olN (σ 2) ht_ mi_ k.toNat).2.1) k))), (4, .int (iI (((olN (σ 2) ht_ mi_ k.toNat).1) + 1))), (0, .ref a), (1, .int (iI ht_)), (2, .int (iI mi_)), (3, .int (iI w_)), (7, .int (iI k))]) rfl (fun ls hl => ?_)
          refine n_iinc hx hb dX0_outlive_105 hl (k := 7) rfl (Nat.le_of_ble_eq_true rfl) (lv' := [(7, .int (iI (k + 1))), (6, .int (iI (bOr ((olN (σ 2) ht_ mi_ k.toNat).2.2) k))), (5, .int (iI (bAnd ((olN (σ 2) ht_ mi_ k.toNat).2.1) k))), (4, .int (iI (((olN (σ 2) ht_ mi_ k.toNat).1) + 1))), (0, .ref a), (1, .int (iI ht_)), (2, .int (iI mi_)), (3, .int (iI w_))]) rfl (fun ls hl => ?_)
          refine lv_goto (tgt := 60) hx hb dX0_outlive_108 (by decide) ?_
          have hl : lv_has ls 8 [(0, .ref a), (1, .int (iI ht_)), (2, .int (iI mi_)), (3, .int (iI w_)), (4, .int (iI (((olN (σ 2) ht_ mi_ k.toNat).1) + 1))), (5, .int (iI (bAnd ((olN (σ 2) ht_ mi_ k.toNat).2.1) k))), (6, .int (iI (bOr ((olN (σ 2) ht_ mi_ k.toNat).2.2) k))), (7, .int (iI (k + 1)))] := lv_sub hl [4, 5, 6, 7, 3, 2, 1, 0] rfl
          have hl : lv_has ls 8 [(0, .ref a), (1, .int (iI ht_)), (2, .int (iI mi_)), (3, .int (iI w_)), (4, .int (iI ((olN (σ 2) ht_ mi_ (k + 1).toNat).1))), (5, .int (iI ((olN (σ 2) ht_ mi_ (k + 1).toNat).2.1))), (6, .int (iI ((olN (σ 2) ht_ mi_ (k + 1).toNat).2.2))), (7, .int (iI (k + 1)))] := by rw [olN_e hk0, if_pos (by omega)]; exact hl
          refine ih_60 (k + 1) ?_ ?_ ?_ ?_ _ _ _ hH hl
          · exact hg
          · omega
          · omega
          · omega
        · -- 82F
          refine lv_goto (tgt := 105) hx hb dX0_outlive_85 (by decide) ?_
          refine n_iinc hx hb dX0_outlive_105 hl (k := 7) rfl (Nat.le_of_ble_eq_true rfl) (lv' := [(7, .int (iI (k + 1))), (0, .ref a), (1, .int (iI ht_)), (2, .int (iI mi_)), (3, .int (iI w_)), (4, .int (iI ((olN (σ 2) ht_ mi_ k.toNat).1))), (5, .int (iI ((olN (σ 2) ht_ mi_ k.toNat).2.1))), (6, .int (iI ((olN (σ 2) ht_ mi_ k.toNat).2.2)))]) rfl (fun ls hl => ?_)
          refine lv_goto (tgt := 60) hx hb dX0_outlive_108 (by decide) ?_
          have hl : lv_has ls 8 [(0, .ref a), (1, .int (iI ht_)), (2, .int (iI mi_)), (3, .int (iI w_)), (4, .int (iI ((olN (σ 2) ht_ mi_ k.toNat).1))), (5, .int (iI ((olN (σ 2) ht_ mi_ k.toNat).2.1))), (6, .int (iI ((olN (σ 2) ht_ mi_ k.toNat).2.2))), (7, .int (iI (k + 1)))] := lv_sub hl [1, 2, 3, 4, 5, 6, 7, 0] rfl
          have hl : lv_has ls 8 [(0, .ref a), (1, .int (iI ht_)), (2, .int (iI mi_)), (3, .int (iI w_)), (4, .int (iI ((olN (σ 2) ht_ mi_ (k + 1).toNat).1))), (5, .int (iI ((olN (σ 2) ht_ mi_ (k + 1).toNat).2.1))), (6, .int (iI ((olN (σ 2) ht_ mi_ (k + 1).toNat).2.2))), (7, .int (iI (k + 1)))] := by rw [olN_e hk0, if_neg (by omega)]; exact hl
          refine ih_60 (k + 1) ?_ ?_ ?_ ?_ _ _ _ hH hl
          · exact hg
          · omega
          · omega
          · omega
  refine lv_iload_n hx hb dX0_outlive_0 rfl (lv_at hl 1 rfl) ?_
  refine n_i2l hx hb (r32 (by omega)) dX0_outlive_1 ?_
  refine n_lconst (z := 0) hx hb dX0_outlive_2 (by decide) ?_
  refine lv_ldc2 (v := lI 7) hx hb hown (hts _ q385) dX0_outlive_3 ?_
  refine x_calliF (x_runS (As := [.long (lI ht_), .long (lI 0), .long (lI 7)]) (rest := []) S hH hK (fun _ _ hW => XN.warm hW hXN) XN_b hl.1 (xm_X0_in l G M ht_ 0 7 _ (r64 (by omega)) (r64 (by omega)) (r64 (by omega))) (lw_S q386 q387 q105 q388) kd_X0_in rfl rfl dX0_outlive_6) hH hA (fun H locs hH => ?_)
  refine z_if_eq (tgt := 36) hx hb dX0_outlive_9 (by decide) (fun c_9 => ?_) (fun c_9 => ?_)
  · -- 9T
    refine n_iconst hx hb dX0_outlive_36 ?_
    refine x_iret hx hb hr hlk hH dX0_outlive_37 ?_
    refine ⟨?_, rfl⟩
    show _ = olvF _ _ _ _
    rw [olvF, if_neg (by omega)]
  · -- 9F
    refine lv_iload_n hx hb dX0_outlive_12 rfl (lv_at hl 2 rfl) ?_
    refine n_i2l hx hb (r32 (by omega)) dX0_outlive_13 ?_
    refine n_lconst (z := 1) hx hb dX0_outlive_14 (by decide) ?_
    refine lv_ldc2 (v := lI 255) hx hb hown (hts _ q389) dX0_outlive_15 ?_
    refine x_calliF (x_runS (As := [.long (lI mi_), .long (lI 1), .long (lI 255)]) (rest := []) S hH hK (fun _ _ hW => XN.warm hW hXN) XN_b hl.1 (xm_X0_in l G M mi_ 1 255 _ (r64 (by omega)) (r64 (by omega)) (r64 (by omega))) (lw_S q386 q387 q105 q388) kd_X0_in rfl rfl dX0_outlive_18) hH hA (fun H locs hH => ?_)
    refine z_if_eq (tgt := 36) hx hb dX0_outlive_21 (by decide) (fun c_21 => ?_) (fun c_21 => ?_)
    · -- 21T
      refine n_iconst hx hb dX0_outlive_36 ?_
      refine x_iret hx hb hr hlk hH dX0_outlive_37 ?_
      refine ⟨?_, rfl⟩
      show _ = olvF _ _ _ _
      rw [olvF, if_neg (by omega)]
    · -- 21F
      refine lv_iload_n hx hb dX0_outlive_24 rfl (lv_at hl 3 rfl) ?_
      refine n_i2l hx hb (r32 (by omega)) dX0_outlive_25 ?_
      refine n_lconst (z := 0) hx hb dX0_outlive_26 (by decide) ?_
      refine lv_ldc2 (v := lI 2) hx hb hown (hts _ q438) dX0_outlive_27 ?_
      refine x_calliF (x_runS (As := [.long (lI w_), .long (lI 0), .long (lI 2)]) (rest := []) S hH hK (fun _ _ hW => XN.warm hW hXN) XN_b hl.1 (xm_X0_in l G M w_ 0 2 _ (r64 (by omega)) (r64 (by omega)) (r64 (by omega))) (lw_S q386 q387 q105 q388) kd_X0_in rfl rfl dX0_outlive_30) hH hA (fun H locs hH => ?_)
      refine z_if_ne (tgt := 38) hx hb dX0_outlive_33 (by decide) (fun c_33 => ?_) (fun c_33 => ?_)
      · -- 33T
        refine n_iconst hx hb dX0_outlive_38 ?_
        refine lv_istore hx hb dX0_outlive_39 hl (Nat.le_of_ble_eq_true rfl) (lv' := [(4, .int (iI 0)), (0, .ref a), (1, .int (iI ht_)), (2, .int (iI mi_)), (3, .int (iI w_))]) rfl (fun ls hl => ?_)
        refine n_iconst hx hb dX0_outlive_41 ?_
        refine lv_aload_n hx hb dX0_outlive_42 rfl (lv_at hl 1 rfl) ?_
        refine x_get hx hb hts in_X0 hown hK hH hR.o rfl 0 (by decide) q339 (fun _ h9 => h9) rfl (by decide) dX0_outlive_43 ?_
        refine x_getN hx hb hts in_X1 hown hK hH hR.b0 rfl 1 (by decide) hXN q164 (fun _ h9 => h9) rfl (by decide) dX0_outlive_46 ?_
        refine n_ishl hx hb (by omega) (by omega) dX0_outlive_49 ?_
        refine W.eq (g2 := F0 m 50 ls (.int (iI (2 ^ (σ 2 1752).toNat)) :: [])) (by rw [Int.one_mul]) ?_
        refine n_iconst hx hb dX0_outlive_50 ?_
        refine n_isub hx hb dX0_outlive_51 ?_
        refine lv_istore hx hb dX0_outlive_52 hl (Nat.le_of_ble_eq_true rfl) (lv' := [(5, .int (iI ((2 ^ (σ 2 1752).toNat) - 1))), (4, .int (iI 0)), (0, .ref a), (1, .int (iI ht_)), (2, .int (iI mi_)), (3, .int (iI w_))]) rfl (fun ls hl => ?_)
        refine n_iconst hx hb dX0_outlive_54 ?_
        refine lv_istore hx hb dX0_outlive_55 hl (Nat.le_of_ble_eq_true rfl) (lv' := [(6, .int (iI 0)), (5, .int (iI ((2 ^ (σ 2 1752).toNat) - 1))), (4, .int (iI 0)), (0, .ref a), (1, .int (iI ht_)), (2, .int (iI mi_)), (3, .int (iI w_))]) rfl (fun ls hl => ?_)
        refine n_iconst hx hb dX0_outlive_57 ?_
        refine lv_istore hx hb dX0_outlive_58 hl (Nat.le_of_ble_eq_true rfl) (lv' := [(7, .int (iI 0)), (6, .int (iI 0)), (5, .int (iI ((2 ^ (σ 2 1752).toNat) - 1))), (4, .int (iI 0)), (0, .ref a), (1, .int (iI ht_)), (2, .int (iI mi_)), (3, .int (iI w_))]) rfl (fun ls hl => ?_)
        have hl : lv_has ls 8 [(0, .ref a), (1, .int (iI ht_)), (2, .int (iI mi_)), (3, .int (iI w_)), (4, .int (iI 0)), (5, .int (iI ((2 ^ (σ 2 1752).toNat) - 1))), (6, .int (iI 0)), (7, .int (iI 0))] := lv_sub hl [4, 5, 6, 7, 3, 2, 1, 0] rfl
        have hl : lv_has ls 8 [(0, .ref a), (1, .int (iI ht_)), (2, .int (iI mi_)), (3, .int (iI w_)), (4, .int (iI ((olN (σ 2) ht_ mi_ (0 : Int).toNat).1))), (5, .int (iI ((olN (σ 2) ht_ mi_ (0 : Int).toNat).2.1))), (6, .int (iI ((olN (σ 2) ht_ mi_ (0 : Int).toNat).2.2))), (7, .int (iI 0))] := by rw [← Int.one_mul (2 ^ (σ 2 1752).toNat)] at hl; exact hl
        refine L60 4100 0 ?_ ?_ ?_ ?_ _ _ _ hH hl
        · omega
        · omega
        · omega
        · omega
      · -- 33F
        refine n_iconst hx hb dX0_outlive_36 ?_
        refine x_iret hx hb hr hlk hH dX0_outlive_37 ?_
        refine ⟨?_, rfl⟩
        show _ = olvF _ _ _ _
        rw [olvF, if_neg (by omega)]
