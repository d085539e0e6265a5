theorem lk_holds {l : Launch} {G : MG} {M : Hp} {κ : Int → Int} {x k : Int} {a c_ n i : Nat} {f : Int → Int} {sz : Nat} (hI : KI κ) (hk : 0 ≤ k ∧ k < κ 1754) (h1 : M c_ = some (oB 9 [.ref n, .int (iI 0), .int (iI (κ (1224 + 10 * k + 9)))])) (h2 : M n = some (aI (G.2.1 0) 9 f)) (h3 : ∀ j, 0 ≤ j → j < 9 → f j = loA κ k j) (hT : ClauseAt G 200 M a ((tm κ x).getD i cl0)) : Met l yX21_holds (ws_ yX21_holds cX21_holds 2 (some .boolean)) (rmD (200 + 1 + 3)) (xP G XN [.ref a, .ref c_] M sz) (xQi G (DA M sz) (fun z M' => z = hoN (tm κ x) (loA κ k) i ∧ M' = M)) 0 0 (DA M sz) := by
  rw [← hoN_loc (tm_loc κ x) h3]
  exact t_holds l G M 200 ((tm κ x).getD i cl0) 9 n _ f a c_ sz hT (caseL hI hk h1 h2 h3)
theorem kd_X0_all : yX0_all.cls = RX0 ∧ yX0_all.cls ≠ "java/lang/invoke/MethodHandle" ∧ yX0_all.cls ≠ "java/lang/invoke/VarHandle" ∧ (parseMethodDescriptor yX0_all.desc).map (fun d => d.parameters.length) = some 1 := by decide +kernel
theorem xm_X0_all (l : Launch) (G : MG) (M : Hp) (σ : St) (x : XGh) (ω : XCt) (a : Nat) (x_ : Int) (sz : Nat) (hR : RX G M a σ x ω) (h_x_ : R32 x_) (hI : KI (σ 2)) (hT : TT (σ 2)) : Met l yX0_all (ws_ yX0_all cX0_all 7 (some .int)) (rmD 210) (xP G XN [.ref a, .int (iI x_)] M sz) (xQi G (DA M sz) (fun z M' => z = (allF (σ 2) x_) ∧ M' = M)) 0 0 (DA M sz) := by
  refine x_start (by decide) (Nat.le_of_ble_eq_true rfl) ?_
  intro p e s m below meth c ⟨S, hr, hlk, hH, hK, hXN, hsz, hnm⟩ ls hl
  subst hsz
  obtain ⟨hx, hb, hml, hown, hts⟩ := S
  have S : CallFix p m c _ _ s _ lw_all RX0 := ⟨hx, hb, hml, hown, hts⟩
  have hA : ∀ q, s.heap.size ≤ q → DA M s.heap.size q := fun q hq => Or.inr hq
  have hl : lv_has ls 7 [(0, .ref a), (1, .int (iI x_))] := hl
  have b0 := hI.c
  unfold kCnt at b0
  have h_x_ := R32.n h_x_
  refine lv_aload_n hx hb dX0_all_0 rfl (lv_at hl 0 rfl) ?_
  refine lv_iload_n hx hb dX0_all_1 rfl (lv_at hl 1 rfl) ?_
  refine x_calliF (x_runV (As := [.int (iI x_)]) (rest := []) S hH hK (fun _ _ hW => XN.warm hW hXN) XN_b hl.1 hR.o rfl (xm_X0_isText l G M σ x ω a x_ _ hR (r32 (by omega)) (by omega) (by omega)) (lw_V q1161 q1163 qs32 q105 q1164) kd_X0_isText rfl rfl dX0_all_2) hH hA (fun H locs hH => ?_)
  refine z_if_ne (tgt := 10) hx hb dX0_all_5 (by decide) (fun c_5 => ?_) (fun c_5 => ?_)
  · -- 5T
    refine lv_aload_n hx hb dX0_all_10 rfl (lv_at hl 0 rfl) ?_
    refine x_get hx hb hts in_X0 hown hK hH hR.o rfl 0 (by decide) q339 (fun _ h9 => h9) rfl (by decide) dX0_all_11 ?_
    refine x_getN hx hb hts in_X1 hown hK hH hR.b0 rfl 12 (by decide) hXN q186 (fun _ h9 => h9) rfl (by decide) dX0_all_14 ?_
    refine lv_iload_n hx hb dX0_all_17 rfl (lv_at hl 1 rfl) ?_
    obtain ⟨y_, ar, uy, ty_, gy_⟩ := hR.text (i := x_) (by omega) (by omega)
    obtain ⟨ar2, k_, F, fa0, far0, hk, hk12, hF⟩ := id ty_
    obtain rfl : ar2 = ar := by rw [fa0] at gy_; cases gy_; rfl
    refine x_aald hx hb hK hH 9 hR.b12 rfl (by omega) (by omega) (Nat.le_of_ble_eq_true rfl) (v := some y_) uy dX0_all_18 ?_
    refine lv_astore_n hx hb dX0_all_19 rfl hl (Nat.le_of_ble_eq_true rfl) (lv' := [(2, .ref y_), (0, .ref a), (1, .int (iI x_))]) rfl (fun ls hl => ?_)
    have L22 : ∀ (q : Nat) (kc : Int), (hg : isX (σ 2) x_) → (hc0 : 0 ≤ kc) → (hc1 : kc ≤ (k_ : Int)) → (hq : (k_ : Int) < (q : Int) + kc) → (he : anN (σ 2) x_ (σ 2 1754).toNat = 0 ∨ allF (σ 2) x_ = fiN (fun c => alN (σ 2) x_ c (σ 2 1754).toNat) (12 - kc).toNat kc.toNat) → ∀ (H : Heap) (locs : List Loc) (ls : Array Slot), XV G (DA M s.heap.size) M s.heap H locs → lv_has ls 7 [(0, .ref a), (1, .int (iI x_)), (2, .ref y_), (3, .int (iI kc))] → W p l e (rmD 210) s m ([.ref a, .int (iI x_)] : List Value).toArray below meth c H locs 0 0 (MQ below (xQi G (DA M s.heap.size) (fun z M' => z = (allF (σ 2) x_) ∧ M' = M)) ([.ref a, .int (iI x_)] : List Value).toArray s 0 0 (DA M s.heap.size)) (F0 m 22 ls []) := by
      intro q
      induction q with
      | zero => intro kc hg hc0 hc1 hq he; exfalso; omega
      | succ q ih_22 =>
        intro kc hg hc0 hc1 hq he H locs ls hH hl
        refine lv_iload_n hx hb dX0_all_22 rfl (lv_at hl 3 rfl) ?_
        refine lv_aload_n hx hb dX0_all_23 rfl (lv_at hl 2 rfl) ?_
        refine x_getN hx hb hts in_X22 hown hK hH fa0 rfl 0 (by decide) hXN q1149 (fun _ h9 => h9) rfl (by decide) dX0_all_24 ?_
        refine x_alen hx hb hK hH 11 far0 rfl (n := ((k_ : Nat) : Int)) rfl dX0_all_27 ?_
        refine n_icmp_ge (tgt := 142) hx hb (r32 (by omega)) (r32 (by omega)) dX0_all_28 (by decide) (fun c_28 => ?_) (fun c_28 => ?_)
        · -- 28T
          refine n_iconst hx hb dX0_all_142 ?_
          refine x_iret hx hb hr hlk hH dX0_all_143 ?_
          refine ⟨?_, rfl⟩
          show _ = allF _ _
          rcases he with z | z
          · unfold allF
            rw [if_pos hg, if_pos z]
          · by_cases y : anN (σ 2) x_ (σ 2 1754).toNat = 0
            · unfold allF
              rw [if_pos hg, if_pos y]
            · rw [z]
              refine (fiN_none _ _ (fun j j0 j1 => ?_)).symm
              rcases al_hd (κ := σ 2) (x := x_) (c := j) (fun u => by omega) (σ 2 1754).toNat with u | u
              · exact absurd u y
              · show alN _ _ _ _ ≠ 1
                omega
        · -- 28F
          obtain ⟨kq, hkq, hcq⟩ := hF kc.toNat (by omega)
          rw [Int.toNat_of_nonneg hc0] at hkq
          obtain ⟨so, te, fk0, hd5, -, -⟩ := id hcq
          have fk : M kq = some (oB 18 [.int (iI (hdN (tm (σ 2) x_) kc.toNat - 1)), va_rf so, va_rf te, .long (lI 0)]) := fk0
          have hd5 : 1 ≤ hdN (tm (σ 2) x_) kc.toNat ∧ hdN (tm (σ 2) x_) kc.toNat ≤ 5 := hd5
          have L57 : ∀ (q1 : Nat) (al_ : Int) (an_ : Int) (lk : Int), (hl0 : 0 ≤ lk) → (hl1 : lk ≤ σ 2 1754) → (hq1 : σ 2 1754 < (q1 : Int) + lk) → (ha01 : al_ = 0 ∨ al_ = 1) → (hn01 : an_ = 0 ∨ an_ = 1) → (ho1 : al_ = 1 → hdN (tm (σ 2) x_) kc.toNat = 4 ∧ alN (σ 2) x_ kc.toNat lk.toNat = 1 ∧ an_ = anN (σ 2) x_ lk.toNat) → (ho0 : al_ = 0 → (anN (σ 2) x_ (σ 2 1754).toNat = 0 ∨ alN (σ 2) x_ kc.toNat (σ 2 1754).toNat = 0)) → ∀ (H : Heap) (locs : List Loc) (ls : Array Slot), XV G (DA M s.heap.size) M s.heap H locs → lv_has ls 7 [(0, .ref a), (1, .int (iI x_)), (2, .ref y_), (3, .int (iI kc)), (4, .int (iI al_)), (5, .int (iI an_)), (6, .int (iI lk))] → W p l e (rmD 210) s m ([.ref a, .int (iI x_)] : List Value).toArray below meth c H locs 0 0 (MQ below (xQi G (DA M s.heap.size) (fun z M' => z = (allF (σ 2) x_) ∧ M' = M)) ([.ref a, .int (iI x_)] : List Value).toArray s 0 0 (DA M s.heap.size)) (F0 m 57 ls []) := by
            intro q1
            induction q1 with
            | zero => intro al_ an_ lk hl0 hl1 hq1 ha01 hn01 ho1 ho0; exfalso; omega
            | succ q1 ih_57 =>
              intro al_ an_ lk hl0 hl1 hq1 ha01 hn01 ho1 ho0 H locs ls hH hl
              have hol := oL_r (σ 2) x_ lk
              have hal := alN_e (κ := σ 2) (x := x_) (c := kc.toNat) hl0
              have han := anN_e (κ := σ 2) (x := x_) hl0
              have hho := ho_01 (l := tm (σ 2) x_) (a := loA (σ 2) lk) kc.toNat
              refine lv_iload hx hb dX0_all_57 (lv_at hl 6 rfl) ?_
              refine lv_aload_n hx hb dX0_all_59 rfl (lv_at hl 0 rfl) ?_
              refine x_get hx hb hts in_X0 hown hK hH hR.o rfl 0 (by decide) q339 (fun _ h9 => h9) rfl (by decide) dX0_all_60 ?_
              refine x_getN hx hb hts in_X1 hown hK hH hR.b0 rfl 3 (by decide) hXN q168 (fun _ h9 => h9) rfl (by decide) dX0_all_63 ?_
              refine n_icmp_ge (tgt := 124) hx hb (r32 (by omega)) (r32 (by omega)) dX0_all_66 (by decide) (fun c_66 => ?_) (fun c_66 => ?_)
              · -- 66T
                refine lv_iload hx hb dX0_all_124 (lv_at hl 4 rfl) ?_
                refine n_if_eq (tgt := 136) hx hb (r32 (by omega)) dX0_all_126 (by decide) (fun c_126 => ?_) (fun c_126 => ?_)
                · -- 126T
                  have hno : anN (σ 2) x_ (σ 2 1754).toNat = 0 ∨ ¬ alN (σ 2) x_ kc.toNat (σ 2 1754).toNat = 1 := by
                    rcases ha01 with z | z
                    · rcases ho0 z with y | y
                      · exact Or.inl y
                      · exact Or.inr (by omega)
                    · obtain ⟨o1, o2, o3⟩ := ho1 z
                      rw [show lk = σ 2 1754 by omega] at o2 o3
                      exact Or.inl (by omega)
                  refine n_iinc hx hb dX0_all_136 hl (k := 3) rfl (Nat.le_of_ble_eq_true rfl) (lv' := [(3, .int (iI (kc + 1))), (0, .ref a), (1, .int (iI x_)), (2, .ref y_), (4, .int (iI al_)), (5, .int (iI an_)), (6, .int (iI lk))]) rfl (fun ls hl => ?_)
                  refine lv_goto (tgt := 22) hx hb dX0_all_139 (by decide) ?_
                  have hl : lv_has ls 7 [(0, .ref a), (1, .int (iI x_)), (2, .ref y_), (3, .int (iI (kc + 1)))] := lv_sub hl [1, 2, 3, 0] rfl
                  refine ih_22 (kc + 1) ?_ ?_ ?_ ?_ ?_ _ _ _ hH hl
                  · exact hg
                  · omega
                  · omega
                  · omega
                  · rcases he with z | z
                    · exact Or.inl z
                    · rcases hno with y | y
                      · exact Or.inl y
                      · exact Or.inr (by rw [z, fiN_e hc0 (by omega), if_neg y])
                · -- 126F
                  refine lv_iload hx hb dX0_all_129 (lv_at hl 5 rfl) ?_
                  refine n_if_eq (tgt := 136) hx hb (r32 (by omega)) dX0_all_131 (by decide) (fun c_131 => ?_) (fun c_131 => ?_)
                  · -- 131T
                    have hno : anN (σ 2) x_ (σ 2 1754).toNat = 0 ∨ ¬ alN (σ 2) x_ kc.toNat (σ 2 1754).toNat = 1 := by
                      rcases ha01 with z | z
                      · rcases ho0 z with y | y
                        · exact Or.inl y
                        · exact Or.inr (by omega)
                      · obtain ⟨o1, o2, o3⟩ := ho1 z
                        rw [show lk = σ 2 1754 by omega] at o2 o3
                        exact Or.inl (by omega)
                    refine n_iinc hx hb dX0_all_136 hl (k := 3) rfl (Nat.le_of_ble_eq_true rfl) (lv' := [(3, .int (iI (kc + 1))), (0, .ref a), (1, .int (iI x_)), (2, .ref y_), (4, .int (iI al_)), (5, .int (iI an_)), (6, .int (iI lk))]) rfl (fun ls hl => ?_)
                    refine lv_goto (tgt := 22) hx hb dX0_all_139 (by decide) ?_
                    have hl : lv_has ls 7 [(0, .ref a), (1, .int (iI x_)), (2, .ref y_), (3, .int (iI (kc + 1)))] := lv_sub hl [1, 2, 3, 0] rfl
                    refine ih_22 (kc + 1) ?_ ?_ ?_ ?_ ?_ _ _ _ hH hl
                    · exact hg
                    · omega
                    · omega
                    · omega
                    · rcases he with z | z
                      · exact Or.inl z
                      · rcases hno with y | y
                        · exact Or.inl y
                        · exact Or.inr (by rw [z, fiN_e hc0 (by omega), if_neg y])
                  · -- 131F
                    refine lv_iload_n hx hb dX0_all_134 rfl (lv_at hl 3 rfl) ?_
                    refine x_iret hx hb hr hlk hH dX0_all_135 ?_
                    refine ⟨?_, rfl⟩
                    show _ = allF _ _
                    obtain ⟨o1, o2, o3⟩ := ho1 (by omega)
                    rw [show lk = σ 2 1754 by omega] at o2 o3
                    rcases he with z | z
                    · exact absurd (o3.trans z) (by omega)
                    · rw [z, fiN_e hc0 (by omega), if_pos o2]
              · -- 66F
                refine lv_iload hx hb dX0_all_69 (lv_at hl 4 rfl) ?_
                refine n_if_eq (tgt := 124) hx hb (r32 (by omega)) dX0_all_71 (by decide) (fun c_71 => ?_) (fun c_71 => ?_)
                · -- 71T
                  refine lv_iload hx hb dX0_all_124 (lv_at hl 4 rfl) ?_
                  refine n_if_eq (tgt := 136) hx hb (r32 (by omega)) dX0_all_126 (by decide) (fun c_126 => ?_) (fun c_126 => ?_)
                  · -- 126T
                    have hno : anN (σ 2) x_ (σ 2 1754).toNat = 0 ∨ ¬ alN (σ 2) x_ kc.toNat (σ 2 1754).toNat = 1 := by
                      rcases ha01 with z | z
                      · rcases ho0 z with y | y
                        · exact Or.inl y
                        · exact Or.inr (by omega)
                      · obtain ⟨o1, o2, o3⟩ := ho1 z
                        rw [show lk = σ 2 1754 by omega] at o2 o3
                        exact Or.inl (by omega)
                    refine n_iinc hx hb dX0_all_136 hl (k := 3) rfl (Nat.le_of_ble_eq_true rfl) (lv' := [(3, .int (iI (kc + 1))), (0, .ref a), (1, .int (iI x_)), (2, .ref y_), (4, .int (iI al_)), (5, .int (iI an_)), (6, .int (iI lk))]) rfl (fun ls hl => ?_)
                    refine lv_goto (tgt := 22) hx hb dX0_all_139 (by decide) ?_
                    have hl : lv_has ls 7 [(0, .ref a), (1, .int (iI x_)), (2, .ref y_), (3, .int (iI (kc + 1)))] := lv_sub hl [1, 2, 3, 0] rfl
                    refine ih_22 (kc + 1) ?_ ?_ ?_ ?_ ?_ _ _ _ hH hl
                    · exact hg
                    · omega
                    · omega
                    · omega
                    · rcases he with z | z
                      · exact Or.inl z
                      · rcases hno with y | y
                        · exact Or.inl y
                        · exact Or.inr (by rw [z, fiN_e hc0 (by omega), if_neg y])
                  · exact absurd c_71 c_126
                · -- 71F
                  refine lv_aload_n hx hb dX0_all_74 rfl (lv_at hl 2 rfl) ?_
                  refine lv_aload_n hx hb dX0_all_75 rfl (lv_at hl 0 rfl) ?_
                  refine x_get hx hb hts in_X0 hown hK hH hR.o rfl 0 (by decide) q339 (fun _ h9 => h9) rfl (by decide) dX0_all_76 ?_
                  refine x_getN hx hb hts in_X1 hown hK hH hR.b0 rfl 10 (by decide) hXN q182 (fun _ h9 => h9) rfl (by decide) dX0_all_79 ?_
                  refine lv_iload hx hb dX0_all_82 (lv_at hl 6 rfl) ?_
                  obtain ⟨y1, n1, w1, u1, g1, k1, e1⟩ := hR.look (i := lk) (by omega) (by omega)
                  have v1 := (hI.o lk (by omega) (by omega)).2
                  refine x_aald hx hb hK hH 7 hR.b10 rfl (by omega) (by omega) (Nat.le_of_ble_eq_true rfl) (v := some y1) u1 dX0_all_84 ?_
                  refine x_calliF (x_runV (As := [.ref y1]) (rest := []) S hH hK (fun _ _ hW => XN.warm hW hXN) XN_b hl.1 fa0 rfl (l_mustAnswer (x := x_) (k := lk) hI ⟨by omega, by omega⟩ g1 k1 e1 ty_) (lw_V q1260 q1261 q1262 q135 q1263) kd_X22_mustAnswer rfl rfl dX0_all_85) hH hA (fun H locs hH => ?_)
                  refine z_if_ne (tgt := 94) hx hb dX0_all_88 (by decide) (fun c_88 => ?_) (fun c_88 => ?_)
                  · -- 88T
                    refine n_iconst hx hb dX0_all_94 ?_
                    refine lv_istore hx hb dX0_all_95 hl (Nat.le_of_ble_eq_true rfl) (lv' := [(5, .int (iI 1)), (0, .ref a), (1, .int (iI x_)), (2, .ref y_), (3, .int (iI kc)), (4, .int (iI al_)), (6, .int (iI lk))]) rfl (fun ls hl => ?_)
                    refine lv_aload_n hx hb dX0_all_97 rfl (lv_at hl 3 rfl) ?_
                    refine x_getN hx hb hts in_X22 hown hK hH fa0 rfl 0 (by decide) hXN q1149 (fun _ h9 => h9) rfl (by decide) dX0_all_98 ?_
                    refine lv_iload_n hx hb dX0_all_101 rfl (lv_at hl 4 rfl) ?_
                    refine x_aald hx hb hK hH 11 far0 rfl (by omega) (by omega) (by omega) (v := some kq) hkq dX0_all_102 ?_
                    refine lv_aload_n hx hb dX0_all_103 rfl (lv_at hl 1 rfl) ?_
                    refine x_get hx hb hts in_X0 hown hK hH hR.o rfl 0 (by decide) q339 (fun _ h9 => h9) rfl (by decide) dX0_all_104 ?_
                    refine x_getN hx hb hts in_X1 hown hK hH hR.b0 rfl 10 (by decide) hXN q182 (fun _ h9 => h9) rfl (by decide) dX0_all_107 ?_
                    refine lv_iload hx hb dX0_all_110 (lv_at hl 6 rfl) ?_
                    obtain ⟨y2, n2, w2, u2, g2, k2, e2⟩ := hR.look (i := lk) (by omega) (by omega)
                    have v2 := (hI.o lk (by omega) (by omega)).2
                    refine x_aald hx hb hK hH 7 hR.b10 rfl (by omega) (by omega) (Nat.le_of_ble_eq_true rfl) (v := some y2) u2 dX0_all_112 ?_
                    refine x_calliF (x_runV (As := [.ref y2]) (rest := []) S hH hK (fun _ _ hW => XN.warm hW hXN) XN_b hl.1 fk rfl (lk_holds (i := kc.toNat) hI ⟨by omega, by omega⟩ g2 k2 e2 hcq) (lw_V q1280 q1174 q1175 q134 q1176) kd_X21_holds rfl rfl dX0_all_113) hH hA (fun H locs hH => ?_)
                    refine lv_istore hx hb dX0_all_116 hl (Nat.le_of_ble_eq_true rfl) (lv' := [(4, .int (iI (hoN (tm (σ 2) x_) (loA (σ 2) lk) kc.toNat))), (5, .int (iI 1)), (0, .ref a), (1, .int (iI x_)), (2, .ref y_), (3, .int (iI kc)), (6, .int (iI lk))]) rfl (fun ls hl => ?_)
                    refine n_iinc hx hb dX0_all_118 hl (k := 6) rfl (Nat.le_of_ble_eq_true rfl) (lv' := [(6, .int (iI (lk + 1))), (4, .int (iI (hoN (tm (σ 2) x_) (loA (σ 2) lk) kc.toNat))), (5, .int (iI 1)), (0, .ref a), (1, .int (iI x_)), (2, .ref y_), (3, .int (iI kc))]) rfl (fun ls hl => ?_)
                    refine lv_goto (tgt := 57) hx hb dX0_all_121 (by decide) ?_
                    have hl : lv_has ls 7 [(0, .ref a), (1, .int (iI x_)), (2, .ref y_), (3, .int (iI kc)), (4, .int (iI (hoN (tm (σ 2) x_) (loA (σ 2) lk) kc.toNat))), (5, .int (iI 1)), (6, .int (iI (lk + 1)))] := lv_sub hl [3, 4, 5, 6, 1, 2, 0] rfl
                    refine ih_57 (hoN (tm (σ 2) x_) (loA (σ 2) lk) kc.toNat) 1 (lk + 1) ?_ ?_ ?_ ?_ ?_ ?_ ?_ _ _ _ hH hl
                    · omega
                    · omega
                    · omega
                    · exact hho
                    · exact Or.inr rfl
                    · intro z
                      obtain ⟨o1, o2, o3⟩ := ho1 (by omega)
                      exact ⟨o1, by rw [hal, if_neg (fun y => y.2 ⟨⟨by omega, o1⟩, z⟩)]; exact o2, by rw [han, if_pos (by omega)]⟩
                    · intro z
                      have a0 : alN (σ 2) x_ kc.toNat (lk + 1).toNat = 0 := by rw [hal, if_pos ⟨by omega, fun y => by have y2 : hoN (tm (σ 2) x_) (loA (σ 2) lk) kc.toNat = 1 := y.2; omega⟩]
                      have a1 := al_mono a0 ((σ 2 1754).toNat - (lk + 1).toNat)
                      rw [show (lk + 1).toNat + ((σ 2 1754).toNat - (lk + 1).toNat) = (σ 2 1754).toNat by omega] at a1
                      exact Or.inr a1
                  · -- 88F
                    refine lv_goto (tgt := 118) hx hb dX0_all_91 (by decide) ?_
                    refine n_iinc hx hb dX0_all_118 hl (k := 6) rfl (Nat.le_of_ble_eq_true rfl) (lv' := [(6, .int (iI (lk + 1))), (0, .ref a), (1, .int (iI x_)), (2, .ref y_), (3, .int (iI kc)), (4, .int (iI al_)), (5, .int (iI an_))]) rfl (fun ls hl => ?_)
                    refine lv_goto (tgt := 57) hx hb dX0_all_121 (by decide) ?_
                    have hl : lv_has ls 7 [(0, .ref a), (1, .int (iI x_)), (2, .ref y_), (3, .int (iI kc)), (4, .int (iI al_)), (5, .int (iI an_)), (6, .int (iI (lk + 1)))] := lv_sub hl [1, 2, 3, 4, 5, 6, 0] rfl
                    refine ih_57 al_ an_ (lk + 1) ?_ ?_ ?_ ?_ ?_ ?_ ?_ _ _ _ hH hl
                    · omega
                    · omega
                    · omega
                    · omega
                    · omega
                    · intro z
                      obtain ⟨o1, o2, o3⟩ := ho1 z
                      exact ⟨o1, by rw [hal, if_neg (fun y => by omega)]; exact o2, by rw [han, if_neg (by omega)]; exact o3⟩
                    · exact ho0
          refine lv_aload_n hx hb dX0_all_31 rfl (lv_at hl 2 rfl) ?_
          refine x_getN hx hb hts in_X22 hown hK hH fa0 rfl 0 (by decide) hXN q1149 (fun _ h9 => h9) rfl (by decide) dX0_all_32 ?_
          refine lv_iload_n hx hb dX0_all_35 rfl (lv_at hl 3 rfl) ?_
          refine x_aald hx hb hK hH 11 far0 rfl (by omega) (by omega) (by omega) (v := some kq) hkq dX0_all_36 ?_
          refine x_getN hx hb hts in_X21 hown hK hH fk rfl 0 (by decide) hXN q1127 (fun _ h9 => h9) rfl (by decide) dX0_all_37 ?_
          refine n_iconst hx hb dX0_all_40 ?_
          refine n_icmp_ne (tgt := 48) hx hb (r32 (by omega)) (r32 (by omega)) dX0_all_41 (by decide) (fun c_41 => ?_) (fun c_41 => ?_)
          · -- 41T
            refine n_iconst hx hb dX0_all_48 ?_
            refine lv_istore hx hb dX0_all_49 hl (Nat.le_of_ble_eq_true rfl) (lv' := [(4, .int (iI 0)), (0, .ref a), (1, .int (iI x_)), (2, .ref y_), (3, .int (iI kc))]) rfl (fun ls hl => ?_)
            refine n_iconst hx hb dX0_all_51 ?_
            refine lv_istore hx hb dX0_all_52 hl (Nat.le_of_ble_eq_true rfl) (lv' := [(5, .int (iI 0)), (4, .int (iI 0)), (0, .ref a), (1, .int (iI x_)), (2, .ref y_), (3, .int (iI kc))]) rfl (fun ls hl => ?_)
            refine n_iconst hx hb dX0_all_54 ?_
            refine lv_istore hx hb dX0_all_55 hl (Nat.le_of_ble_eq_true rfl) (lv' := [(6, .int (iI 0)), (5, .int (iI 0)), (4, .int (iI 0)), (0, .ref a), (1, .int (iI x_)), (2, .ref y_), (3, .int (iI kc))]) rfl (fun ls hl => ?_)
            have hl : lv_has ls 7 [(0, .ref a), (1, .int (iI x_)), (2, .ref y_), (3, .int (iI kc)), (4, .int (iI 0)), (5, .int (iI 0)), (6, .int (iI 0))] := lv_sub hl [3, 4, 5, 6, 2, 1, 0] rfl
            refine L57 50 0 0 0 ?_ ?_ ?_ ?_ ?_ ?_ ?_ _ _ _ hH hl
            · omega
            · omega
            · omega
            · omega
            · omega
            · intro z; omega
            · intro _
              exact al_hd (fun z => by omega) _
          · -- 41F
            refine n_iconst hx hb dX0_all_44 ?_
            refine lv_goto (tgt := 49) hx hb dX0_all_45 (by decide) ?_
            refine lv_istore hx hb dX0_all_49 hl (Nat.le_of_ble_eq_true rfl) (lv' := [(4, .int (iI 1)), (0, .ref a), (1, .int (iI x_)), (2, .ref y_), (3, .int (iI kc))]) rfl (fun ls hl => ?_)
            refine n_iconst hx hb dX0_all_51 ?_
            refine lv_istore hx hb dX0_all_52 hl (Nat.le_of_ble_eq_true rfl) (lv' := [(5, .int (iI 0)), (4, .int (iI 1)), (0, .ref a), (1, .int (iI x_)), (2, .ref y_), (3, .int (iI kc))]) rfl (fun ls hl => ?_)
            refine n_iconst hx hb dX0_all_54 ?_
            refine lv_istore hx hb dX0_all_55 hl (Nat.le_of_ble_eq_true rfl) (lv' := [(6, .int (iI 0)), (5, .int (iI 0)), (4, .int (iI 1)), (0, .ref a), (1, .int (iI x_)), (2, .ref y_), (3, .int (iI kc))]) rfl (fun ls hl => ?_)
            have hl : lv_has ls 7 [(0, .ref a), (1, .int (iI x_)), (2, .ref y_), (3, .int (iI kc)), (4, .int (iI 1)), (5, .int (iI 0)), (6, .int (iI 0))] := lv_sub hl [3, 4, 5, 6, 2, 1, 0] rfl
            refine L57 50 1 0 0 ?_ ?_ ?_ ?_ ?_ ?_ ?_ _ _ _ hH hl
            · omega
            · omega
            · omega
            · omega
            · omega
            · intro _
              exact ⟨by omega, rfl, rfl⟩
            · intro z; omega
    refine n_iconst hx hb dX0_all_20 ?_
    refine lv_istore_n hx hb dX0_all_21 rfl hl (Nat.le_of_ble_eq_true rfl) (lv' := [(3, .int (iI 0)), (2, .ref y_), (0, .ref a), (1, .int (iI x_))]) rfl (fun ls hl => ?_)
    have hl : lv_has ls 7 [(0, .ref a), (1, .int (iI x_)), (2, .ref y_), (3, .int (iI 0))] := lv_sub hl [2, 3, 1, 0] rfl
    refine L22 20 0 ?_ ?_ ?_ ?_ ?_ _ _ _ hH hl
    · exact c_5
    · omega
    · omega
    · omega
    · by_cases z : anN (σ 2) x_ (σ 2 1754).toNat = 0
      · exact Or.inl z
      · exact Or.inr (by unfold allF; rw [if_pos c_5, if_neg z]; rfl)
  · -- 5F
    refine n_iconst hx hb dX0_all_8 ?_
    refine x_iret hx hb hr hlk hH dX0_all_9 ?_
    refine ⟨?_, rfl⟩
    show _ = allF _ _
    unfold allF
    rw [if_neg c_5]
