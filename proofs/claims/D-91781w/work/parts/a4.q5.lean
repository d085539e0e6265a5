theorem bOr_0 {a : Int} (h : R32 a) : bOr a 0 = a := by
  unfold bOr
  rw [show iI 0 = 0 from rfl, Int32.or_zero]
  exact iI_ti h
theorem riN_R {κ : Int → Int} {a b : Int} : ∀ n : Nat, R32 (riN κ a b n)
  | 0 => by rw [riN]; unfold R32; omega
  | n + 1 => by
    rw [riN]
    split
    · exact riN_R n
    · exact bOr_r
theorem sh_r {a b w : Int} (h0 : 0 ≤ a) (h1 : a ≤ 100000) (h2 : 0 < b) (h3 : b ≤ 100000) : 0 ≤ shareF a b w ∧ shareF a b w ≤ 100000 := by
  have hg := gcd_p (a := a) h2
  unfold shareF
  split
  · rw [Int.tdiv_eq_ediv_of_nonneg h0]
    exact ⟨Int.ediv_nonneg h0 (by omega), Int.le_trans (Int.ediv_le_self _ h0) h1⟩
  · rw [Int.tdiv_eq_ediv_of_nonneg (by omega)]
    exact ⟨Int.ediv_nonneg (by omega) (by omega), Int.le_trans (Int.ediv_le_self _ (by omega)) h3⟩
theorem kd_X0_right : yX0_right.cls = RX0 ∧ yX0_right.cls ≠ "java/lang/invoke/MethodHandle" ∧ yX0_right.cls ≠ "java/lang/invoke/VarHandle" ∧ (parseMethodDescriptor yX0_right.desc).map (fun d => d.parameters.length) = some 2 := by decide +kernel
theorem xm_X0_right (l : Launch) (G : MG) (M : Hp) (σ : St) (x : XGh) (ω : XCt) (a : Nat) (a_ : Int) (b_ : Int) (sz : Nat) (hR : RX G M a σ x ω) (h_a_ : R32 a_) (h_b_ : R32 b_) (hI : KI (σ 2)) (hT : TT (σ 2)) : Met l yX0_right (ws_ yX0_right cX0_right 8 (some .int)) (rmD 208) (xP G XN [.ref a, .int (iI a_), .int (iI b_)] M sz) (xQi G (DA M sz) (fun z M' => z = (rightF (σ 2) a_ b_) ∧ M' = M)) 0 0 (DA M sz) := by
  refine x_start (by decide) (Nat.le_of_ble_eq_true rfl) ?_
  intro p e s m below meth c ⟨S, hr, hlk, hH, hK, hXN, hsz, hnm⟩ ls hl
  subst hsz
  obtain ⟨hx, hb, hml, hown, hts⟩ := S
  have S : CallFix p m c _ _ s _ lw_all RX0 := ⟨hx, hb, hml, hown, hts⟩
  have hA : ∀ q, s.heap.size ≤ q → DA M s.heap.size q := fun q hq => Or.inr hq
  have hl : lv_has ls 8 [(0, .ref a), (1, .int (iI a_)), (2, .int (iI b_))] := hl
  have b0 := hI.c
  unfold kCnt at b0
  have h_a_ := R32.n h_a_
  have h_b_ := R32.n h_b_
  have L21 : ∀ (q : Nat) (t : Int), (hg : (0 ≤ a_ ∧ a_ ≤ 3) ∧ (0 ≤ b_ ∧ b_ ≤ 3)) → (ht0 : 0 ≤ t) → (ht1 : t ≤ σ 2 1756) → (hq : σ 2 1756 < (q : Int) + t) → ∀ (H : Heap) (locs : List Loc) (ls : Array Slot), XV G (DA M s.heap.size) M s.heap H locs → lv_has ls 8 [(0, .ref a), (1, .int (iI a_)), (2, .int (iI b_)), (3, .int (iI (riN (σ 2) a_ b_ t.toNat))), (4, .int (iI t))] → W p l e (rmD 208) s m ([.ref a, .int (iI a_), .int (iI b_)] : List Value).toArray below meth c H locs 0 0 (MQ below (xQi G (DA M s.heap.size) (fun z M' => z = (rightF (σ 2) a_ b_) ∧ M' = M)) ([.ref a, .int (iI a_), .int (iI b_)] : List Value).toArray s 0 0 (DA M s.heap.size)) (F0 m 21 ls []) := by
    intro q
    induction q with
    | zero => intro t hg ht0 ht1 hq; exfalso; omega
    | succ q ih_21 =>
      intro t hg ht0 ht1 hq H locs ls hH hl
      have L39 : ∀ (q1 : Nat) (k : Int), (ht2 : t < σ 2 1756) → (hk0 : 0 ≤ k) → (hk1 : k ≤ σ 2 1754) → (hq1 : σ 2 1754 < (q1 : Int) + k) → ∀ (H : Heap) (locs : List Loc) (ls : Array Slot), XV G (DA M s.heap.size) M s.heap H locs → lv_has ls 8 [(0, .ref a), (1, .int (iI a_)), (2, .int (iI b_)), (3, .int (iI (riN (σ 2) a_ b_ t.toNat))), (4, .int (iI t)), (5, .int (iI (riL (σ 2) a_ b_ t k.toNat))), (6, .int (iI k))] → W p l e (rmD 208) s m ([.ref a, .int (iI a_), .int (iI b_)] : List Value).toArray below meth c H locs 0 0 (MQ below (xQi G (DA M s.heap.size) (fun z M' => z = (rightF (σ 2) a_ b_) ∧ M' = M)) ([.ref a, .int (iI a_), .int (iI b_)] : List Value).toArray s 0 0 (DA M s.heap.size)) (F0 m 39 ls []) := by
        intro q1
        induction q1 with
        | zero => intro k ht2 hk0 hk1 hq1; exfalso; omega
        | succ q1 ih_39 =>
          intro k ht2 hk0 hk1 hq1 H locs ls hH hl
          have ho := oL_r (σ 2) t k
          have hri := riL_01 (κ := σ 2) (a := a_) (b := b_) (t := t) k.toNat
          have hre := riL_e (κ := σ 2) (a := a_) (b := b_) (t := t) hk0
          refine lv_iload hx hb dX0_right_39 (lv_at hl 6 rfl) ?_
          refine lv_aload_n hx hb dX0_right_41 rfl (lv_at hl 0 rfl) ?_
          refine x_get hx hb hts in_X0 hown hK hH hR.o rfl 0 (by decide) q339 (fun _ h9 => h9) rfl (by decide) dX0_right_42 ?_
          refine x_getN hx hb hts in_X1 hown hK hH hR.b0 rfl 3 (by decide) hXN q168 (fun _ h9 => h9) rfl (by decide) dX0_right_45 ?_
          refine n_icmp_ge (tgt := 125) hx hb (r32 (by omega)) (r32 (by omega)) dX0_right_48 (by decide) (fun c_48 => ?_) (fun c_48 => ?_)
          · -- 48T
            refine lv_iload_n hx hb dX0_right_125 rfl (lv_at hl 3 rfl) ?_
            refine lv_iload hx hb dX0_right_126 (lv_at hl 5 rfl) ?_
            refine n_if_eq (tgt := 138) hx hb (r32 (by omega)) dX0_right_128 (by decide) (fun c_128 => ?_) (fun c_128 => ?_)
            · -- 128T
              refine n_iconst hx hb dX0_right_138 ?_
              refine n_ior hx hb dX0_right_139 ?_
              refine lv_istore_n hx hb dX0_right_140 rfl hl (Nat.le_of_ble_eq_true rfl) (lv' := [(3, .int (iI (bOr (riN (σ 2) a_ b_ t.toNat) 0))), (0, .ref a), (1, .int (iI a_)), (2, .int (iI b_)), (4, .int (iI t)), (5, .int (iI (riL (σ 2) a_ b_ t k.toNat))), (6, .int (iI k))]) rfl (fun ls hl => ?_)
              refine n_iinc hx hb dX0_right_141 hl (k := 4) rfl (Nat.le_of_ble_eq_true rfl) (lv' := [(4, .int (iI (t + 1))), (3, .int (iI (bOr (riN (σ 2) a_ b_ t.toNat) 0))), (0, .ref a), (1, .int (iI a_)), (2, .int (iI b_)), (5, .int (iI (riL (σ 2) a_ b_ t k.toNat))), (6, .int (iI k))]) rfl (fun ls hl => ?_)
              refine lv_goto (tgt := 21) hx hb dX0_right_144 (by decide) ?_
              have hl : lv_has ls 8 [(0, .ref a), (1, .int (iI a_)), (2, .int (iI b_)), (3, .int (iI (bOr (riN (σ 2) a_ b_ t.toNat) 0))), (4, .int (iI (t + 1)))] := lv_sub hl [2, 3, 4, 1, 0] rfl
              have hl : lv_has ls 8 [(0, .ref a), (1, .int (iI a_)), (2, .int (iI b_)), (3, .int (iI (riN (σ 2) a_ b_ (t + 1).toNat))), (4, .int (iI (t + 1)))] := by rw [riN_e ht0, if_pos (by rw [show (σ 2 1754).toNat = k.toNat by omega]; omega), ← bOr_0 (riN_R _)]; exact hl
              refine ih_21 (t + 1) ?_ ?_ ?_ ?_ _ _ _ hH hl
              · exact hg
              · omega
              · omega
              · omega
            · -- 128F
              refine n_iconst hx hb dX0_right_131 ?_
              refine lv_iload hx hb dX0_right_132 (lv_at hl 4 rfl) ?_
              refine n_ishl hx hb (by omega) (by omega) dX0_right_134 ?_
              refine lv_goto (tgt := 139) hx hb dX0_right_135 (by decide) ?_
              refine n_ior hx hb dX0_right_139 ?_
              refine lv_istore_n hx hb dX0_right_140 rfl hl (Nat.le_of_ble_eq_true rfl) (lv' := [(3, .int (iI (bOr (riN (σ 2) a_ b_ t.toNat) (1 * 2 ^ t.toNat)))), (0, .ref a), (1, .int (iI a_)), (2, .int (iI b_)), (4, .int (iI t)), (5, .int (iI (riL (σ 2) a_ b_ t k.toNat))), (6, .int (iI k))]) rfl (fun ls hl => ?_)
              refine n_iinc hx hb dX0_right_141 hl (k := 4) rfl (Nat.le_of_ble_eq_true rfl) (lv' := [(4, .int (iI (t + 1))), (3, .int (iI (bOr (riN (σ 2) a_ b_ t.toNat) (1 * 2 ^ t.toNat)))), (0, .ref a), (1, .int (iI a_)), (2, .int (iI b_)), (5, .int (iI (riL (σ 2) a_ b_ t k.toNat))), (6, .int (iI k))]) rfl (fun ls hl => ?_)
              refine lv_goto (tgt := 21) hx hb dX0_right_144 (by decide) ?_
              have hl : lv_has ls 8 [(0, .ref a), (1, .int (iI a_)), (2, .int (iI b_)), (3, .int (iI (bOr (riN (σ 2) a_ b_ t.toNat) (1 * 2 ^ t.toNat)))), (4, .int (iI (t + 1)))] := lv_sub hl [2, 3, 4, 1, 0] rfl
              have hl : lv_has ls 8 [(0, .ref a), (1, .int (iI a_)), (2, .int (iI b_)), (3, .int (iI (riN (σ 2) a_ b_ (t + 1).toNat))), (4, .int (iI (t + 1)))] := by rw [riN_e ht0, if_neg (by rw [show (σ 2 1754).toNat = k.toNat by omega]; omega)]; exact hl
              refine ih_21 (t + 1) ?_ ?_ ?_ ?_ _ _ _ hH hl
              · exact hg
              · omega
              · omega
              · omega
          · -- 48F
            have hcl := (hI.o k (by omega) (by omega)).1
            unfold caseOK at hcl
            have hcl : (0 ≤ loA (σ 2) k 0 ∧ loA (σ 2) k 0 ≤ 5) ∧ (0 ≤ loA (σ 2) k 1 ∧ loA (σ 2) k 1 ≤ 5) ∧ (0 ≤ loA (σ 2) k 2 ∧ loA (σ 2) k 2 ≤ 7) ∧ (0 ≤ loA (σ 2) k 3 ∧ loA (σ 2) k 3 ≤ 255) ∧ (0 ≤ loA (σ 2) k 4 ∧ loA (σ 2) k 4 ≤ 255) ∧ (0 ≤ loA (σ 2) k 5 ∧ loA (σ 2) k 5 ≤ 11) ∧ (0 ≤ loA (σ 2) k 6 ∧ loA (σ 2) k 6 ≤ 255) ∧ (0 ≤ loA (σ 2) k 7 ∧ loA (σ 2) k 7 ≤ 1) ∧ (0 ≤ loA (σ 2) k 8 ∧ loA (σ 2) k 8 ≤ 3) := hcl
            refine lv_aload_n hx hb dX0_right_51 rfl (lv_at hl 0 rfl) ?_
            refine x_get hx hb hts in_X0 hown hK hH hR.o rfl 0 (by decide) q339 (fun _ h9 => h9) rfl (by decide) dX0_right_52 ?_
            refine x_getN hx hb hts in_X1 hown hK hH hR.b0 rfl 10 (by decide) hXN q182 (fun _ h9 => h9) rfl (by decide) dX0_right_55 ?_
            refine lv_iload hx hb dX0_right_58 (lv_at hl 6 rfl) ?_
            obtain ⟨y1, n1, w1, u1, g1, k1, e1⟩ := hR.look (i := k) (by omega) (by omega)
            have v1 := (hI.o k (by omega) (by omega)).2
            refine x_aald hx hb hK hH 7 hR.b10 rfl (by omega) (by omega) (Nat.le_of_ble_eq_true rfl) (v := some y1) u1 dX0_right_60 ?_
            refine x_get hx hb hts in_X10 hown hK hH g1 rfl 0 (by decide) q263 (u_same (hts _ q264)) rfl (by decide) dX0_right_61 ?_
            refine n_bipush (z := 8) hx hb dX0_right_64 (by decide) ?_
            refine x_iald hx hb hK hH k1 (by omega) (by omega) (Nat.le_of_ble_eq_true rfl) dX0_right_66 ?_
            refine W.eq (g2 := F0 m 67 ls (.int (iI (loA (σ 2) k 8)) :: [])) (by first | (rw [e1 _ (by omega) (by omega)]; done) | (rw [e1 _ (by omega) (by omega)]; rfl)) ?_
            refine lv_istore hx hb dX0_right_67 hl (Nat.le_of_ble_eq_true rfl) (lv' := [(7, .int (iI (loA (σ 2) k 8))), (0, .ref a), (1, .int (iI a_)), (2, .int (iI b_)), (3, .int (iI (riN (σ 2) a_ b_ t.toNat))), (4, .int (iI t)), (5, .int (iI (riL (σ 2) a_ b_ t k.toNat))), (6, .int (iI k))]) rfl (fun ls hl => ?_)
            refine lv_iload hx hb dX0_right_69 (lv_at hl 6 rfl) ?_
            refine n_if_eq (tgt := 116) hx hb (r32 (by omega)) dX0_right_71 (by decide) (fun c_71 => ?_) (fun c_71 => ?_)
            · -- 71T
              refine n_iconst hx hb dX0_right_116 ?_
              refine lv_istore hx hb dX0_right_117 hl (Nat.le_of_ble_eq_true rfl) (lv' := [(5, .int (iI 0)), (7, .int (iI (loA (σ 2) k 8))), (0, .ref a), (1, .int (iI a_)), (2, .int (iI b_)), (3, .int (iI (riN (σ 2) a_ b_ t.toNat))), (4, .int (iI t)), (6, .int (iI k))]) rfl (fun ls hl => ?_)
              refine n_iinc hx hb dX0_right_119 hl (k := 7) rfl (Nat.le_of_ble_eq_true rfl) (lv' := [(6, .int (iI (k + 1))), (5, .int (iI 0)), (7, .int (iI (loA (σ 2) k 8))), (0, .ref a), (1, .int (iI a_)), (2, .int (iI b_)), (3, .int (iI (riN (σ 2) a_ b_ t.toNat))), (4, .int (iI t))]) rfl (fun ls hl => ?_)
              refine lv_goto (tgt := 39) hx hb dX0_right_122 (by decide) ?_
              have hl : lv_has ls 8 [(0, .ref a), (1, .int (iI a_)), (2, .int (iI b_)), (3, .int (iI (riN (σ 2) a_ b_ t.toNat))), (4, .int (iI t)), (5, .int (iI 0)), (6, .int (iI (k + 1)))] := lv_sub hl [3, 4, 5, 6, 7, 1, 0] rfl
              have hl : lv_has ls 8 [(0, .ref a), (1, .int (iI a_)), (2, .int (iI b_)), (3, .int (iI (riN (σ 2) a_ b_ t.toNat))), (4, .int (iI t)), (5, .int (iI (riL (σ 2) a_ b_ t (k + 1).toNat))), (6, .int (iI (k + 1)))] := by rw [show riL (σ 2) a_ b_ t (k + 1).toNat = 0 from (by rw [hre]; split <;> omega)]; exact hl
              refine ih_39 (k + 1) ?_ ?_ ?_ ?_ _ _ _ hH hl
              · omega
              · omega
              · omega
              · omega
            · -- 71F
              refine lv_iload hx hb dX0_right_74 (lv_at hl 0 rfl) ?_
              refine lv_iload_n hx hb dX0_right_76 rfl (lv_at hl 2 rfl) ?_
              refine n_icmp_eq (tgt := 86) hx hb (r32 (by omega)) (r32 (by omega)) dX0_right_77 (by decide) (fun c_77 => ?_) (fun c_77 => ?_)
              · -- 77T
                refine lv_aload_n hx hb dX0_right_86 rfl (lv_at hl 1 rfl) ?_
                refine x_get hx hb hts in_X0 hown hK hH hR.o rfl 0 (by decide) q339 (fun _ h9 => h9) rfl (by decide) dX0_right_87 ?_
                refine x_getN hx hb hts in_X1 hown hK hH hR.b0 rfl 12 (by decide) hXN q186 (fun _ h9 => h9) rfl (by decide) dX0_right_90 ?_
                refine lv_iload hx hb dX0_right_93 (lv_at hl 5 rfl) ?_
                obtain ⟨y2, r2, u2, t2, g2⟩ := hR.text (i := t) (by omega) (by omega)
                refine x_aald hx hb hK hH 9 hR.b12 rfl (by omega) (by omega) (Nat.le_of_ble_eq_true rfl) (v := some y2) u2 dX0_right_95 ?_
                refine lv_aload_n hx hb dX0_right_96 rfl (lv_at hl 1 rfl) ?_
                refine x_get hx hb hts in_X0 hown hK hH hR.o rfl 0 (by decide) q339 (fun _ h9 => h9) rfl (by decide) dX0_right_97 ?_
                refine x_getN hx hb hts in_X1 hown hK hH hR.b0 rfl 10 (by decide) hXN q182 (fun _ h9 => h9) rfl (by decide) dX0_right_100 ?_
                refine lv_iload hx hb dX0_right_103 (lv_at hl 7 rfl) ?_
                obtain ⟨y3, n3, w3, u3, g3, k3, e3⟩ := hR.look (i := k) (by omega) (by omega)
                have v3 := (hI.o k (by omega) (by omega)).2
                refine x_aald hx hb hK hH 7 hR.b10 rfl (by omega) (by omega) (Nat.le_of_ble_eq_true rfl) (v := some y3) u3 dX0_right_105 ?_
                refine x_calliF (x_runV (As := [.ref y3]) (rest := []) S hH hK (fun _ _ hW => XN.warm hW hXN) XN_b hl.1 g2 rfl (l_oddsOf (x := t) (k := k) hI ⟨by omega, by omega⟩ g3 k3 e3 t2) (lw_V q1165 q1166 q1167 q135 q1168) kd_X22_oddsOf rfl rfl dX0_right_106) hH hA (fun H locs hH => ?_)
                refine n_if_le (tgt := 116) hx hb (r32 (by omega)) dX0_right_109 (by decide) (fun c_109 => ?_) (fun c_109 => ?_)
                · -- 109T
                  refine n_iconst hx hb dX0_right_116 ?_
                  refine lv_istore hx hb dX0_right_117 hl (Nat.le_of_ble_eq_true rfl) (lv' := [(5, .int (iI 0)), (7, .int (iI (loA (σ 2) k 8))), (0, .ref a), (1, .int (iI a_)), (2, .int (iI b_)), (3, .int (iI (riN (σ 2) a_ b_ t.toNat))), (4, .int (iI t)), (6, .int (iI k))]) rfl (fun ls hl => ?_)
                  refine n_iinc hx hb dX0_right_119 hl (k := 7) rfl (Nat.le_of_ble_eq_true rfl) (lv' := [(6, .int (iI (k + 1))), (5, .int (iI 0)), (7, .int (iI (loA (σ 2) k 8))), (0, .ref a), (1, .int (iI a_)), (2, .int (iI b_)), (3, .int (iI (riN (σ 2) a_ b_ t.toNat))), (4, .int (iI t))]) rfl (fun ls hl => ?_)
                  refine lv_goto (tgt := 39) hx hb dX0_right_122 (by decide) ?_
                  have hl : lv_has ls 8 [(0, .ref a), (1, .int (iI a_)), (2, .int (iI b_)), (3, .int (iI (riN (σ 2) a_ b_ t.toNat))), (4, .int (iI t)), (5, .int (iI 0)), (6, .int (iI (k + 1)))] := lv_sub hl [3, 4, 5, 6, 7, 1, 0] rfl
                  have hl : lv_has ls 8 [(0, .ref a), (1, .int (iI a_)), (2, .int (iI b_)), (3, .int (iI (riN (σ 2) a_ b_ t.toNat))), (4, .int (iI t)), (5, .int (iI (riL (σ 2) a_ b_ t (k + 1).toNat))), (6, .int (iI (k + 1)))] := by rw [show riL (σ 2) a_ b_ t (k + 1).toNat = 0 from (by rw [hre, if_pos (by omega)])]; exact hl
                  refine ih_39 (k + 1) ?_ ?_ ?_ ?_ _ _ _ hH hl
                  · omega
                  · omega
                  · omega
                  · omega
                · -- 109F
                  refine n_iconst hx hb dX0_right_112 ?_
                  refine lv_goto (tgt := 117) hx hb dX0_right_113 (by decide) ?_
                  refine lv_istore hx hb dX0_right_117 hl (Nat.le_of_ble_eq_true rfl) (lv' := [(5, .int (iI 1)), (7, .int (iI (loA (σ 2) k 8))), (0, .ref a), (1, .int (iI a_)), (2, .int (iI b_)), (3, .int (iI (riN (σ 2) a_ b_ t.toNat))), (4, .int (iI t)), (6, .int (iI k))]) rfl (fun ls hl => ?_)
                  refine n_iinc hx hb dX0_right_119 hl (k := 7) rfl (Nat.le_of_ble_eq_true rfl) (lv' := [(6, .int (iI (k + 1))), (5, .int (iI 1)), (7, .int (iI (loA (σ 2) k 8))), (0, .ref a), (1, .int (iI a_)), (2, .int (iI b_)), (3, .int (iI (riN (σ 2) a_ b_ t.toNat))), (4, .int (iI t))]) rfl (fun ls hl => ?_)
                  refine lv_goto (tgt := 39) hx hb dX0_right_122 (by decide) ?_
                  have hl : lv_has ls 8 [(0, .ref a), (1, .int (iI a_)), (2, .int (iI b_)), (3, .int (iI (riN (σ 2) a_ b_ t.toNat))), (4, .int (iI t)), (5, .int (iI 1)), (6, .int (iI (k + 1)))] := lv_sub hl [3, 4, 5, 6, 7, 1, 0] rfl
                  have hl : lv_has ls 8 [(0, .ref a), (1, .int (iI a_)), (2, .int (iI b_)), (3, .int (iI (riN (σ 2) a_ b_ t.toNat))), (4, .int (iI t)), (5, .int (iI (riL (σ 2) a_ b_ t (k + 1).toNat))), (6, .int (iI (k + 1)))] := by rw [show riL (σ 2) a_ b_ t (k + 1).toNat = 1 from (by rw [hre, if_neg (by omega)]; omega)]; exact hl
                  refine ih_39 (k + 1) ?_ ?_ ?_ ?_ _ _ _ hH hl
                  · omega
                  · omega
                  · omega
                  · omega
              · -- 77F
                refine lv_iload hx hb dX0_right_80 (lv_at hl 0 rfl) ?_
                refine lv_iload_n hx hb dX0_right_82 rfl (lv_at hl 3 rfl) ?_
                refine n_icmp_ne (tgt := 112) hx hb (r32 (by omega)) (r32 (by omega)) dX0_right_83 (by decide) (fun c_83 => ?_) (fun c_83 => ?_)
                · -- 83T
                  refine n_iconst hx hb dX0_right_112 ?_
                  refine lv_goto (tgt := 117) hx hb dX0_right_113 (by decide) ?_
                  refine lv_istore hx hb dX0_right_117 hl (Nat.le_of_ble_eq_true rfl) (lv' := [(5, .int (iI 1)), (7, .int (iI (loA (σ 2) k 8))), (0, .ref a), (1, .int (iI a_)), (2, .int (iI b_)), (3, .int (iI (riN (σ 2) a_ b_ t.toNat))), (4, .int (iI t)), (6, .int (iI k))]) rfl (fun ls hl => ?_)
                  refine n_iinc hx hb dX0_right_119 hl (k := 7) rfl (Nat.le_of_ble_eq_true rfl) (lv' := [(6, .int (iI (k + 1))), (5, .int (iI 1)), (7, .int (iI (loA (σ 2) k 8))), (0, .ref a), (1, .int (iI a_)), (2, .int (iI b_)), (3, .int (iI (riN (σ 2) a_ b_ t.toNat))), (4, .int (iI t))]) rfl (fun ls hl => ?_)
                  refine lv_goto (tgt := 39) hx hb dX0_right_122 (by decide) ?_
                  have hl : lv_has ls 8 [(0, .ref a), (1, .int (iI a_)), (2, .int (iI b_)), (3, .int (iI (riN (σ 2) a_ b_ t.toNat))), (4, .int (iI t)), (5, .int (iI 1)), (6, .int (iI (k + 1)))] := lv_sub hl [3, 4, 5, 6, 7, 1, 0] rfl
                  have hl : lv_has ls 8 [(0, .ref a), (1, .int (iI a_)), (2, .int (iI b_)), (3, .int (iI (riN (σ 2) a_ b_ t.toNat))), (4, .int (iI t)), (5, .int (iI (riL (σ 2) a_ b_ t (k + 1).toNat))), (6, .int (iI (k + 1)))] := by rw [show riL (σ 2) a_ b_ t (k + 1).toNat = 1 from (by rw [hre, if_neg (by omega)]; omega)]; exact hl
                  refine ih_39 (k + 1) ?_ ?_ ?_ ?_ _ _ _ hH hl
                  · omega
                  · omega
                  · omega
                  · omega
                · -- 83F
                  refine lv_aload_n hx hb dX0_right_86 rfl (lv_at hl 1 rfl) ?_
                  refine x_get hx hb hts in_X0 hown hK hH hR.o rfl 0 (by decide) q339 (fun _ h9 => h9) rfl (by decide) dX0_right_87 ?_
                  refine x_getN hx hb hts in_X1 hown hK hH hR.b0 rfl 12 (by decide) hXN q186 (fun _ h9 => h9) rfl (by decide) dX0_right_90 ?_
                  refine lv_iload hx hb dX0_right_93 (lv_at hl 5 rfl) ?_
                  obtain ⟨y4, r4, u4, t4, g4⟩ := hR.text (i := t) (by omega) (by omega)
                  refine x_aald hx hb hK hH 9 hR.b12 rfl (by omega) (by omega) (Nat.le_of_ble_eq_true rfl) (v := some y4) u4 dX0_right_95 ?_
                  refine lv_aload_n hx hb dX0_right_96 rfl (lv_at hl 1 rfl) ?_
                  refine x_get hx hb hts in_X0 hown hK hH hR.o rfl 0 (by decide) q339 (fun _ h9 => h9) rfl (by decide) dX0_right_97 ?_
                  refine x_getN hx hb hts in_X1 hown hK hH hR.b0 rfl 10 (by decide) hXN q182 (fun _ h9 => h9) rfl (by decide) dX0_right_100 ?_
                  refine lv_iload hx hb dX0_right_103 (lv_at hl 7 rfl) ?_
                  obtain ⟨y5, n5, w5, u5, g5, k5, e5⟩ := hR.look (i := k) (by omega) (by omega)
                  have v5 := (hI.o k (by omega) (by omega)).2
                  refine x_aald hx hb hK hH 7 hR.b10 rfl (by omega) (by omega) (Nat.le_of_ble_eq_true rfl) (v := some y5) u5 dX0_right_105 ?_
                  refine x_calliF (x_runV (As := [.ref y5]) (rest := []) S hH hK (fun _ _ hW => XN.warm hW hXN) XN_b hl.1 g4 rfl (l_oddsOf (x := t) (k := k) hI ⟨by omega, by omega⟩ g5 k5 e5 t4) (lw_V q1165 q1166 q1167 q135 q1168) kd_X22_oddsOf rfl rfl dX0_right_106) hH hA (fun H locs hH => ?_)
                  refine n_if_le (tgt := 116) hx hb (r32 (by omega)) dX0_right_109 (by decide) (fun c_109 => ?_) (fun c_109 => ?_)
                  · -- 109T
                    refine n_iconst hx hb dX0_right_116 ?_
                    refine lv_istore hx hb dX0_right_117 hl (Nat.le_of_ble_eq_true rfl) (lv' := [(5, .int (iI 0)), (7, .int (iI (loA (σ 2) k 8))), (0, .ref a), (1, .int (iI a_)), (2, .int (iI b_)), (3, .int (iI (riN (σ 2) a_ b_ t.toNat))), (4, .int (iI t)), (6, .int (iI k))]) rfl (fun ls hl => ?_)
                    refine n_iinc hx hb dX0_right_119 hl (k := 7) rfl (Nat.le_of_ble_eq_true rfl) (lv' := [(6, .int (iI (k + 1))), (5, .int (iI 0)), (7, .int (iI (loA (σ 2) k 8))), (0, .ref a), (1, .int (iI a_)), (2, .int (iI b_)), (3, .int (iI (riN (σ 2) a_ b_ t.toNat))), (4, .int (iI t))]) rfl (fun ls hl => ?_)
                    refine lv_goto (tgt := 39) hx hb dX0_right_122 (by decide) ?_
                    have hl : lv_has ls 8 [(0, .ref a), (1, .int (iI a_)), (2, .int (iI b_)), (3, .int (iI (riN (σ 2) a_ b_ t.toNat))), (4, .int (iI t)), (5, .int (iI 0)), (6, .int (iI (k + 1)))] := lv_sub hl [3, 4, 5, 6, 7, 1, 0] rfl
                    have hl : lv_has ls 8 [(0, .ref a), (1, .int (iI a_)), (2, .int (iI b_)), (3, .int (iI (riN (σ 2) a_ b_ t.toNat))), (4, .int (iI t)), (5, .int (iI (riL (σ 2) a_ b_ t (k + 1).toNat))), (6, .int (iI (k + 1)))] := by rw [show riL (σ 2) a_ b_ t (k + 1).toNat = 0 from (by rw [hre, if_pos (by omega)])]; exact hl
                    refine ih_39 (k + 1) ?_ ?_ ?_ ?_ _ _ _ hH hl
                    · omega
                    · omega
                    · omega
                    · omega
                  · -- 109F
                    refine n_iconst hx hb dX0_right_112 ?_
                    refine lv_goto (tgt := 117) hx hb dX0_right_113 (by decide) ?_
                    refine lv_istore hx hb dX0_right_117 hl (Nat.le_of_ble_eq_true rfl) (lv' := [(5, .int (iI 1)), (7, .int (iI (loA (σ 2) k 8))), (0, .ref a), (1, .int (iI a_)), (2, .int (iI b_)), (3, .int (iI (riN (σ 2) a_ b_ t.toNat))), (4, .int (iI t)), (6, .int (iI k))]) rfl (fun ls hl => ?_)
                    refine n_iinc hx hb dX0_right_119 hl (k := 7) rfl (Nat.le_of_ble_eq_true rfl) (lv' := [(6, .int (iI (k + 1))), (5, .int (iI 1)), (7, .int (iI (loA (σ 2) k 8))), (0, .ref a), (1, .int (iI a_)), (2, .int (iI b_)), (3, .int (iI (riN (σ 2) a_ b_ t.toNat))), (4, .int (iI t))]) rfl (fun ls hl => ?_)
                    refine lv_goto (tgt := 39) hx hb dX0_right_122 (by decide) ?_
                    have hl : lv_has ls 8 [(0, .ref a), (1, .int (iI a_)), (2, .int (iI b_)), (3, .int (iI (riN (σ 2) a_ b_ t.toNat))), (4, .int (iI t)), (5, .int (iI 1)), (6, .int (iI (k + 1)))] := lv_sub hl [3, 4, 5, 6, 7, 1, 0] rfl
                    have hl : lv_has ls 8 [(0, .ref a), (1, .int (iI a_)), (2, .int (iI b_)), (3, .int (iI (riN (σ 2) a_ b_ t.toNat))), (4, .int (iI t)), (5, .int (iI (riL (σ 2) a_ b_ t (k + 1).toNat))), (6, .int (iI (k + 1)))] := by rw [show riL (σ 2) a_ b_ t (k + 1).toNat = 1 from (by rw [hre, if_neg (by omega)]; omega)]; exact hl
                    refine ih_39 (k + 1) ?_ ?_ ?_ ?_ _ _ _ hH hl
                    · omega
                    · omega
                    · omega
                    · omega
      refine lv_iload hx hb dX0_right_21 (lv_at hl 4 rfl) ?_
      refine lv_aload_n hx hb dX0_right_23 rfl (lv_at hl 0 rfl) ?_
      refine x_get hx hb hts in_X0 hown hK hH hR.o rfl 0 (by decide) q339 (fun _ h9 => h9) rfl (by decide) dX0_right_24 ?_
      refine x_getN hx hb hts in_X1 hown hK hH hR.b0 rfl 5 (by decide) hXN q172 (fun _ h9 => h9) rfl (by decide) dX0_right_27 ?_
      refine n_icmp_ge (tgt := 147) hx hb (r32 (by omega)) (r32 (by omega)) dX0_right_30 (by decide) (fun c_30 => ?_) (fun c_30 => ?_)
      · -- 30T
        refine lv_iload_n hx hb dX0_right_147 rfl (lv_at hl 3 rfl) ?_
        refine x_iret hx hb hr hlk hH dX0_right_148 ?_
        refine ⟨?_, rfl⟩
        show _ = rightF _ _ _
        rw [rightF, if_pos hg, show (σ 2 1756).toNat = t.toNat by omega]
      · -- 30F
        refine n_iconst hx hb dX0_right_33 ?_
        refine lv_istore hx hb dX0_right_34 hl (Nat.le_of_ble_eq_true rfl) (lv' := [(5, .int (iI 1)), (0, .ref a), (1, .int (iI a_)), (2, .int (iI b_)), (3, .int (iI (riN (σ 2) a_ b_ t.toNat))), (4, .int (iI t))]) rfl (fun ls hl => ?_)
        refine n_iconst hx hb dX0_right_36 ?_
        refine lv_istore hx hb dX0_right_37 hl (Nat.le_of_ble_eq_true rfl) (lv' := [(6, .int (iI 0)), (5, .int (iI 1)), (0, .ref a), (1, .int (iI a_)), (2, .int (iI b_)), (3, .int (iI (riN (σ 2) a_ b_ t.toNat))), (4, .int (iI t))]) rfl (fun ls hl => ?_)
        have hl : lv_has ls 8 [(0, .ref a), (1, .int (iI a_)), (2, .int (iI b_)), (3, .int (iI (riN (σ 2) a_ b_ t.toNat))), (4, .int (iI t)), (5, .int (iI 1)), (6, .int (iI 0))] := lv_sub hl [2, 3, 4, 5, 6, 1, 0] rfl
        have hl : lv_has ls 8 [(0, .ref a), (1, .int (iI a_)), (2, .int (iI b_)), (3, .int (iI (riN (σ 2) a_ b_ t.toNat))), (4, .int (iI t)), (5, .int (iI (riL (σ 2) a_ b_ t (0 : Int).toNat))), (6, .int (iI 0))] := by exact hl
        refine L39 50 0 ?_ ?_ ?_ ?_ _ _ _ hH hl
        · omega
        · omega
        · omega
        · omega
  refine lv_iload_n hx hb dX0_right_0 rfl (lv_at hl 1 rfl) ?_
  refine x_calliF (x_runS (As := [.int (iI a_)]) (rest := []) S hH hK (fun _ _ hW => XN.warm hW hXN) XN_b hl.1 (xm_X0_isHand l G M a_ _ (r32 (by omega))) (lw_S q461 q462 q105 q463) kd_X0_isHand rfl rfl dX0_right_1) hH hA (fun H locs hH => ?_)
  refine z_if_eq (tgt := 14) hx hb dX0_right_4 (by decide) (fun c_4 => ?_) (fun c_4 => ?_)
  · -- 4T
    refine n_iconst hx hb dX0_right_14 ?_
    refine x_iret hx hb hr hlk hH dX0_right_15 ?_
    refine ⟨?_, rfl⟩
    show _ = rightF _ _ _
    rw [rightF, if_neg (by omega)]
  · -- 4F
    refine lv_iload_n hx hb dX0_right_7 rfl (lv_at hl 2 rfl) ?_
    refine x_calliF (x_runS (As := [.int (iI b_)]) (rest := []) S hH hK (fun _ _ hW => XN.warm hW hXN) XN_b hl.1 (xm_X0_isHand l G M b_ _ (r32 (by omega))) (lw_S q461 q462 q105 q463) kd_X0_isHand rfl rfl dX0_right_8) hH hA (fun H locs hH => ?_)
    refine z_if_ne (tgt := 16) hx hb dX0_right_11 (by decide) (fun c_11 => ?_) (fun c_11 => ?_)
    · -- 11T
      refine n_iconst hx hb dX0_right_16 ?_
      refine lv_istore_n hx hb dX0_right_17 rfl hl (Nat.le_of_ble_eq_true rfl) (lv' := [(3, .int (iI 0)), (0, .ref a), (1, .int (iI a_)), (2, .int (iI b_))]) rfl (fun ls hl => ?_)
      refine n_iconst hx hb dX0_right_18 ?_
      refine lv_istore hx hb dX0_right_19 hl (Nat.le_of_ble_eq_true rfl) (lv' := [(4, .int (iI 0)), (3, .int (iI 0)), (0, .ref a), (1, .int (iI a_)), (2, .int (iI b_))]) rfl (fun ls hl => ?_)
      have hl : lv_has ls 8 [(0, .ref a), (1, .int (iI a_)), (2, .int (iI b_)), (3, .int (iI 0)), (4, .int (iI 0))] := lv_sub hl [2, 3, 4, 1, 0] rfl
      have hl : lv_has ls 8 [(0, .ref a), (1, .int (iI a_)), (2, .int (iI b_)), (3, .int (iI (riN (σ 2) a_ b_ (0 : Int).toNat))), (4, .int (iI 0))] := by exact hl
      refine L21 20 0 ?_ ?_ ?_ ?_ _ _ _ hH hl
      · omega
      · omega
      · omega
      · omega
    · -- 11F
      refine n_iconst hx hb dX0_right_14 ?_
      refine x_iret hx hb hr hlk hH dX0_right_15 ?_
      refine ⟨?_, rfl⟩
      show _ = rightF _ _ _
      rw [rightF, if_neg (by omega)]
theorem kd_X0_ways : yX0_ways.cls = RX0 ∧ yX0_ways.cls ≠ "java/lang/invoke/MethodHandle" ∧ yX0_ways.cls ≠ "java/lang/invoke/VarHandle" ∧ (parseMethodDescriptor yX0_ways.desc).map (fun d => d.parameters.length) = some 3 := by decide +kernel
theorem xm_X0_ways (l : Launch) (G : MG) (M : Hp) (σ : St) (x : XGh) (ω : XCt) (a : Nat) (x_ : Int) (h_ : Int) (w_ : Int) (sz : Nat) (hR : RX G M a σ x ω) (h_x_ : R32 x_) (h_h_ : R32 h_) (h_w_ : R32 w_) (hI : KI (σ 2)) (hT : TT (σ 2)) : Met l yX0_ways (ws_ yX0_ways cX0_ways 7 (some .int)) (rmD 208) (xP G XN [.ref a, .int (iI x_), .int (iI h_), .int (iI w_)] M sz) (xQi G (DA M sz) (fun z M' => z = (waysF (σ 2) x_ h_ w_) ∧ M' = M)) 0 0 (DA M sz) := by
  refine x_start (by decide) (Nat.le_of_ble_eq_true rfl) ?_
  intro p e s m below meth c ⟨S, hr, hlk, hH, hK, hXN, hsz, hnm⟩ ls hl
  subst hsz
  obtain ⟨hx, hb, hml, hown, hts⟩ := S
  have S : CallFix p m c _ _ s _ lw_all RX0 := ⟨hx, hb, hml, hown, hts⟩
  have hA : ∀ q, s.heap.size ≤ q → DA M s.heap.size q := fun q hq => Or.inr hq
  have hl : lv_has ls 7 [(0, .ref a), (1, .int (iI x_)), (2, .int (iI h_)), (3, .int (iI w_))] := hl
  have b0 := hI.c
  unfold kCnt at b0
  have h_x_ := R32.n h_x_
  have h_h_ := R32.n h_h_
  have h_w_ := R32.n h_w_
  have L33 : ∀ (q : Nat) (k : Int), (hg : isX (σ 2) x_ ∧ (0 ≤ h_ ∧ h_ ≤ 3) ∧ (0 ≤ w_ ∧ w_ ≤ 1)) → (hk0 : 0 ≤ k) → (hk1 : k ≤ σ 2 1754) → (hq : σ 2 1754 < (q : Int) + k) → ∀ (H : Heap) (locs : List Loc) (ls : Array Slot), XV G (DA M s.heap.size) M s.heap H locs → lv_has ls 7 [(0, .ref a), (1, .int (iI x_)), (2, .int (iI h_)), (3, .int (iI w_)), (4, .int (iI (waN (σ 2) x_ h_ w_ k.toNat))), (5, .int (iI k))] → W p l e (rmD 208) s m ([.ref a, .int (iI x_), .int (iI h_), .int (iI w_)] : List Value).toArray below meth c H locs 0 0 (MQ below (xQi G (DA M s.heap.size) (fun z M' => z = (waysF (σ 2) x_ h_ w_) ∧ M' = M)) ([.ref a, .int (iI x_), .int (iI h_), .int (iI w_)] : List Value).toArray s 0 0 (DA M s.heap.size)) (F0 m 33 ls []) := by
    intro q
    induction q with
    | zero => intro k hg hk0 hk1 hq; exfalso; omega
    | succ q ih_33 =>
      intro k hg hk0 hk1 hq H locs ls hH hl
      have hod := odd_r (tm (σ 2) x_) (loA (σ 2) k)
      have ho : σ 2 (1224 + 10 * k + 9) = 1 → oL (σ 2) x_ k = odd (tm (σ 2) x_) (loA (σ 2) k) := fun h => if_pos h
      refine lv_iload hx hb dX0_ways_33 (lv_at hl 5 rfl) ?_
      refine lv_aload_n hx hb dX0_ways_35 rfl (lv_at hl 0 rfl) ?_
      refine x_get hx hb hts in_X0 hown hK hH hR.o rfl 0 (by decide) q339 (fun _ h9 => h9) rfl (by decide) dX0_ways_36 ?_
      refine x_getN hx hb hts in_X1 hown hK hH hR.b0 rfl 3 (by decide) hXN q168 (fun _ h9 => h9) rfl (by decide) dX0_ways_39 ?_
      refine n_icmp_ge (tgt := 124) hx hb (r32 (by omega)) (r32 (by omega)) dX0_ways_42 (by decide) (fun c_42 => ?_) (fun c_42 => ?_)
      · -- 42T
        refine lv_iload hx hb dX0_ways_124 (lv_at hl 4 rfl) ?_
        refine x_iret hx hb hr hlk hH dX0_ways_126 ?_
        refine ⟨?_, rfl⟩
        show _ = waysF _ _ _ _
        rw [waysF, if_pos hg, show (σ 2 1754).toNat = k.toNat by omega]
      · -- 42F
        have hcl := (hI.o k (by omega) (by omega)).1
        unfold caseOK at hcl
        have hcl : (0 ≤ loA (σ 2) k 0 ∧ loA (σ 2) k 0 ≤ 5) ∧ (0 ≤ loA (σ 2) k 1 ∧ loA (σ 2) k 1 ≤ 5) ∧ (0 ≤ loA (σ 2) k 2 ∧ loA (σ 2) k 2 ≤ 7) ∧ (0 ≤ loA (σ 2) k 3 ∧ loA (σ 2) k 3 ≤ 255) ∧ (0 ≤ loA (σ 2) k 4 ∧ loA (σ 2) k 4 ≤ 255) ∧ (0 ≤ loA (σ 2) k 5 ∧ loA (σ 2) k 5 ≤ 11) ∧ (0 ≤ loA (σ 2) k 6 ∧ loA (σ 2) k 6 ≤ 255) ∧ (0 ≤ loA (σ 2) k 7 ∧ loA (σ 2) k 7 ≤ 1) ∧ (0 ≤ loA (σ 2) k 8 ∧ loA (σ 2) k 8 ≤ 3) := hcl
        refine lv_aload_n hx hb dX0_ways_45 rfl (lv_at hl 0 rfl) ?_
        refine x_get hx hb hts in_X0 hown hK hH hR.o rfl 0 (by decide) q339 (fun _ h9 => h9) rfl (by decide) dX0_ways_46 ?_
        refine x_getN hx hb hts in_X1 hown hK hH hR.b0 rfl 10 (by decide) hXN q182 (fun _ h9 => h9) rfl (by decide) dX0_ways_49 ?_
        refine lv_iload hx hb dX0_ways_52 (lv_at hl 5 rfl) ?_
        obtain ⟨y1, n1, w1, u1, g1, k1, e1⟩ := hR.look (i := k) (by omega) (by omega)
        have v1 := (hI.o k (by omega) (by omega)).2
        refine x_aald hx hb hK hH 7 hR.b10 rfl (by omega) (by omega) (Nat.le_of_ble_eq_true rfl) (v := some y1) u1 dX0_ways_54 ?_
        refine lv_astore hx hb dX0_ways_55 hl (Nat.le_of_ble_eq_true rfl) (lv' := [(6, .ref y1), (0, .ref a), (1, .int (iI x_)), (2, .int (iI h_)), (3, .int (iI w_)), (4, .int (iI (waN (σ 2) x_ h_ w_ k.toNat))), (5, .int (iI k))]) rfl (fun ls hl => ?_)
        refine lv_aload hx hb dX0_ways_57 (lv_at hl 0 rfl) ?_
        refine x_getN hx hb hts in_X10 hown hK hH g1 rfl 2 (by decide) hXN q755 (fun _ h9 => h9) rfl (by decide) dX0_ways_59 ?_
        refine n_if_eq (tgt := 118) hx hb (r32 (by omega)) dX0_ways_62 (by decide) (fun c_62 => ?_) (fun c_62 => ?_)
        · -- 62T
          refine n_iinc hx hb dX0_ways_118 hl (k := 6) rfl (Nat.le_of_ble_eq_true rfl) (lv' := [(5, .int (iI (k + 1))), (6, .ref y1), (0, .ref a), (1, .int (iI x_)), (2, .int (iI h_)), (3, .int (iI w_)), (4, .int (iI (waN (σ 2) x_ h_ w_ k.toNat)))]) rfl (fun ls hl => ?_)
          refine lv_goto (tgt := 33) hx hb dX0_ways_121 (by decide) ?_
          have hl : lv_has ls 7 [(0, .ref a), (1, .int (iI x_)), (2, .int (iI h_)), (3, .int (iI w_)), (4, .int (iI (waN (σ 2) x_ h_ w_ k.toNat))), (5, .int (iI (k + 1)))] := lv_sub hl [2, 3, 4, 5, 6, 0] rfl
          have hl : lv_has ls 7 [(0, .ref a), (1, .int (iI x_)), (2, .int (iI h_)), (3, .int (iI w_)), (4, .int (iI (waN (σ 2) x_ h_ w_ (k + 1).toNat))), (5, .int (iI (k + 1)))] := by rw [waN_e hk0, if_neg (by omega)]; exact hl
          refine ih_33 (k + 1) ?_ ?_ ?_ ?_ _ _ _ hH hl
          · exact hg
          · omega
          · omega
          · omega
        · -- 62F
          refine lv_aload hx hb dX0_ways_65 (lv_at hl 0 rfl) ?_
          refine x_get hx hb hts in_X10 hown hK hH g1 rfl 0 (by decide) q263 (u_same (hts _ q264)) rfl (by decide) dX0_ways_67 ?_
          refine n_bipush (z := 8) hx hb dX0_ways_70 (by decide) ?_
          refine x_iald hx hb hK hH k1 (by omega) (by omega) (Nat.le_of_ble_eq_true rfl) dX0_ways_72 ?_
          refine W.eq (g2 := F0 m 73 ls (.int (iI (loA (σ 2) k 8)) :: [])) (by first | (rw [e1 _ (by omega) (by omega)]; done) | (rw [e1 _ (by omega) (by omega)]; rfl)) ?_
          refine lv_iload_n hx hb dX0_ways_73 rfl (lv_at hl 3 rfl) ?_
          refine n_icmp_ne (tgt := 118) hx hb (r32 (by omega)) (r32 (by omega)) dX0_ways_74 (by decide) (fun c_74 => ?_) (fun c_74 => ?_)
          · -- 74T
            refine n_iinc hx hb dX0_ways_118 hl (k := 6) rfl (Nat.le_of_ble_eq_true rfl) (lv' := [(5, .int (iI (k + 1))), (6, .ref y1), (0, .ref a), (1, .int (iI x_)), (2, .int (iI h_)), (3, .int (iI w_)), (4, .int (iI (waN (σ 2) x_ h_ w_ k.toNat)))]) rfl (fun ls hl => ?_)
            refine lv_goto (tgt := 33) hx hb dX0_ways_121 (by decide) ?_
            have hl : lv_has ls 7 [(0, .ref a), (1, .int (iI x_)), (2, .int (iI h_)), (3, .int (iI w_)), (4, .int (iI (waN (σ 2) x_ h_ w_ k.toNat))), (5, .int (iI (k + 1)))] := lv_sub hl [2, 3, 4, 5, 6, 0] rfl
            have hl : lv_has ls 7 [(0, .ref a), (1, .int (iI x_)), (2, .int (iI h_)), (3, .int (iI w_)), (4, .int (iI (waN (σ 2) x_ h_ w_ (k + 1).toNat))), (5, .int (iI (k + 1)))] := by rw [waN_e hk0, if_neg (by omega)]; exact hl
            refine ih_33 (k + 1) ?_ ?_ ?_ ?_ _ _ _ hH hl
            · exact hg
            · omega
            · omega
            · omega
          · -- 74F
            refine lv_aload_n hx hb dX0_ways_77 rfl (lv_at hl 1 rfl) ?_
            refine x_get hx hb hts in_X0 hown hK hH hR.o rfl 0 (by decide) q339 (fun _ h9 => h9) rfl (by decide) dX0_ways_78 ?_
            refine x_getN hx hb hts in_X1 hown hK hH hR.b0 rfl 12 (by decide) hXN q186 (fun _ h9 => h9) rfl (by decide) dX0_ways_81 ?_
            refine lv_iload_n hx hb dX0_ways_84 rfl (lv_at hl 2 rfl) ?_
            obtain ⟨y2, r2, u2, t2, g2⟩ := hR.text (i := x_) (by omega) (by omega)
            refine x_aald hx hb hK hH 9 hR.b12 rfl (by omega) (by omega) (Nat.le_of_ble_eq_true rfl) (v := some y2) u2 dX0_ways_85 ?_
            refine lv_aload hx hb dX0_ways_86 (lv_at hl 0 rfl) ?_
            refine x_calliF (x_runV (As := [.ref y1]) (rest := []) S hH hK (fun _ _ hW => XN.warm hW hXN) XN_b hl.1 g2 rfl (l_odds (x := x_) (k := k) hI ⟨by omega, by omega⟩ g1 k1 e1 t2) (lw_V q1229 q1170 q1171 q135 q1172) kd_X22_odds rfl rfl dX0_ways_88) hH hA (fun H locs hH => ?_)
            refine lv_iload_n hx hb dX0_ways_91 rfl (lv_at hl 4 rfl) ?_
            refine n_if_ne (tgt := 99) hx hb (r32 (by omega)) dX0_ways_92 (by decide) (fun c_92 => ?_) (fun c_92 => ?_)
            · -- 92T
              refine n_bipush (z := 100) hx hb dX0_ways_99 (by decide) ?_
              refine n_icmp_ge (tgt := 118) hx hb (r32 (by omega)) (r32 (by omega)) dX0_ways_101 (by decide) (fun c_101 => ?_) (fun c_101 => ?_)
              · -- 101T
                refine n_iinc hx hb dX0_ways_118 hl (k := 6) rfl (Nat.le_of_ble_eq_true rfl) (lv' := [(5, .int (iI (k + 1))), (6, .ref y1), (0, .ref a), (1, .int (iI x_)), (2, .int (iI h_)), (3, .int (iI w_)), (4, .int (iI (waN (σ 2) x_ h_ w_ k.toNat)))]) rfl (fun ls hl => ?_)
                refine lv_goto (tgt := 33) hx hb dX0_ways_121 (by decide) ?_
                have hl : lv_has ls 7 [(0, .ref a), (1, .int (iI x_)), (2, .int (iI h_)), (3, .int (iI w_)), (4, .int (iI (waN (σ 2) x_ h_ w_ k.toNat))), (5, .int (iI (k + 1)))] := lv_sub hl [2, 3, 4, 5, 6, 0] rfl
                have hl : lv_has ls 7 [(0, .ref a), (1, .int (iI x_)), (2, .int (iI h_)), (3, .int (iI w_)), (4, .int (iI (waN (σ 2) x_ h_ w_ (k + 1).toNat))), (5, .int (iI (k + 1)))] := by rw [waN_e hk0, if_neg (by omega)]; exact hl
                refine ih_33 (k + 1) ?_ ?_ ?_ ?_ _ _ _ hH hl
                · exact hg
                · omega
                · omega
                · omega
              · -- 101F
                refine lv_iload hx hb dX0_ways_104 (lv_at hl 5 rfl) ?_
                refine n_iconst hx hb dX0_ways_106 ?_
                refine lv_aload hx hb dX0_ways_107 (lv_at hl 0 rfl) ?_
                refine x_get hx hb hts in_X10 hown hK hH g1 rfl 0 (by decide) q263 (u_same (hts _ q264)) rfl (by decide) dX0_ways_109 ?_
                refine n_iconst hx hb dX0_ways_112 ?_
                refine x_iald hx hb hK hH k1 (by omega) (by omega) (Nat.le_of_ble_eq_true rfl) dX0_ways_113 ?_
                refine W.eq (g2 := F0 m 114 ls (.int (iI (loA (σ 2) k 1)) :: .int (iI 1) :: .int (iI (waN (σ 2) x_ h_ w_ k.toNat)) :: [])) (by first | (rw [e1 _ (by omega) (by omega)]; done) | (rw [e1 _ (by omega) (by omega)]; rfl)) ?_
                refine n_ishl hx hb (by omega) (by omega) dX0_ways_114 ?_
                refine n_ior hx hb dX0_ways_115 ?_
                refine lv_istore hx hb dX0_ways_116 hl (Nat.le_of_ble_eq_true rfl) (lv' := [(4, .int (iI (bOr (waN (σ 2) x_ h_ w_ k.toNat) (1 * 2 ^ (loA (σ 2) k 1).toNat)))), (6, .ref y1), (0, .ref a), (1, .int (iI x_)), (2, .int (iI h_)), (3, .int (iI w_)), (5, .int (iI k))]) rfl (fun ls hl => ?_)
                refine n_iinc hx hb dX0_ways_118 hl (k := 6) rfl (Nat.le_of_ble_eq_true rfl) (lv' := [(5, .int (iI (k + 1))), (4, .int (iI (bOr (waN (σ 2) x_ h_ w_ k.toNat) (1 * 2 ^ (loA (σ 2) k 1).toNat)))), (6, .ref y1), (0, .ref a), (1, .int (iI x_)), (2, .int (iI h_)), (3, .int (iI w_))]) rfl (fun ls hl => ?_)
                refine lv_goto (tgt := 33) hx hb dX0_ways_121 (by decide) ?_
                have hl : lv_has ls 7 [(0, .ref a), (1, .int (iI x_)), (2, .int (iI h_)), (3, .int (iI w_)), (4, .int (iI (bOr (waN (σ 2) x_ h_ w_ k.toNat) (1 * 2 ^ (loA (σ 2) k 1).toNat)))), (5, .int (iI (k + 1)))] := lv_sub hl [3, 4, 5, 6, 1, 0] rfl
                have hl : lv_has ls 7 [(0, .ref a), (1, .int (iI x_)), (2, .int (iI h_)), (3, .int (iI w_)), (4, .int (iI (waN (σ 2) x_ h_ w_ (k + 1).toNat))), (5, .int (iI (k + 1)))] := by rw [waN_e hk0, if_pos (by omega)]; exact hl
                refine ih_33 (k + 1) ?_ ?_ ?_ ?_ _ _ _ hH hl
                · exact hg
                · omega
                · omega
                · omega
            · -- 92F
              refine n_iconst hx hb dX0_ways_95 ?_
              refine lv_goto (tgt := 101) hx hb dX0_ways_96 (by decide) ?_
              refine n_icmp_ge (tgt := 118) hx hb (r32 (by omega)) (r32 (by omega)) dX0_ways_101 (by decide) (fun c_101 => ?_) (fun c_101 => ?_)
              · -- 101T
                refine n_iinc hx hb dX0_ways_118 hl (k := 6) rfl (Nat.le_of_ble_eq_true rfl) (lv' := [(5, .int (iI (k + 1))), (6, .ref y1), (0, .ref a), (1, .int (iI x_)), (2, .int (iI h_)), (3, .int (iI w_)), (4, .int (iI (waN (σ 2) x_ h_ w_ k.toNat)))]) rfl (fun ls hl => ?_)
                refine lv_goto (tgt := 33) hx hb dX0_ways_121 (by decide) ?_
                have hl : lv_has ls 7 [(0, .ref a), (1, .int (iI x_)), (2, .int (iI h_)), (3, .int (iI w_)), (4, .int (iI (waN (σ 2) x_ h_ w_ k.toNat))), (5, .int (iI (k + 1)))] := lv_sub hl [2, 3, 4, 5, 6, 0] rfl
                have hl : lv_has ls 7 [(0, .ref a), (1, .int (iI x_)), (2, .int (iI h_)), (3, .int (iI w_)), (4, .int (iI (waN (σ 2) x_ h_ w_ (k + 1).toNat))), (5, .int (iI (k + 1)))] := by rw [waN_e hk0, if_neg (by omega)]; exact hl
                refine ih_33 (k + 1) ?_ ?_ ?_ ?_ _ _ _ hH hl
                · exact hg
                · omega
                · omega
                · omega
              · -- 101F
                refine lv_iload hx hb dX0_ways_104 (lv_at hl 5 rfl) ?_
                refine n_iconst hx hb dX0_ways_106 ?_
                refine lv_aload hx hb dX0_ways_107 (lv_at hl 0 rfl) ?_
                refine x_get hx hb hts in_X10 hown hK hH g1 rfl 0 (by decide) q263 (u_same (hts _ q264)) rfl (by decide) dX0_ways_109 ?_
                refine n_iconst hx hb dX0_ways_112 ?_
                refine x_iald hx hb hK hH k1 (by omega) (by omega) (Nat.le_of_ble_eq_true rfl) dX0_ways_113 ?_
                refine W.eq (g2 := F0 m 114 ls (.int (iI (loA (σ 2) k 1)) :: .int (iI 1) :: .int (iI (waN (σ 2) x_ h_ w_ k.toNat)) :: [])) (by first | (rw [e1 _ (by omega) (by omega)]; done) | (rw [e1 _ (by omega) (by omega)]; rfl)) ?_
                refine n_ishl hx hb (by omega) (by omega) dX0_ways_114 ?_
                refine n_ior hx hb dX0_ways_115 ?_
                refine lv_istore hx hb dX0_ways_116 hl (Nat.le_of_ble_eq_true rfl) (lv' := [(4, .int (iI (bOr (waN (σ 2) x_ h_ w_ k.toNat) (1 * 2 ^ (loA (σ 2) k 1).toNat)))), (6, .ref y1), (0, .ref a), (1, .int (iI x_)), (2, .int (iI h_)), (3, .int (iI w_)), (5, .int (iI k))]) rfl (fun ls hl => ?_)
                refine n_iinc hx hb dX0_ways_118 hl (k := 6) rfl (Nat.le_of_ble_eq_true rfl) (lv' := [(5, .int (iI (k + 1))), (4, .int (iI (bOr (waN (σ 2) x_ h_ w_ k.toNat) (1 * 2 ^ (loA (σ 2) k 1).toNat)))), (6, .ref y1), (0, .ref a), (1, .int (iI x_)), (2, .int (iI h_)), (3, .int (iI w_))]) rfl (fun ls hl => ?_)
                refine lv_goto (tgt := 33) hx hb dX0_ways_121 (by decide) ?_
                have hl : lv_has ls 7 [(0, .ref a), (1, .int (iI x_)), (2, .int (iI h_)), (3, .int (iI w_)), (4, .int (iI (bOr (waN (σ 2) x_ h_ w_ k.toNat) (1 * 2 ^ (loA (σ 2) k 1).toNat)))), (5, .int (iI (k + 1)))] := lv_sub hl [3, 4, 5, 6, 1, 0] rfl
                have hl : lv_has ls 7 [(0, .ref a), (1, .int (iI x_)), (2, .int (iI h_)), (3, .int (iI w_)), (4, .int (iI (waN (σ 2) x_ h_ w_ (k + 1).toNat))), (5, .int (iI (k + 1)))] := by rw [waN_e hk0, if_pos (by omega)]; exact hl
                refine ih_33 (k + 1) ?_ ?_ ?_ ?_ _ _ _ hH hl
                · exact hg
                · omega
                · omega
                · omega
  refine lv_aload_n hx hb dX0_ways_0 rfl (lv_at hl 0 rfl) ?_
  refine lv_iload_n hx hb dX0_ways_1 rfl (lv_at hl 1 rfl) ?_
  refine x_calliF (x_runV (As := [.int (iI x_)]) (rest := []) S hH hK (fun _ _ hW => XN.warm hW hXN) XN_b hl.1 hR.o rfl (xm_X0_isText l G M σ x ω a x_ _ hR (r32 (by omega)) (by omega) (by omega)) (lw_V q1161 q1163 qs32 q105 q1164) kd_X0_isText rfl rfl dX0_ways_2) hH hA (fun H locs hH => ?_)
  refine z_if_eq (tgt := 25) hx hb dX0_ways_5 (by decide) (fun c_5 => ?_) (fun c_5 => ?_)
  · -- 5T
    refine n_iconst hx hb dX0_ways_25 ?_
    refine x_iret hx hb hr hlk hH dX0_ways_26 ?_
    refine ⟨?_, rfl⟩
    show _ = waysF _ _ _ _
    unfold waysF isX
    rw [if_neg (by omega)]
  · -- 5F
    refine lv_iload_n hx hb dX0_ways_8 rfl (lv_at hl 2 rfl) ?_
    refine x_calliF (x_runS (As := [.int (iI h_)]) (rest := []) S hH hK (fun _ _ hW => XN.warm hW hXN) XN_b hl.1 (xm_X0_isHand l G M h_ _ (r32 (by omega))) (lw_S q461 q462 q105 q463) kd_X0_isHand rfl rfl dX0_ways_9) hH hA (fun H locs hH => ?_)
    refine z_if_eq (tgt := 25) hx hb dX0_ways_12 (by decide) (fun c_12 => ?_) (fun c_12 => ?_)
    · -- 12T
      refine n_iconst hx hb dX0_ways_25 ?_
      refine x_iret hx hb hr hlk hH dX0_ways_26 ?_
      refine ⟨?_, rfl⟩
      show _ = waysF _ _ _ _
      unfold waysF isX
      rw [if_neg (by omega)]
    · -- 12F
      refine lv_iload_n hx hb dX0_ways_15 rfl (lv_at hl 3 rfl) ?_
      refine n_i2l hx hb (r32 (by omega)) dX0_ways_16 ?_
      refine n_lconst (z := 0) hx hb dX0_ways_17 (by decide) ?_
      refine n_lconst (z := 1) hx hb dX0_ways_18 (by decide) ?_
      refine x_calliF (x_runS (As := [.long (lI w_), .long (lI 0), .long (lI 1)]) (rest := []) S hH hK (fun _ _ hW => XN.warm hW hXN) XN_b hl.1 (xm_X0_in l G M w_ 0 1 _ (r64 (by omega)) (r64 (by omega)) (r64 (by omega))) (lw_S q386 q387 q105 q388) kd_X0_in rfl rfl dX0_ways_19) hH hA (fun H locs hH => ?_)
      refine z_if_ne (tgt := 27) hx hb dX0_ways_22 (by decide) (fun c_22 => ?_) (fun c_22 => ?_)
      · -- 22T
        refine n_iconst hx hb dX0_ways_27 ?_
        refine lv_istore hx hb dX0_ways_28 hl (Nat.le_of_ble_eq_true rfl) (lv' := [(4, .int (iI 0)), (0, .ref a), (1, .int (iI x_)), (2, .int (iI h_)), (3, .int (iI w_))]) rfl (fun ls hl => ?_)
        refine n_iconst hx hb dX0_ways_30 ?_
        refine lv_istore hx hb dX0_ways_31 hl (Nat.le_of_ble_eq_true rfl) (lv' := [(5, .int (iI 0)), (4, .int (iI 0)), (0, .ref a), (1, .int (iI x_)), (2, .int (iI h_)), (3, .int (iI w_))]) rfl (fun ls hl => ?_)
        have hl : lv_has ls 7 [(0, .ref a), (1, .int (iI x_)), (2, .int (iI h_)), (3, .int (iI w_)), (4, .int (iI 0)), (5, .int (iI 0))] := lv_sub hl [2, 3, 4, 5, 1, 0] rfl
        have hl : lv_has ls 7 [(0, .ref a), (1, .int (iI x_)), (2, .int (iI h_)), (3, .int (iI w_)), (4, .int (iI (waN (σ 2) x_ h_ w_ (0 : Int).toNat))), (5, .int (iI 0))] := by exact hl
        refine L33 50 0 ?_ ?_ ?_ ?_ _ _ _ hH hl
        · exact ⟨c_5, c_12, c_22⟩
        · omega
        · omega
        · omega
      · -- 22F
        refine n_iconst hx hb dX0_ways_25 ?_
        refine x_iret hx hb hr hlk hH dX0_ways_26 ?_
        refine ⟨?_, rfl⟩
        show _ = waysF _ _ _ _
        unfold waysF isX
        rw [if_neg (by omega)]
theorem kd_X0_shape : yX0_shape.cls = RX0 ∧ yX0_shape.cls ≠ "java/lang/invoke/MethodHandle" ∧ yX0_shape.cls ≠ "java/lang/invoke/VarHandle" ∧ (parseMethodDescriptor yX0_shape.desc).map (fun d => d.parameters.length) = some 4 := by decide +kernel
theorem xm_X0_shape (l : Launch) (G : MG) (M : Hp) (σ : St) (x : XGh) (ω : XCt) (a : Nat) (q_ : Int) (sh_ : Int) (k_ : Int) (w_ : Int) (sz : Nat) (hR : RX G M a σ x ω) (h_q_ : R32 q_) (h_sh_ : R32 sh_) (h_k_ : R32 k_) (h_w_ : R32 w_) (hI : KI (σ 2)) : Met l yX0_shape (ws_ yX0_shape cX0_shape 7 (some .int)) (rmD 3) (xP G XN [.ref a, .int (iI q_), .int (iI sh_), .int (iI k_), .int (iI w_)] M sz) (xQi G (DA M sz) (fun z M' => z = (shpF (σ 2) q_ sh_ k_ w_) ∧ M' = M)) 0 0 (DA M sz) := by
  refine x_start (by decide) (Nat.le_of_ble_eq_true rfl) ?_
  intro p e s m below meth c ⟨S, hr, hlk, hH, hK, hXN, hsz, hnm⟩ ls hl
  subst hsz
  obtain ⟨hx, hb, hml, hown, hts⟩ := S
  have S : CallFix p m c _ _ s _ lw_all RX0 := ⟨hx, hb, hml, hown, hts⟩
  have hA : ∀ q, s.heap.size ≤ q → DA M s.heap.size q := fun q hq => Or.inr hq
  have hl : lv_has ls 7 [(0, .ref a), (1, .int (iI q_)), (2, .int (iI sh_)), (3, .int (iI k_)), (4, .int (iI w_))] := hl
  have b0 := hI.c
  unfold kCnt at b0
  have h_q_ := R32.n h_q_
  have h_sh_ := R32.n h_sh_
  have h_k_ := R32.n h_k_
  have h_w_ := R32.n h_w_
  have L43 : ∀ (q : Nat) (k : Int), (hg : (0 ≤ q_ ∧ q_ ≤ 11) ∧ (0 ≤ sh_ ∧ sh_ ≤ 3) ∧ (0 ≤ k_ ∧ k_ ≤ σ 2 1752 - 1) ∧ (0 ≤ w_ ∧ w_ ≤ 1)) → (hk0 : 0 ≤ k) → (hk1 : k ≤ σ 2 1752) → (hq : σ 2 1752 < (q : Int) + k) → ∀ (H : Heap) (locs : List Loc) (ls : Array Slot), XV G (DA M s.heap.size) M s.heap H locs → lv_has ls 7 [(0, .ref a), (1, .int (iI q_)), (2, .int (iI sh_)), (3, .int (iI k_)), (4, .int (iI w_)), (5, .int (iI (shN (σ 2) q_ sh_ k.toNat))), (6, .int (iI k))] → W p l e (rmD 3) s m ([.ref a, .int (iI q_), .int (iI sh_), .int (iI k_), .int (iI w_)] : List Value).toArray below meth c H locs 0 0 (MQ below (xQi G (DA M s.heap.size) (fun z M' => z = (shpF (σ 2) q_ sh_ k_ w_) ∧ M' = M)) ([.ref a, .int (iI q_), .int (iI sh_), .int (iI k_), .int (iI w_)] : List Value).toArray s 0 0 (DA M s.heap.size)) (F0 m 43 ls []) := by
    intro q
    induction q with
    | zero => intro k hg hk0 hk1 hq; exfalso; omega
    | succ q ih_43 =>
      intro k hg hk0 hk1 hq H locs ls hH hl
      have hsn := shN_r (sh := sh_) hI hg.1.1 (by omega) k.toNat (by omega)
      have hwk := shA_r (sh := sh_) (k := k_) hI hg.1.1 (by omega) (by omega) (by omega)
      have hww := (hI.w q_ k_ hg.1.1 (by omega) (by omega) (by omega)).1
      have hw2 : k < 8 → 0 ≤ σ 2 (40 + 8 * q_ + k) ∧ σ 2 (40 + 8 * q_ + k) ≤ 1000 := fun h => (hI.w q_ k hg.1.1 (by omega) hk0 h).1
      refine lv_iload hx hb dX0_shape_43 (lv_at hl 6 rfl) ?_
      refine lv_aload_n hx hb dX0_shape_45 rfl (lv_at hl 0 rfl) ?_
      refine x_get hx hb hts in_X0 hown hK hH hR.o rfl 0 (by decide) q339 (fun _ h9 => h9) rfl (by decide) dX0_shape_46 ?_
      refine x_getN hx hb hts in_X1 hown hK hH hR.b0 rfl 1 (by decide) hXN q164 (fun _ h9 => h9) rfl (by decide) dX0_shape_49 ?_
      refine n_icmp_ge (tgt := 102) hx hb (r32 (by omega)) (r32 (by omega)) dX0_shape_52 (by decide) (fun c_52 => ?_) (fun c_52 => ?_)
      · -- 52T
        refine lv_iload hx hb dX0_shape_102 (lv_at hl 5 rfl) ?_
        refine n_if_ne (tgt := 111) hx hb (r32 (by omega)) dX0_shape_104 (by decide) (fun c_104 => ?_) (fun c_104 => ?_)
        · -- 104T
          refine lv_aload_n hx hb dX0_shape_111 rfl (lv_at hl 0 rfl) ?_
          refine x_get hx hb hts in_X0 hown hK hH hR.o rfl 0 (by decide) q339 (fun _ h9 => h9) rfl (by decide) dX0_shape_112 ?_
          refine x_getN hx hb hts in_X1 hown hK hH hR.b0 rfl 8 (by decide) hXN q178 (fun _ h9 => h9) rfl (by decide) dX0_shape_115 ?_
          refine lv_iload_n hx hb dX0_shape_118 rfl (lv_at hl 3 rfl) ?_
          obtain ⟨y1, u1, g1⟩ := hR.kind (i := k_) (by omega) (by omega)
          have g1 : _ = some (oB 5 [.int (iI (σ 2 (136 + 6 * k_ + 0))), .int (iI (σ 2 (136 + 6 * k_ + 1))), .int (iI (σ 2 (136 + 6 * k_ + 2))), .int (iI (σ 2 (136 + 6 * k_ + 3))), .int (iI (σ 2 (136 + 6 * k_ + 5))), .int (iI (σ 2 (136 + 6 * k_ + 4)))]) := g1
          have v1 := hI.k k_ (by omega) (by omega)
          unfold kKind at v1
          refine x_aald hx hb hK hH 5 hR.b8 rfl (by omega) (by omega) (Nat.le_of_ble_eq_true rfl) (v := some y1) u1 dX0_shape_119 ?_
          refine x_getN hx hb hts in_X5 hown hK hH g1 rfl 4 (by decide) hXN q409 (fun _ h9 => h9) rfl (by decide) dX0_shape_120 ?_
          refine lv_iload_n hx hb dX0_shape_123 rfl (lv_at hl 2 rfl) ?_
          refine n_icmp_ne (tgt := 145) hx hb (r32 (by omega)) (r32 (by omega)) dX0_shape_124 (by decide) (fun c_124 => ?_) (fun c_124 => ?_)
          · -- 124T
            have hsa : shA (σ 2) q_ sh_ k_ = 0 := if_neg c_124
            refine n_lconst (z := 0) hx hb dX0_shape_145 (by decide) ?_
            refine lv_iload hx hb dX0_shape_146 (lv_at hl 5 rfl) ?_
            refine n_i2l hx hb (r32 (by omega)) dX0_shape_148 ?_
            refine lv_iload hx hb dX0_shape_149 (lv_at hl 4 rfl) ?_
            refine x_calllF (x_runS (As := [.long (lI 0), .long (lI (shN (σ 2) q_ sh_ k.toNat)), .int (iI w_)]) (rest := []) S hH hK (fun _ _ hW => XN.warm hW hXN) XN_b hl.1 (xm_X0_lowest l G M 0 (shN (σ 2) q_ sh_ k.toNat) w_ _ (by omega) (by omega) (by omega) (by omega) (by omega)) (lw_S q1250 q1251 q105 q1252) kd_X0_lowest rfl rfl dX0_shape_151) hH hA (fun H locs hH => ?_)
            refine W.eq (g2 := F0 m 154 ls (.long (lI (shareF (shA (σ 2) q_ sh_ k_) (shN (σ 2) q_ sh_ k.toNat) w_)) :: [])) (by rw [hsa]) ?_
            have hsh := sh_r (a := shA (σ 2) q_ sh_ k_) (b := shN (σ 2) q_ sh_ k.toNat) (w := w_) (by omega) (by omega) (by omega) (by omega)
            refine n_l2i hx hb dX0_shape_154 ?_
            refine x_iret hx hb hr hlk hH dX0_shape_155 ?_
            refine ⟨?_, rfl⟩
            rw [shpF, if_pos hg, show (σ 2 1752).toNat = k.toNat by omega, if_neg c_104]
          · -- 124F
            have hsa : shA (σ 2) q_ sh_ k_ = σ 2 (40 + 8 * q_ + k_) := if_pos c_124
            refine lv_aload_n hx hb dX0_shape_127 rfl (lv_at hl 0 rfl) ?_
            refine x_get hx hb hts in_X0 hown hK hH hR.o rfl 0 (by decide) q339 (fun _ h9 => h9) rfl (by decide) dX0_shape_128 ?_
            refine x_getN hx hb hts in_X1 hown hK hH hR.b0 rfl 21 (by decide) hXN q204 (fun _ h9 => h9) rfl (by decide) dX0_shape_131 ?_
            refine n_bipush (z := 8) hx hb dX0_shape_134 (by decide) ?_
            refine lv_iload_n hx hb dX0_shape_136 rfl (lv_at hl 1 rfl) ?_
            refine n_imul hx hb dX0_shape_137 ?_
            refine lv_iload_n hx hb dX0_shape_138 rfl (lv_at hl 3 rfl) ?_
            refine n_iadd hx hb dX0_shape_139 ?_
            refine x_iald hx hb hK hH hR.b21 (by omega) (by omega) (Nat.le_of_ble_eq_true rfl) dX0_shape_140 ?_
            refine W.eq (g2 := F0 m 141 ls (.int (iI (σ 2 (40 + ((8 * q_) + k_)))) :: [])) (by first | (rw [hR.z.2.2.2.2 _ (by omega) (by omega)]; done) | (rw [hR.z.2.2.2.2 _ (by omega) (by omega)]; rfl)) ?_
            refine W.eq (g2 := F0 m 141 ls (.int (iI (σ 2 (40 + 8 * q_ + k_))) :: [])) (by rw [show (40 : Int) + (8 * q_ + k_) = 40 + 8 * q_ + k_ by omega]) ?_
            refine n_i2l hx hb (r32 (by omega)) dX0_shape_141 ?_
            refine lv_goto (tgt := 146) hx hb dX0_shape_142 (by decide) ?_
            refine lv_iload hx hb dX0_shape_146 (lv_at hl 5 rfl) ?_
            refine n_i2l hx hb (r32 (by omega)) dX0_shape_148 ?_
            refine lv_iload hx hb dX0_shape_149 (lv_at hl 4 rfl) ?_
            refine x_calllF (x_runS (As := [.long (lI (σ 2 (40 + 8 * q_ + k_))), .long (lI (shN (σ 2) q_ sh_ k.toNat)), .int (iI w_)]) (rest := []) S hH hK (fun _ _ hW => XN.warm hW hXN) XN_b hl.1 (xm_X0_lowest l G M (σ 2 (40 + 8 * q_ + k_)) (shN (σ 2) q_ sh_ k.toNat) w_ _ (by omega) (by omega) (by omega) (by omega) (by omega)) (lw_S q1250 q1251 q105 q1252) kd_X0_lowest rfl rfl dX0_shape_151) hH hA (fun H locs hH => ?_)
            refine W.eq (g2 := F0 m 154 ls (.long (lI (shareF (shA (σ 2) q_ sh_ k_) (shN (σ 2) q_ sh_ k.toNat) w_)) :: [])) (by rw [hsa]) ?_
            have hsh := sh_r (a := shA (σ 2) q_ sh_ k_) (b := shN (σ 2) q_ sh_ k.toNat) (w := w_) (by omega) (by omega) (by omega) (by omega)
            refine n_l2i hx hb dX0_shape_154 ?_
            refine x_iret hx hb hr hlk hH dX0_shape_155 ?_
            refine ⟨?_, rfl⟩
            rw [shpF, if_pos hg, show (σ 2 1752).toNat = k.toNat by omega, if_neg c_104]
        · -- 104F
          refine n_iconst hx hb dX0_shape_107 ?_
          refine lv_goto (tgt := 155) hx hb dX0_shape_108 (by decide) ?_
          refine x_iret hx hb hr hlk hH dX0_shape_155 ?_
          refine ⟨?_, rfl⟩
          rw [shpF, if_pos hg, show (σ 2 1752).toNat = k.toNat by omega, if_pos c_104]
      · -- 52F
        refine lv_iload hx hb dX0_shape_55 (lv_at hl 5 rfl) ?_
        refine lv_aload_n hx hb dX0_shape_57 rfl (lv_at hl 0 rfl) ?_
        refine x_get hx hb hts in_X0 hown hK hH hR.o rfl 0 (by decide) q339 (fun _ h9 => h9) rfl (by decide) dX0_shape_58 ?_
        refine x_getN hx hb hts in_X1 hown hK hH hR.b0 rfl 8 (by decide) hXN q178 (fun _ h9 => h9) rfl (by decide) dX0_shape_61 ?_
        refine lv_iload hx hb dX0_shape_64 (lv_at hl 6 rfl) ?_
        obtain ⟨y2, u2, g2⟩ := hR.kind (i := k) (by omega) (by omega)
        have g2 : _ = some (oB 5 [.int (iI (σ 2 (136 + 6 * k + 0))), .int (iI (σ 2 (136 + 6 * k + 1))), .int (iI (σ 2 (136 + 6 * k + 2))), .int (iI (σ 2 (136 + 6 * k + 3))), .int (iI (σ 2 (136 + 6 * k + 5))), .int (iI (σ 2 (136 + 6 * k + 4)))]) := g2
        have v2 := hI.k k (by omega) (by omega)
        unfold kKind at v2
        refine x_aald hx hb hK hH 5 hR.b8 rfl (by omega) (by omega) (Nat.le_of_ble_eq_true rfl) (v := some y2) u2 dX0_shape_66 ?_
        refine x_getN hx hb hts in_X5 hown hK hH g2 rfl 4 (by decide) hXN q409 (fun _ h9 => h9) rfl (by decide) dX0_shape_67 ?_
        refine lv_iload_n hx hb dX0_shape_70 rfl (lv_at hl 2 rfl) ?_
        refine n_icmp_ne (tgt := 92) hx hb (r32 (by omega)) (r32 (by omega)) dX0_shape_71 (by decide) (fun c_71 => ?_) (fun c_71 => ?_)
        · -- 71T
          refine n_iconst hx hb dX0_shape_92 ?_
          refine n_iadd hx hb dX0_shape_93 ?_
          refine lv_istore hx hb dX0_shape_94 hl (Nat.le_of_ble_eq_true rfl) (lv' := [(5, .int (iI ((shN (σ 2) q_ sh_ k.toNat) + 0))), (0, .ref a), (1, .int (iI q_)), (2, .int (iI sh_)), (3, .int (iI k_)), (4, .int (iI w_)), (6, .int (iI k))]) rfl (fun ls hl => ?_)
          refine n_iinc hx hb dX0_shape_96 hl (k := 6) rfl (Nat.le_of_ble_eq_true rfl) (lv' := [(6, .int (iI (k + 1))), (5, .int (iI ((shN (σ 2) q_ sh_ k.toNat) + 0))), (0, .ref a), (1, .int (iI q_)), (2, .int (iI sh_)), (3, .int (iI k_)), (4, .int (iI w_))]) rfl (fun ls hl => ?_)
          refine lv_goto (tgt := 43) hx hb dX0_shape_99 (by decide) ?_
          have hl : lv_has ls 7 [(0, .ref a), (1, .int (iI q_)), (2, .int (iI sh_)), (3, .int (iI k_)), (4, .int (iI w_)), (5, .int (iI ((shN (σ 2) q_ sh_ k.toNat) + 0))), (6, .int (iI (k + 1)))] := lv_sub hl [2, 3, 4, 5, 6, 1, 0] rfl
          have hl : lv_has ls 7 [(0, .ref a), (1, .int (iI q_)), (2, .int (iI sh_)), (3, .int (iI k_)), (4, .int (iI w_)), (5, .int (iI (shN (σ 2) q_ sh_ (k + 1).toNat))), (6, .int (iI (k + 1)))] := by rw [shN_e hk0, show shA (σ 2) q_ sh_ k = 0 from if_neg c_71]; exact hl
          refine ih_43 (k + 1) ?_ ?_ ?_ ?_ _ _ _ hH hl
          · exact hg
          · omega
          · omega
          · omega
        · -- 71F
          refine lv_aload_n hx hb dX0_shape_74 rfl (lv_at hl 0 rfl) ?_
          refine x_get hx hb hts in_X0 hown hK hH hR.o rfl 0 (by decide) q339 (fun _ h9 => h9) rfl (by decide) dX0_shape_75 ?_
          refine x_getN hx hb hts in_X1 hown hK hH hR.b0 rfl 21 (by decide) hXN q204 (fun _ h9 => h9) rfl (by decide) dX0_shape_78 ?_
          refine n_bipush (z := 8) hx hb dX0_shape_81 (by decide) ?_
          refine lv_iload_n hx hb dX0_shape_83 rfl (lv_at hl 1 rfl) ?_
          refine n_imul hx hb dX0_shape_84 ?_
          refine lv_iload hx hb dX0_shape_85 (lv_at hl 6 rfl) ?_
          refine n_iadd hx hb dX0_shape_87 ?_
          refine x_iald hx hb hK hH hR.b21 (by omega) (by omega) (Nat.le_of_ble_eq_true rfl) dX0_shape_88 ?_
          refine W.eq (g2 := F0 m 89 ls (.int (iI (σ 2 (40 + ((8 * q_) + k)))) :: .int (iI (shN (σ 2) q_ sh_ k.toNat)) :: [])) (by first | (rw [hR.z.2.2.2.2 _ (by omega) (by omega)]; done) | (rw [hR.z.2.2.2.2 _ (by omega) (by omega)]; rfl)) ?_
          refine W.eq (g2 := F0 m 89 ls (.int (iI (σ 2 (40 + 8 * q_ + k))) :: .int (iI (shN (σ 2) q_ sh_ k.toNat)) :: [])) (by rw [show (40 : Int) + (8 * q_ + k) = 40 + 8 * q_ + k by omega]) ?_
          refine lv_goto (tgt := 93) hx hb dX0_shape_89 (by decide) ?_
          refine n_iadd hx hb dX0_shape_93 ?_
          refine lv_istore hx hb dX0_shape_94 hl (Nat.le_of_ble_eq_true rfl) (lv' := [(5, .int (iI ((shN (σ 2) q_ sh_ k.toNat) + (σ 2 (40 + 8 * q_ + k))))), (0, .ref a), (1, .int (iI q_)), (2, .int (iI sh_)), (3, .int (iI k_)), (4, .int (iI w_)), (6, .int (iI k))]) rfl (fun ls hl => ?_)
          refine n_iinc hx hb dX0_shape_96 hl (k := 6) rfl (Nat.le_of_ble_eq_true rfl) (lv' := [(6, .int (iI (k + 1))), (5, .int (iI ((shN (σ 2) q_ sh_ k.toNat) + (σ 2 (40 + 8 * q_ + k))))), (0, .ref a), (1, .int (iI q_)), (2, .int (iI sh_)), (3, .int (iI k_)), (4, .int (iI w_))]) rfl (fun ls hl => ?_)
          refine lv_goto (tgt := 43) hx hb dX0_shape_99 (by decide) ?_
          have hl : lv_has ls 7 [(0, .ref a), (1, .int (iI q_)), (2, .int (iI sh_)), (3, .int (iI k_)), (4, .int (iI w_)), (5, .int (iI ((shN (σ 2) q_ sh_ k.toNat) + (σ 2 (40 + 8 * q_ + k))))), (6, .int (iI (k + 1)))] := lv_sub hl [2, 3, 4, 5, 6, 1, 0] rfl
          have hl : lv_has ls 7 [(0, .ref a), (1, .int (iI q_)), (2, .int (iI sh_)), (3, .int (iI k_)), (4, .int (iI w_)), (5, .int (iI (shN (σ 2) q_ sh_ (k + 1).toNat))), (6, .int (iI (k + 1)))] := by rw [shN_e hk0, show shA (σ 2) q_ sh_ k = σ 2 (40 + 8 * q_ + k) from if_pos c_71]; exact hl
          refine ih_43 (k + 1) ?_ ?_ ?_ ?_ _ _ _ hH hl
          · exact hg
          · omega
          · omega
          · omega
  refine lv_iload_n hx hb dX0_shape_0 rfl (lv_at hl 1 rfl) ?_
  refine x_calliF (x_runS (As := [.int (iI q_)]) (rest := []) S hH hK (fun _ _ hW => XN.warm hW hXN) XN_b hl.1 (xm_X0_isPlace l G M q_ _ (r32 (by omega))) (lw_S q444 q445 q105 q446) kd_X0_isPlace rfl rfl dX0_shape_1) hH hA (fun H locs hH => ?_)
  refine z_if_eq (tgt := 35) hx hb dX0_shape_4 (by decide) (fun c_4 => ?_) (fun c_4 => ?_)
  · -- 4T
    refine n_iconst hx hb dX0_shape_35 ?_
    refine x_iret hx hb hr hlk hH dX0_shape_36 ?_
    refine ⟨?_, rfl⟩
    exact (if_neg (by omega)).symm
  · -- 4F
    refine lv_iload_n hx hb dX0_shape_7 rfl (lv_at hl 2 rfl) ?_
    refine n_i2l hx hb (r32 (by omega)) dX0_shape_8 ?_
    refine n_lconst (z := 0) hx hb dX0_shape_9 (by decide) ?_
    refine lv_ldc2 (v := lI 3) hx hb hown (hts _ q392) dX0_shape_10 ?_
    refine x_calliF (x_runS (As := [.long (lI sh_), .long (lI 0), .long (lI 3)]) (rest := []) S hH hK (fun _ _ hW => XN.warm hW hXN) XN_b hl.1 (xm_X0_in l G M sh_ 0 3 _ (r64 (by omega)) (r64 (by omega)) (r64 (by omega))) (lw_S q386 q387 q105 q388) kd_X0_in rfl rfl dX0_shape_13) hH hA (fun H locs hH => ?_)
    refine z_if_eq (tgt := 35) hx hb dX0_shape_16 (by decide) (fun c_16 => ?_) (fun c_16 => ?_)
    · -- 16T
      refine n_iconst hx hb dX0_shape_35 ?_
      refine x_iret hx hb hr hlk hH dX0_shape_36 ?_
      refine ⟨?_, rfl⟩
      exact (if_neg (by omega)).symm
    · -- 16F
      refine lv_aload_n hx hb dX0_shape_19 rfl (lv_at hl 0 rfl) ?_
      refine lv_iload_n hx hb dX0_shape_20 rfl (lv_at hl 3 rfl) ?_
      refine x_calliF (x_runV (As := [.int (iI k_)]) (rest := []) S hH hK (fun _ _ hW => XN.warm hW hXN) XN_b hl.1 hR.o rfl (xm_X0_isKind l G M σ x ω a k_ _ hR (r32 (by omega)) (by omega) (by omega)) (lw_V q448 q450 qs2 q105 q451) kd_X0_isKind rfl rfl dX0_shape_21) hH hA (fun H locs hH => ?_)
      refine z_if_eq (tgt := 35) hx hb dX0_shape_24 (by decide) (fun c_24 => ?_) (fun c_24 => ?_)
      · -- 24T
        refine n_iconst hx hb dX0_shape_35 ?_
        refine x_iret hx hb hr hlk hH dX0_shape_36 ?_
        refine ⟨?_, rfl⟩
        exact (if_neg (by omega)).symm
      · -- 24F
        refine lv_iload hx hb dX0_shape_27 (lv_at hl 4 rfl) ?_
        refine x_calliF (x_runS (As := [.int (iI w_)]) (rest := []) S hH hK (fun _ _ hW => XN.warm hW hXN) XN_b hl.1 (xm_X0_isPart l G M w_ _ (r32 (by omega))) (lw_S q1246 q1247 q105 q1248) kd_X0_isPart rfl rfl dX0_shape_29) hH hA (fun H locs hH => ?_)
        refine z_if_ne (tgt := 37) hx hb dX0_shape_32 (by decide) (fun c_32 => ?_) (fun c_32 => ?_)
        · -- 32T
          refine n_iconst hx hb dX0_shape_37 ?_
          refine lv_istore hx hb dX0_shape_38 hl (Nat.le_of_ble_eq_true rfl) (lv' := [(5, .int (iI 0)), (0, .ref a), (1, .int (iI q_)), (2, .int (iI sh_)), (3, .int (iI k_)), (4, .int (iI w_))]) rfl (fun ls hl => ?_)
          refine n_iconst hx hb dX0_shape_40 ?_
          refine lv_istore hx hb dX0_shape_41 hl (Nat.le_of_ble_eq_true rfl) (lv' := [(6, .int (iI 0)), (5, .int (iI 0)), (0, .ref a), (1, .int (iI q_)), (2, .int (iI sh_)), (3, .int (iI k_)), (4, .int (iI w_))]) rfl (fun ls hl => ?_)
          have hl : lv_has ls 7 [(0, .ref a), (1, .int (iI q_)), (2, .int (iI sh_)), (3, .int (iI k_)), (4, .int (iI w_)), (5, .int (iI 0)), (6, .int (iI 0))] := lv_sub hl [2, 3, 4, 5, 6, 1, 0] rfl
          have hl : lv_has ls 7 [(0, .ref a), (1, .int (iI q_)), (2, .int (iI sh_)), (3, .int (iI k_)), (4, .int (iI w_)), (5, .int (iI (shN (σ 2) q_ sh_ (0 : Int).toNat))), (6, .int (iI 0))] := by exact hl
          refine L43 20 0 ?_ ?_ ?_ ?_ _ _ _ hH hl
          · omega
          · omega
          · omega
          · omega
        · -- 32F
          refine n_iconst hx hb dX0_shape_35 ?_
          refine x_iret hx hb hr hlk hH dX0_shape_36 ?_
          refine ⟨?_, rfl⟩
          exact (if_neg (by omega)).symm
theorem kd_X2_heatedTo : yX2_heatedTo.cls = RX2 ∧ yX2_heatedTo.cls ≠ "java/lang/invoke/MethodHandle" ∧ yX2_heatedTo.cls ≠ "java/lang/invoke/VarHandle" ∧ (parseMethodDescriptor yX2_heatedTo.desc).map (fun d => d.parameters.length) = some 2 := by decide +kernel
theorem xt_X2_heatedTo (l : Launch) (G : MG) (M : Hp) (σ : St) (n_ : Nat) (f_ : Int → Int) (t_ : Int) (c_ : Nat) (h_ : Int) (m_ : Int) (sz : Nat) (hI : KI (σ 2)) (ht : 0 ≤ t_ ∧ t_ < σ 2 1754) (gc1 : M c_ = some (oB 9 [.ref n_, .int (iI 0), .int (iI (σ 2 (1224 + 10 * t_ + 9)))])) (gc2 : M n_ = some (aI (G.2.1 0) 9 f_)) (gc3 : ∀ j, 0 ≤ j → j < 9 → f_ j = loA (σ 2) t_ j) (hh0 : 0 ≤ h_ ∧ h_ ≤ 7) (hm0 : 1 ≤ m_ ∧ m_ ≤ 255) : Met l yX2_heatedTo (ws_ yX2_heatedTo cX2_heatedTo 3 (some .int)) (rmD 1) (xP G XN [.ref c_, .int (iI h_), .int (iI m_)] M sz) (xQi G (DA M sz) (fun z M' => z = (if loA (σ 2) t_ 2 = h_ then loA (σ 2) t_ 3 - m_ else loA (σ 2) t_ 2 - h_) ∧ M' = M)) 0 0 (DA M sz) := by
  refine x_start (by decide) (Nat.le_of_ble_eq_true rfl) ?_
  intro p e s m below meth c ⟨S, hr, hlk, hH, hK, hXN, hsz, hnm⟩ ls hl
  subst hsz
  obtain ⟨hx, hb, hml, hown, hts⟩ := S
  have S : CallFix p m c _ _ s _ lw_all RX2 := ⟨hx, hb, hml, hown, hts⟩
  have hA : ∀ q, s.heap.size ≤ q → DA M s.heap.size q := fun q hq => Or.inr hq
  have hl : lv_has ls 3 [(0, .ref c_), (1, .int (iI h_)), (2, .int (iI m_))] := hl
  have hcl := (hI.o t_ (by omega) (by omega)).1
  unfold caseOK at hcl
  have hcl : (0 ≤ loA (σ 2) t_ 0 ∧ loA (σ 2) t_ 0 ≤ 5) ∧ (0 ≤ loA (σ 2) t_ 1 ∧ loA (σ 2) t_ 1 ≤ 5) ∧ (0 ≤ loA (σ 2) t_ 2 ∧ loA (σ 2) t_ 2 ≤ 7) ∧ (0 ≤ loA (σ 2) t_ 3 ∧ loA (σ 2) t_ 3 ≤ 255) ∧ (0 ≤ loA (σ 2) t_ 4 ∧ loA (σ 2) t_ 4 ≤ 255) ∧ (0 ≤ loA (σ 2) t_ 5 ∧ loA (σ 2) t_ 5 ≤ 11) ∧ (0 ≤ loA (σ 2) t_ 6 ∧ loA (σ 2) t_ 6 ≤ 255) ∧ (0 ≤ loA (σ 2) t_ 7 ∧ loA (σ 2) t_ 7 ≤ 1) ∧ (0 ≤ loA (σ 2) t_ 8 ∧ loA (σ 2) t_ 8 ≤ 3) := hcl
  refine lv_aload_n hx hb dX2_heatedTo_0 rfl (lv_at hl 0 rfl) ?_
  refine x_get hx hb hts in_X10 hown hK hH gc1 rfl 0 (by decide) q258 (fun _ h9 => h9) rfl (by decide) dX2_heatedTo_1 ?_
  refine n_iconst hx hb dX2_heatedTo_4 ?_
  refine x_iald hx hb hK hH gc2 (by omega) (by omega) (Nat.le_of_ble_eq_true rfl) dX2_heatedTo_5 ?_
  refine W.eq (g2 := F0 m 6 ls (.int (iI (loA (σ 2) t_ 2)) :: [])) (by first | (rw [gc3 _ (by omega) (by omega)]; done) | (rw [gc3 _ (by omega) (by omega)]; rfl)) ?_
  refine lv_iload_n hx hb dX2_heatedTo_6 rfl (lv_at hl 1 rfl) ?_
  refine n_icmp_eq (tgt := 21) hx hb (r32 (by omega)) (r32 (by omega)) dX2_heatedTo_7 (by decide) (fun c_7 => ?_) (fun c_7 => ?_)
  · -- 7T
    refine lv_aload_n hx hb dX2_heatedTo_21 rfl (lv_at hl 0 rfl) ?_
    refine x_get hx hb hts in_X10 hown hK hH gc1 rfl 0 (by decide) q258 (fun _ h9 => h9) rfl (by decide) dX2_heatedTo_22 ?_
    refine n_iconst hx hb dX2_heatedTo_25 ?_
    refine x_iald hx hb hK hH gc2 (by omega) (by omega) (Nat.le_of_ble_eq_true rfl) dX2_heatedTo_26 ?_
    refine W.eq (g2 := F0 m 27 ls (.int (iI (loA (σ 2) t_ 3)) :: [])) (by first | (rw [gc3 _ (by omega) (by omega)]; done) | (rw [gc3 _ (by omega) (by omega)]; rfl)) ?_
    refine lv_iload_n hx hb dX2_heatedTo_27 rfl (lv_at hl 2 rfl) ?_
    refine n_isub hx hb dX2_heatedTo_28 ?_
    refine x_iret hx hb hr hlk hH dX2_heatedTo_29 ?_
    refine ⟨?_, rfl⟩
    exact (if_pos (by omega)).symm
  · -- 7F
    refine lv_aload_n hx hb dX2_heatedTo_10 rfl (lv_at hl 0 rfl) ?_
    refine x_get hx hb hts in_X10 hown hK hH gc1 rfl 0 (by decide) q258 (fun _ h9 => h9) rfl (by decide) dX2_heatedTo_11 ?_
    refine n_iconst hx hb dX2_heatedTo_14 ?_
    refine x_iald hx hb hK hH gc2 (by omega) (by omega) (Nat.le_of_ble_eq_true rfl) dX2_heatedTo_15 ?_
    refine W.eq (g2 := F0 m 16 ls (.int (iI (loA (σ 2) t_ 2)) :: [])) (by first | (rw [gc3 _ (by omega) (by omega)]; done) | (rw [gc3 _ (by omega) (by omega)]; rfl)) ?_
    refine lv_iload_n hx hb dX2_heatedTo_16 rfl (lv_at hl 1 rfl) ?_
    refine n_isub hx hb dX2_heatedTo_17 ?_
    refine lv_goto (tgt := 29) hx hb dX2_heatedTo_18 (by decide) ?_
    refine x_iret hx hb hr hlk hH dX2_heatedTo_29 ?_
    refine ⟨?_, rfl⟩
    exact (if_neg (by omega)).symm
