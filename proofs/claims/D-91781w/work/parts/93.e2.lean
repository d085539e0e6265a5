theorem kd_X15_of : yX15_of.cls = RX15 ∧ yX15_of.cls ≠ "java/lang/invoke/MethodHandle" ∧ yX15_of.cls ≠ "java/lang/invoke/VarHandle" ∧ (parseMethodDescriptor yX15_of.desc).map (fun d => d.parameters.length) = some 1 := by decide +kernel
theorem xm_X15_of (l : Launch) (G : MG) (M : Hp) (n : Nat) (q_ : Nat) (r_ : Nat) (sg : Int) (f1 : Mean) (f2 : Mean) (ci : Nat) (nb : Nat) (t : Int) (g : Int → Int) (a : Nat) (c_ : Nat) (sz : Nat) (IH : VS l G n) (fa : M a = some (oB 13 [.ref q_, .ref r_, .int (iI sg)])) (hsg : sg = 43 ∨ sg = 45 ∨ sg = 42 ∨ sg = 47) (hs1 : SumAt n (hN M) q_ f1) (hs2 : SumAt n (hN M) r_ f2) (hC : CsH G M c_ ci nb 0 t g) : Met l yX15_of (ws_ yX15_of cX15_of 6 (some .long)) (rmD (n + 1 + 3)) (gP G.1 clA (tyA G.2.1) XN [.ref a, .ref c_] M sz) (gQl G.1 clA (DA M sz) (fun z M' => oE (joinF (100 + sg) f1 f2) g M c_ ci nb t z M')) 0 0 (DA M sz) := by
  refine g_start (by decide) (Nat.le_of_ble_eq_true rfl) ?_
  intro p e s m below meth c ⟨S, hr, hlk, hH, hK, hXN, hsz, hnm⟩ ls hl
  subst hsz
  obtain ⟨hx, hb, hml, hown, hts⟩ := S
  have S : CallFix p m c _ _ s _ lw_all RX15 := ⟨hx, hb, hml, hown, hts⟩
  have hA : ∀ q, s.heap.size ≤ q → DA M s.heap.size q := fun q hq => Or.inr hq
  have hl : lv_has ls 6 [(0, .ref a), (1, .ref c_)] := hl
  refine lv_aload_n hx hb dX15_of_0 rfl (lv_at hl 0 rfl) ?_
  refine g_get (ci := 13) hx hb hts in_X15 hown hK hH fa rfl 0 (by decide) (hts _ q1026) (fun _ h9 => h9) rfl dX15_of_1 ?_
  refine lv_aload_n hx hb dX15_of_4 rfl (lv_at hl 1 rfl) ?_
  refine g_calll (sum_run S hH hK hXN hl.1 IH hs1 hC q1192 dX15_of_5 ⟨by dsimp only [rmD]; omega, by dsimp only [rmD]; omega⟩ ⟨Nat.le_of_ble_eq_true rfl, Nat.le_of_ble_eq_true rfl⟩ (Nat.le_of_ble_eq_true rfl)) hH hA (fun z5 M5_ H locs q_5 hH hz_5 => ?_)
  rcases q_5 with ⟨e5, g5⟩ | ⟨e5, g5⟩
  · -- 5s
    have hH := HV_to hH g5
    refine lv_lstore_n hx hb dX15_of_8 rfl hl (Nat.le_of_ble_eq_true rfl) (lv' := [(2, .long (lI z5)), (0, .ref a), (1, .ref c_)]) rfl (fun ls hl => ?_)
    refine lv_aload_n hx hb dX15_of_9 rfl (lv_at hl 2 rfl) ?_
    refine e_brk hx hb hts hown hK hH hC.1 hC.2.1 q266 dX15_of_10 ?_
    refine n_if_eq (tgt := 20) hx hb (r32 (by omega)) dX15_of_13 (by decide) (fun _ => ?_) (fun h => absurd h (by decide))
    refine lv_aload_n hx hb dX15_of_20 rfl (lv_at hl 1 rfl) ?_
    refine g_get (ci := 13) hx hb hts in_X15 hown hK hH fa rfl 1 (by decide) (hts _ q1027) (fun _ h9 => h9) rfl dX15_of_21 ?_
    refine lv_aload_n hx hb dX15_of_24 rfl (lv_at hl 2 rfl) ?_
    refine g_calll (sum_run S hH hK hXN hl.1 IH hs2 hC q1192 dX15_of_25 ⟨by dsimp only [rmD]; omega, by dsimp only [rmD]; omega⟩ ⟨Nat.le_of_ble_eq_true rfl, Nat.le_of_ble_eq_true rfl⟩ (Nat.le_of_ble_eq_true rfl)) hH hA (fun z25 M25_ H locs q_25 hH hz_25 => ?_)
    rcases q_25 with ⟨e25, g25⟩ | ⟨e25, g25⟩
    · -- 25s
      have hH := HV_to hH g25
      have hb5 := SumAt_B hC.2.2.2 hs1 z5 e5
      have hb25 := SumAt_B hC.2.2.2 hs2 z25 e25
      have hm5 := mul_b hb5 hb25
      have htd := tdiv_b (y := z25) hb5
      refine lv_lstore hx hb dX15_of_28 hl (Nat.le_of_ble_eq_true rfl) (lv' := [(4, .long (lI z25)), (2, .long (lI z5)), (0, .ref a), (1, .ref c_)]) rfl (fun ls hl => ?_)
      refine lv_aload_n hx hb dX15_of_30 rfl (lv_at hl 3 rfl) ?_
      refine e_brk hx hb hts hown hK hH hC.1 hC.2.1 q266 dX15_of_31 ?_
      refine n_if_eq (tgt := 39) hx hb (r32 (by omega)) dX15_of_34 (by decide) (fun _ => ?_) (fun h => absurd h (by decide))
      refine lv_aload_n hx hb dX15_of_39 rfl (lv_at hl 2 rfl) ?_
      refine g_get (ci := 13) hx hb hts in_X15 hown hK hH fa rfl 2 (by decide) (hts _ q1028) (fun _ h9 => h9) rfl dX15_of_40 ?_
      refine n_bipush (z := 47) hx hb dX15_of_43 (by decide) ?_
      refine n_icmp_ne (tgt := 80) hx hb (r32 (by omega)) (r32 (by omega)) dX15_of_45 (by decide) (fun c_45 => ?_) (fun c_45 => ?_)
      · -- 45T
        refine lv_aload_n hx hb dX15_of_80 rfl (lv_at hl 3 rfl) ?_
        refine lv_aload_n hx hb dX15_of_81 rfl (lv_at hl 2 rfl) ?_
        refine g_get (ci := 13) hx hb hts in_X15 hown hK hH fa rfl 2 (by decide) (hts _ q1028) (fun _ h9 => h9) rfl dX15_of_82 ?_
        refine n_bipush (z := 43) hx hb dX15_of_85 (by decide) ?_
        refine n_icmp_ne (tgt := 97) hx hb (r32 (by omega)) (r32 (by omega)) dX15_of_87 (by decide) (fun c_87 => ?_) (fun c_87 => ?_)
        · -- 87T
          refine lv_aload_n hx hb dX15_of_97 rfl (lv_at hl 2 rfl) ?_
          refine g_get (ci := 13) hx hb hts in_X15 hown hK hH fa rfl 2 (by decide) (hts _ q1028) (fun _ h9 => h9) rfl dX15_of_98 ?_
          refine n_bipush (z := 45) hx hb dX15_of_101 (by decide) ?_
          refine n_icmp_ne (tgt := 113) hx hb (r32 (by omega)) (r32 (by omega)) dX15_of_103 (by decide) (fun c_103 => ?_) (fun c_103 => ?_)
          · -- 103T
            refine lv_lload_n hx hb dX15_of_113 rfl (lv_at hl 1 rfl) ?_
            refine lv_lload hx hb dX15_of_114 (lv_at hl 0 rfl) ?_
            refine n_lmul hx hb dX15_of_116 ?_
            refine g_calll (wit_run S hH hK hXN hl.1 hC (r64 (by omega)) q1195 dX15_of_117 ⟨by dsimp only [rmD]; omega, by dsimp only [rmD]; omega⟩ ⟨Nat.le_of_ble_eq_true rfl, Nat.le_of_ble_eq_true rfl⟩ (Nat.le_of_ble_eq_true rfl)) hH hA (fun z117 M117_ H locs q_117 hH hz_117 => ?_)
            rcases q_117 with ⟨e117, g117⟩ | ⟨e117, g117⟩
            · -- 117s
              have hH := HV_to hH g117
              refine g_lret hx hb hr hlk hH dX15_of_120 ?_
              exact Or.inl ⟨by rw [joinF_v (by omega) e5 e25, ← e117]; congr 1; unfold opV; (repeat' split) <;> first | rfl | (exfalso; omega), rfl⟩
            · -- 117n
              have hH := HV_to hH g117
              have fa2 := (hs_n (ne_oc fa hC.1 hC.2.1 (by decide)) : hs M c_ (csE ci nb 1 t) a = _).trans fa
              refine g_lret hx hb hr hlk hH dX15_of_120 ?_
              exact Or.inr ⟨by rw [joinF_v (by omega) e5 e25, ← e117]; congr 1; unfold opV; (repeat' split) <;> first | rfl | (exfalso; omega), rfl⟩
          · -- 103F
            refine lv_lload_n hx hb dX15_of_106 rfl (lv_at hl 1 rfl) ?_
            refine lv_lload hx hb dX15_of_107 (lv_at hl 0 rfl) ?_
            refine n_lsub hx hb dX15_of_109 ?_
            refine lv_goto (tgt := 117) hx hb dX15_of_110 (by decide) ?_
            refine g_calll (wit_run S hH hK hXN hl.1 hC (r64 (by omega)) q1195 dX15_of_117 ⟨by dsimp only [rmD]; omega, by dsimp only [rmD]; omega⟩ ⟨Nat.le_of_ble_eq_true rfl, Nat.le_of_ble_eq_true rfl⟩ (Nat.le_of_ble_eq_true rfl)) hH hA (fun z117 M117_ H locs q_117 hH hz_117 => ?_)
            rcases q_117 with ⟨e117, g117⟩ | ⟨e117, g117⟩
            · -- 117s
              have hH := HV_to hH g117
              refine g_lret hx hb hr hlk hH dX15_of_120 ?_
              exact Or.inl ⟨by rw [joinF_v (by omega) e5 e25, ← e117]; congr 1; unfold opV; (repeat' split) <;> first | rfl | (exfalso; omega), rfl⟩
            · -- 117n
              have hH := HV_to hH g117
              have fa2 := (hs_n (ne_oc fa hC.1 hC.2.1 (by decide)) : hs M c_ (csE ci nb 1 t) a = _).trans fa
              refine g_lret hx hb hr hlk hH dX15_of_120 ?_
              exact Or.inr ⟨by rw [joinF_v (by omega) e5 e25, ← e117]; congr 1; unfold opV; (repeat' split) <;> first | rfl | (exfalso; omega), rfl⟩
        · -- 87F
          refine lv_lload_n hx hb dX15_of_90 rfl (lv_at hl 1 rfl) ?_
          refine lv_lload hx hb dX15_of_91 (lv_at hl 0 rfl) ?_
          refine n_ladd hx hb dX15_of_93 ?_
          refine lv_goto (tgt := 117) hx hb dX15_of_94 (by decide) ?_
          refine g_calll (wit_run S hH hK hXN hl.1 hC (r64 (by omega)) q1195 dX15_of_117 ⟨by dsimp only [rmD]; omega, by dsimp only [rmD]; omega⟩ ⟨Nat.le_of_ble_eq_true rfl, Nat.le_of_ble_eq_true rfl⟩ (Nat.le_of_ble_eq_true rfl)) hH hA (fun z117 M117_ H locs q_117 hH hz_117 => ?_)
          rcases q_117 with ⟨e117, g117⟩ | ⟨e117, g117⟩
          · -- 117s
            have hH := HV_to hH g117
            refine g_lret hx hb hr hlk hH dX15_of_120 ?_
            exact Or.inl ⟨by rw [joinF_v (by omega) e5 e25, ← e117]; congr 1; unfold opV; (repeat' split) <;> first | rfl | (exfalso; omega), rfl⟩
          · -- 117n
            have hH := HV_to hH g117
            have fa2 := (hs_n (ne_oc fa hC.1 hC.2.1 (by decide)) : hs M c_ (csE ci nb 1 t) a = _).trans fa
            refine g_lret hx hb hr hlk hH dX15_of_120 ?_
            exact Or.inr ⟨by rw [joinF_v (by omega) e5 e25, ← e117]; congr 1; unfold opV; (repeat' split) <;> first | rfl | (exfalso; omega), rfl⟩
      · -- 45F
        refine lv_aload_n hx hb dX15_of_48 rfl (lv_at hl 3 rfl) ?_
        refine lv_lload hx hb dX15_of_49 (lv_at hl 0 rfl) ?_
        refine n_lconst (z := 0) hx hb dX15_of_51 (by decide) ?_
        refine n_lcmp_ne (tgt := 60) hx hb (r64 (by omega)) (r64 (by omega)) dX15_of_52 dX15_of_53 (by decide) (fun c_52 => ?_) (fun c_52 => ?_)
        · -- 52T
          refine n_iconst hx hb dX15_of_60 ?_
          refine e_setb hx hb hts hown hK hH hC.1 hC.2.1 q266 (Or.inl rfl) dX15_of_61 (fun H locs hH => ?_)
          have f1 : hs M c_ (csE ci nb 0 t) c_ = some (csE ci nb 0 t) := hs_s
          obtain ⟨M1, e_M1⟩ : ∃ M1, M1 = hs M c_ (csE ci nb 0 t) := ⟨_, rfl⟩
          have hH := HV_to hH e_M1.symm
          have f1 : M1 c_ = some (csE ci nb 0 t) := by rw [e_M1]; exact hs_s
          have f2 : M1 a = some (oB 13 [.ref q_, .ref r_, .int (iI sg)]) := by rw [e_M1]; exact (hs_n (ne_oc fa hC.1 hC.2.1 (by decide))).trans fa
          refine lv_lload hx hb dX15_of_64 (lv_at hl 0 rfl) ?_
          refine n_lconst (z := 0) hx hb dX15_of_66 (by decide) ?_
          refine n_lcmp_ne (tgt := 75) hx hb (r64 (by omega)) (r64 (by omega)) dX15_of_67 dX15_of_68 (by decide) (fun c_67 => ?_) (fun c_67 => ?_)
          · -- 67T
            refine lv_lload_n hx hb dX15_of_75 rfl (lv_at hl 1 rfl) ?_
            refine lv_lload hx hb dX15_of_76 (lv_at hl 0 rfl) ?_
            refine n_ldiv hx hb c_67 (r64 (by omega)) (r64 (by omega)) (r64 (by omega)) dX15_of_78 ?_
            refine g_lret hx hb hr hlk hH dX15_of_79 ?_
            first | exact Or.inr ⟨by rw [show 100 + sg = 147 by omega, joinF_d e5 e25, if_pos (by assumption)], by assumption⟩ | exact Or.inl ⟨by rw [show 100 + sg = 147 by omega, joinF_d e5 e25, if_neg (by assumption)], (by assumption : _ = hs M c_ _).trans (hs_id hC.1)⟩
          · exact absurd c_67 c_52
        · -- 52F
          refine n_iconst hx hb dX15_of_56 ?_
          refine lv_goto (tgt := 61) hx hb dX15_of_57 (by decide) ?_
          refine e_setb hx hb hts hown hK hH hC.1 hC.2.1 q266 (Or.inr rfl) dX15_of_61 (fun H locs hH => ?_)
          have f3 : hs M c_ (csE ci nb 1 t) c_ = some (csE ci nb 1 t) := hs_s
          obtain ⟨M3, e_M3⟩ : ∃ M3, M3 = hs M c_ (csE ci nb 1 t) := ⟨_, rfl⟩
          have hH := HV_to hH e_M3.symm
          have f3 : M3 c_ = some (csE ci nb 1 t) := by rw [e_M3]; exact hs_s
          have f4 : M3 a = some (oB 13 [.ref q_, .ref r_, .int (iI sg)]) := by rw [e_M3]; exact (hs_n (ne_oc fa hC.1 hC.2.1 (by decide))).trans fa
          refine lv_lload hx hb dX15_of_64 (lv_at hl 0 rfl) ?_
          refine n_lconst (z := 0) hx hb dX15_of_66 (by decide) ?_
          refine n_lcmp_ne (tgt := 75) hx hb (r64 (by omega)) (r64 (by omega)) dX15_of_67 dX15_of_68 (by decide) (fun c_67 => ?_) (fun c_67 => ?_)
          · exact absurd c_52 c_67
          · -- 67F
            refine n_lconst (z := 0) hx hb dX15_of_71 (by decide) ?_
            refine lv_goto (tgt := 79) hx hb dX15_of_72 (by decide) ?_
            refine g_lret hx hb hr hlk hH dX15_of_79 ?_
            first | exact Or.inr ⟨by rw [show 100 + sg = 147 by omega, joinF_d e5 e25, if_pos (by assumption)], by assumption⟩ | exact Or.inl ⟨by rw [show 100 + sg = 147 by omega, joinF_d e5 e25, if_neg (by assumption)], (by assumption : _ = hs M c_ _).trans (hs_id hC.1)⟩
    · -- 25n
      have hH := HV_to hH g25
      have fa2 := (hs_n (ne_oc fa hC.1 hC.2.1 (by decide)) : hs M c_ (csE ci nb 1 t) a = _).trans fa
      refine lv_lstore hx hb dX15_of_28 hl (Nat.le_of_ble_eq_true rfl) (lv' := [(4, .long (lI z25)), (2, .long (lI z5)), (0, .ref a), (1, .ref c_)]) rfl (fun ls hl => ?_)
      refine lv_aload_n hx hb dX15_of_30 rfl (lv_at hl 3 rfl) ?_
      refine e_brk hx hb hts hown hK hH hs_s hC.2.1 q266 dX15_of_31 ?_
      refine n_if_eq (tgt := 39) hx hb (r32 (by omega)) dX15_of_34 (by decide) (fun h => absurd h (by decide)) (fun _ => ?_)
      refine n_lconst (z := 0) hx hb dX15_of_37 (by decide) ?_
      refine g_lret hx hb hr hlk hH dX15_of_38 ?_
      exact Or.inr ⟨joinF_n2 e25, rfl⟩
  · -- 5n
    have hH := HV_to hH g5
    have fa2 := (hs_n (ne_oc fa hC.1 hC.2.1 (by decide)) : hs M c_ (csE ci nb 1 t) a = _).trans fa
    refine lv_lstore_n hx hb dX15_of_8 rfl hl (Nat.le_of_ble_eq_true rfl) (lv' := [(2, .long (lI z5)), (0, .ref a), (1, .ref c_)]) rfl (fun ls hl => ?_)
    refine lv_aload_n hx hb dX15_of_9 rfl (lv_at hl 2 rfl) ?_
    refine e_brk hx hb hts hown hK hH hs_s hC.2.1 q266 dX15_of_10 ?_
    refine n_if_eq (tgt := 20) hx hb (r32 (by omega)) dX15_of_13 (by decide) (fun h => absurd h (by decide)) (fun _ => ?_)
    refine n_lconst (z := 0) hx hb dX15_of_16 (by decide) ?_
    refine lv_goto (tgt := 28) hx hb dX15_of_17 (by decide) ?_
    refine lv_lstore hx hb dX15_of_28 hl (Nat.le_of_ble_eq_true rfl) (lv' := [(4, .long (lI 0)), (2, .long (lI z5)), (0, .ref a), (1, .ref c_)]) rfl (fun ls hl => ?_)
    refine lv_aload_n hx hb dX15_of_30 rfl (lv_at hl 3 rfl) ?_
    refine e_brk hx hb hts hown hK hH hs_s hC.2.1 q266 dX15_of_31 ?_
    refine n_if_eq (tgt := 39) hx hb (r32 (by omega)) dX15_of_34 (by decide) (fun h => absurd h (by decide)) (fun _ => ?_)
    refine n_lconst (z := 0) hx hb dX15_of_37 (by decide) ?_
    refine g_lret hx hb hr hlk hH dX15_of_38 ?_
    exact Or.inr ⟨joinF_n1 e5, rfl⟩
theorem vs_all (l : Launch) (G : MG) : ∀ n : Nat, VS l G n
  | 0 => fun h a c_ ci nb t g f sz hs _ => hs.elim
  | n + 1 => fun h a c_ ci nb t g f sz hs hC => by
    rcases hs with ⟨v, h1, hv, rfl⟩ | ⟨k, h1, hk, rfl⟩ | ⟨q_, r_, sg, f1, f2, h1, hsg, h2, h3, rfl⟩
    · exact Or.inl ⟨_, nO rfl h1 rfl, xm_X13_of l G h (n + 1) v ci nb t g a c_ sz (nO rfl h1 rfl) hv hC⟩
    · exact Or.inr (Or.inl ⟨_, nO rfl h1 rfl, xm_X14_of l G h (n + 1) k ci nb t g a c_ sz (nO rfl h1 rfl) hk hC⟩)
    · exact Or.inr (Or.inr ⟨_, nO rfl h1 rfl, xm_X15_of l G h n q_ r_ sg f1 f2 ci nb t g a c_ sz (vs_all l G n) (nO rfl h1 rfl) hsg h2 h3 hC⟩)
