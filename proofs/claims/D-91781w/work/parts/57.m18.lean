theorem mv_termOf (l : Launch) (G : MG) (n : Nat) (IH_partOf : SEv l G yX4_partOf cX4_partOf 4 0 n) : SEv l G yX4_termOf cX4_termOf 7 1 (n + 1) := by
  intro σ0 g b live f j sz hV hg0 hg1 hb01 hl01 hm
  refine m_start (by decide) (Nat.le_of_ble_eq_true rfl) ?_
  intro p e s m below meth c ⟨S, hr, hlk, hH, hK, hj, hsz, hnm⟩ ls hl
  subst hsz
  obtain ⟨hx, hb, hml, hown, hts⟩ := S
  have S : CallFix p m c _ _ s _ lw_all RX4 := ⟨hx, hb, hml, hown, hts⟩
  have hA : ∀ q, s.heap.size ≤ q → mA G (evS σ0 g b) s.heap.size q := fun q hq => Or.inr hq
  have hl : lv_has ls 7 [(0, .ref (G.2.2 0)), (1, .int (iI live))] := hl
  have v0 := hV.1
  have v3 := hV.2.2.2
  unfold caseOK at v3
  have hc := cdA_r hV hg0
  simp only [mn] at hm
  obtain ⟨⟨f1, i1⟩, e1, e2⟩ := Option.bind_eq_some_iff.mp hm
  have hle1 := EV_le hg1 e1
  have hfB1 := EV_B hV hg0 hg1 (by omega) e1
  have L6 : ∀ (k : Nat) (f1 : Mean) (i : Int), (hi0 : 0 ≤ i) → (hi1 : i ≤ σ0 19 0) → (hfB : mB f1 (σ0 5)) → (hlp : lpM (cdA σ0) 142 147 joinF (mn (cdA σ0) (vlA σ0) n 0) k f1 i = some (f, j)) → ∀ (H : Heap) (locs : List Loc) (ls : Array Slot), MH G (mA G (evS σ0 g b) s.heap.size) (evS σ0 i (brk f1 (σ0 5) live b)) s.heap H locs → lv_has ls 7 [(0, .ref (G.2.2 0)), (1, .int (iI live)), (2, .long (lI (lv f1 (σ0 5) live b)))] → W p l e (rmD (n + 1 + 4)) s m ([.ref (G.2.2 0), .int (iI live)] : List Value).toArray below meth c H locs 0 0 (MQ below (mQl G (evS σ0 g b) s.heap.size (fun z σ' => z = lv f (σ0 5) live b ∧ σ' = evS σ0 j (brk f (σ0 5) live b))) ([.ref (G.2.2 0), .int (iI live)] : List Value).toArray s 0 0 (mA G (evS σ0 g b) s.heap.size)) (F0 m 6 ls []) := by
    intro k
    induction k with
    | zero => intro f1 i hi0 hi1 hfB hlp; rw [lpM] at hlp; cases hlp
    | succ k ih_6 =>
      intro f1 i hi0 hi1 hfB hlp H locs ls hH hl
      rw [lpM] at hlp
      have hbr := brk_01 (f := f1) (a := σ0 5) (live := live) hb01
      have hc := cdA_r hV hi0
      refine lv_aload_n hx hb dX4_termOf_6 rfl (lv_at hl 0 rfl) ?_
      refine lv_aload_n hx hb dX4_termOf_7 rfl (lv_at hl 0 rfl) ?_
      refine m_get 18 (by decide) hx hb hts hown hK hj hH q1491 (fun _ h9 => h9) rfl dX4_termOf_8 ?_
      refine W.eq (g2 := F0 m 11 ls (.int (iI i) :: .ref (G.2.2 0) :: [])) rfl ?_
      refine m_calliF (m_runV (As := [.int (iI i)]) (rest := []) S hH hK hj hl.1 (mm_codeAt l G σ0 i (brk f1 (σ0 5) live b) i _ hV (by omega) (by omega) hbr (by omega) (by omega)) (lw_V q1823 q1825 qs78 q109 q1826) kd_X4_codeAt rfl rfl dX4_termOf_11 (hR := ⟨by dsimp only [rmD]; omega, by dsimp only [rmD]; omega⟩)) hH hA (fun H locs hH => ?_)
      refine n_bipush (z := 42) hx hb dX4_termOf_14 (by decide) ?_
      refine m_calliF (m_runS (As := [.int (iI 42)]) (rest := [.int (iI (cdA σ0 i))]) S hH hK hj hl.1 (mm_sign l G (evS σ0 i (brk f1 (σ0 5) live b)) 42 _ (by omega) (by omega)) (lw_S q1767 q1768 q109 q1769) kd_X4_sign rfl rfl dX4_termOf_16 (hR := ⟨by dsimp only [rmD]; omega, by dsimp only [rmD]; omega⟩)) hH hA (fun H locs hH => ?_)
      refine W.eq (g2 := F0 m 19 ls (.int (iI 142) :: .int (iI (cdA σ0 i)) :: [])) (by rfl) ?_
      refine n_icmp_eq (tgt := 38) hx hb (r32 (by omega)) (r32 (by omega)) dX4_termOf_19 (by decide) (fun c_19 => ?_) (fun c_19 => ?_)
      · -- 19T
        rw [if_pos (Or.inl c_19)] at hlp
        obtain ⟨⟨f2, i2⟩, e3, e4⟩ := Option.bind_eq_some_iff.mp hlp
        rw [c_19] at e4
        have hlt := cdA_lt (σ := σ0) (k := i) (by omega)
        have hle := EV_le (by omega) e3
        have hf2 := EV_B hV (by omega) (by omega) (by omega) e3
        have q1 := lv_r (live := live) (b := b) hfB
        have q2 := lv_r (live := live) (b := (brk f1 (σ0 5) live b)) hf2
        have q3 := mul_b q1 q2
        have hb2 := brk_01 (f := f2) (a := σ0 5) (live := live) hbr
        refine lv_aload_n hx hb dX4_termOf_38 rfl (lv_at hl 0 rfl) ?_
        refine lv_aload_n hx hb dX4_termOf_39 rfl (lv_at hl 0 rfl) ?_
        refine m_get 18 (by decide) hx hb hts hown hK hj hH q1491 (fun _ h9 => h9) rfl dX4_termOf_40 ?_
        refine W.eq (g2 := F0 m 43 ls (.int (iI i) :: .ref (G.2.2 0) :: [])) rfl ?_
        refine m_calliF (m_runV (As := [.int (iI i)]) (rest := []) S hH hK hj hl.1 (mm_codeAt l G σ0 i (brk f1 (σ0 5) live b) i _ hV (by omega) (by omega) hbr (by omega) (by omega)) (lw_V q1823 q1825 qs78 q109 q1826) kd_X4_codeAt rfl rfl dX4_termOf_43 (hR := ⟨by dsimp only [rmD]; omega, by dsimp only [rmD]; omega⟩)) hH hA (fun H locs hH => ?_)
        refine n_bipush (z := 42) hx hb dX4_termOf_46 (by decide) ?_
        refine m_calliF (m_runS (As := [.int (iI 42)]) (rest := [.int (iI (cdA σ0 i))]) S hH hK hj hl.1 (mm_sign l G (evS σ0 i (brk f1 (σ0 5) live b)) 42 _ (by omega) (by omega)) (lw_S q1767 q1768 q109 q1769) kd_X4_sign rfl rfl dX4_termOf_48 (hR := ⟨by dsimp only [rmD]; omega, by dsimp only [rmD]; omega⟩)) hH hA (fun H locs hH => ?_)
        refine W.eq (g2 := F0 m 51 ls (.int (iI 142) :: .int (iI (cdA σ0 i)) :: [])) (by rfl) ?_
        refine n_icmp_ne (tgt := 58) hx hb (r32 (by omega)) (r32 (by omega)) dX4_termOf_51 (by decide) (fun c_51 => ?_) (fun c_51 => ?_)
        · exact absurd c_19 c_51
        · -- 51F
          refine n_iconst hx hb dX4_termOf_54 ?_
          refine lv_goto (tgt := 59) hx hb dX4_termOf_55 (by decide) ?_
          refine lv_istore hx hb dX4_termOf_59 hl (Nat.le_of_ble_eq_true rfl) (lv' := [(4, .int (iI 1)), (0, .ref (G.2.2 0)), (1, .int (iI live)), (2, .long (lI (lv f1 (σ0 5) live b)))]) rfl (fun ls hl => ?_)
          refine lv_aload_n hx hb dX4_termOf_61 rfl (lv_at hl 1 rfl) ?_
          refine lv_dup hx hb dX4_termOf_62 rfl ?_
          refine m_get 18 (by decide) hx hb hts hown hK hj hH q1491 (fun _ h9 => h9) rfl dX4_termOf_63 ?_
          refine W.eq (g2 := F0 m 66 ls (.int (iI i) :: .ref (G.2.2 0) :: [])) rfl ?_
          refine n_iconst hx hb dX4_termOf_66 ?_
          refine n_iadd hx hb dX4_termOf_67 ?_
          refine mp_18 hx hb hts hown hK hj hH q1491 (fun _ h9 => h9) dX4_termOf_68 (fun H locs hH => ?_)
          have hH := MH_to hH (τ := evS σ0 (i + 1) (brk f1 (σ0 5) live b)) evS_18
          refine lv_aload_n hx hb dX4_termOf_71 rfl (lv_at hl 1 rfl) ?_
          refine lv_iload_n hx hb dX4_termOf_72 rfl (lv_at hl 2 rfl) ?_
          refine m_calllF (m_runV (As := [.int (iI live)]) (rest := []) S hH hK hj hl.1 (IH_partOf σ0 (i + 1) (brk f1 (σ0 5) live b) live f2 i2 _ hV (by omega) (by omega) hbr hl01 e3) (lw_V q1835 q1837 qs81 q109 q1838) kd_X4_partOf rfl rfl dX4_termOf_73 (hR := ⟨by dsimp only [rmD]; omega, by dsimp only [rmD]; omega⟩)) hH hA (fun H locs hH => ?_)
          refine lv_lstore hx hb dX4_termOf_76 hl (Nat.le_of_ble_eq_true rfl) (lv' := [(5, .long (lI (lv f2 (σ0 5) live (brk f1 (σ0 5) live b)))), (4, .int (iI 1)), (0, .ref (G.2.2 0)), (1, .int (iI live)), (2, .long (lI (lv f1 (σ0 5) live b)))]) rfl (fun ls hl => ?_)
          refine lv_iload hx hb dX4_termOf_78 (lv_at hl 1 rfl) ?_
          refine n_if_ne (tgt := 113) hx hb (r32 (by omega)) dX4_termOf_80 (by decide) (fun _ => ?_) (fun h => absurd h (by decide))
          refine lv_aload_n hx hb dX4_termOf_113 rfl (lv_at hl 2 rfl) ?_
          refine lv_iload hx hb dX4_termOf_114 (lv_at hl 1 rfl) ?_
          refine n_if_eq (tgt := 126) hx hb (r32 (by omega)) dX4_termOf_116 (by decide) (fun h => absurd h (by decide)) (fun _ => ?_)
          refine lv_lload_n hx hb dX4_termOf_119 rfl (lv_at hl 4 rfl) ?_
          refine lv_lload hx hb dX4_termOf_120 (lv_at hl 0 rfl) ?_
          refine n_lmul hx hb dX4_termOf_122 ?_
          refine lv_goto (tgt := 130) hx hb dX4_termOf_123 (by decide) ?_
          refine lv_iload_n hx hb dX4_termOf_130 rfl (lv_at hl 3 rfl) ?_
          refine m_calllF (m_runV (As := [.long (lI ((lv f1 (σ0 5) live b) * (lv f2 (σ0 5) live (brk f1 (σ0 5) live b)))), .int (iI live)]) (rest := []) S hH hK hj hl.1 (mm_bounded l G σ0 i2 (brk f2 (σ0 5) live (brk f1 (σ0 5) live b)) ((lv f1 (σ0 5) live b) * (lv f2 (σ0 5) live (brk f1 (σ0 5) live b))) live _ hV (by omega) (by omega) (by first | exact hb2 | omega) (by first | exact tdivR q1 | exact r64 (by omega)) hl01) (lw_V q1843 q1845 qs83 q109 q1846) kd_X4_bounded rfl rfl dX4_termOf_131 (hR := ⟨by dsimp only [rmD]; omega, by dsimp only [rmD]; omega⟩)) hH hA (fun H locs hH => ?_)
          refine lv_lstore_n hx hb dX4_termOf_134 rfl hl (Nat.le_of_ble_eq_true rfl) (lv' := [(2, .long (lI (if (brk f2 (σ0 5) live (brk f1 (σ0 5) live b)) = 1 ∨ (live = 1 ∧ (((lv f1 (σ0 5) live b) * (lv f2 (σ0 5) live (brk f1 (σ0 5) live b))) > 1000000000 ∨ ((lv f1 (σ0 5) live b) * (lv f2 (σ0 5) live (brk f1 (σ0 5) live b))) < -1000000000)) then 0 else ((lv f1 (σ0 5) live b) * (lv f2 (σ0 5) live (brk f1 (σ0 5) live b)))))), (5, .long (lI (lv f2 (σ0 5) live (brk f1 (σ0 5) live b)))), (4, .int (iI 1)), (0, .ref (G.2.2 0)), (1, .int (iI live))]) rfl (fun ls hl => ?_)
          refine lv_goto (tgt := 6) hx hb dX4_termOf_135 (by decide) ?_
          have hl : lv_has ls 7 [(0, .ref (G.2.2 0)), (1, .int (iI live)), (2, .long (lI (if (brk f2 (σ0 5) live (brk f1 (σ0 5) live b)) = 1 ∨ (live = 1 ∧ (((lv f1 (σ0 5) live b) * (lv f2 (σ0 5) live (brk f1 (σ0 5) live b))) > 1000000000 ∨ ((lv f1 (σ0 5) live b) * (lv f2 (σ0 5) live (brk f1 (σ0 5) live b))) < -1000000000)) then 0 else ((lv f1 (σ0 5) live b) * (lv f2 (σ0 5) live (brk f1 (σ0 5) live b))))))] := lv_sub hl [3, 4, 0] rfl
          have hl : lv_has ls 7 [(0, .ref (G.2.2 0)), (1, .int (iI live)), (2, .long (lI (lv (joinF 142 f1 f2) (σ0 5) live b)))] := by rw [← (join_step (op := 142) (by decide) hl01 hb01).2]; exact hl
          have hH := MH_to hH (τ := evS σ0 i2 (brk (joinF 142 f1 f2) (σ0 5) live b)) (congrArg (evS σ0 i2) (join_step (op := 142) (by decide) hl01 hb01).1)
          refine ih_6 (joinF 142 f1 f2) i2 ?_ ?_ ?_ ?_ _ _ _ hH hl
          · omega
          · omega
          · exact mB_join hfB
          · exact e4
      · -- 19F
        refine lv_aload_n hx hb dX4_termOf_22 rfl (lv_at hl 0 rfl) ?_
        refine lv_aload_n hx hb dX4_termOf_23 rfl (lv_at hl 0 rfl) ?_
        refine m_get 18 (by decide) hx hb hts hown hK hj hH q1491 (fun _ h9 => h9) rfl dX4_termOf_24 ?_
        refine W.eq (g2 := F0 m 27 ls (.int (iI i) :: .ref (G.2.2 0) :: [])) rfl ?_
        refine m_calliF (m_runV (As := [.int (iI i)]) (rest := []) S hH hK hj hl.1 (mm_codeAt l G σ0 i (brk f1 (σ0 5) live b) i _ hV (by omega) (by omega) hbr (by omega) (by omega)) (lw_V q1823 q1825 qs78 q109 q1826) kd_X4_codeAt rfl rfl dX4_termOf_27 (hR := ⟨by dsimp only [rmD]; omega, by dsimp only [rmD]; omega⟩)) hH hA (fun H locs hH => ?_)
        refine n_bipush (z := 47) hx hb dX4_termOf_30 (by decide) ?_
        refine m_calliF (m_runS (As := [.int (iI 47)]) (rest := [.int (iI (cdA σ0 i))]) S hH hK hj hl.1 (mm_sign l G (evS σ0 i (brk f1 (σ0 5) live b)) 47 _ (by omega) (by omega)) (lw_S q1767 q1768 q109 q1769) kd_X4_sign rfl rfl dX4_termOf_32 (hR := ⟨by dsimp only [rmD]; omega, by dsimp only [rmD]; omega⟩)) hH hA (fun H locs hH => ?_)
        refine W.eq (g2 := F0 m 35 ls (.int (iI 147) :: .int (iI (cdA σ0 i)) :: [])) (by rfl) ?_
        refine n_icmp_ne (tgt := 138) hx hb (r32 (by omega)) (r32 (by omega)) dX4_termOf_35 (by decide) (fun c_35 => ?_) (fun c_35 => ?_)
        · -- 35T
          rw [if_neg (fun q => q.elim c_19 c_35)] at hlp
          refine lv_lload_n hx hb dX4_termOf_138 rfl (lv_at hl 2 rfl) ?_
          refine m_lret hx hb hr hlk hH dX4_termOf_139 ?_
          cases hlp
          exact ⟨rfl, rfl⟩
        · -- 35F
          rw [if_pos (Or.inr c_35)] at hlp
          obtain ⟨⟨f2, i2⟩, e3, e4⟩ := Option.bind_eq_some_iff.mp hlp
          rw [c_35] at e4
          have hlt := cdA_lt (σ := σ0) (k := i) (by omega)
          have hle := EV_le (by omega) e3
          have hf2 := EV_B hV (by omega) (by omega) (by omega) e3
          have q1 := lv_r (live := live) (b := b) hfB
          have q2 := lv_r (live := live) (b := (brk f1 (σ0 5) live b)) hf2
          have q3 := mul_b q1 q2
          have hb2 := brk_01 (f := f2) (a := σ0 5) (live := live) hbr
          refine lv_aload_n hx hb dX4_termOf_38 rfl (lv_at hl 0 rfl) ?_
          refine lv_aload_n hx hb dX4_termOf_39 rfl (lv_at hl 0 rfl) ?_
          refine m_get 18 (by decide) hx hb hts hown hK hj hH q1491 (fun _ h9 => h9) rfl dX4_termOf_40 ?_
          refine W.eq (g2 := F0 m 43 ls (.int (iI i) :: .ref (G.2.2 0) :: [])) rfl ?_
          refine m_calliF (m_runV (As := [.int (iI i)]) (rest := []) S hH hK hj hl.1 (mm_codeAt l G σ0 i (brk f1 (σ0 5) live b) i _ hV (by omega) (by omega) hbr (by omega) (by omega)) (lw_V q1823 q1825 qs78 q109 q1826) kd_X4_codeAt rfl rfl dX4_termOf_43 (hR := ⟨by dsimp only [rmD]; omega, by dsimp only [rmD]; omega⟩)) hH hA (fun H locs hH => ?_)
          refine n_bipush (z := 42) hx hb dX4_termOf_46 (by decide) ?_
          refine m_calliF (m_runS (As := [.int (iI 42)]) (rest := [.int (iI (cdA σ0 i))]) S hH hK hj hl.1 (mm_sign l G (evS σ0 i (brk f1 (σ0 5) live b)) 42 _ (by omega) (by omega)) (lw_S q1767 q1768 q109 q1769) kd_X4_sign rfl rfl dX4_termOf_48 (hR := ⟨by dsimp only [rmD]; omega, by dsimp only [rmD]; omega⟩)) hH hA (fun H locs hH => ?_)
          refine W.eq (g2 := F0 m 51 ls (.int (iI 142) :: .int (iI (cdA σ0 i)) :: [])) (by rfl) ?_
          refine n_icmp_ne (tgt := 58) hx hb (r32 (by omega)) (r32 (by omega)) dX4_termOf_51 (by decide) (fun c_51 => ?_) (fun c_51 => ?_)
          · -- 51T
            refine n_iconst hx hb dX4_termOf_58 ?_
            refine lv_istore hx hb dX4_termOf_59 hl (Nat.le_of_ble_eq_true rfl) (lv' := [(4, .int (iI 0)), (0, .ref (G.2.2 0)), (1, .int (iI live)), (2, .long (lI (lv f1 (σ0 5) live b)))]) rfl (fun ls hl => ?_)
            refine lv_aload_n hx hb dX4_termOf_61 rfl (lv_at hl 1 rfl) ?_
            refine lv_dup hx hb dX4_termOf_62 rfl ?_
            refine m_get 18 (by decide) hx hb hts hown hK hj hH q1491 (fun _ h9 => h9) rfl dX4_termOf_63 ?_
            refine W.eq (g2 := F0 m 66 ls (.int (iI i) :: .ref (G.2.2 0) :: [])) rfl ?_
            refine n_iconst hx hb dX4_termOf_66 ?_
            refine n_iadd hx hb dX4_termOf_67 ?_
            refine mp_18 hx hb hts hown hK hj hH q1491 (fun _ h9 => h9) dX4_termOf_68 (fun H locs hH => ?_)
            have hH := MH_to hH (τ := evS σ0 (i + 1) (brk f1 (σ0 5) live b)) evS_18
            refine lv_aload_n hx hb dX4_termOf_71 rfl (lv_at hl 1 rfl) ?_
            refine lv_iload_n hx hb dX4_termOf_72 rfl (lv_at hl 2 rfl) ?_
            refine m_calllF (m_runV (As := [.int (iI live)]) (rest := []) S hH hK hj hl.1 (IH_partOf σ0 (i + 1) (brk f1 (σ0 5) live b) live f2 i2 _ hV (by omega) (by omega) hbr hl01 e3) (lw_V q1835 q1837 qs81 q109 q1838) kd_X4_partOf rfl rfl dX4_termOf_73 (hR := ⟨by dsimp only [rmD]; omega, by dsimp only [rmD]; omega⟩)) hH hA (fun H locs hH => ?_)
            refine lv_lstore hx hb dX4_termOf_76 hl (Nat.le_of_ble_eq_true rfl) (lv' := [(5, .long (lI (lv f2 (σ0 5) live (brk f1 (σ0 5) live b)))), (4, .int (iI 0)), (0, .ref (G.2.2 0)), (1, .int (iI live)), (2, .long (lI (lv f1 (σ0 5) live b)))]) rfl (fun ls hl => ?_)
            refine lv_iload hx hb dX4_termOf_78 (lv_at hl 1 rfl) ?_
            refine n_if_ne (tgt := 113) hx hb (r32 (by omega)) dX4_termOf_80 (by decide) (fun h => absurd h (by decide)) (fun _ => ?_)
            refine lv_lload hx hb dX4_termOf_83 (lv_at hl 0 rfl) ?_
            refine n_lconst (z := 0) hx hb dX4_termOf_85 (by decide) ?_
            refine n_lcmp_ne (tgt := 113) hx hb (r64 (by omega)) (r64 (by omega)) dX4_termOf_86 dX4_termOf_87 (by decide) (fun c_86 => ?_) (fun c_86 => ?_)
            · -- 86T
              refine lv_aload_n hx hb dX4_termOf_113 rfl (lv_at hl 2 rfl) ?_
              refine lv_iload hx hb dX4_termOf_114 (lv_at hl 1 rfl) ?_
              refine n_if_eq (tgt := 126) hx hb (r32 (by omega)) dX4_termOf_116 (by decide) (fun _ => ?_) (fun h => absurd h (by decide))
              refine lv_lload_n hx hb dX4_termOf_126 rfl (lv_at hl 4 rfl) ?_
              refine lv_lload hx hb dX4_termOf_127 (lv_at hl 0 rfl) ?_
              refine n_ldiv hx hb (by first | exact c_86 | decide) (r64 (by omega)) (r64 (by omega)) (tdivR q1) dX4_termOf_129 ?_
              refine lv_iload_n hx hb dX4_termOf_130 rfl (lv_at hl 3 rfl) ?_
              refine m_calllF (m_runV (As := [.long (lI (Int.tdiv (lv f1 (σ0 5) live b) (lv f2 (σ0 5) live (brk f1 (σ0 5) live b)))), .int (iI live)]) (rest := []) S hH hK hj hl.1 (mm_bounded l G σ0 i2 (brk f2 (σ0 5) live (brk f1 (σ0 5) live b)) (Int.tdiv (lv f1 (σ0 5) live b) (lv f2 (σ0 5) live (brk f1 (σ0 5) live b))) live _ hV (by omega) (by omega) (by first | exact hb2 | omega) (by first | exact tdivR q1 | exact r64 (by omega)) hl01) (lw_V q1843 q1845 qs83 q109 q1846) kd_X4_bounded rfl rfl dX4_termOf_131 (hR := ⟨by dsimp only [rmD]; omega, by dsimp only [rmD]; omega⟩)) hH hA (fun H locs hH => ?_)
              refine lv_lstore_n hx hb dX4_termOf_134 rfl hl (Nat.le_of_ble_eq_true rfl) (lv' := [(2, .long (lI (if (brk f2 (σ0 5) live (brk f1 (σ0 5) live b)) = 1 ∨ (live = 1 ∧ ((Int.tdiv (lv f1 (σ0 5) live b) (lv f2 (σ0 5) live (brk f1 (σ0 5) live b))) > 1000000000 ∨ (Int.tdiv (lv f1 (σ0 5) live b) (lv f2 (σ0 5) live (brk f1 (σ0 5) live b))) < -1000000000)) then 0 else (Int.tdiv (lv f1 (σ0 5) live b) (lv f2 (σ0 5) live (brk f1 (σ0 5) live b)))))), (5, .long (lI (lv f2 (σ0 5) live (brk f1 (σ0 5) live b)))), (4, .int (iI 0)), (0, .ref (G.2.2 0)), (1, .int (iI live))]) rfl (fun ls hl => ?_)
              refine lv_goto (tgt := 6) hx hb dX4_termOf_135 (by decide) ?_
              have hl : lv_has ls 7 [(0, .ref (G.2.2 0)), (1, .int (iI live)), (2, .long (lI (if (brk f2 (σ0 5) live (brk f1 (σ0 5) live b)) = 1 ∨ (live = 1 ∧ ((Int.tdiv (lv f1 (σ0 5) live b) (lv f2 (σ0 5) live (brk f1 (σ0 5) live b))) > 1000000000 ∨ (Int.tdiv (lv f1 (σ0 5) live b) (lv f2 (σ0 5) live (brk f1 (σ0 5) live b))) < -1000000000)) then 0 else (Int.tdiv (lv f1 (σ0 5) live b) (lv f2 (σ0 5) live (brk f1 (σ0 5) live b))))))] := lv_sub hl [3, 4, 0] rfl
              have hl : lv_has ls 7 [(0, .ref (G.2.2 0)), (1, .int (iI live)), (2, .long (lI (lv (joinF 147 f1 f2) (σ0 5) live b)))] := by rw [← (div_nz hl01 hb01 hfB rfl c_86).2]; exact hl
              have hH := MH_to hH (τ := evS σ0 i2 (brk (joinF 147 f1 f2) (σ0 5) live b)) (congrArg (evS σ0 i2) (div_nz hl01 hb01 hfB rfl c_86).1)
              refine ih_6 (joinF 147 f1 f2) i2 ?_ ?_ ?_ ?_ _ _ _ hH hl
              · omega
              · omega
              · exact mB_join hfB
              · exact e4
            · -- 86F
              refine lv_aload_n hx hb dX4_termOf_90 rfl (lv_at hl 2 rfl) ?_
              refine lv_aload_n hx hb dX4_termOf_91 rfl (lv_at hl 2 rfl) ?_
              refine m_get 20 (by decide) hx hb hts hown hK hj hH q1493 (fun _ h9 => h9) rfl dX4_termOf_92 ?_
              refine W.eq (g2 := F0 m 95 ls (.int (iI (brk f2 (σ0 5) live (brk f1 (σ0 5) live b))) :: .ref (G.2.2 0) :: [])) rfl ?_
              refine n_if_ne (tgt := 102) hx hb (r32 (by omega)) dX4_termOf_95 (by decide) (fun c_95 => ?_) (fun c_95 => ?_)
              · -- 95T
                refine n_iconst hx hb dX4_termOf_102 ?_
                refine lv_goto (tgt := 107) hx hb dX4_termOf_103 (by decide) ?_
                refine mp_20 hx hb hts hown hK hj hH q1493 (fun _ h9 => h9) (Or.inr rfl) dX4_termOf_107 (fun H locs hH => ?_)
                have hH := MH_to hH (τ := evS σ0 i2 1) evS_20
                refine n_lconst (z := 1) hx hb dX4_termOf_110 (by decide) ?_
                refine lv_lstore hx hb dX4_termOf_111 hl (Nat.le_of_ble_eq_true rfl) (lv' := [(5, .long (lI 1)), (4, .int (iI 0)), (0, .ref (G.2.2 0)), (1, .int (iI live)), (2, .long (lI (lv f1 (σ0 5) live b)))]) rfl (fun ls hl => ?_)
                refine lv_aload_n hx hb dX4_termOf_113 rfl (lv_at hl 2 rfl) ?_
                refine lv_iload hx hb dX4_termOf_114 (lv_at hl 1 rfl) ?_
                refine n_if_eq (tgt := 126) hx hb (r32 (by omega)) dX4_termOf_116 (by decide) (fun _ => ?_) (fun h => absurd h (by decide))
                refine lv_lload_n hx hb dX4_termOf_126 rfl (lv_at hl 4 rfl) ?_
                refine lv_lload hx hb dX4_termOf_127 (lv_at hl 0 rfl) ?_
                refine n_ldiv hx hb (by first | exact c_86 | decide) (r64 (by omega)) (r64 (by omega)) (tdivR q1) dX4_termOf_129 ?_
                refine lv_iload_n hx hb dX4_termOf_130 rfl (lv_at hl 3 rfl) ?_
                refine m_calllF (m_runV (As := [.long (lI (Int.tdiv (lv f1 (σ0 5) live b) 1)), .int (iI live)]) (rest := []) S hH hK hj hl.1 (mm_bounded l G σ0 i2 (1 : Int) (Int.tdiv (lv f1 (σ0 5) live b) 1) live _ hV (by omega) (by omega) (by first | exact hb2 | omega) (by first | exact tdivR q1 | exact r64 (by omega)) hl01) (lw_V q1843 q1845 qs83 q109 q1846) kd_X4_bounded rfl rfl dX4_termOf_131 (hR := ⟨by dsimp only [rmD]; omega, by dsimp only [rmD]; omega⟩)) hH hA (fun H locs hH => ?_)
                refine lv_lstore_n hx hb dX4_termOf_134 rfl hl (Nat.le_of_ble_eq_true rfl) (lv' := [(2, .long (lI (if (1 : Int) = 1 ∨ (live = 1 ∧ ((Int.tdiv (lv f1 (σ0 5) live b) 1) > 1000000000 ∨ (Int.tdiv (lv f1 (σ0 5) live b) 1) < -1000000000)) then 0 else (Int.tdiv (lv f1 (σ0 5) live b) 1)))), (5, .long (lI 1)), (4, .int (iI 0)), (0, .ref (G.2.2 0)), (1, .int (iI live))]) rfl (fun ls hl => ?_)
                refine lv_goto (tgt := 6) hx hb dX4_termOf_135 (by decide) ?_
                have hl : lv_has ls 7 [(0, .ref (G.2.2 0)), (1, .int (iI live)), (2, .long (lI (if (1 : Int) = 1 ∨ (live = 1 ∧ ((Int.tdiv (lv f1 (σ0 5) live b) 1) > 1000000000 ∨ (Int.tdiv (lv f1 (σ0 5) live b) 1) < -1000000000)) then 0 else (Int.tdiv (lv f1 (σ0 5) live b) 1))))] := lv_sub hl [3, 4, 0] rfl
                have hl : lv_has ls 7 [(0, .ref (G.2.2 0)), (1, .int (iI live)), (2, .long (lI (lv (joinF 147 f1 f2) (σ0 5) live b)))] := by rw [← (div_z (B := 1) hl01 hb01 hfB (by rw [if_pos (Or.inl c_95)]) rfl c_86).2]; exact hl
                have hH := MH_to hH (τ := evS σ0 i2 (brk (joinF 147 f1 f2) (σ0 5) live b)) (congrArg (evS σ0 i2) (div_z (B := 1) hl01 hb01 hfB (by rw [if_pos (Or.inl c_95)]) rfl c_86).1)
                refine ih_6 (joinF 147 f1 f2) i2 ?_ ?_ ?_ ?_ _ _ _ hH hl
                · omega
                · omega
                · exact mB_join hfB
                · exact e4
              · -- 95F
                refine lv_iload_n hx hb dX4_termOf_98 rfl (lv_at hl 3 rfl) ?_
                refine n_if_eq (tgt := 106) hx hb (r32 (by omega)) dX4_termOf_99 (by decide) (fun c_99 => ?_) (fun c_99 => ?_)
                · -- 99T
                  refine n_iconst hx hb dX4_termOf_106 ?_
                  refine mp_20 hx hb hts hown hK hj hH q1493 (fun _ h9 => h9) (Or.inl rfl) dX4_termOf_107 (fun H locs hH => ?_)
                  have hH := MH_to hH (τ := evS σ0 i2 0) evS_20
                  refine n_lconst (z := 1) hx hb dX4_termOf_110 (by decide) ?_
                  refine lv_lstore hx hb dX4_termOf_111 hl (Nat.le_of_ble_eq_true rfl) (lv' := [(5, .long (lI 1)), (4, .int (iI 0)), (0, .ref (G.2.2 0)), (1, .int (iI live)), (2, .long (lI (lv f1 (σ0 5) live b)))]) rfl (fun ls hl => ?_)
                  refine lv_aload_n hx hb dX4_termOf_113 rfl (lv_at hl 2 rfl) ?_
                  refine lv_iload hx hb dX4_termOf_114 (lv_at hl 1 rfl) ?_
                  refine n_if_eq (tgt := 126) hx hb (r32 (by omega)) dX4_termOf_116 (by decide) (fun _ => ?_) (fun h => absurd h (by decide))
                  refine lv_lload_n hx hb dX4_termOf_126 rfl (lv_at hl 4 rfl) ?_
                  refine lv_lload hx hb dX4_termOf_127 (lv_at hl 0 rfl) ?_
                  refine n_ldiv hx hb (by first | exact c_86 | decide) (r64 (by omega)) (r64 (by omega)) (tdivR q1) dX4_termOf_129 ?_
                  refine lv_iload_n hx hb dX4_termOf_130 rfl (lv_at hl 3 rfl) ?_
                  refine m_calllF (m_runV (As := [.long (lI (Int.tdiv (lv f1 (σ0 5) live b) 1)), .int (iI live)]) (rest := []) S hH hK hj hl.1 (mm_bounded l G σ0 i2 (0 : Int) (Int.tdiv (lv f1 (σ0 5) live b) 1) live _ hV (by omega) (by omega) (by first | exact hb2 | omega) (by first | exact tdivR q1 | exact r64 (by omega)) hl01) (lw_V q1843 q1845 qs83 q109 q1846) kd_X4_bounded rfl rfl dX4_termOf_131 (hR := ⟨by dsimp only [rmD]; omega, by dsimp only [rmD]; omega⟩)) hH hA (fun H locs hH => ?_)
                  refine lv_lstore_n hx hb dX4_termOf_134 rfl hl (Nat.le_of_ble_eq_true rfl) (lv' := [(2, .long (lI (if (0 : Int) = 1 ∨ (live = 1 ∧ ((Int.tdiv (lv f1 (σ0 5) live b) 1) > 1000000000 ∨ (Int.tdiv (lv f1 (σ0 5) live b) 1) < -1000000000)) then 0 else (Int.tdiv (lv f1 (σ0 5) live b) 1)))), (5, .long (lI 1)), (4, .int (iI 0)), (0, .ref (G.2.2 0)), (1, .int (iI live))]) rfl (fun ls hl => ?_)
                  refine lv_goto (tgt := 6) hx hb dX4_termOf_135 (by decide) ?_
                  have hl : lv_has ls 7 [(0, .ref (G.2.2 0)), (1, .int (iI live)), (2, .long (lI (if (0 : Int) = 1 ∨ (live = 1 ∧ ((Int.tdiv (lv f1 (σ0 5) live b) 1) > 1000000000 ∨ (Int.tdiv (lv f1 (σ0 5) live b) 1) < -1000000000)) then 0 else (Int.tdiv (lv f1 (σ0 5) live b) 1))))] := lv_sub hl [3, 4, 0] rfl
                  have hl : lv_has ls 7 [(0, .ref (G.2.2 0)), (1, .int (iI live)), (2, .long (lI (lv (joinF 147 f1 f2) (σ0 5) live b)))] := by rw [← (div_z (B := 0) hl01 hb01 hfB (by rw [if_neg (fun q => q.elim (fun z => z c_95) (fun z => z c_99))]) rfl c_86).2]; exact hl
                  have hH := MH_to hH (τ := evS σ0 i2 (brk (joinF 147 f1 f2) (σ0 5) live b)) (congrArg (evS σ0 i2) (div_z (B := 0) hl01 hb01 hfB (by rw [if_neg (fun q => q.elim (fun z => z c_95) (fun z => z c_99))]) rfl c_86).1)
                  refine ih_6 (joinF 147 f1 f2) i2 ?_ ?_ ?_ ?_ _ _ _ hH hl
                  · omega
                  · omega
                  · exact mB_join hfB
                  · exact e4
                · -- 99F
                  refine n_iconst hx hb dX4_termOf_102 ?_
                  refine lv_goto (tgt := 107) hx hb dX4_termOf_103 (by decide) ?_
                  refine mp_20 hx hb hts hown hK hj hH q1493 (fun _ h9 => h9) (Or.inr rfl) dX4_termOf_107 (fun H locs hH => ?_)
                  have hH := MH_to hH (τ := evS σ0 i2 1) evS_20
                  refine n_lconst (z := 1) hx hb dX4_termOf_110 (by decide) ?_
                  refine lv_lstore hx hb dX4_termOf_111 hl (Nat.le_of_ble_eq_true rfl) (lv' := [(5, .long (lI 1)), (4, .int (iI 0)), (0, .ref (G.2.2 0)), (1, .int (iI live)), (2, .long (lI (lv f1 (σ0 5) live b)))]) rfl (fun ls hl => ?_)
                  refine lv_aload_n hx hb dX4_termOf_113 rfl (lv_at hl 2 rfl) ?_
                  refine lv_iload hx hb dX4_termOf_114 (lv_at hl 1 rfl) ?_
                  refine n_if_eq (tgt := 126) hx hb (r32 (by omega)) dX4_termOf_116 (by decide) (fun _ => ?_) (fun h => absurd h (by decide))
                  refine lv_lload_n hx hb dX4_termOf_126 rfl (lv_at hl 4 rfl) ?_
                  refine lv_lload hx hb dX4_termOf_127 (lv_at hl 0 rfl) ?_
                  refine n_ldiv hx hb (by first | exact c_86 | decide) (r64 (by omega)) (r64 (by omega)) (tdivR q1) dX4_termOf_129 ?_
                  refine lv_iload_n hx hb dX4_termOf_130 rfl (lv_at hl 3 rfl) ?_
                  refine m_calllF (m_runV (As := [.long (lI (Int.tdiv (lv f1 (σ0 5) live b) 1)), .int (iI live)]) (rest := []) S hH hK hj hl.1 (mm_bounded l G σ0 i2 (1 : Int) (Int.tdiv (lv f1 (σ0 5) live b) 1) live _ hV (by omega) (by omega) (by first | exact hb2 | omega) (by first | exact tdivR q1 | exact r64 (by omega)) hl01) (lw_V q1843 q1845 qs83 q109 q1846) kd_X4_bounded rfl rfl dX4_termOf_131 (hR := ⟨by dsimp only [rmD]; omega, by dsimp only [rmD]; omega⟩)) hH hA (fun H locs hH => ?_)
                  refine lv_lstore_n hx hb dX4_termOf_134 rfl hl (Nat.le_of_ble_eq_true rfl) (lv' := [(2, .long (lI (if (1 : Int) = 1 ∨ (live = 1 ∧ ((Int.tdiv (lv f1 (σ0 5) live b) 1) > 1000000000 ∨ (Int.tdiv (lv f1 (σ0 5) live b) 1) < -1000000000)) then 0 else (Int.tdiv (lv f1 (σ0 5) live b) 1)))), (5, .long (lI 1)), (4, .int (iI 0)), (0, .ref (G.2.2 0)), (1, .int (iI live))]) rfl (fun ls hl => ?_)
                  refine lv_goto (tgt := 6) hx hb dX4_termOf_135 (by decide) ?_
                  have hl : lv_has ls 7 [(0, .ref (G.2.2 0)), (1, .int (iI live)), (2, .long (lI (if (1 : Int) = 1 ∨ (live = 1 ∧ ((Int.tdiv (lv f1 (σ0 5) live b) 1) > 1000000000 ∨ (Int.tdiv (lv f1 (σ0 5) live b) 1) < -1000000000)) then 0 else (Int.tdiv (lv f1 (σ0 5) live b) 1))))] := lv_sub hl [3, 4, 0] rfl
                  have hl : lv_has ls 7 [(0, .ref (G.2.2 0)), (1, .int (iI live)), (2, .long (lI (lv (joinF 147 f1 f2) (σ0 5) live b)))] := by rw [← (div_z (B := 1) hl01 hb01 hfB (by rw [if_pos (Or.inr c_99)]) rfl c_86).2]; exact hl
                  have hH := MH_to hH (τ := evS σ0 i2 (brk (joinF 147 f1 f2) (σ0 5) live b)) (congrArg (evS σ0 i2) (div_z (B := 1) hl01 hb01 hfB (by rw [if_pos (Or.inr c_99)]) rfl c_86).1)
                  refine ih_6 (joinF 147 f1 f2) i2 ?_ ?_ ?_ ?_ _ _ _ hH hl
                  · omega
                  · omega
                  · exact mB_join hfB
                  · exact e4
          · exact absurd c_51 c_19
  refine lv_aload_n hx hb dX4_termOf_0 rfl (lv_at hl 0 rfl) ?_
  refine lv_iload_n hx hb dX4_termOf_1 rfl (lv_at hl 1 rfl) ?_
  refine m_calllF (m_runV (As := [.int (iI live)]) (rest := []) S hH hK hj hl.1 (IH_partOf σ0 g b live f1 i1 _ hV hg0 hg1 hb01 hl01 e1) (lw_V q1835 q1837 qs81 q109 q1838) kd_X4_partOf rfl rfl dX4_termOf_2 (hR := ⟨by dsimp only [rmD]; omega, by dsimp only [rmD]; omega⟩)) hH hA (fun H locs hH => ?_)
  refine lv_lstore_n hx hb dX4_termOf_5 rfl hl (Nat.le_of_ble_eq_true rfl) (lv' := [(2, .long (lI (lv f1 (σ0 5) live b))), (0, .ref (G.2.2 0)), (1, .int (iI live))]) rfl (fun ls hl => ?_)
  have hl : lv_has ls 7 [(0, .ref (G.2.2 0)), (1, .int (iI live)), (2, .long (lI (lv f1 (σ0 5) live b)))] := lv_sub hl [1, 2, 0] rfl
  refine L6 402 f1 i1 ?_ ?_ ?_ ?_ _ _ _ hH hl
  · omega
  · omega
  · exact hfB1
  · exact e2
theorem mv_bothOf (l : Launch) (G : MG) (n : Nat) (IH_plainOf : TEv l G yX4_plainOf cX4_plainOf 3 3 n) : TEv l G yX4_bothOf cX4_bothOf 4 4 (n + 1) := by
  intro σ0 g b live f j sz hV hg0 hg1 hb01 hl01 hm
  refine m_start (by decide) (Nat.le_of_ble_eq_true rfl) ?_
  intro p e s m below meth c ⟨S, hr, hlk, hH, hK, hj, hsz, hnm⟩ ls hl
  subst hsz
  obtain ⟨hx, hb, hml, hown, hts⟩ := S
  have S : CallFix p m c _ _ s _ lw_all RX4 := ⟨hx, hb, hml, hown, hts⟩
  have hA : ∀ q, s.heap.size ≤ q → mA G (evS σ0 g b) s.heap.size q := fun q hq => Or.inr hq
  have hl : lv_has ls 4 [(0, .ref (G.2.2 0)), (1, .int (iI live))] := hl
  have v0 := hV.1
  have v3 := hV.2.2.2
  unfold caseOK at v3
  have hc := cdA_r hV hg0
  simp only [mn] at hm
  obtain ⟨⟨f1, i1⟩, e1, e2⟩ := Option.bind_eq_some_iff.mp hm
  have hle1 := EV_le hg1 e1
  have L6 : ∀ (k : Nat) (f1 : Mean) (i : Int) (z : Int), (hi0 : 0 ≤ i) → (hi1 : i ≤ σ0 19 0) → (hz : z = 0 ∨ z = 1) → (hzv : live = 1 → b = 0 → ∀ x, f1 (σ0 5) = some x → z = x) → (hlp : lpM (cdA σ0) 8 8 (fun _ => andF) (mn (cdA σ0) (vlA σ0) n 3) k f1 i = some (f, j)) → ∀ (H : Heap) (locs : List Loc) (ls : Array Slot), MH G (mA G (evS σ0 g b) s.heap.size) (evS σ0 i (brk f1 (σ0 5) live b)) s.heap H locs → lv_has ls 4 [(0, .ref (G.2.2 0)), (1, .int (iI live)), (2, .int (iI z))] → W p l e (rmD (n + 1 + 4)) s m ([.ref (G.2.2 0), .int (iI live)] : List Value).toArray below meth c H locs 0 0 (MQ below (mQi G (evS σ0 g b) s.heap.size (fun z σ' => ((z = 0 ∨ z = 1) ∧ (live = 1 → b = 0 → ∀ x, f (σ0 5) = some x → z = x)) ∧ σ' = evS σ0 j (brk f (σ0 5) live b))) ([.ref (G.2.2 0), .int (iI live)] : List Value).toArray s 0 0 (mA G (evS σ0 g b) s.heap.size)) (F0 m 6 ls []) := by
    intro k
    induction k with
    | zero => intro f1 i z hi0 hi1 hz hzv hlp; rw [lpM] at hlp; cases hlp
    | succ k ih_6 =>
      intro f1 i z hi0 hi1 hz hzv hlp H locs ls hH hl
      rw [lpM] at hlp
      have hbr := brk_01 (f := f1) (a := σ0 5) (live := live) hb01
      have hc := cdA_r hV hi0
      refine lv_aload_n hx hb dX4_bothOf_6 rfl (lv_at hl 0 rfl) ?_
      refine n_bipush (z := 8) hx hb dX4_bothOf_7 (by decide) ?_
      refine m_calliF (m_runV (As := [.int (iI 8)]) (rest := []) S hH hK hj hl.1 (mm_passes l G σ0 i (brk f1 (σ0 5) live b) 8 _ hV (by omega) (by omega) hbr (by omega)) (lw_V q1839 q1841 qs82 q109 q1842) kd_X4_passes rfl rfl dX4_bothOf_9 (hR := ⟨by dsimp only [rmD]; omega, by dsimp only [rmD]; omega⟩)) hH hA (fun H locs hH => ?_)
      refine z_if_eq (tgt := 50) hx hb dX4_bothOf_12 (by decide) (fun c_12 => ?_) (fun c_12 => ?_)
      · -- 12T
        rw [if_neg c_12] at hH
        rw [if_neg (fun q => q.elim c_12 c_12)] at hlp
        refine lv_iload_n hx hb dX4_bothOf_50 rfl (lv_at hl 2 rfl) ?_
        refine m_zret hx hb hr hlk hH dX4_bothOf_51 hz ?_
        cases hlp
        exact ⟨⟨hz, hzv⟩, rfl⟩
      · -- 12F
        rw [if_pos c_12] at hH
        rw [if_pos (Or.inl c_12)] at hlp
        obtain ⟨⟨f2, i2⟩, e3, e4⟩ := Option.bind_eq_some_iff.mp hlp
        have hlt := cdA_lt (σ := σ0) (k := i) (by omega)
        have hle := EV_le (by omega) e3
        refine lv_aload_n hx hb dX4_bothOf_15 rfl (lv_at hl 0 rfl) ?_
        refine lv_iload_n hx hb dX4_bothOf_16 rfl (lv_at hl 1 rfl) ?_
        refine n_if_eq (tgt := 28) hx hb (r32 (by omega)) dX4_bothOf_17 (by decide) (fun c_17 => ?_) (fun c_17 => ?_)
        · -- 17T
          have hL : ((0 : Int) = 1 ∧ live = 1 ∧ ¬ z = 0) ∨ ((0 : Int) = 0 ∧ (live = 0 ∨ z = 0)) := Or.inr ⟨rfl, Or.inl c_17⟩
          refine n_iconst hx hb dX4_bothOf_28 ?_
          refine m_calli (m_runV (As := [.int (iI 0)]) (rest := []) S hH hK hj hl.1 (IH_plainOf σ0 (i + 1) (brk f1 (σ0 5) live b) 0 f2 i2 _ hV (by omega) (by omega) hbr (by omega) e3) (lw_V q1857 q1859 qs86 q109 q1860) kd_X4_plainOf rfl rfl dX4_bothOf_29 (hR := ⟨by dsimp only [rmD]; omega, by dsimp only [rmD]; omega⟩)) hH hA (fun z29 σ29 H locs q_29 hH => ?_)
          obtain ⟨⟨hz2, hz2v⟩, e9⟩ := q_29
          subst e9
          refine lv_istore_n hx hb dX4_bothOf_32 rfl hl (Nat.le_of_ble_eq_true rfl) (lv' := [(3, .int (iI z29)), (0, .ref (G.2.2 0)), (1, .int (iI live)), (2, .int (iI z))]) rfl (fun ls hl => ?_)
          refine lv_iload_n hx hb dX4_bothOf_33 rfl (lv_at hl 3 rfl) ?_
          refine n_if_eq (tgt := 45) hx hb (r32 (by omega)) dX4_bothOf_34 (by decide) (fun c_34 => ?_) (fun c_34 => ?_)
          · -- 34T
            have hst := and_step (f := f1) (g := f2) (a := σ0 5) (live := live) (b := b) (z := z) (z2 := z29) (z' := 0) hl01 hb01 hz hzv hL hz2 hz2v (Or.inr ⟨rfl, Or.inl c_34⟩)
            refine n_iconst hx hb dX4_bothOf_45 ?_
            refine lv_istore_n hx hb dX4_bothOf_46 rfl hl (Nat.le_of_ble_eq_true rfl) (lv' := [(2, .int (iI 0)), (3, .int (iI z29)), (0, .ref (G.2.2 0)), (1, .int (iI live))]) rfl (fun ls hl => ?_)
            refine lv_goto (tgt := 6) hx hb dX4_bothOf_47 (by decide) ?_
            have hl : lv_has ls 4 [(0, .ref (G.2.2 0)), (1, .int (iI live)), (2, .int (iI 0))] := lv_sub hl [2, 3, 0] rfl
            have hH := MH_to hH (τ := evS σ0 i2 (brk (andF f1 f2) (σ0 5) live b)) (congrArg (evS σ0 i2) hst.1)
            refine ih_6 (andF f1 f2) i2 0 ?_ ?_ ?_ ?_ ?_ _ _ _ hH hl
            · omega
            · omega
            · exact hst.2.1
            · exact hst.2.2
            · exact e4
          · -- 34F
            refine lv_iload_n hx hb dX4_bothOf_37 rfl (lv_at hl 0 rfl) ?_
            refine n_if_eq (tgt := 45) hx hb (r32 (by omega)) dX4_bothOf_38 (by decide) (fun c_38 => ?_) (fun c_38 => ?_)
            · -- 38T
              have hst := and_step (f := f1) (g := f2) (a := σ0 5) (live := live) (b := b) (z := z) (z2 := z29) (z' := 0) hl01 hb01 hz hzv hL hz2 hz2v (Or.inr ⟨rfl, Or.inr c_38⟩)
              refine n_iconst hx hb dX4_bothOf_45 ?_
              refine lv_istore_n hx hb dX4_bothOf_46 rfl hl (Nat.le_of_ble_eq_true rfl) (lv' := [(2, .int (iI 0)), (3, .int (iI z29)), (0, .ref (G.2.2 0)), (1, .int (iI live))]) rfl (fun ls hl => ?_)
              refine lv_goto (tgt := 6) hx hb dX4_bothOf_47 (by decide) ?_
              have hl : lv_has ls 4 [(0, .ref (G.2.2 0)), (1, .int (iI live)), (2, .int (iI 0))] := lv_sub hl [2, 3, 0] rfl
              have hH := MH_to hH (τ := evS σ0 i2 (brk (andF f1 f2) (σ0 5) live b)) (congrArg (evS σ0 i2) hst.1)
              refine ih_6 (andF f1 f2) i2 0 ?_ ?_ ?_ ?_ ?_ _ _ _ hH hl
              · omega
              · omega
              · exact hst.2.1
              · exact hst.2.2
              · exact e4
            · -- 38F
              have hst := and_step (f := f1) (g := f2) (a := σ0 5) (live := live) (b := b) (z := z) (z2 := z29) (z' := 1) hl01 hb01 hz hzv hL hz2 hz2v (Or.inl ⟨rfl, c_34, c_38⟩)
              refine n_iconst hx hb dX4_bothOf_41 ?_
              refine lv_goto (tgt := 46) hx hb dX4_bothOf_42 (by decide) ?_
              refine lv_istore_n hx hb dX4_bothOf_46 rfl hl (Nat.le_of_ble_eq_true rfl) (lv' := [(2, .int (iI 1)), (3, .int (iI z29)), (0, .ref (G.2.2 0)), (1, .int (iI live))]) rfl (fun ls hl => ?_)
              refine lv_goto (tgt := 6) hx hb dX4_bothOf_47 (by decide) ?_
              have hl : lv_has ls 4 [(0, .ref (G.2.2 0)), (1, .int (iI live)), (2, .int (iI 1))] := lv_sub hl [2, 3, 0] rfl
              have hH := MH_to hH (τ := evS σ0 i2 (brk (andF f1 f2) (σ0 5) live b)) (congrArg (evS σ0 i2) hst.1)
              refine ih_6 (andF f1 f2) i2 1 ?_ ?_ ?_ ?_ ?_ _ _ _ hH hl
              · omega
              · omega
              · exact hst.2.1
              · exact hst.2.2
              · exact e4
        · -- 17F
          refine lv_iload_n hx hb dX4_bothOf_20 rfl (lv_at hl 2 rfl) ?_
          refine n_if_eq (tgt := 28) hx hb (r32 (by omega)) dX4_bothOf_21 (by decide) (fun c_21 => ?_) (fun c_21 => ?_)
          · -- 21T
            have hL : ((0 : Int) = 1 ∧ live = 1 ∧ ¬ z = 0) ∨ ((0 : Int) = 0 ∧ (live = 0 ∨ z = 0)) := Or.inr ⟨rfl, Or.inr c_21⟩
            refine n_iconst hx hb dX4_bothOf_28 ?_
            refine m_calli (m_runV (As := [.int (iI 0)]) (rest := []) S hH hK hj hl.1 (IH_plainOf σ0 (i + 1) (brk f1 (σ0 5) live b) 0 f2 i2 _ hV (by omega) (by omega) hbr (by omega) e3) (lw_V q1857 q1859 qs86 q109 q1860) kd_X4_plainOf rfl rfl dX4_bothOf_29 (hR := ⟨by dsimp only [rmD]; omega, by dsimp only [rmD]; omega⟩)) hH hA (fun z29 σ29 H locs q_29 hH => ?_)
            obtain ⟨⟨hz2, hz2v⟩, e9⟩ := q_29
            subst e9
            refine lv_istore_n hx hb dX4_bothOf_32 rfl hl (Nat.le_of_ble_eq_true rfl) (lv' := [(3, .int (iI z29)), (0, .ref (G.2.2 0)), (1, .int (iI live)), (2, .int (iI z))]) rfl (fun ls hl => ?_)
            refine lv_iload_n hx hb dX4_bothOf_33 rfl (lv_at hl 3 rfl) ?_
            refine n_if_eq (tgt := 45) hx hb (r32 (by omega)) dX4_bothOf_34 (by decide) (fun c_34 => ?_) (fun c_34 => ?_)
            · -- 34T
              have hst := and_step (f := f1) (g := f2) (a := σ0 5) (live := live) (b := b) (z := z) (z2 := z29) (z' := 0) hl01 hb01 hz hzv hL hz2 hz2v (Or.inr ⟨rfl, Or.inl c_34⟩)
              refine n_iconst hx hb dX4_bothOf_45 ?_
              refine lv_istore_n hx hb dX4_bothOf_46 rfl hl (Nat.le_of_ble_eq_true rfl) (lv' := [(2, .int (iI 0)), (3, .int (iI z29)), (0, .ref (G.2.2 0)), (1, .int (iI live))]) rfl (fun ls hl => ?_)
              refine lv_goto (tgt := 6) hx hb dX4_bothOf_47 (by decide) ?_
              have hl : lv_has ls 4 [(0, .ref (G.2.2 0)), (1, .int (iI live)), (2, .int (iI 0))] := lv_sub hl [2, 3, 0] rfl
              have hH := MH_to hH (τ := evS σ0 i2 (brk (andF f1 f2) (σ0 5) live b)) (congrArg (evS σ0 i2) hst.1)
              refine ih_6 (andF f1 f2) i2 0 ?_ ?_ ?_ ?_ ?_ _ _ _ hH hl
              · omega
              · omega
              · exact hst.2.1
              · exact hst.2.2
              · exact e4
            · exact absurd c_21 c_34
          · -- 21F
            have hL : ((1 : Int) = 1 ∧ live = 1 ∧ ¬ z = 0) ∨ ((1 : Int) = 0 ∧ (live = 0 ∨ z = 0)) := Or.inl ⟨rfl, by omega, c_21⟩
            refine n_iconst hx hb dX4_bothOf_24 ?_
            refine lv_goto (tgt := 29) hx hb dX4_bothOf_25 (by decide) ?_
            refine m_calli (m_runV (As := [.int (iI 1)]) (rest := []) S hH hK hj hl.1 (IH_plainOf σ0 (i + 1) (brk f1 (σ0 5) live b) 1 f2 i2 _ hV (by omega) (by omega) hbr (by omega) e3) (lw_V q1857 q1859 qs86 q109 q1860) kd_X4_plainOf rfl rfl dX4_bothOf_29 (hR := ⟨by dsimp only [rmD]; omega, by dsimp only [rmD]; omega⟩)) hH hA (fun z29 σ29 H locs q_29 hH => ?_)
            obtain ⟨⟨hz2, hz2v⟩, e9⟩ := q_29
            subst e9
            refine lv_istore_n hx hb dX4_bothOf_32 rfl hl (Nat.le_of_ble_eq_true rfl) (lv' := [(3, .int (iI z29)), (0, .ref (G.2.2 0)), (1, .int (iI live)), (2, .int (iI z))]) rfl (fun ls hl => ?_)
            refine lv_iload_n hx hb dX4_bothOf_33 rfl (lv_at hl 3 rfl) ?_
            refine n_if_eq (tgt := 45) hx hb (r32 (by omega)) dX4_bothOf_34 (by decide) (fun c_34 => ?_) (fun c_34 => ?_)
            · exact absurd c_34 c_21
            · -- 34F
              refine lv_iload_n hx hb dX4_bothOf_37 rfl (lv_at hl 0 rfl) ?_
              refine n_if_eq (tgt := 45) hx hb (r32 (by omega)) dX4_bothOf_38 (by decide) (fun c_38 => ?_) (fun c_38 => ?_)
              · -- 38T
                have hst := and_step (f := f1) (g := f2) (a := σ0 5) (live := live) (b := b) (z := z) (z2 := z29) (z' := 0) hl01 hb01 hz hzv hL hz2 hz2v (Or.inr ⟨rfl, Or.inr c_38⟩)
                refine n_iconst hx hb dX4_bothOf_45 ?_
                refine lv_istore_n hx hb dX4_bothOf_46 rfl hl (Nat.le_of_ble_eq_true rfl) (lv' := [(2, .int (iI 0)), (3, .int (iI z29)), (0, .ref (G.2.2 0)), (1, .int (iI live))]) rfl (fun ls hl => ?_)
                refine lv_goto (tgt := 6) hx hb dX4_bothOf_47 (by decide) ?_
                have hl : lv_has ls 4 [(0, .ref (G.2.2 0)), (1, .int (iI live)), (2, .int (iI 0))] := lv_sub hl [2, 3, 0] rfl
                have hH := MH_to hH (τ := evS σ0 i2 (brk (andF f1 f2) (σ0 5) live b)) (congrArg (evS σ0 i2) hst.1)
                refine ih_6 (andF f1 f2) i2 0 ?_ ?_ ?_ ?_ ?_ _ _ _ hH hl
                · omega
                · omega
                · exact hst.2.1
                · exact hst.2.2
                · exact e4
              · -- 38F
                have hst := and_step (f := f1) (g := f2) (a := σ0 5) (live := live) (b := b) (z := z) (z2 := z29) (z' := 1) hl01 hb01 hz hzv hL hz2 hz2v (Or.inl ⟨rfl, c_34, c_38⟩)
                refine n_iconst hx hb dX4_bothOf_41 ?_
                refine lv_goto (tgt := 46) hx hb dX4_bothOf_42 (by decide) ?_
                refine lv_istore_n hx hb dX4_bothOf_46 rfl hl (Nat.le_of_ble_eq_true rfl) (lv' := [(2, .int (iI 1)), (3, .int (iI z29)), (0, .ref (G.2.2 0)), (1, .int (iI live))]) rfl (fun ls hl => ?_)
                refine lv_goto (tgt := 6) hx hb dX4_bothOf_47 (by decide) ?_
                have hl : lv_has ls 4 [(0, .ref (G.2.2 0)), (1, .int (iI live)), (2, .int (iI 1))] := lv_sub hl [2, 3, 0] rfl
                have hH := MH_to hH (τ := evS σ0 i2 (brk (andF f1 f2) (σ0 5) live b)) (congrArg (evS σ0 i2) hst.1)
                refine ih_6 (andF f1 f2) i2 1 ?_ ?_ ?_ ?_ ?_ _ _ _ hH hl
                · omega
                · omega
                · exact hst.2.1
                · exact hst.2.2
                · exact e4
  refine lv_aload_n hx hb dX4_bothOf_0 rfl (lv_at hl 0 rfl) ?_
  refine lv_iload_n hx hb dX4_bothOf_1 rfl (lv_at hl 1 rfl) ?_
  refine m_calli (m_runV (As := [.int (iI live)]) (rest := []) S hH hK hj hl.1 (IH_plainOf σ0 g b live f1 i1 _ hV hg0 hg1 hb01 hl01 e1) (lw_V q1857 q1859 qs86 q109 q1860) kd_X4_plainOf rfl rfl dX4_bothOf_2 (hR := ⟨by dsimp only [rmD]; omega, by dsimp only [rmD]; omega⟩)) hH hA (fun z2 σ2 H locs q_2 hH => ?_)
  obtain ⟨⟨hz0, hzv0⟩, e9⟩ := q_2
  subst e9
  refine lv_istore_n hx hb dX4_bothOf_5 rfl hl (Nat.le_of_ble_eq_true rfl) (lv' := [(2, .int (iI z2)), (0, .ref (G.2.2 0)), (1, .int (iI live))]) rfl (fun ls hl => ?_)
  have hl : lv_has ls 4 [(0, .ref (G.2.2 0)), (1, .int (iI live)), (2, .int (iI z2))] := lv_sub hl [1, 2, 0] rfl
  refine L6 402 f1 i1 z2 ?_ ?_ ?_ ?_ ?_ _ _ _ hH hl
  · omega
  · omega
  · exact hz0
  · exact hzv0
  · exact e2
theorem mv_testOf (l : Launch) (G : MG) (n : Nat) (IH_bothOf : TEv l G yX4_bothOf cX4_bothOf 4 4 n) : TEv l G yX4_testOf cX4_testOf 4 5 (n + 1) := by
  intro σ0 g b live f j sz hV hg0 hg1 hb01 hl01 hm
  refine m_start (by decide) (Nat.le_of_ble_eq_true rfl) ?_
  intro p e s m below meth c ⟨S, hr, hlk, hH, hK, hj, hsz, hnm⟩ ls hl
  subst hsz
  obtain ⟨hx, hb, hml, hown, hts⟩ := S
  have S : CallFix p m c _ _ s _ lw_all RX4 := ⟨hx, hb, hml, hown, hts⟩
  have hA : ∀ q, s.heap.size ≤ q → mA G (evS σ0 g b) s.heap.size q := fun q hq => Or.inr hq
  have hl : lv_has ls 4 [(0, .ref (G.2.2 0)), (1, .int (iI live))] := hl
  have v0 := hV.1
  have v3 := hV.2.2.2
  unfold caseOK at v3
  have hc := cdA_r hV hg0
  simp only [mn] at hm
  obtain ⟨⟨f1, i1⟩, e1, e2⟩ := Option.bind_eq_some_iff.mp hm
  have hle1 := EV_le hg1 e1
  have L6 : ∀ (k : Nat) (f1 : Mean) (i : Int) (z : Int), (hi0 : 0 ≤ i) → (hi1 : i ≤ σ0 19 0) → (hz : z = 0 ∨ z = 1) → (hzv : live = 1 → b = 0 → ∀ x, f1 (σ0 5) = some x → z = x) → (hlp : lpM (cdA σ0) 7 7 (fun _ => orF) (mn (cdA σ0) (vlA σ0) n 4) k f1 i = some (f, j)) → ∀ (H : Heap) (locs : List Loc) (ls : Array Slot), MH G (mA G (evS σ0 g b) s.heap.size) (evS σ0 i (brk f1 (σ0 5) live b)) s.heap H locs → lv_has ls 4 [(0, .ref (G.2.2 0)), (1, .int (iI live)), (2, .int (iI z))] → W p l e (rmD (n + 1 + 4)) s m ([.ref (G.2.2 0), .int (iI live)] : List Value).toArray below meth c H locs 0 0 (MQ below (mQi G (evS σ0 g b) s.heap.size (fun z σ' => ((z = 0 ∨ z = 1) ∧ (live = 1 → b = 0 → ∀ x, f (σ0 5) = some x → z = x)) ∧ σ' = evS σ0 j (brk f (σ0 5) live b))) ([.ref (G.2.2 0), .int (iI live)] : List Value).toArray s 0 0 (mA G (evS σ0 g b) s.heap.size)) (F0 m 6 ls []) := by
    intro k
    induction k with
    | zero => intro f1 i z hi0 hi1 hz hzv hlp; rw [lpM] at hlp; cases hlp
    | succ k ih_6 =>
      intro f1 i z hi0 hi1 hz hzv hlp H locs ls hH hl
      rw [lpM] at hlp
      have hbr := brk_01 (f := f1) (a := σ0 5) (live := live) hb01
      have hc := cdA_r hV hi0
      refine lv_aload_n hx hb dX4_testOf_6 rfl (lv_at hl 0 rfl) ?_
      refine n_bipush (z := 7) hx hb dX4_testOf_7 (by decide) ?_
      refine m_calliF (m_runV (As := [.int (iI 7)]) (rest := []) S hH hK hj hl.1 (mm_passes l G σ0 i (brk f1 (σ0 5) live b) 7 _ hV (by omega) (by omega) hbr (by omega)) (lw_V q1839 q1841 qs82 q109 q1842) kd_X4_passes rfl rfl dX4_testOf_9 (hR := ⟨by dsimp only [rmD]; omega, by dsimp only [rmD]; omega⟩)) hH hA (fun H locs hH => ?_)
      refine z_if_eq (tgt := 50) hx hb dX4_testOf_12 (by decide) (fun c_12 => ?_) (fun c_12 => ?_)
      · -- 12T
        rw [if_neg c_12] at hH
        rw [if_neg (fun q => q.elim c_12 c_12)] at hlp
        refine lv_iload_n hx hb dX4_testOf_50 rfl (lv_at hl 2 rfl) ?_
        refine m_zret hx hb hr hlk hH dX4_testOf_51 hz ?_
        cases hlp
        exact ⟨⟨hz, hzv⟩, rfl⟩
      · -- 12F
        rw [if_pos c_12] at hH
        rw [if_pos (Or.inl c_12)] at hlp
        obtain ⟨⟨f2, i2⟩, e3, e4⟩ := Option.bind_eq_some_iff.mp hlp
        have hlt := cdA_lt (σ := σ0) (k := i) (by omega)
        have hle := EV_le (by omega) e3
        refine lv_aload_n hx hb dX4_testOf_15 rfl (lv_at hl 0 rfl) ?_
        refine lv_iload_n hx hb dX4_testOf_16 rfl (lv_at hl 1 rfl) ?_
        refine n_if_eq (tgt := 28) hx hb (r32 (by omega)) dX4_testOf_17 (by decide) (fun c_17 => ?_) (fun c_17 => ?_)
        · -- 17T
          have hL : ((0 : Int) = 1 ∧ live = 1 ∧ z = 0) ∨ ((0 : Int) = 0 ∧ (live = 0 ∨ ¬ z = 0)) := Or.inr ⟨rfl, Or.inl c_17⟩
          refine n_iconst hx hb dX4_testOf_28 ?_
          refine m_calli (m_runV (As := [.int (iI 0)]) (rest := []) S hH hK hj hl.1 (IH_bothOf σ0 (i + 1) (brk f1 (σ0 5) live b) 0 f2 i2 _ hV (by omega) (by omega) hbr (by omega) e3) (lw_V q1853 q1855 qs85 q109 q1856) kd_X4_bothOf rfl rfl dX4_testOf_29 (hR := ⟨by dsimp only [rmD]; omega, by dsimp only [rmD]; omega⟩)) hH hA (fun z29 σ29 H locs q_29 hH => ?_)
          obtain ⟨⟨hz2, hz2v⟩, e9⟩ := q_29
          subst e9
          refine lv_istore_n hx hb dX4_testOf_32 rfl hl (Nat.le_of_ble_eq_true rfl) (lv' := [(3, .int (iI z29)), (0, .ref (G.2.2 0)), (1, .int (iI live)), (2, .int (iI z))]) rfl (fun ls hl => ?_)
          refine lv_iload_n hx hb dX4_testOf_33 rfl (lv_at hl 3 rfl) ?_
          refine n_if_ne (tgt := 41) hx hb (r32 (by omega)) dX4_testOf_34 (by decide) (fun c_34 => ?_) (fun c_34 => ?_)
          · -- 34T
            have hst := or_step (f := f1) (g := f2) (a := σ0 5) (live := live) (b := b) (z := z) (z2 := z29) (z' := 1) hl01 hb01 hz hzv hL hz2 hz2v (Or.inl ⟨rfl, Or.inl c_34⟩)
            refine n_iconst hx hb dX4_testOf_41 ?_
            refine lv_goto (tgt := 46) hx hb dX4_testOf_42 (by decide) ?_
            refine lv_istore_n hx hb dX4_testOf_46 rfl hl (Nat.le_of_ble_eq_true rfl) (lv' := [(2, .int (iI 1)), (3, .int (iI z29)), (0, .ref (G.2.2 0)), (1, .int (iI live))]) rfl (fun ls hl => ?_)
            refine lv_goto (tgt := 6) hx hb dX4_testOf_47 (by decide) ?_
            have hl : lv_has ls 4 [(0, .ref (G.2.2 0)), (1, .int (iI live)), (2, .int (iI 1))] := lv_sub hl [2, 3, 0] rfl
            have hH := MH_to hH (τ := evS σ0 i2 (brk (orF f1 f2) (σ0 5) live b)) (congrArg (evS σ0 i2) hst.1)
            refine ih_6 (orF f1 f2) i2 1 ?_ ?_ ?_ ?_ ?_ _ _ _ hH hl
            · omega
            · omega
            · exact hst.2.1
            · exact hst.2.2
            · exact e4
          · -- 34F
            refine lv_iload_n hx hb dX4_testOf_37 rfl (lv_at hl 0 rfl) ?_
            refine n_if_eq (tgt := 45) hx hb (r32 (by omega)) dX4_testOf_38 (by decide) (fun c_38 => ?_) (fun c_38 => ?_)
            · -- 38T
              have hst := or_step (f := f1) (g := f2) (a := σ0 5) (live := live) (b := b) (z := z) (z2 := z29) (z' := 0) hl01 hb01 hz hzv hL hz2 hz2v (Or.inr ⟨rfl, c_34, c_38⟩)
              refine n_iconst hx hb dX4_testOf_45 ?_
              refine lv_istore_n hx hb dX4_testOf_46 rfl hl (Nat.le_of_ble_eq_true rfl) (lv' := [(2, .int (iI 0)), (3, .int (iI z29)), (0, .ref (G.2.2 0)), (1, .int (iI live))]) rfl (fun ls hl => ?_)
              refine lv_goto (tgt := 6) hx hb dX4_testOf_47 (by decide) ?_
              have hl : lv_has ls 4 [(0, .ref (G.2.2 0)), (1, .int (iI live)), (2, .int (iI 0))] := lv_sub hl [2, 3, 0] rfl
              have hH := MH_to hH (τ := evS σ0 i2 (brk (orF f1 f2) (σ0 5) live b)) (congrArg (evS σ0 i2) hst.1)
              refine ih_6 (orF f1 f2) i2 0 ?_ ?_ ?_ ?_ ?_ _ _ _ hH hl
              · omega
              · omega
              · exact hst.2.1
              · exact hst.2.2
              · exact e4
            · -- 38F
              have hst := or_step (f := f1) (g := f2) (a := σ0 5) (live := live) (b := b) (z := z) (z2 := z29) (z' := 1) hl01 hb01 hz hzv hL hz2 hz2v (Or.inl ⟨rfl, Or.inr c_38⟩)
              refine n_iconst hx hb dX4_testOf_41 ?_
              refine lv_goto (tgt := 46) hx hb dX4_testOf_42 (by decide) ?_
              refine lv_istore_n hx hb dX4_testOf_46 rfl hl (Nat.le_of_ble_eq_true rfl) (lv' := [(2, .int (iI 1)), (3, .int (iI z29)), (0, .ref (G.2.2 0)), (1, .int (iI live))]) rfl (fun ls hl => ?_)
              refine lv_goto (tgt := 6) hx hb dX4_testOf_47 (by decide) ?_
              have hl : lv_has ls 4 [(0, .ref (G.2.2 0)), (1, .int (iI live)), (2, .int (iI 1))] := lv_sub hl [2, 3, 0] rfl
              have hH := MH_to hH (τ := evS σ0 i2 (brk (orF f1 f2) (σ0 5) live b)) (congrArg (evS σ0 i2) hst.1)
              refine ih_6 (orF f1 f2) i2 1 ?_ ?_ ?_ ?_ ?_ _ _ _ hH hl
              · omega
              · omega
              · exact hst.2.1
              · exact hst.2.2
              · exact e4
        · -- 17F
          refine lv_iload_n hx hb dX4_testOf_20 rfl (lv_at hl 2 rfl) ?_
          refine n_if_ne (tgt := 28) hx hb (r32 (by omega)) dX4_testOf_21 (by decide) (fun c_21 => ?_) (fun c_21 => ?_)
          · -- 21T
            have hL : ((0 : Int) = 1 ∧ live = 1 ∧ z = 0) ∨ ((0 : Int) = 0 ∧ (live = 0 ∨ ¬ z = 0)) := Or.inr ⟨rfl, Or.inr c_21⟩
            refine n_iconst hx hb dX4_testOf_28 ?_
            refine m_calli (m_runV (As := [.int (iI 0)]) (rest := []) S hH hK hj hl.1 (IH_bothOf σ0 (i + 1) (brk f1 (σ0 5) live b) 0 f2 i2 _ hV (by omega) (by omega) hbr (by omega) e3) (lw_V q1853 q1855 qs85 q109 q1856) kd_X4_bothOf rfl rfl dX4_testOf_29 (hR := ⟨by dsimp only [rmD]; omega, by dsimp only [rmD]; omega⟩)) hH hA (fun z29 σ29 H locs q_29 hH => ?_)
            obtain ⟨⟨hz2, hz2v⟩, e9⟩ := q_29
            subst e9
            refine lv_istore_n hx hb dX4_testOf_32 rfl hl (Nat.le_of_ble_eq_true rfl) (lv' := [(3, .int (iI z29)), (0, .ref (G.2.2 0)), (1, .int (iI live)), (2, .int (iI z))]) rfl (fun ls hl => ?_)
            refine lv_iload_n hx hb dX4_testOf_33 rfl (lv_at hl 3 rfl) ?_
            refine n_if_ne (tgt := 41) hx hb (r32 (by omega)) dX4_testOf_34 (by decide) (fun c_34 => ?_) (fun c_34 => ?_)
            · -- 34T
              have hst := or_step (f := f1) (g := f2) (a := σ0 5) (live := live) (b := b) (z := z) (z2 := z29) (z' := 1) hl01 hb01 hz hzv hL hz2 hz2v (Or.inl ⟨rfl, Or.inl c_34⟩)
              refine n_iconst hx hb dX4_testOf_41 ?_
              refine lv_goto (tgt := 46) hx hb dX4_testOf_42 (by decide) ?_
              refine lv_istore_n hx hb dX4_testOf_46 rfl hl (Nat.le_of_ble_eq_true rfl) (lv' := [(2, .int (iI 1)), (3, .int (iI z29)), (0, .ref (G.2.2 0)), (1, .int (iI live))]) rfl (fun ls hl => ?_)
              refine lv_goto (tgt := 6) hx hb dX4_testOf_47 (by decide) ?_
              have hl : lv_has ls 4 [(0, .ref (G.2.2 0)), (1, .int (iI live)), (2, .int (iI 1))] := lv_sub hl [2, 3, 0] rfl
              have hH := MH_to hH (τ := evS σ0 i2 (brk (orF f1 f2) (σ0 5) live b)) (congrArg (evS σ0 i2) hst.1)
              refine ih_6 (orF f1 f2) i2 1 ?_ ?_ ?_ ?_ ?_ _ _ _ hH hl
              · omega
              · omega
              · exact hst.2.1
              · exact hst.2.2
              · exact e4
            · exact absurd c_34 c_21
          · -- 21F
            have hL : ((1 : Int) = 1 ∧ live = 1 ∧ z = 0) ∨ ((1 : Int) = 0 ∧ (live = 0 ∨ ¬ z = 0)) := Or.inl ⟨rfl, by omega, c_21⟩
            refine n_iconst hx hb dX4_testOf_24 ?_
            refine lv_goto (tgt := 29) hx hb dX4_testOf_25 (by decide) ?_
            refine m_calli (m_runV (As := [.int (iI 1)]) (rest := []) S hH hK hj hl.1 (IH_bothOf σ0 (i + 1) (brk f1 (σ0 5) live b) 1 f2 i2 _ hV (by omega) (by omega) hbr (by omega) e3) (lw_V q1853 q1855 qs85 q109 q1856) kd_X4_bothOf rfl rfl dX4_testOf_29 (hR := ⟨by dsimp only [rmD]; omega, by dsimp only [rmD]; omega⟩)) hH hA (fun z29 σ29 H locs q_29 hH => ?_)
            obtain ⟨⟨hz2, hz2v⟩, e9⟩ := q_29
            subst e9
            refine lv_istore_n hx hb dX4_testOf_32 rfl hl (Nat.le_of_ble_eq_true rfl) (lv' := [(3, .int (iI z29)), (0, .ref (G.2.2 0)), (1, .int (iI live)), (2, .int (iI z))]) rfl (fun ls hl => ?_)
            refine lv_iload_n hx hb dX4_testOf_33 rfl (lv_at hl 3 rfl) ?_
            refine n_if_ne (tgt := 41) hx hb (r32 (by omega)) dX4_testOf_34 (by decide) (fun c_34 => ?_) (fun c_34 => ?_)
            · exact absurd c_21 c_34
            · -- 34F
              refine lv_iload_n hx hb dX4_testOf_37 rfl (lv_at hl 0 rfl) ?_
              refine n_if_eq (tgt := 45) hx hb (r32 (by omega)) dX4_testOf_38 (by decide) (fun c_38 => ?_) (fun c_38 => ?_)
              · -- 38T
                have hst := or_step (f := f1) (g := f2) (a := σ0 5) (live := live) (b := b) (z := z) (z2 := z29) (z' := 0) hl01 hb01 hz hzv hL hz2 hz2v (Or.inr ⟨rfl, c_34, c_38⟩)
                refine n_iconst hx hb dX4_testOf_45 ?_
                refine lv_istore_n hx hb dX4_testOf_46 rfl hl (Nat.le_of_ble_eq_true rfl) (lv' := [(2, .int (iI 0)), (3, .int (iI z29)), (0, .ref (G.2.2 0)), (1, .int (iI live))]) rfl (fun ls hl => ?_)
                refine lv_goto (tgt := 6) hx hb dX4_testOf_47 (by decide) ?_
                have hl : lv_has ls 4 [(0, .ref (G.2.2 0)), (1, .int (iI live)), (2, .int (iI 0))] := lv_sub hl [2, 3, 0] rfl
                have hH := MH_to hH (τ := evS σ0 i2 (brk (orF f1 f2) (σ0 5) live b)) (congrArg (evS σ0 i2) hst.1)
                refine ih_6 (orF f1 f2) i2 0 ?_ ?_ ?_ ?_ ?_ _ _ _ hH hl
                · omega
                · omega
                · exact hst.2.1
                · exact hst.2.2
                · exact e4
              · -- 38F
                have hst := or_step (f := f1) (g := f2) (a := σ0 5) (live := live) (b := b) (z := z) (z2 := z29) (z' := 1) hl01 hb01 hz hzv hL hz2 hz2v (Or.inl ⟨rfl, Or.inr c_38⟩)
                refine n_iconst hx hb dX4_testOf_41 ?_
                refine lv_goto (tgt := 46) hx hb dX4_testOf_42 (by decide) ?_
                refine lv_istore_n hx hb dX4_testOf_46 rfl hl (Nat.le_of_ble_eq_true rfl) (lv' := [(2, .int (iI 1)), (3, .int (iI z29)), (0, .ref (G.2.2 0)), (1, .int (iI live))]) rfl (fun ls hl => ?_)
                refine lv_goto (tgt := 6) hx hb dX4_testOf_47 (by decide) ?_
                have hl : lv_has ls 4 [(0, .ref (G.2.2 0)), (1, .int (iI live)), (2, .int (iI 1))] := lv_sub hl [2, 3, 0] rfl
                have hH := MH_to hH (τ := evS σ0 i2 (brk (orF f1 f2) (σ0 5) live b)) (congrArg (evS σ0 i2) hst.1)
                refine ih_6 (orF f1 f2) i2 1 ?_ ?_ ?_ ?_ ?_ _ _ _ hH hl
                · omega
                · omega
                · exact hst.2.1
                · exact hst.2.2
                · exact e4
  refine lv_aload_n hx hb dX4_testOf_0 rfl (lv_at hl 0 rfl) ?_
  refine lv_iload_n hx hb dX4_testOf_1 rfl (lv_at hl 1 rfl) ?_
  refine m_calli (m_runV (As := [.int (iI live)]) (rest := []) S hH hK hj hl.1 (IH_bothOf σ0 g b live f1 i1 _ hV hg0 hg1 hb01 hl01 e1) (lw_V q1853 q1855 qs85 q109 q1856) kd_X4_bothOf rfl rfl dX4_testOf_2 (hR := ⟨by dsimp only [rmD]; omega, by dsimp only [rmD]; omega⟩)) hH hA (fun z2 σ2 H locs q_2 hH => ?_)
  obtain ⟨⟨hz0, hzv0⟩, e9⟩ := q_2
  subst e9
  refine lv_istore_n hx hb dX4_testOf_5 rfl hl (Nat.le_of_ble_eq_true rfl) (lv' := [(2, .int (iI z2)), (0, .ref (G.2.2 0)), (1, .int (iI live))]) rfl (fun ls hl => ?_)
  have hl : lv_has ls 4 [(0, .ref (G.2.2 0)), (1, .int (iI live)), (2, .int (iI z2))] := lv_sub hl [1, 2, 0] rfl
  refine L6 402 f1 i1 z2 ?_ ?_ ?_ ?_ ?_ _ _ _ hH hl
  · omega
  · omega
  · exact hz0
  · exact hzv0
  · exact e2
