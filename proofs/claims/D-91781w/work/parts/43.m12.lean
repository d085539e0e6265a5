theorem kd_X4_wordOf : yX4_wordOf.cls = RX4 ∧ yX4_wordOf.cls ≠ "java/lang/invoke/MethodHandle" ∧ yX4_wordOf.cls ≠ "java/lang/invoke/VarHandle" ∧ (parseMethodDescriptor yX4_wordOf.desc).map (fun d => d.parameters.length) = some 2 := by decide +kernel
theorem mm_wordOf (l : Launch) (G : MG) (σ : St) (a : Int) (b : Int) (sz : Nat) (hW : ∀ i : Nat, i < 134 → σ 6 i = wBy.getD i 0) (ha : 0 ≤ a) (hab : a < b) (hb4 : b ≤ 400) (hTp : ∀ i, -128 ≤ σ 7 i ∧ σ 7 i < 128) : Met l yX4_wordOf (ws_ yX4_wordOf cX4_wordOf 8 (some .int)) (rmD 1) (mP G [.ref (G.2.2 0), .int (iI a), .int (iI b)] σ sz) (mQi G σ sz (fun z σ' => z = wordNo (σ 7) a b ∧ σ' = σ)) 0 0 (mA G σ sz) := by
  refine m_start (by decide) (Nat.le_of_ble_eq_true rfl) ?_
  intro p e s m below meth c ⟨S, hr, hlk, hH, hK, hj, hsz, hnm⟩ ls hl
  subst hsz
  obtain ⟨hx, hb, hml, hown, hts⟩ := S
  have S : CallFix p m c _ _ s _ lw_all RX4 := ⟨hx, hb, hml, hown, hts⟩
  have hA : ∀ q, s.heap.size ≤ q → mA G σ s.heap.size q := fun q hq => Or.inr hq
  have hl : lv_has ls 8 [(0, .ref (G.2.2 0)), (1, .int (iI a)), (2, .int (iI b))] := hl
  have L5 : ∀ (n : Nat) (w : Nat), (hw0 : w ≤ 24) → (hn : 24 < n + w) → (hw1 : wNo (σ 7) a b (24 - w) w = wordNo (σ 7) a b) → ∀ (H : Heap) (locs : List Loc) (ls : Array Slot), MH G (mA G σ s.heap.size) σ s.heap H locs → lv_has ls 8 [(0, .ref (G.2.2 0)), (1, .int (iI a)), (2, .int (iI b)), (3, .int (iI ((w : Int) + 1))), (4, .int (iI ((wOff w : Nat) : Int)))] → W p l e (rmD 1) s m ([.ref (G.2.2 0), .int (iI a), .int (iI b)] : List Value).toArray below meth c H locs 0 0 (MQ below (mQi G σ s.heap.size (fun z σ' => z = wordNo (σ 7) a b ∧ σ' = σ)) ([.ref (G.2.2 0), .int (iI a), .int (iI b)] : List Value).toArray s 0 0 (mA G σ s.heap.size)) (F0 m 5 ls []) := by
    intro n
    induction n with
    | zero => intro w hw0 hn hw1; exfalso; omega
    | succ n ih_5 =>
      intro w hw0 hn hw1 H locs ls hH hl
      have hwe : w < 24 → wOff w < 134 := fun q => by have := (w_tab w q).2.2.1; omega
      have hwe2 : w = 24 → wOff w = 134 := fun q => by rw [q]; exact w_end
      have L104 : ∀ (z : Int), (hw2 : w < 24) → (hz : z = zb (tokW (σ 7) a b w)) → ∀ (H : Heap) (locs : List Loc) (ls : Array Slot), MH G (mA G σ s.heap.size) σ s.heap H locs → lv_has ls 8 [(0, .ref (G.2.2 0)), (1, .int (iI a)), (2, .int (iI b)), (3, .int (iI ((w : Int) + 1))), (4, .int (iI ((wOff w : Nat) : Int))), (5, .int (iI ((wLen w : Nat) : Int))), (6, .int (iI z))] → W p l e (rmD 1) s m ([.ref (G.2.2 0), .int (iI a), .int (iI b)] : List Value).toArray below meth c H locs 0 0 (MQ below (mQi G σ s.heap.size (fun z σ' => z = wordNo (σ 7) a b ∧ σ' = σ)) ([.ref (G.2.2 0), .int (iI a), .int (iI b)] : List Value).toArray s 0 0 (mA G σ s.heap.size)) (F0 m 104 ls []) := by
        intro z hw2 hz H locs ls hH hl
        subst hz
        refine lv_iload hx hb dX4_wordOf_104 (lv_at hl 6 rfl) ?_
        refine z_if_eq (tgt := 111) hx hb dX4_wordOf_106 (by decide) (fun c_106 => ?_) (fun c_106 => ?_)
        · -- 106T
          have hnt := c_106
          have w0 := w_tab w (by omega)
          refine lv_iload hx hb dX4_wordOf_111 (lv_at hl 4 rfl) ?_
          refine lv_iload hx hb dX4_wordOf_113 (lv_at hl 5 rfl) ?_
          refine n_iconst hx hb dX4_wordOf_115 ?_
          refine n_iadd hx hb dX4_wordOf_116 ?_
          refine n_iadd hx hb dX4_wordOf_117 ?_
          refine lv_istore hx hb dX4_wordOf_118 hl (Nat.le_of_ble_eq_true rfl) (lv' := [(4, .int (iI (((wOff w : Nat) : Int) + (((wLen w : Nat) : Int) + 1)))), (0, .ref (G.2.2 0)), (1, .int (iI a)), (2, .int (iI b)), (3, .int (iI ((w : Int) + 1))), (5, .int (iI ((wLen w : Nat) : Int))), (6, .int (iI (zb (tokW (σ 7) a b w))))]) rfl (fun ls hl => ?_)
          refine n_iinc hx hb dX4_wordOf_120 hl (k := 4) rfl (Nat.le_of_ble_eq_true rfl) (lv' := [(3, .int (iI (((w : Int) + 1) + 1))), (4, .int (iI (((wOff w : Nat) : Int) + (((wLen w : Nat) : Int) + 1)))), (0, .ref (G.2.2 0)), (1, .int (iI a)), (2, .int (iI b)), (5, .int (iI ((wLen w : Nat) : Int))), (6, .int (iI (zb (tokW (σ 7) a b w))))]) rfl (fun ls hl => ?_)
          refine lv_goto (tgt := 5) hx hb dX4_wordOf_123 (by decide) ?_
          have hl : lv_has ls 8 [(0, .ref (G.2.2 0)), (1, .int (iI a)), (2, .int (iI b)), (3, .int (iI (((w : Int) + 1) + 1))), (4, .int (iI (((wOff w : Nat) : Int) + (((wLen w : Nat) : Int) + 1))))] := lv_sub hl [2, 3, 4, 0, 1] rfl
          have hl : lv_has ls 8 [(0, .ref (G.2.2 0)), (1, .int (iI a)), (2, .int (iI b)), (3, .int (iI (((w + 1 : Nat) : Int) + 1))), (4, .int (iI ((wOff (w + 1) : Nat) : Int)))] := by rw [show (((w + 1 : Nat) : Int) + 1) = (w : Int) + 1 + 1 by omega, show ((wOff (w + 1) : Nat) : Int) = ((wOff w : Nat) : Int) + (((wLen w : Nat) : Int) + 1) by (rw [show wOff (w + 1) = wOff w + wLen w + 1 from rfl]; omega)]; exact hl
          refine ih_5 (w + 1) ?_ ?_ ?_ _ _ _ hH hl
          · omega
          · omega
          · rw [← wNo_n (by omega) hnt]; exact hw1
        · -- 106F
          refine lv_iload_n hx hb dX4_wordOf_109 rfl (lv_at hl 3 rfl) ?_
          refine m_iret hx hb hr hlk hH dX4_wordOf_110 ?_
          exact ⟨by rw [← hw1, wNo_y hw2 c_106], rfl⟩
      have L57 : ∀ (n3 : Nat) (i : Nat) (z : Int), (hw2 : w < 24) → (hi0 : i ≤ wLen w) → (hn3 : wLen w < n3 + i) → (hz : z = zb (((wLen w : Nat) : Int) = b - a ∧ ∀ j : Nat, j < i → wBy.getD (wOff w + j) 0 = σ 7 (a + j))) → ∀ (H : Heap) (locs : List Loc) (ls : Array Slot), MH G (mA G σ s.heap.size) σ s.heap H locs → lv_has ls 8 [(0, .ref (G.2.2 0)), (1, .int (iI a)), (2, .int (iI b)), (3, .int (iI ((w : Int) + 1))), (4, .int (iI ((wOff w : Nat) : Int))), (5, .int (iI ((wLen w : Nat) : Int))), (6, .int (iI z)), (7, .int (iI (i : Int)))] → W p l e (rmD 1) s m ([.ref (G.2.2 0), .int (iI a), .int (iI b)] : List Value).toArray below meth c H locs 0 0 (MQ below (mQi G σ s.heap.size (fun z σ' => z = wordNo (σ 7) a b ∧ σ' = σ)) ([.ref (G.2.2 0), .int (iI a), .int (iI b)] : List Value).toArray s 0 0 (mA G σ s.heap.size)) (F0 m 57 ls []) := by
        intro n3
        induction n3 with
        | zero => intro i z hw2 hi0 hn3 hz; exfalso; omega
        | succ n3 ih_57 =>
          intro i z hw2 hi0 hn3 hz H locs ls hH hl
          have w0 := w_tab w (by omega)
          have wr := wBy_r
          have ht := hTp
          subst hz
          have L96 : ∀ (z : Int), (hz : z = zb (((wLen w : Nat) : Int) = b - a ∧ ∀ j : Nat, j < i + 1 → wBy.getD (wOff w + j) 0 = σ 7 (a + j))) → (hi1 : i < wLen w) → ∀ (H : Heap) (locs : List Loc) (ls : Array Slot), MH G (mA G σ s.heap.size) σ s.heap H locs → lv_has ls 8 [(0, .ref (G.2.2 0)), (1, .int (iI a)), (2, .int (iI b)), (3, .int (iI ((w : Int) + 1))), (4, .int (iI ((wOff w : Nat) : Int))), (5, .int (iI ((wLen w : Nat) : Int))), (7, .int (iI (i : Int)))] → W p l e (rmD 1) s m ([.ref (G.2.2 0), .int (iI a), .int (iI b)] : List Value).toArray below meth c H locs 0 0 (MQ below (mQi G σ s.heap.size (fun z σ' => z = wordNo (σ 7) a b ∧ σ' = σ)) ([.ref (G.2.2 0), .int (iI a), .int (iI b)] : List Value).toArray s 0 0 (mA G σ s.heap.size)) (F0 m 96 ls [.int (iI z)]) := by
            intro z hz hi1 H locs ls hH hl
            refine lv_istore hx hb dX4_wordOf_96 hl (Nat.le_of_ble_eq_true rfl) (lv' := [(6, .int (iI z)), (0, .ref (G.2.2 0)), (1, .int (iI a)), (2, .int (iI b)), (3, .int (iI ((w : Int) + 1))), (4, .int (iI ((wOff w : Nat) : Int))), (5, .int (iI ((wLen w : Nat) : Int))), (7, .int (iI (i : Int)))]) rfl (fun ls hl => ?_)
            refine n_iinc hx hb dX4_wordOf_98 hl (k := 7) rfl (Nat.le_of_ble_eq_true rfl) (lv' := [(7, .int (iI ((i : Int) + 1))), (6, .int (iI z)), (0, .ref (G.2.2 0)), (1, .int (iI a)), (2, .int (iI b)), (3, .int (iI ((w : Int) + 1))), (4, .int (iI ((wOff w : Nat) : Int))), (5, .int (iI ((wLen w : Nat) : Int)))]) rfl (fun ls hl => ?_)
            refine lv_goto (tgt := 57) hx hb dX4_wordOf_101 (by decide) ?_
            have hl : lv_has ls 8 [(0, .ref (G.2.2 0)), (1, .int (iI a)), (2, .int (iI b)), (3, .int (iI ((w : Int) + 1))), (4, .int (iI ((wOff w : Nat) : Int))), (5, .int (iI ((wLen w : Nat) : Int))), (6, .int (iI z)), (7, .int (iI ((i : Int) + 1)))] := lv_sub hl [2, 3, 4, 5, 6, 7, 1, 0] rfl
            refine ih_57 (i + 1) z ?_ ?_ ?_ ?_ _ _ _ hH hl
            · omega
            · omega
            · omega
            · exact hz
          refine lv_iload hx hb dX4_wordOf_57 (lv_at hl 7 rfl) ?_
          refine lv_iload hx hb dX4_wordOf_59 (lv_at hl 5 rfl) ?_
          refine n_icmp_ge (tgt := 104) hx hb (r32 (by omega)) (r32 (by omega)) dX4_wordOf_61 (by decide) (fun c_61 => ?_) (fun c_61 => ?_)
          · -- 61T
            have hl : lv_has ls 8 [(0, .ref (G.2.2 0)), (1, .int (iI a)), (2, .int (iI b)), (3, .int (iI ((w : Int) + 1))), (4, .int (iI ((wOff w : Nat) : Int))), (5, .int (iI ((wLen w : Nat) : Int))), (6, .int (iI (zb (((wLen w : Nat) : Int) = b - a ∧ ∀ j : Nat, j < i → wBy.getD (wOff w + j) 0 = σ 7 (a + j)))))] := lv_sub hl [0, 1, 2, 3, 4, 5, 6] rfl
            refine L104 (zb (((wLen w : Nat) : Int) = b - a ∧ ∀ j : Nat, j < i → wBy.getD (wOff w + j) 0 = σ 7 (a + j))) ?_ ?_ _ _ _ hH hl
            · omega
            · first | exact zb_cg ⟨fun q => ⟨q.1, fun j y => q.2 j (by omega)⟩, fun q => ⟨q.1, fun j y => q.2 j (by omega)⟩⟩ | (rw [zb_f c_66]; exact (zb_f (fun q => c_66 ⟨q.1, fun j y => q.2 j (by omega)⟩)).symm)
          · -- 61F
            refine lv_iload hx hb dX4_wordOf_64 (lv_at hl 6 rfl) ?_
            refine z_if_eq (tgt := 104) hx hb dX4_wordOf_66 (by decide) (fun c_66 => ?_) (fun c_66 => ?_)
            · -- 66T
              have hl : lv_has ls 8 [(0, .ref (G.2.2 0)), (1, .int (iI a)), (2, .int (iI b)), (3, .int (iI ((w : Int) + 1))), (4, .int (iI ((wOff w : Nat) : Int))), (5, .int (iI ((wLen w : Nat) : Int))), (6, .int (iI (zb (((wLen w : Nat) : Int) = b - a ∧ ∀ j : Nat, j < i → wBy.getD (wOff w + j) 0 = σ 7 (a + j)))))] := lv_sub hl [0, 1, 2, 3, 4, 5, 6] rfl
              refine L104 (zb (((wLen w : Nat) : Int) = b - a ∧ ∀ j : Nat, j < i → wBy.getD (wOff w + j) 0 = σ 7 (a + j))) ?_ ?_ _ _ _ hH hl
              · omega
              · first | exact zb_cg ⟨fun q => ⟨q.1, fun j y => q.2 j (by omega)⟩, fun q => ⟨q.1, fun j y => q.2 j (by omega)⟩⟩ | (rw [zb_f c_66]; exact (zb_f (fun q => c_66 ⟨q.1, fun j y => q.2 j (by omega)⟩)).symm)
            · -- 66F
              have hc66 := c_66.1
              refine lv_aload_n hx hb dX4_wordOf_69 rfl (lv_at hl 0 rfl) ?_
              refine m_get 6 (by decide) hx hb hts hown hK hj hH q1479 (fun _ h9 => h9) rfl dX4_wordOf_70 ?_
              refine lv_iload hx hb dX4_wordOf_73 (lv_at hl 4 rfl) ?_
              refine lv_iload hx hb dX4_wordOf_75 (lv_at hl 7 rfl) ?_
              refine n_iadd hx hb dX4_wordOf_77 ?_
              refine ml_6 hx hb hK hj hH (by omega) (by omega) dX4_wordOf_78 ?_
              refine W.eq (g2 := F0 m 79 ls (.int (iI (wBy.getD (wOff w + i) 0)) :: [])) (by rw [show ((wOff w : Nat) : Int) + (i : Int) = ((wOff w + i : Nat) : Int) by omega, hW _ (by omega)]) ?_
              have hwi := wr (wOff w + i)
              refine lv_aload_n hx hb dX4_wordOf_79 rfl (lv_at hl 0 rfl) ?_
              refine m_get 7 (by decide) hx hb hts hown hK hj hH q1480 (fun _ h9 => h9) rfl dX4_wordOf_80 ?_
              refine lv_iload_n hx hb dX4_wordOf_83 rfl (lv_at hl 1 rfl) ?_
              refine lv_iload hx hb dX4_wordOf_84 (lv_at hl 7 rfl) ?_
              refine n_iadd hx hb dX4_wordOf_86 ?_
              refine ml_7 hx hb hK hj hH (by omega) (by omega) dX4_wordOf_87 ?_
              have hti := ht (a + i)
              refine n_icmp_ne (tgt := 95) hx hb (r32 (by omega)) (r32 (by omega)) dX4_wordOf_88 (by decide) (fun c_88 => ?_) (fun c_88 => ?_)
              · -- 88T
                refine n_iconst hx hb dX4_wordOf_95 ?_
                have hl : lv_has ls 8 [(0, .ref (G.2.2 0)), (1, .int (iI a)), (2, .int (iI b)), (3, .int (iI ((w : Int) + 1))), (4, .int (iI ((wOff w : Nat) : Int))), (5, .int (iI ((wLen w : Nat) : Int))), (7, .int (iI (i : Int)))] := lv_sub hl [0, 1, 2, 3, 4, 5, 7] rfl
                refine L96 0 ?_ ?_ _ _ _ hH hl
                · first | exact (zb_t ⟨c_66.1, fun j q => by rcases Nat.lt_or_eq_of_le (Nat.le_of_lt_succ q) with y | y; exact c_66.2 j y; rw [y]; exact c_88⟩).symm | exact (zb_f (fun q => c_88 (q.2 i (Nat.lt_succ_self i)))).symm
                · omega
              · -- 88F
                refine n_iconst hx hb dX4_wordOf_91 ?_
                refine lv_goto (tgt := 96) hx hb dX4_wordOf_92 (by decide) ?_
                have hl : lv_has ls 8 [(0, .ref (G.2.2 0)), (1, .int (iI a)), (2, .int (iI b)), (3, .int (iI ((w : Int) + 1))), (4, .int (iI ((wOff w : Nat) : Int))), (5, .int (iI ((wLen w : Nat) : Int))), (7, .int (iI (i : Int)))] := lv_sub hl [0, 1, 2, 3, 4, 5, 7] rfl
                refine L96 1 ?_ ?_ _ _ _ hH hl
                · first | exact (zb_t ⟨c_66.1, fun j q => by rcases Nat.lt_or_eq_of_le (Nat.le_of_lt_succ q) with y | y; exact c_66.2 j y; rw [y]; exact c_88⟩).symm | exact (zb_f (fun q => c_88 (q.2 i (Nat.lt_succ_self i)))).symm
                · omega
      have L52 : ∀ (z : Int), (hw2 : w < 24) → (hz : z = zb (((wLen w : Nat) : Int) = b - a ∧ ∀ j : Nat, j < 0 → wBy.getD (wOff w + j) 0 = σ 7 (a + j))) → ∀ (H : Heap) (locs : List Loc) (ls : Array Slot), MH G (mA G σ s.heap.size) σ s.heap H locs → lv_has ls 8 [(0, .ref (G.2.2 0)), (1, .int (iI a)), (2, .int (iI b)), (3, .int (iI ((w : Int) + 1))), (4, .int (iI ((wOff w : Nat) : Int))), (5, .int (iI ((wLen w : Nat) : Int)))] → W p l e (rmD 1) s m ([.ref (G.2.2 0), .int (iI a), .int (iI b)] : List Value).toArray below meth c H locs 0 0 (MQ below (mQi G σ s.heap.size (fun z σ' => z = wordNo (σ 7) a b ∧ σ' = σ)) ([.ref (G.2.2 0), .int (iI a), .int (iI b)] : List Value).toArray s 0 0 (mA G σ s.heap.size)) (F0 m 52 ls [.int (iI z)]) := by
        intro z hw2 hz H locs ls hH hl
        have w0 := w_tab w (by omega)
        have wr := wBy_r
        have ht := hTp
        refine lv_istore hx hb dX4_wordOf_52 hl (Nat.le_of_ble_eq_true rfl) (lv' := [(6, .int (iI z)), (0, .ref (G.2.2 0)), (1, .int (iI a)), (2, .int (iI b)), (3, .int (iI ((w : Int) + 1))), (4, .int (iI ((wOff w : Nat) : Int))), (5, .int (iI ((wLen w : Nat) : Int)))]) rfl (fun ls hl => ?_)
        refine n_iconst hx hb dX4_wordOf_54 ?_
        refine lv_istore hx hb dX4_wordOf_55 hl (Nat.le_of_ble_eq_true rfl) (lv' := [(7, .int (iI 0)), (6, .int (iI z)), (0, .ref (G.2.2 0)), (1, .int (iI a)), (2, .int (iI b)), (3, .int (iI ((w : Int) + 1))), (4, .int (iI ((wOff w : Nat) : Int))), (5, .int (iI ((wLen w : Nat) : Int)))]) rfl (fun ls hl => ?_)
        have hl : lv_has ls 8 [(0, .ref (G.2.2 0)), (1, .int (iI a)), (2, .int (iI b)), (3, .int (iI ((w : Int) + 1))), (4, .int (iI ((wOff w : Nat) : Int))), (5, .int (iI ((wLen w : Nat) : Int))), (6, .int (iI z)), (7, .int (iI 0))] := lv_sub hl [2, 3, 4, 5, 6, 7, 1, 0] rfl
        refine L57 (wLen w + 1) 0 z ?_ ?_ ?_ ?_ _ _ _ hH hl
        · omega
        · omega
        · omega
        · exact hz
      have L39 : (hw2 : w < 24) → ∀ (H : Heap) (locs : List Loc) (ls : Array Slot), MH G (mA G σ s.heap.size) σ s.heap H locs → lv_has ls 8 [(0, .ref (G.2.2 0)), (1, .int (iI a)), (2, .int (iI b)), (3, .int (iI ((w : Int) + 1))), (4, .int (iI ((wOff w : Nat) : Int))), (5, .int (iI ((wLen w : Nat) : Int)))] → W p l e (rmD 1) s m ([.ref (G.2.2 0), .int (iI a), .int (iI b)] : List Value).toArray below meth c H locs 0 0 (MQ below (mQi G σ s.heap.size (fun z σ' => z = wordNo (σ 7) a b ∧ σ' = σ)) ([.ref (G.2.2 0), .int (iI a), .int (iI b)] : List Value).toArray s 0 0 (mA G σ s.heap.size)) (F0 m 39 ls []) := by
        intro hw2 H locs ls hH hl
        have w0 := w_tab w (by omega)
        have wr := wBy_r
        have ht := hTp
        refine lv_iload hx hb dX4_wordOf_39 (lv_at hl 5 rfl) ?_
        refine lv_iload_n hx hb dX4_wordOf_41 rfl (lv_at hl 2 rfl) ?_
        refine lv_iload_n hx hb dX4_wordOf_42 rfl (lv_at hl 1 rfl) ?_
        refine n_isub hx hb dX4_wordOf_43 ?_
        refine n_icmp_ne (tgt := 51) hx hb (r32 (by omega)) (r32 (by omega)) dX4_wordOf_44 (by decide) (fun c_44 => ?_) (fun c_44 => ?_)
        · -- 44T
          refine n_iconst hx hb dX4_wordOf_51 ?_
          have hl : lv_has ls 8 [(0, .ref (G.2.2 0)), (1, .int (iI a)), (2, .int (iI b)), (3, .int (iI ((w : Int) + 1))), (4, .int (iI ((wOff w : Nat) : Int))), (5, .int (iI ((wLen w : Nat) : Int)))] := lv_sub hl [0, 1, 2, 3, 4, 5] rfl
          refine L52 0 ?_ ?_ _ _ _ hH hl
          · omega
          · first | exact (zb_t ⟨c_44, fun j q => absurd q (Nat.not_lt_zero j)⟩).symm | exact (zb_f (fun q => c_44 q.1)).symm
        · -- 44F
          refine n_iconst hx hb dX4_wordOf_47 ?_
          refine lv_goto (tgt := 52) hx hb dX4_wordOf_48 (by decide) ?_
          have hl : lv_has ls 8 [(0, .ref (G.2.2 0)), (1, .int (iI a)), (2, .int (iI b)), (3, .int (iI ((w : Int) + 1))), (4, .int (iI ((wOff w : Nat) : Int))), (5, .int (iI ((wLen w : Nat) : Int)))] := lv_sub hl [0, 1, 2, 3, 4, 5] rfl
          refine L52 1 ?_ ?_ _ _ _ hH hl
          · omega
          · first | exact (zb_t ⟨c_44, fun j q => absurd q (Nat.not_lt_zero j)⟩).symm | exact (zb_f (fun q => c_44 q.1)).symm
      have L18 : ∀ (n2 : Nat) (i : Nat), (hw2 : w < 24) → (hi0 : i ≤ wLen w) → (hn2 : wLen w < n2 + i) → ∀ (H : Heap) (locs : List Loc) (ls : Array Slot), MH G (mA G σ s.heap.size) σ s.heap H locs → lv_has ls 8 [(0, .ref (G.2.2 0)), (1, .int (iI a)), (2, .int (iI b)), (3, .int (iI ((w : Int) + 1))), (4, .int (iI ((wOff w : Nat) : Int))), (5, .int (iI (i : Int)))] → W p l e (rmD 1) s m ([.ref (G.2.2 0), .int (iI a), .int (iI b)] : List Value).toArray below meth c H locs 0 0 (MQ below (mQi G σ s.heap.size (fun z σ' => z = wordNo (σ 7) a b ∧ σ' = σ)) ([.ref (G.2.2 0), .int (iI a), .int (iI b)] : List Value).toArray s 0 0 (mA G σ s.heap.size)) (F0 m 18 ls []) := by
        intro n2
        induction n2 with
        | zero => intro i hw2 hi0 hn2; exfalso; omega
        | succ n2 ih_18 =>
          intro i hw2 hi0 hn2 H locs ls hH hl
          have w0 := w_tab w (by omega)
          have wr := wBy_r
          have ht := hTp
          refine lv_aload_n hx hb dX4_wordOf_18 rfl (lv_at hl 0 rfl) ?_
          refine m_get 6 (by decide) hx hb hts hown hK hj hH q1479 (fun _ h9 => h9) rfl dX4_wordOf_19 ?_
          refine lv_iload hx hb dX4_wordOf_22 (lv_at hl 4 rfl) ?_
          refine lv_iload hx hb dX4_wordOf_24 (lv_at hl 5 rfl) ?_
          refine n_iadd hx hb dX4_wordOf_26 ?_
          refine ml_6 hx hb hK hj hH (by omega) (by omega) dX4_wordOf_27 ?_
          refine W.eq (g2 := F0 m 28 ls (.int (iI (wBy.getD (wOff w + i) 0)) :: [])) (by rw [show ((wOff w : Nat) : Int) + (i : Int) = ((wOff w + i : Nat) : Int) by omega, hW _ (by omega)]) ?_
          have hwi := wr (wOff w + i)
          refine n_bipush (z := 32) hx hb dX4_wordOf_28 (by decide) ?_
          refine n_icmp_eq (tgt := 39) hx hb (r32 (by omega)) (r32 (by omega)) dX4_wordOf_30 (by decide) (fun c_30 => ?_) (fun c_30 => ?_)
          · -- 30T
            have hie : i = wLen w := by
              rcases Nat.lt_or_eq_of_le hi0 with q | q
              · exact absurd c_30 (w0.1 i q)
              · exact q
            have hl : lv_has ls 8 [(0, .ref (G.2.2 0)), (1, .int (iI a)), (2, .int (iI b)), (3, .int (iI ((w : Int) + 1))), (4, .int (iI ((wOff w : Nat) : Int))), (5, .int (iI (i : Int)))] := lv_sub hl [0, 1, 2, 3, 4, 5] rfl
            have hl : lv_has ls 8 [(0, .ref (G.2.2 0)), (1, .int (iI a)), (2, .int (iI b)), (3, .int (iI ((w : Int) + 1))), (4, .int (iI ((wOff w : Nat) : Int))), (5, .int (iI ((wLen w : Nat) : Int)))] := by rw [← hie]; exact hl
            refine L39  ?_ _ _ _ hH hl
            · omega
          · -- 30F
            refine n_iinc hx hb dX4_wordOf_33 hl (k := 5) rfl (Nat.le_of_ble_eq_true rfl) (lv' := [(5, .int (iI ((i : Int) + 1))), (0, .ref (G.2.2 0)), (1, .int (iI a)), (2, .int (iI b)), (3, .int (iI ((w : Int) + 1))), (4, .int (iI ((wOff w : Nat) : Int)))]) rfl (fun ls hl => ?_)
            refine lv_goto (tgt := 18) hx hb dX4_wordOf_36 (by decide) ?_
            have hl : lv_has ls 8 [(0, .ref (G.2.2 0)), (1, .int (iI a)), (2, .int (iI b)), (3, .int (iI ((w : Int) + 1))), (4, .int (iI ((wOff w : Nat) : Int))), (5, .int (iI ((i : Int) + 1)))] := lv_sub hl [1, 2, 3, 4, 5, 0] rfl
            refine ih_18 (i + 1) ?_ ?_ ?_ _ _ _ hH hl
            · omega
            · have := w0.2.1; rcases Nat.lt_or_eq_of_le hi0 with q | q
              · exact q
              · exact absurd (by rw [q]; exact w0.2.1) c_30
            · omega
      refine lv_iload hx hb dX4_wordOf_5 (lv_at hl 4 rfl) ?_
      refine lv_aload_n hx hb dX4_wordOf_7 rfl (lv_at hl 0 rfl) ?_
      refine m_get 6 (by decide) hx hb hts hown hK hj hH q1479 (fun _ h9 => h9) rfl dX4_wordOf_8 ?_
      refine g_alenI (n := 134) hx hb hK hH 1 (mh_at _ hj (k := 6) (by decide)) rfl rfl dX4_wordOf_11 ?_
      refine n_icmp_ge (tgt := 126) hx hb (r32 (by omega)) (r32 (by omega)) dX4_wordOf_12 (by decide) (fun c_12 => ?_) (fun c_12 => ?_)
      · -- 12T
        refine n_iconst hx hb dX4_wordOf_126 ?_
        refine m_iret hx hb hr hlk hH dX4_wordOf_127 ?_
        exact ⟨by rw [← hw1, show w = 24 by omega]; rfl, rfl⟩
      · -- 12F
        refine n_iconst hx hb dX4_wordOf_15 ?_
        refine lv_istore hx hb dX4_wordOf_16 hl (Nat.le_of_ble_eq_true rfl) (lv' := [(5, .int (iI 0)), (0, .ref (G.2.2 0)), (1, .int (iI a)), (2, .int (iI b)), (3, .int (iI ((w : Int) + 1))), (4, .int (iI ((wOff w : Nat) : Int)))]) rfl (fun ls hl => ?_)
        have hl : lv_has ls 8 [(0, .ref (G.2.2 0)), (1, .int (iI a)), (2, .int (iI b)), (3, .int (iI ((w : Int) + 1))), (4, .int (iI ((wOff w : Nat) : Int))), (5, .int (iI 0))] := lv_sub hl [1, 2, 3, 4, 5, 0] rfl
        refine L18 (wLen w + 1) 0 ?_ ?_ ?_ _ _ _ hH hl
        · omega
        · omega
        · omega
  refine n_iconst hx hb dX4_wordOf_0 ?_
  refine lv_istore_n hx hb dX4_wordOf_1 rfl hl (Nat.le_of_ble_eq_true rfl) (lv' := [(3, .int (iI 1)), (0, .ref (G.2.2 0)), (1, .int (iI a)), (2, .int (iI b))]) rfl (fun ls hl => ?_)
  refine n_iconst hx hb dX4_wordOf_2 ?_
  refine lv_istore hx hb dX4_wordOf_3 hl (Nat.le_of_ble_eq_true rfl) (lv' := [(4, .int (iI 0)), (3, .int (iI 1)), (0, .ref (G.2.2 0)), (1, .int (iI a)), (2, .int (iI b))]) rfl (fun ls hl => ?_)
  have hl : lv_has ls 8 [(0, .ref (G.2.2 0)), (1, .int (iI a)), (2, .int (iI b)), (3, .int (iI 1)), (4, .int (iI 0))] := lv_sub hl [2, 3, 4, 1, 0] rfl
  refine L5 25 0 ?_ ?_ ?_ _ _ _ hH hl
  · omega
  · omega
  · rfl
