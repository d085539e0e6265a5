theorem turn_1 {σ : St} {f : Int} (h : σ 2 (184 + 26 * f + 13) = 1) : turnsF σ f = σ := if_pos h
theorem turn_no {σ : St} {f : Int} (h : σ 2 (184 + 26 * f + 13) ≠ 1) (hb : byA σ f = -1) (hg : ¬ genP σ f) : turnsF σ f = σ := by
  unfold turnsF
  rw [if_neg h, if_pos ⟨hg, hb⟩]
theorem turn_gen {σ : St} {f : Int} (h : σ 2 (184 + 26 * f + 13) ≠ 1) (h14 : σ 2 (184 + 26 * f + 14) = -1) (hb : byA σ f = -1) (hg : genP σ f) : turnsF σ f = st (st σ 2 (184 + 26 * f + 13) 1) 2 (184 + 26 * f + 15) (σ 2 1750) := by
  unfold turnsF ss
  rw [if_neg h, if_neg (fun z => z.1 hg), hb, st_self (σ := st σ 2 (184 + 26 * f + 13) 1) (by rw [st_i (by omega)]; exact h14.symm)]
theorem turn_by {σ : St} {f g : Int} (h0 : 0 ≤ g) (h1 : g < σ 2 (184 + 26 * f + 16)) (hby : byF σ f g.toNat = -1) (hc : canP σ f g) (hk : 0 ≤ σ 2 (184 + 26 * f + (17 + 2 * g))) (h : σ 2 (184 + 26 * f + 13) = 0) : turnsF σ f = st (st (st σ 2 (184 + 26 * f + 13) 1) 2 (184 + 26 * f + 14) (σ 2 (184 + 26 * f + (17 + 2 * g)))) 2 (184 + 26 * f + 15) (σ 2 1750) := by
  have e := byF_c h0 hby hc
  have hb : byA σ f = σ 2 (184 + 26 * f + (17 + 2 * g)) := by
    unfold byA
    rw [show (σ 2 (184 + 26 * f + 16)).toNat = (g + 1).toNat + ((σ 2 (184 + 26 * f + 16)).toNat - (g + 1).toNat) by omega, byF_stay (by rw [e]; omega), e]
  unfold turnsF ss
  rw [if_neg (by omega), if_neg (fun z => by omega), hb]
theorem kd_X1_turn : yX1_turn.cls = RX1 ∧ yX1_turn.cls ≠ "java/lang/invoke/MethodHandle" ∧ yX1_turn.cls ≠ "java/lang/invoke/VarHandle" ∧ (parseMethodDescriptor yX1_turn.desc).map (fun d => d.parameters.length) = some 1 := by decide +kernel
theorem xm_X1_turn (l : Launch) (G : MG) (M : Hp) (a : Nat) (σ : St) (x : XGh) (ω : XCt) (i_ : Int) (fl_ : Nat) (β : Int → Int) (sz : Nat) (hR : RX G M a σ x ω) (hef : (fl_ : Int) = i_) (hf53 : i_ < σ 2 1753) (hI : KG (σ 2) β) (hW : WK (σ 2)) (h40 : F40 σ) (hβ : 0 ≤ β i_ ∧ β i_ ≤ 1000) (hBy : σ 2 (184 + 26 * i_ + 13) = 0 → σ 2 (184 + 26 * i_ + 14) = -1) : Met l yX1_turn (ws_ yX1_turn cX1_turn 4 none) (rmD 3) (xP G XN [.ref (gb x 0 0), .ref (gf x 0 fl_ 0)] M sz) (xQv G (DA M sz) (fun M' => ∃ ω', RX G M' a (turnsF σ i_) x ω' ∧ WK (turnsF σ i_ 2) ∧ F40 (turnsF σ i_))) 0 0 (DA M sz) := by
  refine x_start (by decide) (Nat.le_of_ble_eq_true rfl) ?_
  intro p e s m below meth c ⟨S, hr, hlk, hH, hK, hXN, hsz, hnm⟩ ls hl
  subst hsz
  obtain ⟨hx, hb, hml, hown, hts⟩ := S
  have S : CallFix p m c _ _ s _ lw_all RX1 := ⟨hx, hb, hml, hown, hts⟩
  have hA : ∀ q, s.heap.size ≤ q → DA M s.heap.size q := fun q hq => Or.inr hq
  have hl : lv_has ls 4 [(0, .ref (gb x 0 0)), (1, .ref (gf x 0 fl_ 0))] := hl
  have b0 := KG.c hI
  unfold kCnt at b0
  have b1 := KG.f hI i_ (by omega) hf53
  unfold kFlask fl at b1
  have b2 := KG.l hI
  have b3 := KG.b hI (σ 2 (184 + 26 * i_ + 0)) (by omega) (by omega)
  have L2 : ∀ (q : Nat) (g : Int), (h0 : 0 ≤ g) → (h1 : g ≤ (σ 2 (184 + 26 * i_ + 16))) → (hq : (σ 2 (184 + 26 * i_ + 16)) < (q : Int) + g) → (hby : byF σ i_ g.toNat = -1) → ∀ (H : Heap) (locs : List Loc) (ls : Array Slot), XV G (DA M s.heap.size) M s.heap H locs → lv_has ls 4 [(0, .ref (gb x 0 0)), (1, .ref (gf x 0 fl_ 0)), (2, .int (iI g))] → W p l e (rmD 3) s m ([.ref (gb x 0 0), .ref (gf x 0 fl_ 0)] : List Value).toArray below meth c H locs 0 0 (MQ below (xQv G (DA M s.heap.size) (fun M' => ∃ ω', RX G M' a (turnsF σ i_) x ω' ∧ WK (turnsF σ i_ 2) ∧ F40 (turnsF σ i_))) ([.ref (gb x 0 0), .ref (gf x 0 fl_ 0)] : List Value).toArray s 0 0 (DA M s.heap.size)) (F0 m 2 ls []) := by
    intro q
    induction q with
    | zero => intro g h0 h1 hq hby; exfalso; omega
    | succ q ih_2 =>
      intro g h0 h1 hq hby H locs ls hH hl
      refine lv_iload_n hx hb dX1_turn_2 rfl (lv_at hl 2 rfl) ?_
      refine lv_aload_n hx hb dX1_turn_3 rfl (lv_at hl 1 rfl) ?_
      refine x_getFl hx hb hts hown hK hH (hR.flaskE hef (by omega)) (fci_c _) 14 (by decide) q535 rfl rfl rfl rfl dX1_turn_4 ?_
      refine n_icmp_ge (tgt := 106) hx hb (r32 (by omega)) (r32 (by omega)) dX1_turn_7 (by decide) (fun c_7 => ?_) (fun c_7 => ?_)
      · -- 7T
        refine lv_aload_n hx hb dX1_turn_106 rfl (lv_at hl 1 rfl) ?_
        refine x_getFl hx hb hts hown hK hH (hR.flaskE hef (by omega)) (fci_c _) 16 (by decide) q541 rfl rfl rfl rfl dX1_turn_107 ?_
        refine n_if_ne (tgt := 141) hx hb (r32 (by omega)) dX1_turn_110 (by decide) (fun c_110 => ?_) (fun c_110 => ?_)
        · -- 110T
          refine x_vret hx hb hr hlk hH dX1_turn_141 ?_
          have e := turn_1 (σ := σ) (f := i_) (by omega)
          rw [e]
          exact ⟨_, hR, hW, h40⟩
        · -- 110F
          refine lv_aload_n hx hb dX1_turn_113 rfl (lv_at hl 0 rfl) ?_
          refine x_get hx hb hts in_X1 hown hK hH hR.b0 rfl 15 (by decide) q191 (fun _ h9 => h9) rfl (by decide) dX1_turn_114 ?_
          refine lv_aload_n hx hb dX1_turn_117 rfl (lv_at hl 1 rfl) ?_
          refine x_getFl hx hb hts hown hK hH (hR.flaskE hef (by omega)) (fci_c _) 0 (by decide) q483 rfl rfl rfl rfl dX1_turn_118 ?_
          refine x_iald hx hb hK hH hR.b15 (by omega) (by omega) (Nat.le_of_ble_eq_true rfl) dX1_turn_121 ?_
          refine W.eq (g2 := F0 m 122 ls (.int (iI (σ 2 (0 + 3 * (σ 2 (184 + 26 * i_ + 0))))) :: [])) (by first | (rw [(hR.z.2.1 _ (by omega) (by omega)).1]; done) | (rw [(hR.z.2.1 _ (by omega) (by omega)).1]; rfl)) ?_
          refine n_if_eq (tgt := 141) hx hb (r32 (by omega)) dX1_turn_122 (by decide) (fun c_122 => ?_) (fun c_122 => ?_)
          · -- 122T
            refine x_vret hx hb hr hlk hH dX1_turn_141 ?_
            have e := turn_no (σ := σ) (f := i_) (by omega) (show byA σ i_ = -1 by unfold byA; rw [show (σ 2 (184 + 26 * i_ + 16)) = g by omega]; exact hby) (by unfold genP; omega)
            rw [e]
            exact ⟨_, hR, hW, h40⟩
          · -- 122F
            refine lv_aload_n hx hb dX1_turn_125 rfl (lv_at hl 1 rfl) ?_
            refine x_getFl hx hb hts hown hK hH (hR.flaskE hef (by omega)) (fci_c _) 10 (by decide) q525 rfl rfl rfl rfl dX1_turn_126 ?_
            refine lv_aload_n hx hb dX1_turn_129 rfl (lv_at hl 0 rfl) ?_
            refine x_get hx hb hts in_X1 hown hK hH hR.b0 rfl 15 (by decide) q191 (fun _ h9 => h9) rfl (by decide) dX1_turn_130 ?_
            refine lv_aload_n hx hb dX1_turn_133 rfl (lv_at hl 1 rfl) ?_
            refine x_getFl hx hb hts hown hK hH (hR.flaskE hef (by omega)) (fci_c _) 0 (by decide) q483 rfl rfl rfl rfl dX1_turn_134 ?_
            refine x_iald hx hb hK hH hR.b15 (by omega) (by omega) (Nat.le_of_ble_eq_true rfl) dX1_turn_137 ?_
            refine W.eq (g2 := F0 m 138 ls (.int (iI (σ 2 (0 + 3 * (σ 2 (184 + 26 * i_ + 0))))) :: .int (iI (σ 2 (184 + 26 * i_ + 11))) :: [])) (by first | (rw [(hR.z.2.1 _ (by omega) (by omega)).1]; done) | (rw [(hR.z.2.1 _ (by omega) (by omega)).1]; rfl)) ?_
            refine n_icmp_ge (tgt := 142) hx hb (r32 (by omega)) (r32 (by omega)) dX1_turn_138 (by decide) (fun c_138 => ?_) (fun c_138 => ?_)
            · -- 138T
              refine lv_aload_n hx hb dX1_turn_142 rfl (lv_at hl 1 rfl) ?_
              refine n_iconst hx hb dX1_turn_143 ?_
              refine x_putFl (ty := .boolean) hx hb hts hown hK hH (hR.flaskE hef (by omega)) (fci_c _) 16 (by decide) q541 rfl rfl rfl rfl (by decide +kernel) (zfit (Or.inr rfl)).1 (zfit (Or.inr rfl)).2 (Nat.le_of_ble_eq_true rfl) dX1_turn_144 (fun H locs hH => ?_)
              obtain ⟨M1, e_M1⟩ : ∃ M1, M1 = hs M (gf x 0 fl_ 0) (oB (fci (σ 2 (184 + 26 * i_ + 1))) [.int (iI (σ 2 (184 + 26 * i_ + 0))), .int (iI (σ 2 (184 + 26 * i_ + 1))), .int (iI (σ 2 (184 + 26 * i_ + 8))), .int (iI (σ 2 (184 + 26 * i_ + 9))), .int (iI (σ 2 (184 + 26 * i_ + 5))), .int (iI (σ 2 (184 + 26 * i_ + 2))), .int (iI (σ 2 (184 + 26 * i_ + 3))), .int (iI (σ 2 (184 + 26 * i_ + 4))), .int (iI (σ 2 (184 + 26 * i_ + 10))), .int (iI (σ 2 (184 + 26 * i_ + 6))), .int (iI (σ 2 (184 + 26 * i_ + 11))), .int (iI (σ 2 (184 + 26 * i_ + 12))), .int (iI (σ 2 (184 + 26 * i_ + 14))), .int (iI (σ 2 (184 + 26 * i_ + 15))), .int (iI (σ 2 (184 + 26 * i_ + 16))), .int (iI (σ 2 (184 + 26 * i_ + 7))), .int (iI 1), .ref (gf x 0 fl_ 1), .ref (gf x 0 fl_ 2)]) := ⟨_, rfl⟩
              have hH := XV_to hH e_M1.symm
              have f1 : M1 (gf x 0 fl_ 0) = some (oB (fci (σ 2 (184 + 26 * i_ + 1))) [.int (iI (σ 2 (184 + 26 * i_ + 0))), .int (iI (σ 2 (184 + 26 * i_ + 1))), .int (iI (σ 2 (184 + 26 * i_ + 8))), .int (iI (σ 2 (184 + 26 * i_ + 9))), .int (iI (σ 2 (184 + 26 * i_ + 5))), .int (iI (σ 2 (184 + 26 * i_ + 2))), .int (iI (σ 2 (184 + 26 * i_ + 3))), .int (iI (σ 2 (184 + 26 * i_ + 4))), .int (iI (σ 2 (184 + 26 * i_ + 10))), .int (iI (σ 2 (184 + 26 * i_ + 6))), .int (iI (σ 2 (184 + 26 * i_ + 11))), .int (iI (σ 2 (184 + 26 * i_ + 12))), .int (iI (σ 2 (184 + 26 * i_ + 14))), .int (iI (σ 2 (184 + 26 * i_ + 15))), .int (iI (σ 2 (184 + 26 * i_ + 16))), .int (iI (σ 2 (184 + 26 * i_ + 7))), .int (iI 1), .ref (gf x 0 fl_ 1), .ref (gf x 0 fl_ 2)]) := by rw [e_M1]; exact hs_s
              obtain ⟨ω2, hR2⟩ : ∃ ω2, RX G M1 a (st σ 2 (184 + 26 * i_ + 13) 1) x ω2 := ⟨_, by rw [e_M1]; exact hR.ffI hW h40 hef (by omega) (j := 13) (by decide) fF_13⟩
              have hW2 : WK ((st σ 2 (184 + 26 * i_ + 13) 1) 2) := WK_st hW (by omega)
              have hF2 : F40 (st σ 2 (184 + 26 * i_ + 13) 1) := F40_st h40 (by omega)
              have hC2_1750 : (st σ 2 (184 + 26 * i_ + 13) 1) 2 1750 = σ 2 1750 := st_i (by omega)
              have hC2_1752 : (st σ 2 (184 + 26 * i_ + 13) 1) 2 1752 = σ 2 1752 := st_i (by omega)
              have hC2_1753 : (st σ 2 (184 + 26 * i_ + 13) 1) 2 1753 = σ 2 1753 := st_i (by omega)
              refine lv_aload_n hx hb dX1_turn_147 rfl (lv_at hl 1 rfl) ?_
              refine lv_aload_n hx hb dX1_turn_148 rfl (lv_at hl 0 rfl) ?_
              refine x_get hx hb hts in_X1 hown hK hH hR2.b0 rfl 0 (by decide) q161 (fun _ h9 => h9) rfl (by decide) dX1_turn_149 ?_
              refine W.eq (g2 := F0 m 152 ls (.int (iI (σ 2 1750)) :: .ref (gf x 0 fl_ 0) :: [])) (by rw [st_i (by omega)]) ?_
              refine x_putFl (ty := .int) hx hb hts hown hK hH (hR2.flaskE hef (by omega)) (fci_c _) 13 (by decide) q533 rfl rfl rfl rfl (by decide +kernel) rfl rfl (Nat.le_of_ble_eq_true rfl) dX1_turn_152 (fun H locs hH => ?_)
              obtain ⟨M3, e_M3⟩ : ∃ M3, M3 = hs M1 (gf x 0 fl_ 0) (oB (fci ((st σ 2 (184 + 26 * i_ + 13) 1) 2 (184 + 26 * i_ + 1))) [.int (iI ((st σ 2 (184 + 26 * i_ + 13) 1) 2 (184 + 26 * i_ + 0))), .int (iI ((st σ 2 (184 + 26 * i_ + 13) 1) 2 (184 + 26 * i_ + 1))), .int (iI ((st σ 2 (184 + 26 * i_ + 13) 1) 2 (184 + 26 * i_ + 8))), .int (iI ((st σ 2 (184 + 26 * i_ + 13) 1) 2 (184 + 26 * i_ + 9))), .int (iI ((st σ 2 (184 + 26 * i_ + 13) 1) 2 (184 + 26 * i_ + 5))), .int (iI ((st σ 2 (184 + 26 * i_ + 13) 1) 2 (184 + 26 * i_ + 2))), .int (iI ((st σ 2 (184 + 26 * i_ + 13) 1) 2 (184 + 26 * i_ + 3))), .int (iI ((st σ 2 (184 + 26 * i_ + 13) 1) 2 (184 + 26 * i_ + 4))), .int (iI ((st σ 2 (184 + 26 * i_ + 13) 1) 2 (184 + 26 * i_ + 10))), .int (iI ((st σ 2 (184 + 26 * i_ + 13) 1) 2 (184 + 26 * i_ + 6))), .int (iI ((st σ 2 (184 + 26 * i_ + 13) 1) 2 (184 + 26 * i_ + 11))), .int (iI ((st σ 2 (184 + 26 * i_ + 13) 1) 2 (184 + 26 * i_ + 12))), .int (iI ((st σ 2 (184 + 26 * i_ + 13) 1) 2 (184 + 26 * i_ + 14))), .int (iI (σ 2 1750)), .int (iI ((st σ 2 (184 + 26 * i_ + 13) 1) 2 (184 + 26 * i_ + 16))), .int (iI ((st σ 2 (184 + 26 * i_ + 13) 1) 2 (184 + 26 * i_ + 7))), .int (iI ((st σ 2 (184 + 26 * i_ + 13) 1) 2 (184 + 26 * i_ + 13))), .ref (gf x 0 fl_ 1), .ref (gf x 0 fl_ 2)]) := ⟨_, rfl⟩
              have hH := XV_to hH e_M3.symm
              have f3 : M3 (gf x 0 fl_ 0) = some (oB (fci ((st σ 2 (184 + 26 * i_ + 13) 1) 2 (184 + 26 * i_ + 1))) [.int (iI ((st σ 2 (184 + 26 * i_ + 13) 1) 2 (184 + 26 * i_ + 0))), .int (iI ((st σ 2 (184 + 26 * i_ + 13) 1) 2 (184 + 26 * i_ + 1))), .int (iI ((st σ 2 (184 + 26 * i_ + 13) 1) 2 (184 + 26 * i_ + 8))), .int (iI ((st σ 2 (184 + 26 * i_ + 13) 1) 2 (184 + 26 * i_ + 9))), .int (iI ((st σ 2 (184 + 26 * i_ + 13) 1) 2 (184 + 26 * i_ + 5))), .int (iI ((st σ 2 (184 + 26 * i_ + 13) 1) 2 (184 + 26 * i_ + 2))), .int (iI ((st σ 2 (184 + 26 * i_ + 13) 1) 2 (184 + 26 * i_ + 3))), .int (iI ((st σ 2 (184 + 26 * i_ + 13) 1) 2 (184 + 26 * i_ + 4))), .int (iI ((st σ 2 (184 + 26 * i_ + 13) 1) 2 (184 + 26 * i_ + 10))), .int (iI ((st σ 2 (184 + 26 * i_ + 13) 1) 2 (184 + 26 * i_ + 6))), .int (iI ((st σ 2 (184 + 26 * i_ + 13) 1) 2 (184 + 26 * i_ + 11))), .int (iI ((st σ 2 (184 + 26 * i_ + 13) 1) 2 (184 + 26 * i_ + 12))), .int (iI ((st σ 2 (184 + 26 * i_ + 13) 1) 2 (184 + 26 * i_ + 14))), .int (iI (σ 2 1750)), .int (iI ((st σ 2 (184 + 26 * i_ + 13) 1) 2 (184 + 26 * i_ + 16))), .int (iI ((st σ 2 (184 + 26 * i_ + 13) 1) 2 (184 + 26 * i_ + 7))), .int (iI ((st σ 2 (184 + 26 * i_ + 13) 1) 2 (184 + 26 * i_ + 13))), .ref (gf x 0 fl_ 1), .ref (gf x 0 fl_ 2)]) := by rw [e_M3]; exact hs_s
              obtain ⟨ω4, hR4⟩ : ∃ ω4, RX G M3 a (st (st σ 2 (184 + 26 * i_ + 13) 1) 2 (184 + 26 * i_ + 15) (σ 2 1750)) x ω4 := ⟨_, by rw [e_M3]; exact hR2.ffI hW2 hF2 hef (by omega) (j := 15) (by decide) fF_15⟩
              have hW4 : WK ((st (st σ 2 (184 + 26 * i_ + 13) 1) 2 (184 + 26 * i_ + 15) (σ 2 1750)) 2) := WK_st hW2 (by omega)
              have hF4 : F40 (st (st σ 2 (184 + 26 * i_ + 13) 1) 2 (184 + 26 * i_ + 15) (σ 2 1750)) := F40_st hF2 (by omega)
              have hC4_1750 : (st (st σ 2 (184 + 26 * i_ + 13) 1) 2 (184 + 26 * i_ + 15) (σ 2 1750)) 2 1750 = (st σ 2 (184 + 26 * i_ + 13) 1) 2 1750 := st_i (by omega)
              have hC4_1752 : (st (st σ 2 (184 + 26 * i_ + 13) 1) 2 (184 + 26 * i_ + 15) (σ 2 1750)) 2 1752 = (st σ 2 (184 + 26 * i_ + 13) 1) 2 1752 := st_i (by omega)
              have hC4_1753 : (st (st σ 2 (184 + 26 * i_ + 13) 1) 2 (184 + 26 * i_ + 15) (σ 2 1750)) 2 1753 = (st σ 2 (184 + 26 * i_ + 13) 1) 2 1753 := st_i (by omega)
              refine x_vret hx hb hr hlk hH dX1_turn_155 ?_
              have e := turn_gen (σ := σ) (f := i_) (by omega) (hBy (by omega)) (show byA σ i_ = -1 by unfold byA; rw [show (σ 2 (184 + 26 * i_ + 16)) = g by omega]; exact hby) (by unfold genP; omega)
              rw [e]
              exact ⟨_, hR4, hW4, hF4⟩
            · -- 138F
              refine x_vret hx hb hr hlk hH dX1_turn_141 ?_
              have e := turn_no (σ := σ) (f := i_) (by omega) (show byA σ i_ = -1 by unfold byA; rw [show (σ 2 (184 + 26 * i_ + 16)) = g by omega]; exact hby) (by unfold genP; omega)
              rw [e]
              exact ⟨_, hR, hW, h40⟩
      · -- 7F
        have b4 := b1.2.2.2.2.2.2.2.2.2.2.2.2.2.2.2.2.2 g (by omega) (by omega)
        refine lv_aload_n hx hb dX1_turn_10 rfl (lv_at hl 1 rfl) ?_
        refine x_getFl hx hb hts hown hK hH (hR.flaskE hef (by omega)) (fci_c _) 16 (by decide) q541 rfl rfl rfl rfl dX1_turn_11 ?_
        refine n_if_ne (tgt := 106) hx hb (r32 (by omega)) dX1_turn_14 (by decide) (fun c_14 => ?_) (fun c_14 => ?_)
        · -- 14T
          refine lv_aload_n hx hb dX1_turn_106 rfl (lv_at hl 1 rfl) ?_
          refine x_getFl hx hb hts hown hK hH (hR.flaskE hef (by omega)) (fci_c _) 16 (by decide) q541 rfl rfl rfl rfl dX1_turn_107 ?_
          refine n_if_ne (tgt := 141) hx hb (r32 (by omega)) dX1_turn_110 (by decide) (fun c_110 => ?_) (fun c_110 => ?_)
          · -- 110T
            refine x_vret hx hb hr hlk hH dX1_turn_141 ?_
            have e := turn_1 (σ := σ) (f := i_) (by omega)
            rw [e]
            exact ⟨_, hR, hW, h40⟩
          · exact absurd c_110 c_14
        · -- 14F
          refine lv_aload_n hx hb dX1_turn_17 rfl (lv_at hl 0 rfl) ?_
          refine x_get hx hb hts in_X1 hown hK hH hR.b0 rfl 8 (by decide) q177 (fun _ h9 => h9) rfl (by decide) dX1_turn_18 ?_
          refine lv_aload_n hx hb dX1_turn_21 rfl (lv_at hl 1 rfl) ?_
          refine x_getFl hx hb hts hown hK hH (hR.flaskE hef (by omega)) (fci_c _) 17 (by decide) q544 rfl rfl rfl rfl dX1_turn_22 ?_
          refine lv_iload_n hx hb dX1_turn_25 rfl (lv_at hl 2 rfl) ?_
          refine x_iald hx hb hK hH (hR.grain hef (by omega)) (by omega) (by omega) (Nat.le_of_ble_eq_true rfl) dX1_turn_26 ?_
          refine W.eq (g2 := F0 m 27 ls (.int (iI (σ 2 (184 + 26 * i_ + (17 + 2 * (g))))) :: .ref (gb x 0 8) :: [])) (by first | (rw [hR.gr1 hef (by omega) (by omega) (by omega)]; done) | (rw [hR.gr1 hef (by omega) (by omega) (by omega)]; rfl)) ?_
          obtain ⟨y5, u5, g5⟩ := hR.kind (i := (σ 2 (184 + 26 * i_ + (17 + 2 * (g))))) (by omega) (by omega)
          have g5 : _ = some (oB 5 [.int (iI (σ 2 (136 + 6 * (σ 2 (184 + 26 * i_ + (17 + 2 * (g)))) + 0))), .int (iI (σ 2 (136 + 6 * (σ 2 (184 + 26 * i_ + (17 + 2 * (g)))) + 1))), .int (iI (σ 2 (136 + 6 * (σ 2 (184 + 26 * i_ + (17 + 2 * (g)))) + 2))), .int (iI (σ 2 (136 + 6 * (σ 2 (184 + 26 * i_ + (17 + 2 * (g)))) + 3))), .int (iI (σ 2 (136 + 6 * (σ 2 (184 + 26 * i_ + (17 + 2 * (g)))) + 5))), .int (iI (σ 2 (136 + 6 * (σ 2 (184 + 26 * i_ + (17 + 2 * (g)))) + 4)))]) := g5
          have v5 := hI.k (σ 2 (184 + 26 * i_ + (17 + 2 * (g)))) (by omega) (by omega)
          unfold kKind at v5
          refine x_aald hx hb hK hH 5 hR.b8 rfl (by omega) (by omega) (Nat.le_of_ble_eq_true rfl) (v := some y5) u5 dX1_turn_27 ?_
          refine lv_astore_n hx hb dX1_turn_28 rfl hl (Nat.le_of_ble_eq_true rfl) (lv' := [(3, .ref y5), (0, .ref (gb x 0 0)), (1, .ref (gf x 0 fl_ 0)), (2, .int (iI g))]) rfl (fun ls hl => ?_)
          refine lv_aload_n hx hb dX1_turn_29 rfl (lv_at hl 0 rfl) ?_
          refine lv_aload_n hx hb dX1_turn_30 rfl (lv_at hl 2 rfl) ?_
          refine x_getFl hx hb hts hown hK hH (hR.flaskE hef (by omega)) (fci_c _) 0 (by decide) q483 rfl rfl rfl rfl dX1_turn_31 ?_
          refine x_calliF (x_runV (As := [.int (iI (σ 2 (184 + 26 * i_ + 0)))]) (rest := []) S hH hK (fun _ _ hW => XN.warm hW hXN) XN_b hl.1 g5 rfl (xm_X5_growsIn l G M _ _ (σ 2 (136 + 6 * (σ 2 (184 + 26 * i_ + (17 + 2 * g))) + 2)) _ _ _ y5 (σ 2 (184 + 26 * i_ + 0)) _ g5 (by omega) (r32 (by omega))) (lw_V q722 q723 q724 q110 q725) kd_X5_growsIn rfl rfl dX1_turn_34) hH hA (fun H locs hH => ?_)
          refine z_if_eq (tgt := 100) hx hb dX1_turn_37 (by decide) (fun c_37 => ?_) (fun c_37 => ?_)
          · -- 37T
            refine n_iinc hx hb dX1_turn_100 hl (k := 3) rfl (Nat.le_of_ble_eq_true rfl) (lv' := [(2, .int (iI (g + 1))), (3, .ref y5), (0, .ref (gb x 0 0)), (1, .ref (gf x 0 fl_ 0))]) rfl (fun ls hl => ?_)
            refine lv_goto (tgt := 2) hx hb dX1_turn_103 (by decide) ?_
            have hl : lv_has ls 4 [(0, .ref (gb x 0 0)), (1, .ref (gf x 0 fl_ 0)), (2, .int (iI (g + 1)))] := lv_sub hl [2, 3, 0] rfl
            refine ih_2 (g + 1) ?_ ?_ ?_ ?_ _ _ _ hH hl
            · omega
            · omega
            · omega
            · rw [byF_d h0 hby (by unfold canP airP; (try unfold airP at *); omega)]; exact hby
          · -- 37F
            refine lv_aload_n hx hb dX1_turn_40 rfl (lv_at hl 0 rfl) ?_
            refine x_getN hx hb hts in_X5 hown hK hH g5 rfl 5 (by decide) hXN q411 (fun _ h9 => h9) rfl (by decide) dX1_turn_41 ?_
            refine n_if_eq (tgt := 54) hx hb (r32 (by omega)) dX1_turn_44 (by decide) (fun c_44 => ?_) (fun c_44 => ?_)
            · -- 44T
              refine lv_aload_n hx hb dX1_turn_54 rfl (lv_at hl 1 rfl) ?_
              refine x_get hx hb hts in_X1 hown hK hH hR.b0 rfl 0 (by decide) q161 (fun _ h9 => h9) rfl (by decide) dX1_turn_55 ?_
              refine lv_aload_n hx hb dX1_turn_58 rfl (lv_at hl 2 rfl) ?_
              refine x_getFl hx hb hts hown hK hH (hR.flaskE hef (by omega)) (fci_c _) 18 (by decide) q546 rfl rfl rfl rfl dX1_turn_59 ?_
              refine lv_iload_n hx hb dX1_turn_62 rfl (lv_at hl 3 rfl) ?_
              refine x_iald hx hb hK hH (hR.fell hef (by omega)) (by omega) (by omega) (Nat.le_of_ble_eq_true rfl) dX1_turn_63 ?_
              refine W.eq (g2 := F0 m 64 ls (.int (iI (σ 2 (184 + 26 * i_ + (17 + 2 * (g) + 1)))) :: .int (iI (σ 2 1750)) :: [])) (by first | (rw [hR.gr2 hef (by omega) (by omega) (by omega)]; done) | (rw [hR.gr2 hef (by omega) (by omega) (by omega)]; rfl)) ?_
              refine n_isub hx hb dX1_turn_64 ?_
              refine n_iconst hx hb dX1_turn_65 ?_
              refine n_iadd hx hb dX1_turn_66 ?_
              refine lv_aload_n hx hb dX1_turn_67 rfl (lv_at hl 0 rfl) ?_
              refine x_getN hx hb hts in_X5 hown hK hH g5 rfl 3 (by decide) hXN q407 (fun _ h9 => h9) rfl (by decide) dX1_turn_68 ?_
              refine n_icmp_ge (tgt := 77) hx hb (r32 (by omega)) (r32 (by omega)) dX1_turn_71 (by decide) (fun c_71 => ?_) (fun c_71 => ?_)
              · -- 71T
                have hTF := turn_by h0 (by omega) hby (show canP σ i_ g by unfold canP airP; (try unfold airP at *); omega) b4.1.1 c_14
                refine lv_aload_n hx hb dX1_turn_77 rfl (lv_at hl 2 rfl) ?_
                refine n_iconst hx hb dX1_turn_78 ?_
                refine x_putFl (ty := .boolean) hx hb hts hown hK hH (hR.flaskE hef (by omega)) (fci_c _) 16 (by decide) q541 rfl rfl rfl rfl (by decide +kernel) (zfit (Or.inr rfl)).1 (zfit (Or.inr rfl)).2 (Nat.le_of_ble_eq_true rfl) dX1_turn_79 (fun H locs hH => ?_)
                obtain ⟨M6, e_M6⟩ : ∃ M6, M6 = hs M (gf x 0 fl_ 0) (oB (fci (σ 2 (184 + 26 * i_ + 1))) [.int (iI (σ 2 (184 + 26 * i_ + 0))), .int (iI (σ 2 (184 + 26 * i_ + 1))), .int (iI (σ 2 (184 + 26 * i_ + 8))), .int (iI (σ 2 (184 + 26 * i_ + 9))), .int (iI (σ 2 (184 + 26 * i_ + 5))), .int (iI (σ 2 (184 + 26 * i_ + 2))), .int (iI (σ 2 (184 + 26 * i_ + 3))), .int (iI (σ 2 (184 + 26 * i_ + 4))), .int (iI (σ 2 (184 + 26 * i_ + 10))), .int (iI (σ 2 (184 + 26 * i_ + 6))), .int (iI (σ 2 (184 + 26 * i_ + 11))), .int (iI (σ 2 (184 + 26 * i_ + 12))), .int (iI (σ 2 (184 + 26 * i_ + 14))), .int (iI (σ 2 (184 + 26 * i_ + 15))), .int (iI (σ 2 (184 + 26 * i_ + 16))), .int (iI (σ 2 (184 + 26 * i_ + 7))), .int (iI 1), .ref (gf x 0 fl_ 1), .ref (gf x 0 fl_ 2)]) := ⟨_, rfl⟩
                have hH := XV_to hH e_M6.symm
                have f6 : M6 (gf x 0 fl_ 0) = some (oB (fci (σ 2 (184 + 26 * i_ + 1))) [.int (iI (σ 2 (184 + 26 * i_ + 0))), .int (iI (σ 2 (184 + 26 * i_ + 1))), .int (iI (σ 2 (184 + 26 * i_ + 8))), .int (iI (σ 2 (184 + 26 * i_ + 9))), .int (iI (σ 2 (184 + 26 * i_ + 5))), .int (iI (σ 2 (184 + 26 * i_ + 2))), .int (iI (σ 2 (184 + 26 * i_ + 3))), .int (iI (σ 2 (184 + 26 * i_ + 4))), .int (iI (σ 2 (184 + 26 * i_ + 10))), .int (iI (σ 2 (184 + 26 * i_ + 6))), .int (iI (σ 2 (184 + 26 * i_ + 11))), .int (iI (σ 2 (184 + 26 * i_ + 12))), .int (iI (σ 2 (184 + 26 * i_ + 14))), .int (iI (σ 2 (184 + 26 * i_ + 15))), .int (iI (σ 2 (184 + 26 * i_ + 16))), .int (iI (σ 2 (184 + 26 * i_ + 7))), .int (iI 1), .ref (gf x 0 fl_ 1), .ref (gf x 0 fl_ 2)]) := by rw [e_M6]; exact hs_s
                obtain ⟨ω7, hR7⟩ : ∃ ω7, RX G M6 a (st σ 2 (184 + 26 * i_ + 13) 1) x ω7 := ⟨_, by rw [e_M6]; exact hR.ffI hW h40 hef (by omega) (j := 13) (by decide) fF_13⟩
                have hW7 : WK ((st σ 2 (184 + 26 * i_ + 13) 1) 2) := WK_st hW (by omega)
                have hF7 : F40 (st σ 2 (184 + 26 * i_ + 13) 1) := F40_st h40 (by omega)
                have hC7_1750 : (st σ 2 (184 + 26 * i_ + 13) 1) 2 1750 = σ 2 1750 := st_i (by omega)
                have hC7_1752 : (st σ 2 (184 + 26 * i_ + 13) 1) 2 1752 = σ 2 1752 := st_i (by omega)
                have hC7_1753 : (st σ 2 (184 + 26 * i_ + 13) 1) 2 1753 = σ 2 1753 := st_i (by omega)
                refine lv_aload_n hx hb dX1_turn_82 rfl (lv_at hl 2 rfl) ?_
                refine lv_aload_n hx hb dX1_turn_83 rfl (lv_at hl 2 rfl) ?_
                refine x_getFl hx hb hts hown hK hH (hR7.flaskE hef (by omega)) (fci_c _) 17 (by decide) q544 rfl rfl rfl rfl dX1_turn_84 ?_
                refine lv_iload_n hx hb dX1_turn_87 rfl (lv_at hl 3 rfl) ?_
                refine x_iald hx hb hK hH (hR7.grain hef (by omega)) (by omega) (by omega) (Nat.le_of_ble_eq_true rfl) dX1_turn_88 ?_
                refine W.eq (g2 := F0 m 89 ls (.int (iI ((st σ 2 (184 + 26 * i_ + 13) 1) 2 (184 + 26 * i_ + (17 + 2 * (g))))) :: .ref (gf x 0 fl_ 0) :: [])) (by first | (rw [hR7.gr1 hef (by omega) (by omega) (by omega)]; done) | (rw [hR7.gr1 hef (by omega) (by omega) (by omega)]; rfl)) ?_
                refine W.eq (g2 := F0 m 89 ls (.int (iI (σ 2 (184 + 26 * i_ + (17 + 2 * g)))) :: .ref (gf x 0 fl_ 0) :: [])) (by rw [st_i (by omega)]) ?_
                refine x_putFl (ty := .int) hx hb hts hown hK hH (hR7.flaskE hef (by omega)) (fci_c _) 12 (by decide) q530 rfl rfl rfl rfl (by decide +kernel) rfl rfl (Nat.le_of_ble_eq_true rfl) dX1_turn_89 (fun H locs hH => ?_)
                obtain ⟨M8, e_M8⟩ : ∃ M8, M8 = hs M6 (gf x 0 fl_ 0) (oB (fci ((st σ 2 (184 + 26 * i_ + 13) 1) 2 (184 + 26 * i_ + 1))) [.int (iI ((st σ 2 (184 + 26 * i_ + 13) 1) 2 (184 + 26 * i_ + 0))), .int (iI ((st σ 2 (184 + 26 * i_ + 13) 1) 2 (184 + 26 * i_ + 1))), .int (iI ((st σ 2 (184 + 26 * i_ + 13) 1) 2 (184 + 26 * i_ + 8))), .int (iI ((st σ 2 (184 + 26 * i_ + 13) 1) 2 (184 + 26 * i_ + 9))), .int (iI ((st σ 2 (184 + 26 * i_ + 13) 1) 2 (184 + 26 * i_ + 5))), .int (iI ((st σ 2 (184 + 26 * i_ + 13) 1) 2 (184 + 26 * i_ + 2))), .int (iI ((st σ 2 (184 + 26 * i_ + 13) 1) 2 (184 + 26 * i_ + 3))), .int (iI ((st σ 2 (184 + 26 * i_ + 13) 1) 2 (184 + 26 * i_ + 4))), .int (iI ((st σ 2 (184 + 26 * i_ + 13) 1) 2 (184 + 26 * i_ + 10))), .int (iI ((st σ 2 (184 + 26 * i_ + 13) 1) 2 (184 + 26 * i_ + 6))), .int (iI ((st σ 2 (184 + 26 * i_ + 13) 1) 2 (184 + 26 * i_ + 11))), .int (iI ((st σ 2 (184 + 26 * i_ + 13) 1) 2 (184 + 26 * i_ + 12))), .int (iI (σ 2 (184 + 26 * i_ + (17 + 2 * g)))), .int (iI ((st σ 2 (184 + 26 * i_ + 13) 1) 2 (184 + 26 * i_ + 15))), .int (iI ((st σ 2 (184 + 26 * i_ + 13) 1) 2 (184 + 26 * i_ + 16))), .int (iI ((st σ 2 (184 + 26 * i_ + 13) 1) 2 (184 + 26 * i_ + 7))), .int (iI ((st σ 2 (184 + 26 * i_ + 13) 1) 2 (184 + 26 * i_ + 13))), .ref (gf x 0 fl_ 1), .ref (gf x 0 fl_ 2)]) := ⟨_, rfl⟩
                have hH := XV_to hH e_M8.symm
                have f8 : M8 (gf x 0 fl_ 0) = some (oB (fci ((st σ 2 (184 + 26 * i_ + 13) 1) 2 (184 + 26 * i_ + 1))) [.int (iI ((st σ 2 (184 + 26 * i_ + 13) 1) 2 (184 + 26 * i_ + 0))), .int (iI ((st σ 2 (184 + 26 * i_ + 13) 1) 2 (184 + 26 * i_ + 1))), .int (iI ((st σ 2 (184 + 26 * i_ + 13) 1) 2 (184 + 26 * i_ + 8))), .int (iI ((st σ 2 (184 + 26 * i_ + 13) 1) 2 (184 + 26 * i_ + 9))), .int (iI ((st σ 2 (184 + 26 * i_ + 13) 1) 2 (184 + 26 * i_ + 5))), .int (iI ((st σ 2 (184 + 26 * i_ + 13) 1) 2 (184 + 26 * i_ + 2))), .int (iI ((st σ 2 (184 + 26 * i_ + 13) 1) 2 (184 + 26 * i_ + 3))), .int (iI ((st σ 2 (184 + 26 * i_ + 13) 1) 2 (184 + 26 * i_ + 4))), .int (iI ((st σ 2 (184 + 26 * i_ + 13) 1) 2 (184 + 26 * i_ + 10))), .int (iI ((st σ 2 (184 + 26 * i_ + 13) 1) 2 (184 + 26 * i_ + 6))), .int (iI ((st σ 2 (184 + 26 * i_ + 13) 1) 2 (184 + 26 * i_ + 11))), .int (iI ((st σ 2 (184 + 26 * i_ + 13) 1) 2 (184 + 26 * i_ + 12))), .int (iI (σ 2 (184 + 26 * i_ + (17 + 2 * g)))), .int (iI ((st σ 2 (184 + 26 * i_ + 13) 1) 2 (184 + 26 * i_ + 15))), .int (iI ((st σ 2 (184 + 26 * i_ + 13) 1) 2 (184 + 26 * i_ + 16))), .int (iI ((st σ 2 (184 + 26 * i_ + 13) 1) 2 (184 + 26 * i_ + 7))), .int (iI ((st σ 2 (184 + 26 * i_ + 13) 1) 2 (184 + 26 * i_ + 13))), .ref (gf x 0 fl_ 1), .ref (gf x 0 fl_ 2)]) := by rw [e_M8]; exact hs_s
                obtain ⟨ω9, hR9⟩ : ∃ ω9, RX G M8 a (st (st σ 2 (184 + 26 * i_ + 13) 1) 2 (184 + 26 * i_ + 14) (σ 2 (184 + 26 * i_ + (17 + 2 * g)))) x ω9 := ⟨_, by rw [e_M8]; exact hR7.ffI hW7 hF7 hef (by omega) (j := 14) (by decide) fF_14⟩
                have hW9 : WK ((st (st σ 2 (184 + 26 * i_ + 13) 1) 2 (184 + 26 * i_ + 14) (σ 2 (184 + 26 * i_ + (17 + 2 * g)))) 2) := WK_st hW7 (by omega)
                have hF9 : F40 (st (st σ 2 (184 + 26 * i_ + 13) 1) 2 (184 + 26 * i_ + 14) (σ 2 (184 + 26 * i_ + (17 + 2 * g)))) := F40_st hF7 (by omega)
                have hC9_1750 : (st (st σ 2 (184 + 26 * i_ + 13) 1) 2 (184 + 26 * i_ + 14) (σ 2 (184 + 26 * i_ + (17 + 2 * g)))) 2 1750 = (st σ 2 (184 + 26 * i_ + 13) 1) 2 1750 := st_i (by omega)
                have hC9_1752 : (st (st σ 2 (184 + 26 * i_ + 13) 1) 2 (184 + 26 * i_ + 14) (σ 2 (184 + 26 * i_ + (17 + 2 * g)))) 2 1752 = (st σ 2 (184 + 26 * i_ + 13) 1) 2 1752 := st_i (by omega)
                have hC9_1753 : (st (st σ 2 (184 + 26 * i_ + 13) 1) 2 (184 + 26 * i_ + 14) (σ 2 (184 + 26 * i_ + (17 + 2 * g)))) 2 1753 = (st σ 2 (184 + 26 * i_ + 13) 1) 2 1753 := st_i (by omega)
                refine lv_aload_n hx hb dX1_turn_92 rfl (lv_at hl 2 rfl) ?_
                refine lv_aload_n hx hb dX1_turn_93 rfl (lv_at hl 1 rfl) ?_
                refine x_get hx hb hts in_X1 hown hK hH hR9.b0 rfl 0 (by decide) q161 (fun _ h9 => h9) rfl (by decide) dX1_turn_94 ?_
                refine W.eq (g2 := F0 m 97 ls (.int (iI (σ 2 1750)) :: .ref (gf x 0 fl_ 0) :: [])) (by rw [st_i (by omega), st_i (by omega)]) ?_
                refine x_putFl (ty := .int) hx hb hts hown hK hH (hR9.flaskE hef (by omega)) (fci_c _) 13 (by decide) q533 rfl rfl rfl rfl (by decide +kernel) rfl rfl (Nat.le_of_ble_eq_true rfl) dX1_turn_97 (fun H locs hH => ?_)
                obtain ⟨M10, e_M10⟩ : ∃ M10, M10 = hs M8 (gf x 0 fl_ 0) (oB (fci ((st (st σ 2 (184 + 26 * i_ + 13) 1) 2 (184 + 26 * i_ + 14) (σ 2 (184 + 26 * i_ + (17 + 2 * g)))) 2 (184 + 26 * i_ + 1))) [.int (iI ((st (st σ 2 (184 + 26 * i_ + 13) 1) 2 (184 + 26 * i_ + 14) (σ 2 (184 + 26 * i_ + (17 + 2 * g)))) 2 (184 + 26 * i_ + 0))), .int (iI ((st (st σ 2 (184 + 26 * i_ + 13) 1) 2 (184 + 26 * i_ + 14) (σ 2 (184 + 26 * i_ + (17 + 2 * g)))) 2 (184 + 26 * i_ + 1))), .int (iI ((st (st σ 2 (184 + 26 * i_ + 13) 1) 2 (184 + 26 * i_ + 14) (σ 2 (184 + 26 * i_ + (17 + 2 * g)))) 2 (184 + 26 * i_ + 8))), .int (iI ((st (st σ 2 (184 + 26 * i_ + 13) 1) 2 (184 + 26 * i_ + 14) (σ 2 (184 + 26 * i_ + (17 + 2 * g)))) 2 (184 + 26 * i_ + 9))), .int (iI ((st (st σ 2 (184 + 26 * i_ + 13) 1) 2 (184 + 26 * i_ + 14) (σ 2 (184 + 26 * i_ + (17 + 2 * g)))) 2 (184 + 26 * i_ + 5))), .int (iI ((st (st σ 2 (184 + 26 * i_ + 13) 1) 2 (184 + 26 * i_ + 14) (σ 2 (184 + 26 * i_ + (17 + 2 * g)))) 2 (184 + 26 * i_ + 2))), .int (iI ((st (st σ 2 (184 + 26 * i_ + 13) 1) 2 (184 + 26 * i_ + 14) (σ 2 (184 + 26 * i_ + (17 + 2 * g)))) 2 (184 + 26 * i_ + 3))), .int (iI ((st (st σ 2 (184 + 26 * i_ + 13) 1) 2 (184 + 26 * i_ + 14) (σ 2 (184 + 26 * i_ + (17 + 2 * g)))) 2 (184 + 26 * i_ + 4))), .int (iI ((st (st σ 2 (184 + 26 * i_ + 13) 1) 2 (184 + 26 * i_ + 14) (σ 2 (184 + 26 * i_ + (17 + 2 * g)))) 2 (184 + 26 * i_ + 10))), .int (iI ((st (st σ 2 (184 + 26 * i_ + 13) 1) 2 (184 + 26 * i_ + 14) (σ 2 (184 + 26 * i_ + (17 + 2 * g)))) 2 (184 + 26 * i_ + 6))), .int (iI ((st (st σ 2 (184 + 26 * i_ + 13) 1) 2 (184 + 26 * i_ + 14) (σ 2 (184 + 26 * i_ + (17 + 2 * g)))) 2 (184 + 26 * i_ + 11))), .int (iI ((st (st σ 2 (184 + 26 * i_ + 13) 1) 2 (184 + 26 * i_ + 14) (σ 2 (184 + 26 * i_ + (17 + 2 * g)))) 2 (184 + 26 * i_ + 12))), .int (iI ((st (st σ 2 (184 + 26 * i_ + 13) 1) 2 (184 + 26 * i_ + 14) (σ 2 (184 + 26 * i_ + (17 + 2 * g)))) 2 (184 + 26 * i_ + 14))), .int (iI (σ 2 1750)), .int (iI ((st (st σ 2 (184 + 26 * i_ + 13) 1) 2 (184 + 26 * i_ + 14) (σ 2 (184 + 26 * i_ + (17 + 2 * g)))) 2 (184 + 26 * i_ + 16))), .int (iI ((st (st σ 2 (184 + 26 * i_ + 13) 1) 2 (184 + 26 * i_ + 14) (σ 2 (184 + 26 * i_ + (17 + 2 * g)))) 2 (184 + 26 * i_ + 7))), .int (iI ((st (st σ 2 (184 + 26 * i_ + 13) 1) 2 (184 + 26 * i_ + 14) (σ 2 (184 + 26 * i_ + (17 + 2 * g)))) 2 (184 + 26 * i_ + 13))), .ref (gf x 0 fl_ 1), .ref (gf x 0 fl_ 2)]) := ⟨_, rfl⟩
                have hH := XV_to hH e_M10.symm
                have f10 : M10 (gf x 0 fl_ 0) = some (oB (fci ((st (st σ 2 (184 + 26 * i_ + 13) 1) 2 (184 + 26 * i_ + 14) (σ 2 (184 + 26 * i_ + (17 + 2 * g)))) 2 (184 + 26 * i_ + 1))) [.int (iI ((st (st σ 2 (184 + 26 * i_ + 13) 1) 2 (184 + 26 * i_ + 14) (σ 2 (184 + 26 * i_ + (17 + 2 * g)))) 2 (184 + 26 * i_ + 0))), .int (iI ((st (st σ 2 (184 + 26 * i_ + 13) 1) 2 (184 + 26 * i_ + 14) (σ 2 (184 + 26 * i_ + (17 + 2 * g)))) 2 (184 + 26 * i_ + 1))), .int (iI ((st (st σ 2 (184 + 26 * i_ + 13) 1) 2 (184 + 26 * i_ + 14) (σ 2 (184 + 26 * i_ + (17 + 2 * g)))) 2 (184 + 26 * i_ + 8))), .int (iI ((st (st σ 2 (184 + 26 * i_ + 13) 1) 2 (184 + 26 * i_ + 14) (σ 2 (184 + 26 * i_ + (17 + 2 * g)))) 2 (184 + 26 * i_ + 9))), .int (iI ((st (st σ 2 (184 + 26 * i_ + 13) 1) 2 (184 + 26 * i_ + 14) (σ 2 (184 + 26 * i_ + (17 + 2 * g)))) 2 (184 + 26 * i_ + 5))), .int (iI ((st (st σ 2 (184 + 26 * i_ + 13) 1) 2 (184 + 26 * i_ + 14) (σ 2 (184 + 26 * i_ + (17 + 2 * g)))) 2 (184 + 26 * i_ + 2))), .int (iI ((st (st σ 2 (184 + 26 * i_ + 13) 1) 2 (184 + 26 * i_ + 14) (σ 2 (184 + 26 * i_ + (17 + 2 * g)))) 2 (184 + 26 * i_ + 3))), .int (iI ((st (st σ 2 (184 + 26 * i_ + 13) 1) 2 (184 + 26 * i_ + 14) (σ 2 (184 + 26 * i_ + (17 + 2 * g)))) 2 (184 + 26 * i_ + 4))), .int (iI ((st (st σ 2 (184 + 26 * i_ + 13) 1) 2 (184 + 26 * i_ + 14) (σ 2 (184 + 26 * i_ + (17 + 2 * g)))) 2 (184 + 26 * i_ + 10))), .int (iI ((st (st σ 2 (184 + 26 * i_ + 13) 1) 2 (184 + 26 * i_ + 14) (σ 2 (184 + 26 * i_ + (17 + 2 * g)))) 2 (184 + 26 * i_ + 6))), .int (iI ((st (st σ 2 (184 + 26 * i_ + 13) 1) 2 (184 + 26 * i_ + 14) (σ 2 (184 + 26 * i_ + (17 + 2 * g)))) 2 (184 + 26 * i_ + 11))), .int (iI ((st (st σ 2 (184 + 26 * i_ + 13) 1) 2 (184 + 26 * i_ + 14) (σ 2 (184 + 26 * i_ + (17 + 2 * g)))) 2 (184 + 26 * i_ + 12))), .int (iI ((st (st σ 2 (184 + 26 * i_ + 13) 1) 2 (184 + 26 * i_ + 14) (σ 2 (184 + 26 * i_ + (17 + 2 * g)))) 2 (184 + 26 * i_ + 14))), .int (iI (σ 2 1750)), .int (iI ((st (st σ 2 (184 + 26 * i_ + 13) 1) 2 (184 + 26 * i_ + 14) (σ 2 (184 + 26 * i_ + (17 + 2 * g)))) 2 (184 + 26 * i_ + 16))), .int (iI ((st (st σ 2 (184 + 26 * i_ + 13) 1) 2 (184 + 26 * i_ + 14) (σ 2 (184 + 26 * i_ + (17 + 2 * g)))) 2 (184 + 26 * i_ + 7))), .int (iI ((st (st σ 2 (184 + 26 * i_ + 13) 1) 2 (184 + 26 * i_ + 14) (σ 2 (184 + 26 * i_ + (17 + 2 * g)))) 2 (184 + 26 * i_ + 13))), .ref (gf x 0 fl_ 1), .ref (gf x 0 fl_ 2)]) := by rw [e_M10]; exact hs_s
                obtain ⟨ω11, hR11⟩ : ∃ ω11, RX G M10 a (st (st (st σ 2 (184 + 26 * i_ + 13) 1) 2 (184 + 26 * i_ + 14) (σ 2 (184 + 26 * i_ + (17 + 2 * g)))) 2 (184 + 26 * i_ + 15) (σ 2 1750)) x ω11 := ⟨_, by rw [e_M10]; exact hR9.ffI hW9 hF9 hef (by omega) (j := 15) (by decide) fF_15⟩
                have hW11 : WK ((st (st (st σ 2 (184 + 26 * i_ + 13) 1) 2 (184 + 26 * i_ + 14) (σ 2 (184 + 26 * i_ + (17 + 2 * g)))) 2 (184 + 26 * i_ + 15) (σ 2 1750)) 2) := WK_st hW9 (by omega)
                have hF11 : F40 (st (st (st σ 2 (184 + 26 * i_ + 13) 1) 2 (184 + 26 * i_ + 14) (σ 2 (184 + 26 * i_ + (17 + 2 * g)))) 2 (184 + 26 * i_ + 15) (σ 2 1750)) := F40_st hF9 (by omega)
                have hC11_1750 : (st (st (st σ 2 (184 + 26 * i_ + 13) 1) 2 (184 + 26 * i_ + 14) (σ 2 (184 + 26 * i_ + (17 + 2 * g)))) 2 (184 + 26 * i_ + 15) (σ 2 1750)) 2 1750 = (st (st σ 2 (184 + 26 * i_ + 13) 1) 2 (184 + 26 * i_ + 14) (σ 2 (184 + 26 * i_ + (17 + 2 * g)))) 2 1750 := st_i (by omega)
                have hC11_1752 : (st (st (st σ 2 (184 + 26 * i_ + 13) 1) 2 (184 + 26 * i_ + 14) (σ 2 (184 + 26 * i_ + (17 + 2 * g)))) 2 (184 + 26 * i_ + 15) (σ 2 1750)) 2 1752 = (st (st σ 2 (184 + 26 * i_ + 13) 1) 2 (184 + 26 * i_ + 14) (σ 2 (184 + 26 * i_ + (17 + 2 * g)))) 2 1752 := st_i (by omega)
                have hC11_1753 : (st (st (st σ 2 (184 + 26 * i_ + 13) 1) 2 (184 + 26 * i_ + 14) (σ 2 (184 + 26 * i_ + (17 + 2 * g)))) 2 (184 + 26 * i_ + 15) (σ 2 1750)) 2 1753 = (st (st σ 2 (184 + 26 * i_ + 13) 1) 2 (184 + 26 * i_ + 14) (σ 2 (184 + 26 * i_ + (17 + 2 * g)))) 2 1753 := st_i (by omega)
                refine n_iinc hx hb dX1_turn_100 hl (k := 3) rfl (Nat.le_of_ble_eq_true rfl) (lv' := [(2, .int (iI (g + 1))), (3, .ref y5), (0, .ref (gb x 0 0)), (1, .ref (gf x 0 fl_ 0))]) rfl (fun ls hl => ?_)
                refine lv_goto (tgt := 2) hx hb dX1_turn_103 (by decide) ?_
                refine lv_iload_n hx hb dX1_turn_2 rfl (lv_at hl 0 rfl) ?_
                refine lv_aload_n hx hb dX1_turn_3 rfl (lv_at hl 3 rfl) ?_
                refine x_getFl hx hb hts hown hK hH (hR11.flaskE hef (by omega)) (fci_c _) 14 (by decide) q535 rfl rfl rfl rfl dX1_turn_4 ?_
                refine W.eq (g2 := F0 m 7 ls (.int (iI (σ 2 (184 + 26 * i_ + 16))) :: .int (iI (g + 1)) :: [])) (by rw [st_i (by omega), st_i (by omega), st_i (by omega)]) ?_
                refine n_icmp_ge (tgt := 106) hx hb (r32 (by omega)) (r32 (by omega)) dX1_turn_7 (by decide) (fun c_7 => ?_) (fun c_7 => ?_)
                · -- 7T
                  refine lv_aload_n hx hb dX1_turn_106 rfl (lv_at hl 3 rfl) ?_
                  refine x_getFl hx hb hts hown hK hH (hR11.flaskE hef (by omega)) (fci_c _) 16 (by decide) q541 rfl rfl rfl rfl dX1_turn_107 ?_
                  refine W.eq (g2 := F0 m 110 ls (.int (iI 1) :: [])) (by rw [st_i (by omega), st_i (by omega), st_s]) ?_
                  refine n_if_ne (tgt := 141) hx hb (r32 (by omega)) dX1_turn_110 (by decide) (fun _ => ?_) (fun h => absurd h (by decide))
                  refine x_vret hx hb hr hlk hH dX1_turn_141 ?_
                  rw [hTF]
                  exact ⟨_, hR11, hW11, hF11⟩
                · -- 7F
                  have b4 := b1.2.2.2.2.2.2.2.2.2.2.2.2.2.2.2.2.2 g (by omega) (by omega)
                  refine lv_aload_n hx hb dX1_turn_10 rfl (lv_at hl 3 rfl) ?_
                  refine x_getFl hx hb hts hown hK hH (hR11.flaskE hef (by omega)) (fci_c _) 16 (by decide) q541 rfl rfl rfl rfl dX1_turn_11 ?_
                  refine W.eq (g2 := F0 m 14 ls (.int (iI 1) :: [])) (by rw [st_i (by omega), st_i (by omega), st_s]) ?_
                  refine n_if_ne (tgt := 106) hx hb (r32 (by omega)) dX1_turn_14 (by decide) (fun _ => ?_) (fun h => absurd h (by decide))
                  refine lv_aload_n hx hb dX1_turn_106 rfl (lv_at hl 3 rfl) ?_
                  refine x_getFl hx hb hts hown hK hH (hR11.flaskE hef (by omega)) (fci_c _) 16 (by decide) q541 rfl rfl rfl rfl dX1_turn_107 ?_
                  refine W.eq (g2 := F0 m 110 ls (.int (iI 1) :: [])) (by rw [st_i (by omega), st_i (by omega), st_s]) ?_
                  refine n_if_ne (tgt := 141) hx hb (r32 (by omega)) dX1_turn_110 (by decide) (fun _ => ?_) (fun h => absurd h (by decide))
                  refine x_vret hx hb hr hlk hH dX1_turn_141 ?_
                  rw [hTF]
                  exact ⟨_, hR11, hW11, hF11⟩
              · -- 71F
                refine lv_goto (tgt := 100) hx hb dX1_turn_74 (by decide) ?_
                refine n_iinc hx hb dX1_turn_100 hl (k := 3) rfl (Nat.le_of_ble_eq_true rfl) (lv' := [(2, .int (iI (g + 1))), (3, .ref y5), (0, .ref (gb x 0 0)), (1, .ref (gf x 0 fl_ 0))]) rfl (fun ls hl => ?_)
                refine lv_goto (tgt := 2) hx hb dX1_turn_103 (by decide) ?_
                have hl : lv_has ls 4 [(0, .ref (gb x 0 0)), (1, .ref (gf x 0 fl_ 0)), (2, .int (iI (g + 1)))] := lv_sub hl [2, 3, 0] rfl
                refine ih_2 (g + 1) ?_ ?_ ?_ ?_ _ _ _ hH hl
                · omega
                · omega
                · omega
                · rw [byF_d h0 hby (by unfold canP airP; (try unfold airP at *); omega)]; exact hby
            · -- 44F
              refine lv_aload_n hx hb dX1_turn_47 rfl (lv_at hl 2 rfl) ?_
              refine x_calliF (fl_run (As := []) (rest := []) (n := 0) S hH hK hXN hl.1 (hR.flaskE hef (by omega)) (xm_X6_hasAir l G M σ x i_ fl_ (gf x 0 fl_ 0) _ (hR.flaskE hef (by omega)) ⟨by omega, by omega⟩ ⟨by omega, by omega⟩) rfl q701 q703 q706 q704 q705 q702 q111 q707 kd_X6_hasAir.2 rfl rfl dX1_turn_48 rfl rfl ⟨Nat.le_of_ble_eq_true rfl, Nat.le_of_ble_eq_true rfl⟩ (Nat.le_of_ble_eq_true rfl) ⟨Nat.le_of_ble_eq_true rfl, Nat.le_of_ble_eq_true rfl⟩) hH hA (fun H locs hH => ?_)
              refine z_if_eq (tgt := 100) hx hb dX1_turn_51 (by decide) (fun c_51 => ?_) (fun c_51 => ?_)
              · -- 51T
                refine n_iinc hx hb dX1_turn_100 hl (k := 3) rfl (Nat.le_of_ble_eq_true rfl) (lv' := [(2, .int (iI (g + 1))), (3, .ref y5), (0, .ref (gb x 0 0)), (1, .ref (gf x 0 fl_ 0))]) rfl (fun ls hl => ?_)
                refine lv_goto (tgt := 2) hx hb dX1_turn_103 (by decide) ?_
                have hl : lv_has ls 4 [(0, .ref (gb x 0 0)), (1, .ref (gf x 0 fl_ 0)), (2, .int (iI (g + 1)))] := lv_sub hl [2, 3, 0] rfl
                refine ih_2 (g + 1) ?_ ?_ ?_ ?_ _ _ _ hH hl
                · omega
                · omega
                · omega
                · rw [byF_d h0 hby (by unfold canP airP; (try unfold airP at *); omega)]; exact hby
              · -- 51F
                refine lv_aload_n hx hb dX1_turn_54 rfl (lv_at hl 1 rfl) ?_
                refine x_get hx hb hts in_X1 hown hK hH hR.b0 rfl 0 (by decide) q161 (fun _ h9 => h9) rfl (by decide) dX1_turn_55 ?_
                refine lv_aload_n hx hb dX1_turn_58 rfl (lv_at hl 2 rfl) ?_
                refine x_getFl hx hb hts hown hK hH (hR.flaskE hef (by omega)) (fci_c _) 18 (by decide) q546 rfl rfl rfl rfl dX1_turn_59 ?_
                refine lv_iload_n hx hb dX1_turn_62 rfl (lv_at hl 3 rfl) ?_
                refine x_iald hx hb hK hH (hR.fell hef (by omega)) (by omega) (by omega) (Nat.le_of_ble_eq_true rfl) dX1_turn_63 ?_
                refine W.eq (g2 := F0 m 64 ls (.int (iI (σ 2 (184 + 26 * i_ + (17 + 2 * (g) + 1)))) :: .int (iI (σ 2 1750)) :: [])) (by first | (rw [hR.gr2 hef (by omega) (by omega) (by omega)]; done) | (rw [hR.gr2 hef (by omega) (by omega) (by omega)]; rfl)) ?_
                refine n_isub hx hb dX1_turn_64 ?_
                refine n_iconst hx hb dX1_turn_65 ?_
                refine n_iadd hx hb dX1_turn_66 ?_
                refine lv_aload_n hx hb dX1_turn_67 rfl (lv_at hl 0 rfl) ?_
                refine x_getN hx hb hts in_X5 hown hK hH g5 rfl 3 (by decide) hXN q407 (fun _ h9 => h9) rfl (by decide) dX1_turn_68 ?_
                refine n_icmp_ge (tgt := 77) hx hb (r32 (by omega)) (r32 (by omega)) dX1_turn_71 (by decide) (fun c_71 => ?_) (fun c_71 => ?_)
                · -- 71T
                  have hTF := turn_by h0 (by omega) hby (show canP σ i_ g by unfold canP airP; (try unfold airP at *); omega) b4.1.1 c_14
                  refine lv_aload_n hx hb dX1_turn_77 rfl (lv_at hl 2 rfl) ?_
                  refine n_iconst hx hb dX1_turn_78 ?_
                  refine x_putFl (ty := .boolean) hx hb hts hown hK hH (hR.flaskE hef (by omega)) (fci_c _) 16 (by decide) q541 rfl rfl rfl rfl (by decide +kernel) (zfit (Or.inr rfl)).1 (zfit (Or.inr rfl)).2 (Nat.le_of_ble_eq_true rfl) dX1_turn_79 (fun H locs hH => ?_)
                  obtain ⟨M12, e_M12⟩ : ∃ M12, M12 = hs M (gf x 0 fl_ 0) (oB (fci (σ 2 (184 + 26 * i_ + 1))) [.int (iI (σ 2 (184 + 26 * i_ + 0))), .int (iI (σ 2 (184 + 26 * i_ + 1))), .int (iI (σ 2 (184 + 26 * i_ + 8))), .int (iI (σ 2 (184 + 26 * i_ + 9))), .int (iI (σ 2 (184 + 26 * i_ + 5))), .int (iI (σ 2 (184 + 26 * i_ + 2))), .int (iI (σ 2 (184 + 26 * i_ + 3))), .int (iI (σ 2 (184 + 26 * i_ + 4))), .int (iI (σ 2 (184 + 26 * i_ + 10))), .int (iI (σ 2 (184 + 26 * i_ + 6))), .int (iI (σ 2 (184 + 26 * i_ + 11))), .int (iI (σ 2 (184 + 26 * i_ + 12))), .int (iI (σ 2 (184 + 26 * i_ + 14))), .int (iI (σ 2 (184 + 26 * i_ + 15))), .int (iI (σ 2 (184 + 26 * i_ + 16))), .int (iI (σ 2 (184 + 26 * i_ + 7))), .int (iI 1), .ref (gf x 0 fl_ 1), .ref (gf x 0 fl_ 2)]) := ⟨_, rfl⟩
                  have hH := XV_to hH e_M12.symm
                  have f12 : M12 (gf x 0 fl_ 0) = some (oB (fci (σ 2 (184 + 26 * i_ + 1))) [.int (iI (σ 2 (184 + 26 * i_ + 0))), .int (iI (σ 2 (184 + 26 * i_ + 1))), .int (iI (σ 2 (184 + 26 * i_ + 8))), .int (iI (σ 2 (184 + 26 * i_ + 9))), .int (iI (σ 2 (184 + 26 * i_ + 5))), .int (iI (σ 2 (184 + 26 * i_ + 2))), .int (iI (σ 2 (184 + 26 * i_ + 3))), .int (iI (σ 2 (184 + 26 * i_ + 4))), .int (iI (σ 2 (184 + 26 * i_ + 10))), .int (iI (σ 2 (184 + 26 * i_ + 6))), .int (iI (σ 2 (184 + 26 * i_ + 11))), .int (iI (σ 2 (184 + 26 * i_ + 12))), .int (iI (σ 2 (184 + 26 * i_ + 14))), .int (iI (σ 2 (184 + 26 * i_ + 15))), .int (iI (σ 2 (184 + 26 * i_ + 16))), .int (iI (σ 2 (184 + 26 * i_ + 7))), .int (iI 1), .ref (gf x 0 fl_ 1), .ref (gf x 0 fl_ 2)]) := by rw [e_M12]; exact hs_s
                  obtain ⟨ω13, hR13⟩ : ∃ ω13, RX G M12 a (st σ 2 (184 + 26 * i_ + 13) 1) x ω13 := ⟨_, by rw [e_M12]; exact hR.ffI hW h40 hef (by omega) (j := 13) (by decide) fF_13⟩
                  have hW13 : WK ((st σ 2 (184 + 26 * i_ + 13) 1) 2) := WK_st hW (by omega)
                  have hF13 : F40 (st σ 2 (184 + 26 * i_ + 13) 1) := F40_st h40 (by omega)
                  have hC13_1750 : (st σ 2 (184 + 26 * i_ + 13) 1) 2 1750 = σ 2 1750 := st_i (by omega)
                  have hC13_1752 : (st σ 2 (184 + 26 * i_ + 13) 1) 2 1752 = σ 2 1752 := st_i (by omega)
                  have hC13_1753 : (st σ 2 (184 + 26 * i_ + 13) 1) 2 1753 = σ 2 1753 := st_i (by omega)
                  refine lv_aload_n hx hb dX1_turn_82 rfl (lv_at hl 2 rfl) ?_
                  refine lv_aload_n hx hb dX1_turn_83 rfl (lv_at hl 2 rfl) ?_
                  refine x_getFl hx hb hts hown hK hH (hR13.flaskE hef (by omega)) (fci_c _) 17 (by decide) q544 rfl rfl rfl rfl dX1_turn_84 ?_
                  refine lv_iload_n hx hb dX1_turn_87 rfl (lv_at hl 3 rfl) ?_
                  refine x_iald hx hb hK hH (hR13.grain hef (by omega)) (by omega) (by omega) (Nat.le_of_ble_eq_true rfl) dX1_turn_88 ?_
                  refine W.eq (g2 := F0 m 89 ls (.int (iI ((st σ 2 (184 + 26 * i_ + 13) 1) 2 (184 + 26 * i_ + (17 + 2 * (g))))) :: .ref (gf x 0 fl_ 0) :: [])) (by first | (rw [hR13.gr1 hef (by omega) (by omega) (by omega)]; done) | (rw [hR13.gr1 hef (by omega) (by omega) (by omega)]; rfl)) ?_
                  refine W.eq (g2 := F0 m 89 ls (.int (iI (σ 2 (184 + 26 * i_ + (17 + 2 * g)))) :: .ref (gf x 0 fl_ 0) :: [])) (by rw [st_i (by omega)]) ?_
                  refine x_putFl (ty := .int) hx hb hts hown hK hH (hR13.flaskE hef (by omega)) (fci_c _) 12 (by decide) q530 rfl rfl rfl rfl (by decide +kernel) rfl rfl (Nat.le_of_ble_eq_true rfl) dX1_turn_89 (fun H locs hH => ?_)
                  obtain ⟨M14, e_M14⟩ : ∃ M14, M14 = hs M12 (gf x 0 fl_ 0) (oB (fci ((st σ 2 (184 + 26 * i_ + 13) 1) 2 (184 + 26 * i_ + 1))) [.int (iI ((st σ 2 (184 + 26 * i_ + 13) 1) 2 (184 + 26 * i_ + 0))), .int (iI ((st σ 2 (184 + 26 * i_ + 13) 1) 2 (184 + 26 * i_ + 1))), .int (iI ((st σ 2 (184 + 26 * i_ + 13) 1) 2 (184 + 26 * i_ + 8))), .int (iI ((st σ 2 (184 + 26 * i_ + 13) 1) 2 (184 + 26 * i_ + 9))), .int (iI ((st σ 2 (184 + 26 * i_ + 13) 1) 2 (184 + 26 * i_ + 5))), .int (iI ((st σ 2 (184 + 26 * i_ + 13) 1) 2 (184 + 26 * i_ + 2))), .int (iI ((st σ 2 (184 + 26 * i_ + 13) 1) 2 (184 + 26 * i_ + 3))), .int (iI ((st σ 2 (184 + 26 * i_ + 13) 1) 2 (184 + 26 * i_ + 4))), .int (iI ((st σ 2 (184 + 26 * i_ + 13) 1) 2 (184 + 26 * i_ + 10))), .int (iI ((st σ 2 (184 + 26 * i_ + 13) 1) 2 (184 + 26 * i_ + 6))), .int (iI ((st σ 2 (184 + 26 * i_ + 13) 1) 2 (184 + 26 * i_ + 11))), .int (iI ((st σ 2 (184 + 26 * i_ + 13) 1) 2 (184 + 26 * i_ + 12))), .int (iI (σ 2 (184 + 26 * i_ + (17 + 2 * g)))), .int (iI ((st σ 2 (184 + 26 * i_ + 13) 1) 2 (184 + 26 * i_ + 15))), .int (iI ((st σ 2 (184 + 26 * i_ + 13) 1) 2 (184 + 26 * i_ + 16))), .int (iI ((st σ 2 (184 + 26 * i_ + 13) 1) 2 (184 + 26 * i_ + 7))), .int (iI ((st σ 2 (184 + 26 * i_ + 13) 1) 2 (184 + 26 * i_ + 13))), .ref (gf x 0 fl_ 1), .ref (gf x 0 fl_ 2)]) := ⟨_, rfl⟩
                  have hH := XV_to hH e_M14.symm
                  have f14 : M14 (gf x 0 fl_ 0) = some (oB (fci ((st σ 2 (184 + 26 * i_ + 13) 1) 2 (184 + 26 * i_ + 1))) [.int (iI ((st σ 2 (184 + 26 * i_ + 13) 1) 2 (184 + 26 * i_ + 0))), .int (iI ((st σ 2 (184 + 26 * i_ + 13) 1) 2 (184 + 26 * i_ + 1))), .int (iI ((st σ 2 (184 + 26 * i_ + 13) 1) 2 (184 + 26 * i_ + 8))), .int (iI ((st σ 2 (184 + 26 * i_ + 13) 1) 2 (184 + 26 * i_ + 9))), .int (iI ((st σ 2 (184 + 26 * i_ + 13) 1) 2 (184 + 26 * i_ + 5))), .int (iI ((st σ 2 (184 + 26 * i_ + 13) 1) 2 (184 + 26 * i_ + 2))), .int (iI ((st σ 2 (184 + 26 * i_ + 13) 1) 2 (184 + 26 * i_ + 3))), .int (iI ((st σ 2 (184 + 26 * i_ + 13) 1) 2 (184 + 26 * i_ + 4))), .int (iI ((st σ 2 (184 + 26 * i_ + 13) 1) 2 (184 + 26 * i_ + 10))), .int (iI ((st σ 2 (184 + 26 * i_ + 13) 1) 2 (184 + 26 * i_ + 6))), .int (iI ((st σ 2 (184 + 26 * i_ + 13) 1) 2 (184 + 26 * i_ + 11))), .int (iI ((st σ 2 (184 + 26 * i_ + 13) 1) 2 (184 + 26 * i_ + 12))), .int (iI (σ 2 (184 + 26 * i_ + (17 + 2 * g)))), .int (iI ((st σ 2 (184 + 26 * i_ + 13) 1) 2 (184 + 26 * i_ + 15))), .int (iI ((st σ 2 (184 + 26 * i_ + 13) 1) 2 (184 + 26 * i_ + 16))), .int (iI ((st σ 2 (184 + 26 * i_ + 13) 1) 2 (184 + 26 * i_ + 7))), .int (iI ((st σ 2 (184 + 26 * i_ + 13) 1) 2 (184 + 26 * i_ + 13))), .ref (gf x 0 fl_ 1), .ref (gf x 0 fl_ 2)]) := by rw [e_M14]; exact hs_s
                  obtain ⟨ω15, hR15⟩ : ∃ ω15, RX G M14 a (st (st σ 2 (184 + 26 * i_ + 13) 1) 2 (184 + 26 * i_ + 14) (σ 2 (184 + 26 * i_ + (17 + 2 * g)))) x ω15 := ⟨_, by rw [e_M14]; exact hR13.ffI hW13 hF13 hef (by omega) (j := 14) (by decide) fF_14⟩
                  have hW15 : WK ((st (st σ 2 (184 + 26 * i_ + 13) 1) 2 (184 + 26 * i_ + 14) (σ 2 (184 + 26 * i_ + (17 + 2 * g)))) 2) := WK_st hW13 (by omega)
                  have hF15 : F40 (st (st σ 2 (184 + 26 * i_ + 13) 1) 2 (184 + 26 * i_ + 14) (σ 2 (184 + 26 * i_ + (17 + 2 * g)))) := F40_st hF13 (by omega)
                  have hC15_1750 : (st (st σ 2 (184 + 26 * i_ + 13) 1) 2 (184 + 26 * i_ + 14) (σ 2 (184 + 26 * i_ + (17 + 2 * g)))) 2 1750 = (st σ 2 (184 + 26 * i_ + 13) 1) 2 1750 := st_i (by omega)
                  have hC15_1752 : (st (st σ 2 (184 + 26 * i_ + 13) 1) 2 (184 + 26 * i_ + 14) (σ 2 (184 + 26 * i_ + (17 + 2 * g)))) 2 1752 = (st σ 2 (184 + 26 * i_ + 13) 1) 2 1752 := st_i (by omega)
                  have hC15_1753 : (st (st σ 2 (184 + 26 * i_ + 13) 1) 2 (184 + 26 * i_ + 14) (σ 2 (184 + 26 * i_ + (17 + 2 * g)))) 2 1753 = (st σ 2 (184 + 26 * i_ + 13) 1) 2 1753 := st_i (by omega)
                  refine lv_aload_n hx hb dX1_turn_92 rfl (lv_at hl 2 rfl) ?_
                  refine lv_aload_n hx hb dX1_turn_93 rfl (lv_at hl 1 rfl) ?_
                  refine x_get hx hb hts in_X1 hown hK hH hR15.b0 rfl 0 (by decide) q161 (fun _ h9 => h9) rfl (by decide) dX1_turn_94 ?_
                  refine W.eq (g2 := F0 m 97 ls (.int (iI (σ 2 1750)) :: .ref (gf x 0 fl_ 0) :: [])) (by rw [st_i (by omega), st_i (by omega)]) ?_
                  refine x_putFl (ty := .int) hx hb hts hown hK hH (hR15.flaskE hef (by omega)) (fci_c _) 13 (by decide) q533 rfl rfl rfl rfl (by decide +kernel) rfl rfl (Nat.le_of_ble_eq_true rfl) dX1_turn_97 (fun H locs hH => ?_)
                  obtain ⟨M16, e_M16⟩ : ∃ M16, M16 = hs M14 (gf x 0 fl_ 0) (oB (fci ((st (st σ 2 (184 + 26 * i_ + 13) 1) 2 (184 + 26 * i_ + 14) (σ 2 (184 + 26 * i_ + (17 + 2 * g)))) 2 (184 + 26 * i_ + 1))) [.int (iI ((st (st σ 2 (184 + 26 * i_ + 13) 1) 2 (184 + 26 * i_ + 14) (σ 2 (184 + 26 * i_ + (17 + 2 * g)))) 2 (184 + 26 * i_ + 0))), .int (iI ((st (st σ 2 (184 + 26 * i_ + 13) 1) 2 (184 + 26 * i_ + 14) (σ 2 (184 + 26 * i_ + (17 + 2 * g)))) 2 (184 + 26 * i_ + 1))), .int (iI ((st (st σ 2 (184 + 26 * i_ + 13) 1) 2 (184 + 26 * i_ + 14) (σ 2 (184 + 26 * i_ + (17 + 2 * g)))) 2 (184 + 26 * i_ + 8))), .int (iI ((st (st σ 2 (184 + 26 * i_ + 13) 1) 2 (184 + 26 * i_ + 14) (σ 2 (184 + 26 * i_ + (17 + 2 * g)))) 2 (184 + 26 * i_ + 9))), .int (iI ((st (st σ 2 (184 + 26 * i_ + 13) 1) 2 (184 + 26 * i_ + 14) (σ 2 (184 + 26 * i_ + (17 + 2 * g)))) 2 (184 + 26 * i_ + 5))), .int (iI ((st (st σ 2 (184 + 26 * i_ + 13) 1) 2 (184 + 26 * i_ + 14) (σ 2 (184 + 26 * i_ + (17 + 2 * g)))) 2 (184 + 26 * i_ + 2))), .int (iI ((st (st σ 2 (184 + 26 * i_ + 13) 1) 2 (184 + 26 * i_ + 14) (σ 2 (184 + 26 * i_ + (17 + 2 * g)))) 2 (184 + 26 * i_ + 3))), .int (iI ((st (st σ 2 (184 + 26 * i_ + 13) 1) 2 (184 + 26 * i_ + 14) (σ 2 (184 + 26 * i_ + (17 + 2 * g)))) 2 (184 + 26 * i_ + 4))), .int (iI ((st (st σ 2 (184 + 26 * i_ + 13) 1) 2 (184 + 26 * i_ + 14) (σ 2 (184 + 26 * i_ + (17 + 2 * g)))) 2 (184 + 26 * i_ + 10))), .int (iI ((st (st σ 2 (184 + 26 * i_ + 13) 1) 2 (184 + 26 * i_ + 14) (σ 2 (184 + 26 * i_ + (17 + 2 * g)))) 2 (184 + 26 * i_ + 6))), .int (iI ((st (st σ 2 (184 + 26 * i_ + 13) 1) 2 (184 + 26 * i_ + 14) (σ 2 (184 + 26 * i_ + (17 + 2 * g)))) 2 (184 + 26 * i_ + 11))), .int (iI ((st (st σ 2 (184 + 26 * i_ + 13) 1) 2 (184 + 26 * i_ + 14) (σ 2 (184 + 26 * i_ + (17 + 2 * g)))) 2 (184 + 26 * i_ + 12))), .int (iI ((st (st σ 2 (184 + 26 * i_ + 13) 1) 2 (184 + 26 * i_ + 14) (σ 2 (184 + 26 * i_ + (17 + 2 * g)))) 2 (184 + 26 * i_ + 14))), .int (iI (σ 2 1750)), .int (iI ((st (st σ 2 (184 + 26 * i_ + 13) 1) 2 (184 + 26 * i_ + 14) (σ 2 (184 + 26 * i_ + (17 + 2 * g)))) 2 (184 + 26 * i_ + 16))), .int (iI ((st (st σ 2 (184 + 26 * i_ + 13) 1) 2 (184 + 26 * i_ + 14) (σ 2 (184 + 26 * i_ + (17 + 2 * g)))) 2 (184 + 26 * i_ + 7))), .int (iI ((st (st σ 2 (184 + 26 * i_ + 13) 1) 2 (184 + 26 * i_ + 14) (σ 2 (184 + 26 * i_ + (17 + 2 * g)))) 2 (184 + 26 * i_ + 13))), .ref (gf x 0 fl_ 1), .ref (gf x 0 fl_ 2)]) := ⟨_, rfl⟩
                  have hH := XV_to hH e_M16.symm
                  have f16 : M16 (gf x 0 fl_ 0) = some (oB (fci ((st (st σ 2 (184 + 26 * i_ + 13) 1) 2 (184 + 26 * i_ + 14) (σ 2 (184 + 26 * i_ + (17 + 2 * g)))) 2 (184 + 26 * i_ + 1))) [.int (iI ((st (st σ 2 (184 + 26 * i_ + 13) 1) 2 (184 + 26 * i_ + 14) (σ 2 (184 + 26 * i_ + (17 + 2 * g)))) 2 (184 + 26 * i_ + 0))), .int (iI ((st (st σ 2 (184 + 26 * i_ + 13) 1) 2 (184 + 26 * i_ + 14) (σ 2 (184 + 26 * i_ + (17 + 2 * g)))) 2 (184 + 26 * i_ + 1))), .int (iI ((st (st σ 2 (184 + 26 * i_ + 13) 1) 2 (184 + 26 * i_ + 14) (σ 2 (184 + 26 * i_ + (17 + 2 * g)))) 2 (184 + 26 * i_ + 8))), .int (iI ((st (st σ 2 (184 + 26 * i_ + 13) 1) 2 (184 + 26 * i_ + 14) (σ 2 (184 + 26 * i_ + (17 + 2 * g)))) 2 (184 + 26 * i_ + 9))), .int (iI ((st (st σ 2 (184 + 26 * i_ + 13) 1) 2 (184 + 26 * i_ + 14) (σ 2 (184 + 26 * i_ + (17 + 2 * g)))) 2 (184 + 26 * i_ + 5))), .int (iI ((st (st σ 2 (184 + 26 * i_ + 13) 1) 2 (184 + 26 * i_ + 14) (σ 2 (184 + 26 * i_ + (17 + 2 * g)))) 2 (184 + 26 * i_ + 2))), .int (iI ((st (st σ 2 (184 + 26 * i_ + 13) 1) 2 (184 + 26 * i_ + 14) (σ 2 (184 + 26 * i_ + (17 + 2 * g)))) 2 (184 + 26 * i_ + 3))), .int (iI ((st (st σ 2 (184 + 26 * i_ + 13) 1) 2 (184 + 26 * i_ + 14) (σ 2 (184 + 26 * i_ + (17 + 2 * g)))) 2 (184 + 26 * i_ + 4))), .int (iI ((st (st σ 2 (184 + 26 * i_ + 13) 1) 2 (184 + 26 * i_ + 14) (σ 2 (184 + 26 * i_ + (17 + 2 * g)))) 2 (184 + 26 * i_ + 10))), .int (iI ((st (st σ 2 (184 + 26 * i_ + 13) 1) 2 (184 + 26 * i_ + 14) (σ 2 (184 + 26 * i_ + (17 + 2 * g)))) 2 (184 + 26 * i_ + 6))), .int (iI ((st (st σ 2 (184 + 26 * i_ + 13) 1) 2 (184 + 26 * i_ + 14) (σ 2 (184 + 26 * i_ + (17 + 2 * g)))) 2 (184 + 26 * i_ + 11))), .int (iI ((st (st σ 2 (184 + 26 * i_ + 13) 1) 2 (184 + 26 * i_ + 14) (σ 2 (184 + 26 * i_ + (17 + 2 * g)))) 2 (184 + 26 * i_ + 12))), .int (iI ((st (st σ 2 (184 + 26 * i_ + 13) 1) 2 (184 + 26 * i_ + 14) (σ 2 (184 + 26 * i_ + (17 + 2 * g)))) 2 (184 + 26 * i_ + 14))), .int (iI (σ 2 1750)), .int (iI ((st (st σ 2 (184 + 26 * i_ + 13) 1) 2 (184 + 26 * i_ + 14) (σ 2 (184 + 26 * i_ + (17 + 2 * g)))) 2 (184 + 26 * i_ + 16))), .int (iI ((st (st σ 2 (184 + 26 * i_ + 13) 1) 2 (184 + 26 * i_ + 14) (σ 2 (184 + 26 * i_ + (17 + 2 * g)))) 2 (184 + 26 * i_ + 7))), .int (iI ((st (st σ 2 (184 + 26 * i_ + 13) 1) 2 (184 + 26 * i_ + 14) (σ 2 (184 + 26 * i_ + (17 + 2 * g)))) 2 (184 + 26 * i_ + 13))), .ref (gf x 0 fl_ 1), .ref (gf x 0 fl_ 2)]) := by rw [e_M16]; exact hs_s
                  obtain ⟨ω17, hR17⟩ : ∃ ω17, RX G M16 a (st (st (st σ 2 (184 + 26 * i_ + 13) 1) 2 (184 + 26 * i_ + 14) (σ 2 (184 + 26 * i_ + (17 + 2 * g)))) 2 (184 + 26 * i_ + 15) (σ 2 1750)) x ω17 := ⟨_, by rw [e_M16]; exact hR15.ffI hW15 hF15 hef (by omega) (j := 15) (by decide) fF_15⟩
                  have hW17 : WK ((st (st (st σ 2 (184 + 26 * i_ + 13) 1) 2 (184 + 26 * i_ + 14) (σ 2 (184 + 26 * i_ + (17 + 2 * g)))) 2 (184 + 26 * i_ + 15) (σ 2 1750)) 2) := WK_st hW15 (by omega)
                  have hF17 : F40 (st (st (st σ 2 (184 + 26 * i_ + 13) 1) 2 (184 + 26 * i_ + 14) (σ 2 (184 + 26 * i_ + (17 + 2 * g)))) 2 (184 + 26 * i_ + 15) (σ 2 1750)) := F40_st hF15 (by omega)
                  have hC17_1750 : (st (st (st σ 2 (184 + 26 * i_ + 13) 1) 2 (184 + 26 * i_ + 14) (σ 2 (184 + 26 * i_ + (17 + 2 * g)))) 2 (184 + 26 * i_ + 15) (σ 2 1750)) 2 1750 = (st (st σ 2 (184 + 26 * i_ + 13) 1) 2 (184 + 26 * i_ + 14) (σ 2 (184 + 26 * i_ + (17 + 2 * g)))) 2 1750 := st_i (by omega)
                  have hC17_1752 : (st (st (st σ 2 (184 + 26 * i_ + 13) 1) 2 (184 + 26 * i_ + 14) (σ 2 (184 + 26 * i_ + (17 + 2 * g)))) 2 (184 + 26 * i_ + 15) (σ 2 1750)) 2 1752 = (st (st σ 2 (184 + 26 * i_ + 13) 1) 2 (184 + 26 * i_ + 14) (σ 2 (184 + 26 * i_ + (17 + 2 * g)))) 2 1752 := st_i (by omega)
                  have hC17_1753 : (st (st (st σ 2 (184 + 26 * i_ + 13) 1) 2 (184 + 26 * i_ + 14) (σ 2 (184 + 26 * i_ + (17 + 2 * g)))) 2 (184 + 26 * i_ + 15) (σ 2 1750)) 2 1753 = (st (st σ 2 (184 + 26 * i_ + 13) 1) 2 (184 + 26 * i_ + 14) (σ 2 (184 + 26 * i_ + (17 + 2 * g)))) 2 1753 := st_i (by omega)
                  refine n_iinc hx hb dX1_turn_100 hl (k := 3) rfl (Nat.le_of_ble_eq_true rfl) (lv' := [(2, .int (iI (g + 1))), (3, .ref y5), (0, .ref (gb x 0 0)), (1, .ref (gf x 0 fl_ 0))]) rfl (fun ls hl => ?_)
                  refine lv_goto (tgt := 2) hx hb dX1_turn_103 (by decide) ?_
                  refine lv_iload_n hx hb dX1_turn_2 rfl (lv_at hl 0 rfl) ?_
                  refine lv_aload_n hx hb dX1_turn_3 rfl (lv_at hl 3 rfl) ?_
                  refine x_getFl hx hb hts hown hK hH (hR17.flaskE hef (by omega)) (fci_c _) 14 (by decide) q535 rfl rfl rfl rfl dX1_turn_4 ?_
                  refine W.eq (g2 := F0 m 7 ls (.int (iI (σ 2 (184 + 26 * i_ + 16))) :: .int (iI (g + 1)) :: [])) (by rw [st_i (by omega), st_i (by omega), st_i (by omega)]) ?_
                  refine n_icmp_ge (tgt := 106) hx hb (r32 (by omega)) (r32 (by omega)) dX1_turn_7 (by decide) (fun c_7 => ?_) (fun c_7 => ?_)
                  · -- 7T
                    refine lv_aload_n hx hb dX1_turn_106 rfl (lv_at hl 3 rfl) ?_
                    refine x_getFl hx hb hts hown hK hH (hR17.flaskE hef (by omega)) (fci_c _) 16 (by decide) q541 rfl rfl rfl rfl dX1_turn_107 ?_
                    refine W.eq (g2 := F0 m 110 ls (.int (iI 1) :: [])) (by rw [st_i (by omega), st_i (by omega), st_s]) ?_
                    refine n_if_ne (tgt := 141) hx hb (r32 (by omega)) dX1_turn_110 (by decide) (fun _ => ?_) (fun h => absurd h (by decide))
                    refine x_vret hx hb hr hlk hH dX1_turn_141 ?_
                    rw [hTF]
                    exact ⟨_, hR17, hW17, hF17⟩
                  · -- 7F
                    have b4 := b1.2.2.2.2.2.2.2.2.2.2.2.2.2.2.2.2.2 g (by omega) (by omega)
                    refine lv_aload_n hx hb dX1_turn_10 rfl (lv_at hl 3 rfl) ?_
                    refine x_getFl hx hb hts hown hK hH (hR17.flaskE hef (by omega)) (fci_c _) 16 (by decide) q541 rfl rfl rfl rfl dX1_turn_11 ?_
                    refine W.eq (g2 := F0 m 14 ls (.int (iI 1) :: [])) (by rw [st_i (by omega), st_i (by omega), st_s]) ?_
                    refine n_if_ne (tgt := 106) hx hb (r32 (by omega)) dX1_turn_14 (by decide) (fun _ => ?_) (fun h => absurd h (by decide))
                    refine lv_aload_n hx hb dX1_turn_106 rfl (lv_at hl 3 rfl) ?_
                    refine x_getFl hx hb hts hown hK hH (hR17.flaskE hef (by omega)) (fci_c _) 16 (by decide) q541 rfl rfl rfl rfl dX1_turn_107 ?_
                    refine W.eq (g2 := F0 m 110 ls (.int (iI 1) :: [])) (by rw [st_i (by omega), st_i (by omega), st_s]) ?_
                    refine n_if_ne (tgt := 141) hx hb (r32 (by omega)) dX1_turn_110 (by decide) (fun _ => ?_) (fun h => absurd h (by decide))
                    refine x_vret hx hb hr hlk hH dX1_turn_141 ?_
                    rw [hTF]
                    exact ⟨_, hR17, hW17, hF17⟩
                · -- 71F
                  refine lv_goto (tgt := 100) hx hb dX1_turn_74 (by decide) ?_
                  refine n_iinc hx hb dX1_turn_100 hl (k := 3) rfl (Nat.le_of_ble_eq_true rfl) (lv' := [(2, .int (iI (g + 1))), (3, .ref y5), (0, .ref (gb x 0 0)), (1, .ref (gf x 0 fl_ 0))]) rfl (fun ls hl => ?_)
                  refine lv_goto (tgt := 2) hx hb dX1_turn_103 (by decide) ?_
                  have hl : lv_has ls 4 [(0, .ref (gb x 0 0)), (1, .ref (gf x 0 fl_ 0)), (2, .int (iI (g + 1)))] := lv_sub hl [2, 3, 0] rfl
                  refine ih_2 (g + 1) ?_ ?_ ?_ ?_ _ _ _ hH hl
                  · omega
                  · omega
                  · omega
                  · rw [byF_d h0 hby (by unfold canP airP; (try unfold airP at *); omega)]; exact hby
  refine n_iconst hx hb dX1_turn_0 ?_
  refine lv_istore_n hx hb dX1_turn_1 rfl hl (Nat.le_of_ble_eq_true rfl) (lv' := [(2, .int (iI 0)), (0, .ref (gb x 0 0)), (1, .ref (gf x 0 fl_ 0))]) rfl (fun ls hl => ?_)
  have hl : lv_has ls 4 [(0, .ref (gb x 0 0)), (1, .ref (gf x 0 fl_ 0)), (2, .int (iI 0))] := lv_sub hl [1, 2, 0] rfl
  refine L2 6 0 ?_ ?_ ?_ ?_ _ _ _ hH hl
  · omega
  · omega
  · omega
  · rfl
