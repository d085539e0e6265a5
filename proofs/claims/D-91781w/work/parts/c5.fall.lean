def fallC (σ : St) (f : Int) : St := if σ 2 (184 + 26 * f + 16) = 4 ∨ wSum σ (σ 2 (184 + 26 * f + 5)) (σ 2 1752).toNat = 0 then σ else fallG (drawS σ) f (wPick σ (σ 2 (184 + 26 * f + 5)) 8 (drawF (σ 2) % wSum σ (σ 2 (184 + 26 * f + 5)) (σ 2 1752).toNat) 0) (σ 2 1750) (σ 2 (184 + 26 * f + 16))
theorem kd_X1_fall : yX1_fall.cls = RX1 ∧ yX1_fall.cls ≠ "java/lang/invoke/MethodHandle" ∧ yX1_fall.cls ≠ "java/lang/invoke/VarHandle" ∧ (parseMethodDescriptor yX1_fall.desc).map (fun d => d.parameters.length) = some 1 := by decide +kernel
theorem xm_X1_fall (l : Launch) (G : MG) (M : Hp) (a : Nat) (σ : St) (x : XGh) (ω : XCt) (i_ : Int) (fl_ : Nat) (β : Int → Int) (sz : Nat) (hR : RX G M a σ x ω) (hef : (fl_ : Int) = i_) (hf53 : i_ < σ 2 1753) (hI : KG (σ 2) β) (hW : WK (σ 2)) (h40 : F40 σ) : Met l yX1_fall (ws_ yX1_fall cX1_fall 5 none) (rmD 2) (xP G XN [.ref (gb x 0 0), .ref (gf x 0 fl_ 0)] M sz) (xQv G (DA M sz) (fun M' => ∃ ω', RX G M' a (fallC σ i_) x ω' ∧ WK (fallC σ i_ 2) ∧ F40 (fallC σ i_))) 0 0 (DA M sz) := by
  refine x_start (by decide) (Nat.le_of_ble_eq_true rfl) ?_
  intro p e s m below meth c ⟨S, hr, hlk, hH, hK, hXN, hsz, hnm⟩ ls hl
  subst hsz
  obtain ⟨hx, hb, hml, hown, hts⟩ := S
  have S : CallFix p m c _ _ s _ lw_all RX1 := ⟨hx, hb, hml, hown, hts⟩
  have hA : ∀ q, s.heap.size ≤ q → DA M s.heap.size q := fun q hq => Or.inr hq
  have hl : lv_has ls 5 [(0, .ref (gb x 0 0)), (1, .ref (gf x 0 fl_ 0))] := hl
  have b0 := KG.c hI
  unfold kCnt at b0
  have b1 := KG.f hI i_ (by omega) hf53
  unfold kFlask fl at b1
  have b2 := KG.l hI
  have b3 := KG.b hI (σ 2 (184 + 26 * i_ + 0)) (by omega) (by omega)
  have hww := fun k a b => (KG.w hI (σ 2 (184 + 26 * i_ + 5)) k (by omega) (by omega) a b).1
  have hsum := wSum_r (σ := σ) (q := (σ 2 (184 + 26 * i_ + 5))) hww (σ 2 1752).toNat (by omega)
  have hdr := drawF_r (σ 2)
  have L57 : ∀ (q : Nat) (N1 : Hp) (ω1 : XCt) (lf : Int) (k : Int), (hR1 : RX G N1 a (drawS σ) x ω1) → (hW1 : WK (drawS σ 2)) → (hF1 : F40 (drawS σ)) → (hk0 : 0 ≤ k) → (hx0 : 0 ≤ lf) → (hx1 : lf < 1000000000) → (hxt : lf < wTail σ (σ 2 (184 + 26 * i_ + 5)) (σ 2 1752 - k).toNat k) → (hq : 8 < (q : Int) + k) → (hp : wPick σ (σ 2 (184 + 26 * i_ + 5)) (8 - k).toNat lf k = wPick σ (σ 2 (184 + 26 * i_ + 5)) 8 (drawF (σ 2) % wSum σ (σ 2 (184 + 26 * i_ + 5)) (σ 2 1752).toNat) 0) → (hs0 : ¬ wSum σ (σ 2 (184 + 26 * i_ + 5)) (σ 2 1752).toNat = 0) → (h16 : ¬ (σ 2 (184 + 26 * i_ + 16)) = 4) → ∀ (H : Heap) (locs : List Loc) (ls : Array Slot), XV G (DA M s.heap.size) N1 s.heap H locs → lv_has ls 5 [(0, .ref (gb x 0 0)), (1, .ref (gf x 0 fl_ 0)), (3, .int (iI lf)), (4, .int (iI k))] → W p l e (rmD 2) s m ([.ref (gb x 0 0), .ref (gf x 0 fl_ 0)] : List Value).toArray below meth c H locs 0 0 (MQ below (xQv G (DA M s.heap.size) (fun M' => ∃ ω', RX G M' a (fallC σ i_) x ω' ∧ WK (fallC σ i_ 2) ∧ F40 (fallC σ i_))) ([.ref (gb x 0 0), .ref (gf x 0 fl_ 0)] : List Value).toArray s 0 0 (DA M s.heap.size)) (F0 m 57 ls []) := by
    intro q
    induction q with
    | zero => intro N1 ω1 lf k hR1 hW1 hF1 hk0 hx0 hx1 hxt hq hp hs0 h16; exfalso; have := wTail_p hx0 hxt; omega
    | succ q ih_57 =>
      intro N1 ω1 lf k hR1 hW1 hF1 hk0 hx0 hx1 hxt hq hp hs0 h16 H locs ls hH hl
      have hkm := wTail_p hx0 hxt
      have hwk := hww k (by omega) (by omega)
      have e53 : drawS σ 2 1753 = σ 2 1753 := drawS_o (by omega)
      have e5 : drawS σ 2 (184 + 26 * i_ + 5) = σ 2 (184 + 26 * i_ + 5) := drawS_o (by omega)
      have e16 : drawS σ 2 (184 + 26 * i_ + 16) = σ 2 (184 + 26 * i_ + 16) := drawS_o (by omega)
      refine lv_iload_n hx hb dX1_fall_57 rfl (lv_at hl 2 rfl) ?_
      refine lv_aload_n hx hb dX1_fall_58 rfl (lv_at hl 0 rfl) ?_
      refine x_get hx hb hts in_X1 hown hK hH hR1.b0 rfl 21 (by decide) q203 (fun _ h9 => h9) rfl (by decide) dX1_fall_59 ?_
      refine n_bipush (z := 8) hx hb dX1_fall_62 (by decide) ?_
      refine lv_aload_n hx hb dX1_fall_64 rfl (lv_at hl 1 rfl) ?_
      refine x_getFl hx hb hts hown hK hH (hR1.flaskE hef (by omega)) (fci_c _) 4 (by decide) q514 rfl rfl rfl rfl dX1_fall_65 ?_
      refine W.eq (g2 := F0 m 68 ls (.int (iI (σ 2 (184 + 26 * i_ + 5))) :: .int (iI 8) :: .ref (gb x 0 21) :: .int (iI lf) :: [])) (by rw [e5]) ?_
      refine n_imul hx hb dX1_fall_68 ?_
      refine lv_iload hx hb dX1_fall_69 (lv_at hl 3 rfl) ?_
      refine n_iadd hx hb dX1_fall_71 ?_
      refine x_iald hx hb hK hH hR1.b21 (by omega) (by omega) (Nat.le_of_ble_eq_true rfl) dX1_fall_72 ?_
      refine W.eq (g2 := F0 m 73 ls (.int (iI ((drawS σ) 2 (40 + ((8 * (σ 2 (184 + 26 * i_ + 5))) + k)))) :: .int (iI lf) :: [])) (by first | (rw [hR1.z.2.2.2.2 _ (by omega) (by omega)]; done) | (rw [hR1.z.2.2.2.2 _ (by omega) (by omega)]; rfl)) ?_
      refine W.eq (g2 := F0 m 73 ls (.int (iI (σ 2 (40 + 8 * (σ 2 (184 + 26 * i_ + 5)) + k))) :: .int (iI lf) :: [])) (by rw [drawS_o (by omega), show (40 : Int) + (8 * (σ 2 (184 + 26 * i_ + 5)) + k) = 40 + 8 * (σ 2 (184 + 26 * i_ + 5)) + k by omega]) ?_
      refine n_icmp_lt (tgt := 100) hx hb (r32 (by omega)) (r32 (by omega)) dX1_fall_73 (by decide) (fun c_73 => ?_) (fun c_73 => ?_)
      · -- 73T
        refine lv_aload_n hx hb dX1_fall_100 rfl (lv_at hl 1 rfl) ?_
        refine x_getFl hx hb hts hown hK hH (hR1.flaskE hef (by omega)) (fci_c _) 17 (by decide) q544 rfl rfl rfl rfl dX1_fall_101 ?_
        refine lv_aload_n hx hb dX1_fall_104 rfl (lv_at hl 1 rfl) ?_
        refine x_getFl hx hb hts hown hK hH (hR1.flaskE hef (by omega)) (fci_c _) 14 (by decide) q535 rfl rfl rfl rfl dX1_fall_105 ?_
        refine W.eq (g2 := F0 m 108 ls (.int (iI (σ 2 (184 + 26 * i_ + 16))) :: .ref (gf x 0 fl_ 1) :: [])) (by rw [e16]) ?_
        refine lv_iload hx hb dX1_fall_108 (lv_at hl 3 rfl) ?_
        refine x_iast hx hb hK hH (hR1.grain hef (by omega)) (by omega) (by omega) (Nat.le_of_ble_eq_true rfl) dX1_fall_110 (fun H locs hH => ?_)
        obtain ⟨M1, e_M1⟩ : ∃ M1, M1 = hs N1 (gf x 0 fl_ 1) (aI (G.2.1 0) 4 (up (gg ω1 0 fl_ 1) (σ 2 (184 + 26 * i_ + 16)) k)) := ⟨_, rfl⟩
        have hH := XV_to hH e_M1.symm
        have f1 : M1 (gf x 0 fl_ 1) = some (aI (G.2.1 0) 4 (up (gg ω1 0 fl_ 1) (σ 2 (184 + 26 * i_ + 16)) k)) := by rw [e_M1]; exact hs_s
        obtain ⟨ω2, hR2⟩ : ∃ ω2, RX G M1 a (st (drawS σ) 2 (184 + 26 * i_ + (17 + 2 * (σ 2 (184 + 26 * i_ + 16)))) k) x ω2 := ⟨_, by rw [e_M1]; exact hR1.fgI hW1 hF1 hef (by omega) (k := 1) (by decide) (by omega) (by omega) (by omega)⟩
        have hW2 : WK ((st (drawS σ) 2 (184 + 26 * i_ + (17 + 2 * (σ 2 (184 + 26 * i_ + 16)))) k) 2) := WK_st hW1 (by omega)
        have hF2 : F40 (st (drawS σ) 2 (184 + 26 * i_ + (17 + 2 * (σ 2 (184 + 26 * i_ + 16)))) k) := F40_st hF1 (by omega)
        have hC2_1750 : (st (drawS σ) 2 (184 + 26 * i_ + (17 + 2 * (σ 2 (184 + 26 * i_ + 16)))) k) 2 1750 = (drawS σ) 2 1750 := st_i (by omega)
        have hC2_1752 : (st (drawS σ) 2 (184 + 26 * i_ + (17 + 2 * (σ 2 (184 + 26 * i_ + 16)))) k) 2 1752 = (drawS σ) 2 1752 := st_i (by omega)
        have hC2_1753 : (st (drawS σ) 2 (184 + 26 * i_ + (17 + 2 * (σ 2 (184 + 26 * i_ + 16)))) k) 2 1753 = (drawS σ) 2 1753 := st_i (by omega)
        refine lv_aload_n hx hb dX1_fall_111 rfl (lv_at hl 1 rfl) ?_
        refine x_getFl hx hb hts hown hK hH (hR2.flaskE hef (by omega)) (fci_c _) 18 (by decide) q546 rfl rfl rfl rfl dX1_fall_112 ?_
        refine lv_aload_n hx hb dX1_fall_115 rfl (lv_at hl 1 rfl) ?_
        refine x_getFl hx hb hts hown hK hH (hR2.flaskE hef (by omega)) (fci_c _) 14 (by decide) q535 rfl rfl rfl rfl dX1_fall_116 ?_
        refine W.eq (g2 := F0 m 119 ls (.int (iI (σ 2 (184 + 26 * i_ + 16))) :: .ref (gf x 0 fl_ 2) :: [])) (by rw [st_i (by omega), e16]) ?_
        refine lv_aload_n hx hb dX1_fall_119 rfl (lv_at hl 0 rfl) ?_
        refine x_get hx hb hts in_X1 hown hK hH hR2.b0 rfl 0 (by decide) q161 (fun _ h9 => h9) rfl (by decide) dX1_fall_120 ?_
        refine W.eq (g2 := F0 m 123 ls (.int (iI (σ 2 1750)) :: .int (iI (σ 2 (184 + 26 * i_ + 16))) :: .ref (gf x 0 fl_ 2) :: [])) (by rw [st_i (by omega), drawS_o (by omega)]) ?_
        refine x_iast hx hb hK hH (hR2.fell hef (by omega)) (by omega) (by omega) (Nat.le_of_ble_eq_true rfl) dX1_fall_123 (fun H locs hH => ?_)
        obtain ⟨M3, e_M3⟩ : ∃ M3, M3 = hs M1 (gf x 0 fl_ 2) (aI (G.2.1 0) 4 (up (gg ω2 0 fl_ 2) (σ 2 (184 + 26 * i_ + 16)) (σ 2 1750))) := ⟨_, rfl⟩
        have hH := XV_to hH e_M3.symm
        have f3 : M3 (gf x 0 fl_ 2) = some (aI (G.2.1 0) 4 (up (gg ω2 0 fl_ 2) (σ 2 (184 + 26 * i_ + 16)) (σ 2 1750))) := by rw [e_M3]; exact hs_s
        obtain ⟨ω4, hR4⟩ : ∃ ω4, RX G M3 a (st (st (drawS σ) 2 (184 + 26 * i_ + (17 + 2 * (σ 2 (184 + 26 * i_ + 16)))) k) 2 (184 + 26 * i_ + (17 + 2 * (σ 2 (184 + 26 * i_ + 16)) + 1)) (σ 2 1750)) x ω4 := ⟨_, by rw [e_M3]; exact hR2.fgI hW2 hF2 hef (by omega) (k := 2) (by decide) (by omega) (by omega) (by omega)⟩
        have hW4 : WK ((st (st (drawS σ) 2 (184 + 26 * i_ + (17 + 2 * (σ 2 (184 + 26 * i_ + 16)))) k) 2 (184 + 26 * i_ + (17 + 2 * (σ 2 (184 + 26 * i_ + 16)) + 1)) (σ 2 1750)) 2) := WK_st hW2 (by omega)
        have hF4 : F40 (st (st (drawS σ) 2 (184 + 26 * i_ + (17 + 2 * (σ 2 (184 + 26 * i_ + 16)))) k) 2 (184 + 26 * i_ + (17 + 2 * (σ 2 (184 + 26 * i_ + 16)) + 1)) (σ 2 1750)) := F40_st hF2 (by omega)
        have hC4_1750 : (st (st (drawS σ) 2 (184 + 26 * i_ + (17 + 2 * (σ 2 (184 + 26 * i_ + 16)))) k) 2 (184 + 26 * i_ + (17 + 2 * (σ 2 (184 + 26 * i_ + 16)) + 1)) (σ 2 1750)) 2 1750 = (st (drawS σ) 2 (184 + 26 * i_ + (17 + 2 * (σ 2 (184 + 26 * i_ + 16)))) k) 2 1750 := st_i (by omega)
        have hC4_1752 : (st (st (drawS σ) 2 (184 + 26 * i_ + (17 + 2 * (σ 2 (184 + 26 * i_ + 16)))) k) 2 (184 + 26 * i_ + (17 + 2 * (σ 2 (184 + 26 * i_ + 16)) + 1)) (σ 2 1750)) 2 1752 = (st (drawS σ) 2 (184 + 26 * i_ + (17 + 2 * (σ 2 (184 + 26 * i_ + 16)))) k) 2 1752 := st_i (by omega)
        have hC4_1753 : (st (st (drawS σ) 2 (184 + 26 * i_ + (17 + 2 * (σ 2 (184 + 26 * i_ + 16)))) k) 2 (184 + 26 * i_ + (17 + 2 * (σ 2 (184 + 26 * i_ + 16)) + 1)) (σ 2 1750)) 2 1753 = (st (drawS σ) 2 (184 + 26 * i_ + (17 + 2 * (σ 2 (184 + 26 * i_ + 16)))) k) 2 1753 := st_i (by omega)
        refine lv_aload_n hx hb dX1_fall_124 rfl (lv_at hl 1 rfl) ?_
        refine lv_dup hx hb dX1_fall_125 rfl ?_
        refine x_getFl hx hb hts hown hK hH (hR4.flaskE hef (by omega)) (fci_c _) 14 (by decide) q535 rfl rfl rfl rfl dX1_fall_126 ?_
        refine W.eq (g2 := F0 m 129 ls (.int (iI (σ 2 (184 + 26 * i_ + 16))) :: .ref (gf x 0 fl_ 0) :: [])) (by rw [st_i (by omega), st_i (by omega), e16]) ?_
        refine n_iconst hx hb dX1_fall_129 ?_
        refine n_iadd hx hb dX1_fall_130 ?_
        refine x_putFl (ty := .int) hx hb hts hown hK hH (hR4.flaskE hef (by omega)) (fci_c _) 14 (by decide) q535 rfl rfl rfl rfl (by decide +kernel) rfl rfl (Nat.le_of_ble_eq_true rfl) dX1_fall_131 (fun H locs hH => ?_)
        obtain ⟨M5, e_M5⟩ : ∃ M5, M5 = hs M3 (gf x 0 fl_ 0) (oB (fci ((st (st (drawS σ) 2 (184 + 26 * i_ + (17 + 2 * (σ 2 (184 + 26 * i_ + 16)))) k) 2 (184 + 26 * i_ + (17 + 2 * (σ 2 (184 + 26 * i_ + 16)) + 1)) (σ 2 1750)) 2 (184 + 26 * i_ + 1))) [.int (iI ((st (st (drawS σ) 2 (184 + 26 * i_ + (17 + 2 * (σ 2 (184 + 26 * i_ + 16)))) k) 2 (184 + 26 * i_ + (17 + 2 * (σ 2 (184 + 26 * i_ + 16)) + 1)) (σ 2 1750)) 2 (184 + 26 * i_ + 0))), .int (iI ((st (st (drawS σ) 2 (184 + 26 * i_ + (17 + 2 * (σ 2 (184 + 26 * i_ + 16)))) k) 2 (184 + 26 * i_ + (17 + 2 * (σ 2 (184 + 26 * i_ + 16)) + 1)) (σ 2 1750)) 2 (184 + 26 * i_ + 1))), .int (iI ((st (st (drawS σ) 2 (184 + 26 * i_ + (17 + 2 * (σ 2 (184 + 26 * i_ + 16)))) k) 2 (184 + 26 * i_ + (17 + 2 * (σ 2 (184 + 26 * i_ + 16)) + 1)) (σ 2 1750)) 2 (184 + 26 * i_ + 8))), .int (iI ((st (st (drawS σ) 2 (184 + 26 * i_ + (17 + 2 * (σ 2 (184 + 26 * i_ + 16)))) k) 2 (184 + 26 * i_ + (17 + 2 * (σ 2 (184 + 26 * i_ + 16)) + 1)) (σ 2 1750)) 2 (184 + 26 * i_ + 9))), .int (iI ((st (st (drawS σ) 2 (184 + 26 * i_ + (17 + 2 * (σ 2 (184 + 26 * i_ + 16)))) k) 2 (184 + 26 * i_ + (17 + 2 * (σ 2 (184 + 26 * i_ + 16)) + 1)) (σ 2 1750)) 2 (184 + 26 * i_ + 5))), .int (iI ((st (st (drawS σ) 2 (184 + 26 * i_ + (17 + 2 * (σ 2 (184 + 26 * i_ + 16)))) k) 2 (184 + 26 * i_ + (17 + 2 * (σ 2 (184 + 26 * i_ + 16)) + 1)) (σ 2 1750)) 2 (184 + 26 * i_ + 2))), .int (iI ((st (st (drawS σ) 2 (184 + 26 * i_ + (17 + 2 * (σ 2 (184 + 26 * i_ + 16)))) k) 2 (184 + 26 * i_ + (17 + 2 * (σ 2 (184 + 26 * i_ + 16)) + 1)) (σ 2 1750)) 2 (184 + 26 * i_ + 3))), .int (iI ((st (st (drawS σ) 2 (184 + 26 * i_ + (17 + 2 * (σ 2 (184 + 26 * i_ + 16)))) k) 2 (184 + 26 * i_ + (17 + 2 * (σ 2 (184 + 26 * i_ + 16)) + 1)) (σ 2 1750)) 2 (184 + 26 * i_ + 4))), .int (iI ((st (st (drawS σ) 2 (184 + 26 * i_ + (17 + 2 * (σ 2 (184 + 26 * i_ + 16)))) k) 2 (184 + 26 * i_ + (17 + 2 * (σ 2 (184 + 26 * i_ + 16)) + 1)) (σ 2 1750)) 2 (184 + 26 * i_ + 10))), .int (iI ((st (st (drawS σ) 2 (184 + 26 * i_ + (17 + 2 * (σ 2 (184 + 26 * i_ + 16)))) k) 2 (184 + 26 * i_ + (17 + 2 * (σ 2 (184 + 26 * i_ + 16)) + 1)) (σ 2 1750)) 2 (184 + 26 * i_ + 6))), .int (iI ((st (st (drawS σ) 2 (184 + 26 * i_ + (17 + 2 * (σ 2 (184 + 26 * i_ + 16)))) k) 2 (184 + 26 * i_ + (17 + 2 * (σ 2 (184 + 26 * i_ + 16)) + 1)) (σ 2 1750)) 2 (184 + 26 * i_ + 11))), .int (iI ((st (st (drawS σ) 2 (184 + 26 * i_ + (17 + 2 * (σ 2 (184 + 26 * i_ + 16)))) k) 2 (184 + 26 * i_ + (17 + 2 * (σ 2 (184 + 26 * i_ + 16)) + 1)) (σ 2 1750)) 2 (184 + 26 * i_ + 12))), .int (iI ((st (st (drawS σ) 2 (184 + 26 * i_ + (17 + 2 * (σ 2 (184 + 26 * i_ + 16)))) k) 2 (184 + 26 * i_ + (17 + 2 * (σ 2 (184 + 26 * i_ + 16)) + 1)) (σ 2 1750)) 2 (184 + 26 * i_ + 14))), .int (iI ((st (st (drawS σ) 2 (184 + 26 * i_ + (17 + 2 * (σ 2 (184 + 26 * i_ + 16)))) k) 2 (184 + 26 * i_ + (17 + 2 * (σ 2 (184 + 26 * i_ + 16)) + 1)) (σ 2 1750)) 2 (184 + 26 * i_ + 15))), .int (iI ((σ 2 (184 + 26 * i_ + 16)) + 1)), .int (iI ((st (st (drawS σ) 2 (184 + 26 * i_ + (17 + 2 * (σ 2 (184 + 26 * i_ + 16)))) k) 2 (184 + 26 * i_ + (17 + 2 * (σ 2 (184 + 26 * i_ + 16)) + 1)) (σ 2 1750)) 2 (184 + 26 * i_ + 7))), .int (iI ((st (st (drawS σ) 2 (184 + 26 * i_ + (17 + 2 * (σ 2 (184 + 26 * i_ + 16)))) k) 2 (184 + 26 * i_ + (17 + 2 * (σ 2 (184 + 26 * i_ + 16)) + 1)) (σ 2 1750)) 2 (184 + 26 * i_ + 13))), .ref (gf x 0 fl_ 1), .ref (gf x 0 fl_ 2)]) := ⟨_, rfl⟩
        have hH := XV_to hH e_M5.symm
        have f5 : M5 (gf x 0 fl_ 0) = some (oB (fci ((st (st (drawS σ) 2 (184 + 26 * i_ + (17 + 2 * (σ 2 (184 + 26 * i_ + 16)))) k) 2 (184 + 26 * i_ + (17 + 2 * (σ 2 (184 + 26 * i_ + 16)) + 1)) (σ 2 1750)) 2 (184 + 26 * i_ + 1))) [.int (iI ((st (st (drawS σ) 2 (184 + 26 * i_ + (17 + 2 * (σ 2 (184 + 26 * i_ + 16)))) k) 2 (184 + 26 * i_ + (17 + 2 * (σ 2 (184 + 26 * i_ + 16)) + 1)) (σ 2 1750)) 2 (184 + 26 * i_ + 0))), .int (iI ((st (st (drawS σ) 2 (184 + 26 * i_ + (17 + 2 * (σ 2 (184 + 26 * i_ + 16)))) k) 2 (184 + 26 * i_ + (17 + 2 * (σ 2 (184 + 26 * i_ + 16)) + 1)) (σ 2 1750)) 2 (184 + 26 * i_ + 1))), .int (iI ((st (st (drawS σ) 2 (184 + 26 * i_ + (17 + 2 * (σ 2 (184 + 26 * i_ + 16)))) k) 2 (184 + 26 * i_ + (17 + 2 * (σ 2 (184 + 26 * i_ + 16)) + 1)) (σ 2 1750)) 2 (184 + 26 * i_ + 8))), .int (iI ((st (st (drawS σ) 2 (184 + 26 * i_ + (17 + 2 * (σ 2 (184 + 26 * i_ + 16)))) k) 2 (184 + 26 * i_ + (17 + 2 * (σ 2 (184 + 26 * i_ + 16)) + 1)) (σ 2 1750)) 2 (184 + 26 * i_ + 9))), .int (iI ((st (st (drawS σ) 2 (184 + 26 * i_ + (17 + 2 * (σ 2 (184 + 26 * i_ + 16)))) k) 2 (184 + 26 * i_ + (17 + 2 * (σ 2 (184 + 26 * i_ + 16)) + 1)) (σ 2 1750)) 2 (184 + 26 * i_ + 5))), .int (iI ((st (st (drawS σ) 2 (184 + 26 * i_ + (17 + 2 * (σ 2 (184 + 26 * i_ + 16)))) k) 2 (184 + 26 * i_ + (17 + 2 * (σ 2 (184 + 26 * i_ + 16)) + 1)) (σ 2 1750)) 2 (184 + 26 * i_ + 2))), .int (iI ((st (st (drawS σ) 2 (184 + 26 * i_ + (17 + 2 * (σ 2 (184 + 26 * i_ + 16)))) k) 2 (184 + 26 * i_ + (17 + 2 * (σ 2 (184 + 26 * i_ + 16)) + 1)) (σ 2 1750)) 2 (184 + 26 * i_ + 3))), .int (iI ((st (st (drawS σ) 2 (184 + 26 * i_ + (17 + 2 * (σ 2 (184 + 26 * i_ + 16)))) k) 2 (184 + 26 * i_ + (17 + 2 * (σ 2 (184 + 26 * i_ + 16)) + 1)) (σ 2 1750)) 2 (184 + 26 * i_ + 4))), .int (iI ((st (st (drawS σ) 2 (184 + 26 * i_ + (17 + 2 * (σ 2 (184 + 26 * i_ + 16)))) k) 2 (184 + 26 * i_ + (17 + 2 * (σ 2 (184 + 26 * i_ + 16)) + 1)) (σ 2 1750)) 2 (184 + 26 * i_ + 10))), .int (iI ((st (st (drawS σ) 2 (184 + 26 * i_ + (17 + 2 * (σ 2 (184 + 26 * i_ + 16)))) k) 2 (184 + 26 * i_ + (17 + 2 * (σ 2 (184 + 26 * i_ + 16)) + 1)) (σ 2 1750)) 2 (184 + 26 * i_ + 6))), .int (iI ((st (st (drawS σ) 2 (184 + 26 * i_ + (17 + 2 * (σ 2 (184 + 26 * i_ + 16)))) k) 2 (184 + 26 * i_ + (17 + 2 * (σ 2 (184 + 26 * i_ + 16)) + 1)) (σ 2 1750)) 2 (184 + 26 * i_ + 11))), .int (iI ((st (st (drawS σ) 2 (184 + 26 * i_ + (17 + 2 * (σ 2 (184 + 26 * i_ + 16)))) k) 2 (184 + 26 * i_ + (17 + 2 * (σ 2 (184 + 26 * i_ + 16)) + 1)) (σ 2 1750)) 2 (184 + 26 * i_ + 12))), .int (iI ((st (st (drawS σ) 2 (184 + 26 * i_ + (17 + 2 * (σ 2 (184 + 26 * i_ + 16)))) k) 2 (184 + 26 * i_ + (17 + 2 * (σ 2 (184 + 26 * i_ + 16)) + 1)) (σ 2 1750)) 2 (184 + 26 * i_ + 14))), .int (iI ((st (st (drawS σ) 2 (184 + 26 * i_ + (17 + 2 * (σ 2 (184 + 26 * i_ + 16)))) k) 2 (184 + 26 * i_ + (17 + 2 * (σ 2 (184 + 26 * i_ + 16)) + 1)) (σ 2 1750)) 2 (184 + 26 * i_ + 15))), .int (iI ((σ 2 (184 + 26 * i_ + 16)) + 1)), .int (iI ((st (st (drawS σ) 2 (184 + 26 * i_ + (17 + 2 * (σ 2 (184 + 26 * i_ + 16)))) k) 2 (184 + 26 * i_ + (17 + 2 * (σ 2 (184 + 26 * i_ + 16)) + 1)) (σ 2 1750)) 2 (184 + 26 * i_ + 7))), .int (iI ((st (st (drawS σ) 2 (184 + 26 * i_ + (17 + 2 * (σ 2 (184 + 26 * i_ + 16)))) k) 2 (184 + 26 * i_ + (17 + 2 * (σ 2 (184 + 26 * i_ + 16)) + 1)) (σ 2 1750)) 2 (184 + 26 * i_ + 13))), .ref (gf x 0 fl_ 1), .ref (gf x 0 fl_ 2)]) := by rw [e_M5]; exact hs_s
        obtain ⟨ω6, hR6⟩ : ∃ ω6, RX G M5 a (st (st (st (drawS σ) 2 (184 + 26 * i_ + (17 + 2 * (σ 2 (184 + 26 * i_ + 16)))) k) 2 (184 + 26 * i_ + (17 + 2 * (σ 2 (184 + 26 * i_ + 16)) + 1)) (σ 2 1750)) 2 (184 + 26 * i_ + 16) ((σ 2 (184 + 26 * i_ + 16)) + 1)) x ω6 := ⟨_, by rw [e_M5]; exact hR4.ffI hW4 hF4 hef (by omega) (j := 16) (by decide) fF_16⟩
        have hW6 : WK ((st (st (st (drawS σ) 2 (184 + 26 * i_ + (17 + 2 * (σ 2 (184 + 26 * i_ + 16)))) k) 2 (184 + 26 * i_ + (17 + 2 * (σ 2 (184 + 26 * i_ + 16)) + 1)) (σ 2 1750)) 2 (184 + 26 * i_ + 16) ((σ 2 (184 + 26 * i_ + 16)) + 1)) 2) := WK_16 hW4 (by omega) (by omega) (by omega)
        have hF6 : F40 (st (st (st (drawS σ) 2 (184 + 26 * i_ + (17 + 2 * (σ 2 (184 + 26 * i_ + 16)))) k) 2 (184 + 26 * i_ + (17 + 2 * (σ 2 (184 + 26 * i_ + 16)) + 1)) (σ 2 1750)) 2 (184 + 26 * i_ + 16) ((σ 2 (184 + 26 * i_ + 16)) + 1)) := F40_st hF4 (by omega)
        have hC6_1750 : (st (st (st (drawS σ) 2 (184 + 26 * i_ + (17 + 2 * (σ 2 (184 + 26 * i_ + 16)))) k) 2 (184 + 26 * i_ + (17 + 2 * (σ 2 (184 + 26 * i_ + 16)) + 1)) (σ 2 1750)) 2 (184 + 26 * i_ + 16) ((σ 2 (184 + 26 * i_ + 16)) + 1)) 2 1750 = (st (st (drawS σ) 2 (184 + 26 * i_ + (17 + 2 * (σ 2 (184 + 26 * i_ + 16)))) k) 2 (184 + 26 * i_ + (17 + 2 * (σ 2 (184 + 26 * i_ + 16)) + 1)) (σ 2 1750)) 2 1750 := st_i (by omega)
        have hC6_1752 : (st (st (st (drawS σ) 2 (184 + 26 * i_ + (17 + 2 * (σ 2 (184 + 26 * i_ + 16)))) k) 2 (184 + 26 * i_ + (17 + 2 * (σ 2 (184 + 26 * i_ + 16)) + 1)) (σ 2 1750)) 2 (184 + 26 * i_ + 16) ((σ 2 (184 + 26 * i_ + 16)) + 1)) 2 1752 = (st (st (drawS σ) 2 (184 + 26 * i_ + (17 + 2 * (σ 2 (184 + 26 * i_ + 16)))) k) 2 (184 + 26 * i_ + (17 + 2 * (σ 2 (184 + 26 * i_ + 16)) + 1)) (σ 2 1750)) 2 1752 := st_i (by omega)
        have hC6_1753 : (st (st (st (drawS σ) 2 (184 + 26 * i_ + (17 + 2 * (σ 2 (184 + 26 * i_ + 16)))) k) 2 (184 + 26 * i_ + (17 + 2 * (σ 2 (184 + 26 * i_ + 16)) + 1)) (σ 2 1750)) 2 (184 + 26 * i_ + 16) ((σ 2 (184 + 26 * i_ + 16)) + 1)) 2 1753 = (st (st (drawS σ) 2 (184 + 26 * i_ + (17 + 2 * (σ 2 (184 + 26 * i_ + 16)))) k) 2 (184 + 26 * i_ + (17 + 2 * (σ 2 (184 + 26 * i_ + 16)) + 1)) (σ 2 1750)) 2 1753 := st_i (by omega)
        refine x_vret hx hb hr hlk hH dX1_fall_134 ?_
        have hpk : wPick σ (σ 2 (184 + 26 * i_ + 5)) 8 (drawF (σ 2) % wSum σ (σ 2 (184 + 26 * i_ + 5)) (σ 2 1752).toNat) 0 = k := by rw [← hp]; exact wPick_n (by omega) (by omega)
        rw [show fallC σ i_ = fallG (drawS σ) i_ k (σ 2 1750) (σ 2 (184 + 26 * i_ + 16)) from by rw [fallC, if_neg (by omega), hpk]]
        exact ⟨_, hR6, hW6, hF6⟩
      · -- 73F
        refine lv_iload_n hx hb dX1_fall_76 rfl (lv_at hl 2 rfl) ?_
        refine lv_aload_n hx hb dX1_fall_77 rfl (lv_at hl 0 rfl) ?_
        refine x_get hx hb hts in_X1 hown hK hH hR1.b0 rfl 21 (by decide) q203 (fun _ h9 => h9) rfl (by decide) dX1_fall_78 ?_
        refine n_bipush (z := 8) hx hb dX1_fall_81 (by decide) ?_
        refine lv_aload_n hx hb dX1_fall_83 rfl (lv_at hl 1 rfl) ?_
        refine x_getFl hx hb hts hown hK hH (hR1.flaskE hef (by omega)) (fci_c _) 4 (by decide) q514 rfl rfl rfl rfl dX1_fall_84 ?_
        refine W.eq (g2 := F0 m 87 ls (.int (iI (σ 2 (184 + 26 * i_ + 5))) :: .int (iI 8) :: .ref (gb x 0 21) :: .int (iI lf) :: [])) (by rw [e5]) ?_
        refine n_imul hx hb dX1_fall_87 ?_
        refine lv_iload hx hb dX1_fall_88 (lv_at hl 3 rfl) ?_
        refine n_iadd hx hb dX1_fall_90 ?_
        refine x_iald hx hb hK hH hR1.b21 (by omega) (by omega) (Nat.le_of_ble_eq_true rfl) dX1_fall_91 ?_
        refine W.eq (g2 := F0 m 92 ls (.int (iI ((drawS σ) 2 (40 + ((8 * (σ 2 (184 + 26 * i_ + 5))) + k)))) :: .int (iI lf) :: [])) (by first | (rw [hR1.z.2.2.2.2 _ (by omega) (by omega)]; done) | (rw [hR1.z.2.2.2.2 _ (by omega) (by omega)]; rfl)) ?_
        refine W.eq (g2 := F0 m 92 ls (.int (iI (σ 2 (40 + 8 * (σ 2 (184 + 26 * i_ + 5)) + k))) :: .int (iI lf) :: [])) (by rw [drawS_o (by omega), show (40 : Int) + (8 * (σ 2 (184 + 26 * i_ + 5)) + k) = 40 + 8 * (σ 2 (184 + 26 * i_ + 5)) + k by omega]) ?_
        refine n_isub hx hb dX1_fall_92 ?_
        refine lv_istore_n hx hb dX1_fall_93 rfl hl (Nat.le_of_ble_eq_true rfl) (lv' := [(3, .int (iI (lf - (σ 2 (40 + 8 * (σ 2 (184 + 26 * i_ + 5)) + k))))), (0, .ref (gb x 0 0)), (1, .ref (gf x 0 fl_ 0)), (4, .int (iI k))]) rfl (fun ls hl => ?_)
        refine n_iinc hx hb dX1_fall_94 hl (k := 3) rfl (Nat.le_of_ble_eq_true rfl) (lv' := [(4, .int (iI (k + 1))), (3, .int (iI (lf - (σ 2 (40 + 8 * (σ 2 (184 + 26 * i_ + 5)) + k))))), (0, .ref (gb x 0 0)), (1, .ref (gf x 0 fl_ 0))]) rfl (fun ls hl => ?_)
        refine lv_goto (tgt := 57) hx hb dX1_fall_97 (by decide) ?_
        have hl : lv_has ls 5 [(0, .ref (gb x 0 0)), (1, .ref (gf x 0 fl_ 0)), (3, .int (iI (lf - (σ 2 (40 + 8 * (σ 2 (184 + 26 * i_ + 5)) + k))))), (4, .int (iI (k + 1)))] := lv_sub hl [2, 3, 1, 0] rfl
        refine ih_57 N1 ω1 (lf - (σ 2 (40 + 8 * (σ 2 (184 + 26 * i_ + 5)) + k))) (k + 1) ?_ ?_ ?_ ?_ ?_ ?_ ?_ ?_ ?_ ?_ ?_ _ _ _ hH hl
        · exact hR1
        · exact hW1
        · exact hF1
        · omega
        · omega
        · omega
        · exact wTail_y hx0 hxt
        · omega
        · rw [← wPick_y (by omega) (by omega)]; exact hp
        · exact hs0
        · omega
  have L4 : ∀ (q : Nat) (k : Int), (h0 : 0 ≤ k) → (h1 : k ≤ σ 2 1752) → (hq : σ 2 1752 < (q : Int) + k) → ∀ (H : Heap) (locs : List Loc) (ls : Array Slot), XV G (DA M s.heap.size) M s.heap H locs → lv_has ls 5 [(0, .ref (gb x 0 0)), (1, .ref (gf x 0 fl_ 0)), (2, .int (iI (wSum σ (σ 2 (184 + 26 * i_ + 5)) k.toNat))), (3, .int (iI k))] → W p l e (rmD 2) s m ([.ref (gb x 0 0), .ref (gf x 0 fl_ 0)] : List Value).toArray below meth c H locs 0 0 (MQ below (xQv G (DA M s.heap.size) (fun M' => ∃ ω', RX G M' a (fallC σ i_) x ω' ∧ WK (fallC σ i_ 2) ∧ F40 (fallC σ i_))) ([.ref (gb x 0 0), .ref (gf x 0 fl_ 0)] : List Value).toArray s 0 0 (DA M s.heap.size)) (F0 m 4 ls []) := by
    intro q
    induction q with
    | zero => intro k h0 h1 hq; exfalso; omega
    | succ q ih_4 =>
      intro k h0 h1 hq H locs ls hH hl
      refine lv_iload_n hx hb dX1_fall_4 rfl (lv_at hl 3 rfl) ?_
      refine lv_aload_n hx hb dX1_fall_5 rfl (lv_at hl 0 rfl) ?_
      refine x_get hx hb hts in_X1 hown hK hH hR.b0 rfl 1 (by decide) q163 (fun _ h9 => h9) rfl (by decide) dX1_fall_6 ?_
      refine n_icmp_ge (tgt := 35) hx hb (r32 (by omega)) (r32 (by omega)) dX1_fall_9 (by decide) (fun c_9 => ?_) (fun c_9 => ?_)
      · -- 9T
        obtain rfl : k = (σ 2 1752) := by omega
        refine lv_aload_n hx hb dX1_fall_35 rfl (lv_at hl 1 rfl) ?_
        refine x_getFl hx hb hts hown hK hH (hR.flaskE hef (by omega)) (fci_c _) 14 (by decide) q535 rfl rfl rfl rfl dX1_fall_36 ?_
        refine n_iconst hx hb dX1_fall_39 ?_
        refine n_icmp_eq (tgt := 47) hx hb (r32 (by omega)) (r32 (by omega)) dX1_fall_40 (by decide) (fun c_40 => ?_) (fun c_40 => ?_)
        · -- 40T
          refine x_vret hx hb hr hlk hH dX1_fall_47 ?_
          rw [show fallC σ i_ = σ from if_pos (by omega)]
          exact ⟨_, hR, hW, h40⟩
        · -- 40F
          refine lv_iload_n hx hb dX1_fall_43 rfl (lv_at hl 2 rfl) ?_
          refine n_if_ne (tgt := 48) hx hb (r32 (by omega)) dX1_fall_44 (by decide) (fun c_44 => ?_) (fun c_44 => ?_)
          · -- 44T
            
            have hmod := Int.emod_lt_of_pos (drawF (σ 2)) (by omega : 0 < wSum σ (σ 2 (184 + 26 * i_ + 5)) (σ 2 1752).toNat)
            have hmod0 := Int.emod_nonneg (drawF (σ 2)) (by omega : wSum σ (σ 2 (184 + 26 * i_ + 5)) (σ 2 1752).toNat ≠ 0)
            refine lv_aload_n hx hb dX1_fall_48 rfl (lv_at hl 0 rfl) ?_
            refine lv_iload_n hx hb dX1_fall_49 rfl (lv_at hl 2 rfl) ?_
            refine x_calli (x_runV (As := [.int (iI (wSum σ (σ 2 (184 + 26 * i_ + 5)) (σ 2 1752).toNat))]) (rest := []) S hH hK (fun _ _ hW => XN.warm hW hXN) XN_b hl.1 hR.b0 rfl (xm_X1_draw l G M a σ x ω (wSum σ (σ 2 (184 + 26 * i_ + 5)) (σ 2 1752).toNat) _ hR hW h40 (by omega) (by omega)) (lw_V q690 q692 qs5 q106 q693) kd_X1_draw rfl rfl dX1_fall_50) hH hA (fun z50 M50_ H locs q_50 hH hz_50 => ?_)
            obtain ⟨e_50, ω50x, hR50x, hW50x, hF50x⟩ := q_50
            subst e_50
            refine lv_istore_n hx hb dX1_fall_53 rfl hl (Nat.le_of_ble_eq_true rfl) (lv' := [(3, .int (iI (drawF (σ 2) % (wSum σ (σ 2 (184 + 26 * i_ + 5)) (σ 2 1752).toNat)))), (0, .ref (gb x 0 0)), (1, .ref (gf x 0 fl_ 0)), (2, .int (iI (wSum σ (σ 2 (184 + 26 * i_ + 5)) (σ 2 1752).toNat)))]) rfl (fun ls hl => ?_)
            refine n_iconst hx hb dX1_fall_54 ?_
            refine lv_istore hx hb dX1_fall_55 hl (Nat.le_of_ble_eq_true rfl) (lv' := [(4, .int (iI 0)), (3, .int (iI (drawF (σ 2) % (wSum σ (σ 2 (184 + 26 * i_ + 5)) (σ 2 1752).toNat)))), (0, .ref (gb x 0 0)), (1, .ref (gf x 0 fl_ 0)), (2, .int (iI (wSum σ (σ 2 (184 + 26 * i_ + 5)) (σ 2 1752).toNat)))]) rfl (fun ls hl => ?_)
            have hl : lv_has ls 5 [(0, .ref (gb x 0 0)), (1, .ref (gf x 0 fl_ 0)), (3, .int (iI (drawF (σ 2) % (wSum σ (σ 2 (184 + 26 * i_ + 5)) (σ 2 1752).toNat)))), (4, .int (iI 0))] := lv_sub hl [2, 3, 1, 0] rfl
            refine L57 9 M50_ ω50x (drawF (σ 2) % (wSum σ (σ 2 (184 + 26 * i_ + 5)) (σ 2 1752).toNat)) 0 ?_ ?_ ?_ ?_ ?_ ?_ ?_ ?_ ?_ ?_ ?_ _ _ _ hH hl
            · exact hR50x
            · exact hW50x
            · exact hF50x
            · omega
            · omega
            · omega
            · rw [wTail_all]; omega
            · omega
            · rfl
            · exact c_44
            · omega
          · -- 44F
            
            refine x_vret hx hb hr hlk hH dX1_fall_47 ?_
            rw [show fallC σ i_ = σ from if_pos (by omega)]
            exact ⟨_, hR, hW, h40⟩
      · -- 9F
        have hwi := hww k (by omega) (by omega)
        have hsi := wSum_r (σ := σ) (q := (σ 2 (184 + 26 * i_ + 5))) hww k.toNat (by omega)
        refine lv_iload_n hx hb dX1_fall_12 rfl (lv_at hl 2 rfl) ?_
        refine lv_aload_n hx hb dX1_fall_13 rfl (lv_at hl 0 rfl) ?_
        refine x_get hx hb hts in_X1 hown hK hH hR.b0 rfl 21 (by decide) q203 (fun _ h9 => h9) rfl (by decide) dX1_fall_14 ?_
        refine n_bipush (z := 8) hx hb dX1_fall_17 (by decide) ?_
        refine lv_aload_n hx hb dX1_fall_19 rfl (lv_at hl 1 rfl) ?_
        refine x_getFl hx hb hts hown hK hH (hR.flaskE hef (by omega)) (fci_c _) 4 (by decide) q514 rfl rfl rfl rfl dX1_fall_20 ?_
        refine n_imul hx hb dX1_fall_23 ?_
        refine lv_iload_n hx hb dX1_fall_24 rfl (lv_at hl 3 rfl) ?_
        refine n_iadd hx hb dX1_fall_25 ?_
        refine x_iald hx hb hK hH hR.b21 (by omega) (by omega) (Nat.le_of_ble_eq_true rfl) dX1_fall_26 ?_
        refine W.eq (g2 := F0 m 27 ls (.int (iI (σ 2 (40 + ((8 * (σ 2 (184 + 26 * i_ + 5))) + k)))) :: .int (iI (wSum σ (σ 2 (184 + 26 * i_ + 5)) k.toNat)) :: [])) (by first | (rw [hR.z.2.2.2.2 _ (by omega) (by omega)]; done) | (rw [hR.z.2.2.2.2 _ (by omega) (by omega)]; rfl)) ?_
        refine W.eq (g2 := F0 m 27 ls (.int (iI (σ 2 (40 + 8 * (σ 2 (184 + 26 * i_ + 5)) + k))) :: .int (iI (wSum σ (σ 2 (184 + 26 * i_ + 5)) k.toNat)) :: [])) (by rw [show (40 : Int) + (8 * (σ 2 (184 + 26 * i_ + 5)) + k) = 40 + 8 * (σ 2 (184 + 26 * i_ + 5)) + k by omega]) ?_
        refine n_iadd hx hb dX1_fall_27 ?_
        refine lv_istore_n hx hb dX1_fall_28 rfl hl (Nat.le_of_ble_eq_true rfl) (lv' := [(2, .int (iI ((wSum σ (σ 2 (184 + 26 * i_ + 5)) k.toNat) + (σ 2 (40 + 8 * (σ 2 (184 + 26 * i_ + 5)) + k))))), (0, .ref (gb x 0 0)), (1, .ref (gf x 0 fl_ 0)), (3, .int (iI k))]) rfl (fun ls hl => ?_)
        refine n_iinc hx hb dX1_fall_29 hl (k := 3) rfl (Nat.le_of_ble_eq_true rfl) (lv' := [(3, .int (iI (k + 1))), (2, .int (iI ((wSum σ (σ 2 (184 + 26 * i_ + 5)) k.toNat) + (σ 2 (40 + 8 * (σ 2 (184 + 26 * i_ + 5)) + k))))), (0, .ref (gb x 0 0)), (1, .ref (gf x 0 fl_ 0))]) rfl (fun ls hl => ?_)
        refine lv_goto (tgt := 4) hx hb dX1_fall_32 (by decide) ?_
        have hl : lv_has ls 5 [(0, .ref (gb x 0 0)), (1, .ref (gf x 0 fl_ 0)), (2, .int (iI ((wSum σ (σ 2 (184 + 26 * i_ + 5)) k.toNat) + (σ 2 (40 + 8 * (σ 2 (184 + 26 * i_ + 5)) + k))))), (3, .int (iI (k + 1)))] := lv_sub hl [2, 3, 1, 0] rfl
        have hl : lv_has ls 5 [(0, .ref (gb x 0 0)), (1, .ref (gf x 0 fl_ 0)), (2, .int (iI (wSum σ (σ 2 (184 + 26 * i_ + 5)) (k + 1).toNat))), (3, .int (iI (k + 1)))] := by rw [wSum_s h0]; exact hl
        refine ih_4 (k + 1) ?_ ?_ ?_ _ _ _ hH hl
        · omega
        · omega
        · omega
  refine n_iconst hx hb dX1_fall_0 ?_
  refine lv_istore_n hx hb dX1_fall_1 rfl hl (Nat.le_of_ble_eq_true rfl) (lv' := [(2, .int (iI 0)), (0, .ref (gb x 0 0)), (1, .ref (gf x 0 fl_ 0))]) rfl (fun ls hl => ?_)
  refine n_iconst hx hb dX1_fall_2 ?_
  refine lv_istore_n hx hb dX1_fall_3 rfl hl (Nat.le_of_ble_eq_true rfl) (lv' := [(3, .int (iI 0)), (2, .int (iI 0)), (0, .ref (gb x 0 0)), (1, .ref (gf x 0 fl_ 0))]) rfl (fun ls hl => ?_)
  have hl : lv_has ls 5 [(0, .ref (gb x 0 0)), (1, .ref (gf x 0 fl_ 0)), (2, .int (iI 0)), (3, .int (iI 0))] := lv_sub hl [2, 3, 1, 0] rfl
  have hl : lv_has ls 5 [(0, .ref (gb x 0 0)), (1, .ref (gf x 0 fl_ 0)), (2, .int (iI (wSum σ (σ 2 (184 + 26 * i_ + 5)) (0 : Int).toNat))), (3, .int (iI 0))] := by exact hl
  refine L4 10 0 ?_ ?_ ?_ _ _ _ hH hl
  · omega
  · omega
  · omega
