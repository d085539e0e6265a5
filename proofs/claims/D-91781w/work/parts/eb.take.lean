theorem kd_X1_take : yX1_take.cls = RX1 ∧ yX1_take.cls ≠ "java/lang/invoke/MethodHandle" ∧ yX1_take.cls ≠ "java/lang/invoke/VarHandle" ∧ (parseMethodDescriptor yX1_take.desc).map (fun d => d.parameters.length) = some 1 := by decide +kernel
theorem xm_X1_take (l : Launch) (G : MG) (M : Hp) (x : XGh) (ω : XCt) (u_ : Nat) (v_ : Nat) (κ : Int → Int) (ν : Int → Int) (sz : Nat) (hS : BenchAt G M x ω u_ κ) (hD : Gp M (gw x) (200 + 100 * v_) bKeys (gb x v_) (bcell G ν x ω v_)) (hSub : Sub (gI x) M (gw x)) (hst : u_ ≠ v_) (ht : v_ < 3) (hk : kCnt κ) (hfk : ∀ f, 0 ≤ f → f < κ 1753 → (κ (184 + 26 * f + 7) = 0 ∨ κ (184 + 26 * f + 7) = 1) ∧ (κ (184 + 26 * f + 13) = 0 ∨ κ (184 + 26 * f + 13) = 1)) : Met l yX1_take (ws_ yX1_take cX1_take 3 none) (rmX 10 120 1080) (xP G XN [.ref (gb x v_ 0), .ref (gb x u_ 0)] M sz) (xQv G (DA M sz) (fun M' => ∃ x1 ω1, Tk G M M' x x1 ω ω1 v_ κ (κ 1753) ∧ RestB G x1 ω1 v_ κ)) 120 1080 (DA M sz) := by
  refine x_start (by decide) (Nat.le_of_ble_eq_true rfl) ?_
  intro p e s m below meth c ⟨S, hr, hlk, hH, hK, hXN, hsz, hnm⟩ ls hl
  subst hsz
  obtain ⟨hx, hb, hml, hown, hts⟩ := S
  have S : CallFix p m c _ _ s _ lw_all RX1 := ⟨hx, hb, hml, hown, hts⟩
  have hA : ∀ q, s.heap.size ≤ q → DA M s.heap.size q := fun q hq => Or.inr hq
  have hl : lv_has ls 3 [(0, .ref (gb x v_ 0)), (1, .ref (gb x u_ 0))] := hl
  have b0 := hk
  unfold kCnt at b0
  have hne0 : gb x u_ 0 ≠ gb x v_ 0 := fun z => by
    have h8 := (hS.1 0 (by decide)).2
    have h9 := (hD 0 (by decide)).2
    rw [z] at h8
    omega
  have fS : M (gb x u_ 0) = some (oB 2 (bF κ x u_)) := (hS.1 0 (by decide)).1
  have fD : M (gb x v_ 0) = some (oB 2 (bF ν x v_)) := (hD 0 (by decide)).1
  have L81 : ∀ (q : Nat) (N1 : Hp) (x1 : XGh) (ω1 : XCt) (i : Int), (hT1 : Tk G M N1 x x1 ω ω1 v_ κ i) → (hC1 : Cp ω ω1 u_ v_ [8]) → (h0 : 0 ≤ i) → (h1 : i ≤ κ 1753) → (hq : κ 1753 < (q : Int) + i) → ∀ (H : Heap) (locs : List Loc) (ls : Array Slot), XV G (DA M s.heap.size) N1 s.heap H locs → lv_has ls 3 [(0, .ref (gb x v_ 0)), (1, .ref (gb x u_ 0)), (2, .int (iI i))] → W p l e (rmX 10 120 1080) s m ([.ref (gb x v_ 0), .ref (gb x u_ 0)] : List Value).toArray below meth c H locs (3 * Int.toNat i) (27 * Int.toNat i) (MQ below (xQv G (DA M s.heap.size) (fun M' => ∃ x1 ω1, Tk G M M' x x1 ω ω1 v_ κ (κ 1753) ∧ RestB G x1 ω1 v_ κ)) ([.ref (gb x v_ 0), .ref (gb x u_ 0)] : List Value).toArray s 120 1080 (DA M s.heap.size)) (F0 m 81 ls []) := by
    intro q
    induction q with
    | zero => intro N1 x1 ω1 i hT1 hC1 h0 h1 hq; exfalso; omega
    | succ q ih_81 =>
      intro N1 x1 ω1 i hT1 hC1 h0 h1 hq H locs ls hH hl
      refine lv_iload_n hx hb dX1_take_81 rfl (lv_at hl 2 rfl) ?_
      refine lv_aload_n hx hb dX1_take_82 rfl (lv_at hl 0 rfl) ?_
      refine x_get hx hb hts in_X1 hown hK hH hT1.d0 rfl 2 (by decide) q165 (fun _ h9 => h9) rfl (by decide) dX1_take_83 ?_
      refine n_icmp_ge (tgt := 110) hx hb (r32 (by omega)) (r32 (by omega)) dX1_take_86 (by decide) (fun c_86 => ?_) (fun c_86 => ?_)
      · -- 86T
        refine lv_aload_n hx hb dX1_take_110 rfl (lv_at hl 1 rfl) ?_
        refine x_get hx hb hts in_X1 hown hK hH (hT1.src hS hst (k := 0) (by decide)) rfl 10 (by decide) q181 (fun _ h9 => h9) rfl (by decide) dX1_take_111 ?_
        refine n_iconst hx hb dX1_take_114 ?_
        refine lv_aload_n hx hb dX1_take_115 rfl (lv_at hl 0 rfl) ?_
        refine x_get hx hb hts in_X1 hown hK hH hT1.d0 rfl 10 (by decide) q181 (fun _ h9 => h9) rfl (by decide) dX1_take_116 ?_
        refine n_iconst hx hb dX1_take_119 ?_
        refine n_bipush (z := 40) hx hb dX1_take_120 (by decide) ?_
        refine x_copyq (rest := []) hx hb hts (hml.trans hl.1.symm) hown q1428 q769 q768 q117 hK hXN hH (hT1.src hS hst (k := 10) (by decide)) (hT1.dst (k := 10) (by decide)) rfl rfl (by omega) (by omega) (by omega) (by omega) (by omega) ⟨by omega, by omega⟩ (hT1.el10 hSub hS.2.1) (Nat.le_of_ble_eq_true rfl) (Nat.le_of_ble_eq_true rfl) dX1_take_122 (fun H locs hH => ?_)
        obtain ⟨M1, e_M1⟩ : ∃ M1, M1 = hs N1 (gb x v_ 10) (aQ (G.2.1 7) 40 (cpZ (gq ω u_ 10) (gq ω1 v_ 10) 0 0 40)) := ⟨_, rfl⟩
        have hH := XV_to hH e_M1.symm
        have f1 : M1 (gb x v_ 10) = some (aQ (G.2.1 7) 40 (cpZ (gq ω u_ 10) (gq ω1 v_ 10) 0 0 40)) := by rw [e_M1]; exact hs_s
        obtain ⟨ω2, hR2, hC2⟩ : ∃ ω2, Tk G M M1 x x1 ω ω2 v_ κ i ∧ Cp ω ω2 u_ v_ (10 :: [8]) := ⟨qT ω1 v_ 10 (cpZ (gq ω u_ 10) (gq ω1 v_ 10) 0 0 40), by rw [e_M1]; exact hT1.cq (by decide) (congrArg (aQ (G.2.1 7) 40) qT_s), hC1.nq rfl rfl⟩
        refine lv_aload_n hx hb dX1_take_125 rfl (lv_at hl 1 rfl) ?_
        refine x_get hx hb hts in_X1 hown hK hH (hR2.src hS hst (k := 0) (by decide)) rfl 11 (by decide) q183 (fun _ h9 => h9) rfl (by decide) dX1_take_126 ?_
        refine n_iconst hx hb dX1_take_129 ?_
        refine lv_aload_n hx hb dX1_take_130 rfl (lv_at hl 0 rfl) ?_
        refine x_get hx hb hts in_X1 hown hK hH hR2.d0 rfl 11 (by decide) q183 (fun _ h9 => h9) rfl (by decide) dX1_take_131 ?_
        refine n_iconst hx hb dX1_take_134 ?_
        refine n_bipush (z := 12) hx hb dX1_take_135 (by decide) ?_
        refine x_copyq (rest := []) hx hb hts (hml.trans hl.1.symm) hown q1428 q769 q768 q117 hK hXN hH (hR2.src hS hst (k := 11) (by decide)) (hR2.dst (k := 11) (by decide)) rfl rfl (by omega) (by omega) (by omega) (by omega) (by omega) ⟨by omega, by omega⟩ (hR2.el11 hSub hS.2.1) (Nat.le_of_ble_eq_true rfl) (Nat.le_of_ble_eq_true rfl) dX1_take_137 (fun H locs hH => ?_)
        obtain ⟨M3, e_M3⟩ : ∃ M3, M3 = hs M1 (gb x v_ 11) (aQ (G.2.1 8) 12 (cpZ (gq ω u_ 11) (gq ω2 v_ 11) 0 0 12)) := ⟨_, rfl⟩
        have hH := XV_to hH e_M3.symm
        have f3 : M3 (gb x v_ 11) = some (aQ (G.2.1 8) 12 (cpZ (gq ω u_ 11) (gq ω2 v_ 11) 0 0 12)) := by rw [e_M3]; exact hs_s
        obtain ⟨ω4, hR4, hC4⟩ : ∃ ω4, Tk G M M3 x x1 ω ω4 v_ κ i ∧ Cp ω ω4 u_ v_ (11 :: (10 :: [8])) := ⟨qT ω2 v_ 11 (cpZ (gq ω u_ 11) (gq ω2 v_ 11) 0 0 12), by rw [e_M3]; exact hR2.cq (by decide) (congrArg (aQ (G.2.1 8) 12) qT_s), hC2.nq rfl rfl⟩
        refine lv_aload_n hx hb dX1_take_140 rfl (lv_at hl 1 rfl) ?_
        refine x_get hx hb hts in_X1 hown hK hH (hR4.src hS hst (k := 0) (by decide)) rfl 12 (by decide) q185 (fun _ h9 => h9) rfl (by decide) dX1_take_141 ?_
        refine n_iconst hx hb dX1_take_144 ?_
        refine lv_aload_n hx hb dX1_take_145 rfl (lv_at hl 0 rfl) ?_
        refine x_get hx hb hts in_X1 hown hK hH hR4.d0 rfl 12 (by decide) q185 (fun _ h9 => h9) rfl (by decide) dX1_take_146 ?_
        refine n_iconst hx hb dX1_take_149 ?_
        refine n_bipush (z := 12) hx hb dX1_take_150 (by decide) ?_
        refine x_copyq (rest := []) hx hb hts (hml.trans hl.1.symm) hown q1428 q769 q768 q117 hK hXN hH (hR4.src hS hst (k := 12) (by decide)) (hR4.dst (k := 12) (by decide)) rfl rfl (by omega) (by omega) (by omega) (by omega) (by omega) ⟨by omega, by omega⟩ (hR4.el12 hSub hS.2.1) (Nat.le_of_ble_eq_true rfl) (Nat.le_of_ble_eq_true rfl) dX1_take_152 (fun H locs hH => ?_)
        obtain ⟨M5, e_M5⟩ : ∃ M5, M5 = hs M3 (gb x v_ 12) (aQ (G.2.1 9) 12 (cpZ (gq ω u_ 12) (gq ω4 v_ 12) 0 0 12)) := ⟨_, rfl⟩
        have hH := XV_to hH e_M5.symm
        have f5 : M5 (gb x v_ 12) = some (aQ (G.2.1 9) 12 (cpZ (gq ω u_ 12) (gq ω4 v_ 12) 0 0 12)) := by rw [e_M5]; exact hs_s
        obtain ⟨ω6, hR6, hC6⟩ : ∃ ω6, Tk G M M5 x x1 ω ω6 v_ κ i ∧ Cp ω ω6 u_ v_ (12 :: (11 :: (10 :: [8]))) := ⟨qT ω4 v_ 12 (cpZ (gq ω u_ 12) (gq ω4 v_ 12) 0 0 12), by rw [e_M5]; exact hR4.cq (by decide) (congrArg (aQ (G.2.1 9) 12) qT_s), hC4.nq rfl rfl⟩
        refine lv_aload_n hx hb dX1_take_155 rfl (lv_at hl 1 rfl) ?_
        refine x_get hx hb hts in_X1 hown hK hH (hR6.src hS hst (k := 0) (by decide)) rfl 13 (by decide) q187 (fun _ h9 => h9) rfl (by decide) dX1_take_156 ?_
        refine n_iconst hx hb dX1_take_159 ?_
        refine lv_aload_n hx hb dX1_take_160 rfl (lv_at hl 0 rfl) ?_
        refine x_get hx hb hts in_X1 hown hK hH hR6.d0 rfl 13 (by decide) q187 (fun _ h9 => h9) rfl (by decide) dX1_take_161 ?_
        refine n_iconst hx hb dX1_take_164 ?_
        refine n_bipush (z := 9) hx hb dX1_take_165 (by decide) ?_
        refine x_copyi (rest := []) hx hb hts (hml.trans hl.1.symm) hown q1428 q769 q768 q117 hK hH (hR6.src hS hst (k := 13) (by decide)) (hR6.dst (k := 13) (by decide)) (by omega) (by omega) (by omega) (by omega) (by omega) ⟨by omega, by omega⟩ (Nat.le_of_ble_eq_true rfl) (Nat.le_of_ble_eq_true rfl) dX1_take_167 (fun H locs hH => ?_)
        obtain ⟨M7, e_M7⟩ : ∃ M7, M7 = hs M5 (gb x v_ 13) (aI (G.2.1 0) 9 (cpZ (gz ω u_ 13) (gz ω6 v_ 13) 0 0 9)) := ⟨_, rfl⟩
        have hH := XV_to hH e_M7.symm
        have f7 : M7 (gb x v_ 13) = some (aI (G.2.1 0) 9 (cpZ (gz ω u_ 13) (gz ω6 v_ 13) 0 0 9)) := by rw [e_M7]; exact hs_s
        obtain ⟨ω8, hR8, hC8⟩ : ∃ ω8, Tk G M M7 x x1 ω ω8 v_ κ i ∧ Cp ω ω8 u_ v_ (13 :: (12 :: (11 :: (10 :: [8])))) := ⟨zT ω6 v_ 13 (cpZ (gz ω u_ 13) (gz ω6 v_ 13) 0 0 9), by rw [e_M7]; exact hR6.cz (by decide) (congrArg (aI (G.2.1 0) 9) zT_s), hC6.nz rfl rfl⟩
        refine lv_aload_n hx hb dX1_take_170 rfl (lv_at hl 1 rfl) ?_
        refine x_get hx hb hts in_X1 hown hK hH (hR8.src hS hst (k := 0) (by decide)) rfl 14 (by decide) q189 (fun _ h9 => h9) rfl (by decide) dX1_take_171 ?_
        refine n_iconst hx hb dX1_take_174 ?_
        refine lv_aload_n hx hb dX1_take_175 rfl (lv_at hl 0 rfl) ?_
        refine x_get hx hb hts in_X1 hown hK hH hR8.d0 rfl 14 (by decide) q189 (fun _ h9 => h9) rfl (by decide) dX1_take_176 ?_
        refine n_iconst hx hb dX1_take_179 ?_
        refine n_bipush (z := 9) hx hb dX1_take_180 (by decide) ?_
        refine x_copyi (rest := []) hx hb hts (hml.trans hl.1.symm) hown q1428 q769 q768 q117 hK hH (hR8.src hS hst (k := 14) (by decide)) (hR8.dst (k := 14) (by decide)) (by omega) (by omega) (by omega) (by omega) (by omega) ⟨by omega, by omega⟩ (Nat.le_of_ble_eq_true rfl) (Nat.le_of_ble_eq_true rfl) dX1_take_182 (fun H locs hH => ?_)
        obtain ⟨M9, e_M9⟩ : ∃ M9, M9 = hs M7 (gb x v_ 14) (aI (G.2.1 0) 9 (cpZ (gz ω u_ 14) (gz ω8 v_ 14) 0 0 9)) := ⟨_, rfl⟩
        have hH := XV_to hH e_M9.symm
        have f9 : M9 (gb x v_ 14) = some (aI (G.2.1 0) 9 (cpZ (gz ω u_ 14) (gz ω8 v_ 14) 0 0 9)) := by rw [e_M9]; exact hs_s
        obtain ⟨ω10, hR10, hC10⟩ : ∃ ω10, Tk G M M9 x x1 ω ω10 v_ κ i ∧ Cp ω ω10 u_ v_ (14 :: (13 :: (12 :: (11 :: (10 :: [8]))))) := ⟨zT ω8 v_ 14 (cpZ (gz ω u_ 14) (gz ω8 v_ 14) 0 0 9), by rw [e_M9]; exact hR8.cz (by decide) (congrArg (aI (G.2.1 0) 9) zT_s), hC8.nz rfl rfl⟩
        refine lv_aload_n hx hb dX1_take_185 rfl (lv_at hl 1 rfl) ?_
        refine x_get hx hb hts in_X1 hown hK hH (hR10.src hS hst (k := 0) (by decide)) rfl 15 (by decide) q191 (fun _ h9 => h9) rfl (by decide) dX1_take_186 ?_
        refine n_iconst hx hb dX1_take_189 ?_
        refine lv_aload_n hx hb dX1_take_190 rfl (lv_at hl 0 rfl) ?_
        refine x_get hx hb hts in_X1 hown hK hH hR10.d0 rfl 15 (by decide) q191 (fun _ h9 => h9) rfl (by decide) dX1_take_191 ?_
        refine n_iconst hx hb dX1_take_194 ?_
        refine n_bipush (z := 6) hx hb dX1_take_195 (by decide) ?_
        refine x_copyi (rest := []) hx hb hts (hml.trans hl.1.symm) hown q1428 q769 q768 q117 hK hH (hR10.src hS hst (k := 15) (by decide)) (hR10.dst (k := 15) (by decide)) (by omega) (by omega) (by omega) (by omega) (by omega) ⟨by omega, by omega⟩ (Nat.le_of_ble_eq_true rfl) (Nat.le_of_ble_eq_true rfl) dX1_take_197 (fun H locs hH => ?_)
        obtain ⟨M11, e_M11⟩ : ∃ M11, M11 = hs M9 (gb x v_ 15) (aI (G.2.1 0) 6 (cpZ (gz ω u_ 15) (gz ω10 v_ 15) 0 0 6)) := ⟨_, rfl⟩
        have hH := XV_to hH e_M11.symm
        have f11 : M11 (gb x v_ 15) = some (aI (G.2.1 0) 6 (cpZ (gz ω u_ 15) (gz ω10 v_ 15) 0 0 6)) := by rw [e_M11]; exact hs_s
        obtain ⟨ω12, hR12, hC12⟩ : ∃ ω12, Tk G M M11 x x1 ω ω12 v_ κ i ∧ Cp ω ω12 u_ v_ (15 :: (14 :: (13 :: (12 :: (11 :: (10 :: [8])))))) := ⟨zT ω10 v_ 15 (cpZ (gz ω u_ 15) (gz ω10 v_ 15) 0 0 6), by rw [e_M11]; exact hR10.cz (by decide) (congrArg (aI (G.2.1 0) 6) zT_s), hC10.nz rfl rfl⟩
        refine lv_aload_n hx hb dX1_take_200 rfl (lv_at hl 1 rfl) ?_
        refine x_get hx hb hts in_X1 hown hK hH (hR12.src hS hst (k := 0) (by decide)) rfl 16 (by decide) q193 (fun _ h9 => h9) rfl (by decide) dX1_take_201 ?_
        refine n_iconst hx hb dX1_take_204 ?_
        refine lv_aload_n hx hb dX1_take_205 rfl (lv_at hl 0 rfl) ?_
        refine x_get hx hb hts in_X1 hown hK hH hR12.d0 rfl 16 (by decide) q193 (fun _ h9 => h9) rfl (by decide) dX1_take_206 ?_
        refine n_iconst hx hb dX1_take_209 ?_
        refine n_bipush (z := 6) hx hb dX1_take_210 (by decide) ?_
        refine x_copyi (rest := []) hx hb hts (hml.trans hl.1.symm) hown q1428 q769 q768 q117 hK hH (hR12.src hS hst (k := 16) (by decide)) (hR12.dst (k := 16) (by decide)) (by omega) (by omega) (by omega) (by omega) (by omega) ⟨by omega, by omega⟩ (Nat.le_of_ble_eq_true rfl) (Nat.le_of_ble_eq_true rfl) dX1_take_212 (fun H locs hH => ?_)
        obtain ⟨M13, e_M13⟩ : ∃ M13, M13 = hs M11 (gb x v_ 16) (aI (G.2.1 0) 6 (cpZ (gz ω u_ 16) (gz ω12 v_ 16) 0 0 6)) := ⟨_, rfl⟩
        have hH := XV_to hH e_M13.symm
        have f13 : M13 (gb x v_ 16) = some (aI (G.2.1 0) 6 (cpZ (gz ω u_ 16) (gz ω12 v_ 16) 0 0 6)) := by rw [e_M13]; exact hs_s
        obtain ⟨ω14, hR14, hC14⟩ : ∃ ω14, Tk G M M13 x x1 ω ω14 v_ κ i ∧ Cp ω ω14 u_ v_ (16 :: (15 :: (14 :: (13 :: (12 :: (11 :: (10 :: [8]))))))) := ⟨zT ω12 v_ 16 (cpZ (gz ω u_ 16) (gz ω12 v_ 16) 0 0 6), by rw [e_M13]; exact hR12.cz (by decide) (congrArg (aI (G.2.1 0) 6) zT_s), hC12.nz rfl rfl⟩
        refine lv_aload_n hx hb dX1_take_215 rfl (lv_at hl 1 rfl) ?_
        refine x_get hx hb hts in_X1 hown hK hH (hR14.src hS hst (k := 0) (by decide)) rfl 17 (by decide) q195 (fun _ h9 => h9) rfl (by decide) dX1_take_216 ?_
        refine n_iconst hx hb dX1_take_219 ?_
        refine lv_aload_n hx hb dX1_take_220 rfl (lv_at hl 0 rfl) ?_
        refine x_get hx hb hts in_X1 hown hK hH hR14.d0 rfl 17 (by decide) q195 (fun _ h9 => h9) rfl (by decide) dX1_take_221 ?_
        refine n_iconst hx hb dX1_take_224 ?_
        refine n_bipush (z := 6) hx hb dX1_take_225 (by decide) ?_
        refine x_copyi (rest := []) hx hb hts (hml.trans hl.1.symm) hown q1428 q769 q768 q117 hK hH (hR14.src hS hst (k := 17) (by decide)) (hR14.dst (k := 17) (by decide)) (by omega) (by omega) (by omega) (by omega) (by omega) ⟨by omega, by omega⟩ (Nat.le_of_ble_eq_true rfl) (Nat.le_of_ble_eq_true rfl) dX1_take_227 (fun H locs hH => ?_)
        obtain ⟨M15, e_M15⟩ : ∃ M15, M15 = hs M13 (gb x v_ 17) (aI (G.2.1 0) 6 (cpZ (gz ω u_ 17) (gz ω14 v_ 17) 0 0 6)) := ⟨_, rfl⟩
        have hH := XV_to hH e_M15.symm
        have f15 : M15 (gb x v_ 17) = some (aI (G.2.1 0) 6 (cpZ (gz ω u_ 17) (gz ω14 v_ 17) 0 0 6)) := by rw [e_M15]; exact hs_s
        obtain ⟨ω16, hR16, hC16⟩ : ∃ ω16, Tk G M M15 x x1 ω ω16 v_ κ i ∧ Cp ω ω16 u_ v_ (17 :: (16 :: (15 :: (14 :: (13 :: (12 :: (11 :: (10 :: [8])))))))) := ⟨zT ω14 v_ 17 (cpZ (gz ω u_ 17) (gz ω14 v_ 17) 0 0 6), by rw [e_M15]; exact hR14.cz (by decide) (congrArg (aI (G.2.1 0) 6) zT_s), hC14.nz rfl rfl⟩
        refine lv_aload_n hx hb dX1_take_230 rfl (lv_at hl 1 rfl) ?_
        refine x_get hx hb hts in_X1 hown hK hH (hR16.src hS hst (k := 0) (by decide)) rfl 18 (by decide) q197 (fun _ h9 => h9) rfl (by decide) dX1_take_231 ?_
        refine n_iconst hx hb dX1_take_234 ?_
        refine lv_aload_n hx hb dX1_take_235 rfl (lv_at hl 0 rfl) ?_
        refine x_get hx hb hts in_X1 hown hK hH hR16.d0 rfl 18 (by decide) q197 (fun _ h9 => h9) rfl (by decide) dX1_take_236 ?_
        refine n_iconst hx hb dX1_take_239 ?_
        refine n_bipush (z := 6) hx hb dX1_take_240 (by decide) ?_
        refine x_copyi (rest := []) hx hb hts (hml.trans hl.1.symm) hown q1428 q769 q768 q117 hK hH (hR16.src hS hst (k := 18) (by decide)) (hR16.dst (k := 18) (by decide)) (by omega) (by omega) (by omega) (by omega) (by omega) ⟨by omega, by omega⟩ (Nat.le_of_ble_eq_true rfl) (Nat.le_of_ble_eq_true rfl) dX1_take_242 (fun H locs hH => ?_)
        obtain ⟨M17, e_M17⟩ : ∃ M17, M17 = hs M15 (gb x v_ 18) (aI (G.2.1 0) 6 (cpZ (gz ω u_ 18) (gz ω16 v_ 18) 0 0 6)) := ⟨_, rfl⟩
        have hH := XV_to hH e_M17.symm
        have f17 : M17 (gb x v_ 18) = some (aI (G.2.1 0) 6 (cpZ (gz ω u_ 18) (gz ω16 v_ 18) 0 0 6)) := by rw [e_M17]; exact hs_s
        obtain ⟨ω18, hR18, hC18⟩ : ∃ ω18, Tk G M M17 x x1 ω ω18 v_ κ i ∧ Cp ω ω18 u_ v_ (18 :: (17 :: (16 :: (15 :: (14 :: (13 :: (12 :: (11 :: (10 :: [8]))))))))) := ⟨zT ω16 v_ 18 (cpZ (gz ω u_ 18) (gz ω16 v_ 18) 0 0 6), by rw [e_M17]; exact hR16.cz (by decide) (congrArg (aI (G.2.1 0) 6) zT_s), hC16.nz rfl rfl⟩
        refine lv_aload_n hx hb dX1_take_245 rfl (lv_at hl 1 rfl) ?_
        refine x_get hx hb hts in_X1 hown hK hH (hR18.src hS hst (k := 0) (by decide)) rfl 19 (by decide) q199 (fun _ h9 => h9) rfl (by decide) dX1_take_246 ?_
        refine n_iconst hx hb dX1_take_249 ?_
        refine lv_aload_n hx hb dX1_take_250 rfl (lv_at hl 0 rfl) ?_
        refine x_get hx hb hts in_X1 hown hK hH hR18.d0 rfl 19 (by decide) q199 (fun _ h9 => h9) rfl (by decide) dX1_take_251 ?_
        refine n_iconst hx hb dX1_take_254 ?_
        refine n_iconst hx hb dX1_take_255 ?_
        refine x_copyi (rest := []) hx hb hts (hml.trans hl.1.symm) hown q1428 q769 q768 q117 hK hH (hR18.src hS hst (k := 19) (by decide)) (hR18.dst (k := 19) (by decide)) (by omega) (by omega) (by omega) (by omega) (by omega) ⟨by omega, by omega⟩ (Nat.le_of_ble_eq_true rfl) (Nat.le_of_ble_eq_true rfl) dX1_take_256 (fun H locs hH => ?_)
        obtain ⟨M19, e_M19⟩ : ∃ M19, M19 = hs M17 (gb x v_ 19) (aI (G.2.1 0) 4 (cpZ (gz ω u_ 19) (gz ω18 v_ 19) 0 0 4)) := ⟨_, rfl⟩
        have hH := XV_to hH e_M19.symm
        have f19 : M19 (gb x v_ 19) = some (aI (G.2.1 0) 4 (cpZ (gz ω u_ 19) (gz ω18 v_ 19) 0 0 4)) := by rw [e_M19]; exact hs_s
        obtain ⟨ω20, hR20, hC20⟩ : ∃ ω20, Tk G M M19 x x1 ω ω20 v_ κ i ∧ Cp ω ω20 u_ v_ (19 :: (18 :: (17 :: (16 :: (15 :: (14 :: (13 :: (12 :: (11 :: (10 :: [8])))))))))) := ⟨zT ω18 v_ 19 (cpZ (gz ω u_ 19) (gz ω18 v_ 19) 0 0 4), by rw [e_M19]; exact hR18.cz (by decide) (congrArg (aI (G.2.1 0) 4) zT_s), hC18.nz rfl rfl⟩
        refine lv_aload_n hx hb dX1_take_259 rfl (lv_at hl 1 rfl) ?_
        refine x_get hx hb hts in_X1 hown hK hH (hR20.src hS hst (k := 0) (by decide)) rfl 20 (by decide) q201 (fun _ h9 => h9) rfl (by decide) dX1_take_260 ?_
        refine n_iconst hx hb dX1_take_263 ?_
        refine lv_aload_n hx hb dX1_take_264 rfl (lv_at hl 0 rfl) ?_
        refine x_get hx hb hts in_X1 hown hK hH hR20.d0 rfl 20 (by decide) q201 (fun _ h9 => h9) rfl (by decide) dX1_take_265 ?_
        refine n_iconst hx hb dX1_take_268 ?_
        refine n_bipush (z := 12) hx hb dX1_take_269 (by decide) ?_
        refine x_copyi (rest := []) hx hb hts (hml.trans hl.1.symm) hown q1428 q769 q768 q117 hK hH (hR20.src hS hst (k := 20) (by decide)) (hR20.dst (k := 20) (by decide)) (by omega) (by omega) (by omega) (by omega) (by omega) ⟨by omega, by omega⟩ (Nat.le_of_ble_eq_true rfl) (Nat.le_of_ble_eq_true rfl) dX1_take_271 (fun H locs hH => ?_)
        obtain ⟨M21, e_M21⟩ : ∃ M21, M21 = hs M19 (gb x v_ 20) (aI (G.2.1 0) 12 (cpZ (gz ω u_ 20) (gz ω20 v_ 20) 0 0 12)) := ⟨_, rfl⟩
        have hH := XV_to hH e_M21.symm
        have f21 : M21 (gb x v_ 20) = some (aI (G.2.1 0) 12 (cpZ (gz ω u_ 20) (gz ω20 v_ 20) 0 0 12)) := by rw [e_M21]; exact hs_s
        obtain ⟨ω22, hR22, hC22⟩ : ∃ ω22, Tk G M M21 x x1 ω ω22 v_ κ i ∧ Cp ω ω22 u_ v_ (20 :: (19 :: (18 :: (17 :: (16 :: (15 :: (14 :: (13 :: (12 :: (11 :: (10 :: [8]))))))))))) := ⟨zT ω20 v_ 20 (cpZ (gz ω u_ 20) (gz ω20 v_ 20) 0 0 12), by rw [e_M21]; exact hR20.cz (by decide) (congrArg (aI (G.2.1 0) 12) zT_s), hC20.nz rfl rfl⟩
        refine lv_aload_n hx hb dX1_take_274 rfl (lv_at hl 1 rfl) ?_
        refine x_get hx hb hts in_X1 hown hK hH (hR22.src hS hst (k := 0) (by decide)) rfl 21 (by decide) q203 (fun _ h9 => h9) rfl (by decide) dX1_take_275 ?_
        refine n_iconst hx hb dX1_take_278 ?_
        refine lv_aload_n hx hb dX1_take_279 rfl (lv_at hl 0 rfl) ?_
        refine x_get hx hb hts in_X1 hown hK hH hR22.d0 rfl 21 (by decide) q203 (fun _ h9 => h9) rfl (by decide) dX1_take_280 ?_
        refine n_iconst hx hb dX1_take_283 ?_
        refine n_bipush (z := 96) hx hb dX1_take_284 (by decide) ?_
        refine x_copyi (rest := []) hx hb hts (hml.trans hl.1.symm) hown q1428 q769 q768 q117 hK hH (hR22.src hS hst (k := 21) (by decide)) (hR22.dst (k := 21) (by decide)) (by omega) (by omega) (by omega) (by omega) (by omega) ⟨by omega, by omega⟩ (Nat.le_of_ble_eq_true rfl) (Nat.le_of_ble_eq_true rfl) dX1_take_286 (fun H locs hH => ?_)
        obtain ⟨M23, e_M23⟩ : ∃ M23, M23 = hs M21 (gb x v_ 21) (aI (G.2.1 0) 96 (cpZ (gz ω u_ 21) (gz ω22 v_ 21) 0 0 96)) := ⟨_, rfl⟩
        have hH := XV_to hH e_M23.symm
        have f23 : M23 (gb x v_ 21) = some (aI (G.2.1 0) 96 (cpZ (gz ω u_ 21) (gz ω22 v_ 21) 0 0 96)) := by rw [e_M23]; exact hs_s
        obtain ⟨ω24, hR24, hC24⟩ : ∃ ω24, Tk G M M23 x x1 ω ω24 v_ κ i ∧ Cp ω ω24 u_ v_ (21 :: (20 :: (19 :: (18 :: (17 :: (16 :: (15 :: (14 :: (13 :: (12 :: (11 :: (10 :: [8])))))))))))) := ⟨zT ω22 v_ 21 (cpZ (gz ω u_ 21) (gz ω22 v_ 21) 0 0 96), by rw [e_M23]; exact hR22.cz (by decide) (congrArg (aI (G.2.1 0) 96) zT_s), hC22.nz rfl rfl⟩
        refine W.widen (k := 120) (n := 1080) (by omega) (by omega) ?_
        refine x_vret hx hb hr hlk hH dX1_take_289 ?_
        refine ⟨x1, ω24, ?_, RestB_cp hS.2.1 hk hR24.2.1.1 hC24⟩
        rw [show κ 1753 = i by omega]
        exact hR24
      · -- 86F
        obtain ⟨fl_, hef⟩ : ∃ fl_ : Nat, (fl_ : Int) = i := ⟨i.toNat, by omega⟩
        obtain ⟨hs1, hs2, hs3, hs4, hs5⟩ := hT1.srcF ht hS (i := i) (fl := fl_) (by omega) hef
        refine lv_aload_n hx hb dX1_take_89 rfl (lv_at hl 0 rfl) ?_
        refine x_get hx hb hts in_X1 hown hK hH hT1.d0 rfl 9 (by decide) q179 (fun _ h9 => h9) rfl (by decide) dX1_take_90 ?_
        refine lv_iload_n hx hb dX1_take_93 rfl (lv_at hl 2 rfl) ?_
        refine lv_aload_n hx hb dX1_take_94 rfl (lv_at hl 1 rfl) ?_
        refine x_get hx hb hts in_X1 hown hK hH (hT1.src hS hst (k := 0) (by decide)) rfl 9 (by decide) q179 (fun _ h9 => h9) rfl (by decide) dX1_take_95 ?_
        refine lv_iload_n hx hb dX1_take_98 rfl (lv_at hl 2 rfl) ?_
        refine x_aald hx hb hK hH 6 (hT1.src hS hst (k := 9) (by decide)) rfl (by omega) (by omega) (Nat.le_of_ble_eq_true rfl) (v := some (gf x u_ fl_ 0)) hs4 dX1_take_99 ?_
        refine x_callq (fl_run (As := []) (rest := [.int (iI i), .ref (gb x v_ 9)]) (n := 0) S hH hK hXN hl.1 hs1 (xm_X6_copy l G N1 κ i (gf x u_ fl_ 1) (gf x u_ fl_ 2) (gg ω u_ fl_ 1) (gg ω u_ fl_ 2) (gf x u_ fl_ 0) _ hs1 hs2 hs3 (hfk i (by omega) (by omega)).1 (hfk i (by omega) (by omega)).2) rfl q1429 q1431 q1434 q1432 q1433 q1430 q111 q1435 kd_X6_copy.2 rfl rfl dX1_take_100 rfl rfl ⟨Nat.le_of_ble_eq_true rfl, Nat.le_of_ble_eq_true rfl⟩ (Nat.le_of_ble_eq_true rfl) ⟨by dsimp only [rmX]; omega, by dsimp only [rmX]; omega⟩) hH hA (fun r100 M100_ H locs q_100 hH hz_100 => ?_)
        obtain ⟨qf, g1, g2, er, hqf, hg1, hg20, n1, n2, n3, e0f⟩ := q_100
        subst er
        have old : ∀ z e, N1 z = some e → z ≠ qf ∧ z ≠ g1 ∧ z ≠ g2 := fun z e hz => ⟨fun k => (by rw [k, hqf] at hz; cases hz), fun k => (by rw [k, hg1] at hz; cases hz), fun k => (by rw [k, hg20] at hz; cases hz)⟩
        have d9 := hT1.dst (k := 9) (by decide)
        obtain ⟨o1, o2, o3⟩ := old _ _ d9
        have d9x : M100_ (gb x v_ 9) = some (aQ (G.2.1 6) 40 (gq ω1 v_ 9)) := by rw [e0f, hs_n o1, hs_n o3, hs_n o2]; exact d9
        have dqx : M100_ qf = some (oB (fci (κ (184 + 26 * i + 1))) (fGI κ i g1 g2)) := by rw [e0f]; exact hs_s
        obtain ⟨rr, hrr, hir⟩ := fci_row (κ (184 + 26 * i + 1))
        refine x_aast (E := "BrothFlasks$Flask") hx hb hK hXN hH d9x rfl dqx hrr hir (by omega) (by omega) (Nat.le_of_ble_eq_true rfl) dX1_take_103 (fun H locs hH => ?_)
        obtain ⟨M25, e_M25⟩ : ∃ M25, M25 = hs M100_ (gb x v_ 9) (aQ (G.2.1 6) 40 (upq (gq ω1 v_ 9) i (some qf))) := ⟨_, rfl⟩
        have hH := XV_to hH e_M25.symm
        have f25 : M25 (gb x v_ 9) = some (aQ (G.2.1 6) 40 (upq (gq ω1 v_ 9) i (some qf))) := by rw [e_M25]; exact hs_s
        obtain ⟨ω26, hR26, hC26⟩ : ∃ ω26, Tk G M M25 x (xf x1 v_ i.toNat qf g1 g2) ω ω26 v_ κ (i + 1) ∧ Cp ω ω26 u_ v_ [8] := ⟨gT (qT ω1 v_ 9 (upq (gq ω1 v_ 9) i (some qf))) v_ i.toNat (cpZ (gg ω u_ fl_ 1) (fun _ => 0) 0 0 4) (cpZ (gg ω u_ fl_ 2) (fun _ => 0) 0 0 4), by rw [e_M25]; exact hT1.fl ht (by omega) (by omega) hqf hg1 hg20 n1 n2 n3 (by rw [fFI_xf]; exact e0f) (fun j j0 j1 => by rw [cpZ, cpZ, if_pos (by omega), if_pos (by omega), show (0 : Int) + (j - 0) = j by omega]; exact hs5 j j0 j1) rfl, hC1.nf⟩
        refine n_iinc hx hb dX1_take_104 hl (k := 2) rfl (Nat.le_of_ble_eq_true rfl) (lv' := [(2, .int (iI (i + 1))), (0, .ref (gb x v_ 0)), (1, .ref (gb x u_ 0))]) rfl (fun ls hl => ?_)
        refine lv_goto (tgt := 81) hx hb dX1_take_107 (by decide) ?_
        have hl : lv_has ls 3 [(0, .ref (gb x v_ 0)), (1, .ref (gb x u_ 0)), (2, .int (iI (i + 1)))] := lv_sub hl [1, 2, 0] rfl
        refine W.widen (k := 3 * Int.toNat (i + 1)) (n := 27 * Int.toNat (i + 1)) (by omega) (by omega) ?_
        refine ih_81 M25 (xf x1 v_ i.toNat qf g1 g2) ω26 (i + 1) ?_ ?_ ?_ ?_ ?_ _ _ _ hH hl
        · exact hR26
        · exact hC26
        · omega
        · omega
        · omega
  refine lv_aload_n hx hb dX1_take_0 rfl (lv_at hl 0 rfl) ?_
  refine lv_aload_n hx hb dX1_take_1 rfl (lv_at hl 1 rfl) ?_
  refine x_get hx hb hts in_X1 hown hK hH fS rfl 0 (by decide) q161 (fun _ h9 => h9) rfl (by decide) dX1_take_2 ?_
  refine x_put (ty := .int) hx hb hts in_X1 tyX1 tyX1_ok nmX1 hown hK hH fD rfl 0 (by decide) q161 (fun _ h9 => h9) rfl (by decide +kernel) rfl rfl (Nat.le_of_ble_eq_true rfl) (by decide) dX1_take_5 (fun H locs hH => ?_)
  obtain ⟨M27, e_M27⟩ : ∃ M27, M27 = hs M (gb x v_ 0) (oB 2 [.int (iI (κ 1750)), .int (iI (ν 1752)), .int (iI (ν 1753)), .int (iI (ν 1754)), .int (iI (ν 1755)), .int (iI (ν 1756)), .int (iI (ν 1757)), .long (lI (ν 1751)), .ref (gb x v_ 8), .ref (gb x v_ 9), .ref (gb x v_ 10), .ref (gb x v_ 11), .ref (gb x v_ 12), .ref (gb x v_ 13), .ref (gb x v_ 14), .ref (gb x v_ 15), .ref (gb x v_ 16), .ref (gb x v_ 17), .ref (gb x v_ 18), .ref (gb x v_ 19), .ref (gb x v_ 20), .ref (gb x v_ 21)]) := ⟨_, rfl⟩
  have hH := XV_to hH e_M27.symm
  have f27 : M27 (gb x v_ 0) = some (oB 2 [.int (iI (κ 1750)), .int (iI (ν 1752)), .int (iI (ν 1753)), .int (iI (ν 1754)), .int (iI (ν 1755)), .int (iI (ν 1756)), .int (iI (ν 1757)), .long (lI (ν 1751)), .ref (gb x v_ 8), .ref (gb x v_ 9), .ref (gb x v_ 10), .ref (gb x v_ 11), .ref (gb x v_ 12), .ref (gb x v_ 13), .ref (gb x v_ 14), .ref (gb x v_ 15), .ref (gb x v_ 16), .ref (gb x v_ 17), .ref (gb x v_ 18), .ref (gb x v_ 19), .ref (gb x v_ 20), .ref (gb x v_ 21)]) := by rw [e_M27]; exact hs_s
  have f28 : M27 (gb x u_ 0) = some (oB 2 [.int (iI (κ 1750)), .int (iI (κ 1752)), .int (iI (κ 1753)), .int (iI (κ 1754)), .int (iI (κ 1755)), .int (iI (κ 1756)), .int (iI (κ 1757)), .long (lI (κ 1751)), .ref (gb x u_ 8), .ref (gb x u_ 9), .ref (gb x u_ 10), .ref (gb x u_ 11), .ref (gb x u_ 12), .ref (gb x u_ 13), .ref (gb x u_ 14), .ref (gb x u_ 15), .ref (gb x u_ 16), .ref (gb x u_ 17), .ref (gb x u_ 18), .ref (gb x u_ 19), .ref (gb x u_ 20), .ref (gb x u_ 21)]) := by rw [e_M27]; exact (hs_n hne0).trans fS
  have k_M27 := e_M27
  try rw [k_M, hs_hs] at k_M27
  refine lv_aload_n hx hb dX1_take_8 rfl (lv_at hl 0 rfl) ?_
  refine lv_aload_n hx hb dX1_take_9 rfl (lv_at hl 1 rfl) ?_
  refine x_get hx hb hts in_X1 hown hK hH f28 rfl 1 (by decide) q163 (fun _ h9 => h9) rfl (by decide) dX1_take_10 ?_
  refine x_put (ty := .int) hx hb hts in_X1 tyX1 tyX1_ok nmX1 hown hK hH f27 rfl 1 (by decide) q163 (fun _ h9 => h9) rfl (by decide +kernel) rfl rfl (Nat.le_of_ble_eq_true rfl) (by decide) dX1_take_13 (fun H locs hH => ?_)
  obtain ⟨M29, e_M29⟩ : ∃ M29, M29 = hs M27 (gb x v_ 0) (oB 2 [.int (iI (κ 1750)), .int (iI (κ 1752)), .int (iI (ν 1753)), .int (iI (ν 1754)), .int (iI (ν 1755)), .int (iI (ν 1756)), .int (iI (ν 1757)), .long (lI (ν 1751)), .ref (gb x v_ 8), .ref (gb x v_ 9), .ref (gb x v_ 10), .ref (gb x v_ 11), .ref (gb x v_ 12), .ref (gb x v_ 13), .ref (gb x v_ 14), .ref (gb x v_ 15), .ref (gb x v_ 16), .ref (gb x v_ 17), .ref (gb x v_ 18), .ref (gb x v_ 19), .ref (gb x v_ 20), .ref (gb x v_ 21)]) := ⟨_, rfl⟩
  have hH := XV_to hH e_M29.symm
  have f29 : M29 (gb x v_ 0) = some (oB 2 [.int (iI (κ 1750)), .int (iI (κ 1752)), .int (iI (ν 1753)), .int (iI (ν 1754)), .int (iI (ν 1755)), .int (iI (ν 1756)), .int (iI (ν 1757)), .long (lI (ν 1751)), .ref (gb x v_ 8), .ref (gb x v_ 9), .ref (gb x v_ 10), .ref (gb x v_ 11), .ref (gb x v_ 12), .ref (gb x v_ 13), .ref (gb x v_ 14), .ref (gb x v_ 15), .ref (gb x v_ 16), .ref (gb x v_ 17), .ref (gb x v_ 18), .ref (gb x v_ 19), .ref (gb x v_ 20), .ref (gb x v_ 21)]) := by rw [e_M29]; exact hs_s
  have f30 : M29 (gb x u_ 0) = some (oB 2 [.int (iI (κ 1750)), .int (iI (κ 1752)), .int (iI (κ 1753)), .int (iI (κ 1754)), .int (iI (κ 1755)), .int (iI (κ 1756)), .int (iI (κ 1757)), .long (lI (κ 1751)), .ref (gb x u_ 8), .ref (gb x u_ 9), .ref (gb x u_ 10), .ref (gb x u_ 11), .ref (gb x u_ 12), .ref (gb x u_ 13), .ref (gb x u_ 14), .ref (gb x u_ 15), .ref (gb x u_ 16), .ref (gb x u_ 17), .ref (gb x u_ 18), .ref (gb x u_ 19), .ref (gb x u_ 20), .ref (gb x u_ 21)]) := by rw [e_M29]; exact (hs_n hne0).trans f28
  have k_M29 := e_M29
  try rw [k_M27, hs_hs] at k_M29
  refine lv_aload_n hx hb dX1_take_16 rfl (lv_at hl 0 rfl) ?_
  refine lv_aload_n hx hb dX1_take_17 rfl (lv_at hl 1 rfl) ?_
  refine x_get hx hb hts in_X1 hown hK hH f30 rfl 2 (by decide) q165 (fun _ h9 => h9) rfl (by decide) dX1_take_18 ?_
  refine x_put (ty := .int) hx hb hts in_X1 tyX1 tyX1_ok nmX1 hown hK hH f29 rfl 2 (by decide) q165 (fun _ h9 => h9) rfl (by decide +kernel) rfl rfl (Nat.le_of_ble_eq_true rfl) (by decide) dX1_take_21 (fun H locs hH => ?_)
  obtain ⟨M31, e_M31⟩ : ∃ M31, M31 = hs M29 (gb x v_ 0) (oB 2 [.int (iI (κ 1750)), .int (iI (κ 1752)), .int (iI (κ 1753)), .int (iI (ν 1754)), .int (iI (ν 1755)), .int (iI (ν 1756)), .int (iI (ν 1757)), .long (lI (ν 1751)), .ref (gb x v_ 8), .ref (gb x v_ 9), .ref (gb x v_ 10), .ref (gb x v_ 11), .ref (gb x v_ 12), .ref (gb x v_ 13), .ref (gb x v_ 14), .ref (gb x v_ 15), .ref (gb x v_ 16), .ref (gb x v_ 17), .ref (gb x v_ 18), .ref (gb x v_ 19), .ref (gb x v_ 20), .ref (gb x v_ 21)]) := ⟨_, rfl⟩
  have hH := XV_to hH e_M31.symm
  have f31 : M31 (gb x v_ 0) = some (oB 2 [.int (iI (κ 1750)), .int (iI (κ 1752)), .int (iI (κ 1753)), .int (iI (ν 1754)), .int (iI (ν 1755)), .int (iI (ν 1756)), .int (iI (ν 1757)), .long (lI (ν 1751)), .ref (gb x v_ 8), .ref (gb x v_ 9), .ref (gb x v_ 10), .ref (gb x v_ 11), .ref (gb x v_ 12), .ref (gb x v_ 13), .ref (gb x v_ 14), .ref (gb x v_ 15), .ref (gb x v_ 16), .ref (gb x v_ 17), .ref (gb x v_ 18), .ref (gb x v_ 19), .ref (gb x v_ 20), .ref (gb x v_ 21)]) := by rw [e_M31]; exact hs_s
  have f32 : M31 (gb x u_ 0) = some (oB 2 [.int (iI (κ 1750)), .int (iI (κ 1752)), .int (iI (κ 1753)), .int (iI (κ 1754)), .int (iI (κ 1755)), .int (iI (κ 1756)), .int (iI (κ 1757)), .long (lI (κ 1751)), .ref (gb x u_ 8), .ref (gb x u_ 9), .ref (gb x u_ 10), .ref (gb x u_ 11), .ref (gb x u_ 12), .ref (gb x u_ 13), .ref (gb x u_ 14), .ref (gb x u_ 15), .ref (gb x u_ 16), .ref (gb x u_ 17), .ref (gb x u_ 18), .ref (gb x u_ 19), .ref (gb x u_ 20), .ref (gb x u_ 21)]) := by rw [e_M31]; exact (hs_n hne0).trans f30
  have k_M31 := e_M31
  try rw [k_M29, hs_hs] at k_M31
  refine lv_aload_n hx hb dX1_take_24 rfl (lv_at hl 0 rfl) ?_
  refine lv_aload_n hx hb dX1_take_25 rfl (lv_at hl 1 rfl) ?_
  refine x_get hx hb hts in_X1 hown hK hH f32 rfl 3 (by decide) q167 (fun _ h9 => h9) rfl (by decide) dX1_take_26 ?_
  refine x_put (ty := .int) hx hb hts in_X1 tyX1 tyX1_ok nmX1 hown hK hH f31 rfl 3 (by decide) q167 (fun _ h9 => h9) rfl (by decide +kernel) rfl rfl (Nat.le_of_ble_eq_true rfl) (by decide) dX1_take_29 (fun H locs hH => ?_)
  obtain ⟨M33, e_M33⟩ : ∃ M33, M33 = hs M31 (gb x v_ 0) (oB 2 [.int (iI (κ 1750)), .int (iI (κ 1752)), .int (iI (κ 1753)), .int (iI (κ 1754)), .int (iI (ν 1755)), .int (iI (ν 1756)), .int (iI (ν 1757)), .long (lI (ν 1751)), .ref (gb x v_ 8), .ref (gb x v_ 9), .ref (gb x v_ 10), .ref (gb x v_ 11), .ref (gb x v_ 12), .ref (gb x v_ 13), .ref (gb x v_ 14), .ref (gb x v_ 15), .ref (gb x v_ 16), .ref (gb x v_ 17), .ref (gb x v_ 18), .ref (gb x v_ 19), .ref (gb x v_ 20), .ref (gb x v_ 21)]) := ⟨_, rfl⟩
  have hH := XV_to hH e_M33.symm
  have f33 : M33 (gb x v_ 0) = some (oB 2 [.int (iI (κ 1750)), .int (iI (κ 1752)), .int (iI (κ 1753)), .int (iI (κ 1754)), .int (iI (ν 1755)), .int (iI (ν 1756)), .int (iI (ν 1757)), .long (lI (ν 1751)), .ref (gb x v_ 8), .ref (gb x v_ 9), .ref (gb x v_ 10), .ref (gb x v_ 11), .ref (gb x v_ 12), .ref (gb x v_ 13), .ref (gb x v_ 14), .ref (gb x v_ 15), .ref (gb x v_ 16), .ref (gb x v_ 17), .ref (gb x v_ 18), .ref (gb x v_ 19), .ref (gb x v_ 20), .ref (gb x v_ 21)]) := by rw [e_M33]; exact hs_s
  have f34 : M33 (gb x u_ 0) = some (oB 2 [.int (iI (κ 1750)), .int (iI (κ 1752)), .int (iI (κ 1753)), .int (iI (κ 1754)), .int (iI (κ 1755)), .int (iI (κ 1756)), .int (iI (κ 1757)), .long (lI (κ 1751)), .ref (gb x u_ 8), .ref (gb x u_ 9), .ref (gb x u_ 10), .ref (gb x u_ 11), .ref (gb x u_ 12), .ref (gb x u_ 13), .ref (gb x u_ 14), .ref (gb x u_ 15), .ref (gb x u_ 16), .ref (gb x u_ 17), .ref (gb x u_ 18), .ref (gb x u_ 19), .ref (gb x u_ 20), .ref (gb x u_ 21)]) := by rw [e_M33]; exact (hs_n hne0).trans f32
  have k_M33 := e_M33
  try rw [k_M31, hs_hs] at k_M33
  refine lv_aload_n hx hb dX1_take_32 rfl (lv_at hl 0 rfl) ?_
  refine lv_aload_n hx hb dX1_take_33 rfl (lv_at hl 1 rfl) ?_
  refine x_get hx hb hts in_X1 hown hK hH f34 rfl 4 (by decide) q169 (fun _ h9 => h9) rfl (by decide) dX1_take_34 ?_
  refine x_put (ty := .int) hx hb hts in_X1 tyX1 tyX1_ok nmX1 hown hK hH f33 rfl 4 (by decide) q169 (fun _ h9 => h9) rfl (by decide +kernel) rfl rfl (Nat.le_of_ble_eq_true rfl) (by decide) dX1_take_37 (fun H locs hH => ?_)
  obtain ⟨M35, e_M35⟩ : ∃ M35, M35 = hs M33 (gb x v_ 0) (oB 2 [.int (iI (κ 1750)), .int (iI (κ 1752)), .int (iI (κ 1753)), .int (iI (κ 1754)), .int (iI (κ 1755)), .int (iI (ν 1756)), .int (iI (ν 1757)), .long (lI (ν 1751)), .ref (gb x v_ 8), .ref (gb x v_ 9), .ref (gb x v_ 10), .ref (gb x v_ 11), .ref (gb x v_ 12), .ref (gb x v_ 13), .ref (gb x v_ 14), .ref (gb x v_ 15), .ref (gb x v_ 16), .ref (gb x v_ 17), .ref (gb x v_ 18), .ref (gb x v_ 19), .ref (gb x v_ 20), .ref (gb x v_ 21)]) := ⟨_, rfl⟩
  have hH := XV_to hH e_M35.symm
  have f35 : M35 (gb x v_ 0) = some (oB 2 [.int (iI (κ 1750)), .int (iI (κ 1752)), .int (iI (κ 1753)), .int (iI (κ 1754)), .int (iI (κ 1755)), .int (iI (ν 1756)), .int (iI (ν 1757)), .long (lI (ν 1751)), .ref (gb x v_ 8), .ref (gb x v_ 9), .ref (gb x v_ 10), .ref (gb x v_ 11), .ref (gb x v_ 12), .ref (gb x v_ 13), .ref (gb x v_ 14), .ref (gb x v_ 15), .ref (gb x v_ 16), .ref (gb x v_ 17), .ref (gb x v_ 18), .ref (gb x v_ 19), .ref (gb x v_ 20), .ref (gb x v_ 21)]) := by rw [e_M35]; exact hs_s
  have f36 : M35 (gb x u_ 0) = some (oB 2 [.int (iI (κ 1750)), .int (iI (κ 1752)), .int (iI (κ 1753)), .int (iI (κ 1754)), .int (iI (κ 1755)), .int (iI (κ 1756)), .int (iI (κ 1757)), .long (lI (κ 1751)), .ref (gb x u_ 8), .ref (gb x u_ 9), .ref (gb x u_ 10), .ref (gb x u_ 11), .ref (gb x u_ 12), .ref (gb x u_ 13), .ref (gb x u_ 14), .ref (gb x u_ 15), .ref (gb x u_ 16), .ref (gb x u_ 17), .ref (gb x u_ 18), .ref (gb x u_ 19), .ref (gb x u_ 20), .ref (gb x u_ 21)]) := by rw [e_M35]; exact (hs_n hne0).trans f34
  have k_M35 := e_M35
  try rw [k_M33, hs_hs] at k_M35
  refine lv_aload_n hx hb dX1_take_40 rfl (lv_at hl 0 rfl) ?_
  refine lv_aload_n hx hb dX1_take_41 rfl (lv_at hl 1 rfl) ?_
  refine x_get hx hb hts in_X1 hown hK hH f36 rfl 5 (by decide) q171 (fun _ h9 => h9) rfl (by decide) dX1_take_42 ?_
  refine x_put (ty := .int) hx hb hts in_X1 tyX1 tyX1_ok nmX1 hown hK hH f35 rfl 5 (by decide) q171 (fun _ h9 => h9) rfl (by decide +kernel) rfl rfl (Nat.le_of_ble_eq_true rfl) (by decide) dX1_take_45 (fun H locs hH => ?_)
  obtain ⟨M37, e_M37⟩ : ∃ M37, M37 = hs M35 (gb x v_ 0) (oB 2 [.int (iI (κ 1750)), .int (iI (κ 1752)), .int (iI (κ 1753)), .int (iI (κ 1754)), .int (iI (κ 1755)), .int (iI (κ 1756)), .int (iI (ν 1757)), .long (lI (ν 1751)), .ref (gb x v_ 8), .ref (gb x v_ 9), .ref (gb x v_ 10), .ref (gb x v_ 11), .ref (gb x v_ 12), .ref (gb x v_ 13), .ref (gb x v_ 14), .ref (gb x v_ 15), .ref (gb x v_ 16), .ref (gb x v_ 17), .ref (gb x v_ 18), .ref (gb x v_ 19), .ref (gb x v_ 20), .ref (gb x v_ 21)]) := ⟨_, rfl⟩
  have hH := XV_to hH e_M37.symm
  have f37 : M37 (gb x v_ 0) = some (oB 2 [.int (iI (κ 1750)), .int (iI (κ 1752)), .int (iI (κ 1753)), .int (iI (κ 1754)), .int (iI (κ 1755)), .int (iI (κ 1756)), .int (iI (ν 1757)), .long (lI (ν 1751)), .ref (gb x v_ 8), .ref (gb x v_ 9), .ref (gb x v_ 10), .ref (gb x v_ 11), .ref (gb x v_ 12), .ref (gb x v_ 13), .ref (gb x v_ 14), .ref (gb x v_ 15), .ref (gb x v_ 16), .ref (gb x v_ 17), .ref (gb x v_ 18), .ref (gb x v_ 19), .ref (gb x v_ 20), .ref (gb x v_ 21)]) := by rw [e_M37]; exact hs_s
  have f38 : M37 (gb x u_ 0) = some (oB 2 [.int (iI (κ 1750)), .int (iI (κ 1752)), .int (iI (κ 1753)), .int (iI (κ 1754)), .int (iI (κ 1755)), .int (iI (κ 1756)), .int (iI (κ 1757)), .long (lI (κ 1751)), .ref (gb x u_ 8), .ref (gb x u_ 9), .ref (gb x u_ 10), .ref (gb x u_ 11), .ref (gb x u_ 12), .ref (gb x u_ 13), .ref (gb x u_ 14), .ref (gb x u_ 15), .ref (gb x u_ 16), .ref (gb x u_ 17), .ref (gb x u_ 18), .ref (gb x u_ 19), .ref (gb x u_ 20), .ref (gb x u_ 21)]) := by rw [e_M37]; exact (hs_n hne0).trans f36
  have k_M37 := e_M37
  try rw [k_M35, hs_hs] at k_M37
  refine lv_aload_n hx hb dX1_take_48 rfl (lv_at hl 0 rfl) ?_
  refine lv_aload_n hx hb dX1_take_49 rfl (lv_at hl 1 rfl) ?_
  refine x_get hx hb hts in_X1 hown hK hH f38 rfl 6 (by decide) q173 (fun _ h9 => h9) rfl (by decide) dX1_take_50 ?_
  refine x_put (ty := .int) hx hb hts in_X1 tyX1 tyX1_ok nmX1 hown hK hH f37 rfl 6 (by decide) q173 (fun _ h9 => h9) rfl (by decide +kernel) rfl rfl (Nat.le_of_ble_eq_true rfl) (by decide) dX1_take_53 (fun H locs hH => ?_)
  obtain ⟨M39, e_M39⟩ : ∃ M39, M39 = hs M37 (gb x v_ 0) (oB 2 [.int (iI (κ 1750)), .int (iI (κ 1752)), .int (iI (κ 1753)), .int (iI (κ 1754)), .int (iI (κ 1755)), .int (iI (κ 1756)), .int (iI (κ 1757)), .long (lI (ν 1751)), .ref (gb x v_ 8), .ref (gb x v_ 9), .ref (gb x v_ 10), .ref (gb x v_ 11), .ref (gb x v_ 12), .ref (gb x v_ 13), .ref (gb x v_ 14), .ref (gb x v_ 15), .ref (gb x v_ 16), .ref (gb x v_ 17), .ref (gb x v_ 18), .ref (gb x v_ 19), .ref (gb x v_ 20), .ref (gb x v_ 21)]) := ⟨_, rfl⟩
  have hH := XV_to hH e_M39.symm
  have f39 : M39 (gb x v_ 0) = some (oB 2 [.int (iI (κ 1750)), .int (iI (κ 1752)), .int (iI (κ 1753)), .int (iI (κ 1754)), .int (iI (κ 1755)), .int (iI (κ 1756)), .int (iI (κ 1757)), .long (lI (ν 1751)), .ref (gb x v_ 8), .ref (gb x v_ 9), .ref (gb x v_ 10), .ref (gb x v_ 11), .ref (gb x v_ 12), .ref (gb x v_ 13), .ref (gb x v_ 14), .ref (gb x v_ 15), .ref (gb x v_ 16), .ref (gb x v_ 17), .ref (gb x v_ 18), .ref (gb x v_ 19), .ref (gb x v_ 20), .ref (gb x v_ 21)]) := by rw [e_M39]; exact hs_s
  have f40 : M39 (gb x u_ 0) = some (oB 2 [.int (iI (κ 1750)), .int (iI (κ 1752)), .int (iI (κ 1753)), .int (iI (κ 1754)), .int (iI (κ 1755)), .int (iI (κ 1756)), .int (iI (κ 1757)), .long (lI (κ 1751)), .ref (gb x u_ 8), .ref (gb x u_ 9), .ref (gb x u_ 10), .ref (gb x u_ 11), .ref (gb x u_ 12), .ref (gb x u_ 13), .ref (gb x u_ 14), .ref (gb x u_ 15), .ref (gb x u_ 16), .ref (gb x u_ 17), .ref (gb x u_ 18), .ref (gb x u_ 19), .ref (gb x u_ 20), .ref (gb x u_ 21)]) := by rw [e_M39]; exact (hs_n hne0).trans f38
  have k_M39 := e_M39
  try rw [k_M37, hs_hs] at k_M39
  refine lv_aload_n hx hb dX1_take_56 rfl (lv_at hl 0 rfl) ?_
  refine lv_aload_n hx hb dX1_take_57 rfl (lv_at hl 1 rfl) ?_
  refine x_get hx hb hts in_X1 hown hK hH f40 rfl 7 (by decide) q175 (fun _ h9 => h9) rfl (by decide) dX1_take_58 ?_
  refine x_put (ty := .long) hx hb hts in_X1 tyX1 tyX1_ok nmX1 hown hK hH f39 rfl 7 (by decide) q175 (fun _ h9 => h9) rfl (by decide +kernel) rfl rfl (Nat.le_of_ble_eq_true rfl) (by decide) dX1_take_61 (fun H locs hH => ?_)
  obtain ⟨M41, e_M41⟩ : ∃ M41, M41 = hs M39 (gb x v_ 0) (oB 2 [.int (iI (κ 1750)), .int (iI (κ 1752)), .int (iI (κ 1753)), .int (iI (κ 1754)), .int (iI (κ 1755)), .int (iI (κ 1756)), .int (iI (κ 1757)), .long (lI (κ 1751)), .ref (gb x v_ 8), .ref (gb x v_ 9), .ref (gb x v_ 10), .ref (gb x v_ 11), .ref (gb x v_ 12), .ref (gb x v_ 13), .ref (gb x v_ 14), .ref (gb x v_ 15), .ref (gb x v_ 16), .ref (gb x v_ 17), .ref (gb x v_ 18), .ref (gb x v_ 19), .ref (gb x v_ 20), .ref (gb x v_ 21)]) := ⟨_, rfl⟩
  have hH := XV_to hH e_M41.symm
  have f41 : M41 (gb x v_ 0) = some (oB 2 [.int (iI (κ 1750)), .int (iI (κ 1752)), .int (iI (κ 1753)), .int (iI (κ 1754)), .int (iI (κ 1755)), .int (iI (κ 1756)), .int (iI (κ 1757)), .long (lI (κ 1751)), .ref (gb x v_ 8), .ref (gb x v_ 9), .ref (gb x v_ 10), .ref (gb x v_ 11), .ref (gb x v_ 12), .ref (gb x v_ 13), .ref (gb x v_ 14), .ref (gb x v_ 15), .ref (gb x v_ 16), .ref (gb x v_ 17), .ref (gb x v_ 18), .ref (gb x v_ 19), .ref (gb x v_ 20), .ref (gb x v_ 21)]) := by rw [e_M41]; exact hs_s
  have f42 : M41 (gb x u_ 0) = some (oB 2 [.int (iI (κ 1750)), .int (iI (κ 1752)), .int (iI (κ 1753)), .int (iI (κ 1754)), .int (iI (κ 1755)), .int (iI (κ 1756)), .int (iI (κ 1757)), .long (lI (κ 1751)), .ref (gb x u_ 8), .ref (gb x u_ 9), .ref (gb x u_ 10), .ref (gb x u_ 11), .ref (gb x u_ 12), .ref (gb x u_ 13), .ref (gb x u_ 14), .ref (gb x u_ 15), .ref (gb x u_ 16), .ref (gb x u_ 17), .ref (gb x u_ 18), .ref (gb x u_ 19), .ref (gb x u_ 20), .ref (gb x u_ 21)]) := by rw [e_M41]; exact (hs_n hne0).trans f40
  have k_M41 := e_M41
  try rw [k_M39, hs_hs] at k_M41
  have hT0 : Tk G M M41 x x ω ω v_ κ 0 := Tk.st0 hD k_M41
  have hC0 : Cp ω ω u_ v_ [] := fun k hk => absurd hk (by simp)
  refine lv_aload_n hx hb dX1_take_64 rfl (lv_at hl 1 rfl) ?_
  refine x_get hx hb hts in_X1 hown hK hH (hT0.src hS hst (k := 0) (by decide)) rfl 8 (by decide) q177 (fun _ h9 => h9) rfl (by decide) dX1_take_65 ?_
  refine n_iconst hx hb dX1_take_68 ?_
  refine lv_aload_n hx hb dX1_take_69 rfl (lv_at hl 0 rfl) ?_
  refine x_get hx hb hts in_X1 hown hK hH hT0.d0 rfl 8 (by decide) q177 (fun _ h9 => h9) rfl (by decide) dX1_take_70 ?_
  refine n_iconst hx hb dX1_take_73 ?_
  refine n_bipush (z := 8) hx hb dX1_take_74 (by decide) ?_
  refine x_copyq (rest := []) hx hb hts (hml.trans hl.1.symm) hown q1428 q769 q768 q117 hK hXN hH (hT0.src hS hst (k := 8) (by decide)) (hT0.dst (k := 8) (by decide)) rfl rfl (by omega) (by omega) (by omega) (by omega) (by omega) ⟨by omega, by omega⟩ (hT0.el8 hSub hS.2.1) (Nat.le_of_ble_eq_true rfl) (Nat.le_of_ble_eq_true rfl) dX1_take_76 (fun H locs hH => ?_)
  obtain ⟨M43, e_M43⟩ : ∃ M43, M43 = hs M41 (gb x v_ 8) (aQ (G.2.1 5) 8 (cpZ (gq ω u_ 8) (gq ω v_ 8) 0 0 8)) := ⟨_, rfl⟩
  have hH := XV_to hH e_M43.symm
  have f43 : M43 (gb x v_ 8) = some (aQ (G.2.1 5) 8 (cpZ (gq ω u_ 8) (gq ω v_ 8) 0 0 8)) := by rw [e_M43]; exact hs_s
  obtain ⟨ω44, hR44, hC44⟩ : ∃ ω44, Tk G M M43 x x ω ω44 v_ κ 0 ∧ Cp ω ω44 u_ v_ (8 :: []) := ⟨qT ω v_ 8 (cpZ (gq ω u_ 8) (gq ω v_ 8) 0 0 8), by rw [e_M43]; exact hT0.cq (by decide) (congrArg (aQ (G.2.1 5) 8) qT_s), hC0.nq rfl rfl⟩
  refine n_iconst hx hb dX1_take_79 ?_
  refine lv_istore_n hx hb dX1_take_80 rfl hl (Nat.le_of_ble_eq_true rfl) (lv' := [(2, .int (iI 0)), (0, .ref (gb x v_ 0)), (1, .ref (gb x u_ 0))]) rfl (fun ls hl => ?_)
  have hl : lv_has ls 3 [(0, .ref (gb x v_ 0)), (1, .ref (gb x u_ 0)), (2, .int (iI 0))] := lv_sub hl [1, 2, 0] rfl
  refine W.widen (k := 3 * Int.toNat 0) (n := 27 * Int.toNat 0) (by omega) (by omega) ?_
  refine L81 42 M43 x ω44 0 ?_ ?_ ?_ ?_ ?_ _ _ _ hH hl
  · exact hR44
  · exact hC44
  · omega
  · omega
  · omega
