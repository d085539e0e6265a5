/-! Integer.bitCount -/
def uS (x y : Int32) : Int32 := (x.toUInt32 >>> (y.toUInt32 &&& Int32.toUInt32 31)).toInt32
def bc1 (x : Int32) : Int32 := x - (uS x 1 &&& 1431655765)
def bc2 (x : Int32) : Int32 := (x &&& 858993459) + (uS x 2 &&& 858993459)
def bc3 (x : Int32) : Int32 := (x + uS x 4) &&& 252645135
def bc4 (x : Int32) : Int32 := x + uS x 8
def bc5 (x : Int32) : Int32 := x + uS x 16
def bcF (x : Int32) : Int32 := bc5 (bc4 (bc3 (bc2 (bc1 x)))) &&& 63
def bcN (x : Int) : Int := (bcF (iI x)).toInt
theorem bc_t0 : ∀ i, i < 64 → ∀ j, j < 64 → bcF (iI ((64 * i + j : Nat) : Int)) = iI (onesN ((64 * i + j : Nat) : Int) 12) := by decide +kernel
theorem bc_t (n : Nat) (h : n < 4096) : bcF (iI (n : Nat)) = iI (onesN (n : Nat) 12) := by
  have e := bc_t0 (n / 64) (by omega) (n % 64) (by omega)
  rw [show 64 * (n / 64) + n % 64 = n by omega] at e
  exact e
theorem bcN_e {x : Int} (h0 : 0 ≤ x) (h1 : x < 4096) : bcN x = onesN x 12 := by
  obtain ⟨n, rfl⟩ : ∃ n : Nat, x = n := ⟨x.toNat, by omega⟩
  have r := onesN_r (n : Int) 12
  unfold bcN
  rw [bc_t n (by omega), iI_ti ⟨by omega, by omega⟩]
theorem bcN_r {x : Int} : R32 (bcN x) := R32_of _
theorem kd_J7_bitCount : yJ7_bitCount.cls = RJ7 ∧ yJ7_bitCount.cls ≠ "java/lang/invoke/MethodHandle" ∧ yJ7_bitCount.cls ≠ "java/lang/invoke/VarHandle" ∧ (parseMethodDescriptor yJ7_bitCount.desc).map (fun d => d.parameters.length) = some 1 := by decide +kernel
theorem xm_J7_bitCount (l : Launch) (G : MG) (M : Hp) (v : Int) (sz : Nat) : Met l yJ7_bitCount (ws_ yJ7_bitCount cJ7_bitCount 1 (some .int)) (rmD 1) (xP G XN [.int (iI v)] M sz) (xQi G (DA M sz) (fun z M' => z = bcN v ∧ M' = M)) 0 0 (DA M sz) := by
  refine x_start (by decide) (Nat.le_of_ble_eq_true rfl) ?_
  intro p e s m below meth c ⟨S, hr, hlk, hH, hK, hXN, hsz, hnm⟩ ls hl
  subst hsz
  obtain ⟨hx, hb, hml, hown, hts⟩ := S
  have hl : lv_has ls 1 [(0, .int (iI v))] := hl
  refine lv_iload_n hx hb dJ7_bitCount_0 rfl (lv_at hl 0 rfl) ?_
  refine lv_iload_n hx hb dJ7_bitCount_1 rfl (lv_at hl 0 rfl) ?_
  refine lv_iconst (v := 1) hx hb dJ7_bitCount_2 (by decide) ?_
  refine lv_iushr hx hb dJ7_bitCount_3 rfl ?_
  refine lv_ldcw hx hb hown (hts _ q1392) dJ7_bitCount_4 ?_
  refine lv_iand hx hb dJ7_bitCount_7 ?_
  refine lv_isub hx hb dJ7_bitCount_8 ?_
  refine lv_istore_n hx hb dJ7_bitCount_9 rfl hl (Nat.le_of_ble_eq_true rfl) (lv' := [(0, .int (bc1 (iI v)))]) rfl (fun ls hl => ?_)
  refine lv_iload_n hx hb dJ7_bitCount_10 rfl (lv_at hl 0 rfl) ?_
  refine lv_ldcw hx hb hown (hts _ q1393) dJ7_bitCount_11 ?_
  refine lv_iand hx hb dJ7_bitCount_14 ?_
  refine lv_iload_n hx hb dJ7_bitCount_15 rfl (lv_at hl 0 rfl) ?_
  refine lv_iconst (v := 2) hx hb dJ7_bitCount_16 (by decide) ?_
  refine lv_iushr hx hb dJ7_bitCount_17 rfl ?_
  refine lv_ldcw hx hb hown (hts _ q1393) dJ7_bitCount_18 ?_
  refine lv_iand hx hb dJ7_bitCount_21 ?_
  refine lv_iadd hx hb dJ7_bitCount_22 ?_
  refine lv_istore_n hx hb dJ7_bitCount_23 rfl hl (Nat.le_of_ble_eq_true rfl) (lv' := [(0, .int (bc2 (bc1 (iI v))))]) rfl (fun ls hl => ?_)
  refine lv_iload_n hx hb dJ7_bitCount_24 rfl (lv_at hl 0 rfl) ?_
  refine lv_iload_n hx hb dJ7_bitCount_25 rfl (lv_at hl 0 rfl) ?_
  refine lv_iconst (v := 4) hx hb dJ7_bitCount_26 (by decide) ?_
  refine lv_iushr hx hb dJ7_bitCount_27 rfl ?_
  refine lv_iadd hx hb dJ7_bitCount_28 ?_
  refine lv_ldcw hx hb hown (hts _ q1394) dJ7_bitCount_29 ?_
  refine lv_iand hx hb dJ7_bitCount_32 ?_
  refine lv_istore_n hx hb dJ7_bitCount_33 rfl hl (Nat.le_of_ble_eq_true rfl) (lv' := [(0, .int (bc3 (bc2 (bc1 (iI v)))))]) rfl (fun ls hl => ?_)
  refine lv_iload_n hx hb dJ7_bitCount_34 rfl (lv_at hl 0 rfl) ?_
  refine lv_iload_n hx hb dJ7_bitCount_35 rfl (lv_at hl 0 rfl) ?_
  refine lv_bipush (v := 8) hx hb dJ7_bitCount_36 (by decide) ?_
  refine lv_iushr hx hb dJ7_bitCount_38 rfl ?_
  refine lv_iadd hx hb dJ7_bitCount_39 ?_
  refine lv_istore_n hx hb dJ7_bitCount_40 rfl hl (Nat.le_of_ble_eq_true rfl) (lv' := [(0, .int (bc4 (bc3 (bc2 (bc1 (iI v))))))]) rfl (fun ls hl => ?_)
  refine lv_iload_n hx hb dJ7_bitCount_41 rfl (lv_at hl 0 rfl) ?_
  refine lv_iload_n hx hb dJ7_bitCount_42 rfl (lv_at hl 0 rfl) ?_
  refine lv_bipush (v := 16) hx hb dJ7_bitCount_43 (by decide) ?_
  refine lv_iushr hx hb dJ7_bitCount_45 rfl ?_
  refine lv_iadd hx hb dJ7_bitCount_46 ?_
  refine lv_istore_n hx hb dJ7_bitCount_47 rfl hl (Nat.le_of_ble_eq_true rfl) (lv' := [(0, .int (bc5 (bc4 (bc3 (bc2 (bc1 (iI v)))))))]) rfl (fun ls hl => ?_)
  refine lv_iload_n hx hb dJ7_bitCount_48 rfl (lv_at hl 0 rfl) ?_
  refine lv_bipush (v := 63) hx hb dJ7_bitCount_49 (by decide) ?_
  refine lv_iand hx hb dJ7_bitCount_51 ?_
  refine W.eq (g2 := F0 m 52 ls [.int (iI (bcN v))]) (by rw [bcN, ← iI_of]; rfl) ?_
  exact x_iret hx hb hr hlk hH dJ7_bitCount_52 ⟨rfl, rfl⟩
/-! how many commissions: a count that no cell's meaning rests on -/
theorem RX.b7 {G : MG} {M : Hp} {a : Nat} {σ : St} {x : XGh} {ω : XCt} (h : RX G M a σ x ω) (hW : WK (σ 2)) (h40 : F40 σ) {v : Int} : RX G (hs M (gb x 0 0) (oB 2 (bF (up (σ 2) 1757 v) x 0))) a (st σ 2 1757 v) x ω := by
  have hkm : 0 ∈ bKeys := by decide
  have hw := h.wb hkm
  have e2 : st σ 2 1757 v 2 = up (σ 2) 1757 v := st_f
  refine h.stQ (by omega) h40 (fun j hj => rfl) (st_n (by decide)) (st_n (by decide)) (st_n (by decide)) (st_n (by decide)) rfl rfl (fun b hb => ⟨rfl, rfl, rfl⟩) ?_
  rw [e2]
  refine ⟨Gp_cg (Gp_up h.ben.1 hkm) (fun j hj => ?_), RestB_cg h.ben.2.1 hW.1 hW.2.1 ?_ rfl (Ag_up (by omega)) (Ag_up (by omega)) (up_n (by omega)) (up_n (by omega)) (up_n (by omega)) (up_n (by omega)) (Ag_up (by omega)), fun g hg => ?_⟩
  · unfold upc bcell
    by_cases z : j = 0
    · rw [if_pos z, if_pos z]
    · rw [if_neg z, if_neg z, if_neg z]
  · obtain ⟨z1, z2, z3, z4, z5⟩ := h.z
    refine ⟨fun i i0 i1 => ?_, fun i i0 i1 => ?_, fun i i0 i1 => ?_, fun i i0 i1 => ?_, fun i i0 i1 => ?_⟩
    · rw [up_n (by omega), up_n (by omega)]; exact z1 i i0 i1
    · rw [up_n (by omega), up_n (by omega), up_n (by omega), up_n (by omega)]; exact z2 i i0 i1
    · rw [up_n (by omega)]; exact z3 i i0 i1
    · rw [up_n (by omega)]; exact z4 i i0 i1
    · rw [up_n (by omega)]; exact z5 i i0 i1
  · have hg : (g : Int) < σ 2 1753 := by rw [up_n (by omega)] at hg; exact hg
    have hfl := hW.2.2 g hg
    refine FlaskB_out (ω := ω) (FlaskB_cg (ω' := ω) (h.ben.2.2 g hg) rfl rfl (by omega) (Ag_up (by omega))) rfl rfl (fun j hj => by omega)
theorem WK_7 {σ : St} (h : WK (σ 2)) {v : Int} (hp : 0 ≤ v ∧ v ≤ 9) : WK (st σ 2 1757 v 2) := by
  rw [st_f]
  obtain ⟨h1, h2, h3⟩ := h
  refine ⟨?_, ?_, fun g hg => ?_⟩
  · unfold kCnt at *
    rw [up_n (by omega), up_n (by omega), up_n (by omega), up_n (by omega), up_n (by omega), up_n (by omega), up_n (by omega), up_s]
    exact ⟨h1.1, h1.2.1, h1.2.2.1, h1.2.2.2.1, h1.2.2.2.2.1, h1.2.2.2.2.2.1, h1.2.2.2.2.2.2.1, hp⟩
  · exact ⟨fun k a b => by rw [up_n (by omega)]; exact h2.1 k a b, fun k a b => by rw [up_n (by omega)]; exact h2.2.1 k a b, fun k a b => by rw [up_n (by omega)]; exact h2.2.2 k a b⟩
  · unfold kCnt at h1
    rw [up_n (by omega)] at hg
    rw [up_n (by omega)]
    exact h3 g hg
