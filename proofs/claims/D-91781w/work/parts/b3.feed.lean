def tS (τ : St) (w : Int) : St := st (st τ 7 (τ 9 0) w) 9 0 (τ 9 0 + 1)
def gN (v : Int) : Nat → St → St
  | 0, τ => τ
  | m + 1, τ => gN v m (tS τ (b8 (v / 2 ^ (8 * m))))
theorem gN_9 {v : Int} : ∀ (m : Nat) (τ : St), gN v m τ 9 0 = τ 9 0 + m
  | 0, τ => by show τ 9 0 = τ 9 0 + ((0 : Nat) : Int); omega
  | m + 1, τ => by
    rw [gN, gN_9 m]
    show τ 9 0 + 1 + (m : Int) = τ 9 0 + ((m + 1 : Nat) : Int)
    omega
theorem gN_n {v : Int} {f : Nat} (h : f ≠ 7 ∧ f ≠ 9) : ∀ (m : Nat) (τ : St), gN v m τ f = τ f
  | 0, τ => rfl
  | m + 1, τ => by
    rw [gN, gN_n h m]
    unfold tS
    rw [st_n h.2, st_n h.1]
theorem gN_o {v j : Int} : ∀ (m : Nat) (τ : St), (j < τ 9 0 ∨ τ 9 0 + m ≤ j) → gN v m τ 7 j = τ 7 j
  | 0, τ, _ => rfl
  | m + 1, τ, h => by
    have e9 : tS τ (b8 (v / 2 ^ (8 * m))) 9 0 = τ 9 0 + 1 := rfl
    rw [gN, gN_o m _ (by rw [e9]; omega)]
    show st (st τ 7 (τ 9 0) _) 9 0 _ 7 j = _
    rw [st_n (by decide), st_i (by omega)]
theorem gN_i {v : Int} : ∀ (m k : Nat) (τ : St), k < m → gN v m τ 7 (τ 9 0 + k) = b8 (v / 2 ^ (8 * (m - 1 - k)))
  | 0, k, τ, h => by omega
  | m + 1, k, τ, h => by
    have e9 : tS τ (b8 (v / 2 ^ (8 * m))) 9 0 = τ 9 0 + 1 := rfl
    rw [gN]
    cases k with
    | zero =>
      rw [gN_o m _ (by rw [e9]; omega)]
      show st (st τ 7 (τ 9 0) _) 9 0 _ 7 (τ 9 0 + ((0 : Nat) : Int)) = _
      rw [st_n (by decide), show τ 9 0 + ((0 : Nat) : Int) = τ 9 0 by omega, st_s]
      rfl
    | succ k =>
      have := gN_i (v := v) m k (tS τ (b8 (v / 2 ^ (8 * m)))) (by omega)
      rw [e9] at this
      rw [show τ 9 0 + ((k + 1 : Nat) : Int) = τ 9 0 + 1 + (k : Int) by omega, this, show m + 1 - 1 - (k + 1) = m - 1 - k by omega]
theorem kd_X0_four : yX0_four.cls = RX0 ∧ yX0_four.cls ≠ "java/lang/invoke/MethodHandle" ∧ yX0_four.cls ≠ "java/lang/invoke/VarHandle" ∧ (parseMethodDescriptor yX0_four.desc).map (fun d => d.parameters.length) = some 1 := by decide +kernel
theorem xm_X0_four (l : Launch) (G : MG) (M : Hp) (σ : St) (x : XGh) (ω : XCt) (a : Nat) (v : Int) (sz : Nat) (hR : RX G M a σ x ω) (h_v : R32 v) (h0 : 0 ≤ σ 9 0) (h1 : σ 9 0 + 4 ≤ 400) : Met l yX0_four (ws_ yX0_four cX0_four 3 none) (rmD 1) (xP G XN [.ref a, .int (iI v)] M sz) (xQv G (DA M sz) (fun M' => ∃ ω', RX G M' a (gN v 4 σ) x ω')) 0 0 (DA M sz) := by
  refine x_start (by decide) (Nat.le_of_ble_eq_true rfl) ?_
  intro p e s m below meth c ⟨S, hr, hlk, hH, hK, hXN, hsz, hnm⟩ ls hl
  subst hsz
  obtain ⟨hx, hb, hml, hown, hts⟩ := S
  have S : CallFix p m c _ _ s _ lw_all RX0 := ⟨hx, hb, hml, hown, hts⟩
  have hA : ∀ q, s.heap.size ≤ q → DA M s.heap.size q := fun q hq => Or.inr hq
  have hl : lv_has ls 3 [(0, .ref a), (1, .int (iI v))] := hl
  have h_v := R32.n h_v
  have L3 : ∀ (q : Nat) (N1 : Hp) (τ : St) (ω1 : XCt) (by_ : Int), (hR1 : RX G N1 a τ x ω1) → (hby : by_ = 24 ∨ by_ = 16 ∨ by_ = 8 ∨ by_ = 0 ∨ by_ = -8) → (ht : 0 ≤ τ 9 0 ∧ 8 * τ 9 0 + by_ + 8 ≤ 3200) → (hq : by_ < 8 * (q : Int) - 16) → (he : gN v 4 σ = gN v ((by_ + 8) / 8).toNat τ) → ∀ (H : Heap) (locs : List Loc) (ls : Array Slot), XV G (DA M s.heap.size) N1 s.heap H locs → lv_has ls 3 [(0, .ref a), (1, .int (iI v)), (2, .int (iI by_))] → W p l e (rmD 1) s m ([.ref a, .int (iI v)] : List Value).toArray below meth c H locs 0 0 (MQ below (xQv G (DA M s.heap.size) (fun M' => ∃ ω', RX G M' a (gN v 4 σ) x ω')) ([.ref a, .int (iI v)] : List Value).toArray s 0 0 (DA M s.heap.size)) (F0 m 3 ls []) := by
    intro q
    induction q with
    | zero => intro N1 τ ω1 by_ hR1 hby ht hq he; exfalso; omega
    | succ q ih_3 =>
      intro N1 τ ω1 by_ hR1 hby ht hq he H locs ls hH hl
      refine lv_iload_n hx hb dX0_four_3 rfl (lv_at hl 2 rfl) ?_
      refine n_if_lt (tgt := 36) hx hb (r32 (by omega)) dX0_four_4 (by decide) (fun c_4 => ?_) (fun c_4 => ?_)
      · -- 4T
        refine x_vret hx hb hr hlk hH dX0_four_36 ?_
        rw [he, show ((by_ + 8) / 8).toNat = 0 by omega]
        exact ⟨_, hR1⟩
      · -- 4F
        refine lv_aload_n hx hb dX0_four_7 rfl (lv_at hl 0 rfl) ?_
        refine x_get hx hb hts in_X0 hown hK hH hR1.o rfl 5 (by decide) q345 (fun _ h9 => h9) rfl (by decide) dX0_four_8 ?_
        refine lv_aload_n hx hb dX0_four_11 rfl (lv_at hl 0 rfl) ?_
        refine x_get hx hb hts in_X0 hown hK hH hR1.o rfl 6 (by decide) q347 (fun _ h9 => h9) rfl (by decide) dX0_four_12 ?_
        refine lv_iload_n hx hb dX0_four_15 rfl (lv_at hl 1 rfl) ?_
        refine lv_iload_n hx hb dX0_four_16 rfl (lv_at hl 2 rfl) ?_
        refine n_ishr hx hb (r32 (by omega)) (by omega) (by omega) dX0_four_17 ?_
        refine n_i2b hx hb dX0_four_18 ?_
        refine x_bast hx hb hK hH hR1.p5 (b8_r _) (by omega) (by omega) (Nat.le_of_ble_eq_true rfl) dX0_four_19 (fun H locs hH => ?_)
        obtain ⟨M1, e_M1⟩ : ∃ M1, M1 = hs N1 (gp x 5) (aI (G.2.1 1) 400 (up (gy ω1 5) (τ 9 0) (b8 (v / 2 ^ by_.toNat)))) := ⟨_, rfl⟩
        have hH := XV_to hH e_M1.symm
        have f1 : M1 (gp x 5) = some (aI (G.2.1 1) 400 (up (gy ω1 5) (τ 9 0) (b8 (v / 2 ^ by_.toNat)))) := by rw [e_M1]; exact hs_s
        obtain ⟨ω2, hR2⟩ : ∃ ω2, RX G M1 a (st τ 7 (τ 9 0) (b8 (v / 2 ^ by_.toNat))) x ω2 := ⟨_, by rw [e_M1]; exact hR1.tap (i := (τ 9 0)) (v := (b8 (v / 2 ^ by_.toNat)))⟩
        refine lv_aload_n hx hb dX0_four_20 rfl (lv_at hl 0 rfl) ?_
        refine lv_dup hx hb dX0_four_21 rfl ?_
        refine x_get hx hb hts in_X0 hown hK hH hR2.o rfl 6 (by decide) q347 (fun _ h9 => h9) rfl (by decide) dX0_four_22 ?_
        refine n_iconst hx hb dX0_four_25 ?_
        refine n_iadd hx hb dX0_four_26 ?_
        refine x_put (ty := .int) hx hb hts in_X0 tyX0 tyX0_ok nmX0 hown hK hH hR2.o rfl 6 (by decide) q347 (fun _ h9 => h9) rfl (by decide +kernel) rfl rfl (Nat.le_of_ble_eq_true rfl) (by decide) dX0_four_27 (fun H locs hH => ?_)
        obtain ⟨M3, e_M3⟩ : ∃ M3, M3 = hs M1 a (oB 1 [.ref (gb x 0 0), .ref (gp x 1), .ref (gp x 2), .int (iI ((st τ 7 (τ 9 0) (b8 (v / 2 ^ by_.toNat))) 0 0)), .ref (gp x 4), .ref (gp x 5), .int (iI (((st τ 7 (τ 9 0) (b8 (v / 2 ^ by_.toNat))) 9 0) + 1)), .ref (gp x 7), .int (iI ((st τ 7 (τ 9 0) (b8 (v / 2 ^ by_.toNat))) 10 0)), .ref (gp x 9), .ref (gp x 10), .ref (gp x 11), .long (lI (gl ω2))]) := ⟨_, rfl⟩
        have hH := XV_to hH e_M3.symm
        have f3 : M3 a = some (oB 1 [.ref (gb x 0 0), .ref (gp x 1), .ref (gp x 2), .int (iI ((st τ 7 (τ 9 0) (b8 (v / 2 ^ by_.toNat))) 0 0)), .ref (gp x 4), .ref (gp x 5), .int (iI (((st τ 7 (τ 9 0) (b8 (v / 2 ^ by_.toNat))) 9 0) + 1)), .ref (gp x 7), .int (iI ((st τ 7 (τ 9 0) (b8 (v / 2 ^ by_.toNat))) 10 0)), .ref (gp x 9), .ref (gp x 10), .ref (gp x 11), .long (lI (gl ω2))]) := by rw [e_M3]; exact hs_s
        obtain ⟨ω4, hR4⟩ : ∃ ω4, RX G M3 a (st (st τ 7 (τ 9 0) (b8 (v / 2 ^ by_.toNat))) 9 0 (((st τ 7 (τ 9 0) (b8 (v / 2 ^ by_.toNat))) 9 0) + 1)) x ω4 := ⟨_, by rw [e_M3]; exact hR2.x0 (f := 9) (v := (((st τ 7 (τ 9 0) (b8 (v / 2 ^ by_.toNat))) 9 0) + 1)) (by decide)⟩
        refine n_iinc hx hb dX0_four_30 hl (k := 2) rfl (Nat.le_of_ble_eq_true rfl) (lv' := [(2, .int (iI (by_ + (-8)))), (0, .ref a), (1, .int (iI v))]) rfl (fun ls hl => ?_)
        refine lv_goto (tgt := 3) hx hb dX0_four_33 (by decide) ?_
        have hl : lv_has ls 3 [(0, .ref a), (1, .int (iI v)), (2, .int (iI (by_ + (-8))))] := lv_sub hl [1, 2, 0] rfl
        refine ih_3 M3 (st (st τ 7 (τ 9 0) (b8 (v / 2 ^ by_.toNat))) 9 0 (((st τ 7 (τ 9 0) (b8 (v / 2 ^ by_.toNat))) 9 0) + 1)) ω4 (by_ + (-8)) ?_ ?_ ?_ ?_ ?_ _ _ _ hH hl
        · exact hR4
        · omega
        · show 0 ≤ τ 9 0 + 1 ∧ 8 * (τ 9 0 + 1) + (by_ + (-8)) + 8 ≤ 3200
          omega
        · omega
        · rcases hby with z | z | z | z | z <;> subst z <;> first | (exfalso; omega) | exact he.trans rfl
  refine n_bipush (z := 24) hx hb dX0_four_0 (by decide) ?_
  refine lv_istore_n hx hb dX0_four_2 rfl hl (Nat.le_of_ble_eq_true rfl) (lv' := [(2, .int (iI 24)), (0, .ref a), (1, .int (iI v))]) rfl (fun ls hl => ?_)
  have hl : lv_has ls 3 [(0, .ref a), (1, .int (iI v)), (2, .int (iI 24))] := lv_sub hl [1, 2, 0] rfl
  refine L3 10 M σ ω 24 ?_ ?_ ?_ ?_ ?_ _ _ _ hH hl
  · exact hR
  · omega
  · omega
  · omega
  · rfl
