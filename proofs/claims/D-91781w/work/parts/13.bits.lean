/-! division, bits, comparisons of longs -/
def bAnd (a b : Int) : Int := (iI a &&& iI b).toInt
def bOr (a b : Int) : Int := (iI a ||| iI b).toInt
def bXor (a b : Int) : Int := (iI a ^^^ iI b).toInt
def b8 (x : Int) : Int := Int.bmod x 256
theorem bAnd_r {a b : Int} : R32 (bAnd a b) := R32_of _
theorem bOr_r {a b : Int} : R32 (bOr a b) := R32_of _
theorem bXor_r {a b : Int} : R32 (bXor a b) := R32_of _
theorem b8_r (x : Int) : -128 ≤ b8 x ∧ b8 x < 128 := by
  unfold b8
  have h1 := Int.le_bmod (x := x) (m := 256) (by omega)
  have h2 := Int.bmod_lt (x := x) (m := 256) (by omega)
  omega
theorem iI_div {x y : Int} (hx : 0 ≤ x) (hy : 0 < y) (h : x < 2147483648) (h2 : y < 2147483648) : iI x / iI y = iI (x / y) := by
  apply Int32.toInt_inj.mp
  have hq : x / y ≤ x := Int.ediv_le_self y hx
  have hq0 : 0 ≤ x / y := Int.ediv_nonneg hx (by omega)
  rw [Int32.toInt_div_of_ne_right _ _ (by
    intro z
    have := congrArg Int32.toInt z
    rw [iI_ti ⟨by omega, by omega⟩] at this
    have e : (-1 : Int32).toInt = -1 := by decide
    omega), iI_ti ⟨by omega, by omega⟩, iI_ti ⟨by omega, by omega⟩, iI_ti ⟨by omega, by omega⟩]
  exact Int.tdiv_eq_ediv_of_nonneg hx
theorem iI_ne0 {y : Int} (h0 : 0 < y) (h : y < 2147483648) : ¬ iI y = 0 := fun z => by
  have := (iI_eq (a := y) (b := 0) ⟨by omega, by omega⟩ (by unfold R32; omega)).mp z
  omega
theorem lI_ne0 {y : Int} (hr : R64 y) (h0 : y ≠ 0) : ¬ lI y = 0 := fun z => h0 ((lI_eq (a := y) (b := 0) hr (by unfold R64; omega)).mp z)
theorem lI_div {x y : Int} (hx : R64 x) (hy : R64 y) (hd : R64 (Int.tdiv x y)) : lI x / lI y = lI (Int.tdiv x y) := by
  apply Int64.toInt_inj.mp
  rw [Int64.toInt_div, lI_ti hx, lI_ti hy, lI_ti hd]
  have := hd.1
  have := hd.2
  exact Int.bmod_eq_of_le (by omega) (by omega)
theorem lI_mod {x y : Int} (hx : R64 x) (hy : R64 y) (hd : R64 (Int.tdiv x y)) : lI x - lI x / lI y * lI y = lI (Int.tmod x y) := by
  rw [lI_div hx hy hd, lI_mul, lI_sub]
  congr 1
  have := Int.mul_tdiv_add_tmod x y
  rw [Int.mul_comm] at this
  omega
theorem iI_rem {x y : Int} (hx : 0 ≤ x) (hy : 0 < y) (h : x < 2147483648) (h2 : y < 2147483648) : iI x - iI x / iI y * iI y = iI (x % y) := by
  rw [iI_div hx hy h h2, iI_mul, iI_sub]
  congr 1
  have := Int.mul_ediv_add_emod x y
  rw [Int.mul_comm] at this
  omega
theorem iI_tn (x : Int) : (iI x).toBitVec.toNat = (x % 4294967296).toNat := by
  show (BitVec.ofInt 32 x).toNat = _
  rw [BitVec.toNat_ofInt]
  rfl
theorem iI_low {x : Int} {m : Int32} (k : Nat) (hk : k ≤ 31) (hm : m.toBitVec.toNat = 2 ^ k - 1) : iI x &&& m = iI (x % (2 ^ k : Nat)) := by
  rw [pk_and _ k hm, iI_tn]
  show Int32.ofNat _ = Int32.ofInt _
  rw [← Int32.ofInt_eq_ofNat]
  congr 1
  have h0 : (0 : Int) < ((2 ^ k : Nat) : Int) := by exact_mod_cast Nat.two_pow_pos k
  have hd : ((2 ^ k : Nat) : Int) ∣ 4294967296 := by
    have : (2 ^ k) ∣ 2 ^ 32 := Nat.pow_dvd_pow 2 (by omega)
    exact Int.natCast_dvd_natCast.mpr this
  rw [Int.natCast_emod, Int.toNat_of_nonneg (Int.emod_nonneg _ (by omega)), Int.emod_emod_of_dvd _ hd]
theorem sh_l : ∀ n, n < 32 → ((Int32.ofNat n &&& 31).toBitVec.smod 32).toNat = n := by decide +kernel
theorem iI_shl {x y : Int} (h0 : 0 ≤ y) (h : y < 32) : iI x <<< (iI y &&& 31) = iI (x * 2 ^ y.toNat) := by
  obtain ⟨n, rfl⟩ : ∃ n : Nat, y = n := ⟨y.toNat, by omega⟩
  have e : iI (n : Int) = Int32.ofNat n := Int32.ofInt_eq_ofNat
  apply Int32.toBitVec_inj.mp
  apply BitVec.eq_of_toNat_eq
  rw [pk_shl _ _ n (by rw [e]; exact sh_l n (by omega)), iI_tn, iI_tn, Int.toNat_natCast]
  have e1 : (((x % 4294967296).toNat * 2 ^ n % 2 ^ 32 : Nat) : Int) = ((x * 2 ^ n % 4294967296).toNat : Int) := by
    rw [Int.toNat_of_nonneg (Int.emod_nonneg _ (by omega)), Int.natCast_emod, Int.natCast_mul, Int.toNat_of_nonneg (Int.emod_nonneg _ (by omega)), Int.natCast_pow]
    show (x % 4294967296 * 2 ^ n) % 4294967296 = _
    rw [Int.mul_emod, Int.emod_emod_of_dvd _ (Int.dvd_refl _), ← Int.mul_emod]
  exact Int.ofNat_inj.mp e1
theorem iI_shr {x y : Int} (hr : R32 x) (h0 : 0 ≤ y) (h : y < 32) : iI x >>> (iI y &&& 31) = iI (x / 2 ^ y.toNat) := by
  obtain ⟨n, rfl⟩ : ∃ n : Nat, y = n := ⟨y.toNat, by omega⟩
  have e : iI (n : Int) = Int32.ofNat n := Int32.ofInt_eq_ofNat
  rw [iI_of (iI x >>> (iI (n : Int) &&& 31)), pk_shr _ _ n (by rw [e]; exact sh_l n (by omega)), iI_ti hr, Int.shiftRight_eq_div_pow, Int.toNat_natCast, Int.natCast_pow]
  rfl
theorem i2b_I (x : Int) : (iI x).toInt8.toInt32 = iI (b8 x) := by
  rw [iI_of ((iI x).toInt8.toInt32), Int8.toInt_toInt32, show (iI x).toInt8 = Int8.ofInt x from Int32.toInt8_ofInt, Int8.toInt_ofInt]
  rfl
theorem sw_cases {z : Int} (lo hi : Int) (_ : lo ≤ hi) : (z < lo ∨ hi < z) ∨ (lo ≤ z ∧ z ≤ hi) := by omega
section GB
variable {p : Program} {l : Launch} {e : Env} {R : Room} {s : State} {m : MethodId} {args : Array Value} {below : List Frame} {meth : Method} {c : Code} {H : Heap} {locs : List Loc} {cells slots : Nat} {Q : State → Prop}
variable {cc : ByteArray} {pc : Nat} {ls : Array Slot} {rest : List Value}
theorem n_idiv (hx : p.tables.exec = Jvm.exec) (hb : c.code = cc) {x y : Int} (h0 : 0 ≤ x) (hy : 0 < y) (hr : R32 x) (h2 : y < 2147483648) (d : decode cc pc = .ok (.idiv, 1)) (k : W p l e R s m args below meth c H locs cells slots Q (F0 m (pc + 1) ls (.int (iI (x / y)) :: rest))) : W p l e R s m args below meth c H locs cells slots Q (F0 m pc ls (.int (iI y) :: .int (iI x) :: rest)) := lv_idiv hx hb d (iI_ne0 hy h2) (by rw [iI_div h0 hy hr.2 h2]; exact k)
theorem n_irem (hx : p.tables.exec = Jvm.exec) (hb : c.code = cc) {x y : Int} (h0 : 0 ≤ x) (hy : 0 < y) (hr : R32 x) (h2 : y < 2147483648) (d : decode cc pc = .ok (.irem, 1)) (k : W p l e R s m args below meth c H locs cells slots Q (F0 m (pc + 1) ls (.int (iI (x % y)) :: rest))) : W p l e R s m args below meth c H locs cells slots Q (F0 m pc ls (.int (iI y) :: .int (iI x) :: rest)) := lv_irem hx hb d (iI_ne0 hy h2) (by rw [iI_rem h0 hy hr.2 h2]; exact k)
theorem n_ldiv (hx : p.tables.exec = Jvm.exec) (hb : c.code = cc) {x y : Int} (h0 : y ≠ 0) (hr : R64 x) (hy : R64 y) (hd : R64 (Int.tdiv x y)) (d : decode cc pc = .ok (.ldiv, 1)) (k : W p l e R s m args below meth c H locs cells slots Q (F0 m (pc + 1) ls (.long (lI (Int.tdiv x y)) :: rest))) : W p l e R s m args below meth c H locs cells slots Q (F0 m pc ls (.long (lI y) :: .long (lI x) :: rest)) := lv_ldiv hx hb d (lI_ne0 hy h0) (by rw [lI_div hr hy hd]; exact k)
theorem n_lrem (hx : p.tables.exec = Jvm.exec) (hb : c.code = cc) {x y : Int} (h0 : y ≠ 0) (hr : R64 x) (hy : R64 y) (hd : R64 (Int.tdiv x y)) (d : decode cc pc = .ok (.lrem, 1)) (k : W p l e R s m args below meth c H locs cells slots Q (F0 m (pc + 1) ls (.long (lI (Int.tmod x y)) :: rest))) : W p l e R s m args below meth c H locs cells slots Q (F0 m pc ls (.long (lI y) :: .long (lI x) :: rest)) := lv_lrem hx hb d (lI_ne0 hy h0) (by rw [lI_mod hr hy hd]; exact k)
theorem n_ishl (hx : p.tables.exec = Jvm.exec) (hb : c.code = cc) {x y : Int} (h0 : 0 ≤ y) (h : y < 32) (d : decode cc pc = .ok (.ishl, 1)) (k : W p l e R s m args below meth c H locs cells slots Q (F0 m (pc + 1) ls (.int (iI (x * 2 ^ y.toNat)) :: rest))) : W p l e R s m args below meth c H locs cells slots Q (F0 m pc ls (.int (iI y) :: .int (iI x) :: rest)) := lv_ishl hx hb d (by rw [iI_shl h0 h]; exact k)
theorem n_ishr (hx : p.tables.exec = Jvm.exec) (hb : c.code = cc) {x y : Int} (hr : R32 x) (h0 : 0 ≤ y) (h : y < 32) (d : decode cc pc = .ok (.ishr, 1)) (k : W p l e R s m args below meth c H locs cells slots Q (F0 m (pc + 1) ls (.int (iI (x / 2 ^ y.toNat)) :: rest))) : W p l e R s m args below meth c H locs cells slots Q (F0 m pc ls (.int (iI y) :: .int (iI x) :: rest)) := lv_ishr hx hb d (by rw [iI_shr hr h0 h]; exact k)
theorem n_and1 (hx : p.tables.exec = Jvm.exec) (hb : c.code = cc) {x : Int} (d : decode cc pc = .ok (.iand, 1)) (k : W p l e R s m args below meth c H locs cells slots Q (F0 m (pc + 1) ls (.int (iI (x % 2)) :: rest))) : W p l e R s m args below meth c H locs cells slots Q (F0 m pc ls (.int (iI 1) :: .int (iI x) :: rest)) := lv_iand hx hb d (by rw [iI_low (m := iI 1) 1 (by omega) (by decide)]; exact k)
theorem n_and255 (hx : p.tables.exec = Jvm.exec) (hb : c.code = cc) {x : Int} (d : decode cc pc = .ok (.iand, 1)) (k : W p l e R s m args below meth c H locs cells slots Q (F0 m (pc + 1) ls (.int (iI (x % 256)) :: rest))) : W p l e R s m args below meth c H locs cells slots Q (F0 m pc ls (.int (iI 255) :: .int (iI x) :: rest)) := lv_iand hx hb d (by rw [iI_low (m := iI 255) 8 (by omega) (by decide)]; exact k)
theorem n_and63 (hx : p.tables.exec = Jvm.exec) (hb : c.code = cc) {x : Int} (d : decode cc pc = .ok (.iand, 1)) (k : W p l e R s m args below meth c H locs cells slots Q (F0 m (pc + 1) ls (.int (iI (x % 64)) :: rest))) : W p l e R s m args below meth c H locs cells slots Q (F0 m pc ls (.int (iI 63) :: .int (iI x) :: rest)) := lv_iand hx hb d (by rw [iI_low (m := iI 63) 6 (by omega) (by decide)]; exact k)
theorem n_iand (hx : p.tables.exec = Jvm.exec) (hb : c.code = cc) {x y : Int} (d : decode cc pc = .ok (.iand, 1)) (k : W p l e R s m args below meth c H locs cells slots Q (F0 m (pc + 1) ls (.int (iI (bAnd x y)) :: rest))) : W p l e R s m args below meth c H locs cells slots Q (F0 m pc ls (.int (iI y) :: .int (iI x) :: rest)) := lv_iand hx hb d (by rw [iI_of (iI x &&& iI y)]; exact k)
theorem n_ior (hx : p.tables.exec = Jvm.exec) (hb : c.code = cc) {x y : Int} (d : decode cc pc = .ok (.ior, 1)) (k : W p l e R s m args below meth c H locs cells slots Q (F0 m (pc + 1) ls (.int (iI (bOr x y)) :: rest))) : W p l e R s m args below meth c H locs cells slots Q (F0 m pc ls (.int (iI y) :: .int (iI x) :: rest)) := lv_ior hx hb d (by rw [iI_of (iI x ||| iI y)]; exact k)
theorem n_ixor (hx : p.tables.exec = Jvm.exec) (hb : c.code = cc) {x y : Int} (d : decode cc pc = .ok (.ixor, 1)) (k : W p l e R s m args below meth c H locs cells slots Q (F0 m (pc + 1) ls (.int (iI (bXor x y)) :: rest))) : W p l e R s m args below meth c H locs cells slots Q (F0 m pc ls (.int (iI y) :: .int (iI x) :: rest)) := lv_ixor hx hb d (by rw [iI_of (iI x ^^^ iI y)]; exact k)
theorem n_i2b (hx : p.tables.exec = Jvm.exec) (hb : c.code = cc) {x : Int} (d : decode cc pc = .ok (.i2b, 1)) (k : W p l e R s m args below meth c H locs cells slots Q (F0 m (pc + 1) ls (.int (iI (b8 x)) :: rest))) : W p l e R s m args below meth c H locs cells slots Q (F0 m pc ls (.int (iI x) :: rest)) := lv_i2b hx hb d (i2b_I x) k
theorem n_lcmp_lt (hx : p.tables.exec = Jvm.exec) (hb : c.code = cc) {x y : Int} {off : Int} {tgt : Nat} (hr : R64 x) (hy : R64 y) (d : decode cc pc = .ok (.lcmp, 1)) (d2 : decode cc (pc + 1) = .ok (.ifCond .lt off, 3)) (ht : ((pc + 1 : Nat) : Int) + off = (tgt : Int)) (kt : x < y → W p l e R s m args below meth c H locs cells slots Q (F0 m tgt ls rest)) (kf : ¬ x < y → W p l e R s m args below meth c H locs cells slots Q (F0 m (pc + 1 + 3) ls rest)) : W p l e R s m args below meth c H locs cells slots Q (F0 m pc ls (.long (lI y) :: .long (lI x) :: rest)) :=
  W.lcmp hx hb d (lv_if_lt hx hb d2 ht (fun q => kt ((lI_lt hr hy).mp ((lg_cmp_lt _ _).mp q))) (fun q => kf (fun z => q ((lg_cmp_lt _ _).mpr ((lI_lt hr hy).mpr z)))))
theorem n_lcmp_ge (hx : p.tables.exec = Jvm.exec) (hb : c.code = cc) {x y : Int} {off : Int} {tgt : Nat} (hr : R64 x) (hy : R64 y) (d : decode cc pc = .ok (.lcmp, 1)) (d2 : decode cc (pc + 1) = .ok (.ifCond .ge off, 3)) (ht : ((pc + 1 : Nat) : Int) + off = (tgt : Int)) (kt : y ≤ x → W p l e R s m args below meth c H locs cells slots Q (F0 m tgt ls rest)) (kf : ¬ y ≤ x → W p l e R s m args below meth c H locs cells slots Q (F0 m (pc + 1 + 3) ls rest)) : W p l e R s m args below meth c H locs cells slots Q (F0 m pc ls (.long (lI y) :: .long (lI x) :: rest)) :=
  W.lcmp hx hb d (lv_if_ge hx hb d2 ht (fun q => kt ((lI_le hy hr).mp ((lg_cmp_ge _ _).mp q))) (fun q => kf (fun z => q ((lg_cmp_ge _ _).mpr ((lI_le hy hr).mpr z)))))
theorem n_lcmp_gt (hx : p.tables.exec = Jvm.exec) (hb : c.code = cc) {x y : Int} {off : Int} {tgt : Nat} (hr : R64 x) (hy : R64 y) (d : decode cc pc = .ok (.lcmp, 1)) (d2 : decode cc (pc + 1) = .ok (.ifCond .gt off, 3)) (ht : ((pc + 1 : Nat) : Int) + off = (tgt : Int)) (kt : y < x → W p l e R s m args below meth c H locs cells slots Q (F0 m tgt ls rest)) (kf : ¬ y < x → W p l e R s m args below meth c H locs cells slots Q (F0 m (pc + 1 + 3) ls rest)) : W p l e R s m args below meth c H locs cells slots Q (F0 m pc ls (.long (lI y) :: .long (lI x) :: rest)) :=
  W.lcmp hx hb d (lv_if_gt hx hb d2 ht (fun q => kt ((lI_lt hy hr).mp ((lg_cmp_gt _ _).mp q))) (fun q => kf (fun z => q ((lg_cmp_gt _ _).mpr ((lI_lt hy hr).mpr z)))))
theorem n_lcmp_le (hx : p.tables.exec = Jvm.exec) (hb : c.code = cc) {x y : Int} {off : Int} {tgt : Nat} (hr : R64 x) (hy : R64 y) (d : decode cc pc = .ok (.lcmp, 1)) (d2 : decode cc (pc + 1) = .ok (.ifCond .le off, 3)) (ht : ((pc + 1 : Nat) : Int) + off = (tgt : Int)) (kt : x ≤ y → W p l e R s m args below meth c H locs cells slots Q (F0 m tgt ls rest)) (kf : ¬ x ≤ y → W p l e R s m args below meth c H locs cells slots Q (F0 m (pc + 1 + 3) ls rest)) : W p l e R s m args below meth c H locs cells slots Q (F0 m pc ls (.long (lI y) :: .long (lI x) :: rest)) :=
  W.lcmp hx hb d (lv_if_le hx hb d2 ht (fun q => kt ((lI_le hr hy).mp ((lg_cmp_le _ _).mp q))) (fun q => kf (fun z => q ((lg_cmp_le _ _).mpr ((lI_le hr hy).mpr z)))))
theorem n_lcmp_eq (hx : p.tables.exec = Jvm.exec) (hb : c.code = cc) {x y : Int} {off : Int} {tgt : Nat} (hr : R64 x) (hy : R64 y) (d : decode cc pc = .ok (.lcmp, 1)) (d2 : decode cc (pc + 1) = .ok (.ifCond .eq off, 3)) (ht : ((pc + 1 : Nat) : Int) + off = (tgt : Int)) (kt : x = y → W p l e R s m args below meth c H locs cells slots Q (F0 m tgt ls rest)) (kf : ¬ x = y → W p l e R s m args below meth c H locs cells slots Q (F0 m (pc + 1 + 3) ls rest)) : W p l e R s m args below meth c H locs cells slots Q (F0 m pc ls (.long (lI y) :: .long (lI x) :: rest)) :=
  W.lcmp hx hb d (lv_if_eq hx hb d2 ht (fun q => kt ((lI_eq hr hy).mp ((lg_cmp_eq _ _).mp q))) (fun q => kf (fun z => q ((lg_cmp_eq _ _).mpr ((lI_eq hr hy).mpr z)))))
theorem n_lcmp_ne (hx : p.tables.exec = Jvm.exec) (hb : c.code = cc) {x y : Int} {off : Int} {tgt : Nat} (hr : R64 x) (hy : R64 y) (d : decode cc pc = .ok (.lcmp, 1)) (d2 : decode cc (pc + 1) = .ok (.ifCond .ne off, 3)) (ht : ((pc + 1 : Nat) : Int) + off = (tgt : Int)) (kt : ¬ x = y → W p l e R s m args below meth c H locs cells slots Q (F0 m tgt ls rest)) (kf : x = y → W p l e R s m args below meth c H locs cells slots Q (F0 m (pc + 1 + 3) ls rest)) : W p l e R s m args below meth c H locs cells slots Q (F0 m pc ls (.long (lI y) :: .long (lI x) :: rest)) :=
  W.lcmp hx hb d (lv_if_ne hx hb d2 ht (fun q => kt (fun z => q ((lg_cmp_eq _ _).mpr ((lI_eq hr hy).mpr z)))) (fun q => kf ((lI_eq hr hy).mp ((lg_cmp_eq _ _).mp q))))
end GB
