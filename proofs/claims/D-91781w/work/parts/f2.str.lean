/-! the JDK's own methods over the reader's texts -/
def sB (i j : Nat) : Int := (sBy.getD i []).getD j 0
def sL (i : Nat) : Nat := sLen.getD i 0
theorem sL_b : ∀ i, i < 37 → 1 ≤ sL i ∧ sL i ≤ 7 := by decide +kernel
theorem sB_t : ∀ i, i < 37 → ∀ j, j < 7 → 0 ≤ sB i j ∧ sB i j < 128 := by decide +kernel
theorem sByt_e : ∀ i, i < 37 → ∀ j, j < 7 → (sByt.getD i []).getD j 0 = iI (sB i j) := by decide +kernel
theorem c_tab : ∀ z : Nat, z < 128 → Int32.ofInt (z : Int) &&& 255 = Int32.ofInt (z : Int) := by decide +kernel
theorem c_and {z : Int} (h0 : 0 ≤ z) (h : z < 128) : iI z &&& 255 = iI z := by
  have := c_tab z.toNat (by omega)
  rw [Int.toNat_of_nonneg h0] at this
  exact this
section STR
variable {p : Program} {l : Launch} {e : Env} {R : Room} {s : State} {m : MethodId} {args : Array Value} {below : List Frame} {meth : Method} {c : Code} {H : Heap} {locs : List Loc} {cells slots : Nat} {Q : State → Prop}
variable {cc : ByteArray} {pc : Nat} {ls : Array Slot} {rest st0 : List Value} {G : MG} {A : Nat → Prop} {a : Nat} {M M0 : Hp} {H0 : Heap} {X : State → Prop} {K : (Nat → Nat) × (Nat → Nat)}
variable {y : MethodName} {bytes : ByteArray} {maxL nL mc ms n index i : Nat} {ret : Option FieldType} {rm : Room} {Qc : Array Value → State → Outcome → State → Prop} {free : Addr → Prop} {own C : String} {b : Addr} {As : List Value}
theorem x_nret {ty : FieldType} {post : Int → Hp → Prop} {z : Int} (hx : p.tables.exec = Jvm.exec) (hb : c.code = cc) (hr : meth.sig.returnType = some ty) (hlk : meth.locks = false) (hH : XV G A M s.heap H locs) (d : decode cc pc = .ok (.ireturn, 1)) (hn : narrow ty (.int (iI z)) = .int (iI z)) (hp : post z M) : W p l e R s m args below meth c H locs cells slots (MQ below (xQi G A post) args s cells slots A) (F0 m pc ls [.int (iI z)]) :=
  W.zret hx hb hr hn (fun t ht _ => ⟨⟨iI z, (z, M), rfl, ⟨rfl, hp⟩, XVd.cg ht hH.1⟩, hH.2.F ht⟩) hH.2.2.2 d hlk
/-- a call of a text's method -/
theorem x_runT (S : CallFix p m c cc nL s args lw_all own) (hH : XV G (DA M0 s.heap.size) M s.heap H locs) (hK : va_K G.1 clA (tyA G.2.1) s) (hX : XRd K M0 s) (hi : i < 37) (hsz : ls.size = nL)
    (hM : Met l y (ws_ y bytes maxL ret) rm (xP G (XRd K M) (.ref (K.1 i) :: As) M H.size) Qc mc ms free) (hG : GoodIn lw_all (wsV own index "java/lang/String" y (ws_ y bytes maxL ret))) (hd : y.cls = "java/lang/String" ∧ y.cls ≠ "java/lang/invoke/MethodHandle" ∧ y.cls ≠ "java/lang/invoke/VarHandle" ∧ (parseMethodDescriptor y.desc).map (fun d => d.parameters.length) = some n) (hn : As.length = n) (hst : st0 = As.reverse ++ .ref (K.1 i) :: rest) (d : decode cc pc = .ok (.invokevirtual index, 3)) (hrc : rm.cells = mc := by rfl) (hrs : rm.slots = ms := by rfl)
    (hR : rm.frames + 1 ≤ R.frames ∧ 8 + (maxL + 11) + rm.locals ≤ R.locals := by exact ⟨Nat.le_of_ble_eq_true rfl, Nat.le_of_ble_eq_true rfl⟩) (hW : (rest.map fun v => v.category).sum ≤ 8 := by first | exact Nat.le_of_ble_eq_true rfl | decide) (hf : cells + mc ≤ R.cells ∧ slots + ms ≤ R.slots := by exact ⟨Nat.le_of_ble_eq_true rfl, Nat.le_of_ble_eq_true rfl⟩) : va_Run p l e R s m args below meth c H locs cells slots mc ms (F0 m pc ls st0) rest (Qc (Value.ref (K.1 i) :: As).toArray) free :=
  va_runV (As := As) (rest := rest) (C := "java/lang/String") S hM (cwV n S.2.2.2.2 hG rfl hrc hrs hd hR) ⟨xP_blind XRd_b, vk_recv hX.2.2.1 hi hH.2, xP_at hH hK (hX.at hH)⟩ rfl hn hsz hst (lv_room hW) d hf
end STR
theorem kd_J3_coder : yJ3_coder.cls = "java/lang/String" ∧ yJ3_coder.cls ≠ "java/lang/invoke/MethodHandle" ∧ yJ3_coder.cls ≠ "java/lang/invoke/VarHandle" ∧ (parseMethodDescriptor yJ3_coder.desc).map (fun d => d.parameters.length) = some 0 := by decide +kernel
theorem kd_J3_isLatin1 : yJ3_isLatin1.cls = "java/lang/String" ∧ yJ3_isLatin1.cls ≠ "java/lang/invoke/MethodHandle" ∧ yJ3_isLatin1.cls ≠ "java/lang/invoke/VarHandle" ∧ (parseMethodDescriptor yJ3_isLatin1.desc).map (fun d => d.parameters.length) = some 0 := by decide +kernel
theorem kd_J3_length : yJ3_length.cls = "java/lang/String" ∧ yJ3_length.cls ≠ "java/lang/invoke/MethodHandle" ∧ yJ3_length.cls ≠ "java/lang/invoke/VarHandle" ∧ (parseMethodDescriptor yJ3_length.desc).map (fun d => d.parameters.length) = some 0 := by decide +kernel
theorem kd_J3_charAt : yJ3_charAt.cls = "java/lang/String" ∧ yJ3_charAt.cls ≠ "java/lang/invoke/MethodHandle" ∧ yJ3_charAt.cls ≠ "java/lang/invoke/VarHandle" ∧ (parseMethodDescriptor yJ3_charAt.desc).map (fun d => d.parameters.length) = some 1 := by decide +kernel
theorem kd_J3_checkIndex : yJ3_checkIndex.cls = "java/lang/String" ∧ yJ3_checkIndex.cls ≠ "java/lang/invoke/MethodHandle" ∧ yJ3_checkIndex.cls ≠ "java/lang/invoke/VarHandle" ∧ (parseMethodDescriptor yJ3_checkIndex.desc).map (fun d => d.parameters.length) = some 2 := by decide +kernel
theorem kd_J4_charAt : yJ4_charAt.cls = "java/lang/StringLatin1" ∧ yJ4_charAt.cls ≠ "java/lang/invoke/MethodHandle" ∧ yJ4_charAt.cls ≠ "java/lang/invoke/VarHandle" ∧ (parseMethodDescriptor yJ4_charAt.desc).map (fun d => d.parameters.length) = some 2 := by decide +kernel
theorem kd_J5_checkIndex : yJ5_checkIndex.cls = "jdk/internal/util/Preconditions" ∧ yJ5_checkIndex.cls ≠ "java/lang/invoke/MethodHandle" ∧ yJ5_checkIndex.cls ≠ "java/lang/invoke/VarHandle" ∧ (parseMethodDescriptor yJ5_checkIndex.desc).map (fun d => d.parameters.length) = some 3 := by decide +kernel
theorem xm_J3_coder (l : Launch) (G : MG) (M : Hp) (K : (Nat → Nat) × (Nat → Nat)) (i : Nat) (sz : Nat) (hi : i < 37) : Met l yJ3_coder (ws_ yJ3_coder cJ3_coder 1 (some .byte)) (rmD 1) (xP G (XRd K M) [.ref (K.1 i)] M sz) (xQi G (DA M sz) (fun z M' => z = 0 ∧ M' = M)) 0 0 (DA M sz) := by
  refine x_start (by decide) (Nat.le_of_ble_eq_true rfl) ?_
  intro p e s m below meth c ⟨S, hr, hlk, hH, hK, hX, hsz, hnm⟩ ls hl
  subst hsz
  obtain ⟨hx, hb, hml, hown, hts⟩ := S
  have hl : lv_has ls 1 [(0, .ref (K.1 i))] := hl
  refine va_gets (C := "java/lang/String") hx hb hX.2.2.2.1 hH.2 hown (hts _ q920) (fun _ h => h) dJ3_coder_0 ?_
  refine n_if_eq (x := 1) (tgt := 13) hx hb (r32 (by omega)) dJ3_coder_3 (by decide) (fun h => absurd h (by decide)) (fun _ => ?_)
  refine lv_aload_n hx hb dJ3_coder_6 rfl (lv_at hl 0 rfl) ?_
  refine vk_getf hx hb (hX.2.2.1.1 i hi).2.1 hH.2 hown (hts _ q2068) (fun _ h => h) dJ3_coder_7 ?_
  refine lv_goto (tgt := 14) hx hb dJ3_coder_10 (by decide) ?_
  exact x_nret (z := 0) hx hb hr hlk hH dJ3_coder_14 rfl ⟨rfl, rfl⟩
theorem xm_J3_isLatin1 (l : Launch) (G : MG) (M : Hp) (K : (Nat → Nat) × (Nat → Nat)) (i : Nat) (sz : Nat) (hi : i < 37) : Met l yJ3_isLatin1 (ws_ yJ3_isLatin1 cJ3_isLatin1 1 (some .boolean)) (rmD 1) (xP G (XRd K M) [.ref (K.1 i)] M sz) (xQi G (DA M sz) (fun z M' => z = 1 ∧ M' = M)) 0 0 (DA M sz) := by
  refine x_start (by decide) (Nat.le_of_ble_eq_true rfl) ?_
  intro p e s m below meth c ⟨S, hr, hlk, hH, hK, hX, hsz, hnm⟩ ls hl
  subst hsz
  obtain ⟨hx, hb, hml, hown, hts⟩ := S
  have hl : lv_has ls 1 [(0, .ref (K.1 i))] := hl
  refine va_gets (C := "java/lang/String") hx hb hX.2.2.2.1 hH.2 hown (hts _ q920) (fun _ h => h) dJ3_isLatin1_0 ?_
  refine n_if_eq (x := 1) (tgt := 17) hx hb (r32 (by omega)) dJ3_isLatin1_3 (by decide) (fun h => absurd h (by decide)) (fun _ => ?_)
  refine lv_aload_n hx hb dJ3_isLatin1_6 rfl (lv_at hl 0 rfl) ?_
  refine vk_getf hx hb (hX.2.2.1.1 i hi).2.1 hH.2 hown (hts _ q2068) (fun _ h => h) dJ3_isLatin1_7 ?_
  refine n_if_ne (x := 0) (tgt := 17) hx hb (r32 (by omega)) dJ3_isLatin1_10 (by decide) (fun h => absurd (by rfl) h) (fun _ => ?_)
  refine n_iconst hx hb dJ3_isLatin1_13 ?_
  refine lv_goto (tgt := 18) hx hb dJ3_isLatin1_14 (by decide) ?_
  exact x_nret (z := 1) hx hb hr hlk hH dJ3_isLatin1_18 rfl ⟨rfl, rfl⟩
theorem xm_J3_length (l : Launch) (G : MG) (M : Hp) (K : (Nat → Nat) × (Nat → Nat)) (i : Nat) (sz : Nat) (hi : i < 37) : Met l yJ3_length (ws_ yJ3_length cJ3_length 1 (some .int)) (rmD 2) (xP G (XRd K M) [.ref (K.1 i)] M sz) (xQi G (DA M sz) (fun z M' => z = (sL i : Int) ∧ M' = M)) 0 0 (DA M sz) := by
  refine x_start (by decide) (Nat.le_of_ble_eq_true rfl) ?_
  intro p e s m below meth c ⟨S, hr, hlk, hH, hK, hX, hsz, hnm⟩ ls hl
  subst hsz
  obtain ⟨hx, hb, hml, hown, hts⟩ := S
  have S : CallFix p m c _ _ s _ lw_all RJ3 := ⟨hx, hb, hml, hown, hts⟩
  have hA : ∀ q, s.heap.size ≤ q → DA M s.heap.size q := fun q hq => Or.inr hq
  have hl : lv_has ls 1 [(0, .ref (K.1 i))] := hl
  have hb1 := sL_b i hi
  refine lv_aload_n hx hb dJ3_length_0 rfl (lv_at hl 0 rfl) ?_
  refine vk_getf hx hb (hX.2.2.1.1 i hi).2.2.1 hH.2 hown (hts _ q2067) (fun _ h => h) dJ3_length_1 ?_
  refine va_tlen hx hb (hX.2.2.1.1 i hi).2.2.2 hH.2 (v := iI (sL i : Int)) rfl dJ3_length_4 ?_
  refine lv_aload_n hx hb dJ3_length_5 rfl (lv_at hl 0 rfl) ?_
  refine x_calliF (x_runT (As := []) (rest := [.int (iI (sL i : Int))]) S hH hK hX hi hl.1 (xm_J3_coder l G M K i _ hi) (lw_V q916 q917 q918 q121 q919) kd_J3_coder rfl rfl dJ3_length_6) hH hA (fun H locs hH => ?_)
  refine n_ishr hx hb (r32 (by omega)) (by omega) (by omega) dJ3_length_9 ?_
  refine W.eq (g2 := F0 m 10 ls [.int (iI (sL i : Int))]) (by rw [show (sL i : Int) / 2 ^ (0 : Int).toNat = sL i by simp]) ?_
  exact x_iret hx hb hr hlk hH dJ3_length_10 ⟨rfl, rfl⟩
theorem xm_J5_checkIndex (l : Launch) (G : MG) (M : Hp) (K : (Nat → Nat) × (Nat → Nat)) (k n : Int) (t sz : Nat) (h0 : 0 ≤ k) (hk : k < n) (hn : n ≤ 7) : Met l yJ5_checkIndex (ws_ yJ5_checkIndex cJ5_checkIndex 3 (some .int)) (rmD 1) (xP G (XRd K M) [.int (iI k), .int (iI n), .ref t] M sz) (xQi G (DA M sz) (fun z M' => z = k ∧ M' = M)) 0 0 (DA M sz) := by
  refine x_start (by decide) (Nat.le_of_ble_eq_true rfl) ?_
  intro p e s m below meth c ⟨S, hr, hlk, hH, hK, hX, hsz, hnm⟩ ls hl
  subst hsz
  obtain ⟨hx, hb, hml, hown, hts⟩ := S
  have hl : lv_has ls 3 [(0, .int (iI k)), (1, .int (iI n)), (2, .ref t)] := hl
  refine lv_iload_n hx hb dJ5_checkIndex_0 rfl (lv_at hl 0 rfl) ?_
  refine n_if_lt (tgt := 9) hx hb (r32 (by omega)) dJ5_checkIndex_1 (by decide) (fun h => by omega) (fun _ => ?_)
  refine lv_iload_n hx hb dJ5_checkIndex_4 rfl (lv_at hl 0 rfl) ?_
  refine lv_iload_n hx hb dJ5_checkIndex_5 rfl (lv_at hl 1 rfl) ?_
  refine n_icmp_lt (tgt := 16) hx hb (r32 (by omega)) (r32 (by omega)) dJ5_checkIndex_6 (by decide) (fun _ => ?_) (fun h => absurd hk h)
  refine lv_iload_n hx hb dJ5_checkIndex_16 rfl (lv_at hl 0 rfl) ?_
  exact x_iret hx hb hr hlk hH dJ5_checkIndex_17 ⟨rfl, rfl⟩
theorem xm_J3_checkIndex (l : Launch) (G : MG) (M : Hp) (K : (Nat → Nat) × (Nat → Nat)) (k n : Int) (sz : Nat) (h0 : 0 ≤ k) (hk : k < n) (hn : n ≤ 7) : Met l yJ3_checkIndex (ws_ yJ3_checkIndex cJ3_checkIndex 2 none) (rmD 2) (xP G (XRd K M) [.int (iI k), .int (iI n)] M sz) (xQv G (DA M sz) (fun M' => M' = M)) 0 0 (DA M sz) := by
  refine x_start (by decide) (Nat.le_of_ble_eq_true rfl) ?_
  intro p e s m below meth c ⟨S, hr, hlk, hH, hK, hX, hsz, hnm⟩ ls hl
  subst hsz
  obtain ⟨hx, hb, hml, hown, hts⟩ := S
  have S : CallFix p m c _ _ s _ lw_all RJ3 := ⟨hx, hb, hml, hown, hts⟩
  have hA : ∀ q, s.heap.size ≤ q → DA M s.heap.size q := fun q hq => Or.inr hq
  have hl : lv_has ls 2 [(0, .int (iI k)), (1, .int (iI n))] := hl
  obtain ⟨t, hZ⟩ := hX.2.2.2.2.1
  refine lv_iload_n hx hb dJ3_checkIndex_0 rfl (lv_at hl 0 rfl) ?_
  refine lv_iload_n hx hb dJ3_checkIndex_1 rfl (lv_at hl 1 rfl) ?_
  refine va_gets (C := "jdk/internal/util/Preconditions") hx hb hZ hH.2 hown (hts _ q936) (fun _ h => h) dJ3_checkIndex_2 ?_
  refine x_calliF (x_runS (As := [.int (iI k), .int (iI n), .ref t]) (rest := []) S hH hK (hX.at hH) XRd_b hl.1 (xm_J5_checkIndex l G M K k n t _ h0 hk hn) (lw_S q938 q939 q123 q940) kd_J5_checkIndex rfl rfl dJ3_checkIndex_5) hH hA (fun H locs hH => ?_)
  refine lv_pop hx hb dJ3_checkIndex_8 rfl ?_
  exact x_vret hx hb hr hlk hH dJ3_checkIndex_9 rfl
theorem xm_J4_charAt (l : Launch) (G : MG) (M : Hp) (K : (Nat → Nat) × (Nat → Nat)) (i : Nat) (k : Int) (sz : Nat) (hi : i < 37) (h0 : 0 ≤ k) (hk : k < sL i) : Met l yJ4_charAt (ws_ yJ4_charAt cJ4_charAt 2 (some .char)) (rmD 3) (xP G (XRd K M) [.ref (K.2 i), .int (iI k)] M sz) (xQi G (DA M sz) (fun z M' => z = sB i k.toNat ∧ M' = M)) 0 0 (DA M sz) := by
  refine x_start (by decide) (Nat.le_of_ble_eq_true rfl) ?_
  intro p e s m below meth c ⟨S, hr, hlk, hH, hK, hX, hsz, hnm⟩ ls hl
  subst hsz
  obtain ⟨hx, hb, hml, hown, hts⟩ := S
  have S : CallFix p m c _ _ s _ lw_all RJ4 := ⟨hx, hb, hml, hown, hts⟩
  have hA : ∀ q, s.heap.size ≤ q → DA M s.heap.size q := fun q hq => Or.inr hq
  have hl : lv_has ls 2 [(0, .ref (K.2 i)), (1, .int (iI k))] := hl
  have hb1 := sL_b i hi
  have hb2 := sB_t i hi k.toNat (by omega)
  refine lv_iload_n hx hb dJ4_charAt_0 rfl (lv_at hl 1 rfl) ?_
  refine lv_aload_n hx hb dJ4_charAt_1 rfl (lv_at hl 0 rfl) ?_
  refine va_tlen hx hb (hX.2.2.1.1 i hi).2.2.2 hH.2 (v := iI (sL i : Int)) rfl dJ4_charAt_2 ?_
  refine x_callv (x_runS (As := [.int (iI k), .int (iI (sL i : Int))]) (rest := []) S hH hK (hX.at hH) XRd_b hl.1 (xm_J3_checkIndex l G M K k (sL i : Int) _ h0 hk (by omega)) (lw_S q933 q934 q121 q935) kd_J3_checkIndex rfl rfl dJ4_charAt_3) hH hA (fun M1 H locs h1 hH _ => ?_)
  subst h1
  refine lv_aload_n hx hb dJ4_charAt_6 rfl (lv_at hl 0 rfl) ?_
  refine lv_iload_n hx hb dJ4_charAt_7 rfl (lv_at hl 1 rfl) ?_
  refine va_tb hx hb (hX.2.2.1.1 i hi).2.2.2 hH.2 (i := iI k) (v := .int (iI (sB i k.toNat))) (iI_vp h0 hk (show sL i < 2147483648 by omega)) (by rw [iI_cl h0 (by omega)]; exact congrArg Value.int (sByt_e i hi k.toNat (by omega))) dJ4_charAt_8 ?_
  refine n_sipush (z := 255) hx hb dJ4_charAt_9 (by decide) ?_
  refine lv_iand hx hb dJ4_charAt_12 ?_
  refine lv_i2c hx hb dJ4_charAt_13 (sc_c2 _) ?_
  refine W.eq (g2 := F0 m 14 ls [.int (iI (sB i k.toNat))]) (by rw [c_and hb2.1 hb2.2]) ?_
  exact x_nret hx hb hr hlk hH dJ4_charAt_14 (by rw [← c_and hb2.1 hb2.2]; exact sc_nar _) ⟨rfl, rfl⟩
theorem xm_J3_charAt (l : Launch) (G : MG) (M : Hp) (K : (Nat → Nat) × (Nat → Nat)) (i : Nat) (k : Int) (sz : Nat) (hi : i < 37) (h0 : 0 ≤ k) (hk : k < sL i) : Met l yJ3_charAt (ws_ yJ3_charAt cJ3_charAt 2 (some .char)) (rmD 4) (xP G (XRd K M) [.ref (K.1 i), .int (iI k)] M sz) (xQi G (DA M sz) (fun z M' => z = sB i k.toNat ∧ M' = M)) 0 0 (DA M sz) := by
  refine x_start (by decide) (Nat.le_of_ble_eq_true rfl) ?_
  intro p e s m below meth c ⟨S, hr, hlk, hH, hK, hX, hsz, hnm⟩ ls hl
  subst hsz
  obtain ⟨hx, hb, hml, hown, hts⟩ := S
  have S : CallFix p m c _ _ s _ lw_all RJ3 := ⟨hx, hb, hml, hown, hts⟩
  have hA : ∀ q, s.heap.size ≤ q → DA M s.heap.size q := fun q hq => Or.inr hq
  have hl : lv_has ls 2 [(0, .ref (K.1 i)), (1, .int (iI k))] := hl
  have hb1 := sL_b i hi
  have hb2 := sB_t i hi k.toNat (by omega)
  refine lv_aload_n hx hb dJ3_charAt_0 rfl (lv_at hl 0 rfl) ?_
  refine x_calliF (x_runT (As := []) (rest := []) S hH hK hX hi hl.1 (xm_J3_isLatin1 l G M K i _ hi) (lw_V q926 q927 q928 q121 q929) kd_J3_isLatin1 rfl rfl dJ3_charAt_1) hH hA (fun H locs hH => ?_)
  refine n_if_eq (x := 1) (tgt := 16) hx hb (r32 (by omega)) dJ3_charAt_4 (by decide) (fun h => absurd h (by decide)) (fun _ => ?_)
  refine lv_aload_n hx hb dJ3_charAt_7 rfl (lv_at hl 0 rfl) ?_
  refine vk_getf hx hb (hX.2.2.1.1 i hi).2.2.1 hH.2 hown (hts _ q2067) (fun _ h => h) dJ3_charAt_8 ?_
  refine lv_iload_n hx hb dJ3_charAt_11 rfl (lv_at hl 1 rfl) ?_
  refine x_calliF (x_runS (As := [.ref (K.2 i), .int (iI k)]) (rest := []) S hH hK (hX.at hH) XRd_b hl.1 (xm_J4_charAt l G M K i k _ hi h0 hk) (lw_S q930 q931 q122 q932) kd_J4_charAt rfl rfl dJ3_charAt_12) hH hA (fun H locs hH => ?_)
  exact x_nret hx hb hr hlk hH dJ3_charAt_15 (by rw [← c_and hb2.1 hb2.2]; exact sc_nar _) ⟨rfl, rfl⟩
