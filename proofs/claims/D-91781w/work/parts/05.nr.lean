/-! java/lang/Math -/
set_option maxRecDepth 100000
def RJ0 : String := "java/lang/Math"
abbrev cJ0_min : ByteArray := prog_27_method_69_code
def yJ0_min : MethodName := ⟨RJ0, "min", "(II)I"⟩
def dkwJ0_min_0 : List UInt8 := [26, 27, 163, 0, 7, 26, 167, 0, 4, 27, 172]
abbrev dktJ0_min_0 : List UInt8 := dkwJ0_min_0 ++ []
theorem dksJ0_min_0 : cJ0_min.data.toList.drop 0 = dktJ0_min_0 := by decide +kernel
theorem dJ0_min_0 : decode cJ0_min 0 = .ok (.iload_n 0, 1) := dk_26 (dk_at dksJ0_min_0 0 rfl rfl)
theorem dJ0_min_1 : decode cJ0_min 1 = .ok (.iload_n 1, 1) := dk_27 (dk_at dksJ0_min_0 1 rfl rfl)
theorem dJ0_min_2 : decode cJ0_min 2 = .ok (.if_icmp .gt 7, 3) := dk_163 0 7 (dk_at dksJ0_min_0 2 rfl rfl)
theorem dJ0_min_5 : decode cJ0_min 5 = .ok (.iload_n 0, 1) := dk_26 (dk_at dksJ0_min_0 5 rfl rfl)
theorem dJ0_min_6 : decode cJ0_min 6 = .ok (.goto 4, 3) := dk_167 0 4 (dk_at dksJ0_min_0 6 rfl rfl)
theorem dJ0_min_9 : decode cJ0_min 9 = .ok (.iload_n 1, 1) := dk_27 (dk_at dksJ0_min_0 9 rfl rfl)
theorem dJ0_min_10 : decode cJ0_min 10 = .ok (.ireturn, 1) := dk_172 (dk_at dksJ0_min_0 10 rfl rfl)
abbrev cJ0_min_2 : ByteArray := prog_27_method_70_code
def yJ0_min_2 : MethodName := ⟨RJ0, "min", "(JJ)J"⟩
def dkwJ0_min_2_0 : List UInt8 := [30, 32, 148, 157, 0, 7, 30, 167, 0, 4, 32, 173]
abbrev dktJ0_min_2_0 : List UInt8 := dkwJ0_min_2_0 ++ []
theorem dksJ0_min_2_0 : cJ0_min_2.data.toList.drop 0 = dktJ0_min_2_0 := by decide +kernel
theorem dJ0_min_2_0 : decode cJ0_min_2 0 = .ok (.lload_n 0, 1) := dk_30 (dk_at dksJ0_min_2_0 0 rfl rfl)
theorem dJ0_min_2_1 : decode cJ0_min_2 1 = .ok (.lload_n 2, 1) := dk_32 (dk_at dksJ0_min_2_0 1 rfl rfl)
theorem dJ0_min_2_2 : decode cJ0_min_2 2 = .ok (.lcmp, 1) := dk_148 (dk_at dksJ0_min_2_0 2 rfl rfl)
theorem dJ0_min_2_3 : decode cJ0_min_2 3 = .ok (.ifCond .gt 7, 3) := dk_157 0 7 (dk_at dksJ0_min_2_0 3 rfl rfl)
theorem dJ0_min_2_6 : decode cJ0_min_2 6 = .ok (.lload_n 0, 1) := dk_30 (dk_at dksJ0_min_2_0 6 rfl rfl)
theorem dJ0_min_2_7 : decode cJ0_min_2 7 = .ok (.goto 4, 3) := dk_167 0 4 (dk_at dksJ0_min_2_0 7 rfl rfl)
theorem dJ0_min_2_10 : decode cJ0_min_2 10 = .ok (.lload_n 2, 1) := dk_32 (dk_at dksJ0_min_2_0 10 rfl rfl)
theorem dJ0_min_2_11 : decode cJ0_min_2 11 = .ok (.lreturn, 1) := dk_173 (dk_at dksJ0_min_2_0 11 rfl rfl)
abbrev cJ0_max : ByteArray := prog_27_method_66_code
def yJ0_max : MethodName := ⟨RJ0, "max", "(JJ)J"⟩
def dkwJ0_max_0 : List UInt8 := [30, 32, 148, 155, 0, 7, 30, 167, 0, 4, 32, 173]
abbrev dktJ0_max_0 : List UInt8 := dkwJ0_max_0 ++ []
theorem dksJ0_max_0 : cJ0_max.data.toList.drop 0 = dktJ0_max_0 := by decide +kernel
theorem dJ0_max_0 : decode cJ0_max 0 = .ok (.lload_n 0, 1) := dk_30 (dk_at dksJ0_max_0 0 rfl rfl)
theorem dJ0_max_1 : decode cJ0_max 1 = .ok (.lload_n 2, 1) := dk_32 (dk_at dksJ0_max_0 1 rfl rfl)
theorem dJ0_max_2 : decode cJ0_max 2 = .ok (.lcmp, 1) := dk_148 (dk_at dksJ0_max_0 2 rfl rfl)
theorem dJ0_max_3 : decode cJ0_max 3 = .ok (.ifCond .lt 7, 3) := dk_155 0 7 (dk_at dksJ0_max_0 3 rfl rfl)
theorem dJ0_max_6 : decode cJ0_max 6 = .ok (.lload_n 0, 1) := dk_30 (dk_at dksJ0_max_0 6 rfl rfl)
theorem dJ0_max_7 : decode cJ0_max 7 = .ok (.goto 4, 3) := dk_167 0 4 (dk_at dksJ0_max_0 7 rfl rfl)
theorem dJ0_max_10 : decode cJ0_max 10 = .ok (.lload_n 2, 1) := dk_32 (dk_at dksJ0_max_0 10 rfl rfl)
theorem dJ0_max_11 : decode cJ0_max 11 = .ok (.lreturn, 1) := dk_173 (dk_at dksJ0_max_0 11 rfl rfl)
abbrev cJ0_abs : ByteArray := prog_27_method_59_code
def yJ0_abs : MethodName := ⟨RJ0, "abs", "(I)I"⟩
def dkwJ0_abs_0 : List UInt8 := [26, 156, 0, 8, 26, 116, 167, 0, 4, 26, 172]
abbrev dktJ0_abs_0 : List UInt8 := dkwJ0_abs_0 ++ []
theorem dksJ0_abs_0 : cJ0_abs.data.toList.drop 0 = dktJ0_abs_0 := by decide +kernel
theorem dJ0_abs_0 : decode cJ0_abs 0 = .ok (.iload_n 0, 1) := dk_26 (dk_at dksJ0_abs_0 0 rfl rfl)
theorem dJ0_abs_1 : decode cJ0_abs 1 = .ok (.ifCond .ge 8, 3) := dk_156 0 8 (dk_at dksJ0_abs_0 1 rfl rfl)
theorem dJ0_abs_4 : decode cJ0_abs 4 = .ok (.iload_n 0, 1) := dk_26 (dk_at dksJ0_abs_0 4 rfl rfl)
theorem dJ0_abs_5 : decode cJ0_abs 5 = .ok (.ineg, 1) := dk_116 (dk_at dksJ0_abs_0 5 rfl rfl)
theorem dJ0_abs_6 : decode cJ0_abs 6 = .ok (.goto 4, 3) := dk_167 0 4 (dk_at dksJ0_abs_0 6 rfl rfl)
theorem dJ0_abs_9 : decode cJ0_abs 9 = .ok (.iload_n 0, 1) := dk_26 (dk_at dksJ0_abs_0 9 rfl rfl)
theorem dJ0_abs_10 : decode cJ0_abs 10 = .ok (.ireturn, 1) := dk_172 (dk_at dksJ0_abs_0 10 rfl rfl)
abbrev cJ0_max_2 : ByteArray := prog_27_method_65_code
def yJ0_max_2 : MethodName := ⟨RJ0, "max", "(II)I"⟩
def dkwJ0_max_2_0 : List UInt8 := [26, 27, 161, 0, 7, 26, 167, 0, 4, 27, 172]
abbrev dktJ0_max_2_0 : List UInt8 := dkwJ0_max_2_0 ++ []
theorem dksJ0_max_2_0 : cJ0_max_2.data.toList.drop 0 = dktJ0_max_2_0 := by decide +kernel
theorem dJ0_max_2_0 : decode cJ0_max_2 0 = .ok (.iload_n 0, 1) := dk_26 (dk_at dksJ0_max_2_0 0 rfl rfl)
theorem dJ0_max_2_1 : decode cJ0_max_2 1 = .ok (.iload_n 1, 1) := dk_27 (dk_at dksJ0_max_2_0 1 rfl rfl)
theorem dJ0_max_2_2 : decode cJ0_max_2 2 = .ok (.if_icmp .lt 7, 3) := dk_161 0 7 (dk_at dksJ0_max_2_0 2 rfl rfl)
theorem dJ0_max_2_5 : decode cJ0_max_2 5 = .ok (.iload_n 0, 1) := dk_26 (dk_at dksJ0_max_2_0 5 rfl rfl)
theorem dJ0_max_2_6 : decode cJ0_max_2 6 = .ok (.goto 4, 3) := dk_167 0 4 (dk_at dksJ0_max_2_0 6 rfl rfl)
theorem dJ0_max_2_9 : decode cJ0_max_2 9 = .ok (.iload_n 1, 1) := dk_27 (dk_at dksJ0_max_2_0 9 rfl rfl)
theorem dJ0_max_2_10 : decode cJ0_max_2 10 = .ok (.ireturn, 1) := dk_172 (dk_at dksJ0_max_2_0 10 rfl rfl)
theorem q115 : (Jvm.Cond.initialized "java/lang/Math") ∈ lw_all := lw_g (lw_at lw_m1 11 rfl) rfl
theorem q688 : (Jvm.Cond.static ({ cls := "java/lang/Math", name := "min", desc := "(II)I" } : Jvm.MethodName)) ∈ lw_all := lw_g (lw_at lw_m3 104 rfl) rfl
theorem q689 : (Jvm.Cond.code ({ cls := "java/lang/Math", name := "min", desc := "(II)I" } : Jvm.MethodName) prog_27_method_69_code (2 : Nat) (Option.some Jvm.ClassFile.FieldType.int)) ∈ lw_all := lw_g (lw_at lw_m3 105 rfl) rfl
theorem q1224 : (Jvm.Cond.static ({ cls := "java/lang/Math", name := "min", desc := "(JJ)J" } : Jvm.MethodName)) ∈ lw_all := lw_g (lw_at lw_m5 160 rfl) rfl
theorem q1225 : (Jvm.Cond.code ({ cls := "java/lang/Math", name := "min", desc := "(JJ)J" } : Jvm.MethodName) prog_27_method_70_code (4 : Nat) (Option.some Jvm.ClassFile.FieldType.long)) ∈ lw_all := lw_g (lw_at lw_m5 161 rfl) rfl
theorem q1227 : (Jvm.Cond.static ({ cls := "java/lang/Math", name := "max", desc := "(JJ)J" } : Jvm.MethodName)) ∈ lw_all := lw_g (lw_at lw_m5 163 rfl) rfl
theorem q1228 : (Jvm.Cond.code ({ cls := "java/lang/Math", name := "max", desc := "(JJ)J" } : Jvm.MethodName) prog_27_method_66_code (4 : Nat) (Option.some Jvm.ClassFile.FieldType.long)) ∈ lw_all := lw_g (lw_at lw_m5 164 rfl) rfl
theorem q1294 : (Jvm.Cond.static ({ cls := "java/lang/Math", name := "abs", desc := "(I)I" } : Jvm.MethodName)) ∈ lw_all := lw_g (lw_at lw_m5 230 rfl) rfl
theorem q1295 : (Jvm.Cond.code ({ cls := "java/lang/Math", name := "abs", desc := "(I)I" } : Jvm.MethodName) prog_27_method_59_code (1 : Nat) (Option.some Jvm.ClassFile.FieldType.int)) ∈ lw_all := lw_g (lw_at lw_m5 231 rfl) rfl
theorem q1317 : (Jvm.Cond.static ({ cls := "java/lang/Math", name := "max", desc := "(II)I" } : Jvm.MethodName)) ∈ lw_all := lw_g (lw_at lw_m6 13 rfl) rfl
theorem q1318 : (Jvm.Cond.code ({ cls := "java/lang/Math", name := "max", desc := "(II)I" } : Jvm.MethodName) prog_27_method_65_code (2 : Nat) (Option.some Jvm.ClassFile.FieldType.int)) ∈ lw_all := lw_g (lw_at lw_m6 14 rfl) rfl
/-! java/lang/Throwable -/
set_option maxRecDepth 100000
def RJ1 : String := "java/lang/Throwable"
def TJ1 : u_T := fun k => match k with
  | 0 => ("java/lang/Throwable", "cause", "Ljava/lang/Throwable;", false)
  | 1 => ("java/lang/Throwable", "stackTrace", "[Ljava/lang/StackTraceElement;", false)
  | 2 => ("java/lang/Throwable", "suppressedExceptions", "Ljava/util/List;", false)
  | 3 => ("java/lang/Throwable", "detailMessage", "Ljava/lang/String;", false)
  | _ => ("java/lang/Throwable", "backtrace", "Ljava/lang/Object;", false)
def tyJ1 : Nat → FieldType := fun k => match k with
  | 0 => .object "java/lang/Throwable"
  | 1 => .array (.object "java/lang/StackTraceElement")
  | 2 => .object "java/util/List"
  | 3 => .object "java/lang/String"
  | _ => .object "java/lang/Object"
abbrev wsJ10 : List Cond := u_ws RJ1 TJ1 5
theorem nmJ1 : ∀ a, a < 5 → ∀ b, b < 5 → a ≠ b → (TJ1 a).2.1 ≠ (TJ1 b).2.1 := by decide +kernel
theorem tyJ1_ok : ∀ k, k < 5 → parseFieldDescriptor (TJ1 k).2.2.1 = some (tyJ1 k) := by decide +kernel
abbrev cJ1_init : ByteArray := prog_32_method_1_code
def yJ1_init : MethodName := ⟨RJ1, "<init>", "()V"⟩
def dkwJ1_init_1 : List UInt8 := [182, 0, 27, 87, 177]
abbrev dktJ1_init_1 : List UInt8 := dkwJ1_init_1 ++ []
def dkwJ1_init_0 : List UInt8 := [42, 183, 0, 1, 42, 42, 181, 0, 7, 42, 178, 0, 13, 181, 0, 17, 42, 178, 0, 20, 181, 0, 24, 42]
abbrev dktJ1_init_0 : List UInt8 := dkwJ1_init_0 ++ dktJ1_init_1
theorem dksJ1_init_0 : cJ1_init.data.toList.drop 0 = dktJ1_init_0 := by decide +kernel
theorem dksJ1_init_1 : cJ1_init.data.toList.drop 24 = dktJ1_init_1 := dk_seg dksJ1_init_0 24 rfl rfl
theorem dJ1_init_0 : decode cJ1_init 0 = .ok (.aload_n 0, 1) := dk_42 (dk_at dksJ1_init_0 0 rfl rfl)
theorem dJ1_init_1 : decode cJ1_init 1 = .ok (.invokespecial 1, 3) := dk_183 0 1 (dk_at dksJ1_init_0 1 rfl rfl)
theorem dJ1_init_4 : decode cJ1_init 4 = .ok (.aload_n 0, 1) := dk_42 (dk_at dksJ1_init_0 4 rfl rfl)
theorem dJ1_init_5 : decode cJ1_init 5 = .ok (.aload_n 0, 1) := dk_42 (dk_at dksJ1_init_0 5 rfl rfl)
theorem dJ1_init_6 : decode cJ1_init 6 = .ok (.putfield 7, 3) := dk_181 0 7 (dk_at dksJ1_init_0 6 rfl rfl)
theorem dJ1_init_9 : decode cJ1_init 9 = .ok (.aload_n 0, 1) := dk_42 (dk_at dksJ1_init_0 9 rfl rfl)
theorem dJ1_init_10 : decode cJ1_init 10 = .ok (.getstatic 13, 3) := dk_178 0 13 (dk_at dksJ1_init_0 10 rfl rfl)
theorem dJ1_init_13 : decode cJ1_init 13 = .ok (.putfield 17, 3) := dk_181 0 17 (dk_at dksJ1_init_0 13 rfl rfl)
theorem dJ1_init_16 : decode cJ1_init 16 = .ok (.aload_n 0, 1) := dk_42 (dk_at dksJ1_init_0 16 rfl rfl)
theorem dJ1_init_17 : decode cJ1_init 17 = .ok (.getstatic 20, 3) := dk_178 0 20 (dk_at dksJ1_init_0 17 rfl rfl)
theorem dJ1_init_20 : decode cJ1_init 20 = .ok (.putfield 24, 3) := dk_181 0 24 (dk_at dksJ1_init_0 20 rfl rfl)
theorem dJ1_init_23 : decode cJ1_init 23 = .ok (.aload_n 0, 1) := dk_42 (dk_at dksJ1_init_0 23 rfl rfl)
theorem dJ1_init_24 : decode cJ1_init 24 = .ok (.invokevirtual 27, 3) := dk_182 0 27 (dk_at dksJ1_init_1 0 rfl rfl)
theorem dJ1_init_27 : decode cJ1_init 27 = .ok (.pop, 1) := dk_87 (dk_at dksJ1_init_1 3 rfl rfl)
theorem dJ1_init_28 : decode cJ1_init 28 = .ok (.return_, 1) := dk_177 (dk_at dksJ1_init_1 4 rfl rfl)
abbrev cJ1_init_2 : ByteArray := prog_32_method_5_code
def yJ1_init_2 : MethodName := ⟨RJ1, "<init>", "(Ljava/lang/String;Ljava/lang/Throwable;ZZ)V"⟩
def dkwJ1_init_2_2 : List UInt8 := [44, 181, 0, 7, 29, 154, 0, 8, 42, 1, 181, 0, 24, 177]
abbrev dktJ1_init_2_2 : List UInt8 := dkwJ1_init_2_2 ++ []
def dkwJ1_init_2_1 : List UInt8 := [21, 4, 153, 0, 11, 42, 182, 0, 27, 87, 167, 0, 8, 42, 1, 181, 0, 17, 42, 43, 181, 0, 31, 42]
abbrev dktJ1_init_2_1 : List UInt8 := dkwJ1_init_2_1 ++ dktJ1_init_2_2
def dkwJ1_init_2_0 : List UInt8 := [42, 183, 0, 1, 42, 42, 181, 0, 7, 42, 178, 0, 13, 181, 0, 17, 42, 178, 0, 20, 181, 0, 24]
abbrev dktJ1_init_2_0 : List UInt8 := dkwJ1_init_2_0 ++ dktJ1_init_2_1
theorem dksJ1_init_2_0 : cJ1_init_2.data.toList.drop 0 = dktJ1_init_2_0 := by decide +kernel
theorem dksJ1_init_2_1 : cJ1_init_2.data.toList.drop 23 = dktJ1_init_2_1 := dk_seg dksJ1_init_2_0 23 rfl rfl
theorem dksJ1_init_2_2 : cJ1_init_2.data.toList.drop 47 = dktJ1_init_2_2 := dk_seg dksJ1_init_2_1 24 rfl rfl
theorem dJ1_init_2_0 : decode cJ1_init_2 0 = .ok (.aload_n 0, 1) := dk_42 (dk_at dksJ1_init_2_0 0 rfl rfl)
theorem dJ1_init_2_1 : decode cJ1_init_2 1 = .ok (.invokespecial 1, 3) := dk_183 0 1 (dk_at dksJ1_init_2_0 1 rfl rfl)
theorem dJ1_init_2_4 : decode cJ1_init_2 4 = .ok (.aload_n 0, 1) := dk_42 (dk_at dksJ1_init_2_0 4 rfl rfl)
theorem dJ1_init_2_5 : decode cJ1_init_2 5 = .ok (.aload_n 0, 1) := dk_42 (dk_at dksJ1_init_2_0 5 rfl rfl)
theorem dJ1_init_2_6 : decode cJ1_init_2 6 = .ok (.putfield 7, 3) := dk_181 0 7 (dk_at dksJ1_init_2_0 6 rfl rfl)
theorem dJ1_init_2_9 : decode cJ1_init_2 9 = .ok (.aload_n 0, 1) := dk_42 (dk_at dksJ1_init_2_0 9 rfl rfl)
theorem dJ1_init_2_10 : decode cJ1_init_2 10 = .ok (.getstatic 13, 3) := dk_178 0 13 (dk_at dksJ1_init_2_0 10 rfl rfl)
theorem dJ1_init_2_13 : decode cJ1_init_2 13 = .ok (.putfield 17, 3) := dk_181 0 17 (dk_at dksJ1_init_2_0 13 rfl rfl)
theorem dJ1_init_2_16 : decode cJ1_init_2 16 = .ok (.aload_n 0, 1) := dk_42 (dk_at dksJ1_init_2_0 16 rfl rfl)
theorem dJ1_init_2_17 : decode cJ1_init_2 17 = .ok (.getstatic 20, 3) := dk_178 0 20 (dk_at dksJ1_init_2_0 17 rfl rfl)
theorem dJ1_init_2_20 : decode cJ1_init_2 20 = .ok (.putfield 24, 3) := dk_181 0 24 (dk_at dksJ1_init_2_0 20 rfl rfl)
theorem dJ1_init_2_23 : decode cJ1_init_2 23 = .ok (.iload 4, 2) := dk_21 4 (dk_at dksJ1_init_2_1 0 rfl rfl)
theorem dJ1_init_2_25 : decode cJ1_init_2 25 = .ok (.ifCond .eq 11, 3) := dk_153 0 11 (dk_at dksJ1_init_2_1 2 rfl rfl)
theorem dJ1_init_2_28 : decode cJ1_init_2 28 = .ok (.aload_n 0, 1) := dk_42 (dk_at dksJ1_init_2_1 5 rfl rfl)
theorem dJ1_init_2_29 : decode cJ1_init_2 29 = .ok (.invokevirtual 27, 3) := dk_182 0 27 (dk_at dksJ1_init_2_1 6 rfl rfl)
theorem dJ1_init_2_32 : decode cJ1_init_2 32 = .ok (.pop, 1) := dk_87 (dk_at dksJ1_init_2_1 9 rfl rfl)
theorem dJ1_init_2_33 : decode cJ1_init_2 33 = .ok (.goto 8, 3) := dk_167 0 8 (dk_at dksJ1_init_2_1 10 rfl rfl)
theorem dJ1_init_2_36 : decode cJ1_init_2 36 = .ok (.aload_n 0, 1) := dk_42 (dk_at dksJ1_init_2_1 13 rfl rfl)
theorem dJ1_init_2_37 : decode cJ1_init_2 37 = .ok (.aconst_null, 1) := dk_1 (dk_at dksJ1_init_2_1 14 rfl rfl)
theorem dJ1_init_2_38 : decode cJ1_init_2 38 = .ok (.putfield 17, 3) := dk_181 0 17 (dk_at dksJ1_init_2_1 15 rfl rfl)
theorem dJ1_init_2_41 : decode cJ1_init_2 41 = .ok (.aload_n 0, 1) := dk_42 (dk_at dksJ1_init_2_1 18 rfl rfl)
theorem dJ1_init_2_42 : decode cJ1_init_2 42 = .ok (.aload_n 1, 1) := dk_43 (dk_at dksJ1_init_2_1 19 rfl rfl)
theorem dJ1_init_2_43 : decode cJ1_init_2 43 = .ok (.putfield 31, 3) := dk_181 0 31 (dk_at dksJ1_init_2_1 20 rfl rfl)
theorem dJ1_init_2_46 : decode cJ1_init_2 46 = .ok (.aload_n 0, 1) := dk_42 (dk_at dksJ1_init_2_1 23 rfl rfl)
theorem dJ1_init_2_47 : decode cJ1_init_2 47 = .ok (.aload_n 2, 1) := dk_44 (dk_at dksJ1_init_2_2 0 rfl rfl)
theorem dJ1_init_2_48 : decode cJ1_init_2 48 = .ok (.putfield 7, 3) := dk_181 0 7 (dk_at dksJ1_init_2_2 1 rfl rfl)
theorem dJ1_init_2_51 : decode cJ1_init_2 51 = .ok (.iload_n 3, 1) := dk_29 (dk_at dksJ1_init_2_2 4 rfl rfl)
theorem dJ1_init_2_52 : decode cJ1_init_2 52 = .ok (.ifCond .ne 8, 3) := dk_154 0 8 (dk_at dksJ1_init_2_2 5 rfl rfl)
theorem dJ1_init_2_55 : decode cJ1_init_2 55 = .ok (.aload_n 0, 1) := dk_42 (dk_at dksJ1_init_2_2 8 rfl rfl)
theorem dJ1_init_2_56 : decode cJ1_init_2 56 = .ok (.aconst_null, 1) := dk_1 (dk_at dksJ1_init_2_2 9 rfl rfl)
theorem dJ1_init_2_57 : decode cJ1_init_2 57 = .ok (.putfield 24, 3) := dk_181 0 24 (dk_at dksJ1_init_2_2 10 rfl rfl)
theorem dJ1_init_2_60 : decode cJ1_init_2 60 = .ok (.return_, 1) := dk_177 (dk_at dksJ1_init_2_2 13 rfl rfl)
theorem q118 : (Jvm.Cond.initialized "java/lang/Throwable") ∈ lw_all := lw_g (lw_at lw_m1 14 rfl) rfl
theorem q842 : (Jvm.Cond.declares ({ cls := "java/lang/Throwable", name := "<init>", desc := "()V" } : Jvm.MethodName)) ∈ lw_tbl := lw_at lw_m4 18 rfl
theorem q843 : (Jvm.Cond.declares ({ cls := "java/lang/Throwable", name := "<init>", desc := "(Ljava/lang/String;)V" } : Jvm.MethodName)) ∈ lw_tbl := lw_at lw_m4 19 rfl
theorem q847 : (Jvm.Cond.lays "java/lang/Throwable" "java/lang/Throwable" "cause" "Ljava/lang/Throwable;") ∈ lw_all := lw_g (lw_at lw_m4 23 rfl) rfl
theorem q849 : (Jvm.Cond.lays "java/lang/Throwable" "java/lang/Throwable" "stackTrace" "[Ljava/lang/StackTraceElement;") ∈ lw_all := lw_g (lw_at lw_m4 25 rfl) rfl
theorem q851 : (Jvm.Cond.lays "java/lang/Throwable" "java/lang/Throwable" "suppressedExceptions" "Ljava/util/List;") ∈ lw_all := lw_g (lw_at lw_m4 27 rfl) rfl
theorem q853 : (Jvm.Cond.lays "java/lang/Throwable" "java/lang/Throwable" "detailMessage" "Ljava/lang/String;") ∈ lw_all := lw_g (lw_at lw_m4 29 rfl) rfl
theorem q855 : (Jvm.Cond.lays "java/lang/Throwable" "java/lang/Throwable" "backtrace" "Ljava/lang/Object;") ∈ lw_all := lw_g (lw_at lw_m4 31 rfl) rfl
theorem q856 : (Jvm.Cond.fieldLink "java/lang/Throwable" (198 : Nat) "java/lang/Throwable" "backtrace" "Ljava/lang/Object;") ∈ lw_all := lw_g (lw_at lw_m4 32 rfl) rfl
theorem q857 : (Jvm.Cond.superclass "java/lang/Throwable" "java/lang/Object") ∈ lw_all := lw_g (lw_at lw_m4 33 rfl) rfl
theorem q858 : (Jvm.Cond.instanceMethod ({ cls := "java/lang/Throwable", name := "<init>", desc := "()V" } : Jvm.MethodName)) ∈ lw_all := lw_g (lw_at lw_m4 34 rfl) rfl
theorem q859 : (Jvm.Cond.code ({ cls := "java/lang/Throwable", name := "<init>", desc := "()V" } : Jvm.MethodName) prog_32_method_1_code (1 : Nat) (Option.none : Option Jvm.ClassFile.FieldType)) ∈ lw_all := lw_g (lw_at lw_m4 35 rfl) rfl
theorem q860 : (Jvm.Cond.methodLink "java/lang/Throwable" (1 : Nat) ({ cls := "java/lang/Object", name := "<init>", desc := "()V" } : Jvm.MethodName)) ∈ lw_all := lw_g (lw_at lw_m4 36 rfl) rfl
theorem q861 : (Jvm.Cond.fieldLink "java/lang/Throwable" (13 : Nat) "java/lang/Throwable" "UNASSIGNED_STACK" "[Ljava/lang/StackTraceElement;") ∈ lw_all := lw_g (lw_at lw_m4 37 rfl) rfl
theorem q862 : (Jvm.Cond.laysStatic "java/lang/Throwable" "UNASSIGNED_STACK" "[Ljava/lang/StackTraceElement;") ∈ lw_tbl := lw_at lw_m4 38 rfl
theorem q863 : (Jvm.Cond.fieldLink "java/lang/Throwable" (20 : Nat) "java/lang/Throwable" "SUPPRESSED_SENTINEL" "Ljava/util/List;") ∈ lw_all := lw_g (lw_at lw_m4 39 rfl) rfl
theorem q864 : (Jvm.Cond.laysStatic "java/lang/Throwable" "SUPPRESSED_SENTINEL" "Ljava/util/List;") ∈ lw_tbl := lw_at lw_m4 40 rfl
theorem q865 : (Jvm.Cond.methodLink "java/lang/Throwable" (27 : Nat) ({ cls := "java/lang/Throwable", name := "fillInStackTrace", desc := "()Ljava/lang/Throwable;" } : Jvm.MethodName)) ∈ lw_all := lw_g (lw_at lw_m4 41 rfl) rfl
theorem q866 : (Jvm.Cond.instanceMethod ({ cls := "java/lang/Throwable", name := "fillInStackTrace", desc := "()Ljava/lang/Throwable;" } : Jvm.MethodName)) ∈ lw_all := lw_g (lw_at lw_m4 42 rfl) rfl
theorem q867 : (Jvm.Cond.sameMethod "java/lang/Throwable" "java/lang/Throwable" "fillInStackTrace" "()Ljava/lang/Throwable;") ∈ lw_all := lw_g (lw_at lw_m4 43 rfl) rfl
theorem q868 : (Jvm.Cond.codeSync ({ cls := "java/lang/Throwable", name := "fillInStackTrace", desc := "()Ljava/lang/Throwable;" } : Jvm.MethodName) prog_32_method_18_code (1 : Nat) (Option.some (Jvm.ClassFile.FieldType.object "java/lang/Throwable"))) ∈ lw_all := lw_g (lw_at lw_m4 44 rfl) rfl
theorem q869 : (Jvm.Cond.methodLink "java/lang/Throwable" (202 : Nat) ({ cls := "java/lang/Throwable", name := "fillInStackTrace", desc := "(I)Ljava/lang/Throwable;" } : Jvm.MethodName)) ∈ lw_all := lw_g (lw_at lw_m4 45 rfl) rfl
theorem q870 : (Jvm.Cond.privateMethod ({ cls := "java/lang/Throwable", name := "fillInStackTrace", desc := "(I)Ljava/lang/Throwable;" } : Jvm.MethodName)) ∈ lw_tbl := lw_at lw_m4 46 rfl
theorem q871 : (Jvm.Cond.instanceMethod ({ cls := "java/lang/Throwable", name := "fillInStackTrace", desc := "(I)Ljava/lang/Throwable;" } : Jvm.MethodName)) ∈ lw_all := lw_g (lw_at lw_m4 47 rfl) rfl
theorem q872 : (Jvm.Cond.instantiable "java/lang/Throwable" (6 : Nat)) ∈ lw_all := lw_g (lw_at lw_m4 48 rfl) rfl
theorem q873 : (Jvm.Cond.native ({ cls := "java/lang/Throwable", name := "fillInStackTrace", desc := "(I)Ljava/lang/Throwable;" } : Jvm.MethodName)) ∈ lw_all := lw_g (lw_at lw_m4 49 rfl) rfl
theorem q881 : (Jvm.Cond.instanceMethod ({ cls := "java/lang/Throwable", name := "<init>", desc := "(Ljava/lang/String;Ljava/lang/Throwable;ZZ)V" } : Jvm.MethodName)) ∈ lw_all := lw_g (lw_at lw_m4 57 rfl) rfl
theorem q882 : (Jvm.Cond.code ({ cls := "java/lang/Throwable", name := "<init>", desc := "(Ljava/lang/String;Ljava/lang/Throwable;ZZ)V" } : Jvm.MethodName) prog_32_method_5_code (5 : Nat) (Option.none : Option Jvm.ClassFile.FieldType)) ∈ lw_all := lw_g (lw_at lw_m4 58 rfl) rfl
theorem q885 : (Jvm.Cond.fieldLink "java/lang/Throwable" (198 : Nat) "java/lang/Throwable" "backtrace" "Ljava/lang/Object;") ∈ lw_all := lw_g (lw_at lw_m4 61 rfl) rfl
theorem q886 : (Jvm.Cond.fieldLink "java/lang/Throwable" (31 : Nat) "java/lang/Throwable" "detailMessage" "Ljava/lang/String;") ∈ lw_all := lw_g (lw_at lw_m4 62 rfl) rfl
theorem q887 : (Jvm.Cond.fieldLink "java/lang/Throwable" (7 : Nat) "java/lang/Throwable" "cause" "Ljava/lang/Throwable;") ∈ lw_all := lw_g (lw_at lw_m4 63 rfl) rfl
theorem q888 : (Jvm.Cond.fieldLink "java/lang/Throwable" (17 : Nat) "java/lang/Throwable" "stackTrace" "[Ljava/lang/StackTraceElement;") ∈ lw_all := lw_g (lw_at lw_m4 64 rfl) rfl
theorem q889 : (Jvm.Cond.fieldLink "java/lang/Throwable" (24 : Nat) "java/lang/Throwable" "suppressedExceptions" "Ljava/util/List;") ∈ lw_all := lw_g (lw_at lw_m4 65 rfl) rfl
theorem q892 : (Jvm.Cond.soleField "java/lang/Throwable" "backtrace") ∈ lw_all := lw_g (lw_at lw_m4 68 rfl) rfl
theorem q893 : (Jvm.Cond.soleField "java/lang/Throwable" "detailMessage") ∈ lw_all := lw_g (lw_at lw_m4 69 rfl) rfl
theorem q894 : (Jvm.Cond.soleField "java/lang/Throwable" "cause") ∈ lw_all := lw_g (lw_at lw_m4 70 rfl) rfl
theorem q895 : (Jvm.Cond.soleField "java/lang/Throwable" "stackTrace") ∈ lw_all := lw_g (lw_at lw_m4 71 rfl) rfl
theorem q897 : (Jvm.Cond.soleField "java/lang/Throwable" "depth") ∈ lw_all := lw_g (lw_at lw_m4 73 rfl) rfl
theorem q898 : (Jvm.Cond.soleField "java/lang/Throwable" "suppressedExceptions") ∈ lw_all := lw_g (lw_at lw_m4 74 rfl) rfl
theorem q2058 : (Jvm.Cond.sameMethod "java/lang/Throwable" "java/lang/Throwable" "fillInStackTrace" "(I)Ljava/lang/Throwable;") ∈ lw_all := lw_g (lw_at lw_m9 34 rfl) rfl
theorem in_J1 : ∀ w ∈ wsJ10, w ∈ lw_all := lw_in wsJ10 [847, 849, 851, 853, 855] (by decide +kernel) (by decide +kernel)
/-! java/lang/Exception -/
set_option maxRecDepth 100000
def RJ2 : String := "java/lang/Exception"
abbrev cJ2_init : ByteArray := prog_25_method_5_code
def yJ2_init : MethodName := ⟨RJ2, "<init>", "(Ljava/lang/String;Ljava/lang/Throwable;ZZ)V"⟩
def dkwJ2_init_0 : List UInt8 := [42, 43, 44, 29, 21, 4, 183, 0, 16, 177]
abbrev dktJ2_init_0 : List UInt8 := dkwJ2_init_0 ++ []
theorem dksJ2_init_0 : cJ2_init.data.toList.drop 0 = dktJ2_init_0 := by decide +kernel
theorem dJ2_init_0 : decode cJ2_init 0 = .ok (.aload_n 0, 1) := dk_42 (dk_at dksJ2_init_0 0 rfl rfl)
theorem dJ2_init_1 : decode cJ2_init 1 = .ok (.aload_n 1, 1) := dk_43 (dk_at dksJ2_init_0 1 rfl rfl)
theorem dJ2_init_2 : decode cJ2_init 2 = .ok (.aload_n 2, 1) := dk_44 (dk_at dksJ2_init_0 2 rfl rfl)
theorem dJ2_init_3 : decode cJ2_init 3 = .ok (.iload_n 3, 1) := dk_29 (dk_at dksJ2_init_0 3 rfl rfl)
theorem dJ2_init_4 : decode cJ2_init 4 = .ok (.iload 4, 2) := dk_21 4 (dk_at dksJ2_init_0 4 rfl rfl)
theorem dJ2_init_6 : decode cJ2_init 6 = .ok (.invokespecial 16, 3) := dk_183 0 16 (dk_at dksJ2_init_0 6 rfl rfl)
theorem dJ2_init_9 : decode cJ2_init 9 = .ok (.return_, 1) := dk_177 (dk_at dksJ2_init_0 9 rfl rfl)
theorem q119 : (Jvm.Cond.initialized "java/lang/Exception") ∈ lw_all := lw_g (lw_at lw_m1 15 rfl) rfl
theorem q840 : (Jvm.Cond.declares ({ cls := "java/lang/Exception", name := "<init>", desc := "()V" } : Jvm.MethodName)) ∈ lw_tbl := lw_at lw_m4 16 rfl
theorem q841 : (Jvm.Cond.declares ({ cls := "java/lang/Exception", name := "<init>", desc := "(Ljava/lang/String;)V" } : Jvm.MethodName)) ∈ lw_tbl := lw_at lw_m4 17 rfl
theorem q878 : (Jvm.Cond.instanceMethod ({ cls := "java/lang/Exception", name := "<init>", desc := "(Ljava/lang/String;Ljava/lang/Throwable;ZZ)V" } : Jvm.MethodName)) ∈ lw_all := lw_g (lw_at lw_m4 54 rfl) rfl
theorem q879 : (Jvm.Cond.code ({ cls := "java/lang/Exception", name := "<init>", desc := "(Ljava/lang/String;Ljava/lang/Throwable;ZZ)V" } : Jvm.MethodName) prog_25_method_5_code (5 : Nat) (Option.none : Option Jvm.ClassFile.FieldType)) ∈ lw_all := lw_g (lw_at lw_m4 55 rfl) rfl
theorem q880 : (Jvm.Cond.methodLink "java/lang/Exception" (16 : Nat) ({ cls := "java/lang/Throwable", name := "<init>", desc := "(Ljava/lang/String;Ljava/lang/Throwable;ZZ)V" } : Jvm.MethodName)) ∈ lw_all := lw_g (lw_at lw_m4 56 rfl) rfl
/-! java/lang/String -/
set_option maxRecDepth 100000
def RJ3 : String := "java/lang/String"
abbrev cJ3_length : ByteArray := prog_28_method_54_code
def yJ3_length : MethodName := ⟨RJ3, "length", "()I"⟩
def dkwJ3_length_0 : List UInt8 := [42, 180, 0, 9, 190, 42, 182, 1, 79, 122, 172]
abbrev dktJ3_length_0 : List UInt8 := dkwJ3_length_0 ++ []
theorem dksJ3_length_0 : cJ3_length.data.toList.drop 0 = dktJ3_length_0 := by decide +kernel
theorem dJ3_length_0 : decode cJ3_length 0 = .ok (.aload_n 0, 1) := dk_42 (dk_at dksJ3_length_0 0 rfl rfl)
theorem dJ3_length_1 : decode cJ3_length 1 = .ok (.getfield 9, 3) := dk_180 0 9 (dk_at dksJ3_length_0 1 rfl rfl)
theorem dJ3_length_4 : decode cJ3_length 4 = .ok (.arraylength, 1) := dk_190 (dk_at dksJ3_length_0 4 rfl rfl)
theorem dJ3_length_5 : decode cJ3_length 5 = .ok (.aload_n 0, 1) := dk_42 (dk_at dksJ3_length_0 5 rfl rfl)
theorem dJ3_length_6 : decode cJ3_length 6 = .ok (.invokevirtual 335, 3) := dk_182 1 79 (dk_at dksJ3_length_0 6 rfl rfl)
theorem dJ3_length_9 : decode cJ3_length 9 = .ok (.ishr, 1) := dk_122 (dk_at dksJ3_length_0 9 rfl rfl)
theorem dJ3_length_10 : decode cJ3_length 10 = .ok (.ireturn, 1) := dk_172 (dk_at dksJ3_length_0 10 rfl rfl)
abbrev cJ3_coder : ByteArray := prog_28_method_152_code
def yJ3_coder : MethodName := ⟨RJ3, "coder", "()B"⟩
def dkwJ3_coder_0 : List UInt8 := [178, 0, 38, 153, 0, 10, 42, 180, 0, 15, 167, 0, 4, 4, 172]
abbrev dktJ3_coder_0 : List UInt8 := dkwJ3_coder_0 ++ []
theorem dksJ3_coder_0 : cJ3_coder.data.toList.drop 0 = dktJ3_coder_0 := by decide +kernel
theorem dJ3_coder_0 : decode cJ3_coder 0 = .ok (.getstatic 38, 3) := dk_178 0 38 (dk_at dksJ3_coder_0 0 rfl rfl)
theorem dJ3_coder_3 : decode cJ3_coder 3 = .ok (.ifCond .eq 10, 3) := dk_153 0 10 (dk_at dksJ3_coder_0 3 rfl rfl)
theorem dJ3_coder_6 : decode cJ3_coder 6 = .ok (.aload_n 0, 1) := dk_42 (dk_at dksJ3_coder_0 6 rfl rfl)
theorem dJ3_coder_7 : decode cJ3_coder 7 = .ok (.getfield 15, 3) := dk_180 0 15 (dk_at dksJ3_coder_0 7 rfl rfl)
theorem dJ3_coder_10 : decode cJ3_coder 10 = .ok (.goto 4, 3) := dk_167 0 4 (dk_at dksJ3_coder_0 10 rfl rfl)
theorem dJ3_coder_13 : decode cJ3_coder 13 = .ok (.iconst 1, 1) := dk_4 (dk_at dksJ3_coder_0 13 rfl rfl)
theorem dJ3_coder_14 : decode cJ3_coder 14 = .ok (.ireturn, 1) := dk_172 (dk_at dksJ3_coder_0 14 rfl rfl)
abbrev cJ3_charAt : ByteArray := prog_28_method_56_code
def yJ3_charAt : MethodName := ⟨RJ3, "charAt", "(I)C"⟩
def dkwJ3_charAt_1 : List UInt8 := [172]
abbrev dktJ3_charAt_1 : List UInt8 := dkwJ3_charAt_1 ++ []
def dkwJ3_charAt_0 : List UInt8 := [42, 182, 1, 236, 153, 0, 12, 42, 180, 0, 9, 27, 184, 1, 239, 172, 42, 180, 0, 9, 27, 184, 1, 242]
abbrev dktJ3_charAt_0 : List UInt8 := dkwJ3_charAt_0 ++ dktJ3_charAt_1
theorem dksJ3_charAt_0 : cJ3_charAt.data.toList.drop 0 = dktJ3_charAt_0 := by decide +kernel
theorem dksJ3_charAt_1 : cJ3_charAt.data.toList.drop 24 = dktJ3_charAt_1 := dk_seg dksJ3_charAt_0 24 rfl rfl
theorem dJ3_charAt_0 : decode cJ3_charAt 0 = .ok (.aload_n 0, 1) := dk_42 (dk_at dksJ3_charAt_0 0 rfl rfl)
theorem dJ3_charAt_1 : decode cJ3_charAt 1 = .ok (.invokevirtual 492, 3) := dk_182 1 236 (dk_at dksJ3_charAt_0 1 rfl rfl)
theorem dJ3_charAt_4 : decode cJ3_charAt 4 = .ok (.ifCond .eq 12, 3) := dk_153 0 12 (dk_at dksJ3_charAt_0 4 rfl rfl)
theorem dJ3_charAt_7 : decode cJ3_charAt 7 = .ok (.aload_n 0, 1) := dk_42 (dk_at dksJ3_charAt_0 7 rfl rfl)
theorem dJ3_charAt_8 : decode cJ3_charAt 8 = .ok (.getfield 9, 3) := dk_180 0 9 (dk_at dksJ3_charAt_0 8 rfl rfl)
theorem dJ3_charAt_11 : decode cJ3_charAt 11 = .ok (.iload_n 1, 1) := dk_27 (dk_at dksJ3_charAt_0 11 rfl rfl)
theorem dJ3_charAt_12 : decode cJ3_charAt 12 = .ok (.invokestatic 495, 3) := dk_184 1 239 (dk_at dksJ3_charAt_0 12 rfl rfl)
theorem dJ3_charAt_15 : decode cJ3_charAt 15 = .ok (.ireturn, 1) := dk_172 (dk_at dksJ3_charAt_0 15 rfl rfl)
theorem dJ3_charAt_16 : decode cJ3_charAt 16 = .ok (.aload_n 0, 1) := dk_42 (dk_at dksJ3_charAt_0 16 rfl rfl)
theorem dJ3_charAt_17 : decode cJ3_charAt 17 = .ok (.getfield 9, 3) := dk_180 0 9 (dk_at dksJ3_charAt_0 17 rfl rfl)
theorem dJ3_charAt_20 : decode cJ3_charAt 20 = .ok (.iload_n 1, 1) := dk_27 (dk_at dksJ3_charAt_0 20 rfl rfl)
theorem dJ3_charAt_21 : decode cJ3_charAt 21 = .ok (.invokestatic 498, 3) := dk_184 1 242 (dk_at dksJ3_charAt_0 21 rfl rfl)
theorem dJ3_charAt_24 : decode cJ3_charAt 24 = .ok (.ireturn, 1) := dk_172 (dk_at dksJ3_charAt_1 0 rfl rfl)
abbrev cJ3_isLatin1 : ByteArray := prog_28_method_154_code
def yJ3_isLatin1 : MethodName := ⟨RJ3, "isLatin1", "()Z"⟩
def dkwJ3_isLatin1_0 : List UInt8 := [178, 0, 38, 153, 0, 14, 42, 180, 0, 15, 154, 0, 7, 4, 167, 0, 4, 3, 172]
abbrev dktJ3_isLatin1_0 : List UInt8 := dkwJ3_isLatin1_0 ++ []
theorem dksJ3_isLatin1_0 : cJ3_isLatin1.data.toList.drop 0 = dktJ3_isLatin1_0 := by decide +kernel
theorem dJ3_isLatin1_0 : decode cJ3_isLatin1 0 = .ok (.getstatic 38, 3) := dk_178 0 38 (dk_at dksJ3_isLatin1_0 0 rfl rfl)
theorem dJ3_isLatin1_3 : decode cJ3_isLatin1 3 = .ok (.ifCond .eq 14, 3) := dk_153 0 14 (dk_at dksJ3_isLatin1_0 3 rfl rfl)
theorem dJ3_isLatin1_6 : decode cJ3_isLatin1 6 = .ok (.aload_n 0, 1) := dk_42 (dk_at dksJ3_isLatin1_0 6 rfl rfl)
theorem dJ3_isLatin1_7 : decode cJ3_isLatin1 7 = .ok (.getfield 15, 3) := dk_180 0 15 (dk_at dksJ3_isLatin1_0 7 rfl rfl)
theorem dJ3_isLatin1_10 : decode cJ3_isLatin1 10 = .ok (.ifCond .ne 7, 3) := dk_154 0 7 (dk_at dksJ3_isLatin1_0 10 rfl rfl)
theorem dJ3_isLatin1_13 : decode cJ3_isLatin1 13 = .ok (.iconst 1, 1) := dk_4 (dk_at dksJ3_isLatin1_0 13 rfl rfl)
theorem dJ3_isLatin1_14 : decode cJ3_isLatin1 14 = .ok (.goto 4, 3) := dk_167 0 4 (dk_at dksJ3_isLatin1_0 14 rfl rfl)
theorem dJ3_isLatin1_17 : decode cJ3_isLatin1 17 = .ok (.iconst 0, 1) := dk_3 (dk_at dksJ3_isLatin1_0 17 rfl rfl)
theorem dJ3_isLatin1_18 : decode cJ3_isLatin1 18 = .ok (.ireturn, 1) := dk_172 (dk_at dksJ3_isLatin1_0 18 rfl rfl)
abbrev cJ3_checkIndex : ByteArray := prog_28_method_155_code
def yJ3_checkIndex : MethodName := ⟨RJ3, "checkIndex", "(II)V"⟩
def dkwJ3_checkIndex_0 : List UInt8 := [26, 27, 178, 4, 29, 184, 4, 35, 87, 177]
abbrev dktJ3_checkIndex_0 : List UInt8 := dkwJ3_checkIndex_0 ++ []
theorem dksJ3_checkIndex_0 : cJ3_checkIndex.data.toList.drop 0 = dktJ3_checkIndex_0 := by decide +kernel
theorem dJ3_checkIndex_0 : decode cJ3_checkIndex 0 = .ok (.iload_n 0, 1) := dk_26 (dk_at dksJ3_checkIndex_0 0 rfl rfl)
theorem dJ3_checkIndex_1 : decode cJ3_checkIndex 1 = .ok (.iload_n 1, 1) := dk_27 (dk_at dksJ3_checkIndex_0 1 rfl rfl)
theorem dJ3_checkIndex_2 : decode cJ3_checkIndex 2 = .ok (.getstatic 1053, 3) := dk_178 4 29 (dk_at dksJ3_checkIndex_0 2 rfl rfl)
theorem dJ3_checkIndex_5 : decode cJ3_checkIndex 5 = .ok (.invokestatic 1059, 3) := dk_184 4 35 (dk_at dksJ3_checkIndex_0 5 rfl rfl)
theorem dJ3_checkIndex_8 : decode cJ3_checkIndex 8 = .ok (.pop, 1) := dk_87 (dk_at dksJ3_checkIndex_0 8 rfl rfl)
theorem dJ3_checkIndex_9 : decode cJ3_checkIndex 9 = .ok (.return_, 1) := dk_177 (dk_at dksJ3_checkIndex_0 9 rfl rfl)
theorem q121 : (Jvm.Cond.initialized "java/lang/String") ∈ lw_all := lw_g (lw_at lw_m1 17 rfl) rfl
theorem q913 : (Jvm.Cond.instanceMethod ({ cls := "java/lang/String", name := "length", desc := "()I" } : Jvm.MethodName)) ∈ lw_all := lw_g (lw_at lw_m4 89 rfl) rfl
theorem q914 : (Jvm.Cond.selects "java/lang/String" ({ cls := "java/lang/String", name := "length", desc := "()I" } : Jvm.MethodName) ({ cls := "java/lang/String", name := "length", desc := "()I" } : Jvm.MethodName)) ∈ lw_all := lw_g (lw_at lw_m4 90 rfl) rfl
theorem q915 : (Jvm.Cond.code ({ cls := "java/lang/String", name := "length", desc := "()I" } : Jvm.MethodName) prog_28_method_54_code (1 : Nat) (Option.some Jvm.ClassFile.FieldType.int)) ∈ lw_all := lw_g (lw_at lw_m4 91 rfl) rfl
theorem q916 : (Jvm.Cond.methodLink "java/lang/String" (335 : Nat) ({ cls := "java/lang/String", name := "coder", desc := "()B" } : Jvm.MethodName)) ∈ lw_all := lw_g (lw_at lw_m4 92 rfl) rfl
theorem q917 : (Jvm.Cond.instanceMethod ({ cls := "java/lang/String", name := "coder", desc := "()B" } : Jvm.MethodName)) ∈ lw_all := lw_g (lw_at lw_m4 93 rfl) rfl
theorem q918 : (Jvm.Cond.selects "java/lang/String" ({ cls := "java/lang/String", name := "coder", desc := "()B" } : Jvm.MethodName) ({ cls := "java/lang/String", name := "coder", desc := "()B" } : Jvm.MethodName)) ∈ lw_all := lw_g (lw_at lw_m4 94 rfl) rfl
theorem q919 : (Jvm.Cond.code ({ cls := "java/lang/String", name := "coder", desc := "()B" } : Jvm.MethodName) prog_28_method_152_code (1 : Nat) (Option.some Jvm.ClassFile.FieldType.byte)) ∈ lw_all := lw_g (lw_at lw_m4 95 rfl) rfl
theorem q920 : (Jvm.Cond.fieldLink "java/lang/String" (38 : Nat) "java/lang/String" "COMPACT_STRINGS" "Z") ∈ lw_all := lw_g (lw_at lw_m4 96 rfl) rfl
theorem q921 : (Jvm.Cond.laysStatic "java/lang/String" "COMPACT_STRINGS" "Z") ∈ lw_tbl := lw_at lw_m4 97 rfl
theorem q923 : (Jvm.Cond.instanceMethod ({ cls := "java/lang/String", name := "charAt", desc := "(I)C" } : Jvm.MethodName)) ∈ lw_all := lw_g (lw_at lw_m4 99 rfl) rfl
theorem q924 : (Jvm.Cond.selects "java/lang/String" ({ cls := "java/lang/String", name := "charAt", desc := "(I)C" } : Jvm.MethodName) ({ cls := "java/lang/String", name := "charAt", desc := "(I)C" } : Jvm.MethodName)) ∈ lw_all := lw_g (lw_at lw_m4 100 rfl) rfl
theorem q925 : (Jvm.Cond.code ({ cls := "java/lang/String", name := "charAt", desc := "(I)C" } : Jvm.MethodName) prog_28_method_56_code (2 : Nat) (Option.some Jvm.ClassFile.FieldType.char)) ∈ lw_all := lw_g (lw_at lw_m4 101 rfl) rfl
theorem q926 : (Jvm.Cond.methodLink "java/lang/String" (492 : Nat) ({ cls := "java/lang/String", name := "isLatin1", desc := "()Z" } : Jvm.MethodName)) ∈ lw_all := lw_g (lw_at lw_m4 102 rfl) rfl
theorem q927 : (Jvm.Cond.instanceMethod ({ cls := "java/lang/String", name := "isLatin1", desc := "()Z" } : Jvm.MethodName)) ∈ lw_all := lw_g (lw_at lw_m4 103 rfl) rfl
theorem q928 : (Jvm.Cond.selects "java/lang/String" ({ cls := "java/lang/String", name := "isLatin1", desc := "()Z" } : Jvm.MethodName) ({ cls := "java/lang/String", name := "isLatin1", desc := "()Z" } : Jvm.MethodName)) ∈ lw_all := lw_g (lw_at lw_m4 104 rfl) rfl
theorem q929 : (Jvm.Cond.code ({ cls := "java/lang/String", name := "isLatin1", desc := "()Z" } : Jvm.MethodName) prog_28_method_154_code (1 : Nat) (Option.some Jvm.ClassFile.FieldType.boolean)) ∈ lw_all := lw_g (lw_at lw_m4 105 rfl) rfl
theorem q930 : (Jvm.Cond.methodLink "java/lang/String" (495 : Nat) ({ cls := "java/lang/StringLatin1", name := "charAt", desc := "([BI)C" } : Jvm.MethodName)) ∈ lw_all := lw_g (lw_at lw_m4 106 rfl) rfl
theorem q934 : (Jvm.Cond.static ({ cls := "java/lang/String", name := "checkIndex", desc := "(II)V" } : Jvm.MethodName)) ∈ lw_all := lw_g (lw_at lw_m4 110 rfl) rfl
theorem q935 : (Jvm.Cond.code ({ cls := "java/lang/String", name := "checkIndex", desc := "(II)V" } : Jvm.MethodName) prog_28_method_155_code (2 : Nat) (Option.none : Option Jvm.ClassFile.FieldType)) ∈ lw_all := lw_g (lw_at lw_m4 111 rfl) rfl
theorem q936 : (Jvm.Cond.fieldLink "java/lang/String" (1053 : Nat) "jdk/internal/util/Preconditions" "SIOOBE_FORMATTER" "Ljava/util/function/BiFunction;") ∈ lw_all := lw_g (lw_at lw_m4 112 rfl) rfl
theorem q938 : (Jvm.Cond.methodLink "java/lang/String" (1059 : Nat) ({ cls := "jdk/internal/util/Preconditions", name := "checkIndex", desc := "(IILjava/util/function/BiFunction;)I" } : Jvm.MethodName)) ∈ lw_all := lw_g (lw_at lw_m4 114 rfl) rfl
theorem q941 : (Jvm.Cond.methodLink "java/lang/String" (498 : Nat) ({ cls := "java/lang/StringUTF16", name := "charAt", desc := "([BI)C" } : Jvm.MethodName)) ∈ lw_all := lw_g (lw_at lw_m4 117 rfl) rfl
theorem q2067 : (Jvm.Cond.fieldLink "java/lang/String" (9 : Nat) "java/lang/String" "value" "[B") ∈ lw_all := lw_g (lw_at lw_m9 43 rfl) rfl
theorem q2068 : (Jvm.Cond.fieldLink "java/lang/String" (15 : Nat) "java/lang/String" "coder" "B") ∈ lw_all := lw_g (lw_at lw_m9 44 rfl) rfl
/-! java/lang/StringLatin1 -/
set_option maxRecDepth 100000
def RJ4 : String := "java/lang/StringLatin1"
abbrev cJ4_charAt : ByteArray := prog_29_method_2_code
def yJ4_charAt : MethodName := ⟨RJ4, "charAt", "([BI)C"⟩
def dkwJ4_charAt_0 : List UInt8 := [27, 42, 190, 184, 0, 9, 42, 27, 51, 17, 0, 255, 126, 146, 172]
abbrev dktJ4_charAt_0 : List UInt8 := dkwJ4_charAt_0 ++ []
theorem dksJ4_charAt_0 : cJ4_charAt.data.toList.drop 0 = dktJ4_charAt_0 := by decide +kernel
theorem dJ4_charAt_0 : decode cJ4_charAt 0 = .ok (.iload_n 1, 1) := dk_27 (dk_at dksJ4_charAt_0 0 rfl rfl)
theorem dJ4_charAt_1 : decode cJ4_charAt 1 = .ok (.aload_n 0, 1) := dk_42 (dk_at dksJ4_charAt_0 1 rfl rfl)
theorem dJ4_charAt_2 : decode cJ4_charAt 2 = .ok (.arraylength, 1) := dk_190 (dk_at dksJ4_charAt_0 2 rfl rfl)
theorem dJ4_charAt_3 : decode cJ4_charAt 3 = .ok (.invokestatic 9, 3) := dk_184 0 9 (dk_at dksJ4_charAt_0 3 rfl rfl)
theorem dJ4_charAt_6 : decode cJ4_charAt 6 = .ok (.aload_n 0, 1) := dk_42 (dk_at dksJ4_charAt_0 6 rfl rfl)
theorem dJ4_charAt_7 : decode cJ4_charAt 7 = .ok (.iload_n 1, 1) := dk_27 (dk_at dksJ4_charAt_0 7 rfl rfl)
theorem dJ4_charAt_8 : decode cJ4_charAt 8 = .ok (.baload, 1) := dk_51 (dk_at dksJ4_charAt_0 8 rfl rfl)
theorem dJ4_charAt_9 : decode cJ4_charAt 9 = .ok (.sipush 255, 3) := dk_17 0 255 (dk_at dksJ4_charAt_0 9 rfl rfl)
theorem dJ4_charAt_12 : decode cJ4_charAt 12 = .ok (.iand, 1) := dk_126 (dk_at dksJ4_charAt_0 12 rfl rfl)
theorem dJ4_charAt_13 : decode cJ4_charAt 13 = .ok (.i2c, 1) := dk_146 (dk_at dksJ4_charAt_0 13 rfl rfl)
theorem dJ4_charAt_14 : decode cJ4_charAt 14 = .ok (.ireturn, 1) := dk_172 (dk_at dksJ4_charAt_0 14 rfl rfl)
theorem q122 : (Jvm.Cond.initialized "java/lang/StringLatin1") ∈ lw_all := lw_g (lw_at lw_m1 18 rfl) rfl
theorem q931 : (Jvm.Cond.static ({ cls := "java/lang/StringLatin1", name := "charAt", desc := "([BI)C" } : Jvm.MethodName)) ∈ lw_all := lw_g (lw_at lw_m4 107 rfl) rfl
theorem q932 : (Jvm.Cond.code ({ cls := "java/lang/StringLatin1", name := "charAt", desc := "([BI)C" } : Jvm.MethodName) prog_29_method_2_code (2 : Nat) (Option.some Jvm.ClassFile.FieldType.char)) ∈ lw_all := lw_g (lw_at lw_m4 108 rfl) rfl
theorem q933 : (Jvm.Cond.methodLink "java/lang/StringLatin1" (9 : Nat) ({ cls := "java/lang/String", name := "checkIndex", desc := "(II)V" } : Jvm.MethodName)) ∈ lw_all := lw_g (lw_at lw_m4 109 rfl) rfl
/-! jdk/internal/util/Preconditions -/
set_option maxRecDepth 100000
def RJ5 : String := "jdk/internal/util/Preconditions"
abbrev cJ5_checkIndex : ByteArray := prog_33_method_11_code
def yJ5_checkIndex : MethodName := ⟨RJ5, "checkIndex", "(IILjava/util/function/BiFunction;)I"⟩
def dkwJ5_checkIndex_0 : List UInt8 := [26, 155, 0, 8, 26, 27, 161, 0, 10, 44, 26, 27, 184, 0, 95, 191, 26, 172]
abbrev dktJ5_checkIndex_0 : List UInt8 := dkwJ5_checkIndex_0 ++ []
theorem dksJ5_checkIndex_0 : cJ5_checkIndex.data.toList.drop 0 = dktJ5_checkIndex_0 := by decide +kernel
theorem dJ5_checkIndex_0 : decode cJ5_checkIndex 0 = .ok (.iload_n 0, 1) := dk_26 (dk_at dksJ5_checkIndex_0 0 rfl rfl)
theorem dJ5_checkIndex_1 : decode cJ5_checkIndex 1 = .ok (.ifCond .lt 8, 3) := dk_155 0 8 (dk_at dksJ5_checkIndex_0 1 rfl rfl)
theorem dJ5_checkIndex_4 : decode cJ5_checkIndex 4 = .ok (.iload_n 0, 1) := dk_26 (dk_at dksJ5_checkIndex_0 4 rfl rfl)
theorem dJ5_checkIndex_5 : decode cJ5_checkIndex 5 = .ok (.iload_n 1, 1) := dk_27 (dk_at dksJ5_checkIndex_0 5 rfl rfl)
theorem dJ5_checkIndex_6 : decode cJ5_checkIndex 6 = .ok (.if_icmp .lt 10, 3) := dk_161 0 10 (dk_at dksJ5_checkIndex_0 6 rfl rfl)
theorem dJ5_checkIndex_9 : decode cJ5_checkIndex 9 = .ok (.aload_n 2, 1) := dk_44 (dk_at dksJ5_checkIndex_0 9 rfl rfl)
theorem dJ5_checkIndex_10 : decode cJ5_checkIndex 10 = .ok (.iload_n 0, 1) := dk_26 (dk_at dksJ5_checkIndex_0 10 rfl rfl)
theorem dJ5_checkIndex_11 : decode cJ5_checkIndex 11 = .ok (.iload_n 1, 1) := dk_27 (dk_at dksJ5_checkIndex_0 11 rfl rfl)
theorem dJ5_checkIndex_12 : decode cJ5_checkIndex 12 = .ok (.invokestatic 95, 3) := dk_184 0 95 (dk_at dksJ5_checkIndex_0 12 rfl rfl)
theorem dJ5_checkIndex_15 : decode cJ5_checkIndex 15 = .ok (.athrow, 1) := dk_191 (dk_at dksJ5_checkIndex_0 15 rfl rfl)
theorem dJ5_checkIndex_16 : decode cJ5_checkIndex 16 = .ok (.iload_n 0, 1) := dk_26 (dk_at dksJ5_checkIndex_0 16 rfl rfl)
theorem dJ5_checkIndex_17 : decode cJ5_checkIndex 17 = .ok (.ireturn, 1) := dk_172 (dk_at dksJ5_checkIndex_0 17 rfl rfl)
theorem q123 : (Jvm.Cond.initialized "jdk/internal/util/Preconditions") ∈ lw_all := lw_g (lw_at lw_m1 19 rfl) rfl
theorem q937 : (Jvm.Cond.laysStatic "jdk/internal/util/Preconditions" "SIOOBE_FORMATTER" "Ljava/util/function/BiFunction;") ∈ lw_tbl := lw_at lw_m4 113 rfl
theorem q939 : (Jvm.Cond.static ({ cls := "jdk/internal/util/Preconditions", name := "checkIndex", desc := "(IILjava/util/function/BiFunction;)I" } : Jvm.MethodName)) ∈ lw_all := lw_g (lw_at lw_m4 115 rfl) rfl
theorem q940 : (Jvm.Cond.code ({ cls := "jdk/internal/util/Preconditions", name := "checkIndex", desc := "(IILjava/util/function/BiFunction;)I" } : Jvm.MethodName) prog_33_method_11_code (3 : Nat) (Option.some Jvm.ClassFile.FieldType.int)) ∈ lw_all := lw_g (lw_at lw_m4 116 rfl) rfl
/-! java/lang/StringUTF16 -/
set_option maxRecDepth 100000
def RJ6 : String := "java/lang/StringUTF16"
abbrev cJ6_charAt : ByteArray := prog_30_method_83_code
def yJ6_charAt : MethodName := ⟨RJ6, "charAt", "([BI)C"⟩
def dkwJ6_charAt_0 : List UInt8 := [27, 42, 184, 0, 67, 42, 27, 184, 0, 71, 172]
abbrev dktJ6_charAt_0 : List UInt8 := dkwJ6_charAt_0 ++ []
theorem dksJ6_charAt_0 : cJ6_charAt.data.toList.drop 0 = dktJ6_charAt_0 := by decide +kernel
theorem dJ6_charAt_0 : decode cJ6_charAt 0 = .ok (.iload_n 1, 1) := dk_27 (dk_at dksJ6_charAt_0 0 rfl rfl)
theorem dJ6_charAt_1 : decode cJ6_charAt 1 = .ok (.aload_n 0, 1) := dk_42 (dk_at dksJ6_charAt_0 1 rfl rfl)
theorem dJ6_charAt_2 : decode cJ6_charAt 2 = .ok (.invokestatic 67, 3) := dk_184 0 67 (dk_at dksJ6_charAt_0 2 rfl rfl)
theorem dJ6_charAt_5 : decode cJ6_charAt 5 = .ok (.aload_n 0, 1) := dk_42 (dk_at dksJ6_charAt_0 5 rfl rfl)
theorem dJ6_charAt_6 : decode cJ6_charAt 6 = .ok (.iload_n 1, 1) := dk_27 (dk_at dksJ6_charAt_0 6 rfl rfl)
theorem dJ6_charAt_7 : decode cJ6_charAt 7 = .ok (.invokestatic 71, 3) := dk_184 0 71 (dk_at dksJ6_charAt_0 7 rfl rfl)
theorem dJ6_charAt_10 : decode cJ6_charAt 10 = .ok (.ireturn, 1) := dk_172 (dk_at dksJ6_charAt_0 10 rfl rfl)
abbrev cJ6_checkIndex : ByteArray := prog_30_method_91_code
def yJ6_checkIndex : MethodName := ⟨RJ6, "checkIndex", "(I[B)V"⟩
def dkwJ6_checkIndex_0 : List UInt8 := [26, 43, 184, 0, 48, 184, 1, 158, 177]
abbrev dktJ6_checkIndex_0 : List UInt8 := dkwJ6_checkIndex_0 ++ []
theorem dksJ6_checkIndex_0 : cJ6_checkIndex.data.toList.drop 0 = dktJ6_checkIndex_0 := by decide +kernel
theorem dJ6_checkIndex_0 : decode cJ6_checkIndex 0 = .ok (.iload_n 0, 1) := dk_26 (dk_at dksJ6_checkIndex_0 0 rfl rfl)
theorem dJ6_checkIndex_1 : decode cJ6_checkIndex 1 = .ok (.aload_n 1, 1) := dk_43 (dk_at dksJ6_checkIndex_0 1 rfl rfl)
theorem dJ6_checkIndex_2 : decode cJ6_checkIndex 2 = .ok (.invokestatic 48, 3) := dk_184 0 48 (dk_at dksJ6_checkIndex_0 2 rfl rfl)
theorem dJ6_checkIndex_5 : decode cJ6_checkIndex 5 = .ok (.invokestatic 414, 3) := dk_184 1 158 (dk_at dksJ6_checkIndex_0 5 rfl rfl)
theorem dJ6_checkIndex_8 : decode cJ6_checkIndex 8 = .ok (.return_, 1) := dk_177 (dk_at dksJ6_checkIndex_0 8 rfl rfl)
abbrev cJ6_length : ByteArray := prog_30_method_6_code
def yJ6_length : MethodName := ⟨RJ6, "length", "([B)I"⟩
def dkwJ6_length_0 : List UInt8 := [42, 190, 4, 122, 172]
abbrev dktJ6_length_0 : List UInt8 := dkwJ6_length_0 ++ []
theorem dksJ6_length_0 : cJ6_length.data.toList.drop 0 = dktJ6_length_0 := by decide +kernel
theorem dJ6_length_0 : decode cJ6_length 0 = .ok (.aload_n 0, 1) := dk_42 (dk_at dksJ6_length_0 0 rfl rfl)
theorem dJ6_length_1 : decode cJ6_length 1 = .ok (.arraylength, 1) := dk_190 (dk_at dksJ6_length_0 1 rfl rfl)
theorem dJ6_length_2 : decode cJ6_length 2 = .ok (.iconst 1, 1) := dk_4 (dk_at dksJ6_length_0 2 rfl rfl)
theorem dJ6_length_3 : decode cJ6_length 3 = .ok (.ishr, 1) := dk_122 (dk_at dksJ6_length_0 3 rfl rfl)
theorem dJ6_length_4 : decode cJ6_length 4 = .ok (.ireturn, 1) := dk_172 (dk_at dksJ6_length_0 4 rfl rfl)
abbrev cJ6_getChar : ByteArray := prog_30_method_5_code
def yJ6_getChar : MethodName := ⟨RJ6, "getChar", "([BI)C"⟩
def dkwJ6_getChar_2 : List UInt8 := [51, 17, 0, 255, 126, 178, 0, 63, 120, 128, 146, 172]
abbrev dktJ6_getChar_2 : List UInt8 := dkwJ6_getChar_2 ++ []
def dkwJ6_getChar_1 : List UInt8 := [183, 0, 56, 191, 27, 4, 120, 60, 42, 27, 132, 1, 1, 51, 17, 0, 255, 126, 178, 0, 59, 120, 42, 27]
abbrev dktJ6_getChar_1 : List UInt8 := dkwJ6_getChar_1 ++ dktJ6_getChar_2
def dkwJ6_getChar_0 : List UInt8 := [178, 0, 44, 154, 0, 25, 27, 155, 0, 11, 27, 42, 184, 0, 48, 161, 0, 13, 187, 0, 52, 89, 18, 54]
abbrev dktJ6_getChar_0 : List UInt8 := dkwJ6_getChar_0 ++ dktJ6_getChar_1
theorem dksJ6_getChar_0 : cJ6_getChar.data.toList.drop 0 = dktJ6_getChar_0 := by decide +kernel
theorem dksJ6_getChar_1 : cJ6_getChar.data.toList.drop 24 = dktJ6_getChar_1 := dk_seg dksJ6_getChar_0 24 rfl rfl
theorem dksJ6_getChar_2 : cJ6_getChar.data.toList.drop 48 = dktJ6_getChar_2 := dk_seg dksJ6_getChar_1 24 rfl rfl
theorem dJ6_getChar_0 : decode cJ6_getChar 0 = .ok (.getstatic 44, 3) := dk_178 0 44 (dk_at dksJ6_getChar_0 0 rfl rfl)
theorem dJ6_getChar_3 : decode cJ6_getChar 3 = .ok (.ifCond .ne 25, 3) := dk_154 0 25 (dk_at dksJ6_getChar_0 3 rfl rfl)
theorem dJ6_getChar_6 : decode cJ6_getChar 6 = .ok (.iload_n 1, 1) := dk_27 (dk_at dksJ6_getChar_0 6 rfl rfl)
theorem dJ6_getChar_7 : decode cJ6_getChar 7 = .ok (.ifCond .lt 11, 3) := dk_155 0 11 (dk_at dksJ6_getChar_0 7 rfl rfl)
theorem dJ6_getChar_10 : decode cJ6_getChar 10 = .ok (.iload_n 1, 1) := dk_27 (dk_at dksJ6_getChar_0 10 rfl rfl)
theorem dJ6_getChar_11 : decode cJ6_getChar 11 = .ok (.aload_n 0, 1) := dk_42 (dk_at dksJ6_getChar_0 11 rfl rfl)
theorem dJ6_getChar_12 : decode cJ6_getChar 12 = .ok (.invokestatic 48, 3) := dk_184 0 48 (dk_at dksJ6_getChar_0 12 rfl rfl)
theorem dJ6_getChar_15 : decode cJ6_getChar 15 = .ok (.if_icmp .lt 13, 3) := dk_161 0 13 (dk_at dksJ6_getChar_0 15 rfl rfl)
theorem dJ6_getChar_18 : decode cJ6_getChar 18 = .ok (.new 52, 3) := dk_187 0 52 (dk_at dksJ6_getChar_0 18 rfl rfl)
theorem dJ6_getChar_21 : decode cJ6_getChar 21 = .ok (.dup, 1) := dk_89 (dk_at dksJ6_getChar_0 21 rfl rfl)
theorem dJ6_getChar_22 : decode cJ6_getChar 22 = .ok (.ldc 54, 2) := dk_18 54 (dk_at dksJ6_getChar_0 22 rfl rfl)
theorem dJ6_getChar_24 : decode cJ6_getChar 24 = .ok (.invokespecial 56, 3) := dk_183 0 56 (dk_at dksJ6_getChar_1 0 rfl rfl)
theorem dJ6_getChar_27 : decode cJ6_getChar 27 = .ok (.athrow, 1) := dk_191 (dk_at dksJ6_getChar_1 3 rfl rfl)
theorem dJ6_getChar_28 : decode cJ6_getChar 28 = .ok (.iload_n 1, 1) := dk_27 (dk_at dksJ6_getChar_1 4 rfl rfl)
theorem dJ6_getChar_29 : decode cJ6_getChar 29 = .ok (.iconst 1, 1) := dk_4 (dk_at dksJ6_getChar_1 5 rfl rfl)
theorem dJ6_getChar_30 : decode cJ6_getChar 30 = .ok (.ishl, 1) := dk_120 (dk_at dksJ6_getChar_1 6 rfl rfl)
theorem dJ6_getChar_31 : decode cJ6_getChar 31 = .ok (.istore_n 1, 1) := dk_60 (dk_at dksJ6_getChar_1 7 rfl rfl)
theorem dJ6_getChar_32 : decode cJ6_getChar 32 = .ok (.aload_n 0, 1) := dk_42 (dk_at dksJ6_getChar_1 8 rfl rfl)
theorem dJ6_getChar_33 : decode cJ6_getChar 33 = .ok (.iload_n 1, 1) := dk_27 (dk_at dksJ6_getChar_1 9 rfl rfl)
theorem dJ6_getChar_34 : decode cJ6_getChar 34 = .ok (.iinc 1 1, 3) := dk_132 1 1 (dk_at dksJ6_getChar_1 10 rfl rfl)
theorem dJ6_getChar_37 : decode cJ6_getChar 37 = .ok (.baload, 1) := dk_51 (dk_at dksJ6_getChar_1 13 rfl rfl)
theorem dJ6_getChar_38 : decode cJ6_getChar 38 = .ok (.sipush 255, 3) := dk_17 0 255 (dk_at dksJ6_getChar_1 14 rfl rfl)
theorem dJ6_getChar_41 : decode cJ6_getChar 41 = .ok (.iand, 1) := dk_126 (dk_at dksJ6_getChar_1 17 rfl rfl)
theorem dJ6_getChar_42 : decode cJ6_getChar 42 = .ok (.getstatic 59, 3) := dk_178 0 59 (dk_at dksJ6_getChar_1 18 rfl rfl)
theorem dJ6_getChar_45 : decode cJ6_getChar 45 = .ok (.ishl, 1) := dk_120 (dk_at dksJ6_getChar_1 21 rfl rfl)
theorem dJ6_getChar_46 : decode cJ6_getChar 46 = .ok (.aload_n 0, 1) := dk_42 (dk_at dksJ6_getChar_1 22 rfl rfl)
theorem dJ6_getChar_47 : decode cJ6_getChar 47 = .ok (.iload_n 1, 1) := dk_27 (dk_at dksJ6_getChar_1 23 rfl rfl)
theorem dJ6_getChar_48 : decode cJ6_getChar 48 = .ok (.baload, 1) := dk_51 (dk_at dksJ6_getChar_2 0 rfl rfl)
theorem dJ6_getChar_49 : decode cJ6_getChar 49 = .ok (.sipush 255, 3) := dk_17 0 255 (dk_at dksJ6_getChar_2 1 rfl rfl)
theorem dJ6_getChar_52 : decode cJ6_getChar 52 = .ok (.iand, 1) := dk_126 (dk_at dksJ6_getChar_2 4 rfl rfl)
theorem dJ6_getChar_53 : decode cJ6_getChar 53 = .ok (.getstatic 63, 3) := dk_178 0 63 (dk_at dksJ6_getChar_2 5 rfl rfl)
theorem dJ6_getChar_56 : decode cJ6_getChar 56 = .ok (.ishl, 1) := dk_120 (dk_at dksJ6_getChar_2 8 rfl rfl)
theorem dJ6_getChar_57 : decode cJ6_getChar 57 = .ok (.ior, 1) := dk_128 (dk_at dksJ6_getChar_2 9 rfl rfl)
theorem dJ6_getChar_58 : decode cJ6_getChar 58 = .ok (.i2c, 1) := dk_146 (dk_at dksJ6_getChar_2 10 rfl rfl)
theorem dJ6_getChar_59 : decode cJ6_getChar 59 = .ok (.ireturn, 1) := dk_172 (dk_at dksJ6_getChar_2 11 rfl rfl)
theorem q124 : (Jvm.Cond.initialized "java/lang/StringUTF16") ∈ lw_all := lw_g (lw_at lw_m1 20 rfl) rfl
theorem q942 : (Jvm.Cond.static ({ cls := "java/lang/StringUTF16", name := "charAt", desc := "([BI)C" } : Jvm.MethodName)) ∈ lw_all := lw_g (lw_at lw_m4 118 rfl) rfl
theorem q943 : (Jvm.Cond.code ({ cls := "java/lang/StringUTF16", name := "charAt", desc := "([BI)C" } : Jvm.MethodName) prog_30_method_83_code (2 : Nat) (Option.some Jvm.ClassFile.FieldType.char)) ∈ lw_all := lw_g (lw_at lw_m4 119 rfl) rfl
theorem q944 : (Jvm.Cond.methodLink "java/lang/StringUTF16" (67 : Nat) ({ cls := "java/lang/StringUTF16", name := "checkIndex", desc := "(I[B)V" } : Jvm.MethodName)) ∈ lw_all := lw_g (lw_at lw_m4 120 rfl) rfl
theorem q945 : (Jvm.Cond.static ({ cls := "java/lang/StringUTF16", name := "checkIndex", desc := "(I[B)V" } : Jvm.MethodName)) ∈ lw_all := lw_g (lw_at lw_m4 121 rfl) rfl
theorem q946 : (Jvm.Cond.code ({ cls := "java/lang/StringUTF16", name := "checkIndex", desc := "(I[B)V" } : Jvm.MethodName) prog_30_method_91_code (2 : Nat) (Option.none : Option Jvm.ClassFile.FieldType)) ∈ lw_all := lw_g (lw_at lw_m4 122 rfl) rfl
theorem q947 : (Jvm.Cond.methodLink "java/lang/StringUTF16" (48 : Nat) ({ cls := "java/lang/StringUTF16", name := "length", desc := "([B)I" } : Jvm.MethodName)) ∈ lw_all := lw_g (lw_at lw_m4 123 rfl) rfl
theorem q948 : (Jvm.Cond.static ({ cls := "java/lang/StringUTF16", name := "length", desc := "([B)I" } : Jvm.MethodName)) ∈ lw_all := lw_g (lw_at lw_m4 124 rfl) rfl
theorem q949 : (Jvm.Cond.code ({ cls := "java/lang/StringUTF16", name := "length", desc := "([B)I" } : Jvm.MethodName) prog_30_method_6_code (1 : Nat) (Option.some Jvm.ClassFile.FieldType.int)) ∈ lw_all := lw_g (lw_at lw_m4 125 rfl) rfl
theorem q950 : (Jvm.Cond.methodLink "java/lang/StringUTF16" (414 : Nat) ({ cls := "java/lang/String", name := "checkIndex", desc := "(II)V" } : Jvm.MethodName)) ∈ lw_all := lw_g (lw_at lw_m4 126 rfl) rfl
theorem q951 : (Jvm.Cond.methodLink "java/lang/StringUTF16" (71 : Nat) ({ cls := "java/lang/StringUTF16", name := "getChar", desc := "([BI)C" } : Jvm.MethodName)) ∈ lw_all := lw_g (lw_at lw_m4 127 rfl) rfl
theorem q952 : (Jvm.Cond.static ({ cls := "java/lang/StringUTF16", name := "getChar", desc := "([BI)C" } : Jvm.MethodName)) ∈ lw_all := lw_g (lw_at lw_m4 128 rfl) rfl
theorem q953 : (Jvm.Cond.code ({ cls := "java/lang/StringUTF16", name := "getChar", desc := "([BI)C" } : Jvm.MethodName) prog_30_method_5_code (2 : Nat) (Option.some Jvm.ClassFile.FieldType.char)) ∈ lw_all := lw_g (lw_at lw_m4 129 rfl) rfl
theorem q954 : (Jvm.Cond.fieldLink "java/lang/StringUTF16" (44 : Nat) "java/lang/StringUTF16" "$assertionsDisabled" "Z") ∈ lw_all := lw_g (lw_at lw_m4 130 rfl) rfl
theorem q955 : (Jvm.Cond.laysStatic "java/lang/StringUTF16" "$assertionsDisabled" "Z") ∈ lw_tbl := lw_at lw_m4 131 rfl
theorem q956 : (Jvm.Cond.fieldLink "java/lang/StringUTF16" (59 : Nat) "java/lang/StringUTF16" "HI_BYTE_SHIFT" "I") ∈ lw_all := lw_g (lw_at lw_m4 132 rfl) rfl
theorem q957 : (Jvm.Cond.laysStatic "java/lang/StringUTF16" "HI_BYTE_SHIFT" "I") ∈ lw_tbl := lw_at lw_m4 133 rfl
theorem q958 : (Jvm.Cond.fieldLink "java/lang/StringUTF16" (63 : Nat) "java/lang/StringUTF16" "LO_BYTE_SHIFT" "I") ∈ lw_all := lw_g (lw_at lw_m4 134 rfl) rfl
theorem q959 : (Jvm.Cond.laysStatic "java/lang/StringUTF16" "LO_BYTE_SHIFT" "I") ∈ lw_tbl := lw_at lw_m4 135 rfl
/-! java/lang/Integer -/
set_option maxRecDepth 100000
def RJ7 : String := "java/lang/Integer"
abbrev cJ7_bitCount : ByteArray := prog_26_method_49_code
def yJ7_bitCount : MethodName := ⟨RJ7, "bitCount", "(I)I"⟩
def dkwJ7_bitCount_2 : List UInt8 := [26, 16, 63, 126, 172]
abbrev dktJ7_bitCount_2 : List UInt8 := dkwJ7_bitCount_2 ++ []
def dkwJ7_bitCount_1 : List UInt8 := [26, 26, 7, 124, 96, 19, 1, 11, 126, 59, 26, 26, 16, 8, 124, 96, 59, 26, 26, 16, 16, 124, 96, 59]
abbrev dktJ7_bitCount_1 : List UInt8 := dkwJ7_bitCount_1 ++ dktJ7_bitCount_2
def dkwJ7_bitCount_0 : List UInt8 := [26, 26, 4, 124, 19, 1, 9, 126, 100, 59, 26, 19, 1, 10, 126, 26, 5, 124, 19, 1, 10, 126, 96, 59]
abbrev dktJ7_bitCount_0 : List UInt8 := dkwJ7_bitCount_0 ++ dktJ7_bitCount_1
theorem dksJ7_bitCount_0 : cJ7_bitCount.data.toList.drop 0 = dktJ7_bitCount_0 := by decide +kernel
theorem dksJ7_bitCount_1 : cJ7_bitCount.data.toList.drop 24 = dktJ7_bitCount_1 := dk_seg dksJ7_bitCount_0 24 rfl rfl
theorem dksJ7_bitCount_2 : cJ7_bitCount.data.toList.drop 48 = dktJ7_bitCount_2 := dk_seg dksJ7_bitCount_1 24 rfl rfl
theorem dJ7_bitCount_0 : decode cJ7_bitCount 0 = .ok (.iload_n 0, 1) := dk_26 (dk_at dksJ7_bitCount_0 0 rfl rfl)
theorem dJ7_bitCount_1 : decode cJ7_bitCount 1 = .ok (.iload_n 0, 1) := dk_26 (dk_at dksJ7_bitCount_0 1 rfl rfl)
theorem dJ7_bitCount_2 : decode cJ7_bitCount 2 = .ok (.iconst 1, 1) := dk_4 (dk_at dksJ7_bitCount_0 2 rfl rfl)
theorem dJ7_bitCount_3 : decode cJ7_bitCount 3 = .ok (.iushr, 1) := dk_124 (dk_at dksJ7_bitCount_0 3 rfl rfl)
theorem dJ7_bitCount_4 : decode cJ7_bitCount 4 = .ok (.ldc_w 265, 3) := dk_19 1 9 (dk_at dksJ7_bitCount_0 4 rfl rfl)
theorem dJ7_bitCount_7 : decode cJ7_bitCount 7 = .ok (.iand, 1) := dk_126 (dk_at dksJ7_bitCount_0 7 rfl rfl)
theorem dJ7_bitCount_8 : decode cJ7_bitCount 8 = .ok (.isub, 1) := dk_100 (dk_at dksJ7_bitCount_0 8 rfl rfl)
theorem dJ7_bitCount_9 : decode cJ7_bitCount 9 = .ok (.istore_n 0, 1) := dk_59 (dk_at dksJ7_bitCount_0 9 rfl rfl)
theorem dJ7_bitCount_10 : decode cJ7_bitCount 10 = .ok (.iload_n 0, 1) := dk_26 (dk_at dksJ7_bitCount_0 10 rfl rfl)
theorem dJ7_bitCount_11 : decode cJ7_bitCount 11 = .ok (.ldc_w 266, 3) := dk_19 1 10 (dk_at dksJ7_bitCount_0 11 rfl rfl)
theorem dJ7_bitCount_14 : decode cJ7_bitCount 14 = .ok (.iand, 1) := dk_126 (dk_at dksJ7_bitCount_0 14 rfl rfl)
theorem dJ7_bitCount_15 : decode cJ7_bitCount 15 = .ok (.iload_n 0, 1) := dk_26 (dk_at dksJ7_bitCount_0 15 rfl rfl)
theorem dJ7_bitCount_16 : decode cJ7_bitCount 16 = .ok (.iconst 2, 1) := dk_5 (dk_at dksJ7_bitCount_0 16 rfl rfl)
theorem dJ7_bitCount_17 : decode cJ7_bitCount 17 = .ok (.iushr, 1) := dk_124 (dk_at dksJ7_bitCount_0 17 rfl rfl)
theorem dJ7_bitCount_18 : decode cJ7_bitCount 18 = .ok (.ldc_w 266, 3) := dk_19 1 10 (dk_at dksJ7_bitCount_0 18 rfl rfl)
theorem dJ7_bitCount_21 : decode cJ7_bitCount 21 = .ok (.iand, 1) := dk_126 (dk_at dksJ7_bitCount_0 21 rfl rfl)
theorem dJ7_bitCount_22 : decode cJ7_bitCount 22 = .ok (.iadd, 1) := dk_96 (dk_at dksJ7_bitCount_0 22 rfl rfl)
theorem dJ7_bitCount_23 : decode cJ7_bitCount 23 = .ok (.istore_n 0, 1) := dk_59 (dk_at dksJ7_bitCount_0 23 rfl rfl)
theorem dJ7_bitCount_24 : decode cJ7_bitCount 24 = .ok (.iload_n 0, 1) := dk_26 (dk_at dksJ7_bitCount_1 0 rfl rfl)
theorem dJ7_bitCount_25 : decode cJ7_bitCount 25 = .ok (.iload_n 0, 1) := dk_26 (dk_at dksJ7_bitCount_1 1 rfl rfl)
theorem dJ7_bitCount_26 : decode cJ7_bitCount 26 = .ok (.iconst 4, 1) := dk_7 (dk_at dksJ7_bitCount_1 2 rfl rfl)
theorem dJ7_bitCount_27 : decode cJ7_bitCount 27 = .ok (.iushr, 1) := dk_124 (dk_at dksJ7_bitCount_1 3 rfl rfl)
theorem dJ7_bitCount_28 : decode cJ7_bitCount 28 = .ok (.iadd, 1) := dk_96 (dk_at dksJ7_bitCount_1 4 rfl rfl)
theorem dJ7_bitCount_29 : decode cJ7_bitCount 29 = .ok (.ldc_w 267, 3) := dk_19 1 11 (dk_at dksJ7_bitCount_1 5 rfl rfl)
theorem dJ7_bitCount_32 : decode cJ7_bitCount 32 = .ok (.iand, 1) := dk_126 (dk_at dksJ7_bitCount_1 8 rfl rfl)
theorem dJ7_bitCount_33 : decode cJ7_bitCount 33 = .ok (.istore_n 0, 1) := dk_59 (dk_at dksJ7_bitCount_1 9 rfl rfl)
theorem dJ7_bitCount_34 : decode cJ7_bitCount 34 = .ok (.iload_n 0, 1) := dk_26 (dk_at dksJ7_bitCount_1 10 rfl rfl)
theorem dJ7_bitCount_35 : decode cJ7_bitCount 35 = .ok (.iload_n 0, 1) := dk_26 (dk_at dksJ7_bitCount_1 11 rfl rfl)
theorem dJ7_bitCount_36 : decode cJ7_bitCount 36 = .ok (.bipush 8, 2) := dk_16 8 (dk_at dksJ7_bitCount_1 12 rfl rfl)
theorem dJ7_bitCount_38 : decode cJ7_bitCount 38 = .ok (.iushr, 1) := dk_124 (dk_at dksJ7_bitCount_1 14 rfl rfl)
theorem dJ7_bitCount_39 : decode cJ7_bitCount 39 = .ok (.iadd, 1) := dk_96 (dk_at dksJ7_bitCount_1 15 rfl rfl)
theorem dJ7_bitCount_40 : decode cJ7_bitCount 40 = .ok (.istore_n 0, 1) := dk_59 (dk_at dksJ7_bitCount_1 16 rfl rfl)
theorem dJ7_bitCount_41 : decode cJ7_bitCount 41 = .ok (.iload_n 0, 1) := dk_26 (dk_at dksJ7_bitCount_1 17 rfl rfl)
theorem dJ7_bitCount_42 : decode cJ7_bitCount 42 = .ok (.iload_n 0, 1) := dk_26 (dk_at dksJ7_bitCount_1 18 rfl rfl)
theorem dJ7_bitCount_43 : decode cJ7_bitCount 43 = .ok (.bipush 16, 2) := dk_16 16 (dk_at dksJ7_bitCount_1 19 rfl rfl)
theorem dJ7_bitCount_45 : decode cJ7_bitCount 45 = .ok (.iushr, 1) := dk_124 (dk_at dksJ7_bitCount_1 21 rfl rfl)
theorem dJ7_bitCount_46 : decode cJ7_bitCount 46 = .ok (.iadd, 1) := dk_96 (dk_at dksJ7_bitCount_1 22 rfl rfl)
theorem dJ7_bitCount_47 : decode cJ7_bitCount 47 = .ok (.istore_n 0, 1) := dk_59 (dk_at dksJ7_bitCount_1 23 rfl rfl)
theorem dJ7_bitCount_48 : decode cJ7_bitCount 48 = .ok (.iload_n 0, 1) := dk_26 (dk_at dksJ7_bitCount_2 0 rfl rfl)
theorem dJ7_bitCount_49 : decode cJ7_bitCount 49 = .ok (.bipush 63, 2) := dk_16 63 (dk_at dksJ7_bitCount_2 1 rfl rfl)
theorem dJ7_bitCount_51 : decode cJ7_bitCount 51 = .ok (.iand, 1) := dk_126 (dk_at dksJ7_bitCount_2 3 rfl rfl)
theorem dJ7_bitCount_52 : decode cJ7_bitCount 52 = .ok (.ireturn, 1) := dk_172 (dk_at dksJ7_bitCount_2 4 rfl rfl)
theorem q136 : (Jvm.Cond.initialized "java/lang/Integer") ∈ lw_all := lw_g (lw_at lw_m1 32 rfl) rfl
theorem q1390 : (Jvm.Cond.static ({ cls := "java/lang/Integer", name := "bitCount", desc := "(I)I" } : Jvm.MethodName)) ∈ lw_all := lw_g (lw_at lw_m6 86 rfl) rfl
theorem q1391 : (Jvm.Cond.code ({ cls := "java/lang/Integer", name := "bitCount", desc := "(I)I" } : Jvm.MethodName) prog_26_method_49_code (1 : Nat) (Option.some Jvm.ClassFile.FieldType.int)) ∈ lw_all := lw_g (lw_at lw_m6 87 rfl) rfl
theorem q1392 : (Jvm.Cond.constant "java/lang/Integer" (265 : Nat) (1431655765 : Int32)) ∈ lw_all := lw_g (lw_at lw_m6 88 rfl) rfl
theorem q1393 : (Jvm.Cond.constant "java/lang/Integer" (266 : Nat) (858993459 : Int32)) ∈ lw_all := lw_g (lw_at lw_m6 89 rfl) rfl
theorem q1394 : (Jvm.Cond.constant "java/lang/Integer" (267 : Nat) (252645135 : Int32)) ∈ lw_all := lw_g (lw_at lw_m6 90 rfl) rfl
/-! java/lang/Object -/
set_option maxRecDepth 100000
def RJ8 : String := "java/lang/Object"
abbrev cJ8_init : ByteArray := object_method_1_code
def yJ8_init : MethodName := ⟨RJ8, "<init>", "()V"⟩
theorem dJ8_init_0 : decode cJ8_init 0 = .ok (.return_, 1) := by decide +kernel
theorem q143 : (Jvm.Cond.instanceMethod ({ cls := "java/lang/Object", name := "<init>", desc := "()V" } : Jvm.MethodName)) ∈ lw_all := lw_g (lw_at lw_m1 39 rfl) rfl
theorem q144 : (Jvm.Cond.code ({ cls := "java/lang/Object", name := "<init>", desc := "()V" } : Jvm.MethodName) object_method_1_code (1 : Nat) (Option.none : Option Jvm.ClassFile.FieldType)) ∈ lw_all := lw_g (lw_at lw_m1 40 rfl) rfl
/-! BrothFlasks$Bench -/
set_option maxRecDepth 100000
def RX1 : String := "BrothFlasks$Bench"
def TX1 : u_T := fun k => match k with
  | 0 => ("BrothFlasks$Bench", "now", "I", false)
  | 1 => ("BrothFlasks$Bench", "kindMany", "I", false)
  | 2 => ("BrothFlasks$Bench", "flaskMany", "I", false)
  | 3 => ("BrothFlasks$Bench", "lookMany", "I", false)
  | 4 => ("BrothFlasks$Bench", "trialMany", "I", false)
  | 5 => ("BrothFlasks$Bench", "textMany", "I", false)
  | 6 => ("BrothFlasks$Bench", "ruleMany", "I", false)
  | 7 => ("BrothFlasks$Bench", "state", "J", false)
  | 8 => ("BrothFlasks$Bench", "kinds", "[LBrothFlasks$Kind;", true)
  | 9 => ("BrothFlasks$Bench", "flasks", "[LBrothFlasks$Flask;", true)
  | 10 => ("BrothFlasks$Bench", "looks", "[LBrothFlasks$Look;", true)
  | 11 => ("BrothFlasks$Bench", "trials", "[LBrothFlasks$Case;", true)
  | 12 => ("BrothFlasks$Bench", "texts", "[LBrothFlasks$Text;", true)
  | 13 => ("BrothFlasks$Bench", "ruleTrials", "[I", true)
  | 14 => ("BrothFlasks$Bench", "ruleMost", "[I", true)
  | 15 => ("BrothFlasks$Bench", "genesis", "[I", true)
  | 16 => ("BrothFlasks$Bench", "spoils", "[I", true)
  | 17 => ("BrothFlasks$Bench", "needs", "[I", true)
  | 18 => ("BrothFlasks$Bench", "lets", "[I", true)
  | 19 => ("BrothFlasks$Bench", "slips", "[I", true)
  | 20 => ("BrothFlasks$Bench", "dust", "[I", true)
  | _ => ("BrothFlasks$Bench", "weights", "[I", true)
def tyX1 : Nat → FieldType := fun k => match k with
  | 0 => .int
  | 1 => .int
  | 2 => .int
  | 3 => .int
  | 4 => .int
  | 5 => .int
  | 6 => .int
  | 7 => .long
  | 8 => .array (.object "BrothFlasks$Kind")
  | 9 => .array (.object "BrothFlasks$Flask")
  | 10 => .array (.object "BrothFlasks$Look")
  | 11 => .array (.object "BrothFlasks$Case")
  | 12 => .array (.object "BrothFlasks$Text")
  | 13 => .array .int
  | 14 => .array .int
  | 15 => .array .int
  | 16 => .array .int
  | 17 => .array .int
  | 18 => .array .int
  | 19 => .array .int
  | 20 => .array .int
  | _ => .array .int
abbrev wsX10 : List Cond := u_ws RX1 TX1 22
set_option maxRecDepth 100000 in
theorem nmX1 : ∀ a, a < 22 → ∀ b, b < 22 → a ≠ b → (TX1 a).2.1 ≠ (TX1 b).2.1 := by decide +kernel
set_option maxRecDepth 100000 in
theorem tyX1_ok : ∀ k, k < 22 → parseFieldDescriptor (TX1 k).2.2.1 = some (tyX1 k) := by decide +kernel
abbrev cX1_init : ByteArray := prog_4_method_1_code
def yX1_init : MethodName := ⟨RX1, "<init>", "()V"⟩
def dkwX1_init_7 : List UInt8 := [188, 10, 181, 0, 63, 42, 16, 96, 188, 10, 181, 0, 66, 177]
abbrev dktX1_init_7 : List UInt8 := dkwX1_init_7 ++ []
def dkwX1_init_6 : List UInt8 := [79, 89, 7, 16, 20, 79, 89, 8, 3, 79, 181, 0, 57, 42, 7, 188, 10, 181, 0, 60, 42, 16, 12]
abbrev dktX1_init_6 : List UInt8 := dkwX1_init_6 ++ dktX1_init_7
def dkwX1_init_5 : List UInt8 := [181, 0, 54, 42, 16, 6, 188, 10, 89, 3, 16, 100, 79, 89, 4, 3, 79, 89, 5, 3, 79, 89, 6, 3]
abbrev dktX1_init_5 : List UInt8 := dkwX1_init_5 ++ dktX1_init_6
def dkwX1_init_4 : List UInt8 := [6, 16, 7, 79, 89, 7, 16, 7, 79, 89, 8, 16, 7, 79, 181, 0, 51, 42, 16, 6, 188, 10]
abbrev dktX1_init_4 : List UInt8 := dkwX1_init_4 ++ dktX1_init_5
def dkwX1_init_3 : List UInt8 := [181, 0, 48, 42, 16, 6, 188, 10, 89, 3, 16, 7, 79, 89, 4, 16, 7, 79, 89, 5, 16, 7, 79, 89]
abbrev dktX1_init_3 : List UInt8 := dkwX1_init_3 ++ dktX1_init_4
def dkwX1_init_2 : List UInt8 := [181, 0, 37, 42, 16, 9, 188, 10, 181, 0, 41, 42, 16, 9, 188, 10, 181, 0, 45, 42, 16, 6, 188, 10]
abbrev dktX1_init_2 : List UInt8 := dkwX1_init_2 ++ dktX1_init_3
def dkwX1_init_1 : List UInt8 := [16, 40, 189, 0, 23, 181, 0, 25, 42, 16, 12, 189, 0, 29, 181, 0, 31, 42, 16, 12, 189, 0, 35]
abbrev dktX1_init_1 : List UInt8 := dkwX1_init_1 ++ dktX1_init_2
def dkwX1_init_0 : List UInt8 := [42, 183, 0, 3, 42, 16, 8, 189, 0, 9, 181, 0, 11, 42, 16, 40, 189, 0, 17, 181, 0, 19, 42]
abbrev dktX1_init_0 : List UInt8 := dkwX1_init_0 ++ dktX1_init_1
theorem dksX1_init_0 : cX1_init.data.toList.drop 0 = dktX1_init_0 := by decide +kernel
theorem dksX1_init_1 : cX1_init.data.toList.drop 23 = dktX1_init_1 := dk_seg dksX1_init_0 23 rfl rfl
theorem dksX1_init_2 : cX1_init.data.toList.drop 46 = dktX1_init_2 := dk_seg dksX1_init_1 23 rfl rfl
theorem dksX1_init_3 : cX1_init.data.toList.drop 70 = dktX1_init_3 := dk_seg dksX1_init_2 24 rfl rfl
theorem dksX1_init_4 : cX1_init.data.toList.drop 94 = dktX1_init_4 := dk_seg dksX1_init_3 24 rfl rfl
theorem dksX1_init_5 : cX1_init.data.toList.drop 116 = dktX1_init_5 := dk_seg dksX1_init_4 22 rfl rfl
theorem dksX1_init_6 : cX1_init.data.toList.drop 140 = dktX1_init_6 := dk_seg dksX1_init_5 24 rfl rfl
theorem dksX1_init_7 : cX1_init.data.toList.drop 163 = dktX1_init_7 := dk_seg dksX1_init_6 23 rfl rfl
theorem dX1_init_0 : decode cX1_init 0 = .ok (.aload_n 0, 1) := dk_42 (dk_at dksX1_init_0 0 rfl rfl)
theorem dX1_init_1 : decode cX1_init 1 = .ok (.invokespecial 3, 3) := dk_183 0 3 (dk_at dksX1_init_0 1 rfl rfl)
theorem dX1_init_4 : decode cX1_init 4 = .ok (.aload_n 0, 1) := dk_42 (dk_at dksX1_init_0 4 rfl rfl)
theorem dX1_init_5 : decode cX1_init 5 = .ok (.bipush 8, 2) := dk_16 8 (dk_at dksX1_init_0 5 rfl rfl)
theorem dX1_init_7 : decode cX1_init 7 = .ok (.anewarray 9, 3) := dk_189 0 9 (dk_at dksX1_init_0 7 rfl rfl)
theorem dX1_init_10 : decode cX1_init 10 = .ok (.putfield 11, 3) := dk_181 0 11 (dk_at dksX1_init_0 10 rfl rfl)
theorem dX1_init_13 : decode cX1_init 13 = .ok (.aload_n 0, 1) := dk_42 (dk_at dksX1_init_0 13 rfl rfl)
theorem dX1_init_14 : decode cX1_init 14 = .ok (.bipush 40, 2) := dk_16 40 (dk_at dksX1_init_0 14 rfl rfl)
theorem dX1_init_16 : decode cX1_init 16 = .ok (.anewarray 17, 3) := dk_189 0 17 (dk_at dksX1_init_0 16 rfl rfl)
theorem dX1_init_19 : decode cX1_init 19 = .ok (.putfield 19, 3) := dk_181 0 19 (dk_at dksX1_init_0 19 rfl rfl)
theorem dX1_init_22 : decode cX1_init 22 = .ok (.aload_n 0, 1) := dk_42 (dk_at dksX1_init_0 22 rfl rfl)
theorem dX1_init_23 : decode cX1_init 23 = .ok (.bipush 40, 2) := dk_16 40 (dk_at dksX1_init_1 0 rfl rfl)
theorem dX1_init_25 : decode cX1_init 25 = .ok (.anewarray 23, 3) := dk_189 0 23 (dk_at dksX1_init_1 2 rfl rfl)
theorem dX1_init_28 : decode cX1_init 28 = .ok (.putfield 25, 3) := dk_181 0 25 (dk_at dksX1_init_1 5 rfl rfl)
theorem dX1_init_31 : decode cX1_init 31 = .ok (.aload_n 0, 1) := dk_42 (dk_at dksX1_init_1 8 rfl rfl)
theorem dX1_init_32 : decode cX1_init 32 = .ok (.bipush 12, 2) := dk_16 12 (dk_at dksX1_init_1 9 rfl rfl)
theorem dX1_init_34 : decode cX1_init 34 = .ok (.anewarray 29, 3) := dk_189 0 29 (dk_at dksX1_init_1 11 rfl rfl)
theorem dX1_init_37 : decode cX1_init 37 = .ok (.putfield 31, 3) := dk_181 0 31 (dk_at dksX1_init_1 14 rfl rfl)
theorem dX1_init_40 : decode cX1_init 40 = .ok (.aload_n 0, 1) := dk_42 (dk_at dksX1_init_1 17 rfl rfl)
theorem dX1_init_41 : decode cX1_init 41 = .ok (.bipush 12, 2) := dk_16 12 (dk_at dksX1_init_1 18 rfl rfl)
theorem dX1_init_43 : decode cX1_init 43 = .ok (.anewarray 35, 3) := dk_189 0 35 (dk_at dksX1_init_1 20 rfl rfl)
theorem dX1_init_46 : decode cX1_init 46 = .ok (.putfield 37, 3) := dk_181 0 37 (dk_at dksX1_init_2 0 rfl rfl)
theorem dX1_init_49 : decode cX1_init 49 = .ok (.aload_n 0, 1) := dk_42 (dk_at dksX1_init_2 3 rfl rfl)
theorem dX1_init_50 : decode cX1_init 50 = .ok (.bipush 9, 2) := dk_16 9 (dk_at dksX1_init_2 4 rfl rfl)
theorem dX1_init_52 : decode cX1_init 52 = .ok (.newarray .int, 2) := dk_188_10 (dk_at dksX1_init_2 6 rfl rfl)
theorem dX1_init_54 : decode cX1_init 54 = .ok (.putfield 41, 3) := dk_181 0 41 (dk_at dksX1_init_2 8 rfl rfl)
theorem dX1_init_57 : decode cX1_init 57 = .ok (.aload_n 0, 1) := dk_42 (dk_at dksX1_init_2 11 rfl rfl)
theorem dX1_init_58 : decode cX1_init 58 = .ok (.bipush 9, 2) := dk_16 9 (dk_at dksX1_init_2 12 rfl rfl)
theorem dX1_init_60 : decode cX1_init 60 = .ok (.newarray .int, 2) := dk_188_10 (dk_at dksX1_init_2 14 rfl rfl)
theorem dX1_init_62 : decode cX1_init 62 = .ok (.putfield 45, 3) := dk_181 0 45 (dk_at dksX1_init_2 16 rfl rfl)
theorem dX1_init_65 : decode cX1_init 65 = .ok (.aload_n 0, 1) := dk_42 (dk_at dksX1_init_2 19 rfl rfl)
theorem dX1_init_66 : decode cX1_init 66 = .ok (.bipush 6, 2) := dk_16 6 (dk_at dksX1_init_2 20 rfl rfl)
theorem dX1_init_68 : decode cX1_init 68 = .ok (.newarray .int, 2) := dk_188_10 (dk_at dksX1_init_2 22 rfl rfl)
theorem dX1_init_70 : decode cX1_init 70 = .ok (.putfield 48, 3) := dk_181 0 48 (dk_at dksX1_init_3 0 rfl rfl)
theorem dX1_init_73 : decode cX1_init 73 = .ok (.aload_n 0, 1) := dk_42 (dk_at dksX1_init_3 3 rfl rfl)
theorem dX1_init_74 : decode cX1_init 74 = .ok (.bipush 6, 2) := dk_16 6 (dk_at dksX1_init_3 4 rfl rfl)
theorem dX1_init_76 : decode cX1_init 76 = .ok (.newarray .int, 2) := dk_188_10 (dk_at dksX1_init_3 6 rfl rfl)
theorem dX1_init_78 : decode cX1_init 78 = .ok (.dup, 1) := dk_89 (dk_at dksX1_init_3 8 rfl rfl)
theorem dX1_init_79 : decode cX1_init 79 = .ok (.iconst 0, 1) := dk_3 (dk_at dksX1_init_3 9 rfl rfl)
theorem dX1_init_80 : decode cX1_init 80 = .ok (.bipush 7, 2) := dk_16 7 (dk_at dksX1_init_3 10 rfl rfl)
theorem dX1_init_82 : decode cX1_init 82 = .ok (.iastore, 1) := dk_79 (dk_at dksX1_init_3 12 rfl rfl)
theorem dX1_init_83 : decode cX1_init 83 = .ok (.dup, 1) := dk_89 (dk_at dksX1_init_3 13 rfl rfl)
theorem dX1_init_84 : decode cX1_init 84 = .ok (.iconst 1, 1) := dk_4 (dk_at dksX1_init_3 14 rfl rfl)
theorem dX1_init_85 : decode cX1_init 85 = .ok (.bipush 7, 2) := dk_16 7 (dk_at dksX1_init_3 15 rfl rfl)
theorem dX1_init_87 : decode cX1_init 87 = .ok (.iastore, 1) := dk_79 (dk_at dksX1_init_3 17 rfl rfl)
theorem dX1_init_88 : decode cX1_init 88 = .ok (.dup, 1) := dk_89 (dk_at dksX1_init_3 18 rfl rfl)
theorem dX1_init_89 : decode cX1_init 89 = .ok (.iconst 2, 1) := dk_5 (dk_at dksX1_init_3 19 rfl rfl)
theorem dX1_init_90 : decode cX1_init 90 = .ok (.bipush 7, 2) := dk_16 7 (dk_at dksX1_init_3 20 rfl rfl)
theorem dX1_init_92 : decode cX1_init 92 = .ok (.iastore, 1) := dk_79 (dk_at dksX1_init_3 22 rfl rfl)
theorem dX1_init_93 : decode cX1_init 93 = .ok (.dup, 1) := dk_89 (dk_at dksX1_init_3 23 rfl rfl)
theorem dX1_init_94 : decode cX1_init 94 = .ok (.iconst 3, 1) := dk_6 (dk_at dksX1_init_4 0 rfl rfl)
theorem dX1_init_95 : decode cX1_init 95 = .ok (.bipush 7, 2) := dk_16 7 (dk_at dksX1_init_4 1 rfl rfl)
theorem dX1_init_97 : decode cX1_init 97 = .ok (.iastore, 1) := dk_79 (dk_at dksX1_init_4 3 rfl rfl)
theorem dX1_init_98 : decode cX1_init 98 = .ok (.dup, 1) := dk_89 (dk_at dksX1_init_4 4 rfl rfl)
theorem dX1_init_99 : decode cX1_init 99 = .ok (.iconst 4, 1) := dk_7 (dk_at dksX1_init_4 5 rfl rfl)
theorem dX1_init_100 : decode cX1_init 100 = .ok (.bipush 7, 2) := dk_16 7 (dk_at dksX1_init_4 6 rfl rfl)
theorem dX1_init_102 : decode cX1_init 102 = .ok (.iastore, 1) := dk_79 (dk_at dksX1_init_4 8 rfl rfl)
theorem dX1_init_103 : decode cX1_init 103 = .ok (.dup, 1) := dk_89 (dk_at dksX1_init_4 9 rfl rfl)
theorem dX1_init_104 : decode cX1_init 104 = .ok (.iconst 5, 1) := dk_8 (dk_at dksX1_init_4 10 rfl rfl)
theorem dX1_init_105 : decode cX1_init 105 = .ok (.bipush 7, 2) := dk_16 7 (dk_at dksX1_init_4 11 rfl rfl)
theorem dX1_init_107 : decode cX1_init 107 = .ok (.iastore, 1) := dk_79 (dk_at dksX1_init_4 13 rfl rfl)
theorem dX1_init_108 : decode cX1_init 108 = .ok (.putfield 51, 3) := dk_181 0 51 (dk_at dksX1_init_4 14 rfl rfl)
theorem dX1_init_111 : decode cX1_init 111 = .ok (.aload_n 0, 1) := dk_42 (dk_at dksX1_init_4 17 rfl rfl)
theorem dX1_init_112 : decode cX1_init 112 = .ok (.bipush 6, 2) := dk_16 6 (dk_at dksX1_init_4 18 rfl rfl)
theorem dX1_init_114 : decode cX1_init 114 = .ok (.newarray .int, 2) := dk_188_10 (dk_at dksX1_init_4 20 rfl rfl)
theorem dX1_init_116 : decode cX1_init 116 = .ok (.putfield 54, 3) := dk_181 0 54 (dk_at dksX1_init_5 0 rfl rfl)
theorem dX1_init_119 : decode cX1_init 119 = .ok (.aload_n 0, 1) := dk_42 (dk_at dksX1_init_5 3 rfl rfl)
theorem dX1_init_120 : decode cX1_init 120 = .ok (.bipush 6, 2) := dk_16 6 (dk_at dksX1_init_5 4 rfl rfl)
theorem dX1_init_122 : decode cX1_init 122 = .ok (.newarray .int, 2) := dk_188_10 (dk_at dksX1_init_5 6 rfl rfl)
theorem dX1_init_124 : decode cX1_init 124 = .ok (.dup, 1) := dk_89 (dk_at dksX1_init_5 8 rfl rfl)
theorem dX1_init_125 : decode cX1_init 125 = .ok (.iconst 0, 1) := dk_3 (dk_at dksX1_init_5 9 rfl rfl)
theorem dX1_init_126 : decode cX1_init 126 = .ok (.bipush 100, 2) := dk_16 100 (dk_at dksX1_init_5 10 rfl rfl)
theorem dX1_init_128 : decode cX1_init 128 = .ok (.iastore, 1) := dk_79 (dk_at dksX1_init_5 12 rfl rfl)
theorem dX1_init_129 : decode cX1_init 129 = .ok (.dup, 1) := dk_89 (dk_at dksX1_init_5 13 rfl rfl)
theorem dX1_init_130 : decode cX1_init 130 = .ok (.iconst 1, 1) := dk_4 (dk_at dksX1_init_5 14 rfl rfl)
theorem dX1_init_131 : decode cX1_init 131 = .ok (.iconst 0, 1) := dk_3 (dk_at dksX1_init_5 15 rfl rfl)
theorem dX1_init_132 : decode cX1_init 132 = .ok (.iastore, 1) := dk_79 (dk_at dksX1_init_5 16 rfl rfl)
theorem dX1_init_133 : decode cX1_init 133 = .ok (.dup, 1) := dk_89 (dk_at dksX1_init_5 17 rfl rfl)
theorem dX1_init_134 : decode cX1_init 134 = .ok (.iconst 2, 1) := dk_5 (dk_at dksX1_init_5 18 rfl rfl)
theorem dX1_init_135 : decode cX1_init 135 = .ok (.iconst 0, 1) := dk_3 (dk_at dksX1_init_5 19 rfl rfl)
theorem dX1_init_136 : decode cX1_init 136 = .ok (.iastore, 1) := dk_79 (dk_at dksX1_init_5 20 rfl rfl)
theorem dX1_init_137 : decode cX1_init 137 = .ok (.dup, 1) := dk_89 (dk_at dksX1_init_5 21 rfl rfl)
theorem dX1_init_138 : decode cX1_init 138 = .ok (.iconst 3, 1) := dk_6 (dk_at dksX1_init_5 22 rfl rfl)
theorem dX1_init_139 : decode cX1_init 139 = .ok (.iconst 0, 1) := dk_3 (dk_at dksX1_init_5 23 rfl rfl)
theorem dX1_init_140 : decode cX1_init 140 = .ok (.iastore, 1) := dk_79 (dk_at dksX1_init_6 0 rfl rfl)
theorem dX1_init_141 : decode cX1_init 141 = .ok (.dup, 1) := dk_89 (dk_at dksX1_init_6 1 rfl rfl)
theorem dX1_init_142 : decode cX1_init 142 = .ok (.iconst 4, 1) := dk_7 (dk_at dksX1_init_6 2 rfl rfl)
theorem dX1_init_143 : decode cX1_init 143 = .ok (.bipush 20, 2) := dk_16 20 (dk_at dksX1_init_6 3 rfl rfl)
theorem dX1_init_145 : decode cX1_init 145 = .ok (.iastore, 1) := dk_79 (dk_at dksX1_init_6 5 rfl rfl)
theorem dX1_init_146 : decode cX1_init 146 = .ok (.dup, 1) := dk_89 (dk_at dksX1_init_6 6 rfl rfl)
theorem dX1_init_147 : decode cX1_init 147 = .ok (.iconst 5, 1) := dk_8 (dk_at dksX1_init_6 7 rfl rfl)
theorem dX1_init_148 : decode cX1_init 148 = .ok (.iconst 0, 1) := dk_3 (dk_at dksX1_init_6 8 rfl rfl)
theorem dX1_init_149 : decode cX1_init 149 = .ok (.iastore, 1) := dk_79 (dk_at dksX1_init_6 9 rfl rfl)
theorem dX1_init_150 : decode cX1_init 150 = .ok (.putfield 57, 3) := dk_181 0 57 (dk_at dksX1_init_6 10 rfl rfl)
theorem dX1_init_153 : decode cX1_init 153 = .ok (.aload_n 0, 1) := dk_42 (dk_at dksX1_init_6 13 rfl rfl)
theorem dX1_init_154 : decode cX1_init 154 = .ok (.iconst 4, 1) := dk_7 (dk_at dksX1_init_6 14 rfl rfl)
theorem dX1_init_155 : decode cX1_init 155 = .ok (.newarray .int, 2) := dk_188_10 (dk_at dksX1_init_6 15 rfl rfl)
theorem dX1_init_157 : decode cX1_init 157 = .ok (.putfield 60, 3) := dk_181 0 60 (dk_at dksX1_init_6 17 rfl rfl)
theorem dX1_init_160 : decode cX1_init 160 = .ok (.aload_n 0, 1) := dk_42 (dk_at dksX1_init_6 20 rfl rfl)
theorem dX1_init_161 : decode cX1_init 161 = .ok (.bipush 12, 2) := dk_16 12 (dk_at dksX1_init_6 21 rfl rfl)
theorem dX1_init_163 : decode cX1_init 163 = .ok (.newarray .int, 2) := dk_188_10 (dk_at dksX1_init_7 0 rfl rfl)
theorem dX1_init_165 : decode cX1_init 165 = .ok (.putfield 63, 3) := dk_181 0 63 (dk_at dksX1_init_7 2 rfl rfl)
theorem dX1_init_168 : decode cX1_init 168 = .ok (.aload_n 0, 1) := dk_42 (dk_at dksX1_init_7 5 rfl rfl)
theorem dX1_init_169 : decode cX1_init 169 = .ok (.bipush 96, 2) := dk_16 96 (dk_at dksX1_init_7 6 rfl rfl)
theorem dX1_init_171 : decode cX1_init 171 = .ok (.newarray .int, 2) := dk_188_10 (dk_at dksX1_init_7 8 rfl rfl)
theorem dX1_init_173 : decode cX1_init 173 = .ok (.putfield 66, 3) := dk_181 0 66 (dk_at dksX1_init_7 10 rfl rfl)
theorem dX1_init_176 : decode cX1_init 176 = .ok (.return_, 1) := dk_177 (dk_at dksX1_init_7 13 rfl rfl)
abbrev cX1_day : ByteArray := prog_4_method_7_code
def yX1_day : MethodName := ⟨RX1, "day", "()V"⟩
def dkwX1_day_4 : List UInt8 := [167, 255, 162, 42, 89, 180, 0, 69, 4, 96, 181, 0, 69, 177]
abbrev dktX1_day_4 : List UInt8 := dkwX1_day_4 ++ []
def dkwX1_day_3 : List UInt8 := [44, 182, 0, 159, 153, 0, 7, 4, 167, 0, 4, 3, 96, 181, 0, 172, 42, 44, 182, 0, 186, 132, 1, 1]
abbrev dktX1_day_3 : List UInt8 := dkwX1_day_3 ++ dktX1_day_4
def dkwX1_day_2 : List UInt8 := [180, 0, 69, 44, 180, 0, 123, 163, 0, 7, 4, 167, 0, 4, 3, 96, 181, 0, 183, 44, 89, 180, 0, 172]
abbrev dktX1_day_2 : List UInt8 := dkwX1_day_2 ++ dktX1_day_3
def dkwX1_day_1 : List UInt8 := [158, 0, 18, 42, 16, 100, 182, 0, 135, 29, 162, 0, 8, 42, 44, 182, 0, 179, 44, 89, 180, 0, 183, 42]
abbrev dktX1_day_1 : List UInt8 := dkwX1_day_1 ++ dktX1_day_2
def dkwX1_day_0 : List UInt8 := [3, 60, 27, 42, 180, 0, 76, 162, 0, 92, 42, 180, 0, 19, 27, 50, 77, 42, 44, 182, 0, 175, 62, 29]
abbrev dktX1_day_0 : List UInt8 := dkwX1_day_0 ++ dktX1_day_1
theorem dksX1_day_0 : cX1_day.data.toList.drop 0 = dktX1_day_0 := by decide +kernel
theorem dksX1_day_1 : cX1_day.data.toList.drop 24 = dktX1_day_1 := dk_seg dksX1_day_0 24 rfl rfl
theorem dksX1_day_2 : cX1_day.data.toList.drop 48 = dktX1_day_2 := dk_seg dksX1_day_1 24 rfl rfl
theorem dksX1_day_3 : cX1_day.data.toList.drop 72 = dktX1_day_3 := dk_seg dksX1_day_2 24 rfl rfl
theorem dksX1_day_4 : cX1_day.data.toList.drop 96 = dktX1_day_4 := dk_seg dksX1_day_3 24 rfl rfl
theorem dX1_day_0 : decode cX1_day 0 = .ok (.iconst 0, 1) := dk_3 (dk_at dksX1_day_0 0 rfl rfl)
theorem dX1_day_1 : decode cX1_day 1 = .ok (.istore_n 1, 1) := dk_60 (dk_at dksX1_day_0 1 rfl rfl)
theorem dX1_day_2 : decode cX1_day 2 = .ok (.iload_n 1, 1) := dk_27 (dk_at dksX1_day_0 2 rfl rfl)
theorem dX1_day_3 : decode cX1_day 3 = .ok (.aload_n 0, 1) := dk_42 (dk_at dksX1_day_0 3 rfl rfl)
theorem dX1_day_4 : decode cX1_day 4 = .ok (.getfield 76, 3) := dk_180 0 76 (dk_at dksX1_day_0 4 rfl rfl)
theorem dX1_day_7 : decode cX1_day 7 = .ok (.if_icmp .ge 92, 3) := dk_162 0 92 (dk_at dksX1_day_0 7 rfl rfl)
theorem dX1_day_10 : decode cX1_day 10 = .ok (.aload_n 0, 1) := dk_42 (dk_at dksX1_day_0 10 rfl rfl)
theorem dX1_day_11 : decode cX1_day 11 = .ok (.getfield 19, 3) := dk_180 0 19 (dk_at dksX1_day_0 11 rfl rfl)
theorem dX1_day_14 : decode cX1_day 14 = .ok (.iload_n 1, 1) := dk_27 (dk_at dksX1_day_0 14 rfl rfl)
theorem dX1_day_15 : decode cX1_day 15 = .ok (.aaload, 1) := dk_50 (dk_at dksX1_day_0 15 rfl rfl)
theorem dX1_day_16 : decode cX1_day 16 = .ok (.astore_n 2, 1) := dk_77 (dk_at dksX1_day_0 16 rfl rfl)
theorem dX1_day_17 : decode cX1_day 17 = .ok (.aload_n 0, 1) := dk_42 (dk_at dksX1_day_0 17 rfl rfl)
theorem dX1_day_18 : decode cX1_day 18 = .ok (.aload_n 2, 1) := dk_44 (dk_at dksX1_day_0 18 rfl rfl)
theorem dX1_day_19 : decode cX1_day 19 = .ok (.invokevirtual 175, 3) := dk_182 0 175 (dk_at dksX1_day_0 19 rfl rfl)
theorem dX1_day_22 : decode cX1_day 22 = .ok (.istore_n 3, 1) := dk_62 (dk_at dksX1_day_0 22 rfl rfl)
theorem dX1_day_23 : decode cX1_day 23 = .ok (.iload_n 3, 1) := dk_29 (dk_at dksX1_day_0 23 rfl rfl)
theorem dX1_day_24 : decode cX1_day 24 = .ok (.ifCond .le 18, 3) := dk_158 0 18 (dk_at dksX1_day_1 0 rfl rfl)
theorem dX1_day_27 : decode cX1_day 27 = .ok (.aload_n 0, 1) := dk_42 (dk_at dksX1_day_1 3 rfl rfl)
theorem dX1_day_28 : decode cX1_day 28 = .ok (.bipush 100, 2) := dk_16 100 (dk_at dksX1_day_1 4 rfl rfl)
theorem dX1_day_30 : decode cX1_day 30 = .ok (.invokevirtual 135, 3) := dk_182 0 135 (dk_at dksX1_day_1 6 rfl rfl)
theorem dX1_day_33 : decode cX1_day 33 = .ok (.iload_n 3, 1) := dk_29 (dk_at dksX1_day_1 9 rfl rfl)
theorem dX1_day_34 : decode cX1_day 34 = .ok (.if_icmp .ge 8, 3) := dk_162 0 8 (dk_at dksX1_day_1 10 rfl rfl)
theorem dX1_day_37 : decode cX1_day 37 = .ok (.aload_n 0, 1) := dk_42 (dk_at dksX1_day_1 13 rfl rfl)
theorem dX1_day_38 : decode cX1_day 38 = .ok (.aload_n 2, 1) := dk_44 (dk_at dksX1_day_1 14 rfl rfl)
theorem dX1_day_39 : decode cX1_day 39 = .ok (.invokevirtual 179, 3) := dk_182 0 179 (dk_at dksX1_day_1 15 rfl rfl)
theorem dX1_day_42 : decode cX1_day 42 = .ok (.aload_n 2, 1) := dk_44 (dk_at dksX1_day_1 18 rfl rfl)
theorem dX1_day_43 : decode cX1_day 43 = .ok (.dup, 1) := dk_89 (dk_at dksX1_day_1 19 rfl rfl)
theorem dX1_day_44 : decode cX1_day 44 = .ok (.getfield 183, 3) := dk_180 0 183 (dk_at dksX1_day_1 20 rfl rfl)
theorem dX1_day_47 : decode cX1_day 47 = .ok (.aload_n 0, 1) := dk_42 (dk_at dksX1_day_1 23 rfl rfl)
theorem dX1_day_48 : decode cX1_day 48 = .ok (.getfield 69, 3) := dk_180 0 69 (dk_at dksX1_day_2 0 rfl rfl)
theorem dX1_day_51 : decode cX1_day 51 = .ok (.aload_n 2, 1) := dk_44 (dk_at dksX1_day_2 3 rfl rfl)
theorem dX1_day_52 : decode cX1_day 52 = .ok (.getfield 123, 3) := dk_180 0 123 (dk_at dksX1_day_2 4 rfl rfl)
theorem dX1_day_55 : decode cX1_day 55 = .ok (.if_icmp .gt 7, 3) := dk_163 0 7 (dk_at dksX1_day_2 7 rfl rfl)
theorem dX1_day_58 : decode cX1_day 58 = .ok (.iconst 1, 1) := dk_4 (dk_at dksX1_day_2 10 rfl rfl)
theorem dX1_day_59 : decode cX1_day 59 = .ok (.goto 4, 3) := dk_167 0 4 (dk_at dksX1_day_2 11 rfl rfl)
theorem dX1_day_62 : decode cX1_day 62 = .ok (.iconst 0, 1) := dk_3 (dk_at dksX1_day_2 14 rfl rfl)
theorem dX1_day_63 : decode cX1_day 63 = .ok (.iadd, 1) := dk_96 (dk_at dksX1_day_2 15 rfl rfl)
theorem dX1_day_64 : decode cX1_day 64 = .ok (.putfield 183, 3) := dk_181 0 183 (dk_at dksX1_day_2 16 rfl rfl)
theorem dX1_day_67 : decode cX1_day 67 = .ok (.aload_n 2, 1) := dk_44 (dk_at dksX1_day_2 19 rfl rfl)
theorem dX1_day_68 : decode cX1_day 68 = .ok (.dup, 1) := dk_89 (dk_at dksX1_day_2 20 rfl rfl)
theorem dX1_day_69 : decode cX1_day 69 = .ok (.getfield 172, 3) := dk_180 0 172 (dk_at dksX1_day_2 21 rfl rfl)
theorem dX1_day_72 : decode cX1_day 72 = .ok (.aload_n 2, 1) := dk_44 (dk_at dksX1_day_3 0 rfl rfl)
theorem dX1_day_73 : decode cX1_day 73 = .ok (.invokevirtual 159, 3) := dk_182 0 159 (dk_at dksX1_day_3 1 rfl rfl)
theorem dX1_day_76 : decode cX1_day 76 = .ok (.ifCond .eq 7, 3) := dk_153 0 7 (dk_at dksX1_day_3 4 rfl rfl)
theorem dX1_day_79 : decode cX1_day 79 = .ok (.iconst 1, 1) := dk_4 (dk_at dksX1_day_3 7 rfl rfl)
theorem dX1_day_80 : decode cX1_day 80 = .ok (.goto 4, 3) := dk_167 0 4 (dk_at dksX1_day_3 8 rfl rfl)
theorem dX1_day_83 : decode cX1_day 83 = .ok (.iconst 0, 1) := dk_3 (dk_at dksX1_day_3 11 rfl rfl)
theorem dX1_day_84 : decode cX1_day 84 = .ok (.iadd, 1) := dk_96 (dk_at dksX1_day_3 12 rfl rfl)
theorem dX1_day_85 : decode cX1_day 85 = .ok (.putfield 172, 3) := dk_181 0 172 (dk_at dksX1_day_3 13 rfl rfl)
theorem dX1_day_88 : decode cX1_day 88 = .ok (.aload_n 0, 1) := dk_42 (dk_at dksX1_day_3 16 rfl rfl)
theorem dX1_day_89 : decode cX1_day 89 = .ok (.aload_n 2, 1) := dk_44 (dk_at dksX1_day_3 17 rfl rfl)
theorem dX1_day_90 : decode cX1_day 90 = .ok (.invokevirtual 186, 3) := dk_182 0 186 (dk_at dksX1_day_3 18 rfl rfl)
theorem dX1_day_93 : decode cX1_day 93 = .ok (.iinc 1 1, 3) := dk_132 1 1 (dk_at dksX1_day_3 21 rfl rfl)
theorem dX1_day_96 : decode cX1_day 96 = .ok (.goto (-94), 3) := dk_167 255 162 (dk_at dksX1_day_4 0 rfl rfl)
theorem dX1_day_99 : decode cX1_day 99 = .ok (.aload_n 0, 1) := dk_42 (dk_at dksX1_day_4 3 rfl rfl)
theorem dX1_day_100 : decode cX1_day 100 = .ok (.dup, 1) := dk_89 (dk_at dksX1_day_4 4 rfl rfl)
theorem dX1_day_101 : decode cX1_day 101 = .ok (.getfield 69, 3) := dk_180 0 69 (dk_at dksX1_day_4 5 rfl rfl)
theorem dX1_day_104 : decode cX1_day 104 = .ok (.iconst 1, 1) := dk_4 (dk_at dksX1_day_4 8 rfl rfl)
theorem dX1_day_105 : decode cX1_day 105 = .ok (.iadd, 1) := dk_96 (dk_at dksX1_day_4 9 rfl rfl)
theorem dX1_day_106 : decode cX1_day 106 = .ok (.putfield 69, 3) := dk_181 0 69 (dk_at dksX1_day_4 10 rfl rfl)
theorem dX1_day_109 : decode cX1_day 109 = .ok (.return_, 1) := dk_177 (dk_at dksX1_day_4 13 rfl rfl)
abbrev cX1_chance : ByteArray := prog_4_method_4_code
def yX1_chance : MethodName := ⟨RX1, "chance", "(LBrothFlasks$Flask;)I"⟩
def dkwX1_chance_3 : List UInt8 := [180, 0, 63, 43, 180, 0, 114, 46, 28, 104, 16, 100, 108, 172]
abbrev dktX1_chance_3 : List UInt8 := dkwX1_chance_3 ++ []
def dkwX1_chance_2 : List UInt8 := [180, 0, 57, 43, 180, 0, 126, 46, 42, 180, 0, 60, 43, 180, 0, 129, 46, 96, 184, 0, 117, 61, 42]
abbrev dktX1_chance_2 : List UInt8 := dkwX1_chance_2 ++ dktX1_chance_3
def dkwX1_chance_1 : List UInt8 := [104, 184, 0, 117, 172, 42, 180, 0, 69, 43, 180, 0, 123, 163, 0, 8, 16, 100, 167, 0, 27, 16, 100, 42]
abbrev dktX1_chance_1 : List UInt8 := dkwX1_chance_1 ++ dktX1_chance_2
def dkwX1_chance_0 : List UInt8 := [43, 180, 0, 111, 42, 180, 0, 69, 160, 0, 21, 16, 100, 16, 10, 42, 180, 0, 63, 43, 180, 0, 114, 46]
abbrev dktX1_chance_0 : List UInt8 := dkwX1_chance_0 ++ dktX1_chance_1
theorem dksX1_chance_0 : cX1_chance.data.toList.drop 0 = dktX1_chance_0 := by decide +kernel
theorem dksX1_chance_1 : cX1_chance.data.toList.drop 24 = dktX1_chance_1 := dk_seg dksX1_chance_0 24 rfl rfl
theorem dksX1_chance_2 : cX1_chance.data.toList.drop 48 = dktX1_chance_2 := dk_seg dksX1_chance_1 24 rfl rfl
theorem dksX1_chance_3 : cX1_chance.data.toList.drop 71 = dktX1_chance_3 := dk_seg dksX1_chance_2 23 rfl rfl
theorem dX1_chance_0 : decode cX1_chance 0 = .ok (.aload_n 1, 1) := dk_43 (dk_at dksX1_chance_0 0 rfl rfl)
theorem dX1_chance_1 : decode cX1_chance 1 = .ok (.getfield 111, 3) := dk_180 0 111 (dk_at dksX1_chance_0 1 rfl rfl)
theorem dX1_chance_4 : decode cX1_chance 4 = .ok (.aload_n 0, 1) := dk_42 (dk_at dksX1_chance_0 4 rfl rfl)
theorem dX1_chance_5 : decode cX1_chance 5 = .ok (.getfield 69, 3) := dk_180 0 69 (dk_at dksX1_chance_0 5 rfl rfl)
theorem dX1_chance_8 : decode cX1_chance 8 = .ok (.if_icmp .ne 21, 3) := dk_160 0 21 (dk_at dksX1_chance_0 8 rfl rfl)
theorem dX1_chance_11 : decode cX1_chance 11 = .ok (.bipush 100, 2) := dk_16 100 (dk_at dksX1_chance_0 11 rfl rfl)
theorem dX1_chance_13 : decode cX1_chance 13 = .ok (.bipush 10, 2) := dk_16 10 (dk_at dksX1_chance_0 13 rfl rfl)
theorem dX1_chance_15 : decode cX1_chance 15 = .ok (.aload_n 0, 1) := dk_42 (dk_at dksX1_chance_0 15 rfl rfl)
theorem dX1_chance_16 : decode cX1_chance 16 = .ok (.getfield 63, 3) := dk_180 0 63 (dk_at dksX1_chance_0 16 rfl rfl)
theorem dX1_chance_19 : decode cX1_chance 19 = .ok (.aload_n 1, 1) := dk_43 (dk_at dksX1_chance_0 19 rfl rfl)
theorem dX1_chance_20 : decode cX1_chance 20 = .ok (.getfield 114, 3) := dk_180 0 114 (dk_at dksX1_chance_0 20 rfl rfl)
theorem dX1_chance_23 : decode cX1_chance 23 = .ok (.iaload, 1) := dk_46 (dk_at dksX1_chance_0 23 rfl rfl)
theorem dX1_chance_24 : decode cX1_chance 24 = .ok (.imul, 1) := dk_104 (dk_at dksX1_chance_1 0 rfl rfl)
theorem dX1_chance_25 : decode cX1_chance 25 = .ok (.invokestatic 117, 3) := dk_184 0 117 (dk_at dksX1_chance_1 1 rfl rfl)
theorem dX1_chance_28 : decode cX1_chance 28 = .ok (.ireturn, 1) := dk_172 (dk_at dksX1_chance_1 4 rfl rfl)
theorem dX1_chance_29 : decode cX1_chance 29 = .ok (.aload_n 0, 1) := dk_42 (dk_at dksX1_chance_1 5 rfl rfl)
theorem dX1_chance_30 : decode cX1_chance 30 = .ok (.getfield 69, 3) := dk_180 0 69 (dk_at dksX1_chance_1 6 rfl rfl)
theorem dX1_chance_33 : decode cX1_chance 33 = .ok (.aload_n 1, 1) := dk_43 (dk_at dksX1_chance_1 9 rfl rfl)
theorem dX1_chance_34 : decode cX1_chance 34 = .ok (.getfield 123, 3) := dk_180 0 123 (dk_at dksX1_chance_1 10 rfl rfl)
theorem dX1_chance_37 : decode cX1_chance 37 = .ok (.if_icmp .gt 8, 3) := dk_163 0 8 (dk_at dksX1_chance_1 13 rfl rfl)
theorem dX1_chance_40 : decode cX1_chance 40 = .ok (.bipush 100, 2) := dk_16 100 (dk_at dksX1_chance_1 16 rfl rfl)
theorem dX1_chance_42 : decode cX1_chance 42 = .ok (.goto 27, 3) := dk_167 0 27 (dk_at dksX1_chance_1 18 rfl rfl)
theorem dX1_chance_45 : decode cX1_chance 45 = .ok (.bipush 100, 2) := dk_16 100 (dk_at dksX1_chance_1 21 rfl rfl)
theorem dX1_chance_47 : decode cX1_chance 47 = .ok (.aload_n 0, 1) := dk_42 (dk_at dksX1_chance_1 23 rfl rfl)
theorem dX1_chance_48 : decode cX1_chance 48 = .ok (.getfield 57, 3) := dk_180 0 57 (dk_at dksX1_chance_2 0 rfl rfl)
theorem dX1_chance_51 : decode cX1_chance 51 = .ok (.aload_n 1, 1) := dk_43 (dk_at dksX1_chance_2 3 rfl rfl)
theorem dX1_chance_52 : decode cX1_chance 52 = .ok (.getfield 126, 3) := dk_180 0 126 (dk_at dksX1_chance_2 4 rfl rfl)
theorem dX1_chance_55 : decode cX1_chance 55 = .ok (.iaload, 1) := dk_46 (dk_at dksX1_chance_2 7 rfl rfl)
theorem dX1_chance_56 : decode cX1_chance 56 = .ok (.aload_n 0, 1) := dk_42 (dk_at dksX1_chance_2 8 rfl rfl)
theorem dX1_chance_57 : decode cX1_chance 57 = .ok (.getfield 60, 3) := dk_180 0 60 (dk_at dksX1_chance_2 9 rfl rfl)
theorem dX1_chance_60 : decode cX1_chance 60 = .ok (.aload_n 1, 1) := dk_43 (dk_at dksX1_chance_2 12 rfl rfl)
theorem dX1_chance_61 : decode cX1_chance 61 = .ok (.getfield 129, 3) := dk_180 0 129 (dk_at dksX1_chance_2 13 rfl rfl)
theorem dX1_chance_64 : decode cX1_chance 64 = .ok (.iaload, 1) := dk_46 (dk_at dksX1_chance_2 16 rfl rfl)
theorem dX1_chance_65 : decode cX1_chance 65 = .ok (.iadd, 1) := dk_96 (dk_at dksX1_chance_2 17 rfl rfl)
theorem dX1_chance_66 : decode cX1_chance 66 = .ok (.invokestatic 117, 3) := dk_184 0 117 (dk_at dksX1_chance_2 18 rfl rfl)
theorem dX1_chance_69 : decode cX1_chance 69 = .ok (.istore_n 2, 1) := dk_61 (dk_at dksX1_chance_2 21 rfl rfl)
theorem dX1_chance_70 : decode cX1_chance 70 = .ok (.aload_n 0, 1) := dk_42 (dk_at dksX1_chance_2 22 rfl rfl)
theorem dX1_chance_71 : decode cX1_chance 71 = .ok (.getfield 63, 3) := dk_180 0 63 (dk_at dksX1_chance_3 0 rfl rfl)
theorem dX1_chance_74 : decode cX1_chance 74 = .ok (.aload_n 1, 1) := dk_43 (dk_at dksX1_chance_3 3 rfl rfl)
theorem dX1_chance_75 : decode cX1_chance 75 = .ok (.getfield 114, 3) := dk_180 0 114 (dk_at dksX1_chance_3 4 rfl rfl)
theorem dX1_chance_78 : decode cX1_chance 78 = .ok (.iaload, 1) := dk_46 (dk_at dksX1_chance_3 7 rfl rfl)
theorem dX1_chance_79 : decode cX1_chance 79 = .ok (.iload_n 2, 1) := dk_28 (dk_at dksX1_chance_3 8 rfl rfl)
theorem dX1_chance_80 : decode cX1_chance 80 = .ok (.imul, 1) := dk_104 (dk_at dksX1_chance_3 9 rfl rfl)
theorem dX1_chance_81 : decode cX1_chance 81 = .ok (.bipush 100, 2) := dk_16 100 (dk_at dksX1_chance_3 10 rfl rfl)
theorem dX1_chance_83 : decode cX1_chance 83 = .ok (.idiv, 1) := dk_108 (dk_at dksX1_chance_3 12 rfl rfl)
theorem dX1_chance_84 : decode cX1_chance 84 = .ok (.ireturn, 1) := dk_172 (dk_at dksX1_chance_3 13 rfl rfl)
abbrev cX1_draw : ByteArray := prog_4_method_3_code
def yX1_draw : MethodName := ⟨RX1, "draw", "(I)I"⟩
def dkwX1_draw_1 : List UInt8 := [27, 133, 113, 136, 172]
abbrev dktX1_draw_1 : List UInt8 := dkwX1_draw_1 ++ []
def dkwX1_draw_0 : List UInt8 := [42, 42, 180, 0, 91, 20, 0, 105, 105, 20, 0, 107, 97, 20, 0, 109, 113, 181, 0, 91, 42, 180, 0, 91]
abbrev dktX1_draw_0 : List UInt8 := dkwX1_draw_0 ++ dktX1_draw_1
theorem dksX1_draw_0 : cX1_draw.data.toList.drop 0 = dktX1_draw_0 := by decide +kernel
theorem dksX1_draw_1 : cX1_draw.data.toList.drop 24 = dktX1_draw_1 := dk_seg dksX1_draw_0 24 rfl rfl
theorem dX1_draw_0 : decode cX1_draw 0 = .ok (.aload_n 0, 1) := dk_42 (dk_at dksX1_draw_0 0 rfl rfl)
theorem dX1_draw_1 : decode cX1_draw 1 = .ok (.aload_n 0, 1) := dk_42 (dk_at dksX1_draw_0 1 rfl rfl)
theorem dX1_draw_2 : decode cX1_draw 2 = .ok (.getfield 91, 3) := dk_180 0 91 (dk_at dksX1_draw_0 2 rfl rfl)
theorem dX1_draw_5 : decode cX1_draw 5 = .ok (.ldc2_w 105, 3) := dk_20 0 105 (dk_at dksX1_draw_0 5 rfl rfl)
theorem dX1_draw_8 : decode cX1_draw 8 = .ok (.lmul, 1) := dk_105 (dk_at dksX1_draw_0 8 rfl rfl)
theorem dX1_draw_9 : decode cX1_draw 9 = .ok (.ldc2_w 107, 3) := dk_20 0 107 (dk_at dksX1_draw_0 9 rfl rfl)
theorem dX1_draw_12 : decode cX1_draw 12 = .ok (.ladd, 1) := dk_97 (dk_at dksX1_draw_0 12 rfl rfl)
theorem dX1_draw_13 : decode cX1_draw 13 = .ok (.ldc2_w 109, 3) := dk_20 0 109 (dk_at dksX1_draw_0 13 rfl rfl)
theorem dX1_draw_16 : decode cX1_draw 16 = .ok (.lrem, 1) := dk_113 (dk_at dksX1_draw_0 16 rfl rfl)
theorem dX1_draw_17 : decode cX1_draw 17 = .ok (.putfield 91, 3) := dk_181 0 91 (dk_at dksX1_draw_0 17 rfl rfl)
theorem dX1_draw_20 : decode cX1_draw 20 = .ok (.aload_n 0, 1) := dk_42 (dk_at dksX1_draw_0 20 rfl rfl)
theorem dX1_draw_21 : decode cX1_draw 21 = .ok (.getfield 91, 3) := dk_180 0 91 (dk_at dksX1_draw_0 21 rfl rfl)
theorem dX1_draw_24 : decode cX1_draw 24 = .ok (.iload_n 1, 1) := dk_27 (dk_at dksX1_draw_1 0 rfl rfl)
theorem dX1_draw_25 : decode cX1_draw 25 = .ok (.i2l, 1) := dk_133 (dk_at dksX1_draw_1 1 rfl rfl)
theorem dX1_draw_26 : decode cX1_draw 26 = .ok (.lrem, 1) := dk_113 (dk_at dksX1_draw_1 2 rfl rfl)
theorem dX1_draw_27 : decode cX1_draw 27 = .ok (.l2i, 1) := dk_136 (dk_at dksX1_draw_1 3 rfl rfl)
theorem dX1_draw_28 : decode cX1_draw 28 = .ok (.ireturn, 1) := dk_172 (dk_at dksX1_draw_1 4 rfl rfl)
abbrev cX1_fall : ByteArray := prog_4_method_5_code
def yX1_fall : MethodName := ⟨RX1, "fall", "(LBrothFlasks$Flask;)V"⟩
def dkwX1_fall_5 : List UInt8 := [180, 0, 132, 42, 180, 0, 69, 79, 43, 89, 180, 0, 132, 4, 96, 181, 0, 132, 177]
abbrev dktX1_fall_5 : List UInt8 := dkwX1_fall_5 ++ []
def dkwX1_fall_4 : List UInt8 := [132, 4, 1, 167, 255, 216, 43, 180, 0, 139, 43, 180, 0, 132, 21, 4, 79, 43, 180, 0, 142, 43]
abbrev dktX1_fall_4 : List UInt8 := dkwX1_fall_4 ++ dktX1_fall_5
def dkwX1_fall_3 : List UInt8 := [46, 161, 0, 27, 29, 42, 180, 0, 66, 16, 8, 43, 180, 0, 114, 104, 21, 4, 96, 46, 100, 62]
abbrev dktX1_fall_3 : List UInt8 := dkwX1_fall_3 ++ dktX1_fall_4
def dkwX1_fall_2 : List UInt8 := [42, 28, 182, 0, 135, 62, 3, 54, 4, 29, 42, 180, 0, 66, 16, 8, 43, 180, 0, 114, 104, 21, 4, 96]
abbrev dktX1_fall_2 : List UInt8 := dkwX1_fall_2 ++ dktX1_fall_3
def dkwX1_fall_1 : List UInt8 := [29, 96, 46, 96, 61, 132, 3, 1, 167, 255, 228, 43, 180, 0, 132, 7, 159, 0, 7, 28, 154, 0, 4, 177]
abbrev dktX1_fall_1 : List UInt8 := dkwX1_fall_1 ++ dktX1_fall_2
def dkwX1_fall_0 : List UInt8 := [3, 61, 3, 62, 29, 42, 180, 0, 73, 162, 0, 26, 28, 42, 180, 0, 66, 16, 8, 43, 180, 0, 114, 104]
abbrev dktX1_fall_0 : List UInt8 := dkwX1_fall_0 ++ dktX1_fall_1
theorem dksX1_fall_0 : cX1_fall.data.toList.drop 0 = dktX1_fall_0 := by decide +kernel
theorem dksX1_fall_1 : cX1_fall.data.toList.drop 24 = dktX1_fall_1 := dk_seg dksX1_fall_0 24 rfl rfl
theorem dksX1_fall_2 : cX1_fall.data.toList.drop 48 = dktX1_fall_2 := dk_seg dksX1_fall_1 24 rfl rfl
theorem dksX1_fall_3 : cX1_fall.data.toList.drop 72 = dktX1_fall_3 := dk_seg dksX1_fall_2 24 rfl rfl
theorem dksX1_fall_4 : cX1_fall.data.toList.drop 94 = dktX1_fall_4 := dk_seg dksX1_fall_3 22 rfl rfl
theorem dksX1_fall_5 : cX1_fall.data.toList.drop 116 = dktX1_fall_5 := dk_seg dksX1_fall_4 22 rfl rfl
theorem dX1_fall_0 : decode cX1_fall 0 = .ok (.iconst 0, 1) := dk_3 (dk_at dksX1_fall_0 0 rfl rfl)
theorem dX1_fall_1 : decode cX1_fall 1 = .ok (.istore_n 2, 1) := dk_61 (dk_at dksX1_fall_0 1 rfl rfl)
theorem dX1_fall_2 : decode cX1_fall 2 = .ok (.iconst 0, 1) := dk_3 (dk_at dksX1_fall_0 2 rfl rfl)
theorem dX1_fall_3 : decode cX1_fall 3 = .ok (.istore_n 3, 1) := dk_62 (dk_at dksX1_fall_0 3 rfl rfl)
theorem dX1_fall_4 : decode cX1_fall 4 = .ok (.iload_n 3, 1) := dk_29 (dk_at dksX1_fall_0 4 rfl rfl)
theorem dX1_fall_5 : decode cX1_fall 5 = .ok (.aload_n 0, 1) := dk_42 (dk_at dksX1_fall_0 5 rfl rfl)
theorem dX1_fall_6 : decode cX1_fall 6 = .ok (.getfield 73, 3) := dk_180 0 73 (dk_at dksX1_fall_0 6 rfl rfl)
theorem dX1_fall_9 : decode cX1_fall 9 = .ok (.if_icmp .ge 26, 3) := dk_162 0 26 (dk_at dksX1_fall_0 9 rfl rfl)
theorem dX1_fall_12 : decode cX1_fall 12 = .ok (.iload_n 2, 1) := dk_28 (dk_at dksX1_fall_0 12 rfl rfl)
theorem dX1_fall_13 : decode cX1_fall 13 = .ok (.aload_n 0, 1) := dk_42 (dk_at dksX1_fall_0 13 rfl rfl)
theorem dX1_fall_14 : decode cX1_fall 14 = .ok (.getfield 66, 3) := dk_180 0 66 (dk_at dksX1_fall_0 14 rfl rfl)
theorem dX1_fall_17 : decode cX1_fall 17 = .ok (.bipush 8, 2) := dk_16 8 (dk_at dksX1_fall_0 17 rfl rfl)
theorem dX1_fall_19 : decode cX1_fall 19 = .ok (.aload_n 1, 1) := dk_43 (dk_at dksX1_fall_0 19 rfl rfl)
theorem dX1_fall_20 : decode cX1_fall 20 = .ok (.getfield 114, 3) := dk_180 0 114 (dk_at dksX1_fall_0 20 rfl rfl)
theorem dX1_fall_23 : decode cX1_fall 23 = .ok (.imul, 1) := dk_104 (dk_at dksX1_fall_0 23 rfl rfl)
theorem dX1_fall_24 : decode cX1_fall 24 = .ok (.iload_n 3, 1) := dk_29 (dk_at dksX1_fall_1 0 rfl rfl)
theorem dX1_fall_25 : decode cX1_fall 25 = .ok (.iadd, 1) := dk_96 (dk_at dksX1_fall_1 1 rfl rfl)
theorem dX1_fall_26 : decode cX1_fall 26 = .ok (.iaload, 1) := dk_46 (dk_at dksX1_fall_1 2 rfl rfl)
theorem dX1_fall_27 : decode cX1_fall 27 = .ok (.iadd, 1) := dk_96 (dk_at dksX1_fall_1 3 rfl rfl)
theorem dX1_fall_28 : decode cX1_fall 28 = .ok (.istore_n 2, 1) := dk_61 (dk_at dksX1_fall_1 4 rfl rfl)
theorem dX1_fall_29 : decode cX1_fall 29 = .ok (.iinc 3 1, 3) := dk_132 3 1 (dk_at dksX1_fall_1 5 rfl rfl)
theorem dX1_fall_32 : decode cX1_fall 32 = .ok (.goto (-28), 3) := dk_167 255 228 (dk_at dksX1_fall_1 8 rfl rfl)
theorem dX1_fall_35 : decode cX1_fall 35 = .ok (.aload_n 1, 1) := dk_43 (dk_at dksX1_fall_1 11 rfl rfl)
theorem dX1_fall_36 : decode cX1_fall 36 = .ok (.getfield 132, 3) := dk_180 0 132 (dk_at dksX1_fall_1 12 rfl rfl)
theorem dX1_fall_39 : decode cX1_fall 39 = .ok (.iconst 4, 1) := dk_7 (dk_at dksX1_fall_1 15 rfl rfl)
theorem dX1_fall_40 : decode cX1_fall 40 = .ok (.if_icmp .eq 7, 3) := dk_159 0 7 (dk_at dksX1_fall_1 16 rfl rfl)
theorem dX1_fall_43 : decode cX1_fall 43 = .ok (.iload_n 2, 1) := dk_28 (dk_at dksX1_fall_1 19 rfl rfl)
theorem dX1_fall_44 : decode cX1_fall 44 = .ok (.ifCond .ne 4, 3) := dk_154 0 4 (dk_at dksX1_fall_1 20 rfl rfl)
theorem dX1_fall_47 : decode cX1_fall 47 = .ok (.return_, 1) := dk_177 (dk_at dksX1_fall_1 23 rfl rfl)
theorem dX1_fall_48 : decode cX1_fall 48 = .ok (.aload_n 0, 1) := dk_42 (dk_at dksX1_fall_2 0 rfl rfl)
theorem dX1_fall_49 : decode cX1_fall 49 = .ok (.iload_n 2, 1) := dk_28 (dk_at dksX1_fall_2 1 rfl rfl)
theorem dX1_fall_50 : decode cX1_fall 50 = .ok (.invokevirtual 135, 3) := dk_182 0 135 (dk_at dksX1_fall_2 2 rfl rfl)
theorem dX1_fall_53 : decode cX1_fall 53 = .ok (.istore_n 3, 1) := dk_62 (dk_at dksX1_fall_2 5 rfl rfl)
theorem dX1_fall_54 : decode cX1_fall 54 = .ok (.iconst 0, 1) := dk_3 (dk_at dksX1_fall_2 6 rfl rfl)
theorem dX1_fall_55 : decode cX1_fall 55 = .ok (.istore 4, 2) := dk_54 4 (dk_at dksX1_fall_2 7 rfl rfl)
theorem dX1_fall_57 : decode cX1_fall 57 = .ok (.iload_n 3, 1) := dk_29 (dk_at dksX1_fall_2 9 rfl rfl)
theorem dX1_fall_58 : decode cX1_fall 58 = .ok (.aload_n 0, 1) := dk_42 (dk_at dksX1_fall_2 10 rfl rfl)
theorem dX1_fall_59 : decode cX1_fall 59 = .ok (.getfield 66, 3) := dk_180 0 66 (dk_at dksX1_fall_2 11 rfl rfl)
theorem dX1_fall_62 : decode cX1_fall 62 = .ok (.bipush 8, 2) := dk_16 8 (dk_at dksX1_fall_2 14 rfl rfl)
theorem dX1_fall_64 : decode cX1_fall 64 = .ok (.aload_n 1, 1) := dk_43 (dk_at dksX1_fall_2 16 rfl rfl)
theorem dX1_fall_65 : decode cX1_fall 65 = .ok (.getfield 114, 3) := dk_180 0 114 (dk_at dksX1_fall_2 17 rfl rfl)
theorem dX1_fall_68 : decode cX1_fall 68 = .ok (.imul, 1) := dk_104 (dk_at dksX1_fall_2 20 rfl rfl)
theorem dX1_fall_69 : decode cX1_fall 69 = .ok (.iload 4, 2) := dk_21 4 (dk_at dksX1_fall_2 21 rfl rfl)
theorem dX1_fall_71 : decode cX1_fall 71 = .ok (.iadd, 1) := dk_96 (dk_at dksX1_fall_2 23 rfl rfl)
theorem dX1_fall_72 : decode cX1_fall 72 = .ok (.iaload, 1) := dk_46 (dk_at dksX1_fall_3 0 rfl rfl)
theorem dX1_fall_73 : decode cX1_fall 73 = .ok (.if_icmp .lt 27, 3) := dk_161 0 27 (dk_at dksX1_fall_3 1 rfl rfl)
theorem dX1_fall_76 : decode cX1_fall 76 = .ok (.iload_n 3, 1) := dk_29 (dk_at dksX1_fall_3 4 rfl rfl)
theorem dX1_fall_77 : decode cX1_fall 77 = .ok (.aload_n 0, 1) := dk_42 (dk_at dksX1_fall_3 5 rfl rfl)
theorem dX1_fall_78 : decode cX1_fall 78 = .ok (.getfield 66, 3) := dk_180 0 66 (dk_at dksX1_fall_3 6 rfl rfl)
theorem dX1_fall_81 : decode cX1_fall 81 = .ok (.bipush 8, 2) := dk_16 8 (dk_at dksX1_fall_3 9 rfl rfl)
theorem dX1_fall_83 : decode cX1_fall 83 = .ok (.aload_n 1, 1) := dk_43 (dk_at dksX1_fall_3 11 rfl rfl)
theorem dX1_fall_84 : decode cX1_fall 84 = .ok (.getfield 114, 3) := dk_180 0 114 (dk_at dksX1_fall_3 12 rfl rfl)
theorem dX1_fall_87 : decode cX1_fall 87 = .ok (.imul, 1) := dk_104 (dk_at dksX1_fall_3 15 rfl rfl)
theorem dX1_fall_88 : decode cX1_fall 88 = .ok (.iload 4, 2) := dk_21 4 (dk_at dksX1_fall_3 16 rfl rfl)
theorem dX1_fall_90 : decode cX1_fall 90 = .ok (.iadd, 1) := dk_96 (dk_at dksX1_fall_3 18 rfl rfl)
theorem dX1_fall_91 : decode cX1_fall 91 = .ok (.iaload, 1) := dk_46 (dk_at dksX1_fall_3 19 rfl rfl)
theorem dX1_fall_92 : decode cX1_fall 92 = .ok (.isub, 1) := dk_100 (dk_at dksX1_fall_3 20 rfl rfl)
theorem dX1_fall_93 : decode cX1_fall 93 = .ok (.istore_n 3, 1) := dk_62 (dk_at dksX1_fall_3 21 rfl rfl)
theorem dX1_fall_94 : decode cX1_fall 94 = .ok (.iinc 4 1, 3) := dk_132 4 1 (dk_at dksX1_fall_4 0 rfl rfl)
theorem dX1_fall_97 : decode cX1_fall 97 = .ok (.goto (-40), 3) := dk_167 255 216 (dk_at dksX1_fall_4 3 rfl rfl)
theorem dX1_fall_100 : decode cX1_fall 100 = .ok (.aload_n 1, 1) := dk_43 (dk_at dksX1_fall_4 6 rfl rfl)
theorem dX1_fall_101 : decode cX1_fall 101 = .ok (.getfield 139, 3) := dk_180 0 139 (dk_at dksX1_fall_4 7 rfl rfl)
theorem dX1_fall_104 : decode cX1_fall 104 = .ok (.aload_n 1, 1) := dk_43 (dk_at dksX1_fall_4 10 rfl rfl)
theorem dX1_fall_105 : decode cX1_fall 105 = .ok (.getfield 132, 3) := dk_180 0 132 (dk_at dksX1_fall_4 11 rfl rfl)
theorem dX1_fall_108 : decode cX1_fall 108 = .ok (.iload 4, 2) := dk_21 4 (dk_at dksX1_fall_4 14 rfl rfl)
theorem dX1_fall_110 : decode cX1_fall 110 = .ok (.iastore, 1) := dk_79 (dk_at dksX1_fall_4 16 rfl rfl)
theorem dX1_fall_111 : decode cX1_fall 111 = .ok (.aload_n 1, 1) := dk_43 (dk_at dksX1_fall_4 17 rfl rfl)
theorem dX1_fall_112 : decode cX1_fall 112 = .ok (.getfield 142, 3) := dk_180 0 142 (dk_at dksX1_fall_4 18 rfl rfl)
theorem dX1_fall_115 : decode cX1_fall 115 = .ok (.aload_n 1, 1) := dk_43 (dk_at dksX1_fall_4 21 rfl rfl)
theorem dX1_fall_116 : decode cX1_fall 116 = .ok (.getfield 132, 3) := dk_180 0 132 (dk_at dksX1_fall_5 0 rfl rfl)
theorem dX1_fall_119 : decode cX1_fall 119 = .ok (.aload_n 0, 1) := dk_42 (dk_at dksX1_fall_5 3 rfl rfl)
theorem dX1_fall_120 : decode cX1_fall 120 = .ok (.getfield 69, 3) := dk_180 0 69 (dk_at dksX1_fall_5 4 rfl rfl)
theorem dX1_fall_123 : decode cX1_fall 123 = .ok (.iastore, 1) := dk_79 (dk_at dksX1_fall_5 7 rfl rfl)
theorem dX1_fall_124 : decode cX1_fall 124 = .ok (.aload_n 1, 1) := dk_43 (dk_at dksX1_fall_5 8 rfl rfl)
theorem dX1_fall_125 : decode cX1_fall 125 = .ok (.dup, 1) := dk_89 (dk_at dksX1_fall_5 9 rfl rfl)
theorem dX1_fall_126 : decode cX1_fall 126 = .ok (.getfield 132, 3) := dk_180 0 132 (dk_at dksX1_fall_5 10 rfl rfl)
theorem dX1_fall_129 : decode cX1_fall 129 = .ok (.iconst 1, 1) := dk_4 (dk_at dksX1_fall_5 13 rfl rfl)
theorem dX1_fall_130 : decode cX1_fall 130 = .ok (.iadd, 1) := dk_96 (dk_at dksX1_fall_5 14 rfl rfl)
theorem dX1_fall_131 : decode cX1_fall 131 = .ok (.putfield 132, 3) := dk_181 0 132 (dk_at dksX1_fall_5 15 rfl rfl)
theorem dX1_fall_134 : decode cX1_fall 134 = .ok (.return_, 1) := dk_177 (dk_at dksX1_fall_5 18 rfl rfl)
abbrev cX1_turn : ByteArray := prog_4_method_6_code
def yX1_turn : MethodName := ⟨RX1, "turn", "(LBrothFlasks$Flask;)V"⟩
def dkwX1_turn_6 : List UInt8 := [162, 0, 4, 177, 43, 4, 181, 0, 145, 43, 42, 180, 0, 69, 181, 0, 169, 177]
abbrev dktX1_turn_6 : List UInt8 := dkwX1_turn_6 ++ []
def dkwX1_turn_5 : List UInt8 := [180, 0, 48, 43, 180, 0, 149, 46, 153, 0, 19, 43, 180, 0, 172, 42, 180, 0, 48, 43, 180, 0, 149, 46]
abbrev dktX1_turn_5 : List UInt8 := dkwX1_turn_5 ++ dktX1_turn_6
def dkwX1_turn_4 : List UInt8 := [43, 42, 180, 0, 69, 181, 0, 169, 132, 2, 1, 167, 255, 155, 43, 180, 0, 145, 154, 0, 31, 42]
abbrev dktX1_turn_4 : List UInt8 := dkwX1_turn_4 ++ dktX1_turn_5
def dkwX1_turn_3 : List UInt8 := [180, 0, 163, 162, 0, 6, 167, 0, 26, 43, 4, 181, 0, 145, 43, 43, 180, 0, 139, 28, 46, 181, 0, 166]
abbrev dktX1_turn_3 : List UInt8 := dkwX1_turn_3 ++ dktX1_turn_4
def dkwX1_turn_2 : List UInt8 := [153, 0, 10, 43, 182, 0, 159, 153, 0, 49, 42, 180, 0, 69, 43, 180, 0, 142, 28, 46, 100, 4, 96, 45]
abbrev dktX1_turn_2 : List UInt8 := dkwX1_turn_2 ++ dktX1_turn_3
def dkwX1_turn_1 : List UInt8 := [180, 0, 139, 28, 46, 50, 78, 45, 43, 180, 0, 149, 182, 0, 152, 153, 0, 63, 45, 180, 0, 156]
abbrev dktX1_turn_1 : List UInt8 := dkwX1_turn_1 ++ dktX1_turn_2
def dkwX1_turn_0 : List UInt8 := [3, 61, 28, 43, 180, 0, 132, 162, 0, 99, 43, 180, 0, 145, 154, 0, 92, 42, 180, 0, 11, 43]
abbrev dktX1_turn_0 : List UInt8 := dkwX1_turn_0 ++ dktX1_turn_1
theorem dksX1_turn_0 : cX1_turn.data.toList.drop 0 = dktX1_turn_0 := by decide +kernel
theorem dksX1_turn_1 : cX1_turn.data.toList.drop 22 = dktX1_turn_1 := dk_seg dksX1_turn_0 22 rfl rfl
theorem dksX1_turn_2 : cX1_turn.data.toList.drop 44 = dktX1_turn_2 := dk_seg dksX1_turn_1 22 rfl rfl
theorem dksX1_turn_3 : cX1_turn.data.toList.drop 68 = dktX1_turn_3 := dk_seg dksX1_turn_2 24 rfl rfl
theorem dksX1_turn_4 : cX1_turn.data.toList.drop 92 = dktX1_turn_4 := dk_seg dksX1_turn_3 24 rfl rfl
theorem dksX1_turn_5 : cX1_turn.data.toList.drop 114 = dktX1_turn_5 := dk_seg dksX1_turn_4 22 rfl rfl
theorem dksX1_turn_6 : cX1_turn.data.toList.drop 138 = dktX1_turn_6 := dk_seg dksX1_turn_5 24 rfl rfl
theorem dX1_turn_0 : decode cX1_turn 0 = .ok (.iconst 0, 1) := dk_3 (dk_at dksX1_turn_0 0 rfl rfl)
theorem dX1_turn_1 : decode cX1_turn 1 = .ok (.istore_n 2, 1) := dk_61 (dk_at dksX1_turn_0 1 rfl rfl)
theorem dX1_turn_2 : decode cX1_turn 2 = .ok (.iload_n 2, 1) := dk_28 (dk_at dksX1_turn_0 2 rfl rfl)
theorem dX1_turn_3 : decode cX1_turn 3 = .ok (.aload_n 1, 1) := dk_43 (dk_at dksX1_turn_0 3 rfl rfl)
theorem dX1_turn_4 : decode cX1_turn 4 = .ok (.getfield 132, 3) := dk_180 0 132 (dk_at dksX1_turn_0 4 rfl rfl)
theorem dX1_turn_7 : decode cX1_turn 7 = .ok (.if_icmp .ge 99, 3) := dk_162 0 99 (dk_at dksX1_turn_0 7 rfl rfl)
theorem dX1_turn_10 : decode cX1_turn 10 = .ok (.aload_n 1, 1) := dk_43 (dk_at dksX1_turn_0 10 rfl rfl)
theorem dX1_turn_11 : decode cX1_turn 11 = .ok (.getfield 145, 3) := dk_180 0 145 (dk_at dksX1_turn_0 11 rfl rfl)
theorem dX1_turn_14 : decode cX1_turn 14 = .ok (.ifCond .ne 92, 3) := dk_154 0 92 (dk_at dksX1_turn_0 14 rfl rfl)
theorem dX1_turn_17 : decode cX1_turn 17 = .ok (.aload_n 0, 1) := dk_42 (dk_at dksX1_turn_0 17 rfl rfl)
theorem dX1_turn_18 : decode cX1_turn 18 = .ok (.getfield 11, 3) := dk_180 0 11 (dk_at dksX1_turn_0 18 rfl rfl)
theorem dX1_turn_21 : decode cX1_turn 21 = .ok (.aload_n 1, 1) := dk_43 (dk_at dksX1_turn_0 21 rfl rfl)
theorem dX1_turn_22 : decode cX1_turn 22 = .ok (.getfield 139, 3) := dk_180 0 139 (dk_at dksX1_turn_1 0 rfl rfl)
theorem dX1_turn_25 : decode cX1_turn 25 = .ok (.iload_n 2, 1) := dk_28 (dk_at dksX1_turn_1 3 rfl rfl)
theorem dX1_turn_26 : decode cX1_turn 26 = .ok (.iaload, 1) := dk_46 (dk_at dksX1_turn_1 4 rfl rfl)
theorem dX1_turn_27 : decode cX1_turn 27 = .ok (.aaload, 1) := dk_50 (dk_at dksX1_turn_1 5 rfl rfl)
theorem dX1_turn_28 : decode cX1_turn 28 = .ok (.astore_n 3, 1) := dk_78 (dk_at dksX1_turn_1 6 rfl rfl)
theorem dX1_turn_29 : decode cX1_turn 29 = .ok (.aload_n 3, 1) := dk_45 (dk_at dksX1_turn_1 7 rfl rfl)
theorem dX1_turn_30 : decode cX1_turn 30 = .ok (.aload_n 1, 1) := dk_43 (dk_at dksX1_turn_1 8 rfl rfl)
theorem dX1_turn_31 : decode cX1_turn 31 = .ok (.getfield 149, 3) := dk_180 0 149 (dk_at dksX1_turn_1 9 rfl rfl)
theorem dX1_turn_34 : decode cX1_turn 34 = .ok (.invokevirtual 152, 3) := dk_182 0 152 (dk_at dksX1_turn_1 12 rfl rfl)
theorem dX1_turn_37 : decode cX1_turn 37 = .ok (.ifCond .eq 63, 3) := dk_153 0 63 (dk_at dksX1_turn_1 15 rfl rfl)
theorem dX1_turn_40 : decode cX1_turn 40 = .ok (.aload_n 3, 1) := dk_45 (dk_at dksX1_turn_1 18 rfl rfl)
theorem dX1_turn_41 : decode cX1_turn 41 = .ok (.getfield 156, 3) := dk_180 0 156 (dk_at dksX1_turn_1 19 rfl rfl)
theorem dX1_turn_44 : decode cX1_turn 44 = .ok (.ifCond .eq 10, 3) := dk_153 0 10 (dk_at dksX1_turn_2 0 rfl rfl)
theorem dX1_turn_47 : decode cX1_turn 47 = .ok (.aload_n 1, 1) := dk_43 (dk_at dksX1_turn_2 3 rfl rfl)
theorem dX1_turn_48 : decode cX1_turn 48 = .ok (.invokevirtual 159, 3) := dk_182 0 159 (dk_at dksX1_turn_2 4 rfl rfl)
theorem dX1_turn_51 : decode cX1_turn 51 = .ok (.ifCond .eq 49, 3) := dk_153 0 49 (dk_at dksX1_turn_2 7 rfl rfl)
theorem dX1_turn_54 : decode cX1_turn 54 = .ok (.aload_n 0, 1) := dk_42 (dk_at dksX1_turn_2 10 rfl rfl)
theorem dX1_turn_55 : decode cX1_turn 55 = .ok (.getfield 69, 3) := dk_180 0 69 (dk_at dksX1_turn_2 11 rfl rfl)
theorem dX1_turn_58 : decode cX1_turn 58 = .ok (.aload_n 1, 1) := dk_43 (dk_at dksX1_turn_2 14 rfl rfl)
theorem dX1_turn_59 : decode cX1_turn 59 = .ok (.getfield 142, 3) := dk_180 0 142 (dk_at dksX1_turn_2 15 rfl rfl)
theorem dX1_turn_62 : decode cX1_turn 62 = .ok (.iload_n 2, 1) := dk_28 (dk_at dksX1_turn_2 18 rfl rfl)
theorem dX1_turn_63 : decode cX1_turn 63 = .ok (.iaload, 1) := dk_46 (dk_at dksX1_turn_2 19 rfl rfl)
theorem dX1_turn_64 : decode cX1_turn 64 = .ok (.isub, 1) := dk_100 (dk_at dksX1_turn_2 20 rfl rfl)
theorem dX1_turn_65 : decode cX1_turn 65 = .ok (.iconst 1, 1) := dk_4 (dk_at dksX1_turn_2 21 rfl rfl)
theorem dX1_turn_66 : decode cX1_turn 66 = .ok (.iadd, 1) := dk_96 (dk_at dksX1_turn_2 22 rfl rfl)
theorem dX1_turn_67 : decode cX1_turn 67 = .ok (.aload_n 3, 1) := dk_45 (dk_at dksX1_turn_2 23 rfl rfl)
theorem dX1_turn_68 : decode cX1_turn 68 = .ok (.getfield 163, 3) := dk_180 0 163 (dk_at dksX1_turn_3 0 rfl rfl)
theorem dX1_turn_71 : decode cX1_turn 71 = .ok (.if_icmp .ge 6, 3) := dk_162 0 6 (dk_at dksX1_turn_3 3 rfl rfl)
theorem dX1_turn_74 : decode cX1_turn 74 = .ok (.goto 26, 3) := dk_167 0 26 (dk_at dksX1_turn_3 6 rfl rfl)
theorem dX1_turn_77 : decode cX1_turn 77 = .ok (.aload_n 1, 1) := dk_43 (dk_at dksX1_turn_3 9 rfl rfl)
theorem dX1_turn_78 : decode cX1_turn 78 = .ok (.iconst 1, 1) := dk_4 (dk_at dksX1_turn_3 10 rfl rfl)
theorem dX1_turn_79 : decode cX1_turn 79 = .ok (.putfield 145, 3) := dk_181 0 145 (dk_at dksX1_turn_3 11 rfl rfl)
theorem dX1_turn_82 : decode cX1_turn 82 = .ok (.aload_n 1, 1) := dk_43 (dk_at dksX1_turn_3 14 rfl rfl)
theorem dX1_turn_83 : decode cX1_turn 83 = .ok (.aload_n 1, 1) := dk_43 (dk_at dksX1_turn_3 15 rfl rfl)
theorem dX1_turn_84 : decode cX1_turn 84 = .ok (.getfield 139, 3) := dk_180 0 139 (dk_at dksX1_turn_3 16 rfl rfl)
theorem dX1_turn_87 : decode cX1_turn 87 = .ok (.iload_n 2, 1) := dk_28 (dk_at dksX1_turn_3 19 rfl rfl)
theorem dX1_turn_88 : decode cX1_turn 88 = .ok (.iaload, 1) := dk_46 (dk_at dksX1_turn_3 20 rfl rfl)
theorem dX1_turn_89 : decode cX1_turn 89 = .ok (.putfield 166, 3) := dk_181 0 166 (dk_at dksX1_turn_3 21 rfl rfl)
theorem dX1_turn_92 : decode cX1_turn 92 = .ok (.aload_n 1, 1) := dk_43 (dk_at dksX1_turn_4 0 rfl rfl)
theorem dX1_turn_93 : decode cX1_turn 93 = .ok (.aload_n 0, 1) := dk_42 (dk_at dksX1_turn_4 1 rfl rfl)
theorem dX1_turn_94 : decode cX1_turn 94 = .ok (.getfield 69, 3) := dk_180 0 69 (dk_at dksX1_turn_4 2 rfl rfl)
theorem dX1_turn_97 : decode cX1_turn 97 = .ok (.putfield 169, 3) := dk_181 0 169 (dk_at dksX1_turn_4 5 rfl rfl)
theorem dX1_turn_100 : decode cX1_turn 100 = .ok (.iinc 2 1, 3) := dk_132 2 1 (dk_at dksX1_turn_4 8 rfl rfl)
theorem dX1_turn_103 : decode cX1_turn 103 = .ok (.goto (-101), 3) := dk_167 255 155 (dk_at dksX1_turn_4 11 rfl rfl)
theorem dX1_turn_106 : decode cX1_turn 106 = .ok (.aload_n 1, 1) := dk_43 (dk_at dksX1_turn_4 14 rfl rfl)
theorem dX1_turn_107 : decode cX1_turn 107 = .ok (.getfield 145, 3) := dk_180 0 145 (dk_at dksX1_turn_4 15 rfl rfl)
theorem dX1_turn_110 : decode cX1_turn 110 = .ok (.ifCond .ne 31, 3) := dk_154 0 31 (dk_at dksX1_turn_4 18 rfl rfl)
theorem dX1_turn_113 : decode cX1_turn 113 = .ok (.aload_n 0, 1) := dk_42 (dk_at dksX1_turn_4 21 rfl rfl)
theorem dX1_turn_114 : decode cX1_turn 114 = .ok (.getfield 48, 3) := dk_180 0 48 (dk_at dksX1_turn_5 0 rfl rfl)
theorem dX1_turn_117 : decode cX1_turn 117 = .ok (.aload_n 1, 1) := dk_43 (dk_at dksX1_turn_5 3 rfl rfl)
theorem dX1_turn_118 : decode cX1_turn 118 = .ok (.getfield 149, 3) := dk_180 0 149 (dk_at dksX1_turn_5 4 rfl rfl)
theorem dX1_turn_121 : decode cX1_turn 121 = .ok (.iaload, 1) := dk_46 (dk_at dksX1_turn_5 7 rfl rfl)
theorem dX1_turn_122 : decode cX1_turn 122 = .ok (.ifCond .eq 19, 3) := dk_153 0 19 (dk_at dksX1_turn_5 8 rfl rfl)
theorem dX1_turn_125 : decode cX1_turn 125 = .ok (.aload_n 1, 1) := dk_43 (dk_at dksX1_turn_5 11 rfl rfl)
theorem dX1_turn_126 : decode cX1_turn 126 = .ok (.getfield 172, 3) := dk_180 0 172 (dk_at dksX1_turn_5 12 rfl rfl)
theorem dX1_turn_129 : decode cX1_turn 129 = .ok (.aload_n 0, 1) := dk_42 (dk_at dksX1_turn_5 15 rfl rfl)
theorem dX1_turn_130 : decode cX1_turn 130 = .ok (.getfield 48, 3) := dk_180 0 48 (dk_at dksX1_turn_5 16 rfl rfl)
theorem dX1_turn_133 : decode cX1_turn 133 = .ok (.aload_n 1, 1) := dk_43 (dk_at dksX1_turn_5 19 rfl rfl)
theorem dX1_turn_134 : decode cX1_turn 134 = .ok (.getfield 149, 3) := dk_180 0 149 (dk_at dksX1_turn_5 20 rfl rfl)
theorem dX1_turn_137 : decode cX1_turn 137 = .ok (.iaload, 1) := dk_46 (dk_at dksX1_turn_5 23 rfl rfl)
theorem dX1_turn_138 : decode cX1_turn 138 = .ok (.if_icmp .ge 4, 3) := dk_162 0 4 (dk_at dksX1_turn_6 0 rfl rfl)
theorem dX1_turn_141 : decode cX1_turn 141 = .ok (.return_, 1) := dk_177 (dk_at dksX1_turn_6 3 rfl rfl)
theorem dX1_turn_142 : decode cX1_turn 142 = .ok (.aload_n 1, 1) := dk_43 (dk_at dksX1_turn_6 4 rfl rfl)
theorem dX1_turn_143 : decode cX1_turn 143 = .ok (.iconst 1, 1) := dk_4 (dk_at dksX1_turn_6 5 rfl rfl)
theorem dX1_turn_144 : decode cX1_turn 144 = .ok (.putfield 145, 3) := dk_181 0 145 (dk_at dksX1_turn_6 6 rfl rfl)
theorem dX1_turn_147 : decode cX1_turn 147 = .ok (.aload_n 1, 1) := dk_43 (dk_at dksX1_turn_6 9 rfl rfl)
theorem dX1_turn_148 : decode cX1_turn 148 = .ok (.aload_n 0, 1) := dk_42 (dk_at dksX1_turn_6 10 rfl rfl)
theorem dX1_turn_149 : decode cX1_turn 149 = .ok (.getfield 69, 3) := dk_180 0 69 (dk_at dksX1_turn_6 11 rfl rfl)
theorem dX1_turn_152 : decode cX1_turn 152 = .ok (.putfield 169, 3) := dk_181 0 169 (dk_at dksX1_turn_6 14 rfl rfl)
theorem dX1_turn_155 : decode cX1_turn 155 = .ok (.return_, 1) := dk_177 (dk_at dksX1_turn_6 17 rfl rfl)
abbrev cX1_take : ByteArray := prog_4_method_2_code
def yX1_take : MethodName := ⟨RX1, "take", "(LBrothFlasks$Bench;)V"⟩
def dkwX1_take_12 : List UInt8 := [180, 0, 66, 3, 16, 96, 184, 0, 95, 177]
abbrev dktX1_take_12 : List UInt8 := dkwX1_take_12 ++ []
def dkwX1_take_11 : List UInt8 := [184, 0, 95, 43, 180, 0, 63, 3, 42, 180, 0, 63, 3, 16, 12, 184, 0, 95, 43, 180, 0, 66, 3, 42]
abbrev dktX1_take_11 : List UInt8 := dkwX1_take_11 ++ dktX1_take_12
def dkwX1_take_10 : List UInt8 := [3, 42, 180, 0, 57, 3, 16, 6, 184, 0, 95, 43, 180, 0, 60, 3, 42, 180, 0, 60, 3, 7]
abbrev dktX1_take_10 : List UInt8 := dkwX1_take_10 ++ dktX1_take_11
def dkwX1_take_9 : List UInt8 := [16, 6, 184, 0, 95, 43, 180, 0, 54, 3, 42, 180, 0, 54, 3, 16, 6, 184, 0, 95, 43, 180, 0, 57]
abbrev dktX1_take_9 : List UInt8 := dkwX1_take_9 ++ dktX1_take_10
def dkwX1_take_8 : List UInt8 := [180, 0, 48, 3, 42, 180, 0, 48, 3, 16, 6, 184, 0, 95, 43, 180, 0, 51, 3, 42, 180, 0, 51, 3]
abbrev dktX1_take_8 : List UInt8 := dkwX1_take_8 ++ dktX1_take_9
def dkwX1_take_7 : List UInt8 := [3, 16, 9, 184, 0, 95, 43, 180, 0, 45, 3, 42, 180, 0, 45, 3, 16, 9, 184, 0, 95, 43]
abbrev dktX1_take_7 : List UInt8 := dkwX1_take_7 ++ dktX1_take_8
def dkwX1_take_6 : List UInt8 := [43, 180, 0, 37, 3, 42, 180, 0, 37, 3, 16, 12, 184, 0, 95, 43, 180, 0, 41, 3, 42, 180, 0, 41]
abbrev dktX1_take_6 : List UInt8 := dkwX1_take_6 ++ dktX1_take_7
def dkwX1_take_5 : List UInt8 := [180, 0, 25, 3, 16, 40, 184, 0, 95, 43, 180, 0, 31, 3, 42, 180, 0, 31, 3, 16, 12, 184, 0, 95]
abbrev dktX1_take_5 : List UInt8 := dkwX1_take_5 ++ dktX1_take_6
def dkwX1_take_4 : List UInt8 := [43, 180, 0, 19, 28, 50, 182, 0, 101, 83, 132, 2, 1, 167, 255, 230, 43, 180, 0, 25, 3, 42]
abbrev dktX1_take_4 : List UInt8 := dkwX1_take_4 ++ dktX1_take_5
def dkwX1_take_3 : List UInt8 := [180, 0, 11, 3, 16, 8, 184, 0, 95, 3, 61, 28, 42, 180, 0, 76, 162, 0, 24, 42, 180, 0, 19, 28]
abbrev dktX1_take_3 : List UInt8 := dkwX1_take_3 ++ dktX1_take_4
def dkwX1_take_2 : List UInt8 := [42, 43, 180, 0, 88, 181, 0, 88, 42, 43, 180, 0, 91, 181, 0, 91, 43, 180, 0, 11, 3, 42]
abbrev dktX1_take_2 : List UInt8 := dkwX1_take_2 ++ dktX1_take_3
def dkwX1_take_1 : List UInt8 := [42, 43, 180, 0, 79, 181, 0, 79, 42, 43, 180, 0, 82, 181, 0, 82, 42, 43, 180, 0, 85, 181, 0, 85]
abbrev dktX1_take_1 : List UInt8 := dkwX1_take_1 ++ dktX1_take_2
def dkwX1_take_0 : List UInt8 := [42, 43, 180, 0, 69, 181, 0, 69, 42, 43, 180, 0, 73, 181, 0, 73, 42, 43, 180, 0, 76, 181, 0, 76]
abbrev dktX1_take_0 : List UInt8 := dkwX1_take_0 ++ dktX1_take_1
theorem dksX1_take_0 : cX1_take.data.toList.drop 0 = dktX1_take_0 := by decide +kernel
theorem dksX1_take_1 : cX1_take.data.toList.drop 24 = dktX1_take_1 := dk_seg dksX1_take_0 24 rfl rfl
theorem dksX1_take_2 : cX1_take.data.toList.drop 48 = dktX1_take_2 := dk_seg dksX1_take_1 24 rfl rfl
theorem dksX1_take_3 : cX1_take.data.toList.drop 70 = dktX1_take_3 := dk_seg dksX1_take_2 22 rfl rfl
theorem dksX1_take_4 : cX1_take.data.toList.drop 94 = dktX1_take_4 := dk_seg dksX1_take_3 24 rfl rfl
theorem dksX1_take_5 : cX1_take.data.toList.drop 116 = dktX1_take_5 := dk_seg dksX1_take_4 22 rfl rfl
theorem dksX1_take_6 : cX1_take.data.toList.drop 140 = dktX1_take_6 := dk_seg dksX1_take_5 24 rfl rfl
theorem dksX1_take_7 : cX1_take.data.toList.drop 164 = dktX1_take_7 := dk_seg dksX1_take_6 24 rfl rfl
theorem dksX1_take_8 : cX1_take.data.toList.drop 186 = dktX1_take_8 := dk_seg dksX1_take_7 22 rfl rfl
theorem dksX1_take_9 : cX1_take.data.toList.drop 210 = dktX1_take_9 := dk_seg dksX1_take_8 24 rfl rfl
theorem dksX1_take_10 : cX1_take.data.toList.drop 234 = dktX1_take_10 := dk_seg dksX1_take_9 24 rfl rfl
theorem dksX1_take_11 : cX1_take.data.toList.drop 256 = dktX1_take_11 := dk_seg dksX1_take_10 22 rfl rfl
theorem dksX1_take_12 : cX1_take.data.toList.drop 280 = dktX1_take_12 := dk_seg dksX1_take_11 24 rfl rfl
theorem dX1_take_0 : decode cX1_take 0 = .ok (.aload_n 0, 1) := dk_42 (dk_at dksX1_take_0 0 rfl rfl)
theorem dX1_take_1 : decode cX1_take 1 = .ok (.aload_n 1, 1) := dk_43 (dk_at dksX1_take_0 1 rfl rfl)
theorem dX1_take_2 : decode cX1_take 2 = .ok (.getfield 69, 3) := dk_180 0 69 (dk_at dksX1_take_0 2 rfl rfl)
theorem dX1_take_5 : decode cX1_take 5 = .ok (.putfield 69, 3) := dk_181 0 69 (dk_at dksX1_take_0 5 rfl rfl)
theorem dX1_take_8 : decode cX1_take 8 = .ok (.aload_n 0, 1) := dk_42 (dk_at dksX1_take_0 8 rfl rfl)
theorem dX1_take_9 : decode cX1_take 9 = .ok (.aload_n 1, 1) := dk_43 (dk_at dksX1_take_0 9 rfl rfl)
theorem dX1_take_10 : decode cX1_take 10 = .ok (.getfield 73, 3) := dk_180 0 73 (dk_at dksX1_take_0 10 rfl rfl)
theorem dX1_take_13 : decode cX1_take 13 = .ok (.putfield 73, 3) := dk_181 0 73 (dk_at dksX1_take_0 13 rfl rfl)
theorem dX1_take_16 : decode cX1_take 16 = .ok (.aload_n 0, 1) := dk_42 (dk_at dksX1_take_0 16 rfl rfl)
theorem dX1_take_17 : decode cX1_take 17 = .ok (.aload_n 1, 1) := dk_43 (dk_at dksX1_take_0 17 rfl rfl)
theorem dX1_take_18 : decode cX1_take 18 = .ok (.getfield 76, 3) := dk_180 0 76 (dk_at dksX1_take_0 18 rfl rfl)
theorem dX1_take_21 : decode cX1_take 21 = .ok (.putfield 76, 3) := dk_181 0 76 (dk_at dksX1_take_0 21 rfl rfl)
theorem dX1_take_24 : decode cX1_take 24 = .ok (.aload_n 0, 1) := dk_42 (dk_at dksX1_take_1 0 rfl rfl)
theorem dX1_take_25 : decode cX1_take 25 = .ok (.aload_n 1, 1) := dk_43 (dk_at dksX1_take_1 1 rfl rfl)
theorem dX1_take_26 : decode cX1_take 26 = .ok (.getfield 79, 3) := dk_180 0 79 (dk_at dksX1_take_1 2 rfl rfl)
theorem dX1_take_29 : decode cX1_take 29 = .ok (.putfield 79, 3) := dk_181 0 79 (dk_at dksX1_take_1 5 rfl rfl)
theorem dX1_take_32 : decode cX1_take 32 = .ok (.aload_n 0, 1) := dk_42 (dk_at dksX1_take_1 8 rfl rfl)
theorem dX1_take_33 : decode cX1_take 33 = .ok (.aload_n 1, 1) := dk_43 (dk_at dksX1_take_1 9 rfl rfl)
theorem dX1_take_34 : decode cX1_take 34 = .ok (.getfield 82, 3) := dk_180 0 82 (dk_at dksX1_take_1 10 rfl rfl)
theorem dX1_take_37 : decode cX1_take 37 = .ok (.putfield 82, 3) := dk_181 0 82 (dk_at dksX1_take_1 13 rfl rfl)
theorem dX1_take_40 : decode cX1_take 40 = .ok (.aload_n 0, 1) := dk_42 (dk_at dksX1_take_1 16 rfl rfl)
theorem dX1_take_41 : decode cX1_take 41 = .ok (.aload_n 1, 1) := dk_43 (dk_at dksX1_take_1 17 rfl rfl)
theorem dX1_take_42 : decode cX1_take 42 = .ok (.getfield 85, 3) := dk_180 0 85 (dk_at dksX1_take_1 18 rfl rfl)
theorem dX1_take_45 : decode cX1_take 45 = .ok (.putfield 85, 3) := dk_181 0 85 (dk_at dksX1_take_1 21 rfl rfl)
theorem dX1_take_48 : decode cX1_take 48 = .ok (.aload_n 0, 1) := dk_42 (dk_at dksX1_take_2 0 rfl rfl)
theorem dX1_take_49 : decode cX1_take 49 = .ok (.aload_n 1, 1) := dk_43 (dk_at dksX1_take_2 1 rfl rfl)
theorem dX1_take_50 : decode cX1_take 50 = .ok (.getfield 88, 3) := dk_180 0 88 (dk_at dksX1_take_2 2 rfl rfl)
theorem dX1_take_53 : decode cX1_take 53 = .ok (.putfield 88, 3) := dk_181 0 88 (dk_at dksX1_take_2 5 rfl rfl)
theorem dX1_take_56 : decode cX1_take 56 = .ok (.aload_n 0, 1) := dk_42 (dk_at dksX1_take_2 8 rfl rfl)
theorem dX1_take_57 : decode cX1_take 57 = .ok (.aload_n 1, 1) := dk_43 (dk_at dksX1_take_2 9 rfl rfl)
theorem dX1_take_58 : decode cX1_take 58 = .ok (.getfield 91, 3) := dk_180 0 91 (dk_at dksX1_take_2 10 rfl rfl)
theorem dX1_take_61 : decode cX1_take 61 = .ok (.putfield 91, 3) := dk_181 0 91 (dk_at dksX1_take_2 13 rfl rfl)
theorem dX1_take_64 : decode cX1_take 64 = .ok (.aload_n 1, 1) := dk_43 (dk_at dksX1_take_2 16 rfl rfl)
theorem dX1_take_65 : decode cX1_take 65 = .ok (.getfield 11, 3) := dk_180 0 11 (dk_at dksX1_take_2 17 rfl rfl)
theorem dX1_take_68 : decode cX1_take 68 = .ok (.iconst 0, 1) := dk_3 (dk_at dksX1_take_2 20 rfl rfl)
theorem dX1_take_69 : decode cX1_take 69 = .ok (.aload_n 0, 1) := dk_42 (dk_at dksX1_take_2 21 rfl rfl)
theorem dX1_take_70 : decode cX1_take 70 = .ok (.getfield 11, 3) := dk_180 0 11 (dk_at dksX1_take_3 0 rfl rfl)
theorem dX1_take_73 : decode cX1_take 73 = .ok (.iconst 0, 1) := dk_3 (dk_at dksX1_take_3 3 rfl rfl)
theorem dX1_take_74 : decode cX1_take 74 = .ok (.bipush 8, 2) := dk_16 8 (dk_at dksX1_take_3 4 rfl rfl)
theorem dX1_take_76 : decode cX1_take 76 = .ok (.invokestatic 95, 3) := dk_184 0 95 (dk_at dksX1_take_3 6 rfl rfl)
theorem dX1_take_79 : decode cX1_take 79 = .ok (.iconst 0, 1) := dk_3 (dk_at dksX1_take_3 9 rfl rfl)
theorem dX1_take_80 : decode cX1_take 80 = .ok (.istore_n 2, 1) := dk_61 (dk_at dksX1_take_3 10 rfl rfl)
theorem dX1_take_81 : decode cX1_take 81 = .ok (.iload_n 2, 1) := dk_28 (dk_at dksX1_take_3 11 rfl rfl)
theorem dX1_take_82 : decode cX1_take 82 = .ok (.aload_n 0, 1) := dk_42 (dk_at dksX1_take_3 12 rfl rfl)
theorem dX1_take_83 : decode cX1_take 83 = .ok (.getfield 76, 3) := dk_180 0 76 (dk_at dksX1_take_3 13 rfl rfl)
theorem dX1_take_86 : decode cX1_take 86 = .ok (.if_icmp .ge 24, 3) := dk_162 0 24 (dk_at dksX1_take_3 16 rfl rfl)
theorem dX1_take_89 : decode cX1_take 89 = .ok (.aload_n 0, 1) := dk_42 (dk_at dksX1_take_3 19 rfl rfl)
theorem dX1_take_90 : decode cX1_take 90 = .ok (.getfield 19, 3) := dk_180 0 19 (dk_at dksX1_take_3 20 rfl rfl)
theorem dX1_take_93 : decode cX1_take 93 = .ok (.iload_n 2, 1) := dk_28 (dk_at dksX1_take_3 23 rfl rfl)
theorem dX1_take_94 : decode cX1_take 94 = .ok (.aload_n 1, 1) := dk_43 (dk_at dksX1_take_4 0 rfl rfl)
theorem dX1_take_95 : decode cX1_take 95 = .ok (.getfield 19, 3) := dk_180 0 19 (dk_at dksX1_take_4 1 rfl rfl)
theorem dX1_take_98 : decode cX1_take 98 = .ok (.iload_n 2, 1) := dk_28 (dk_at dksX1_take_4 4 rfl rfl)
theorem dX1_take_99 : decode cX1_take 99 = .ok (.aaload, 1) := dk_50 (dk_at dksX1_take_4 5 rfl rfl)
theorem dX1_take_100 : decode cX1_take 100 = .ok (.invokevirtual 101, 3) := dk_182 0 101 (dk_at dksX1_take_4 6 rfl rfl)
theorem dX1_take_103 : decode cX1_take 103 = .ok (.aastore, 1) := dk_83 (dk_at dksX1_take_4 9 rfl rfl)
theorem dX1_take_104 : decode cX1_take 104 = .ok (.iinc 2 1, 3) := dk_132 2 1 (dk_at dksX1_take_4 10 rfl rfl)
theorem dX1_take_107 : decode cX1_take 107 = .ok (.goto (-26), 3) := dk_167 255 230 (dk_at dksX1_take_4 13 rfl rfl)
theorem dX1_take_110 : decode cX1_take 110 = .ok (.aload_n 1, 1) := dk_43 (dk_at dksX1_take_4 16 rfl rfl)
theorem dX1_take_111 : decode cX1_take 111 = .ok (.getfield 25, 3) := dk_180 0 25 (dk_at dksX1_take_4 17 rfl rfl)
theorem dX1_take_114 : decode cX1_take 114 = .ok (.iconst 0, 1) := dk_3 (dk_at dksX1_take_4 20 rfl rfl)
theorem dX1_take_115 : decode cX1_take 115 = .ok (.aload_n 0, 1) := dk_42 (dk_at dksX1_take_4 21 rfl rfl)
theorem dX1_take_116 : decode cX1_take 116 = .ok (.getfield 25, 3) := dk_180 0 25 (dk_at dksX1_take_5 0 rfl rfl)
theorem dX1_take_119 : decode cX1_take 119 = .ok (.iconst 0, 1) := dk_3 (dk_at dksX1_take_5 3 rfl rfl)
theorem dX1_take_120 : decode cX1_take 120 = .ok (.bipush 40, 2) := dk_16 40 (dk_at dksX1_take_5 4 rfl rfl)
theorem dX1_take_122 : decode cX1_take 122 = .ok (.invokestatic 95, 3) := dk_184 0 95 (dk_at dksX1_take_5 6 rfl rfl)
theorem dX1_take_125 : decode cX1_take 125 = .ok (.aload_n 1, 1) := dk_43 (dk_at dksX1_take_5 9 rfl rfl)
theorem dX1_take_126 : decode cX1_take 126 = .ok (.getfield 31, 3) := dk_180 0 31 (dk_at dksX1_take_5 10 rfl rfl)
theorem dX1_take_129 : decode cX1_take 129 = .ok (.iconst 0, 1) := dk_3 (dk_at dksX1_take_5 13 rfl rfl)
theorem dX1_take_130 : decode cX1_take 130 = .ok (.aload_n 0, 1) := dk_42 (dk_at dksX1_take_5 14 rfl rfl)
theorem dX1_take_131 : decode cX1_take 131 = .ok (.getfield 31, 3) := dk_180 0 31 (dk_at dksX1_take_5 15 rfl rfl)
theorem dX1_take_134 : decode cX1_take 134 = .ok (.iconst 0, 1) := dk_3 (dk_at dksX1_take_5 18 rfl rfl)
theorem dX1_take_135 : decode cX1_take 135 = .ok (.bipush 12, 2) := dk_16 12 (dk_at dksX1_take_5 19 rfl rfl)
theorem dX1_take_137 : decode cX1_take 137 = .ok (.invokestatic 95, 3) := dk_184 0 95 (dk_at dksX1_take_5 21 rfl rfl)
theorem dX1_take_140 : decode cX1_take 140 = .ok (.aload_n 1, 1) := dk_43 (dk_at dksX1_take_6 0 rfl rfl)
theorem dX1_take_141 : decode cX1_take 141 = .ok (.getfield 37, 3) := dk_180 0 37 (dk_at dksX1_take_6 1 rfl rfl)
theorem dX1_take_144 : decode cX1_take 144 = .ok (.iconst 0, 1) := dk_3 (dk_at dksX1_take_6 4 rfl rfl)
theorem dX1_take_145 : decode cX1_take 145 = .ok (.aload_n 0, 1) := dk_42 (dk_at dksX1_take_6 5 rfl rfl)
theorem dX1_take_146 : decode cX1_take 146 = .ok (.getfield 37, 3) := dk_180 0 37 (dk_at dksX1_take_6 6 rfl rfl)
theorem dX1_take_149 : decode cX1_take 149 = .ok (.iconst 0, 1) := dk_3 (dk_at dksX1_take_6 9 rfl rfl)
theorem dX1_take_150 : decode cX1_take 150 = .ok (.bipush 12, 2) := dk_16 12 (dk_at dksX1_take_6 10 rfl rfl)
theorem dX1_take_152 : decode cX1_take 152 = .ok (.invokestatic 95, 3) := dk_184 0 95 (dk_at dksX1_take_6 12 rfl rfl)
theorem dX1_take_155 : decode cX1_take 155 = .ok (.aload_n 1, 1) := dk_43 (dk_at dksX1_take_6 15 rfl rfl)
theorem dX1_take_156 : decode cX1_take 156 = .ok (.getfield 41, 3) := dk_180 0 41 (dk_at dksX1_take_6 16 rfl rfl)
theorem dX1_take_159 : decode cX1_take 159 = .ok (.iconst 0, 1) := dk_3 (dk_at dksX1_take_6 19 rfl rfl)
theorem dX1_take_160 : decode cX1_take 160 = .ok (.aload_n 0, 1) := dk_42 (dk_at dksX1_take_6 20 rfl rfl)
theorem dX1_take_161 : decode cX1_take 161 = .ok (.getfield 41, 3) := dk_180 0 41 (dk_at dksX1_take_6 21 rfl rfl)
theorem dX1_take_164 : decode cX1_take 164 = .ok (.iconst 0, 1) := dk_3 (dk_at dksX1_take_7 0 rfl rfl)
theorem dX1_take_165 : decode cX1_take 165 = .ok (.bipush 9, 2) := dk_16 9 (dk_at dksX1_take_7 1 rfl rfl)
theorem dX1_take_167 : decode cX1_take 167 = .ok (.invokestatic 95, 3) := dk_184 0 95 (dk_at dksX1_take_7 3 rfl rfl)
theorem dX1_take_170 : decode cX1_take 170 = .ok (.aload_n 1, 1) := dk_43 (dk_at dksX1_take_7 6 rfl rfl)
theorem dX1_take_171 : decode cX1_take 171 = .ok (.getfield 45, 3) := dk_180 0 45 (dk_at dksX1_take_7 7 rfl rfl)
theorem dX1_take_174 : decode cX1_take 174 = .ok (.iconst 0, 1) := dk_3 (dk_at dksX1_take_7 10 rfl rfl)
theorem dX1_take_175 : decode cX1_take 175 = .ok (.aload_n 0, 1) := dk_42 (dk_at dksX1_take_7 11 rfl rfl)
theorem dX1_take_176 : decode cX1_take 176 = .ok (.getfield 45, 3) := dk_180 0 45 (dk_at dksX1_take_7 12 rfl rfl)
theorem dX1_take_179 : decode cX1_take 179 = .ok (.iconst 0, 1) := dk_3 (dk_at dksX1_take_7 15 rfl rfl)
theorem dX1_take_180 : decode cX1_take 180 = .ok (.bipush 9, 2) := dk_16 9 (dk_at dksX1_take_7 16 rfl rfl)
theorem dX1_take_182 : decode cX1_take 182 = .ok (.invokestatic 95, 3) := dk_184 0 95 (dk_at dksX1_take_7 18 rfl rfl)
theorem dX1_take_185 : decode cX1_take 185 = .ok (.aload_n 1, 1) := dk_43 (dk_at dksX1_take_7 21 rfl rfl)
theorem dX1_take_186 : decode cX1_take 186 = .ok (.getfield 48, 3) := dk_180 0 48 (dk_at dksX1_take_8 0 rfl rfl)
theorem dX1_take_189 : decode cX1_take 189 = .ok (.iconst 0, 1) := dk_3 (dk_at dksX1_take_8 3 rfl rfl)
theorem dX1_take_190 : decode cX1_take 190 = .ok (.aload_n 0, 1) := dk_42 (dk_at dksX1_take_8 4 rfl rfl)
theorem dX1_take_191 : decode cX1_take 191 = .ok (.getfield 48, 3) := dk_180 0 48 (dk_at dksX1_take_8 5 rfl rfl)
theorem dX1_take_194 : decode cX1_take 194 = .ok (.iconst 0, 1) := dk_3 (dk_at dksX1_take_8 8 rfl rfl)
theorem dX1_take_195 : decode cX1_take 195 = .ok (.bipush 6, 2) := dk_16 6 (dk_at dksX1_take_8 9 rfl rfl)
theorem dX1_take_197 : decode cX1_take 197 = .ok (.invokestatic 95, 3) := dk_184 0 95 (dk_at dksX1_take_8 11 rfl rfl)
theorem dX1_take_200 : decode cX1_take 200 = .ok (.aload_n 1, 1) := dk_43 (dk_at dksX1_take_8 14 rfl rfl)
theorem dX1_take_201 : decode cX1_take 201 = .ok (.getfield 51, 3) := dk_180 0 51 (dk_at dksX1_take_8 15 rfl rfl)
theorem dX1_take_204 : decode cX1_take 204 = .ok (.iconst 0, 1) := dk_3 (dk_at dksX1_take_8 18 rfl rfl)
theorem dX1_take_205 : decode cX1_take 205 = .ok (.aload_n 0, 1) := dk_42 (dk_at dksX1_take_8 19 rfl rfl)
theorem dX1_take_206 : decode cX1_take 206 = .ok (.getfield 51, 3) := dk_180 0 51 (dk_at dksX1_take_8 20 rfl rfl)
theorem dX1_take_209 : decode cX1_take 209 = .ok (.iconst 0, 1) := dk_3 (dk_at dksX1_take_8 23 rfl rfl)
theorem dX1_take_210 : decode cX1_take 210 = .ok (.bipush 6, 2) := dk_16 6 (dk_at dksX1_take_9 0 rfl rfl)
theorem dX1_take_212 : decode cX1_take 212 = .ok (.invokestatic 95, 3) := dk_184 0 95 (dk_at dksX1_take_9 2 rfl rfl)
theorem dX1_take_215 : decode cX1_take 215 = .ok (.aload_n 1, 1) := dk_43 (dk_at dksX1_take_9 5 rfl rfl)
theorem dX1_take_216 : decode cX1_take 216 = .ok (.getfield 54, 3) := dk_180 0 54 (dk_at dksX1_take_9 6 rfl rfl)
theorem dX1_take_219 : decode cX1_take 219 = .ok (.iconst 0, 1) := dk_3 (dk_at dksX1_take_9 9 rfl rfl)
theorem dX1_take_220 : decode cX1_take 220 = .ok (.aload_n 0, 1) := dk_42 (dk_at dksX1_take_9 10 rfl rfl)
theorem dX1_take_221 : decode cX1_take 221 = .ok (.getfield 54, 3) := dk_180 0 54 (dk_at dksX1_take_9 11 rfl rfl)
theorem dX1_take_224 : decode cX1_take 224 = .ok (.iconst 0, 1) := dk_3 (dk_at dksX1_take_9 14 rfl rfl)
theorem dX1_take_225 : decode cX1_take 225 = .ok (.bipush 6, 2) := dk_16 6 (dk_at dksX1_take_9 15 rfl rfl)
theorem dX1_take_227 : decode cX1_take 227 = .ok (.invokestatic 95, 3) := dk_184 0 95 (dk_at dksX1_take_9 17 rfl rfl)
theorem dX1_take_230 : decode cX1_take 230 = .ok (.aload_n 1, 1) := dk_43 (dk_at dksX1_take_9 20 rfl rfl)
theorem dX1_take_231 : decode cX1_take 231 = .ok (.getfield 57, 3) := dk_180 0 57 (dk_at dksX1_take_9 21 rfl rfl)
theorem dX1_take_234 : decode cX1_take 234 = .ok (.iconst 0, 1) := dk_3 (dk_at dksX1_take_10 0 rfl rfl)
theorem dX1_take_235 : decode cX1_take 235 = .ok (.aload_n 0, 1) := dk_42 (dk_at dksX1_take_10 1 rfl rfl)
theorem dX1_take_236 : decode cX1_take 236 = .ok (.getfield 57, 3) := dk_180 0 57 (dk_at dksX1_take_10 2 rfl rfl)
theorem dX1_take_239 : decode cX1_take 239 = .ok (.iconst 0, 1) := dk_3 (dk_at dksX1_take_10 5 rfl rfl)
theorem dX1_take_240 : decode cX1_take 240 = .ok (.bipush 6, 2) := dk_16 6 (dk_at dksX1_take_10 6 rfl rfl)
theorem dX1_take_242 : decode cX1_take 242 = .ok (.invokestatic 95, 3) := dk_184 0 95 (dk_at dksX1_take_10 8 rfl rfl)
theorem dX1_take_245 : decode cX1_take 245 = .ok (.aload_n 1, 1) := dk_43 (dk_at dksX1_take_10 11 rfl rfl)
theorem dX1_take_246 : decode cX1_take 246 = .ok (.getfield 60, 3) := dk_180 0 60 (dk_at dksX1_take_10 12 rfl rfl)
theorem dX1_take_249 : decode cX1_take 249 = .ok (.iconst 0, 1) := dk_3 (dk_at dksX1_take_10 15 rfl rfl)
theorem dX1_take_250 : decode cX1_take 250 = .ok (.aload_n 0, 1) := dk_42 (dk_at dksX1_take_10 16 rfl rfl)
theorem dX1_take_251 : decode cX1_take 251 = .ok (.getfield 60, 3) := dk_180 0 60 (dk_at dksX1_take_10 17 rfl rfl)
theorem dX1_take_254 : decode cX1_take 254 = .ok (.iconst 0, 1) := dk_3 (dk_at dksX1_take_10 20 rfl rfl)
theorem dX1_take_255 : decode cX1_take 255 = .ok (.iconst 4, 1) := dk_7 (dk_at dksX1_take_10 21 rfl rfl)
theorem dX1_take_256 : decode cX1_take 256 = .ok (.invokestatic 95, 3) := dk_184 0 95 (dk_at dksX1_take_11 0 rfl rfl)
theorem dX1_take_259 : decode cX1_take 259 = .ok (.aload_n 1, 1) := dk_43 (dk_at dksX1_take_11 3 rfl rfl)
theorem dX1_take_260 : decode cX1_take 260 = .ok (.getfield 63, 3) := dk_180 0 63 (dk_at dksX1_take_11 4 rfl rfl)
theorem dX1_take_263 : decode cX1_take 263 = .ok (.iconst 0, 1) := dk_3 (dk_at dksX1_take_11 7 rfl rfl)
theorem dX1_take_264 : decode cX1_take 264 = .ok (.aload_n 0, 1) := dk_42 (dk_at dksX1_take_11 8 rfl rfl)
theorem dX1_take_265 : decode cX1_take 265 = .ok (.getfield 63, 3) := dk_180 0 63 (dk_at dksX1_take_11 9 rfl rfl)
theorem dX1_take_268 : decode cX1_take 268 = .ok (.iconst 0, 1) := dk_3 (dk_at dksX1_take_11 12 rfl rfl)
theorem dX1_take_269 : decode cX1_take 269 = .ok (.bipush 12, 2) := dk_16 12 (dk_at dksX1_take_11 13 rfl rfl)
theorem dX1_take_271 : decode cX1_take 271 = .ok (.invokestatic 95, 3) := dk_184 0 95 (dk_at dksX1_take_11 15 rfl rfl)
theorem dX1_take_274 : decode cX1_take 274 = .ok (.aload_n 1, 1) := dk_43 (dk_at dksX1_take_11 18 rfl rfl)
theorem dX1_take_275 : decode cX1_take 275 = .ok (.getfield 66, 3) := dk_180 0 66 (dk_at dksX1_take_11 19 rfl rfl)
theorem dX1_take_278 : decode cX1_take 278 = .ok (.iconst 0, 1) := dk_3 (dk_at dksX1_take_11 22 rfl rfl)
theorem dX1_take_279 : decode cX1_take 279 = .ok (.aload_n 0, 1) := dk_42 (dk_at dksX1_take_11 23 rfl rfl)
theorem dX1_take_280 : decode cX1_take 280 = .ok (.getfield 66, 3) := dk_180 0 66 (dk_at dksX1_take_12 0 rfl rfl)
theorem dX1_take_283 : decode cX1_take 283 = .ok (.iconst 0, 1) := dk_3 (dk_at dksX1_take_12 3 rfl rfl)
theorem dX1_take_284 : decode cX1_take 284 = .ok (.bipush 96, 2) := dk_16 96 (dk_at dksX1_take_12 4 rfl rfl)
theorem dX1_take_286 : decode cX1_take 286 = .ok (.invokestatic 95, 3) := dk_184 0 95 (dk_at dksX1_take_12 6 rfl rfl)
theorem dX1_take_289 : decode cX1_take 289 = .ok (.return_, 1) := dk_177 (dk_at dksX1_take_12 9 rfl rfl)
theorem q106 : (Jvm.Cond.initialized "BrothFlasks$Bench") ∈ lw_all := lw_g (lw_at lw_m1 2 rfl) rfl
theorem q146 : (Jvm.Cond.instantiable "BrothFlasks$Bench" (22 : Nat)) ∈ lw_all := lw_g (lw_at lw_m1 42 rfl) rfl
theorem q148 : (Jvm.Cond.instanceMethod ({ cls := "BrothFlasks$Bench", name := "<init>", desc := "()V" } : Jvm.MethodName)) ∈ lw_all := lw_g (lw_at lw_m1 44 rfl) rfl
theorem q149 : (Jvm.Cond.code ({ cls := "BrothFlasks$Bench", name := "<init>", desc := "()V" } : Jvm.MethodName) prog_4_method_1_code (1 : Nat) (Option.none : Option Jvm.ClassFile.FieldType)) ∈ lw_all := lw_g (lw_at lw_m1 45 rfl) rfl
theorem q150 : (Jvm.Cond.methodLink "BrothFlasks$Bench" (3 : Nat) ({ cls := "java/lang/Object", name := "<init>", desc := "()V" } : Jvm.MethodName)) ∈ lw_all := lw_g (lw_at lw_m1 46 rfl) rfl
theorem q151 : (Jvm.Cond.classLink "BrothFlasks$Bench" (9 : Nat) "BrothFlasks$Kind") ∈ lw_all := lw_g (lw_at lw_m1 47 rfl) rfl
theorem q153 : (Jvm.Cond.classLink "BrothFlasks$Bench" (17 : Nat) "BrothFlasks$Flask") ∈ lw_all := lw_g (lw_at lw_m1 49 rfl) rfl
theorem q155 : (Jvm.Cond.classLink "BrothFlasks$Bench" (23 : Nat) "BrothFlasks$Look") ∈ lw_all := lw_g (lw_at lw_m1 51 rfl) rfl
theorem q157 : (Jvm.Cond.classLink "BrothFlasks$Bench" (29 : Nat) "BrothFlasks$Case") ∈ lw_all := lw_g (lw_at lw_m1 53 rfl) rfl
theorem q159 : (Jvm.Cond.classLink "BrothFlasks$Bench" (35 : Nat) "BrothFlasks$Text") ∈ lw_all := lw_g (lw_at lw_m1 55 rfl) rfl
theorem q161 : (Jvm.Cond.fieldLink "BrothFlasks$Bench" (69 : Nat) "BrothFlasks$Bench" "now" "I") ∈ lw_all := lw_g (lw_at lw_m1 57 rfl) rfl
theorem q163 : (Jvm.Cond.fieldLink "BrothFlasks$Bench" (73 : Nat) "BrothFlasks$Bench" "kindMany" "I") ∈ lw_all := lw_g (lw_at lw_m1 59 rfl) rfl
theorem q165 : (Jvm.Cond.fieldLink "BrothFlasks$Bench" (76 : Nat) "BrothFlasks$Bench" "flaskMany" "I") ∈ lw_all := lw_g (lw_at lw_m1 61 rfl) rfl
theorem q167 : (Jvm.Cond.fieldLink "BrothFlasks$Bench" (79 : Nat) "BrothFlasks$Bench" "lookMany" "I") ∈ lw_all := lw_g (lw_at lw_m1 63 rfl) rfl
theorem q169 : (Jvm.Cond.fieldLink "BrothFlasks$Bench" (82 : Nat) "BrothFlasks$Bench" "trialMany" "I") ∈ lw_all := lw_g (lw_at lw_m1 65 rfl) rfl
theorem q171 : (Jvm.Cond.fieldLink "BrothFlasks$Bench" (85 : Nat) "BrothFlasks$Bench" "textMany" "I") ∈ lw_all := lw_g (lw_at lw_m1 67 rfl) rfl
theorem q173 : (Jvm.Cond.fieldLink "BrothFlasks$Bench" (88 : Nat) "BrothFlasks$Bench" "ruleMany" "I") ∈ lw_all := lw_g (lw_at lw_m1 69 rfl) rfl
theorem q175 : (Jvm.Cond.fieldLink "BrothFlasks$Bench" (91 : Nat) "BrothFlasks$Bench" "state" "J") ∈ lw_all := lw_g (lw_at lw_m1 71 rfl) rfl
theorem q177 : (Jvm.Cond.fieldLink "BrothFlasks$Bench" (11 : Nat) "BrothFlasks$Bench" "kinds" "[LBrothFlasks$Kind;") ∈ lw_all := lw_g (lw_at lw_m1 73 rfl) rfl
theorem q179 : (Jvm.Cond.fieldLink "BrothFlasks$Bench" (19 : Nat) "BrothFlasks$Bench" "flasks" "[LBrothFlasks$Flask;") ∈ lw_all := lw_g (lw_at lw_m1 75 rfl) rfl
theorem q181 : (Jvm.Cond.fieldLink "BrothFlasks$Bench" (25 : Nat) "BrothFlasks$Bench" "looks" "[LBrothFlasks$Look;") ∈ lw_all := lw_g (lw_at lw_m1 77 rfl) rfl
theorem q183 : (Jvm.Cond.fieldLink "BrothFlasks$Bench" (31 : Nat) "BrothFlasks$Bench" "trials" "[LBrothFlasks$Case;") ∈ lw_all := lw_g (lw_at lw_m1 79 rfl) rfl
theorem q185 : (Jvm.Cond.fieldLink "BrothFlasks$Bench" (37 : Nat) "BrothFlasks$Bench" "texts" "[LBrothFlasks$Text;") ∈ lw_all := lw_g (lw_at lw_m1 81 rfl) rfl
theorem q187 : (Jvm.Cond.fieldLink "BrothFlasks$Bench" (41 : Nat) "BrothFlasks$Bench" "ruleTrials" "[I") ∈ lw_all := lw_g (lw_at lw_m1 83 rfl) rfl
theorem q189 : (Jvm.Cond.fieldLink "BrothFlasks$Bench" (45 : Nat) "BrothFlasks$Bench" "ruleMost" "[I") ∈ lw_all := lw_g (lw_at lw_m1 85 rfl) rfl
theorem q191 : (Jvm.Cond.fieldLink "BrothFlasks$Bench" (48 : Nat) "BrothFlasks$Bench" "genesis" "[I") ∈ lw_all := lw_g (lw_at lw_m1 87 rfl) rfl
theorem q193 : (Jvm.Cond.fieldLink "BrothFlasks$Bench" (51 : Nat) "BrothFlasks$Bench" "spoils" "[I") ∈ lw_all := lw_g (lw_at lw_m1 89 rfl) rfl
theorem q195 : (Jvm.Cond.fieldLink "BrothFlasks$Bench" (54 : Nat) "BrothFlasks$Bench" "needs" "[I") ∈ lw_all := lw_g (lw_at lw_m1 91 rfl) rfl
theorem q197 : (Jvm.Cond.fieldLink "BrothFlasks$Bench" (57 : Nat) "BrothFlasks$Bench" "lets" "[I") ∈ lw_all := lw_g (lw_at lw_m1 93 rfl) rfl
theorem q199 : (Jvm.Cond.fieldLink "BrothFlasks$Bench" (60 : Nat) "BrothFlasks$Bench" "slips" "[I") ∈ lw_all := lw_g (lw_at lw_m1 95 rfl) rfl
theorem q201 : (Jvm.Cond.fieldLink "BrothFlasks$Bench" (63 : Nat) "BrothFlasks$Bench" "dust" "[I") ∈ lw_all := lw_g (lw_at lw_m1 97 rfl) rfl
theorem q203 : (Jvm.Cond.fieldLink "BrothFlasks$Bench" (66 : Nat) "BrothFlasks$Bench" "weights" "[I") ∈ lw_all := lw_g (lw_at lw_m1 99 rfl) rfl
theorem q205 : (Jvm.Cond.lays "BrothFlasks$Bench" "BrothFlasks$Bench" "now" "I") ∈ lw_all := lw_g (lw_at lw_m1 101 rfl) rfl
theorem q206 : (Jvm.Cond.soleField "BrothFlasks$Bench" "now") ∈ lw_all := lw_g (lw_at lw_m1 102 rfl) rfl
theorem q207 : (Jvm.Cond.lays "BrothFlasks$Bench" "BrothFlasks$Bench" "kindMany" "I") ∈ lw_all := lw_g (lw_at lw_m1 103 rfl) rfl
theorem q208 : (Jvm.Cond.soleField "BrothFlasks$Bench" "kindMany") ∈ lw_all := lw_g (lw_at lw_m1 104 rfl) rfl
theorem q209 : (Jvm.Cond.lays "BrothFlasks$Bench" "BrothFlasks$Bench" "flaskMany" "I") ∈ lw_all := lw_g (lw_at lw_m1 105 rfl) rfl
theorem q210 : (Jvm.Cond.soleField "BrothFlasks$Bench" "flaskMany") ∈ lw_all := lw_g (lw_at lw_m1 106 rfl) rfl
theorem q211 : (Jvm.Cond.lays "BrothFlasks$Bench" "BrothFlasks$Bench" "lookMany" "I") ∈ lw_all := lw_g (lw_at lw_m1 107 rfl) rfl
theorem q212 : (Jvm.Cond.soleField "BrothFlasks$Bench" "lookMany") ∈ lw_all := lw_g (lw_at lw_m1 108 rfl) rfl
theorem q213 : (Jvm.Cond.lays "BrothFlasks$Bench" "BrothFlasks$Bench" "trialMany" "I") ∈ lw_all := lw_g (lw_at lw_m1 109 rfl) rfl
theorem q214 : (Jvm.Cond.soleField "BrothFlasks$Bench" "trialMany") ∈ lw_all := lw_g (lw_at lw_m1 110 rfl) rfl
theorem q215 : (Jvm.Cond.lays "BrothFlasks$Bench" "BrothFlasks$Bench" "textMany" "I") ∈ lw_all := lw_g (lw_at lw_m1 111 rfl) rfl
theorem q216 : (Jvm.Cond.soleField "BrothFlasks$Bench" "textMany") ∈ lw_all := lw_g (lw_at lw_m1 112 rfl) rfl
theorem q217 : (Jvm.Cond.lays "BrothFlasks$Bench" "BrothFlasks$Bench" "ruleMany" "I") ∈ lw_all := lw_g (lw_at lw_m1 113 rfl) rfl
theorem q218 : (Jvm.Cond.soleField "BrothFlasks$Bench" "ruleMany") ∈ lw_all := lw_g (lw_at lw_m1 114 rfl) rfl
theorem q219 : (Jvm.Cond.lays "BrothFlasks$Bench" "BrothFlasks$Bench" "state" "J") ∈ lw_all := lw_g (lw_at lw_m1 115 rfl) rfl
theorem q220 : (Jvm.Cond.soleField "BrothFlasks$Bench" "state") ∈ lw_all := lw_g (lw_at lw_m1 116 rfl) rfl
theorem q221 : (Jvm.Cond.laysFinal "BrothFlasks$Bench" "BrothFlasks$Bench" "kinds" "[LBrothFlasks$Kind;") ∈ lw_all := lw_g (lw_at lw_m1 117 rfl) rfl
theorem q222 : (Jvm.Cond.soleField "BrothFlasks$Bench" "kinds") ∈ lw_all := lw_g (lw_at lw_m1 118 rfl) rfl
theorem q223 : (Jvm.Cond.laysFinal "BrothFlasks$Bench" "BrothFlasks$Bench" "flasks" "[LBrothFlasks$Flask;") ∈ lw_all := lw_g (lw_at lw_m1 119 rfl) rfl
theorem q224 : (Jvm.Cond.soleField "BrothFlasks$Bench" "flasks") ∈ lw_all := lw_g (lw_at lw_m1 120 rfl) rfl
theorem q225 : (Jvm.Cond.laysFinal "BrothFlasks$Bench" "BrothFlasks$Bench" "looks" "[LBrothFlasks$Look;") ∈ lw_all := lw_g (lw_at lw_m1 121 rfl) rfl
theorem q226 : (Jvm.Cond.soleField "BrothFlasks$Bench" "looks") ∈ lw_all := lw_g (lw_at lw_m1 122 rfl) rfl
theorem q227 : (Jvm.Cond.laysFinal "BrothFlasks$Bench" "BrothFlasks$Bench" "trials" "[LBrothFlasks$Case;") ∈ lw_all := lw_g (lw_at lw_m1 123 rfl) rfl
theorem q228 : (Jvm.Cond.soleField "BrothFlasks$Bench" "trials") ∈ lw_all := lw_g (lw_at lw_m1 124 rfl) rfl
theorem q229 : (Jvm.Cond.laysFinal "BrothFlasks$Bench" "BrothFlasks$Bench" "texts" "[LBrothFlasks$Text;") ∈ lw_all := lw_g (lw_at lw_m1 125 rfl) rfl
theorem q230 : (Jvm.Cond.soleField "BrothFlasks$Bench" "texts") ∈ lw_all := lw_g (lw_at lw_m1 126 rfl) rfl
theorem q231 : (Jvm.Cond.laysFinal "BrothFlasks$Bench" "BrothFlasks$Bench" "ruleTrials" "[I") ∈ lw_all := lw_g (lw_at lw_m1 127 rfl) rfl
theorem q232 : (Jvm.Cond.soleField "BrothFlasks$Bench" "ruleTrials") ∈ lw_all := lw_g (lw_at lw_m1 128 rfl) rfl
theorem q233 : (Jvm.Cond.laysFinal "BrothFlasks$Bench" "BrothFlasks$Bench" "ruleMost" "[I") ∈ lw_all := lw_g (lw_at lw_m1 129 rfl) rfl
theorem q234 : (Jvm.Cond.soleField "BrothFlasks$Bench" "ruleMost") ∈ lw_all := lw_g (lw_at lw_m1 130 rfl) rfl
theorem q235 : (Jvm.Cond.laysFinal "BrothFlasks$Bench" "BrothFlasks$Bench" "genesis" "[I") ∈ lw_all := lw_g (lw_at lw_m1 131 rfl) rfl
theorem q236 : (Jvm.Cond.soleField "BrothFlasks$Bench" "genesis") ∈ lw_all := lw_g (lw_at lw_m1 132 rfl) rfl
theorem q237 : (Jvm.Cond.laysFinal "BrothFlasks$Bench" "BrothFlasks$Bench" "spoils" "[I") ∈ lw_all := lw_g (lw_at lw_m1 133 rfl) rfl
theorem q238 : (Jvm.Cond.soleField "BrothFlasks$Bench" "spoils") ∈ lw_all := lw_g (lw_at lw_m1 134 rfl) rfl
theorem q239 : (Jvm.Cond.laysFinal "BrothFlasks$Bench" "BrothFlasks$Bench" "needs" "[I") ∈ lw_all := lw_g (lw_at lw_m1 135 rfl) rfl
theorem q240 : (Jvm.Cond.soleField "BrothFlasks$Bench" "needs") ∈ lw_all := lw_g (lw_at lw_m1 136 rfl) rfl
theorem q241 : (Jvm.Cond.laysFinal "BrothFlasks$Bench" "BrothFlasks$Bench" "lets" "[I") ∈ lw_all := lw_g (lw_at lw_m1 137 rfl) rfl
theorem q242 : (Jvm.Cond.soleField "BrothFlasks$Bench" "lets") ∈ lw_all := lw_g (lw_at lw_m1 138 rfl) rfl
theorem q243 : (Jvm.Cond.laysFinal "BrothFlasks$Bench" "BrothFlasks$Bench" "slips" "[I") ∈ lw_all := lw_g (lw_at lw_m1 139 rfl) rfl
theorem q244 : (Jvm.Cond.soleField "BrothFlasks$Bench" "slips") ∈ lw_all := lw_g (lw_at lw_m1 140 rfl) rfl
theorem q245 : (Jvm.Cond.laysFinal "BrothFlasks$Bench" "BrothFlasks$Bench" "dust" "[I") ∈ lw_all := lw_g (lw_at lw_m1 141 rfl) rfl
theorem q246 : (Jvm.Cond.soleField "BrothFlasks$Bench" "dust") ∈ lw_all := lw_g (lw_at lw_m1 142 rfl) rfl
theorem q247 : (Jvm.Cond.laysFinal "BrothFlasks$Bench" "BrothFlasks$Bench" "weights" "[I") ∈ lw_all := lw_g (lw_at lw_m1 143 rfl) rfl
theorem q248 : (Jvm.Cond.soleField "BrothFlasks$Bench" "weights") ∈ lw_all := lw_g (lw_at lw_m1 144 rfl) rfl
theorem q249 : (Jvm.Cond.superclass "BrothFlasks$Bench" "java/lang/Object") ∈ lw_all := lw_g (lw_at lw_m1 145 rfl) rfl
theorem q407 : (Jvm.Cond.fieldLinkNest "BrothFlasks$Bench" (163 : Nat) "BrothFlasks$Kind" "slow" "I" "BrothFlasks") ∈ lw_tbl := lw_at lw_m2 63 rfl
theorem q411 : (Jvm.Cond.fieldLinkNest "BrothFlasks$Bench" (156 : Nat) "BrothFlasks$Kind" "needsAir" "Z" "BrothFlasks") ∈ lw_tbl := lw_at lw_m2 67 rfl
theorem q483 : (Jvm.Cond.fieldLink "BrothFlasks$Bench" (149 : Nat) "BrothFlasks$Flask" "broth" "I") ∈ lw_all := lw_g (lw_at lw_m2 139 rfl) rfl
theorem q489 : (Jvm.Cond.fieldLink "BrothFlasks$Bench" (126 : Nat) "BrothFlasks$Flask" "sort" "I") ∈ lw_all := lw_g (lw_at lw_m2 145 rfl) rfl
theorem q498 : (Jvm.Cond.fieldLink "BrothFlasks$Bench" (129 : Nat) "BrothFlasks$Flask" "hand" "I") ∈ lw_all := lw_g (lw_at lw_m2 154 rfl) rfl
theorem q514 : (Jvm.Cond.fieldLink "BrothFlasks$Bench" (114 : Nat) "BrothFlasks$Flask" "place" "I") ∈ lw_all := lw_g (lw_at lw_m2 170 rfl) rfl
theorem q520 : (Jvm.Cond.fieldLink "BrothFlasks$Bench" (123 : Nat) "BrothFlasks$Flask" "openTo" "I") ∈ lw_all := lw_g (lw_at lw_m2 176 rfl) rfl
theorem q523 : (Jvm.Cond.fieldLink "BrothFlasks$Bench" (183 : Nat) "BrothFlasks$Flask" "opened" "I") ∈ lw_all := lw_g (lw_at lw_m2 179 rfl) rfl
theorem q525 : (Jvm.Cond.fieldLink "BrothFlasks$Bench" (172 : Nat) "BrothFlasks$Flask" "airy" "I") ∈ lw_all := lw_g (lw_at lw_m2 181 rfl) rfl
theorem q527 : (Jvm.Cond.fieldLink "BrothFlasks$Bench" (111 : Nat) "BrothFlasks$Flask" "tippedOn" "I") ∈ lw_all := lw_g (lw_at lw_m2 183 rfl) rfl
theorem q530 : (Jvm.Cond.fieldLink "BrothFlasks$Bench" (166 : Nat) "BrothFlasks$Flask" "by" "I") ∈ lw_all := lw_g (lw_at lw_m2 186 rfl) rfl
theorem q533 : (Jvm.Cond.fieldLink "BrothFlasks$Bench" (169 : Nat) "BrothFlasks$Flask" "turnedOn" "I") ∈ lw_all := lw_g (lw_at lw_m2 189 rfl) rfl
theorem q535 : (Jvm.Cond.fieldLink "BrothFlasks$Bench" (132 : Nat) "BrothFlasks$Flask" "many" "I") ∈ lw_all := lw_g (lw_at lw_m2 191 rfl) rfl
theorem q541 : (Jvm.Cond.fieldLink "BrothFlasks$Bench" (145 : Nat) "BrothFlasks$Flask" "isTurned" "Z") ∈ lw_all := lw_g (lw_at lw_m2 197 rfl) rfl
theorem q544 : (Jvm.Cond.fieldLink "BrothFlasks$Bench" (139 : Nat) "BrothFlasks$Flask" "grains" "[I") ∈ lw_all := lw_g (lw_at lw_m2 200 rfl) rfl
theorem q546 : (Jvm.Cond.fieldLink "BrothFlasks$Bench" (142 : Nat) "BrothFlasks$Flask" "fell" "[I") ∈ lw_all := lw_g (lw_at lw_m2 202 rfl) rfl
theorem q680 : (Jvm.Cond.instanceMethod ({ cls := "BrothFlasks$Bench", name := "day", desc := "()V" } : Jvm.MethodName)) ∈ lw_all := lw_g (lw_at lw_m3 96 rfl) rfl
theorem q681 : (Jvm.Cond.selects "BrothFlasks$Bench" ({ cls := "BrothFlasks$Bench", name := "day", desc := "()V" } : Jvm.MethodName) ({ cls := "BrothFlasks$Bench", name := "day", desc := "()V" } : Jvm.MethodName)) ∈ lw_all := lw_g (lw_at lw_m3 97 rfl) rfl
theorem q682 : (Jvm.Cond.code ({ cls := "BrothFlasks$Bench", name := "day", desc := "()V" } : Jvm.MethodName) prog_4_method_7_code (4 : Nat) (Option.none : Option Jvm.ClassFile.FieldType)) ∈ lw_all := lw_g (lw_at lw_m3 98 rfl) rfl
theorem q683 : (Jvm.Cond.methodLink "BrothFlasks$Bench" (175 : Nat) ({ cls := "BrothFlasks$Bench", name := "chance", desc := "(LBrothFlasks$Flask;)I" } : Jvm.MethodName)) ∈ lw_all := lw_g (lw_at lw_m3 99 rfl) rfl
theorem q684 : (Jvm.Cond.privateMethod ({ cls := "BrothFlasks$Bench", name := "chance", desc := "(LBrothFlasks$Flask;)I" } : Jvm.MethodName)) ∈ lw_tbl := lw_at lw_m3 100 rfl
theorem q685 : (Jvm.Cond.instanceMethod ({ cls := "BrothFlasks$Bench", name := "chance", desc := "(LBrothFlasks$Flask;)I" } : Jvm.MethodName)) ∈ lw_all := lw_g (lw_at lw_m3 101 rfl) rfl
theorem q686 : (Jvm.Cond.code ({ cls := "BrothFlasks$Bench", name := "chance", desc := "(LBrothFlasks$Flask;)I" } : Jvm.MethodName) prog_4_method_4_code (3 : Nat) (Option.some Jvm.ClassFile.FieldType.int)) ∈ lw_all := lw_g (lw_at lw_m3 102 rfl) rfl
theorem q687 : (Jvm.Cond.methodLink "BrothFlasks$Bench" (117 : Nat) ({ cls := "java/lang/Math", name := "min", desc := "(II)I" } : Jvm.MethodName)) ∈ lw_all := lw_g (lw_at lw_m3 103 rfl) rfl
theorem q690 : (Jvm.Cond.methodLink "BrothFlasks$Bench" (135 : Nat) ({ cls := "BrothFlasks$Bench", name := "draw", desc := "(I)I" } : Jvm.MethodName)) ∈ lw_all := lw_g (lw_at lw_m3 106 rfl) rfl
theorem q691 : (Jvm.Cond.privateMethod ({ cls := "BrothFlasks$Bench", name := "draw", desc := "(I)I" } : Jvm.MethodName)) ∈ lw_tbl := lw_at lw_m3 107 rfl
theorem q692 : (Jvm.Cond.instanceMethod ({ cls := "BrothFlasks$Bench", name := "draw", desc := "(I)I" } : Jvm.MethodName)) ∈ lw_all := lw_g (lw_at lw_m3 108 rfl) rfl
theorem q693 : (Jvm.Cond.code ({ cls := "BrothFlasks$Bench", name := "draw", desc := "(I)I" } : Jvm.MethodName) prog_4_method_3_code (2 : Nat) (Option.some Jvm.ClassFile.FieldType.int)) ∈ lw_all := lw_g (lw_at lw_m3 109 rfl) rfl
theorem q694 : (Jvm.Cond.constantLong "BrothFlasks$Bench" (105 : Nat) (1103 : Int64)) ∈ lw_all := lw_g (lw_at lw_m3 110 rfl) rfl
theorem q695 : (Jvm.Cond.constantLong "BrothFlasks$Bench" (107 : Nat) (12345 : Int64)) ∈ lw_all := lw_g (lw_at lw_m3 111 rfl) rfl
theorem q696 : (Jvm.Cond.constantLong "BrothFlasks$Bench" (109 : Nat) (1000003 : Int64)) ∈ lw_all := lw_g (lw_at lw_m3 112 rfl) rfl
theorem q697 : (Jvm.Cond.methodLink "BrothFlasks$Bench" (179 : Nat) ({ cls := "BrothFlasks$Bench", name := "fall", desc := "(LBrothFlasks$Flask;)V" } : Jvm.MethodName)) ∈ lw_all := lw_g (lw_at lw_m3 113 rfl) rfl
theorem q698 : (Jvm.Cond.privateMethod ({ cls := "BrothFlasks$Bench", name := "fall", desc := "(LBrothFlasks$Flask;)V" } : Jvm.MethodName)) ∈ lw_tbl := lw_at lw_m3 114 rfl
theorem q699 : (Jvm.Cond.instanceMethod ({ cls := "BrothFlasks$Bench", name := "fall", desc := "(LBrothFlasks$Flask;)V" } : Jvm.MethodName)) ∈ lw_all := lw_g (lw_at lw_m3 115 rfl) rfl
theorem q700 : (Jvm.Cond.code ({ cls := "BrothFlasks$Bench", name := "fall", desc := "(LBrothFlasks$Flask;)V" } : Jvm.MethodName) prog_4_method_5_code (5 : Nat) (Option.none : Option Jvm.ClassFile.FieldType)) ∈ lw_all := lw_g (lw_at lw_m3 116 rfl) rfl
theorem q701 : (Jvm.Cond.methodLink "BrothFlasks$Bench" (159 : Nat) ({ cls := "BrothFlasks$Flask", name := "hasAir", desc := "()Z" } : Jvm.MethodName)) ∈ lw_all := lw_g (lw_at lw_m3 117 rfl) rfl
theorem q718 : (Jvm.Cond.methodLink "BrothFlasks$Bench" (186 : Nat) ({ cls := "BrothFlasks$Bench", name := "turn", desc := "(LBrothFlasks$Flask;)V" } : Jvm.MethodName)) ∈ lw_all := lw_g (lw_at lw_m3 134 rfl) rfl
theorem q719 : (Jvm.Cond.privateMethod ({ cls := "BrothFlasks$Bench", name := "turn", desc := "(LBrothFlasks$Flask;)V" } : Jvm.MethodName)) ∈ lw_tbl := lw_at lw_m3 135 rfl
theorem q720 : (Jvm.Cond.instanceMethod ({ cls := "BrothFlasks$Bench", name := "turn", desc := "(LBrothFlasks$Flask;)V" } : Jvm.MethodName)) ∈ lw_all := lw_g (lw_at lw_m3 136 rfl) rfl
theorem q721 : (Jvm.Cond.code ({ cls := "BrothFlasks$Bench", name := "turn", desc := "(LBrothFlasks$Flask;)V" } : Jvm.MethodName) prog_4_method_6_code (4 : Nat) (Option.none : Option Jvm.ClassFile.FieldType)) ∈ lw_all := lw_g (lw_at lw_m3 137 rfl) rfl
theorem q722 : (Jvm.Cond.methodLink "BrothFlasks$Bench" (152 : Nat) ({ cls := "BrothFlasks$Kind", name := "growsIn", desc := "(I)Z" } : Jvm.MethodName)) ∈ lw_all := lw_g (lw_at lw_m3 138 rfl) rfl
theorem q1425 : (Jvm.Cond.instanceMethod ({ cls := "BrothFlasks$Bench", name := "take", desc := "(LBrothFlasks$Bench;)V" } : Jvm.MethodName)) ∈ lw_all := lw_g (lw_at lw_m6 121 rfl) rfl
theorem q1426 : (Jvm.Cond.selects "BrothFlasks$Bench" ({ cls := "BrothFlasks$Bench", name := "take", desc := "(LBrothFlasks$Bench;)V" } : Jvm.MethodName) ({ cls := "BrothFlasks$Bench", name := "take", desc := "(LBrothFlasks$Bench;)V" } : Jvm.MethodName)) ∈ lw_all := lw_g (lw_at lw_m6 122 rfl) rfl
theorem q1427 : (Jvm.Cond.code ({ cls := "BrothFlasks$Bench", name := "take", desc := "(LBrothFlasks$Bench;)V" } : Jvm.MethodName) prog_4_method_2_code (3 : Nat) (Option.none : Option Jvm.ClassFile.FieldType)) ∈ lw_all := lw_g (lw_at lw_m6 123 rfl) rfl
theorem q1428 : (Jvm.Cond.methodLink "BrothFlasks$Bench" (95 : Nat) ({ cls := "java/lang/System", name := "arraycopy", desc := "(Ljava/lang/Object;ILjava/lang/Object;II)V" } : Jvm.MethodName)) ∈ lw_all := lw_g (lw_at lw_m6 124 rfl) rfl
theorem q1429 : (Jvm.Cond.methodLink "BrothFlasks$Bench" (101 : Nat) ({ cls := "BrothFlasks$Flask", name := "copy", desc := "()LBrothFlasks$Flask;" } : Jvm.MethodName)) ∈ lw_all := lw_g (lw_at lw_m6 125 rfl) rfl
theorem in_X1 : ∀ w ∈ wsX10, w ∈ lw_all := lw_in wsX10 [205, 207, 209, 211, 213, 215, 217, 219, 221, 223, 225, 227, 229, 231, 233, 235, 237, 239, 241, 243, 245, 247] (by decide +kernel) (by decide +kernel)
/-! BrothFlasks$Case -/
set_option maxRecDepth 100000
def RX2 : String := "BrothFlasks$Case"
def TX2 : u_T := fun k => match k with
  | 0 => ("BrothFlasks$Case", "numbers", "[I", true)
  | _ => ("BrothFlasks$Case", "isBroken", "Z", false)
def tyX2 : Nat → FieldType := fun k => match k with
  | 0 => .array .int
  | _ => .boolean
abbrev wsX20 : List Cond := u_ws RX2 TX2 2
theorem nmX2 : ∀ a, a < 2 → ∀ b, b < 2 → a ≠ b → (TX2 a).2.1 ≠ (TX2 b).2.1 := by decide +kernel
theorem tyX2_ok : ∀ k, k < 2 → parseFieldDescriptor (TX2 k).2.2.1 = some (tyX2 k) := by decide +kernel
abbrev cX2_init : ByteArray := prog_5_method_1_code
def yX2_init : MethodName := ⟨RX2, "<init>", "()V"⟩
def dkwX2_init_0 : List UInt8 := [42, 183, 0, 3, 42, 16, 9, 188, 10, 181, 0, 9, 177]
abbrev dktX2_init_0 : List UInt8 := dkwX2_init_0 ++ []
theorem dksX2_init_0 : cX2_init.data.toList.drop 0 = dktX2_init_0 := by decide +kernel
theorem dX2_init_0 : decode cX2_init 0 = .ok (.aload_n 0, 1) := dk_42 (dk_at dksX2_init_0 0 rfl rfl)
theorem dX2_init_1 : decode cX2_init 1 = .ok (.invokespecial 3, 3) := dk_183 0 3 (dk_at dksX2_init_0 1 rfl rfl)
theorem dX2_init_4 : decode cX2_init 4 = .ok (.aload_n 0, 1) := dk_42 (dk_at dksX2_init_0 4 rfl rfl)
theorem dX2_init_5 : decode cX2_init 5 = .ok (.bipush 9, 2) := dk_16 9 (dk_at dksX2_init_0 5 rfl rfl)
theorem dX2_init_7 : decode cX2_init 7 = .ok (.newarray .int, 2) := dk_188_10 (dk_at dksX2_init_0 7 rfl rfl)
theorem dX2_init_9 : decode cX2_init 9 = .ok (.putfield 9, 3) := dk_181 0 9 (dk_at dksX2_init_0 9 rfl rfl)
theorem dX2_init_12 : decode cX2_init 12 = .ok (.return_, 1) := dk_177 (dk_at dksX2_init_0 12 rfl rfl)
abbrev cX2_take : ByteArray := prog_5_method_3_code
def yX2_take : MethodName := ⟨RX2, "take", "(LBrothFlasks$Case;)V"⟩
def dkwX2_take_0 : List UInt8 := [43, 180, 0, 9, 3, 42, 180, 0, 9, 3, 16, 9, 184, 0, 15, 177]
abbrev dktX2_take_0 : List UInt8 := dkwX2_take_0 ++ []
theorem dksX2_take_0 : cX2_take.data.toList.drop 0 = dktX2_take_0 := by decide +kernel
theorem dX2_take_0 : decode cX2_take 0 = .ok (.aload_n 1, 1) := dk_43 (dk_at dksX2_take_0 0 rfl rfl)
theorem dX2_take_1 : decode cX2_take 1 = .ok (.getfield 9, 3) := dk_180 0 9 (dk_at dksX2_take_0 1 rfl rfl)
theorem dX2_take_4 : decode cX2_take 4 = .ok (.iconst 0, 1) := dk_3 (dk_at dksX2_take_0 4 rfl rfl)
theorem dX2_take_5 : decode cX2_take 5 = .ok (.aload_n 0, 1) := dk_42 (dk_at dksX2_take_0 5 rfl rfl)
theorem dX2_take_6 : decode cX2_take 6 = .ok (.getfield 9, 3) := dk_180 0 9 (dk_at dksX2_take_0 6 rfl rfl)
theorem dX2_take_9 : decode cX2_take 9 = .ok (.iconst 0, 1) := dk_3 (dk_at dksX2_take_0 9 rfl rfl)
theorem dX2_take_10 : decode cX2_take 10 = .ok (.bipush 9, 2) := dk_16 9 (dk_at dksX2_take_0 10 rfl rfl)
theorem dX2_take_12 : decode cX2_take 12 = .ok (.invokestatic 15, 3) := dk_184 0 15 (dk_at dksX2_take_0 12 rfl rfl)
theorem dX2_take_15 : decode cX2_take 15 = .ok (.return_, 1) := dk_177 (dk_at dksX2_take_0 15 rfl rfl)
abbrev cX2_within : ByteArray := prog_5_method_5_code
def yX2_within : MethodName := ⟨RX2, "within", "(J)J"⟩
def dkwX2_within_1 : List UInt8 := [4, 167, 0, 4, 3, 181, 0, 21, 42, 180, 0, 21, 153, 0, 7, 9, 167, 0, 4, 31, 173]
abbrev dktX2_within_1 : List UInt8 := dkwX2_within_1 ++ []
def dkwX2_within_0 : List UInt8 := [42, 42, 180, 0, 21, 154, 0, 19, 31, 20, 0, 25, 148, 157, 0, 11, 31, 20, 0, 27, 148, 156, 0, 7]
abbrev dktX2_within_0 : List UInt8 := dkwX2_within_0 ++ dktX2_within_1
theorem dksX2_within_0 : cX2_within.data.toList.drop 0 = dktX2_within_0 := by decide +kernel
theorem dksX2_within_1 : cX2_within.data.toList.drop 24 = dktX2_within_1 := dk_seg dksX2_within_0 24 rfl rfl
theorem dX2_within_0 : decode cX2_within 0 = .ok (.aload_n 0, 1) := dk_42 (dk_at dksX2_within_0 0 rfl rfl)
theorem dX2_within_1 : decode cX2_within 1 = .ok (.aload_n 0, 1) := dk_42 (dk_at dksX2_within_0 1 rfl rfl)
theorem dX2_within_2 : decode cX2_within 2 = .ok (.getfield 21, 3) := dk_180 0 21 (dk_at dksX2_within_0 2 rfl rfl)
theorem dX2_within_5 : decode cX2_within 5 = .ok (.ifCond .ne 19, 3) := dk_154 0 19 (dk_at dksX2_within_0 5 rfl rfl)
theorem dX2_within_8 : decode cX2_within 8 = .ok (.lload_n 1, 1) := dk_31 (dk_at dksX2_within_0 8 rfl rfl)
theorem dX2_within_9 : decode cX2_within 9 = .ok (.ldc2_w 25, 3) := dk_20 0 25 (dk_at dksX2_within_0 9 rfl rfl)
theorem dX2_within_12 : decode cX2_within 12 = .ok (.lcmp, 1) := dk_148 (dk_at dksX2_within_0 12 rfl rfl)
theorem dX2_within_13 : decode cX2_within 13 = .ok (.ifCond .gt 11, 3) := dk_157 0 11 (dk_at dksX2_within_0 13 rfl rfl)
theorem dX2_within_16 : decode cX2_within 16 = .ok (.lload_n 1, 1) := dk_31 (dk_at dksX2_within_0 16 rfl rfl)
theorem dX2_within_17 : decode cX2_within 17 = .ok (.ldc2_w 27, 3) := dk_20 0 27 (dk_at dksX2_within_0 17 rfl rfl)
theorem dX2_within_20 : decode cX2_within 20 = .ok (.lcmp, 1) := dk_148 (dk_at dksX2_within_0 20 rfl rfl)
theorem dX2_within_21 : decode cX2_within 21 = .ok (.ifCond .ge 7, 3) := dk_156 0 7 (dk_at dksX2_within_0 21 rfl rfl)
theorem dX2_within_24 : decode cX2_within 24 = .ok (.iconst 1, 1) := dk_4 (dk_at dksX2_within_1 0 rfl rfl)
theorem dX2_within_25 : decode cX2_within 25 = .ok (.goto 4, 3) := dk_167 0 4 (dk_at dksX2_within_1 1 rfl rfl)
theorem dX2_within_28 : decode cX2_within 28 = .ok (.iconst 0, 1) := dk_3 (dk_at dksX2_within_1 4 rfl rfl)
theorem dX2_within_29 : decode cX2_within 29 = .ok (.putfield 21, 3) := dk_181 0 21 (dk_at dksX2_within_1 5 rfl rfl)
theorem dX2_within_32 : decode cX2_within 32 = .ok (.aload_n 0, 1) := dk_42 (dk_at dksX2_within_1 8 rfl rfl)
theorem dX2_within_33 : decode cX2_within 33 = .ok (.getfield 21, 3) := dk_180 0 21 (dk_at dksX2_within_1 9 rfl rfl)
theorem dX2_within_36 : decode cX2_within 36 = .ok (.ifCond .eq 7, 3) := dk_153 0 7 (dk_at dksX2_within_1 12 rfl rfl)
theorem dX2_within_39 : decode cX2_within 39 = .ok (.lconst 0, 1) := dk_9 (dk_at dksX2_within_1 15 rfl rfl)
theorem dX2_within_40 : decode cX2_within 40 = .ok (.goto 4, 3) := dk_167 0 4 (dk_at dksX2_within_1 16 rfl rfl)
theorem dX2_within_43 : decode cX2_within 43 = .ok (.lload_n 1, 1) := dk_31 (dk_at dksX2_within_1 19 rfl rfl)
theorem dX2_within_44 : decode cX2_within 44 = .ok (.lreturn, 1) := dk_173 (dk_at dksX2_within_1 20 rfl rfl)
abbrev cX2_hasAir : ByteArray := prog_5_method_2_code
def yX2_hasAir : MethodName := ⟨RX2, "hasAir", "()Z"⟩
def dkwX2_hasAir_1 : List UInt8 := [180, 0, 9, 16, 6, 46, 158, 0, 7, 4, 167, 0, 4, 3, 172]
abbrev dktX2_hasAir_1 : List UInt8 := dkwX2_hasAir_1 ++ []
def dkwX2_hasAir_0 : List UInt8 := [42, 180, 0, 9, 4, 46, 60, 27, 153, 0, 23, 27, 4, 159, 0, 18, 27, 6, 159, 0, 13, 42]
abbrev dktX2_hasAir_0 : List UInt8 := dkwX2_hasAir_0 ++ dktX2_hasAir_1
theorem dksX2_hasAir_0 : cX2_hasAir.data.toList.drop 0 = dktX2_hasAir_0 := by decide +kernel
theorem dksX2_hasAir_1 : cX2_hasAir.data.toList.drop 22 = dktX2_hasAir_1 := dk_seg dksX2_hasAir_0 22 rfl rfl
theorem dX2_hasAir_0 : decode cX2_hasAir 0 = .ok (.aload_n 0, 1) := dk_42 (dk_at dksX2_hasAir_0 0 rfl rfl)
theorem dX2_hasAir_1 : decode cX2_hasAir 1 = .ok (.getfield 9, 3) := dk_180 0 9 (dk_at dksX2_hasAir_0 1 rfl rfl)
theorem dX2_hasAir_4 : decode cX2_hasAir 4 = .ok (.iconst 1, 1) := dk_4 (dk_at dksX2_hasAir_0 4 rfl rfl)
theorem dX2_hasAir_5 : decode cX2_hasAir 5 = .ok (.iaload, 1) := dk_46 (dk_at dksX2_hasAir_0 5 rfl rfl)
theorem dX2_hasAir_6 : decode cX2_hasAir 6 = .ok (.istore_n 1, 1) := dk_60 (dk_at dksX2_hasAir_0 6 rfl rfl)
theorem dX2_hasAir_7 : decode cX2_hasAir 7 = .ok (.iload_n 1, 1) := dk_27 (dk_at dksX2_hasAir_0 7 rfl rfl)
theorem dX2_hasAir_8 : decode cX2_hasAir 8 = .ok (.ifCond .eq 23, 3) := dk_153 0 23 (dk_at dksX2_hasAir_0 8 rfl rfl)
theorem dX2_hasAir_11 : decode cX2_hasAir 11 = .ok (.iload_n 1, 1) := dk_27 (dk_at dksX2_hasAir_0 11 rfl rfl)
theorem dX2_hasAir_12 : decode cX2_hasAir 12 = .ok (.iconst 1, 1) := dk_4 (dk_at dksX2_hasAir_0 12 rfl rfl)
theorem dX2_hasAir_13 : decode cX2_hasAir 13 = .ok (.if_icmp .eq 18, 3) := dk_159 0 18 (dk_at dksX2_hasAir_0 13 rfl rfl)
theorem dX2_hasAir_16 : decode cX2_hasAir 16 = .ok (.iload_n 1, 1) := dk_27 (dk_at dksX2_hasAir_0 16 rfl rfl)
theorem dX2_hasAir_17 : decode cX2_hasAir 17 = .ok (.iconst 3, 1) := dk_6 (dk_at dksX2_hasAir_0 17 rfl rfl)
theorem dX2_hasAir_18 : decode cX2_hasAir 18 = .ok (.if_icmp .eq 13, 3) := dk_159 0 13 (dk_at dksX2_hasAir_0 18 rfl rfl)
theorem dX2_hasAir_21 : decode cX2_hasAir 21 = .ok (.aload_n 0, 1) := dk_42 (dk_at dksX2_hasAir_0 21 rfl rfl)
theorem dX2_hasAir_22 : decode cX2_hasAir 22 = .ok (.getfield 9, 3) := dk_180 0 9 (dk_at dksX2_hasAir_1 0 rfl rfl)
theorem dX2_hasAir_25 : decode cX2_hasAir 25 = .ok (.bipush 6, 2) := dk_16 6 (dk_at dksX2_hasAir_1 3 rfl rfl)
theorem dX2_hasAir_27 : decode cX2_hasAir 27 = .ok (.iaload, 1) := dk_46 (dk_at dksX2_hasAir_1 5 rfl rfl)
theorem dX2_hasAir_28 : decode cX2_hasAir 28 = .ok (.ifCond .le 7, 3) := dk_158 0 7 (dk_at dksX2_hasAir_1 6 rfl rfl)
theorem dX2_hasAir_31 : decode cX2_hasAir 31 = .ok (.iconst 1, 1) := dk_4 (dk_at dksX2_hasAir_1 9 rfl rfl)
theorem dX2_hasAir_32 : decode cX2_hasAir 32 = .ok (.goto 4, 3) := dk_167 0 4 (dk_at dksX2_hasAir_1 10 rfl rfl)
theorem dX2_hasAir_35 : decode cX2_hasAir 35 = .ok (.iconst 0, 1) := dk_3 (dk_at dksX2_hasAir_1 13 rfl rfl)
theorem dX2_hasAir_36 : decode cX2_hasAir 36 = .ok (.ireturn, 1) := dk_172 (dk_at dksX2_hasAir_1 14 rfl rfl)
abbrev cX2_heatedTo : ByteArray := prog_5_method_4_code
def yX2_heatedTo : MethodName := ⟨RX2, "heatedTo", "(II)I"⟩
def dkwX2_heatedTo_1 : List UInt8 := [180, 0, 9, 6, 46, 28, 100, 172]
abbrev dktX2_heatedTo_1 : List UInt8 := dkwX2_heatedTo_1 ++ []
def dkwX2_heatedTo_0 : List UInt8 := [42, 180, 0, 9, 5, 46, 27, 159, 0, 14, 42, 180, 0, 9, 5, 46, 27, 100, 167, 0, 11, 42]
abbrev dktX2_heatedTo_0 : List UInt8 := dkwX2_heatedTo_0 ++ dktX2_heatedTo_1
theorem dksX2_heatedTo_0 : cX2_heatedTo.data.toList.drop 0 = dktX2_heatedTo_0 := by decide +kernel
theorem dksX2_heatedTo_1 : cX2_heatedTo.data.toList.drop 22 = dktX2_heatedTo_1 := dk_seg dksX2_heatedTo_0 22 rfl rfl
theorem dX2_heatedTo_0 : decode cX2_heatedTo 0 = .ok (.aload_n 0, 1) := dk_42 (dk_at dksX2_heatedTo_0 0 rfl rfl)
theorem dX2_heatedTo_1 : decode cX2_heatedTo 1 = .ok (.getfield 9, 3) := dk_180 0 9 (dk_at dksX2_heatedTo_0 1 rfl rfl)
theorem dX2_heatedTo_4 : decode cX2_heatedTo 4 = .ok (.iconst 2, 1) := dk_5 (dk_at dksX2_heatedTo_0 4 rfl rfl)
theorem dX2_heatedTo_5 : decode cX2_heatedTo 5 = .ok (.iaload, 1) := dk_46 (dk_at dksX2_heatedTo_0 5 rfl rfl)
theorem dX2_heatedTo_6 : decode cX2_heatedTo 6 = .ok (.iload_n 1, 1) := dk_27 (dk_at dksX2_heatedTo_0 6 rfl rfl)
theorem dX2_heatedTo_7 : decode cX2_heatedTo 7 = .ok (.if_icmp .eq 14, 3) := dk_159 0 14 (dk_at dksX2_heatedTo_0 7 rfl rfl)
theorem dX2_heatedTo_10 : decode cX2_heatedTo 10 = .ok (.aload_n 0, 1) := dk_42 (dk_at dksX2_heatedTo_0 10 rfl rfl)
theorem dX2_heatedTo_11 : decode cX2_heatedTo 11 = .ok (.getfield 9, 3) := dk_180 0 9 (dk_at dksX2_heatedTo_0 11 rfl rfl)
theorem dX2_heatedTo_14 : decode cX2_heatedTo 14 = .ok (.iconst 2, 1) := dk_5 (dk_at dksX2_heatedTo_0 14 rfl rfl)
theorem dX2_heatedTo_15 : decode cX2_heatedTo 15 = .ok (.iaload, 1) := dk_46 (dk_at dksX2_heatedTo_0 15 rfl rfl)
theorem dX2_heatedTo_16 : decode cX2_heatedTo 16 = .ok (.iload_n 1, 1) := dk_27 (dk_at dksX2_heatedTo_0 16 rfl rfl)
theorem dX2_heatedTo_17 : decode cX2_heatedTo 17 = .ok (.isub, 1) := dk_100 (dk_at dksX2_heatedTo_0 17 rfl rfl)
theorem dX2_heatedTo_18 : decode cX2_heatedTo 18 = .ok (.goto 11, 3) := dk_167 0 11 (dk_at dksX2_heatedTo_0 18 rfl rfl)
theorem dX2_heatedTo_21 : decode cX2_heatedTo 21 = .ok (.aload_n 0, 1) := dk_42 (dk_at dksX2_heatedTo_0 21 rfl rfl)
theorem dX2_heatedTo_22 : decode cX2_heatedTo 22 = .ok (.getfield 9, 3) := dk_180 0 9 (dk_at dksX2_heatedTo_1 0 rfl rfl)
theorem dX2_heatedTo_25 : decode cX2_heatedTo 25 = .ok (.iconst 3, 1) := dk_6 (dk_at dksX2_heatedTo_1 3 rfl rfl)
theorem dX2_heatedTo_26 : decode cX2_heatedTo 26 = .ok (.iaload, 1) := dk_46 (dk_at dksX2_heatedTo_1 4 rfl rfl)
theorem dX2_heatedTo_27 : decode cX2_heatedTo 27 = .ok (.iload_n 2, 1) := dk_28 (dk_at dksX2_heatedTo_1 5 rfl rfl)
theorem dX2_heatedTo_28 : decode cX2_heatedTo 28 = .ok (.isub, 1) := dk_100 (dk_at dksX2_heatedTo_1 6 rfl rfl)
theorem dX2_heatedTo_29 : decode cX2_heatedTo 29 = .ok (.ireturn, 1) := dk_172 (dk_at dksX2_heatedTo_1 7 rfl rfl)
theorem q107 : (Jvm.Cond.initialized "BrothFlasks$Case") ∈ lw_all := lw_g (lw_at lw_m1 3 rfl) rfl
theorem q253 : (Jvm.Cond.instantiable "BrothFlasks$Case" (2 : Nat)) ∈ lw_all := lw_g (lw_at lw_m1 149 rfl) rfl
theorem q255 : (Jvm.Cond.instanceMethod ({ cls := "BrothFlasks$Case", name := "<init>", desc := "()V" } : Jvm.MethodName)) ∈ lw_all := lw_g (lw_at lw_m1 151 rfl) rfl
theorem q256 : (Jvm.Cond.code ({ cls := "BrothFlasks$Case", name := "<init>", desc := "()V" } : Jvm.MethodName) prog_5_method_1_code (1 : Nat) (Option.none : Option Jvm.ClassFile.FieldType)) ∈ lw_all := lw_g (lw_at lw_m1 152 rfl) rfl
theorem q257 : (Jvm.Cond.methodLink "BrothFlasks$Case" (3 : Nat) ({ cls := "java/lang/Object", name := "<init>", desc := "()V" } : Jvm.MethodName)) ∈ lw_all := lw_g (lw_at lw_m1 153 rfl) rfl
theorem q258 : (Jvm.Cond.fieldLink "BrothFlasks$Case" (9 : Nat) "BrothFlasks$Case" "numbers" "[I") ∈ lw_all := lw_g (lw_at lw_m1 154 rfl) rfl
theorem q270 : (Jvm.Cond.fieldLink "BrothFlasks$Case" (21 : Nat) "BrothFlasks$Case" "isBroken" "Z") ∈ lw_all := lw_g (lw_at lw_m1 166 rfl) rfl
theorem q271 : (Jvm.Cond.laysFinal "BrothFlasks$Case" "BrothFlasks$Case" "numbers" "[I") ∈ lw_all := lw_g (lw_at lw_m1 167 rfl) rfl
theorem q272 : (Jvm.Cond.soleField "BrothFlasks$Case" "numbers") ∈ lw_all := lw_g (lw_at lw_m1 168 rfl) rfl
theorem q273 : (Jvm.Cond.lays "BrothFlasks$Case" "BrothFlasks$Case" "isBroken" "Z") ∈ lw_all := lw_g (lw_at lw_m1 169 rfl) rfl
theorem q274 : (Jvm.Cond.soleField "BrothFlasks$Case" "isBroken") ∈ lw_all := lw_g (lw_at lw_m1 170 rfl) rfl
theorem q275 : (Jvm.Cond.superclass "BrothFlasks$Case" "java/lang/Object") ∈ lw_all := lw_g (lw_at lw_m1 171 rfl) rfl
theorem q763 : (Jvm.Cond.declares ({ cls := "BrothFlasks$Case", name := "take", desc := "(LBrothFlasks$Case;)V" } : Jvm.MethodName)) ∈ lw_tbl := lw_at lw_m3 179 rfl
theorem q765 : (Jvm.Cond.instanceMethod ({ cls := "BrothFlasks$Case", name := "take", desc := "(LBrothFlasks$Case;)V" } : Jvm.MethodName)) ∈ lw_all := lw_g (lw_at lw_m3 181 rfl) rfl
theorem q766 : (Jvm.Cond.code ({ cls := "BrothFlasks$Case", name := "take", desc := "(LBrothFlasks$Case;)V" } : Jvm.MethodName) prog_5_method_3_code (2 : Nat) (Option.none : Option Jvm.ClassFile.FieldType)) ∈ lw_all := lw_g (lw_at lw_m3 182 rfl) rfl
theorem q767 : (Jvm.Cond.methodLink "BrothFlasks$Case" (15 : Nat) ({ cls := "java/lang/System", name := "arraycopy", desc := "(Ljava/lang/Object;ILjava/lang/Object;II)V" } : Jvm.MethodName)) ∈ lw_all := lw_g (lw_at lw_m3 183 rfl) rfl
theorem q1196 : (Jvm.Cond.instanceMethod ({ cls := "BrothFlasks$Case", name := "within", desc := "(J)J" } : Jvm.MethodName)) ∈ lw_all := lw_g (lw_at lw_m5 132 rfl) rfl
theorem q1197 : (Jvm.Cond.selects "BrothFlasks$Case" ({ cls := "BrothFlasks$Case", name := "within", desc := "(J)J" } : Jvm.MethodName) ({ cls := "BrothFlasks$Case", name := "within", desc := "(J)J" } : Jvm.MethodName)) ∈ lw_all := lw_g (lw_at lw_m5 133 rfl) rfl
theorem q1198 : (Jvm.Cond.sameMethod "BrothFlasks$Case" "BrothFlasks$Case" "within" "(J)J") ∈ lw_all := lw_g (lw_at lw_m5 134 rfl) rfl
theorem q1200 : (Jvm.Cond.code ({ cls := "BrothFlasks$Case", name := "within", desc := "(J)J" } : Jvm.MethodName) prog_5_method_5_code (3 : Nat) (Option.some Jvm.ClassFile.FieldType.long)) ∈ lw_all := lw_g (lw_at lw_m5 136 rfl) rfl
theorem q1201 : (Jvm.Cond.constantLong "BrothFlasks$Case" (25 : Nat) (1000000000 : Int64)) ∈ lw_all := lw_g (lw_at lw_m5 137 rfl) rfl
theorem q1202 : (Jvm.Cond.constantLong "BrothFlasks$Case" (27 : Nat) (-1000000000 : Int64)) ∈ lw_all := lw_g (lw_at lw_m5 138 rfl) rfl
theorem q1208 : (Jvm.Cond.instanceMethod ({ cls := "BrothFlasks$Case", name := "hasAir", desc := "()Z" } : Jvm.MethodName)) ∈ lw_all := lw_g (lw_at lw_m5 144 rfl) rfl
theorem q1209 : (Jvm.Cond.selects "BrothFlasks$Case" ({ cls := "BrothFlasks$Case", name := "hasAir", desc := "()Z" } : Jvm.MethodName) ({ cls := "BrothFlasks$Case", name := "hasAir", desc := "()Z" } : Jvm.MethodName)) ∈ lw_all := lw_g (lw_at lw_m5 145 rfl) rfl
theorem q1210 : (Jvm.Cond.sameMethod "BrothFlasks$Case" "BrothFlasks$Case" "hasAir" "()Z") ∈ lw_all := lw_g (lw_at lw_m5 146 rfl) rfl
theorem q1212 : (Jvm.Cond.code ({ cls := "BrothFlasks$Case", name := "hasAir", desc := "()Z" } : Jvm.MethodName) prog_5_method_2_code (2 : Nat) (Option.some Jvm.ClassFile.FieldType.boolean)) ∈ lw_all := lw_g (lw_at lw_m5 148 rfl) rfl
theorem q1356 : (Jvm.Cond.declares ({ cls := "BrothFlasks$Case", name := "heatedTo", desc := "(II)I" } : Jvm.MethodName)) ∈ lw_tbl := lw_at lw_m6 52 rfl
theorem q1358 : (Jvm.Cond.instanceMethod ({ cls := "BrothFlasks$Case", name := "heatedTo", desc := "(II)I" } : Jvm.MethodName)) ∈ lw_all := lw_g (lw_at lw_m6 54 rfl) rfl
theorem q1359 : (Jvm.Cond.code ({ cls := "BrothFlasks$Case", name := "heatedTo", desc := "(II)I" } : Jvm.MethodName) prog_5_method_4_code (3 : Nat) (Option.some Jvm.ClassFile.FieldType.int)) ∈ lw_all := lw_g (lw_at lw_m6 55 rfl) rfl
theorem q2055 : (Jvm.Cond.sameMethod "BrothFlasks$Case" "BrothFlasks$Case" "take" "(LBrothFlasks$Case;)V") ∈ lw_all := lw_g (lw_at lw_m9 31 rfl) rfl
theorem q2056 : (Jvm.Cond.selects "BrothFlasks$Case" ({ cls := "BrothFlasks$Case", name := "take", desc := "(LBrothFlasks$Case;)V" } : Jvm.MethodName) ({ cls := "BrothFlasks$Case", name := "take", desc := "(LBrothFlasks$Case;)V" } : Jvm.MethodName)) ∈ lw_all := lw_g (lw_at lw_m9 32 rfl) rfl
theorem in_X2 : ∀ w ∈ wsX20, w ∈ lw_all := lw_in wsX20 [271, 273] (by decide +kernel) (by decide +kernel)
/-! BrothFlasks$Reader -/
set_option maxRecDepth 100000
def RX3 : String := "BrothFlasks$Reader"
def TX3 : u_T := fun k => match k with
  | 0 => ("BrothFlasks$Reader", "from", "I", false)
  | 1 => ("BrothFlasks$Reader", "to", "I", false)
  | 2 => ("BrothFlasks$Reader", "leaves", "I", false)
  | 3 => ("BrothFlasks$Reader", "deep", "I", false)
  | 4 => ("BrothFlasks$Reader", "piled", "I", false)
  | 5 => ("BrothFlasks$Reader", "pile", "[LBrothFlasks$Test;", true)
  | 6 => ("BrothFlasks$Reader", "words", "[Ljava/lang/String;", true)
  | 7 => ("BrothFlasks$Reader", "facts", "[Ljava/lang/String;", true)
  | 8 => ("BrothFlasks$Reader", "heads", "[Ljava/lang/String;", true)
  | _ => ("BrothFlasks$Reader", "this$0", "LBrothFlasks;", true)
def tyX3 : Nat → FieldType := fun k => match k with
  | 0 => .int
  | 1 => .int
  | 2 => .int
  | 3 => .int
  | 4 => .int
  | 5 => .array (.object "BrothFlasks$Test")
  | 6 => .array (.object "java/lang/String")
  | 7 => .array (.object "java/lang/String")
  | 8 => .array (.object "java/lang/String")
  | _ => .object "BrothFlasks"
abbrev wsX30 : List Cond := u_ws RX3 TX3 10
theorem nmX3 : ∀ a, a < 10 → ∀ b, b < 10 → a ≠ b → (TX3 a).2.1 ≠ (TX3 b).2.1 := by decide +kernel
theorem tyX3_ok : ∀ k, k < 10 → parseFieldDescriptor (TX3 k).2.2.1 = some (tyX3 k) := by decide +kernel
abbrev cX3_init : ByteArray := prog_15_method_1_code
def yX3_init : MethodName := ⟨RX3, "<init>", "(LBrothFlasks;)V"⟩
def dkwX3_init_6 : List UInt8 := [83, 89, 7, 18, 70, 83, 181, 0, 72, 177]
abbrev dktX3_init_6 : List UInt8 := dkwX3_init_6 ++ []
def dkwX3_init_5 : List UInt8 := [42, 8, 189, 0, 21, 89, 3, 18, 62, 83, 89, 4, 18, 64, 83, 89, 5, 18, 66, 83, 89, 6, 18, 68]
abbrev dktX3_init_5 : List UInt8 := dkwX3_init_5 ++ dktX3_init_6
def dkwX3_init_4 : List UInt8 := [89, 6, 18, 51, 83, 89, 7, 18, 53, 83, 89, 8, 18, 55, 83, 89, 16, 6, 18, 57, 83, 181, 0, 59]
abbrev dktX3_init_4 : List UInt8 := dkwX3_init_4 ++ dktX3_init_5
def dkwX3_init_3 : List UInt8 := [181, 0, 41, 42, 16, 7, 189, 0, 21, 89, 3, 18, 45, 83, 89, 4, 18, 47, 83, 89, 5, 18, 49, 83]
abbrev dktX3_init_3 : List UInt8 := dkwX3_init_3 ++ dktX3_init_4
def dkwX3_init_2 : List UInt8 := [83, 89, 8, 18, 33, 83, 89, 16, 6, 18, 35, 83, 89, 16, 7, 18, 37, 83, 89, 16, 8, 18, 39, 83]
abbrev dktX3_init_2 : List UInt8 := dkwX3_init_2 ++ dktX3_init_3
def dkwX3_init_1 : List UInt8 := [89, 3, 18, 23, 83, 89, 4, 18, 25, 83, 89, 5, 18, 27, 83, 89, 6, 18, 29, 83, 89, 7, 18, 31]
abbrev dktX3_init_1 : List UInt8 := dkwX3_init_1 ++ dktX3_init_2
def dkwX3_init_0 : List UInt8 := [42, 43, 181, 0, 3, 42, 183, 0, 9, 42, 16, 50, 189, 0, 15, 181, 0, 17, 42, 16, 9, 189, 0, 21]
abbrev dktX3_init_0 : List UInt8 := dkwX3_init_0 ++ dktX3_init_1
theorem dksX3_init_0 : cX3_init.data.toList.drop 0 = dktX3_init_0 := by decide +kernel
theorem dksX3_init_1 : cX3_init.data.toList.drop 24 = dktX3_init_1 := dk_seg dksX3_init_0 24 rfl rfl
theorem dksX3_init_2 : cX3_init.data.toList.drop 48 = dktX3_init_2 := dk_seg dksX3_init_1 24 rfl rfl
theorem dksX3_init_3 : cX3_init.data.toList.drop 72 = dktX3_init_3 := dk_seg dksX3_init_2 24 rfl rfl
theorem dksX3_init_4 : cX3_init.data.toList.drop 96 = dktX3_init_4 := dk_seg dksX3_init_3 24 rfl rfl
theorem dksX3_init_5 : cX3_init.data.toList.drop 120 = dktX3_init_5 := dk_seg dksX3_init_4 24 rfl rfl
theorem dksX3_init_6 : cX3_init.data.toList.drop 144 = dktX3_init_6 := dk_seg dksX3_init_5 24 rfl rfl
theorem dX3_init_0 : decode cX3_init 0 = .ok (.aload_n 0, 1) := dk_42 (dk_at dksX3_init_0 0 rfl rfl)
theorem dX3_init_1 : decode cX3_init 1 = .ok (.aload_n 1, 1) := dk_43 (dk_at dksX3_init_0 1 rfl rfl)
theorem dX3_init_2 : decode cX3_init 2 = .ok (.putfield 3, 3) := dk_181 0 3 (dk_at dksX3_init_0 2 rfl rfl)
theorem dX3_init_5 : decode cX3_init 5 = .ok (.aload_n 0, 1) := dk_42 (dk_at dksX3_init_0 5 rfl rfl)
theorem dX3_init_6 : decode cX3_init 6 = .ok (.invokespecial 9, 3) := dk_183 0 9 (dk_at dksX3_init_0 6 rfl rfl)
theorem dX3_init_9 : decode cX3_init 9 = .ok (.aload_n 0, 1) := dk_42 (dk_at dksX3_init_0 9 rfl rfl)
theorem dX3_init_10 : decode cX3_init 10 = .ok (.bipush 50, 2) := dk_16 50 (dk_at dksX3_init_0 10 rfl rfl)
theorem dX3_init_12 : decode cX3_init 12 = .ok (.anewarray 15, 3) := dk_189 0 15 (dk_at dksX3_init_0 12 rfl rfl)
theorem dX3_init_15 : decode cX3_init 15 = .ok (.putfield 17, 3) := dk_181 0 17 (dk_at dksX3_init_0 15 rfl rfl)
theorem dX3_init_18 : decode cX3_init 18 = .ok (.aload_n 0, 1) := dk_42 (dk_at dksX3_init_0 18 rfl rfl)
theorem dX3_init_19 : decode cX3_init 19 = .ok (.bipush 9, 2) := dk_16 9 (dk_at dksX3_init_0 19 rfl rfl)
theorem dX3_init_21 : decode cX3_init 21 = .ok (.anewarray 21, 3) := dk_189 0 21 (dk_at dksX3_init_0 21 rfl rfl)
theorem dX3_init_24 : decode cX3_init 24 = .ok (.dup, 1) := dk_89 (dk_at dksX3_init_1 0 rfl rfl)
theorem dX3_init_25 : decode cX3_init 25 = .ok (.iconst 0, 1) := dk_3 (dk_at dksX3_init_1 1 rfl rfl)
theorem dX3_init_26 : decode cX3_init 26 = .ok (.ldc 23, 2) := dk_18 23 (dk_at dksX3_init_1 2 rfl rfl)
theorem dX3_init_28 : decode cX3_init 28 = .ok (.aastore, 1) := dk_83 (dk_at dksX3_init_1 4 rfl rfl)
theorem dX3_init_29 : decode cX3_init 29 = .ok (.dup, 1) := dk_89 (dk_at dksX3_init_1 5 rfl rfl)
theorem dX3_init_30 : decode cX3_init 30 = .ok (.iconst 1, 1) := dk_4 (dk_at dksX3_init_1 6 rfl rfl)
theorem dX3_init_31 : decode cX3_init 31 = .ok (.ldc 25, 2) := dk_18 25 (dk_at dksX3_init_1 7 rfl rfl)
theorem dX3_init_33 : decode cX3_init 33 = .ok (.aastore, 1) := dk_83 (dk_at dksX3_init_1 9 rfl rfl)
theorem dX3_init_34 : decode cX3_init 34 = .ok (.dup, 1) := dk_89 (dk_at dksX3_init_1 10 rfl rfl)
theorem dX3_init_35 : decode cX3_init 35 = .ok (.iconst 2, 1) := dk_5 (dk_at dksX3_init_1 11 rfl rfl)
theorem dX3_init_36 : decode cX3_init 36 = .ok (.ldc 27, 2) := dk_18 27 (dk_at dksX3_init_1 12 rfl rfl)
theorem dX3_init_38 : decode cX3_init 38 = .ok (.aastore, 1) := dk_83 (dk_at dksX3_init_1 14 rfl rfl)
theorem dX3_init_39 : decode cX3_init 39 = .ok (.dup, 1) := dk_89 (dk_at dksX3_init_1 15 rfl rfl)
theorem dX3_init_40 : decode cX3_init 40 = .ok (.iconst 3, 1) := dk_6 (dk_at dksX3_init_1 16 rfl rfl)
theorem dX3_init_41 : decode cX3_init 41 = .ok (.ldc 29, 2) := dk_18 29 (dk_at dksX3_init_1 17 rfl rfl)
theorem dX3_init_43 : decode cX3_init 43 = .ok (.aastore, 1) := dk_83 (dk_at dksX3_init_1 19 rfl rfl)
theorem dX3_init_44 : decode cX3_init 44 = .ok (.dup, 1) := dk_89 (dk_at dksX3_init_1 20 rfl rfl)
theorem dX3_init_45 : decode cX3_init 45 = .ok (.iconst 4, 1) := dk_7 (dk_at dksX3_init_1 21 rfl rfl)
theorem dX3_init_46 : decode cX3_init 46 = .ok (.ldc 31, 2) := dk_18 31 (dk_at dksX3_init_1 22 rfl rfl)
theorem dX3_init_48 : decode cX3_init 48 = .ok (.aastore, 1) := dk_83 (dk_at dksX3_init_2 0 rfl rfl)
theorem dX3_init_49 : decode cX3_init 49 = .ok (.dup, 1) := dk_89 (dk_at dksX3_init_2 1 rfl rfl)
theorem dX3_init_50 : decode cX3_init 50 = .ok (.iconst 5, 1) := dk_8 (dk_at dksX3_init_2 2 rfl rfl)
theorem dX3_init_51 : decode cX3_init 51 = .ok (.ldc 33, 2) := dk_18 33 (dk_at dksX3_init_2 3 rfl rfl)
theorem dX3_init_53 : decode cX3_init 53 = .ok (.aastore, 1) := dk_83 (dk_at dksX3_init_2 5 rfl rfl)
theorem dX3_init_54 : decode cX3_init 54 = .ok (.dup, 1) := dk_89 (dk_at dksX3_init_2 6 rfl rfl)
theorem dX3_init_55 : decode cX3_init 55 = .ok (.bipush 6, 2) := dk_16 6 (dk_at dksX3_init_2 7 rfl rfl)
theorem dX3_init_57 : decode cX3_init 57 = .ok (.ldc 35, 2) := dk_18 35 (dk_at dksX3_init_2 9 rfl rfl)
theorem dX3_init_59 : decode cX3_init 59 = .ok (.aastore, 1) := dk_83 (dk_at dksX3_init_2 11 rfl rfl)
theorem dX3_init_60 : decode cX3_init 60 = .ok (.dup, 1) := dk_89 (dk_at dksX3_init_2 12 rfl rfl)
theorem dX3_init_61 : decode cX3_init 61 = .ok (.bipush 7, 2) := dk_16 7 (dk_at dksX3_init_2 13 rfl rfl)
theorem dX3_init_63 : decode cX3_init 63 = .ok (.ldc 37, 2) := dk_18 37 (dk_at dksX3_init_2 15 rfl rfl)
theorem dX3_init_65 : decode cX3_init 65 = .ok (.aastore, 1) := dk_83 (dk_at dksX3_init_2 17 rfl rfl)
theorem dX3_init_66 : decode cX3_init 66 = .ok (.dup, 1) := dk_89 (dk_at dksX3_init_2 18 rfl rfl)
theorem dX3_init_67 : decode cX3_init 67 = .ok (.bipush 8, 2) := dk_16 8 (dk_at dksX3_init_2 19 rfl rfl)
theorem dX3_init_69 : decode cX3_init 69 = .ok (.ldc 39, 2) := dk_18 39 (dk_at dksX3_init_2 21 rfl rfl)
theorem dX3_init_71 : decode cX3_init 71 = .ok (.aastore, 1) := dk_83 (dk_at dksX3_init_2 23 rfl rfl)
theorem dX3_init_72 : decode cX3_init 72 = .ok (.putfield 41, 3) := dk_181 0 41 (dk_at dksX3_init_3 0 rfl rfl)
theorem dX3_init_75 : decode cX3_init 75 = .ok (.aload_n 0, 1) := dk_42 (dk_at dksX3_init_3 3 rfl rfl)
theorem dX3_init_76 : decode cX3_init 76 = .ok (.bipush 7, 2) := dk_16 7 (dk_at dksX3_init_3 4 rfl rfl)
theorem dX3_init_78 : decode cX3_init 78 = .ok (.anewarray 21, 3) := dk_189 0 21 (dk_at dksX3_init_3 6 rfl rfl)
theorem dX3_init_81 : decode cX3_init 81 = .ok (.dup, 1) := dk_89 (dk_at dksX3_init_3 9 rfl rfl)
theorem dX3_init_82 : decode cX3_init 82 = .ok (.iconst 0, 1) := dk_3 (dk_at dksX3_init_3 10 rfl rfl)
theorem dX3_init_83 : decode cX3_init 83 = .ok (.ldc 45, 2) := dk_18 45 (dk_at dksX3_init_3 11 rfl rfl)
theorem dX3_init_85 : decode cX3_init 85 = .ok (.aastore, 1) := dk_83 (dk_at dksX3_init_3 13 rfl rfl)
theorem dX3_init_86 : decode cX3_init 86 = .ok (.dup, 1) := dk_89 (dk_at dksX3_init_3 14 rfl rfl)
theorem dX3_init_87 : decode cX3_init 87 = .ok (.iconst 1, 1) := dk_4 (dk_at dksX3_init_3 15 rfl rfl)
theorem dX3_init_88 : decode cX3_init 88 = .ok (.ldc 47, 2) := dk_18 47 (dk_at dksX3_init_3 16 rfl rfl)
theorem dX3_init_90 : decode cX3_init 90 = .ok (.aastore, 1) := dk_83 (dk_at dksX3_init_3 18 rfl rfl)
theorem dX3_init_91 : decode cX3_init 91 = .ok (.dup, 1) := dk_89 (dk_at dksX3_init_3 19 rfl rfl)
theorem dX3_init_92 : decode cX3_init 92 = .ok (.iconst 2, 1) := dk_5 (dk_at dksX3_init_3 20 rfl rfl)
theorem dX3_init_93 : decode cX3_init 93 = .ok (.ldc 49, 2) := dk_18 49 (dk_at dksX3_init_3 21 rfl rfl)
theorem dX3_init_95 : decode cX3_init 95 = .ok (.aastore, 1) := dk_83 (dk_at dksX3_init_3 23 rfl rfl)
theorem dX3_init_96 : decode cX3_init 96 = .ok (.dup, 1) := dk_89 (dk_at dksX3_init_4 0 rfl rfl)
theorem dX3_init_97 : decode cX3_init 97 = .ok (.iconst 3, 1) := dk_6 (dk_at dksX3_init_4 1 rfl rfl)
theorem dX3_init_98 : decode cX3_init 98 = .ok (.ldc 51, 2) := dk_18 51 (dk_at dksX3_init_4 2 rfl rfl)
theorem dX3_init_100 : decode cX3_init 100 = .ok (.aastore, 1) := dk_83 (dk_at dksX3_init_4 4 rfl rfl)
theorem dX3_init_101 : decode cX3_init 101 = .ok (.dup, 1) := dk_89 (dk_at dksX3_init_4 5 rfl rfl)
theorem dX3_init_102 : decode cX3_init 102 = .ok (.iconst 4, 1) := dk_7 (dk_at dksX3_init_4 6 rfl rfl)
theorem dX3_init_103 : decode cX3_init 103 = .ok (.ldc 53, 2) := dk_18 53 (dk_at dksX3_init_4 7 rfl rfl)
theorem dX3_init_105 : decode cX3_init 105 = .ok (.aastore, 1) := dk_83 (dk_at dksX3_init_4 9 rfl rfl)
theorem dX3_init_106 : decode cX3_init 106 = .ok (.dup, 1) := dk_89 (dk_at dksX3_init_4 10 rfl rfl)
theorem dX3_init_107 : decode cX3_init 107 = .ok (.iconst 5, 1) := dk_8 (dk_at dksX3_init_4 11 rfl rfl)
theorem dX3_init_108 : decode cX3_init 108 = .ok (.ldc 55, 2) := dk_18 55 (dk_at dksX3_init_4 12 rfl rfl)
theorem dX3_init_110 : decode cX3_init 110 = .ok (.aastore, 1) := dk_83 (dk_at dksX3_init_4 14 rfl rfl)
theorem dX3_init_111 : decode cX3_init 111 = .ok (.dup, 1) := dk_89 (dk_at dksX3_init_4 15 rfl rfl)
theorem dX3_init_112 : decode cX3_init 112 = .ok (.bipush 6, 2) := dk_16 6 (dk_at dksX3_init_4 16 rfl rfl)
theorem dX3_init_114 : decode cX3_init 114 = .ok (.ldc 57, 2) := dk_18 57 (dk_at dksX3_init_4 18 rfl rfl)
theorem dX3_init_116 : decode cX3_init 116 = .ok (.aastore, 1) := dk_83 (dk_at dksX3_init_4 20 rfl rfl)
theorem dX3_init_117 : decode cX3_init 117 = .ok (.putfield 59, 3) := dk_181 0 59 (dk_at dksX3_init_4 21 rfl rfl)
theorem dX3_init_120 : decode cX3_init 120 = .ok (.aload_n 0, 1) := dk_42 (dk_at dksX3_init_5 0 rfl rfl)
theorem dX3_init_121 : decode cX3_init 121 = .ok (.iconst 5, 1) := dk_8 (dk_at dksX3_init_5 1 rfl rfl)
theorem dX3_init_122 : decode cX3_init 122 = .ok (.anewarray 21, 3) := dk_189 0 21 (dk_at dksX3_init_5 2 rfl rfl)
theorem dX3_init_125 : decode cX3_init 125 = .ok (.dup, 1) := dk_89 (dk_at dksX3_init_5 5 rfl rfl)
theorem dX3_init_126 : decode cX3_init 126 = .ok (.iconst 0, 1) := dk_3 (dk_at dksX3_init_5 6 rfl rfl)
theorem dX3_init_127 : decode cX3_init 127 = .ok (.ldc 62, 2) := dk_18 62 (dk_at dksX3_init_5 7 rfl rfl)
theorem dX3_init_129 : decode cX3_init 129 = .ok (.aastore, 1) := dk_83 (dk_at dksX3_init_5 9 rfl rfl)
theorem dX3_init_130 : decode cX3_init 130 = .ok (.dup, 1) := dk_89 (dk_at dksX3_init_5 10 rfl rfl)
theorem dX3_init_131 : decode cX3_init 131 = .ok (.iconst 1, 1) := dk_4 (dk_at dksX3_init_5 11 rfl rfl)
theorem dX3_init_132 : decode cX3_init 132 = .ok (.ldc 64, 2) := dk_18 64 (dk_at dksX3_init_5 12 rfl rfl)
theorem dX3_init_134 : decode cX3_init 134 = .ok (.aastore, 1) := dk_83 (dk_at dksX3_init_5 14 rfl rfl)
theorem dX3_init_135 : decode cX3_init 135 = .ok (.dup, 1) := dk_89 (dk_at dksX3_init_5 15 rfl rfl)
theorem dX3_init_136 : decode cX3_init 136 = .ok (.iconst 2, 1) := dk_5 (dk_at dksX3_init_5 16 rfl rfl)
theorem dX3_init_137 : decode cX3_init 137 = .ok (.ldc 66, 2) := dk_18 66 (dk_at dksX3_init_5 17 rfl rfl)
theorem dX3_init_139 : decode cX3_init 139 = .ok (.aastore, 1) := dk_83 (dk_at dksX3_init_5 19 rfl rfl)
theorem dX3_init_140 : decode cX3_init 140 = .ok (.dup, 1) := dk_89 (dk_at dksX3_init_5 20 rfl rfl)
theorem dX3_init_141 : decode cX3_init 141 = .ok (.iconst 3, 1) := dk_6 (dk_at dksX3_init_5 21 rfl rfl)
theorem dX3_init_142 : decode cX3_init 142 = .ok (.ldc 68, 2) := dk_18 68 (dk_at dksX3_init_5 22 rfl rfl)
theorem dX3_init_144 : decode cX3_init 144 = .ok (.aastore, 1) := dk_83 (dk_at dksX3_init_6 0 rfl rfl)
theorem dX3_init_145 : decode cX3_init 145 = .ok (.dup, 1) := dk_89 (dk_at dksX3_init_6 1 rfl rfl)
theorem dX3_init_146 : decode cX3_init 146 = .ok (.iconst 4, 1) := dk_7 (dk_at dksX3_init_6 2 rfl rfl)
theorem dX3_init_147 : decode cX3_init 147 = .ok (.ldc 70, 2) := dk_18 70 (dk_at dksX3_init_6 3 rfl rfl)
theorem dX3_init_149 : decode cX3_init 149 = .ok (.aastore, 1) := dk_83 (dk_at dksX3_init_6 5 rfl rfl)
theorem dX3_init_150 : decode cX3_init 150 = .ok (.putfield 72, 3) := dk_181 0 72 (dk_at dksX3_init_6 6 rfl rfl)
theorem dX3_init_153 : decode cX3_init 153 = .ok (.return_, 1) := dk_177 (dk_at dksX3_init_6 9 rfl rfl)
abbrev cX3_read : ByteArray := prog_15_method_2_code
def yX3_read : MethodName := ⟨RX3, "read", "()LBrothFlasks$Text;"⟩
def dkwX3_read_4 : List UInt8 := [45, 3, 28, 184, 0, 113, 187, 0, 119, 89, 45, 183, 0, 121, 176]
abbrev dktX3_read_4 : List UInt8 := dkwX3_read_4 ++ []
def dkwX3_read_3 : List UInt8 := [180, 0, 3, 180, 0, 110, 160, 0, 7, 4, 167, 0, 4, 3, 182, 0, 93, 28, 189, 0, 75, 78, 43, 3]
abbrev dktX3_read_3 : List UInt8 := dkwX3_read_3 ++ dktX3_read_4
def dkwX3_read_2 : List UInt8 := [28, 42, 182, 0, 97, 83, 132, 2, 1, 42, 18, 101, 182, 0, 103, 154, 255, 225, 42, 42, 180, 0, 107, 42]
abbrev dktX3_read_2 : List UInt8 := dkwX3_read_2 ++ dktX3_read_3
def dkwX3_read_1 : List UInt8 := [3, 181, 0, 87, 42, 182, 0, 90, 42, 28, 16, 12, 162, 0, 7, 4, 167, 0, 4, 3, 182, 0, 93, 43]
abbrev dktX3_read_1 : List UInt8 := dkwX3_read_1 ++ dktX3_read_2
def dkwX3_read_0 : List UInt8 := [16, 12, 189, 0, 75, 76, 3, 61, 42, 3, 181, 0, 77, 42, 3, 181, 0, 81, 42, 3, 181, 0, 84, 42]
abbrev dktX3_read_0 : List UInt8 := dkwX3_read_0 ++ dktX3_read_1
theorem dksX3_read_0 : cX3_read.data.toList.drop 0 = dktX3_read_0 := by decide +kernel
theorem dksX3_read_1 : cX3_read.data.toList.drop 24 = dktX3_read_1 := dk_seg dksX3_read_0 24 rfl rfl
theorem dksX3_read_2 : cX3_read.data.toList.drop 48 = dktX3_read_2 := dk_seg dksX3_read_1 24 rfl rfl
theorem dksX3_read_3 : cX3_read.data.toList.drop 72 = dktX3_read_3 := dk_seg dksX3_read_2 24 rfl rfl
theorem dksX3_read_4 : cX3_read.data.toList.drop 96 = dktX3_read_4 := dk_seg dksX3_read_3 24 rfl rfl
theorem dX3_read_0 : decode cX3_read 0 = .ok (.bipush 12, 2) := dk_16 12 (dk_at dksX3_read_0 0 rfl rfl)
theorem dX3_read_2 : decode cX3_read 2 = .ok (.anewarray 75, 3) := dk_189 0 75 (dk_at dksX3_read_0 2 rfl rfl)
theorem dX3_read_5 : decode cX3_read 5 = .ok (.astore_n 1, 1) := dk_76 (dk_at dksX3_read_0 5 rfl rfl)
theorem dX3_read_6 : decode cX3_read 6 = .ok (.iconst 0, 1) := dk_3 (dk_at dksX3_read_0 6 rfl rfl)
theorem dX3_read_7 : decode cX3_read 7 = .ok (.istore_n 2, 1) := dk_61 (dk_at dksX3_read_0 7 rfl rfl)
theorem dX3_read_8 : decode cX3_read 8 = .ok (.aload_n 0, 1) := dk_42 (dk_at dksX3_read_0 8 rfl rfl)
theorem dX3_read_9 : decode cX3_read 9 = .ok (.iconst 0, 1) := dk_3 (dk_at dksX3_read_0 9 rfl rfl)
theorem dX3_read_10 : decode cX3_read 10 = .ok (.putfield 77, 3) := dk_181 0 77 (dk_at dksX3_read_0 10 rfl rfl)
theorem dX3_read_13 : decode cX3_read 13 = .ok (.aload_n 0, 1) := dk_42 (dk_at dksX3_read_0 13 rfl rfl)
theorem dX3_read_14 : decode cX3_read 14 = .ok (.iconst 0, 1) := dk_3 (dk_at dksX3_read_0 14 rfl rfl)
theorem dX3_read_15 : decode cX3_read 15 = .ok (.putfield 81, 3) := dk_181 0 81 (dk_at dksX3_read_0 15 rfl rfl)
theorem dX3_read_18 : decode cX3_read 18 = .ok (.aload_n 0, 1) := dk_42 (dk_at dksX3_read_0 18 rfl rfl)
theorem dX3_read_19 : decode cX3_read 19 = .ok (.iconst 0, 1) := dk_3 (dk_at dksX3_read_0 19 rfl rfl)
theorem dX3_read_20 : decode cX3_read 20 = .ok (.putfield 84, 3) := dk_181 0 84 (dk_at dksX3_read_0 20 rfl rfl)
theorem dX3_read_23 : decode cX3_read 23 = .ok (.aload_n 0, 1) := dk_42 (dk_at dksX3_read_0 23 rfl rfl)
theorem dX3_read_24 : decode cX3_read 24 = .ok (.iconst 0, 1) := dk_3 (dk_at dksX3_read_1 0 rfl rfl)
theorem dX3_read_25 : decode cX3_read 25 = .ok (.putfield 87, 3) := dk_181 0 87 (dk_at dksX3_read_1 1 rfl rfl)
theorem dX3_read_28 : decode cX3_read 28 = .ok (.aload_n 0, 1) := dk_42 (dk_at dksX3_read_1 4 rfl rfl)
theorem dX3_read_29 : decode cX3_read 29 = .ok (.invokevirtual 90, 3) := dk_182 0 90 (dk_at dksX3_read_1 5 rfl rfl)
theorem dX3_read_32 : decode cX3_read 32 = .ok (.aload_n 0, 1) := dk_42 (dk_at dksX3_read_1 8 rfl rfl)
theorem dX3_read_33 : decode cX3_read 33 = .ok (.iload_n 2, 1) := dk_28 (dk_at dksX3_read_1 9 rfl rfl)
theorem dX3_read_34 : decode cX3_read 34 = .ok (.bipush 12, 2) := dk_16 12 (dk_at dksX3_read_1 10 rfl rfl)
theorem dX3_read_36 : decode cX3_read 36 = .ok (.if_icmp .ge 7, 3) := dk_162 0 7 (dk_at dksX3_read_1 12 rfl rfl)
theorem dX3_read_39 : decode cX3_read 39 = .ok (.iconst 1, 1) := dk_4 (dk_at dksX3_read_1 15 rfl rfl)
theorem dX3_read_40 : decode cX3_read 40 = .ok (.goto 4, 3) := dk_167 0 4 (dk_at dksX3_read_1 16 rfl rfl)
theorem dX3_read_43 : decode cX3_read 43 = .ok (.iconst 0, 1) := dk_3 (dk_at dksX3_read_1 19 rfl rfl)
theorem dX3_read_44 : decode cX3_read 44 = .ok (.invokevirtual 93, 3) := dk_182 0 93 (dk_at dksX3_read_1 20 rfl rfl)
theorem dX3_read_47 : decode cX3_read 47 = .ok (.aload_n 1, 1) := dk_43 (dk_at dksX3_read_1 23 rfl rfl)
theorem dX3_read_48 : decode cX3_read 48 = .ok (.iload_n 2, 1) := dk_28 (dk_at dksX3_read_2 0 rfl rfl)
theorem dX3_read_49 : decode cX3_read 49 = .ok (.aload_n 0, 1) := dk_42 (dk_at dksX3_read_2 1 rfl rfl)
theorem dX3_read_50 : decode cX3_read 50 = .ok (.invokevirtual 97, 3) := dk_182 0 97 (dk_at dksX3_read_2 2 rfl rfl)
theorem dX3_read_53 : decode cX3_read 53 = .ok (.aastore, 1) := dk_83 (dk_at dksX3_read_2 5 rfl rfl)
theorem dX3_read_54 : decode cX3_read 54 = .ok (.iinc 2 1, 3) := dk_132 2 1 (dk_at dksX3_read_2 6 rfl rfl)
theorem dX3_read_57 : decode cX3_read 57 = .ok (.aload_n 0, 1) := dk_42 (dk_at dksX3_read_2 9 rfl rfl)
theorem dX3_read_58 : decode cX3_read 58 = .ok (.ldc 101, 2) := dk_18 101 (dk_at dksX3_read_2 10 rfl rfl)
theorem dX3_read_60 : decode cX3_read 60 = .ok (.invokevirtual 103, 3) := dk_182 0 103 (dk_at dksX3_read_2 12 rfl rfl)
theorem dX3_read_63 : decode cX3_read 63 = .ok (.ifCond .ne (-31), 3) := dk_154 255 225 (dk_at dksX3_read_2 15 rfl rfl)
theorem dX3_read_66 : decode cX3_read 66 = .ok (.aload_n 0, 1) := dk_42 (dk_at dksX3_read_2 18 rfl rfl)
theorem dX3_read_67 : decode cX3_read 67 = .ok (.aload_n 0, 1) := dk_42 (dk_at dksX3_read_2 19 rfl rfl)
theorem dX3_read_68 : decode cX3_read 68 = .ok (.getfield 107, 3) := dk_180 0 107 (dk_at dksX3_read_2 20 rfl rfl)
theorem dX3_read_71 : decode cX3_read 71 = .ok (.aload_n 0, 1) := dk_42 (dk_at dksX3_read_2 23 rfl rfl)
theorem dX3_read_72 : decode cX3_read 72 = .ok (.getfield 3, 3) := dk_180 0 3 (dk_at dksX3_read_3 0 rfl rfl)
theorem dX3_read_75 : decode cX3_read 75 = .ok (.getfield 110, 3) := dk_180 0 110 (dk_at dksX3_read_3 3 rfl rfl)
theorem dX3_read_78 : decode cX3_read 78 = .ok (.if_icmp .ne 7, 3) := dk_160 0 7 (dk_at dksX3_read_3 6 rfl rfl)
theorem dX3_read_81 : decode cX3_read 81 = .ok (.iconst 1, 1) := dk_4 (dk_at dksX3_read_3 9 rfl rfl)
theorem dX3_read_82 : decode cX3_read 82 = .ok (.goto 4, 3) := dk_167 0 4 (dk_at dksX3_read_3 10 rfl rfl)
theorem dX3_read_85 : decode cX3_read 85 = .ok (.iconst 0, 1) := dk_3 (dk_at dksX3_read_3 13 rfl rfl)
theorem dX3_read_86 : decode cX3_read 86 = .ok (.invokevirtual 93, 3) := dk_182 0 93 (dk_at dksX3_read_3 14 rfl rfl)
theorem dX3_read_89 : decode cX3_read 89 = .ok (.iload_n 2, 1) := dk_28 (dk_at dksX3_read_3 17 rfl rfl)
theorem dX3_read_90 : decode cX3_read 90 = .ok (.anewarray 75, 3) := dk_189 0 75 (dk_at dksX3_read_3 18 rfl rfl)
theorem dX3_read_93 : decode cX3_read 93 = .ok (.astore_n 3, 1) := dk_78 (dk_at dksX3_read_3 21 rfl rfl)
theorem dX3_read_94 : decode cX3_read 94 = .ok (.aload_n 1, 1) := dk_43 (dk_at dksX3_read_3 22 rfl rfl)
theorem dX3_read_95 : decode cX3_read 95 = .ok (.iconst 0, 1) := dk_3 (dk_at dksX3_read_3 23 rfl rfl)
theorem dX3_read_96 : decode cX3_read 96 = .ok (.aload_n 3, 1) := dk_45 (dk_at dksX3_read_4 0 rfl rfl)
theorem dX3_read_97 : decode cX3_read 97 = .ok (.iconst 0, 1) := dk_3 (dk_at dksX3_read_4 1 rfl rfl)
theorem dX3_read_98 : decode cX3_read 98 = .ok (.iload_n 2, 1) := dk_28 (dk_at dksX3_read_4 2 rfl rfl)
theorem dX3_read_99 : decode cX3_read 99 = .ok (.invokestatic 113, 3) := dk_184 0 113 (dk_at dksX3_read_4 3 rfl rfl)
theorem dX3_read_102 : decode cX3_read 102 = .ok (.new 119, 3) := dk_187 0 119 (dk_at dksX3_read_4 6 rfl rfl)
theorem dX3_read_105 : decode cX3_read 105 = .ok (.dup, 1) := dk_89 (dk_at dksX3_read_4 9 rfl rfl)
theorem dX3_read_106 : decode cX3_read 106 = .ok (.aload_n 3, 1) := dk_45 (dk_at dksX3_read_4 10 rfl rfl)
theorem dX3_read_107 : decode cX3_read 107 = .ok (.invokespecial 121, 3) := dk_183 0 121 (dk_at dksX3_read_4 11 rfl rfl)
theorem dX3_read_110 : decode cX3_read 110 = .ok (.areturn, 1) := dk_176 (dk_at dksX3_read_4 14 rfl rfl)
abbrev cX3_next : ByteArray := prog_15_method_3_code
def yX3_next : MethodName := ⟨RX3, "next", "()V"⟩
def dkwX3_next_8 : List UInt8 := [181, 0, 77, 167, 255, 188, 177]
abbrev dktX3_next_8 : List UInt8 := dkwX3_next_8 ++ []
def dkwX3_next_7 : List UInt8 := [180, 0, 3, 180, 0, 124, 42, 180, 0, 77, 51, 184, 0, 132, 153, 0, 16, 42, 89, 180, 0, 77, 4, 96]
abbrev dktX3_next_7 : List UInt8 := dkwX3_next_7 ++ dktX3_next_8
def dkwX3_next_6 : List UInt8 := [180, 0, 3, 180, 0, 124, 42, 180, 0, 77, 51, 184, 0, 128, 154, 0, 25, 28, 153, 0, 34, 42]
abbrev dktX3_next_6 : List UInt8 := dkwX3_next_6 ++ dktX3_next_7
def dkwX3_next_5 : List UInt8 := [181, 0, 77, 42, 180, 0, 77, 42, 180, 0, 3, 180, 0, 110, 162, 0, 60, 27, 153, 0, 21, 42]
abbrev dktX3_next_5 : List UInt8 := dkwX3_next_5 ++ dktX3_next_6
def dkwX3_next_4 : List UInt8 := [180, 0, 3, 180, 0, 124, 42, 180, 0, 77, 51, 184, 0, 132, 61, 42, 89, 180, 0, 77, 4, 96]
abbrev dktX3_next_4 : List UInt8 := dkwX3_next_4 ++ dktX3_next_5
def dkwX3_next_3 : List UInt8 := [180, 0, 110, 160, 0, 4, 177, 42, 180, 0, 3, 180, 0, 124, 42, 180, 0, 77, 51, 184, 0, 128, 60, 42]
abbrev dktX3_next_3 : List UInt8 := dkwX3_next_3 ++ dktX3_next_4
def dkwX3_next_2 : List UInt8 := [181, 0, 107, 167, 255, 215, 42, 42, 180, 0, 107, 181, 0, 77, 42, 180, 0, 77, 42, 180, 0, 3]
abbrev dktX3_next_2 : List UInt8 := dkwX3_next_2 ++ dktX3_next_3
def dkwX3_next_1 : List UInt8 := [180, 0, 3, 180, 0, 124, 42, 180, 0, 107, 51, 16, 32, 160, 0, 16, 42, 89, 180, 0, 107, 4, 96]
abbrev dktX3_next_1 : List UInt8 := dkwX3_next_1 ++ dktX3_next_2
def dkwX3_next_0 : List UInt8 := [42, 42, 180, 0, 77, 181, 0, 107, 42, 180, 0, 107, 42, 180, 0, 3, 180, 0, 110, 162, 0, 33, 42]
abbrev dktX3_next_0 : List UInt8 := dkwX3_next_0 ++ dktX3_next_1
theorem dksX3_next_0 : cX3_next.data.toList.drop 0 = dktX3_next_0 := by decide +kernel
theorem dksX3_next_1 : cX3_next.data.toList.drop 23 = dktX3_next_1 := dk_seg dksX3_next_0 23 rfl rfl
theorem dksX3_next_2 : cX3_next.data.toList.drop 46 = dktX3_next_2 := dk_seg dksX3_next_1 23 rfl rfl
theorem dksX3_next_3 : cX3_next.data.toList.drop 68 = dktX3_next_3 := dk_seg dksX3_next_2 22 rfl rfl
theorem dksX3_next_4 : cX3_next.data.toList.drop 92 = dktX3_next_4 := dk_seg dksX3_next_3 24 rfl rfl
theorem dksX3_next_5 : cX3_next.data.toList.drop 114 = dktX3_next_5 := dk_seg dksX3_next_4 22 rfl rfl
theorem dksX3_next_6 : cX3_next.data.toList.drop 136 = dktX3_next_6 := dk_seg dksX3_next_5 22 rfl rfl
theorem dksX3_next_7 : cX3_next.data.toList.drop 158 = dktX3_next_7 := dk_seg dksX3_next_6 22 rfl rfl
theorem dksX3_next_8 : cX3_next.data.toList.drop 182 = dktX3_next_8 := dk_seg dksX3_next_7 24 rfl rfl
theorem dX3_next_0 : decode cX3_next 0 = .ok (.aload_n 0, 1) := dk_42 (dk_at dksX3_next_0 0 rfl rfl)
theorem dX3_next_1 : decode cX3_next 1 = .ok (.aload_n 0, 1) := dk_42 (dk_at dksX3_next_0 1 rfl rfl)
theorem dX3_next_2 : decode cX3_next 2 = .ok (.getfield 77, 3) := dk_180 0 77 (dk_at dksX3_next_0 2 rfl rfl)
theorem dX3_next_5 : decode cX3_next 5 = .ok (.putfield 107, 3) := dk_181 0 107 (dk_at dksX3_next_0 5 rfl rfl)
theorem dX3_next_8 : decode cX3_next 8 = .ok (.aload_n 0, 1) := dk_42 (dk_at dksX3_next_0 8 rfl rfl)
theorem dX3_next_9 : decode cX3_next 9 = .ok (.getfield 107, 3) := dk_180 0 107 (dk_at dksX3_next_0 9 rfl rfl)
theorem dX3_next_12 : decode cX3_next 12 = .ok (.aload_n 0, 1) := dk_42 (dk_at dksX3_next_0 12 rfl rfl)
theorem dX3_next_13 : decode cX3_next 13 = .ok (.getfield 3, 3) := dk_180 0 3 (dk_at dksX3_next_0 13 rfl rfl)
theorem dX3_next_16 : decode cX3_next 16 = .ok (.getfield 110, 3) := dk_180 0 110 (dk_at dksX3_next_0 16 rfl rfl)
theorem dX3_next_19 : decode cX3_next 19 = .ok (.if_icmp .ge 33, 3) := dk_162 0 33 (dk_at dksX3_next_0 19 rfl rfl)
theorem dX3_next_22 : decode cX3_next 22 = .ok (.aload_n 0, 1) := dk_42 (dk_at dksX3_next_0 22 rfl rfl)
theorem dX3_next_23 : decode cX3_next 23 = .ok (.getfield 3, 3) := dk_180 0 3 (dk_at dksX3_next_1 0 rfl rfl)
theorem dX3_next_26 : decode cX3_next 26 = .ok (.getfield 124, 3) := dk_180 0 124 (dk_at dksX3_next_1 3 rfl rfl)
theorem dX3_next_29 : decode cX3_next 29 = .ok (.aload_n 0, 1) := dk_42 (dk_at dksX3_next_1 6 rfl rfl)
theorem dX3_next_30 : decode cX3_next 30 = .ok (.getfield 107, 3) := dk_180 0 107 (dk_at dksX3_next_1 7 rfl rfl)
theorem dX3_next_33 : decode cX3_next 33 = .ok (.baload, 1) := dk_51 (dk_at dksX3_next_1 10 rfl rfl)
theorem dX3_next_34 : decode cX3_next 34 = .ok (.bipush 32, 2) := dk_16 32 (dk_at dksX3_next_1 11 rfl rfl)
theorem dX3_next_36 : decode cX3_next 36 = .ok (.if_icmp .ne 16, 3) := dk_160 0 16 (dk_at dksX3_next_1 13 rfl rfl)
theorem dX3_next_39 : decode cX3_next 39 = .ok (.aload_n 0, 1) := dk_42 (dk_at dksX3_next_1 16 rfl rfl)
theorem dX3_next_40 : decode cX3_next 40 = .ok (.dup, 1) := dk_89 (dk_at dksX3_next_1 17 rfl rfl)
theorem dX3_next_41 : decode cX3_next 41 = .ok (.getfield 107, 3) := dk_180 0 107 (dk_at dksX3_next_1 18 rfl rfl)
theorem dX3_next_44 : decode cX3_next 44 = .ok (.iconst 1, 1) := dk_4 (dk_at dksX3_next_1 21 rfl rfl)
theorem dX3_next_45 : decode cX3_next 45 = .ok (.iadd, 1) := dk_96 (dk_at dksX3_next_1 22 rfl rfl)
theorem dX3_next_46 : decode cX3_next 46 = .ok (.putfield 107, 3) := dk_181 0 107 (dk_at dksX3_next_2 0 rfl rfl)
theorem dX3_next_49 : decode cX3_next 49 = .ok (.goto (-41), 3) := dk_167 255 215 (dk_at dksX3_next_2 3 rfl rfl)
theorem dX3_next_52 : decode cX3_next 52 = .ok (.aload_n 0, 1) := dk_42 (dk_at dksX3_next_2 6 rfl rfl)
theorem dX3_next_53 : decode cX3_next 53 = .ok (.aload_n 0, 1) := dk_42 (dk_at dksX3_next_2 7 rfl rfl)
theorem dX3_next_54 : decode cX3_next 54 = .ok (.getfield 107, 3) := dk_180 0 107 (dk_at dksX3_next_2 8 rfl rfl)
theorem dX3_next_57 : decode cX3_next 57 = .ok (.putfield 77, 3) := dk_181 0 77 (dk_at dksX3_next_2 11 rfl rfl)
theorem dX3_next_60 : decode cX3_next 60 = .ok (.aload_n 0, 1) := dk_42 (dk_at dksX3_next_2 14 rfl rfl)
theorem dX3_next_61 : decode cX3_next 61 = .ok (.getfield 77, 3) := dk_180 0 77 (dk_at dksX3_next_2 15 rfl rfl)
theorem dX3_next_64 : decode cX3_next 64 = .ok (.aload_n 0, 1) := dk_42 (dk_at dksX3_next_2 18 rfl rfl)
theorem dX3_next_65 : decode cX3_next 65 = .ok (.getfield 3, 3) := dk_180 0 3 (dk_at dksX3_next_2 19 rfl rfl)
theorem dX3_next_68 : decode cX3_next 68 = .ok (.getfield 110, 3) := dk_180 0 110 (dk_at dksX3_next_3 0 rfl rfl)
theorem dX3_next_71 : decode cX3_next 71 = .ok (.if_icmp .ne 4, 3) := dk_160 0 4 (dk_at dksX3_next_3 3 rfl rfl)
theorem dX3_next_74 : decode cX3_next 74 = .ok (.return_, 1) := dk_177 (dk_at dksX3_next_3 6 rfl rfl)
theorem dX3_next_75 : decode cX3_next 75 = .ok (.aload_n 0, 1) := dk_42 (dk_at dksX3_next_3 7 rfl rfl)
theorem dX3_next_76 : decode cX3_next 76 = .ok (.getfield 3, 3) := dk_180 0 3 (dk_at dksX3_next_3 8 rfl rfl)
theorem dX3_next_79 : decode cX3_next 79 = .ok (.getfield 124, 3) := dk_180 0 124 (dk_at dksX3_next_3 11 rfl rfl)
theorem dX3_next_82 : decode cX3_next 82 = .ok (.aload_n 0, 1) := dk_42 (dk_at dksX3_next_3 14 rfl rfl)
theorem dX3_next_83 : decode cX3_next 83 = .ok (.getfield 77, 3) := dk_180 0 77 (dk_at dksX3_next_3 15 rfl rfl)
theorem dX3_next_86 : decode cX3_next 86 = .ok (.baload, 1) := dk_51 (dk_at dksX3_next_3 18 rfl rfl)
theorem dX3_next_87 : decode cX3_next 87 = .ok (.invokestatic 128, 3) := dk_184 0 128 (dk_at dksX3_next_3 19 rfl rfl)
theorem dX3_next_90 : decode cX3_next 90 = .ok (.istore_n 1, 1) := dk_60 (dk_at dksX3_next_3 22 rfl rfl)
theorem dX3_next_91 : decode cX3_next 91 = .ok (.aload_n 0, 1) := dk_42 (dk_at dksX3_next_3 23 rfl rfl)
theorem dX3_next_92 : decode cX3_next 92 = .ok (.getfield 3, 3) := dk_180 0 3 (dk_at dksX3_next_4 0 rfl rfl)
theorem dX3_next_95 : decode cX3_next 95 = .ok (.getfield 124, 3) := dk_180 0 124 (dk_at dksX3_next_4 3 rfl rfl)
theorem dX3_next_98 : decode cX3_next 98 = .ok (.aload_n 0, 1) := dk_42 (dk_at dksX3_next_4 6 rfl rfl)
theorem dX3_next_99 : decode cX3_next 99 = .ok (.getfield 77, 3) := dk_180 0 77 (dk_at dksX3_next_4 7 rfl rfl)
theorem dX3_next_102 : decode cX3_next 102 = .ok (.baload, 1) := dk_51 (dk_at dksX3_next_4 10 rfl rfl)
theorem dX3_next_103 : decode cX3_next 103 = .ok (.invokestatic 132, 3) := dk_184 0 132 (dk_at dksX3_next_4 11 rfl rfl)
theorem dX3_next_106 : decode cX3_next 106 = .ok (.istore_n 2, 1) := dk_61 (dk_at dksX3_next_4 14 rfl rfl)
theorem dX3_next_107 : decode cX3_next 107 = .ok (.aload_n 0, 1) := dk_42 (dk_at dksX3_next_4 15 rfl rfl)
theorem dX3_next_108 : decode cX3_next 108 = .ok (.dup, 1) := dk_89 (dk_at dksX3_next_4 16 rfl rfl)
theorem dX3_next_109 : decode cX3_next 109 = .ok (.getfield 77, 3) := dk_180 0 77 (dk_at dksX3_next_4 17 rfl rfl)
theorem dX3_next_112 : decode cX3_next 112 = .ok (.iconst 1, 1) := dk_4 (dk_at dksX3_next_4 20 rfl rfl)
theorem dX3_next_113 : decode cX3_next 113 = .ok (.iadd, 1) := dk_96 (dk_at dksX3_next_4 21 rfl rfl)
theorem dX3_next_114 : decode cX3_next 114 = .ok (.putfield 77, 3) := dk_181 0 77 (dk_at dksX3_next_5 0 rfl rfl)
theorem dX3_next_117 : decode cX3_next 117 = .ok (.aload_n 0, 1) := dk_42 (dk_at dksX3_next_5 3 rfl rfl)
theorem dX3_next_118 : decode cX3_next 118 = .ok (.getfield 77, 3) := dk_180 0 77 (dk_at dksX3_next_5 4 rfl rfl)
theorem dX3_next_121 : decode cX3_next 121 = .ok (.aload_n 0, 1) := dk_42 (dk_at dksX3_next_5 7 rfl rfl)
theorem dX3_next_122 : decode cX3_next 122 = .ok (.getfield 3, 3) := dk_180 0 3 (dk_at dksX3_next_5 8 rfl rfl)
theorem dX3_next_125 : decode cX3_next 125 = .ok (.getfield 110, 3) := dk_180 0 110 (dk_at dksX3_next_5 11 rfl rfl)
theorem dX3_next_128 : decode cX3_next 128 = .ok (.if_icmp .ge 60, 3) := dk_162 0 60 (dk_at dksX3_next_5 14 rfl rfl)
theorem dX3_next_131 : decode cX3_next 131 = .ok (.iload_n 1, 1) := dk_27 (dk_at dksX3_next_5 17 rfl rfl)
theorem dX3_next_132 : decode cX3_next 132 = .ok (.ifCond .eq 21, 3) := dk_153 0 21 (dk_at dksX3_next_5 18 rfl rfl)
theorem dX3_next_135 : decode cX3_next 135 = .ok (.aload_n 0, 1) := dk_42 (dk_at dksX3_next_5 21 rfl rfl)
theorem dX3_next_136 : decode cX3_next 136 = .ok (.getfield 3, 3) := dk_180 0 3 (dk_at dksX3_next_6 0 rfl rfl)
theorem dX3_next_139 : decode cX3_next 139 = .ok (.getfield 124, 3) := dk_180 0 124 (dk_at dksX3_next_6 3 rfl rfl)
theorem dX3_next_142 : decode cX3_next 142 = .ok (.aload_n 0, 1) := dk_42 (dk_at dksX3_next_6 6 rfl rfl)
theorem dX3_next_143 : decode cX3_next 143 = .ok (.getfield 77, 3) := dk_180 0 77 (dk_at dksX3_next_6 7 rfl rfl)
theorem dX3_next_146 : decode cX3_next 146 = .ok (.baload, 1) := dk_51 (dk_at dksX3_next_6 10 rfl rfl)
theorem dX3_next_147 : decode cX3_next 147 = .ok (.invokestatic 128, 3) := dk_184 0 128 (dk_at dksX3_next_6 11 rfl rfl)
theorem dX3_next_150 : decode cX3_next 150 = .ok (.ifCond .ne 25, 3) := dk_154 0 25 (dk_at dksX3_next_6 14 rfl rfl)
theorem dX3_next_153 : decode cX3_next 153 = .ok (.iload_n 2, 1) := dk_28 (dk_at dksX3_next_6 17 rfl rfl)
theorem dX3_next_154 : decode cX3_next 154 = .ok (.ifCond .eq 34, 3) := dk_153 0 34 (dk_at dksX3_next_6 18 rfl rfl)
theorem dX3_next_157 : decode cX3_next 157 = .ok (.aload_n 0, 1) := dk_42 (dk_at dksX3_next_6 21 rfl rfl)
theorem dX3_next_158 : decode cX3_next 158 = .ok (.getfield 3, 3) := dk_180 0 3 (dk_at dksX3_next_7 0 rfl rfl)
theorem dX3_next_161 : decode cX3_next 161 = .ok (.getfield 124, 3) := dk_180 0 124 (dk_at dksX3_next_7 3 rfl rfl)
theorem dX3_next_164 : decode cX3_next 164 = .ok (.aload_n 0, 1) := dk_42 (dk_at dksX3_next_7 6 rfl rfl)
theorem dX3_next_165 : decode cX3_next 165 = .ok (.getfield 77, 3) := dk_180 0 77 (dk_at dksX3_next_7 7 rfl rfl)
theorem dX3_next_168 : decode cX3_next 168 = .ok (.baload, 1) := dk_51 (dk_at dksX3_next_7 10 rfl rfl)
theorem dX3_next_169 : decode cX3_next 169 = .ok (.invokestatic 132, 3) := dk_184 0 132 (dk_at dksX3_next_7 11 rfl rfl)
theorem dX3_next_172 : decode cX3_next 172 = .ok (.ifCond .eq 16, 3) := dk_153 0 16 (dk_at dksX3_next_7 14 rfl rfl)
theorem dX3_next_175 : decode cX3_next 175 = .ok (.aload_n 0, 1) := dk_42 (dk_at dksX3_next_7 17 rfl rfl)
theorem dX3_next_176 : decode cX3_next 176 = .ok (.dup, 1) := dk_89 (dk_at dksX3_next_7 18 rfl rfl)
theorem dX3_next_177 : decode cX3_next 177 = .ok (.getfield 77, 3) := dk_180 0 77 (dk_at dksX3_next_7 19 rfl rfl)
theorem dX3_next_180 : decode cX3_next 180 = .ok (.iconst 1, 1) := dk_4 (dk_at dksX3_next_7 22 rfl rfl)
theorem dX3_next_181 : decode cX3_next 181 = .ok (.iadd, 1) := dk_96 (dk_at dksX3_next_7 23 rfl rfl)
theorem dX3_next_182 : decode cX3_next 182 = .ok (.putfield 77, 3) := dk_181 0 77 (dk_at dksX3_next_8 0 rfl rfl)
theorem dX3_next_185 : decode cX3_next 185 = .ok (.goto (-68), 3) := dk_167 255 188 (dk_at dksX3_next_8 3 rfl rfl)
theorem dX3_next_188 : decode cX3_next 188 = .ok (.return_, 1) := dk_177 (dk_at dksX3_next_8 6 rfl rfl)
abbrev cX3_must : ByteArray := prog_15_method_7_code
def yX3_must : MethodName := ⟨RX3, "must", "(Z)V"⟩
def dkwX3_must_0 : List UInt8 := [27, 154, 0, 15, 187, 0, 146, 89, 42, 180, 0, 107, 183, 0, 148, 191, 177]
abbrev dktX3_must_0 : List UInt8 := dkwX3_must_0 ++ []
theorem dksX3_must_0 : cX3_must.data.toList.drop 0 = dktX3_must_0 := by decide +kernel
theorem dX3_must_0 : decode cX3_must 0 = .ok (.iload_n 1, 1) := dk_27 (dk_at dksX3_must_0 0 rfl rfl)
theorem dX3_must_1 : decode cX3_must 1 = .ok (.ifCond .ne 15, 3) := dk_154 0 15 (dk_at dksX3_must_0 1 rfl rfl)
theorem dX3_must_4 : decode cX3_must 4 = .ok (.new 146, 3) := dk_187 0 146 (dk_at dksX3_must_0 4 rfl rfl)
theorem dX3_must_7 : decode cX3_must 7 = .ok (.dup, 1) := dk_89 (dk_at dksX3_must_0 7 rfl rfl)
theorem dX3_must_8 : decode cX3_must 8 = .ok (.aload_n 0, 1) := dk_42 (dk_at dksX3_must_0 8 rfl rfl)
theorem dX3_must_9 : decode cX3_must 9 = .ok (.getfield 107, 3) := dk_180 0 107 (dk_at dksX3_must_0 9 rfl rfl)
theorem dX3_must_12 : decode cX3_must 12 = .ok (.invokespecial 148, 3) := dk_183 0 148 (dk_at dksX3_must_0 12 rfl rfl)
theorem dX3_must_15 : decode cX3_must 15 = .ok (.athrow, 1) := dk_191 (dk_at dksX3_must_0 15 rfl rfl)
theorem dX3_must_16 : decode cX3_must 16 = .ok (.return_, 1) := dk_177 (dk_at dksX3_must_0 16 rfl rfl)
abbrev cX3_clause : ByteArray := prog_15_method_9_code
def yX3_clause : MethodName := ⟨RX3, "clause", "()LBrothFlasks$Clause;"⟩
def dkwX3_clause_3 : List UInt8 := [183, 0, 165, 176]
abbrev dktX3_clause_3 : List UInt8 := dkwX3_clause_3 ++ []
def dkwX3_clause_2 : List UInt8 := [18, 159, 182, 0, 103, 153, 0, 10, 42, 182, 0, 161, 167, 0, 4, 1, 78, 187, 0, 75, 89, 27, 44, 45]
abbrev dktX3_clause_2 : List UInt8 := dkwX3_clause_2 ++ dktX3_clause_3
def dkwX3_clause_1 : List UInt8 := [182, 0, 90, 27, 5, 159, 0, 8, 27, 6, 160, 0, 10, 42, 182, 0, 155, 167, 0, 4, 1, 77, 42]
abbrev dktX3_clause_1 : List UInt8 := dkwX3_clause_1 ++ dktX3_clause_2
def dkwX3_clause_0 : List UInt8 := [42, 42, 180, 0, 72, 182, 0, 151, 60, 42, 27, 2, 159, 0, 7, 4, 167, 0, 4, 3, 182, 0, 93, 42]
abbrev dktX3_clause_0 : List UInt8 := dkwX3_clause_0 ++ dktX3_clause_1
theorem dksX3_clause_0 : cX3_clause.data.toList.drop 0 = dktX3_clause_0 := by decide +kernel
theorem dksX3_clause_1 : cX3_clause.data.toList.drop 24 = dktX3_clause_1 := dk_seg dksX3_clause_0 24 rfl rfl
theorem dksX3_clause_2 : cX3_clause.data.toList.drop 47 = dktX3_clause_2 := dk_seg dksX3_clause_1 23 rfl rfl
theorem dksX3_clause_3 : cX3_clause.data.toList.drop 71 = dktX3_clause_3 := dk_seg dksX3_clause_2 24 rfl rfl
theorem dX3_clause_0 : decode cX3_clause 0 = .ok (.aload_n 0, 1) := dk_42 (dk_at dksX3_clause_0 0 rfl rfl)
theorem dX3_clause_1 : decode cX3_clause 1 = .ok (.aload_n 0, 1) := dk_42 (dk_at dksX3_clause_0 1 rfl rfl)
theorem dX3_clause_2 : decode cX3_clause 2 = .ok (.getfield 72, 3) := dk_180 0 72 (dk_at dksX3_clause_0 2 rfl rfl)
theorem dX3_clause_5 : decode cX3_clause 5 = .ok (.invokevirtual 151, 3) := dk_182 0 151 (dk_at dksX3_clause_0 5 rfl rfl)
theorem dX3_clause_8 : decode cX3_clause 8 = .ok (.istore_n 1, 1) := dk_60 (dk_at dksX3_clause_0 8 rfl rfl)
theorem dX3_clause_9 : decode cX3_clause 9 = .ok (.aload_n 0, 1) := dk_42 (dk_at dksX3_clause_0 9 rfl rfl)
theorem dX3_clause_10 : decode cX3_clause 10 = .ok (.iload_n 1, 1) := dk_27 (dk_at dksX3_clause_0 10 rfl rfl)
theorem dX3_clause_11 : decode cX3_clause 11 = .ok (.iconst (-1), 1) := dk_2 (dk_at dksX3_clause_0 11 rfl rfl)
theorem dX3_clause_12 : decode cX3_clause 12 = .ok (.if_icmp .eq 7, 3) := dk_159 0 7 (dk_at dksX3_clause_0 12 rfl rfl)
theorem dX3_clause_15 : decode cX3_clause 15 = .ok (.iconst 1, 1) := dk_4 (dk_at dksX3_clause_0 15 rfl rfl)
theorem dX3_clause_16 : decode cX3_clause 16 = .ok (.goto 4, 3) := dk_167 0 4 (dk_at dksX3_clause_0 16 rfl rfl)
theorem dX3_clause_19 : decode cX3_clause 19 = .ok (.iconst 0, 1) := dk_3 (dk_at dksX3_clause_0 19 rfl rfl)
theorem dX3_clause_20 : decode cX3_clause 20 = .ok (.invokevirtual 93, 3) := dk_182 0 93 (dk_at dksX3_clause_0 20 rfl rfl)
theorem dX3_clause_23 : decode cX3_clause 23 = .ok (.aload_n 0, 1) := dk_42 (dk_at dksX3_clause_0 23 rfl rfl)
theorem dX3_clause_24 : decode cX3_clause 24 = .ok (.invokevirtual 90, 3) := dk_182 0 90 (dk_at dksX3_clause_1 0 rfl rfl)
theorem dX3_clause_27 : decode cX3_clause 27 = .ok (.iload_n 1, 1) := dk_27 (dk_at dksX3_clause_1 3 rfl rfl)
theorem dX3_clause_28 : decode cX3_clause 28 = .ok (.iconst 2, 1) := dk_5 (dk_at dksX3_clause_1 4 rfl rfl)
theorem dX3_clause_29 : decode cX3_clause 29 = .ok (.if_icmp .eq 8, 3) := dk_159 0 8 (dk_at dksX3_clause_1 5 rfl rfl)
theorem dX3_clause_32 : decode cX3_clause 32 = .ok (.iload_n 1, 1) := dk_27 (dk_at dksX3_clause_1 8 rfl rfl)
theorem dX3_clause_33 : decode cX3_clause 33 = .ok (.iconst 3, 1) := dk_6 (dk_at dksX3_clause_1 9 rfl rfl)
theorem dX3_clause_34 : decode cX3_clause 34 = .ok (.if_icmp .ne 10, 3) := dk_160 0 10 (dk_at dksX3_clause_1 10 rfl rfl)
theorem dX3_clause_37 : decode cX3_clause 37 = .ok (.aload_n 0, 1) := dk_42 (dk_at dksX3_clause_1 13 rfl rfl)
theorem dX3_clause_38 : decode cX3_clause 38 = .ok (.invokevirtual 155, 3) := dk_182 0 155 (dk_at dksX3_clause_1 14 rfl rfl)
theorem dX3_clause_41 : decode cX3_clause 41 = .ok (.goto 4, 3) := dk_167 0 4 (dk_at dksX3_clause_1 17 rfl rfl)
theorem dX3_clause_44 : decode cX3_clause 44 = .ok (.aconst_null, 1) := dk_1 (dk_at dksX3_clause_1 20 rfl rfl)
theorem dX3_clause_45 : decode cX3_clause 45 = .ok (.astore_n 2, 1) := dk_77 (dk_at dksX3_clause_1 21 rfl rfl)
theorem dX3_clause_46 : decode cX3_clause 46 = .ok (.aload_n 0, 1) := dk_42 (dk_at dksX3_clause_1 22 rfl rfl)
theorem dX3_clause_47 : decode cX3_clause 47 = .ok (.ldc 159, 2) := dk_18 159 (dk_at dksX3_clause_2 0 rfl rfl)
theorem dX3_clause_49 : decode cX3_clause 49 = .ok (.invokevirtual 103, 3) := dk_182 0 103 (dk_at dksX3_clause_2 2 rfl rfl)
theorem dX3_clause_52 : decode cX3_clause 52 = .ok (.ifCond .eq 10, 3) := dk_153 0 10 (dk_at dksX3_clause_2 5 rfl rfl)
theorem dX3_clause_55 : decode cX3_clause 55 = .ok (.aload_n 0, 1) := dk_42 (dk_at dksX3_clause_2 8 rfl rfl)
theorem dX3_clause_56 : decode cX3_clause 56 = .ok (.invokevirtual 161, 3) := dk_182 0 161 (dk_at dksX3_clause_2 9 rfl rfl)
theorem dX3_clause_59 : decode cX3_clause 59 = .ok (.goto 4, 3) := dk_167 0 4 (dk_at dksX3_clause_2 12 rfl rfl)
theorem dX3_clause_62 : decode cX3_clause 62 = .ok (.aconst_null, 1) := dk_1 (dk_at dksX3_clause_2 15 rfl rfl)
theorem dX3_clause_63 : decode cX3_clause 63 = .ok (.astore_n 3, 1) := dk_78 (dk_at dksX3_clause_2 16 rfl rfl)
theorem dX3_clause_64 : decode cX3_clause 64 = .ok (.new 75, 3) := dk_187 0 75 (dk_at dksX3_clause_2 17 rfl rfl)
theorem dX3_clause_67 : decode cX3_clause 67 = .ok (.dup, 1) := dk_89 (dk_at dksX3_clause_2 20 rfl rfl)
theorem dX3_clause_68 : decode cX3_clause 68 = .ok (.iload_n 1, 1) := dk_27 (dk_at dksX3_clause_2 21 rfl rfl)
theorem dX3_clause_69 : decode cX3_clause 69 = .ok (.aload_n 2, 1) := dk_44 (dk_at dksX3_clause_2 22 rfl rfl)
theorem dX3_clause_70 : decode cX3_clause 70 = .ok (.aload_n 3, 1) := dk_45 (dk_at dksX3_clause_2 23 rfl rfl)
theorem dX3_clause_71 : decode cX3_clause 71 = .ok (.invokespecial 165, 3) := dk_183 0 165 (dk_at dksX3_clause_3 0 rfl rfl)
theorem dX3_clause_74 : decode cX3_clause 74 = .ok (.areturn, 1) := dk_176 (dk_at dksX3_clause_3 3 rfl rfl)
abbrev cX3_which : ByteArray := prog_15_method_5_code
def yX3_which : MethodName := ⟨RX3, "which", "([Ljava/lang/String;)I"⟩
def dkwX3_which_1 : List UInt8 := [167, 255, 235, 2, 172]
abbrev dktX3_which_1 : List UInt8 := dkwX3_which_1 ++ []
def dkwX3_which_0 : List UInt8 := [3, 61, 28, 43, 190, 162, 0, 21, 42, 43, 28, 50, 182, 0, 143, 153, 0, 5, 28, 172, 132, 2, 1]
abbrev dktX3_which_0 : List UInt8 := dkwX3_which_0 ++ dktX3_which_1
theorem dksX3_which_0 : cX3_which.data.toList.drop 0 = dktX3_which_0 := by decide +kernel
theorem dksX3_which_1 : cX3_which.data.toList.drop 23 = dktX3_which_1 := dk_seg dksX3_which_0 23 rfl rfl
theorem dX3_which_0 : decode cX3_which 0 = .ok (.iconst 0, 1) := dk_3 (dk_at dksX3_which_0 0 rfl rfl)
theorem dX3_which_1 : decode cX3_which 1 = .ok (.istore_n 2, 1) := dk_61 (dk_at dksX3_which_0 1 rfl rfl)
theorem dX3_which_2 : decode cX3_which 2 = .ok (.iload_n 2, 1) := dk_28 (dk_at dksX3_which_0 2 rfl rfl)
theorem dX3_which_3 : decode cX3_which 3 = .ok (.aload_n 1, 1) := dk_43 (dk_at dksX3_which_0 3 rfl rfl)
theorem dX3_which_4 : decode cX3_which 4 = .ok (.arraylength, 1) := dk_190 (dk_at dksX3_which_0 4 rfl rfl)
theorem dX3_which_5 : decode cX3_which 5 = .ok (.if_icmp .ge 21, 3) := dk_162 0 21 (dk_at dksX3_which_0 5 rfl rfl)
theorem dX3_which_8 : decode cX3_which 8 = .ok (.aload_n 0, 1) := dk_42 (dk_at dksX3_which_0 8 rfl rfl)
theorem dX3_which_9 : decode cX3_which 9 = .ok (.aload_n 1, 1) := dk_43 (dk_at dksX3_which_0 9 rfl rfl)
theorem dX3_which_10 : decode cX3_which 10 = .ok (.iload_n 2, 1) := dk_28 (dk_at dksX3_which_0 10 rfl rfl)
theorem dX3_which_11 : decode cX3_which 11 = .ok (.aaload, 1) := dk_50 (dk_at dksX3_which_0 11 rfl rfl)
theorem dX3_which_12 : decode cX3_which 12 = .ok (.invokevirtual 143, 3) := dk_182 0 143 (dk_at dksX3_which_0 12 rfl rfl)
theorem dX3_which_15 : decode cX3_which 15 = .ok (.ifCond .eq 5, 3) := dk_153 0 5 (dk_at dksX3_which_0 15 rfl rfl)
theorem dX3_which_18 : decode cX3_which 18 = .ok (.iload_n 2, 1) := dk_28 (dk_at dksX3_which_0 18 rfl rfl)
theorem dX3_which_19 : decode cX3_which 19 = .ok (.ireturn, 1) := dk_172 (dk_at dksX3_which_0 19 rfl rfl)
theorem dX3_which_20 : decode cX3_which 20 = .ok (.iinc 2 1, 3) := dk_132 2 1 (dk_at dksX3_which_0 20 rfl rfl)
theorem dX3_which_23 : decode cX3_which 23 = .ok (.goto (-21), 3) := dk_167 255 235 (dk_at dksX3_which_1 0 rfl rfl)
theorem dX3_which_26 : decode cX3_which 26 = .ok (.iconst (-1), 1) := dk_2 (dk_at dksX3_which_1 3 rfl rfl)
theorem dX3_which_27 : decode cX3_which 27 = .ok (.ireturn, 1) := dk_172 (dk_at dksX3_which_1 4 rfl rfl)
abbrev cX3_isWord : ByteArray := prog_15_method_4_code
def yX3_isWord : MethodName := ⟨RX3, "isWord", "(Ljava/lang/String;)Z"⟩
def dkwX3_isWord_2 : List UInt8 := [182, 0, 139, 159, 0, 5, 3, 172, 132, 2, 1, 167, 255, 221, 4, 172]
abbrev dktX3_isWord_2 : List UInt8 := dkwX3_isWord_2 ++ []
def dkwX3_isWord_1 : List UInt8 := [182, 0, 135, 162, 0, 33, 42, 180, 0, 3, 180, 0, 124, 42, 180, 0, 107, 28, 96, 51, 43, 28]
abbrev dktX3_isWord_1 : List UInt8 := dkwX3_isWord_1 ++ dktX3_isWord_2
def dkwX3_isWord_0 : List UInt8 := [42, 180, 0, 77, 42, 180, 0, 107, 100, 43, 182, 0, 135, 159, 0, 5, 3, 172, 3, 61, 28, 43]
abbrev dktX3_isWord_0 : List UInt8 := dkwX3_isWord_0 ++ dktX3_isWord_1
theorem dksX3_isWord_0 : cX3_isWord.data.toList.drop 0 = dktX3_isWord_0 := by decide +kernel
theorem dksX3_isWord_1 : cX3_isWord.data.toList.drop 22 = dktX3_isWord_1 := dk_seg dksX3_isWord_0 22 rfl rfl
theorem dksX3_isWord_2 : cX3_isWord.data.toList.drop 44 = dktX3_isWord_2 := dk_seg dksX3_isWord_1 22 rfl rfl
theorem dX3_isWord_0 : decode cX3_isWord 0 = .ok (.aload_n 0, 1) := dk_42 (dk_at dksX3_isWord_0 0 rfl rfl)
theorem dX3_isWord_1 : decode cX3_isWord 1 = .ok (.getfield 77, 3) := dk_180 0 77 (dk_at dksX3_isWord_0 1 rfl rfl)
theorem dX3_isWord_4 : decode cX3_isWord 4 = .ok (.aload_n 0, 1) := dk_42 (dk_at dksX3_isWord_0 4 rfl rfl)
theorem dX3_isWord_5 : decode cX3_isWord 5 = .ok (.getfield 107, 3) := dk_180 0 107 (dk_at dksX3_isWord_0 5 rfl rfl)
theorem dX3_isWord_8 : decode cX3_isWord 8 = .ok (.isub, 1) := dk_100 (dk_at dksX3_isWord_0 8 rfl rfl)
theorem dX3_isWord_9 : decode cX3_isWord 9 = .ok (.aload_n 1, 1) := dk_43 (dk_at dksX3_isWord_0 9 rfl rfl)
theorem dX3_isWord_10 : decode cX3_isWord 10 = .ok (.invokevirtual 135, 3) := dk_182 0 135 (dk_at dksX3_isWord_0 10 rfl rfl)
theorem dX3_isWord_13 : decode cX3_isWord 13 = .ok (.if_icmp .eq 5, 3) := dk_159 0 5 (dk_at dksX3_isWord_0 13 rfl rfl)
theorem dX3_isWord_16 : decode cX3_isWord 16 = .ok (.iconst 0, 1) := dk_3 (dk_at dksX3_isWord_0 16 rfl rfl)
theorem dX3_isWord_17 : decode cX3_isWord 17 = .ok (.ireturn, 1) := dk_172 (dk_at dksX3_isWord_0 17 rfl rfl)
theorem dX3_isWord_18 : decode cX3_isWord 18 = .ok (.iconst 0, 1) := dk_3 (dk_at dksX3_isWord_0 18 rfl rfl)
theorem dX3_isWord_19 : decode cX3_isWord 19 = .ok (.istore_n 2, 1) := dk_61 (dk_at dksX3_isWord_0 19 rfl rfl)
theorem dX3_isWord_20 : decode cX3_isWord 20 = .ok (.iload_n 2, 1) := dk_28 (dk_at dksX3_isWord_0 20 rfl rfl)
theorem dX3_isWord_21 : decode cX3_isWord 21 = .ok (.aload_n 1, 1) := dk_43 (dk_at dksX3_isWord_0 21 rfl rfl)
theorem dX3_isWord_22 : decode cX3_isWord 22 = .ok (.invokevirtual 135, 3) := dk_182 0 135 (dk_at dksX3_isWord_1 0 rfl rfl)
theorem dX3_isWord_25 : decode cX3_isWord 25 = .ok (.if_icmp .ge 33, 3) := dk_162 0 33 (dk_at dksX3_isWord_1 3 rfl rfl)
theorem dX3_isWord_28 : decode cX3_isWord 28 = .ok (.aload_n 0, 1) := dk_42 (dk_at dksX3_isWord_1 6 rfl rfl)
theorem dX3_isWord_29 : decode cX3_isWord 29 = .ok (.getfield 3, 3) := dk_180 0 3 (dk_at dksX3_isWord_1 7 rfl rfl)
theorem dX3_isWord_32 : decode cX3_isWord 32 = .ok (.getfield 124, 3) := dk_180 0 124 (dk_at dksX3_isWord_1 10 rfl rfl)
theorem dX3_isWord_35 : decode cX3_isWord 35 = .ok (.aload_n 0, 1) := dk_42 (dk_at dksX3_isWord_1 13 rfl rfl)
theorem dX3_isWord_36 : decode cX3_isWord 36 = .ok (.getfield 107, 3) := dk_180 0 107 (dk_at dksX3_isWord_1 14 rfl rfl)
theorem dX3_isWord_39 : decode cX3_isWord 39 = .ok (.iload_n 2, 1) := dk_28 (dk_at dksX3_isWord_1 17 rfl rfl)
theorem dX3_isWord_40 : decode cX3_isWord 40 = .ok (.iadd, 1) := dk_96 (dk_at dksX3_isWord_1 18 rfl rfl)
theorem dX3_isWord_41 : decode cX3_isWord 41 = .ok (.baload, 1) := dk_51 (dk_at dksX3_isWord_1 19 rfl rfl)
theorem dX3_isWord_42 : decode cX3_isWord 42 = .ok (.aload_n 1, 1) := dk_43 (dk_at dksX3_isWord_1 20 rfl rfl)
theorem dX3_isWord_43 : decode cX3_isWord 43 = .ok (.iload_n 2, 1) := dk_28 (dk_at dksX3_isWord_1 21 rfl rfl)
theorem dX3_isWord_44 : decode cX3_isWord 44 = .ok (.invokevirtual 139, 3) := dk_182 0 139 (dk_at dksX3_isWord_2 0 rfl rfl)
theorem dX3_isWord_47 : decode cX3_isWord 47 = .ok (.if_icmp .eq 5, 3) := dk_159 0 5 (dk_at dksX3_isWord_2 3 rfl rfl)
theorem dX3_isWord_50 : decode cX3_isWord 50 = .ok (.iconst 0, 1) := dk_3 (dk_at dksX3_isWord_2 6 rfl rfl)
theorem dX3_isWord_51 : decode cX3_isWord 51 = .ok (.ireturn, 1) := dk_172 (dk_at dksX3_isWord_2 7 rfl rfl)
theorem dX3_isWord_52 : decode cX3_isWord 52 = .ok (.iinc 2 1, 3) := dk_132 2 1 (dk_at dksX3_isWord_2 8 rfl rfl)
theorem dX3_isWord_55 : decode cX3_isWord 55 = .ok (.goto (-35), 3) := dk_167 255 221 (dk_at dksX3_isWord_2 11 rfl rfl)
theorem dX3_isWord_58 : decode cX3_isWord 58 = .ok (.iconst 1, 1) := dk_4 (dk_at dksX3_isWord_2 14 rfl rfl)
theorem dX3_isWord_59 : decode cX3_isWord 59 = .ok (.ireturn, 1) := dk_172 (dk_at dksX3_isWord_2 15 rfl rfl)
abbrev cX3_sum : ByteArray := prog_15_method_18_code
def yX3_sum : MethodName := ⟨RX3, "sum", "()LBrothFlasks$Sum;"⟩
def dkwX3_sum_2 : List UInt8 := [182, 0, 224, 183, 0, 233, 76, 167, 255, 207, 43, 176]
abbrev dktX3_sum_2 : List UInt8 := dkwX3_sum_2 ++ []
def dkwX3_sum_1 : List UInt8 := [180, 0, 3, 180, 0, 124, 42, 180, 0, 107, 51, 61, 42, 182, 0, 90, 187, 0, 231, 89, 43, 28, 42]
abbrev dktX3_sum_1 : List UInt8 := dkwX3_sum_1 ++ dktX3_sum_2
def dkwX3_sum_0 : List UInt8 := [42, 182, 0, 224, 76, 42, 18, 227, 182, 0, 143, 154, 0, 12, 42, 18, 229, 182, 0, 143, 153, 0, 37, 42]
abbrev dktX3_sum_0 : List UInt8 := dkwX3_sum_0 ++ dktX3_sum_1
theorem dksX3_sum_0 : cX3_sum.data.toList.drop 0 = dktX3_sum_0 := by decide +kernel
theorem dksX3_sum_1 : cX3_sum.data.toList.drop 24 = dktX3_sum_1 := dk_seg dksX3_sum_0 24 rfl rfl
theorem dksX3_sum_2 : cX3_sum.data.toList.drop 47 = dktX3_sum_2 := dk_seg dksX3_sum_1 23 rfl rfl
theorem dX3_sum_0 : decode cX3_sum 0 = .ok (.aload_n 0, 1) := dk_42 (dk_at dksX3_sum_0 0 rfl rfl)
theorem dX3_sum_1 : decode cX3_sum 1 = .ok (.invokevirtual 224, 3) := dk_182 0 224 (dk_at dksX3_sum_0 1 rfl rfl)
theorem dX3_sum_4 : decode cX3_sum 4 = .ok (.astore_n 1, 1) := dk_76 (dk_at dksX3_sum_0 4 rfl rfl)
theorem dX3_sum_5 : decode cX3_sum 5 = .ok (.aload_n 0, 1) := dk_42 (dk_at dksX3_sum_0 5 rfl rfl)
theorem dX3_sum_6 : decode cX3_sum 6 = .ok (.ldc 227, 2) := dk_18 227 (dk_at dksX3_sum_0 6 rfl rfl)
theorem dX3_sum_8 : decode cX3_sum 8 = .ok (.invokevirtual 143, 3) := dk_182 0 143 (dk_at dksX3_sum_0 8 rfl rfl)
theorem dX3_sum_11 : decode cX3_sum 11 = .ok (.ifCond .ne 12, 3) := dk_154 0 12 (dk_at dksX3_sum_0 11 rfl rfl)
theorem dX3_sum_14 : decode cX3_sum 14 = .ok (.aload_n 0, 1) := dk_42 (dk_at dksX3_sum_0 14 rfl rfl)
theorem dX3_sum_15 : decode cX3_sum 15 = .ok (.ldc 229, 2) := dk_18 229 (dk_at dksX3_sum_0 15 rfl rfl)
theorem dX3_sum_17 : decode cX3_sum 17 = .ok (.invokevirtual 143, 3) := dk_182 0 143 (dk_at dksX3_sum_0 17 rfl rfl)
theorem dX3_sum_20 : decode cX3_sum 20 = .ok (.ifCond .eq 37, 3) := dk_153 0 37 (dk_at dksX3_sum_0 20 rfl rfl)
theorem dX3_sum_23 : decode cX3_sum 23 = .ok (.aload_n 0, 1) := dk_42 (dk_at dksX3_sum_0 23 rfl rfl)
theorem dX3_sum_24 : decode cX3_sum 24 = .ok (.getfield 3, 3) := dk_180 0 3 (dk_at dksX3_sum_1 0 rfl rfl)
theorem dX3_sum_27 : decode cX3_sum 27 = .ok (.getfield 124, 3) := dk_180 0 124 (dk_at dksX3_sum_1 3 rfl rfl)
theorem dX3_sum_30 : decode cX3_sum 30 = .ok (.aload_n 0, 1) := dk_42 (dk_at dksX3_sum_1 6 rfl rfl)
theorem dX3_sum_31 : decode cX3_sum 31 = .ok (.getfield 107, 3) := dk_180 0 107 (dk_at dksX3_sum_1 7 rfl rfl)
theorem dX3_sum_34 : decode cX3_sum 34 = .ok (.baload, 1) := dk_51 (dk_at dksX3_sum_1 10 rfl rfl)
theorem dX3_sum_35 : decode cX3_sum 35 = .ok (.istore_n 2, 1) := dk_61 (dk_at dksX3_sum_1 11 rfl rfl)
theorem dX3_sum_36 : decode cX3_sum 36 = .ok (.aload_n 0, 1) := dk_42 (dk_at dksX3_sum_1 12 rfl rfl)
theorem dX3_sum_37 : decode cX3_sum 37 = .ok (.invokevirtual 90, 3) := dk_182 0 90 (dk_at dksX3_sum_1 13 rfl rfl)
theorem dX3_sum_40 : decode cX3_sum 40 = .ok (.new 231, 3) := dk_187 0 231 (dk_at dksX3_sum_1 16 rfl rfl)
theorem dX3_sum_43 : decode cX3_sum 43 = .ok (.dup, 1) := dk_89 (dk_at dksX3_sum_1 19 rfl rfl)
theorem dX3_sum_44 : decode cX3_sum 44 = .ok (.aload_n 1, 1) := dk_43 (dk_at dksX3_sum_1 20 rfl rfl)
theorem dX3_sum_45 : decode cX3_sum 45 = .ok (.iload_n 2, 1) := dk_28 (dk_at dksX3_sum_1 21 rfl rfl)
theorem dX3_sum_46 : decode cX3_sum 46 = .ok (.aload_n 0, 1) := dk_42 (dk_at dksX3_sum_1 22 rfl rfl)
theorem dX3_sum_47 : decode cX3_sum 47 = .ok (.invokevirtual 224, 3) := dk_182 0 224 (dk_at dksX3_sum_2 0 rfl rfl)
theorem dX3_sum_50 : decode cX3_sum 50 = .ok (.invokespecial 233, 3) := dk_183 0 233 (dk_at dksX3_sum_2 3 rfl rfl)
theorem dX3_sum_53 : decode cX3_sum 53 = .ok (.astore_n 1, 1) := dk_76 (dk_at dksX3_sum_2 6 rfl rfl)
theorem dX3_sum_54 : decode cX3_sum 54 = .ok (.goto (-49), 3) := dk_167 255 207 (dk_at dksX3_sum_2 7 rfl rfl)
theorem dX3_sum_57 : decode cX3_sum 57 = .ok (.aload_n 1, 1) := dk_43 (dk_at dksX3_sum_2 10 rfl rfl)
theorem dX3_sum_58 : decode cX3_sum 58 = .ok (.areturn, 1) := dk_176 (dk_at dksX3_sum_2 11 rfl rfl)
abbrev cX3_term : ByteArray := prog_15_method_19_code
def yX3_term : MethodName := ⟨RX3, "term", "()LBrothFlasks$Sum;"⟩
def dkwX3_term_2 : List UInt8 := [182, 0, 234, 183, 0, 233, 76, 167, 255, 207, 43, 176]
abbrev dktX3_term_2 : List UInt8 := dkwX3_term_2 ++ []
def dkwX3_term_1 : List UInt8 := [180, 0, 3, 180, 0, 124, 42, 180, 0, 107, 51, 61, 42, 182, 0, 90, 187, 0, 231, 89, 43, 28, 42]
abbrev dktX3_term_1 : List UInt8 := dkwX3_term_1 ++ dktX3_term_2
def dkwX3_term_0 : List UInt8 := [42, 182, 0, 234, 76, 42, 18, 237, 182, 0, 143, 154, 0, 12, 42, 18, 239, 182, 0, 143, 153, 0, 37, 42]
abbrev dktX3_term_0 : List UInt8 := dkwX3_term_0 ++ dktX3_term_1
theorem dksX3_term_0 : cX3_term.data.toList.drop 0 = dktX3_term_0 := by decide +kernel
theorem dksX3_term_1 : cX3_term.data.toList.drop 24 = dktX3_term_1 := dk_seg dksX3_term_0 24 rfl rfl
theorem dksX3_term_2 : cX3_term.data.toList.drop 47 = dktX3_term_2 := dk_seg dksX3_term_1 23 rfl rfl
theorem dX3_term_0 : decode cX3_term 0 = .ok (.aload_n 0, 1) := dk_42 (dk_at dksX3_term_0 0 rfl rfl)
theorem dX3_term_1 : decode cX3_term 1 = .ok (.invokevirtual 234, 3) := dk_182 0 234 (dk_at dksX3_term_0 1 rfl rfl)
theorem dX3_term_4 : decode cX3_term 4 = .ok (.astore_n 1, 1) := dk_76 (dk_at dksX3_term_0 4 rfl rfl)
theorem dX3_term_5 : decode cX3_term 5 = .ok (.aload_n 0, 1) := dk_42 (dk_at dksX3_term_0 5 rfl rfl)
theorem dX3_term_6 : decode cX3_term 6 = .ok (.ldc 237, 2) := dk_18 237 (dk_at dksX3_term_0 6 rfl rfl)
theorem dX3_term_8 : decode cX3_term 8 = .ok (.invokevirtual 143, 3) := dk_182 0 143 (dk_at dksX3_term_0 8 rfl rfl)
theorem dX3_term_11 : decode cX3_term 11 = .ok (.ifCond .ne 12, 3) := dk_154 0 12 (dk_at dksX3_term_0 11 rfl rfl)
theorem dX3_term_14 : decode cX3_term 14 = .ok (.aload_n 0, 1) := dk_42 (dk_at dksX3_term_0 14 rfl rfl)
theorem dX3_term_15 : decode cX3_term 15 = .ok (.ldc 239, 2) := dk_18 239 (dk_at dksX3_term_0 15 rfl rfl)
theorem dX3_term_17 : decode cX3_term 17 = .ok (.invokevirtual 143, 3) := dk_182 0 143 (dk_at dksX3_term_0 17 rfl rfl)
theorem dX3_term_20 : decode cX3_term 20 = .ok (.ifCond .eq 37, 3) := dk_153 0 37 (dk_at dksX3_term_0 20 rfl rfl)
theorem dX3_term_23 : decode cX3_term 23 = .ok (.aload_n 0, 1) := dk_42 (dk_at dksX3_term_0 23 rfl rfl)
theorem dX3_term_24 : decode cX3_term 24 = .ok (.getfield 3, 3) := dk_180 0 3 (dk_at dksX3_term_1 0 rfl rfl)
theorem dX3_term_27 : decode cX3_term 27 = .ok (.getfield 124, 3) := dk_180 0 124 (dk_at dksX3_term_1 3 rfl rfl)
theorem dX3_term_30 : decode cX3_term 30 = .ok (.aload_n 0, 1) := dk_42 (dk_at dksX3_term_1 6 rfl rfl)
theorem dX3_term_31 : decode cX3_term 31 = .ok (.getfield 107, 3) := dk_180 0 107 (dk_at dksX3_term_1 7 rfl rfl)
theorem dX3_term_34 : decode cX3_term 34 = .ok (.baload, 1) := dk_51 (dk_at dksX3_term_1 10 rfl rfl)
theorem dX3_term_35 : decode cX3_term 35 = .ok (.istore_n 2, 1) := dk_61 (dk_at dksX3_term_1 11 rfl rfl)
theorem dX3_term_36 : decode cX3_term 36 = .ok (.aload_n 0, 1) := dk_42 (dk_at dksX3_term_1 12 rfl rfl)
theorem dX3_term_37 : decode cX3_term 37 = .ok (.invokevirtual 90, 3) := dk_182 0 90 (dk_at dksX3_term_1 13 rfl rfl)
theorem dX3_term_40 : decode cX3_term 40 = .ok (.new 231, 3) := dk_187 0 231 (dk_at dksX3_term_1 16 rfl rfl)
theorem dX3_term_43 : decode cX3_term 43 = .ok (.dup, 1) := dk_89 (dk_at dksX3_term_1 19 rfl rfl)
theorem dX3_term_44 : decode cX3_term 44 = .ok (.aload_n 1, 1) := dk_43 (dk_at dksX3_term_1 20 rfl rfl)
theorem dX3_term_45 : decode cX3_term 45 = .ok (.iload_n 2, 1) := dk_28 (dk_at dksX3_term_1 21 rfl rfl)
theorem dX3_term_46 : decode cX3_term 46 = .ok (.aload_n 0, 1) := dk_42 (dk_at dksX3_term_1 22 rfl rfl)
theorem dX3_term_47 : decode cX3_term 47 = .ok (.invokevirtual 234, 3) := dk_182 0 234 (dk_at dksX3_term_2 0 rfl rfl)
theorem dX3_term_50 : decode cX3_term 50 = .ok (.invokespecial 233, 3) := dk_183 0 233 (dk_at dksX3_term_2 3 rfl rfl)
theorem dX3_term_53 : decode cX3_term 53 = .ok (.astore_n 1, 1) := dk_76 (dk_at dksX3_term_2 6 rfl rfl)
theorem dX3_term_54 : decode cX3_term 54 = .ok (.goto (-49), 3) := dk_167 255 207 (dk_at dksX3_term_2 7 rfl rfl)
theorem dX3_term_57 : decode cX3_term 57 = .ok (.aload_n 1, 1) := dk_43 (dk_at dksX3_term_2 10 rfl rfl)
theorem dX3_term_58 : decode cX3_term 58 = .ok (.areturn, 1) := dk_176 (dk_at dksX3_term_2 11 rfl rfl)
abbrev cX3_part : ByteArray := prog_15_method_20_code
def yX3_part : MethodName := ⟨RX3, "part", "()LBrothFlasks$Sum;"⟩
def dkwX3_part_5 : List UInt8 := [183, 0, 255, 176]
abbrev dktX3_part_5 : List UInt8 := dkwX3_part_5 ++ []
def dkwX3_part_4 : List UInt8 := [42, 18, 247, 182, 0, 248, 183, 0, 252, 176, 42, 182, 0, 203, 42, 182, 0, 90, 187, 0, 253, 89, 27]
abbrev dktX3_part_4 : List UInt8 := dkwX3_part_4 ++ dktX3_part_5
def dkwX3_part_3 : List UInt8 := [153, 0, 7, 4, 167, 0, 4, 3, 182, 0, 93, 27, 2, 160, 0, 21, 42, 182, 0, 203, 187, 0, 245, 89]
abbrev dktX3_part_3 : List UInt8 := dkwX3_part_3 ++ dktX3_part_4
def dkwX3_part_2 : List UInt8 := [180, 0, 3, 180, 0, 110, 162, 0, 25, 42, 180, 0, 3, 180, 0, 124, 42, 180, 0, 107, 51, 184, 0, 132]
abbrev dktX3_part_2 : List UInt8 := dkwX3_part_2 ++ dktX3_part_3
def dkwX3_part_1 : List UInt8 := [43, 176, 42, 42, 180, 0, 41, 182, 0, 151, 60, 42, 27, 2, 160, 0, 35, 42, 180, 0, 107, 42]
abbrev dktX3_part_1 : List UInt8 := dkwX3_part_1 ++ dktX3_part_2
def dkwX3_part_0 : List UInt8 := [42, 18, 241, 182, 0, 143, 153, 0, 20, 42, 182, 0, 195, 42, 182, 0, 155, 76, 42, 18, 243, 182, 0, 199]
abbrev dktX3_part_0 : List UInt8 := dkwX3_part_0 ++ dktX3_part_1
theorem dksX3_part_0 : cX3_part.data.toList.drop 0 = dktX3_part_0 := by decide +kernel
theorem dksX3_part_1 : cX3_part.data.toList.drop 24 = dktX3_part_1 := dk_seg dksX3_part_0 24 rfl rfl
theorem dksX3_part_2 : cX3_part.data.toList.drop 46 = dktX3_part_2 := dk_seg dksX3_part_1 22 rfl rfl
theorem dksX3_part_3 : cX3_part.data.toList.drop 70 = dktX3_part_3 := dk_seg dksX3_part_2 24 rfl rfl
theorem dksX3_part_4 : cX3_part.data.toList.drop 94 = dktX3_part_4 := dk_seg dksX3_part_3 24 rfl rfl
theorem dksX3_part_5 : cX3_part.data.toList.drop 117 = dktX3_part_5 := dk_seg dksX3_part_4 23 rfl rfl
theorem dX3_part_0 : decode cX3_part 0 = .ok (.aload_n 0, 1) := dk_42 (dk_at dksX3_part_0 0 rfl rfl)
theorem dX3_part_1 : decode cX3_part 1 = .ok (.ldc 241, 2) := dk_18 241 (dk_at dksX3_part_0 1 rfl rfl)
theorem dX3_part_3 : decode cX3_part 3 = .ok (.invokevirtual 143, 3) := dk_182 0 143 (dk_at dksX3_part_0 3 rfl rfl)
theorem dX3_part_6 : decode cX3_part 6 = .ok (.ifCond .eq 20, 3) := dk_153 0 20 (dk_at dksX3_part_0 6 rfl rfl)
theorem dX3_part_9 : decode cX3_part 9 = .ok (.aload_n 0, 1) := dk_42 (dk_at dksX3_part_0 9 rfl rfl)
theorem dX3_part_10 : decode cX3_part 10 = .ok (.invokevirtual 195, 3) := dk_182 0 195 (dk_at dksX3_part_0 10 rfl rfl)
theorem dX3_part_13 : decode cX3_part 13 = .ok (.aload_n 0, 1) := dk_42 (dk_at dksX3_part_0 13 rfl rfl)
theorem dX3_part_14 : decode cX3_part 14 = .ok (.invokevirtual 155, 3) := dk_182 0 155 (dk_at dksX3_part_0 14 rfl rfl)
theorem dX3_part_17 : decode cX3_part 17 = .ok (.astore_n 1, 1) := dk_76 (dk_at dksX3_part_0 17 rfl rfl)
theorem dX3_part_18 : decode cX3_part 18 = .ok (.aload_n 0, 1) := dk_42 (dk_at dksX3_part_0 18 rfl rfl)
theorem dX3_part_19 : decode cX3_part 19 = .ok (.ldc 243, 2) := dk_18 243 (dk_at dksX3_part_0 19 rfl rfl)
theorem dX3_part_21 : decode cX3_part 21 = .ok (.invokevirtual 199, 3) := dk_182 0 199 (dk_at dksX3_part_0 21 rfl rfl)
theorem dX3_part_24 : decode cX3_part 24 = .ok (.aload_n 1, 1) := dk_43 (dk_at dksX3_part_1 0 rfl rfl)
theorem dX3_part_25 : decode cX3_part 25 = .ok (.areturn, 1) := dk_176 (dk_at dksX3_part_1 1 rfl rfl)
theorem dX3_part_26 : decode cX3_part 26 = .ok (.aload_n 0, 1) := dk_42 (dk_at dksX3_part_1 2 rfl rfl)
theorem dX3_part_27 : decode cX3_part 27 = .ok (.aload_n 0, 1) := dk_42 (dk_at dksX3_part_1 3 rfl rfl)
theorem dX3_part_28 : decode cX3_part 28 = .ok (.getfield 41, 3) := dk_180 0 41 (dk_at dksX3_part_1 4 rfl rfl)
theorem dX3_part_31 : decode cX3_part 31 = .ok (.invokevirtual 151, 3) := dk_182 0 151 (dk_at dksX3_part_1 7 rfl rfl)
theorem dX3_part_34 : decode cX3_part 34 = .ok (.istore_n 1, 1) := dk_60 (dk_at dksX3_part_1 10 rfl rfl)
theorem dX3_part_35 : decode cX3_part 35 = .ok (.aload_n 0, 1) := dk_42 (dk_at dksX3_part_1 11 rfl rfl)
theorem dX3_part_36 : decode cX3_part 36 = .ok (.iload_n 1, 1) := dk_27 (dk_at dksX3_part_1 12 rfl rfl)
theorem dX3_part_37 : decode cX3_part 37 = .ok (.iconst (-1), 1) := dk_2 (dk_at dksX3_part_1 13 rfl rfl)
theorem dX3_part_38 : decode cX3_part 38 = .ok (.if_icmp .ne 35, 3) := dk_160 0 35 (dk_at dksX3_part_1 14 rfl rfl)
theorem dX3_part_41 : decode cX3_part 41 = .ok (.aload_n 0, 1) := dk_42 (dk_at dksX3_part_1 17 rfl rfl)
theorem dX3_part_42 : decode cX3_part 42 = .ok (.getfield 107, 3) := dk_180 0 107 (dk_at dksX3_part_1 18 rfl rfl)
theorem dX3_part_45 : decode cX3_part 45 = .ok (.aload_n 0, 1) := dk_42 (dk_at dksX3_part_1 21 rfl rfl)
theorem dX3_part_46 : decode cX3_part 46 = .ok (.getfield 3, 3) := dk_180 0 3 (dk_at dksX3_part_2 0 rfl rfl)
theorem dX3_part_49 : decode cX3_part 49 = .ok (.getfield 110, 3) := dk_180 0 110 (dk_at dksX3_part_2 3 rfl rfl)
theorem dX3_part_52 : decode cX3_part 52 = .ok (.if_icmp .ge 25, 3) := dk_162 0 25 (dk_at dksX3_part_2 6 rfl rfl)
theorem dX3_part_55 : decode cX3_part 55 = .ok (.aload_n 0, 1) := dk_42 (dk_at dksX3_part_2 9 rfl rfl)
theorem dX3_part_56 : decode cX3_part 56 = .ok (.getfield 3, 3) := dk_180 0 3 (dk_at dksX3_part_2 10 rfl rfl)
theorem dX3_part_59 : decode cX3_part 59 = .ok (.getfield 124, 3) := dk_180 0 124 (dk_at dksX3_part_2 13 rfl rfl)
theorem dX3_part_62 : decode cX3_part 62 = .ok (.aload_n 0, 1) := dk_42 (dk_at dksX3_part_2 16 rfl rfl)
theorem dX3_part_63 : decode cX3_part 63 = .ok (.getfield 107, 3) := dk_180 0 107 (dk_at dksX3_part_2 17 rfl rfl)
theorem dX3_part_66 : decode cX3_part 66 = .ok (.baload, 1) := dk_51 (dk_at dksX3_part_2 20 rfl rfl)
theorem dX3_part_67 : decode cX3_part 67 = .ok (.invokestatic 132, 3) := dk_184 0 132 (dk_at dksX3_part_2 21 rfl rfl)
theorem dX3_part_70 : decode cX3_part 70 = .ok (.ifCond .eq 7, 3) := dk_153 0 7 (dk_at dksX3_part_3 0 rfl rfl)
theorem dX3_part_73 : decode cX3_part 73 = .ok (.iconst 1, 1) := dk_4 (dk_at dksX3_part_3 3 rfl rfl)
theorem dX3_part_74 : decode cX3_part 74 = .ok (.goto 4, 3) := dk_167 0 4 (dk_at dksX3_part_3 4 rfl rfl)
theorem dX3_part_77 : decode cX3_part 77 = .ok (.iconst 0, 1) := dk_3 (dk_at dksX3_part_3 7 rfl rfl)
theorem dX3_part_78 : decode cX3_part 78 = .ok (.invokevirtual 93, 3) := dk_182 0 93 (dk_at dksX3_part_3 8 rfl rfl)
theorem dX3_part_81 : decode cX3_part 81 = .ok (.iload_n 1, 1) := dk_27 (dk_at dksX3_part_3 11 rfl rfl)
theorem dX3_part_82 : decode cX3_part 82 = .ok (.iconst (-1), 1) := dk_2 (dk_at dksX3_part_3 12 rfl rfl)
theorem dX3_part_83 : decode cX3_part 83 = .ok (.if_icmp .ne 21, 3) := dk_160 0 21 (dk_at dksX3_part_3 13 rfl rfl)
theorem dX3_part_86 : decode cX3_part 86 = .ok (.aload_n 0, 1) := dk_42 (dk_at dksX3_part_3 16 rfl rfl)
theorem dX3_part_87 : decode cX3_part 87 = .ok (.invokevirtual 203, 3) := dk_182 0 203 (dk_at dksX3_part_3 17 rfl rfl)
theorem dX3_part_90 : decode cX3_part 90 = .ok (.new 245, 3) := dk_187 0 245 (dk_at dksX3_part_3 20 rfl rfl)
theorem dX3_part_93 : decode cX3_part 93 = .ok (.dup, 1) := dk_89 (dk_at dksX3_part_3 23 rfl rfl)
theorem dX3_part_94 : decode cX3_part 94 = .ok (.aload_n 0, 1) := dk_42 (dk_at dksX3_part_4 0 rfl rfl)
theorem dX3_part_95 : decode cX3_part 95 = .ok (.ldc 247, 2) := dk_18 247 (dk_at dksX3_part_4 1 rfl rfl)
theorem dX3_part_97 : decode cX3_part 97 = .ok (.invokevirtual 248, 3) := dk_182 0 248 (dk_at dksX3_part_4 3 rfl rfl)
theorem dX3_part_100 : decode cX3_part 100 = .ok (.invokespecial 252, 3) := dk_183 0 252 (dk_at dksX3_part_4 6 rfl rfl)
theorem dX3_part_103 : decode cX3_part 103 = .ok (.areturn, 1) := dk_176 (dk_at dksX3_part_4 9 rfl rfl)
theorem dX3_part_104 : decode cX3_part 104 = .ok (.aload_n 0, 1) := dk_42 (dk_at dksX3_part_4 10 rfl rfl)
theorem dX3_part_105 : decode cX3_part 105 = .ok (.invokevirtual 203, 3) := dk_182 0 203 (dk_at dksX3_part_4 11 rfl rfl)
theorem dX3_part_108 : decode cX3_part 108 = .ok (.aload_n 0, 1) := dk_42 (dk_at dksX3_part_4 14 rfl rfl)
theorem dX3_part_109 : decode cX3_part 109 = .ok (.invokevirtual 90, 3) := dk_182 0 90 (dk_at dksX3_part_4 15 rfl rfl)
theorem dX3_part_112 : decode cX3_part 112 = .ok (.new 253, 3) := dk_187 0 253 (dk_at dksX3_part_4 18 rfl rfl)
theorem dX3_part_115 : decode cX3_part 115 = .ok (.dup, 1) := dk_89 (dk_at dksX3_part_4 21 rfl rfl)
theorem dX3_part_116 : decode cX3_part 116 = .ok (.iload_n 1, 1) := dk_27 (dk_at dksX3_part_4 22 rfl rfl)
theorem dX3_part_117 : decode cX3_part 117 = .ok (.invokespecial 255, 3) := dk_183 0 255 (dk_at dksX3_part_5 0 rfl rfl)
theorem dX3_part_120 : decode cX3_part 120 = .ok (.areturn, 1) := dk_176 (dk_at dksX3_part_5 3 rfl rfl)
abbrev cX3_open : ByteArray := prog_15_method_14_code
def yX3_open : MethodName := ⟨RX3, "open", "()V"⟩
def dkwX3_open_1 : List UInt8 := [96, 181, 0, 84, 42, 182, 0, 90, 177]
abbrev dktX3_open_1 : List UInt8 := dkwX3_open_1 ++ []
def dkwX3_open_0 : List UInt8 := [42, 42, 180, 0, 84, 16, 8, 162, 0, 7, 4, 167, 0, 4, 3, 182, 0, 93, 42, 89, 180, 0, 84, 4]
abbrev dktX3_open_0 : List UInt8 := dkwX3_open_0 ++ dktX3_open_1
theorem dksX3_open_0 : cX3_open.data.toList.drop 0 = dktX3_open_0 := by decide +kernel
theorem dksX3_open_1 : cX3_open.data.toList.drop 24 = dktX3_open_1 := dk_seg dksX3_open_0 24 rfl rfl
theorem dX3_open_0 : decode cX3_open 0 = .ok (.aload_n 0, 1) := dk_42 (dk_at dksX3_open_0 0 rfl rfl)
theorem dX3_open_1 : decode cX3_open 1 = .ok (.aload_n 0, 1) := dk_42 (dk_at dksX3_open_0 1 rfl rfl)
theorem dX3_open_2 : decode cX3_open 2 = .ok (.getfield 84, 3) := dk_180 0 84 (dk_at dksX3_open_0 2 rfl rfl)
theorem dX3_open_5 : decode cX3_open 5 = .ok (.bipush 8, 2) := dk_16 8 (dk_at dksX3_open_0 5 rfl rfl)
theorem dX3_open_7 : decode cX3_open 7 = .ok (.if_icmp .ge 7, 3) := dk_162 0 7 (dk_at dksX3_open_0 7 rfl rfl)
theorem dX3_open_10 : decode cX3_open 10 = .ok (.iconst 1, 1) := dk_4 (dk_at dksX3_open_0 10 rfl rfl)
theorem dX3_open_11 : decode cX3_open 11 = .ok (.goto 4, 3) := dk_167 0 4 (dk_at dksX3_open_0 11 rfl rfl)
theorem dX3_open_14 : decode cX3_open 14 = .ok (.iconst 0, 1) := dk_3 (dk_at dksX3_open_0 14 rfl rfl)
theorem dX3_open_15 : decode cX3_open 15 = .ok (.invokevirtual 93, 3) := dk_182 0 93 (dk_at dksX3_open_0 15 rfl rfl)
theorem dX3_open_18 : decode cX3_open 18 = .ok (.aload_n 0, 1) := dk_42 (dk_at dksX3_open_0 18 rfl rfl)
theorem dX3_open_19 : decode cX3_open 19 = .ok (.dup, 1) := dk_89 (dk_at dksX3_open_0 19 rfl rfl)
theorem dX3_open_20 : decode cX3_open 20 = .ok (.getfield 84, 3) := dk_180 0 84 (dk_at dksX3_open_0 20 rfl rfl)
theorem dX3_open_23 : decode cX3_open 23 = .ok (.iconst 1, 1) := dk_4 (dk_at dksX3_open_0 23 rfl rfl)
theorem dX3_open_24 : decode cX3_open 24 = .ok (.iadd, 1) := dk_96 (dk_at dksX3_open_1 0 rfl rfl)
theorem dX3_open_25 : decode cX3_open 25 = .ok (.putfield 84, 3) := dk_181 0 84 (dk_at dksX3_open_1 1 rfl rfl)
theorem dX3_open_28 : decode cX3_open 28 = .ok (.aload_n 0, 1) := dk_42 (dk_at dksX3_open_1 4 rfl rfl)
theorem dX3_open_29 : decode cX3_open 29 = .ok (.invokevirtual 90, 3) := dk_182 0 90 (dk_at dksX3_open_1 5 rfl rfl)
theorem dX3_open_32 : decode cX3_open 32 = .ok (.return_, 1) := dk_177 (dk_at dksX3_open_1 8 rfl rfl)
abbrev cX3_close : ByteArray := prog_15_method_15_code
def yX3_close : MethodName := ⟨RX3, "close", "(Ljava/lang/String;)V"⟩
def dkwX3_close_0 : List UInt8 := [42, 42, 43, 182, 0, 103, 182, 0, 93, 42, 89, 180, 0, 84, 4, 100, 181, 0, 84, 177]
abbrev dktX3_close_0 : List UInt8 := dkwX3_close_0 ++ []
theorem dksX3_close_0 : cX3_close.data.toList.drop 0 = dktX3_close_0 := by decide +kernel
theorem dX3_close_0 : decode cX3_close 0 = .ok (.aload_n 0, 1) := dk_42 (dk_at dksX3_close_0 0 rfl rfl)
theorem dX3_close_1 : decode cX3_close 1 = .ok (.aload_n 0, 1) := dk_42 (dk_at dksX3_close_0 1 rfl rfl)
theorem dX3_close_2 : decode cX3_close 2 = .ok (.aload_n 1, 1) := dk_43 (dk_at dksX3_close_0 2 rfl rfl)
theorem dX3_close_3 : decode cX3_close 3 = .ok (.invokevirtual 103, 3) := dk_182 0 103 (dk_at dksX3_close_0 3 rfl rfl)
theorem dX3_close_6 : decode cX3_close 6 = .ok (.invokevirtual 93, 3) := dk_182 0 93 (dk_at dksX3_close_0 6 rfl rfl)
theorem dX3_close_9 : decode cX3_close 9 = .ok (.aload_n 0, 1) := dk_42 (dk_at dksX3_close_0 9 rfl rfl)
theorem dX3_close_10 : decode cX3_close 10 = .ok (.dup, 1) := dk_89 (dk_at dksX3_close_0 10 rfl rfl)
theorem dX3_close_11 : decode cX3_close 11 = .ok (.getfield 84, 3) := dk_180 0 84 (dk_at dksX3_close_0 11 rfl rfl)
theorem dX3_close_14 : decode cX3_close 14 = .ok (.iconst 1, 1) := dk_4 (dk_at dksX3_close_0 14 rfl rfl)
theorem dX3_close_15 : decode cX3_close 15 = .ok (.isub, 1) := dk_100 (dk_at dksX3_close_0 15 rfl rfl)
theorem dX3_close_16 : decode cX3_close 16 = .ok (.putfield 84, 3) := dk_181 0 84 (dk_at dksX3_close_0 16 rfl rfl)
theorem dX3_close_19 : decode cX3_close 19 = .ok (.return_, 1) := dk_177 (dk_at dksX3_close_0 19 rfl rfl)
abbrev cX3_accept : ByteArray := prog_15_method_6_code
def yX3_accept : MethodName := ⟨RX3, "accept", "(Ljava/lang/String;)Z"⟩
def dkwX3_accept_0 : List UInt8 := [42, 43, 182, 0, 143, 61, 28, 153, 0, 7, 42, 182, 0, 90, 28, 172]
abbrev dktX3_accept_0 : List UInt8 := dkwX3_accept_0 ++ []
theorem dksX3_accept_0 : cX3_accept.data.toList.drop 0 = dktX3_accept_0 := by decide +kernel
theorem dX3_accept_0 : decode cX3_accept 0 = .ok (.aload_n 0, 1) := dk_42 (dk_at dksX3_accept_0 0 rfl rfl)
theorem dX3_accept_1 : decode cX3_accept 1 = .ok (.aload_n 1, 1) := dk_43 (dk_at dksX3_accept_0 1 rfl rfl)
theorem dX3_accept_2 : decode cX3_accept 2 = .ok (.invokevirtual 143, 3) := dk_182 0 143 (dk_at dksX3_accept_0 2 rfl rfl)
theorem dX3_accept_5 : decode cX3_accept 5 = .ok (.istore_n 2, 1) := dk_61 (dk_at dksX3_accept_0 5 rfl rfl)
theorem dX3_accept_6 : decode cX3_accept 6 = .ok (.iload_n 2, 1) := dk_28 (dk_at dksX3_accept_0 6 rfl rfl)
theorem dX3_accept_7 : decode cX3_accept 7 = .ok (.ifCond .eq 7, 3) := dk_153 0 7 (dk_at dksX3_accept_0 7 rfl rfl)
theorem dX3_accept_10 : decode cX3_accept 10 = .ok (.aload_n 0, 1) := dk_42 (dk_at dksX3_accept_0 10 rfl rfl)
theorem dX3_accept_11 : decode cX3_accept 11 = .ok (.invokevirtual 90, 3) := dk_182 0 90 (dk_at dksX3_accept_0 11 rfl rfl)
theorem dX3_accept_14 : decode cX3_accept 14 = .ok (.iload_n 2, 1) := dk_28 (dk_at dksX3_accept_0 14 rfl rfl)
theorem dX3_accept_15 : decode cX3_accept 15 = .ok (.ireturn, 1) := dk_172 (dk_at dksX3_accept_0 15 rfl rfl)
abbrev cX3_leaf : ByteArray := prog_15_method_16_code
def yX3_leaf : MethodName := ⟨RX3, "leaf", "()V"⟩
def dkwX3_leaf_1 : List UInt8 := [96, 181, 0, 81, 177]
abbrev dktX3_leaf_1 : List UInt8 := dkwX3_leaf_1 ++ []
def dkwX3_leaf_0 : List UInt8 := [42, 42, 180, 0, 81, 16, 50, 162, 0, 7, 4, 167, 0, 4, 3, 182, 0, 93, 42, 89, 180, 0, 81, 4]
abbrev dktX3_leaf_0 : List UInt8 := dkwX3_leaf_0 ++ dktX3_leaf_1
theorem dksX3_leaf_0 : cX3_leaf.data.toList.drop 0 = dktX3_leaf_0 := by decide +kernel
theorem dksX3_leaf_1 : cX3_leaf.data.toList.drop 24 = dktX3_leaf_1 := dk_seg dksX3_leaf_0 24 rfl rfl
theorem dX3_leaf_0 : decode cX3_leaf 0 = .ok (.aload_n 0, 1) := dk_42 (dk_at dksX3_leaf_0 0 rfl rfl)
theorem dX3_leaf_1 : decode cX3_leaf 1 = .ok (.aload_n 0, 1) := dk_42 (dk_at dksX3_leaf_0 1 rfl rfl)
theorem dX3_leaf_2 : decode cX3_leaf 2 = .ok (.getfield 81, 3) := dk_180 0 81 (dk_at dksX3_leaf_0 2 rfl rfl)
theorem dX3_leaf_5 : decode cX3_leaf 5 = .ok (.bipush 50, 2) := dk_16 50 (dk_at dksX3_leaf_0 5 rfl rfl)
theorem dX3_leaf_7 : decode cX3_leaf 7 = .ok (.if_icmp .ge 7, 3) := dk_162 0 7 (dk_at dksX3_leaf_0 7 rfl rfl)
theorem dX3_leaf_10 : decode cX3_leaf 10 = .ok (.iconst 1, 1) := dk_4 (dk_at dksX3_leaf_0 10 rfl rfl)
theorem dX3_leaf_11 : decode cX3_leaf 11 = .ok (.goto 4, 3) := dk_167 0 4 (dk_at dksX3_leaf_0 11 rfl rfl)
theorem dX3_leaf_14 : decode cX3_leaf 14 = .ok (.iconst 0, 1) := dk_3 (dk_at dksX3_leaf_0 14 rfl rfl)
theorem dX3_leaf_15 : decode cX3_leaf 15 = .ok (.invokevirtual 93, 3) := dk_182 0 93 (dk_at dksX3_leaf_0 15 rfl rfl)
theorem dX3_leaf_18 : decode cX3_leaf 18 = .ok (.aload_n 0, 1) := dk_42 (dk_at dksX3_leaf_0 18 rfl rfl)
theorem dX3_leaf_19 : decode cX3_leaf 19 = .ok (.dup, 1) := dk_89 (dk_at dksX3_leaf_0 19 rfl rfl)
theorem dX3_leaf_20 : decode cX3_leaf 20 = .ok (.getfield 81, 3) := dk_180 0 81 (dk_at dksX3_leaf_0 20 rfl rfl)
theorem dX3_leaf_23 : decode cX3_leaf 23 = .ok (.iconst 1, 1) := dk_4 (dk_at dksX3_leaf_0 23 rfl rfl)
theorem dX3_leaf_24 : decode cX3_leaf 24 = .ok (.iadd, 1) := dk_96 (dk_at dksX3_leaf_1 0 rfl rfl)
theorem dX3_leaf_25 : decode cX3_leaf 25 = .ok (.putfield 81, 3) := dk_181 0 81 (dk_at dksX3_leaf_1 1 rfl rfl)
theorem dX3_leaf_28 : decode cX3_leaf 28 = .ok (.return_, 1) := dk_177 (dk_at dksX3_leaf_1 4 rfl rfl)
abbrev cX3_number : ByteArray := prog_15_method_8_code
def yX3_number : MethodName := ⟨RX3, "number", "(I)I"⟩
def dkwX3_number_4 : List UInt8 := [167, 0, 4, 3, 182, 0, 93, 42, 182, 0, 90, 28, 172]
abbrev dktX3_number_4 : List UInt8 := dkwX3_number_4 ++ []
def dkwX3_number_3 : List UInt8 := [180, 0, 124, 29, 51, 96, 16, 48, 100, 61, 132, 3, 1, 167, 255, 222, 42, 28, 27, 163, 0, 7, 4]
abbrev dktX3_number_3 : List UInt8 := dkwX3_number_3 ++ dktX3_number_4
def dkwX3_number_2 : List UInt8 := [62, 29, 42, 180, 0, 77, 162, 0, 32, 28, 27, 163, 0, 27, 16, 10, 28, 104, 42, 180, 0, 3]
abbrev dktX3_number_2 : List UInt8 := dkwX3_number_2 ++ dktX3_number_3
def dkwX3_number_1 : List UInt8 := [180, 0, 107, 51, 184, 0, 132, 153, 0, 7, 4, 167, 0, 4, 3, 182, 0, 93, 3, 61, 42, 180, 0, 107]
abbrev dktX3_number_1 : List UInt8 := dkwX3_number_1 ++ dktX3_number_2
def dkwX3_number_0 : List UInt8 := [42, 42, 180, 0, 107, 42, 180, 0, 3, 180, 0, 110, 162, 0, 25, 42, 180, 0, 3, 180, 0, 124, 42]
abbrev dktX3_number_0 : List UInt8 := dkwX3_number_0 ++ dktX3_number_1
theorem dksX3_number_0 : cX3_number.data.toList.drop 0 = dktX3_number_0 := by decide +kernel
theorem dksX3_number_1 : cX3_number.data.toList.drop 23 = dktX3_number_1 := dk_seg dksX3_number_0 23 rfl rfl
theorem dksX3_number_2 : cX3_number.data.toList.drop 47 = dktX3_number_2 := dk_seg dksX3_number_1 24 rfl rfl
theorem dksX3_number_3 : cX3_number.data.toList.drop 69 = dktX3_number_3 := dk_seg dksX3_number_2 22 rfl rfl
theorem dksX3_number_4 : cX3_number.data.toList.drop 92 = dktX3_number_4 := dk_seg dksX3_number_3 23 rfl rfl
theorem dX3_number_0 : decode cX3_number 0 = .ok (.aload_n 0, 1) := dk_42 (dk_at dksX3_number_0 0 rfl rfl)
theorem dX3_number_1 : decode cX3_number 1 = .ok (.aload_n 0, 1) := dk_42 (dk_at dksX3_number_0 1 rfl rfl)
theorem dX3_number_2 : decode cX3_number 2 = .ok (.getfield 107, 3) := dk_180 0 107 (dk_at dksX3_number_0 2 rfl rfl)
theorem dX3_number_5 : decode cX3_number 5 = .ok (.aload_n 0, 1) := dk_42 (dk_at dksX3_number_0 5 rfl rfl)
theorem dX3_number_6 : decode cX3_number 6 = .ok (.getfield 3, 3) := dk_180 0 3 (dk_at dksX3_number_0 6 rfl rfl)
theorem dX3_number_9 : decode cX3_number 9 = .ok (.getfield 110, 3) := dk_180 0 110 (dk_at dksX3_number_0 9 rfl rfl)
theorem dX3_number_12 : decode cX3_number 12 = .ok (.if_icmp .ge 25, 3) := dk_162 0 25 (dk_at dksX3_number_0 12 rfl rfl)
theorem dX3_number_15 : decode cX3_number 15 = .ok (.aload_n 0, 1) := dk_42 (dk_at dksX3_number_0 15 rfl rfl)
theorem dX3_number_16 : decode cX3_number 16 = .ok (.getfield 3, 3) := dk_180 0 3 (dk_at dksX3_number_0 16 rfl rfl)
theorem dX3_number_19 : decode cX3_number 19 = .ok (.getfield 124, 3) := dk_180 0 124 (dk_at dksX3_number_0 19 rfl rfl)
theorem dX3_number_22 : decode cX3_number 22 = .ok (.aload_n 0, 1) := dk_42 (dk_at dksX3_number_0 22 rfl rfl)
theorem dX3_number_23 : decode cX3_number 23 = .ok (.getfield 107, 3) := dk_180 0 107 (dk_at dksX3_number_1 0 rfl rfl)
theorem dX3_number_26 : decode cX3_number 26 = .ok (.baload, 1) := dk_51 (dk_at dksX3_number_1 3 rfl rfl)
theorem dX3_number_27 : decode cX3_number 27 = .ok (.invokestatic 132, 3) := dk_184 0 132 (dk_at dksX3_number_1 4 rfl rfl)
theorem dX3_number_30 : decode cX3_number 30 = .ok (.ifCond .eq 7, 3) := dk_153 0 7 (dk_at dksX3_number_1 7 rfl rfl)
theorem dX3_number_33 : decode cX3_number 33 = .ok (.iconst 1, 1) := dk_4 (dk_at dksX3_number_1 10 rfl rfl)
theorem dX3_number_34 : decode cX3_number 34 = .ok (.goto 4, 3) := dk_167 0 4 (dk_at dksX3_number_1 11 rfl rfl)
theorem dX3_number_37 : decode cX3_number 37 = .ok (.iconst 0, 1) := dk_3 (dk_at dksX3_number_1 14 rfl rfl)
theorem dX3_number_38 : decode cX3_number 38 = .ok (.invokevirtual 93, 3) := dk_182 0 93 (dk_at dksX3_number_1 15 rfl rfl)
theorem dX3_number_41 : decode cX3_number 41 = .ok (.iconst 0, 1) := dk_3 (dk_at dksX3_number_1 18 rfl rfl)
theorem dX3_number_42 : decode cX3_number 42 = .ok (.istore_n 2, 1) := dk_61 (dk_at dksX3_number_1 19 rfl rfl)
theorem dX3_number_43 : decode cX3_number 43 = .ok (.aload_n 0, 1) := dk_42 (dk_at dksX3_number_1 20 rfl rfl)
theorem dX3_number_44 : decode cX3_number 44 = .ok (.getfield 107, 3) := dk_180 0 107 (dk_at dksX3_number_1 21 rfl rfl)
theorem dX3_number_47 : decode cX3_number 47 = .ok (.istore_n 3, 1) := dk_62 (dk_at dksX3_number_2 0 rfl rfl)
theorem dX3_number_48 : decode cX3_number 48 = .ok (.iload_n 3, 1) := dk_29 (dk_at dksX3_number_2 1 rfl rfl)
theorem dX3_number_49 : decode cX3_number 49 = .ok (.aload_n 0, 1) := dk_42 (dk_at dksX3_number_2 2 rfl rfl)
theorem dX3_number_50 : decode cX3_number 50 = .ok (.getfield 77, 3) := dk_180 0 77 (dk_at dksX3_number_2 3 rfl rfl)
theorem dX3_number_53 : decode cX3_number 53 = .ok (.if_icmp .ge 32, 3) := dk_162 0 32 (dk_at dksX3_number_2 6 rfl rfl)
theorem dX3_number_56 : decode cX3_number 56 = .ok (.iload_n 2, 1) := dk_28 (dk_at dksX3_number_2 9 rfl rfl)
theorem dX3_number_57 : decode cX3_number 57 = .ok (.iload_n 1, 1) := dk_27 (dk_at dksX3_number_2 10 rfl rfl)
theorem dX3_number_58 : decode cX3_number 58 = .ok (.if_icmp .gt 27, 3) := dk_163 0 27 (dk_at dksX3_number_2 11 rfl rfl)
theorem dX3_number_61 : decode cX3_number 61 = .ok (.bipush 10, 2) := dk_16 10 (dk_at dksX3_number_2 14 rfl rfl)
theorem dX3_number_63 : decode cX3_number 63 = .ok (.iload_n 2, 1) := dk_28 (dk_at dksX3_number_2 16 rfl rfl)
theorem dX3_number_64 : decode cX3_number 64 = .ok (.imul, 1) := dk_104 (dk_at dksX3_number_2 17 rfl rfl)
theorem dX3_number_65 : decode cX3_number 65 = .ok (.aload_n 0, 1) := dk_42 (dk_at dksX3_number_2 18 rfl rfl)
theorem dX3_number_66 : decode cX3_number 66 = .ok (.getfield 3, 3) := dk_180 0 3 (dk_at dksX3_number_2 19 rfl rfl)
theorem dX3_number_69 : decode cX3_number 69 = .ok (.getfield 124, 3) := dk_180 0 124 (dk_at dksX3_number_3 0 rfl rfl)
theorem dX3_number_72 : decode cX3_number 72 = .ok (.iload_n 3, 1) := dk_29 (dk_at dksX3_number_3 3 rfl rfl)
theorem dX3_number_73 : decode cX3_number 73 = .ok (.baload, 1) := dk_51 (dk_at dksX3_number_3 4 rfl rfl)
theorem dX3_number_74 : decode cX3_number 74 = .ok (.iadd, 1) := dk_96 (dk_at dksX3_number_3 5 rfl rfl)
theorem dX3_number_75 : decode cX3_number 75 = .ok (.bipush 48, 2) := dk_16 48 (dk_at dksX3_number_3 6 rfl rfl)
theorem dX3_number_77 : decode cX3_number 77 = .ok (.isub, 1) := dk_100 (dk_at dksX3_number_3 8 rfl rfl)
theorem dX3_number_78 : decode cX3_number 78 = .ok (.istore_n 2, 1) := dk_61 (dk_at dksX3_number_3 9 rfl rfl)
theorem dX3_number_79 : decode cX3_number 79 = .ok (.iinc 3 1, 3) := dk_132 3 1 (dk_at dksX3_number_3 10 rfl rfl)
theorem dX3_number_82 : decode cX3_number 82 = .ok (.goto (-34), 3) := dk_167 255 222 (dk_at dksX3_number_3 13 rfl rfl)
theorem dX3_number_85 : decode cX3_number 85 = .ok (.aload_n 0, 1) := dk_42 (dk_at dksX3_number_3 16 rfl rfl)
theorem dX3_number_86 : decode cX3_number 86 = .ok (.iload_n 2, 1) := dk_28 (dk_at dksX3_number_3 17 rfl rfl)
theorem dX3_number_87 : decode cX3_number 87 = .ok (.iload_n 1, 1) := dk_27 (dk_at dksX3_number_3 18 rfl rfl)
theorem dX3_number_88 : decode cX3_number 88 = .ok (.if_icmp .gt 7, 3) := dk_163 0 7 (dk_at dksX3_number_3 19 rfl rfl)
theorem dX3_number_91 : decode cX3_number 91 = .ok (.iconst 1, 1) := dk_4 (dk_at dksX3_number_3 22 rfl rfl)
theorem dX3_number_92 : decode cX3_number 92 = .ok (.goto 4, 3) := dk_167 0 4 (dk_at dksX3_number_4 0 rfl rfl)
theorem dX3_number_95 : decode cX3_number 95 = .ok (.iconst 0, 1) := dk_3 (dk_at dksX3_number_4 3 rfl rfl)
theorem dX3_number_96 : decode cX3_number 96 = .ok (.invokevirtual 93, 3) := dk_182 0 93 (dk_at dksX3_number_4 4 rfl rfl)
theorem dX3_number_99 : decode cX3_number 99 = .ok (.aload_n 0, 1) := dk_42 (dk_at dksX3_number_4 7 rfl rfl)
theorem dX3_number_100 : decode cX3_number 100 = .ok (.invokevirtual 90, 3) := dk_182 0 90 (dk_at dksX3_number_4 8 rfl rfl)
theorem dX3_number_103 : decode cX3_number 103 = .ok (.iload_n 2, 1) := dk_28 (dk_at dksX3_number_4 11 rfl rfl)
theorem dX3_number_104 : decode cX3_number 104 = .ok (.ireturn, 1) := dk_172 (dk_at dksX3_number_4 12 rfl rfl)
abbrev cX3_test : ByteArray := prog_15_method_10_code
def yX3_test : MethodName := ⟨RX3, "test", "()LBrothFlasks$Test;"⟩
def dkwX3_test_1 : List UInt8 := [182, 0, 168, 182, 0, 171, 167, 255, 239, 42, 3, 27, 182, 0, 177, 176]
abbrev dktX3_test_1 : List UInt8 := dkwX3_test_1 ++ []
def dkwX3_test_0 : List UInt8 := [42, 180, 0, 87, 60, 42, 42, 182, 0, 168, 182, 0, 171, 42, 18, 175, 182, 0, 103, 153, 0, 14, 42, 42]
abbrev dktX3_test_0 : List UInt8 := dkwX3_test_0 ++ dktX3_test_1
theorem dksX3_test_0 : cX3_test.data.toList.drop 0 = dktX3_test_0 := by decide +kernel
theorem dksX3_test_1 : cX3_test.data.toList.drop 24 = dktX3_test_1 := dk_seg dksX3_test_0 24 rfl rfl
theorem dX3_test_0 : decode cX3_test 0 = .ok (.aload_n 0, 1) := dk_42 (dk_at dksX3_test_0 0 rfl rfl)
theorem dX3_test_1 : decode cX3_test 1 = .ok (.getfield 87, 3) := dk_180 0 87 (dk_at dksX3_test_0 1 rfl rfl)
theorem dX3_test_4 : decode cX3_test 4 = .ok (.istore_n 1, 1) := dk_60 (dk_at dksX3_test_0 4 rfl rfl)
theorem dX3_test_5 : decode cX3_test 5 = .ok (.aload_n 0, 1) := dk_42 (dk_at dksX3_test_0 5 rfl rfl)
theorem dX3_test_6 : decode cX3_test 6 = .ok (.aload_n 0, 1) := dk_42 (dk_at dksX3_test_0 6 rfl rfl)
theorem dX3_test_7 : decode cX3_test 7 = .ok (.invokevirtual 168, 3) := dk_182 0 168 (dk_at dksX3_test_0 7 rfl rfl)
theorem dX3_test_10 : decode cX3_test 10 = .ok (.invokevirtual 171, 3) := dk_182 0 171 (dk_at dksX3_test_0 10 rfl rfl)
theorem dX3_test_13 : decode cX3_test 13 = .ok (.aload_n 0, 1) := dk_42 (dk_at dksX3_test_0 13 rfl rfl)
theorem dX3_test_14 : decode cX3_test 14 = .ok (.ldc 175, 2) := dk_18 175 (dk_at dksX3_test_0 14 rfl rfl)
theorem dX3_test_16 : decode cX3_test 16 = .ok (.invokevirtual 103, 3) := dk_182 0 103 (dk_at dksX3_test_0 16 rfl rfl)
theorem dX3_test_19 : decode cX3_test 19 = .ok (.ifCond .eq 14, 3) := dk_153 0 14 (dk_at dksX3_test_0 19 rfl rfl)
theorem dX3_test_22 : decode cX3_test 22 = .ok (.aload_n 0, 1) := dk_42 (dk_at dksX3_test_0 22 rfl rfl)
theorem dX3_test_23 : decode cX3_test 23 = .ok (.aload_n 0, 1) := dk_42 (dk_at dksX3_test_0 23 rfl rfl)
theorem dX3_test_24 : decode cX3_test 24 = .ok (.invokevirtual 168, 3) := dk_182 0 168 (dk_at dksX3_test_1 0 rfl rfl)
theorem dX3_test_27 : decode cX3_test 27 = .ok (.invokevirtual 171, 3) := dk_182 0 171 (dk_at dksX3_test_1 3 rfl rfl)
theorem dX3_test_30 : decode cX3_test 30 = .ok (.goto (-17), 3) := dk_167 255 239 (dk_at dksX3_test_1 6 rfl rfl)
theorem dX3_test_33 : decode cX3_test 33 = .ok (.aload_n 0, 1) := dk_42 (dk_at dksX3_test_1 9 rfl rfl)
theorem dX3_test_34 : decode cX3_test 34 = .ok (.iconst 0, 1) := dk_3 (dk_at dksX3_test_1 10 rfl rfl)
theorem dX3_test_35 : decode cX3_test 35 = .ok (.iload_n 1, 1) := dk_27 (dk_at dksX3_test_1 11 rfl rfl)
theorem dX3_test_36 : decode cX3_test 36 = .ok (.invokevirtual 177, 3) := dk_182 0 177 (dk_at dksX3_test_1 12 rfl rfl)
theorem dX3_test_39 : decode cX3_test 39 = .ok (.areturn, 1) := dk_176 (dk_at dksX3_test_1 15 rfl rfl)
abbrev cX3_both : ByteArray := prog_15_method_11_code
def yX3_both : MethodName := ⟨RX3, "both", "()LBrothFlasks$Test;"⟩
def dkwX3_both_1 : List UInt8 := [182, 0, 181, 182, 0, 171, 167, 255, 239, 42, 4, 27, 182, 0, 177, 176]
abbrev dktX3_both_1 : List UInt8 := dkwX3_both_1 ++ []
def dkwX3_both_0 : List UInt8 := [42, 180, 0, 87, 60, 42, 42, 182, 0, 181, 182, 0, 171, 42, 18, 184, 182, 0, 103, 153, 0, 14, 42, 42]
abbrev dktX3_both_0 : List UInt8 := dkwX3_both_0 ++ dktX3_both_1
theorem dksX3_both_0 : cX3_both.data.toList.drop 0 = dktX3_both_0 := by decide +kernel
theorem dksX3_both_1 : cX3_both.data.toList.drop 24 = dktX3_both_1 := dk_seg dksX3_both_0 24 rfl rfl
theorem dX3_both_0 : decode cX3_both 0 = .ok (.aload_n 0, 1) := dk_42 (dk_at dksX3_both_0 0 rfl rfl)
theorem dX3_both_1 : decode cX3_both 1 = .ok (.getfield 87, 3) := dk_180 0 87 (dk_at dksX3_both_0 1 rfl rfl)
theorem dX3_both_4 : decode cX3_both 4 = .ok (.istore_n 1, 1) := dk_60 (dk_at dksX3_both_0 4 rfl rfl)
theorem dX3_both_5 : decode cX3_both 5 = .ok (.aload_n 0, 1) := dk_42 (dk_at dksX3_both_0 5 rfl rfl)
theorem dX3_both_6 : decode cX3_both 6 = .ok (.aload_n 0, 1) := dk_42 (dk_at dksX3_both_0 6 rfl rfl)
theorem dX3_both_7 : decode cX3_both 7 = .ok (.invokevirtual 181, 3) := dk_182 0 181 (dk_at dksX3_both_0 7 rfl rfl)
theorem dX3_both_10 : decode cX3_both 10 = .ok (.invokevirtual 171, 3) := dk_182 0 171 (dk_at dksX3_both_0 10 rfl rfl)
theorem dX3_both_13 : decode cX3_both 13 = .ok (.aload_n 0, 1) := dk_42 (dk_at dksX3_both_0 13 rfl rfl)
theorem dX3_both_14 : decode cX3_both 14 = .ok (.ldc 184, 2) := dk_18 184 (dk_at dksX3_both_0 14 rfl rfl)
theorem dX3_both_16 : decode cX3_both 16 = .ok (.invokevirtual 103, 3) := dk_182 0 103 (dk_at dksX3_both_0 16 rfl rfl)
theorem dX3_both_19 : decode cX3_both 19 = .ok (.ifCond .eq 14, 3) := dk_153 0 14 (dk_at dksX3_both_0 19 rfl rfl)
theorem dX3_both_22 : decode cX3_both 22 = .ok (.aload_n 0, 1) := dk_42 (dk_at dksX3_both_0 22 rfl rfl)
theorem dX3_both_23 : decode cX3_both 23 = .ok (.aload_n 0, 1) := dk_42 (dk_at dksX3_both_0 23 rfl rfl)
theorem dX3_both_24 : decode cX3_both 24 = .ok (.invokevirtual 181, 3) := dk_182 0 181 (dk_at dksX3_both_1 0 rfl rfl)
theorem dX3_both_27 : decode cX3_both 27 = .ok (.invokevirtual 171, 3) := dk_182 0 171 (dk_at dksX3_both_1 3 rfl rfl)
theorem dX3_both_30 : decode cX3_both 30 = .ok (.goto (-17), 3) := dk_167 255 239 (dk_at dksX3_both_1 6 rfl rfl)
theorem dX3_both_33 : decode cX3_both 33 = .ok (.aload_n 0, 1) := dk_42 (dk_at dksX3_both_1 9 rfl rfl)
theorem dX3_both_34 : decode cX3_both 34 = .ok (.iconst 1, 1) := dk_4 (dk_at dksX3_both_1 10 rfl rfl)
theorem dX3_both_35 : decode cX3_both 35 = .ok (.iload_n 1, 1) := dk_27 (dk_at dksX3_both_1 11 rfl rfl)
theorem dX3_both_36 : decode cX3_both 36 = .ok (.invokevirtual 177, 3) := dk_182 0 177 (dk_at dksX3_both_1 12 rfl rfl)
theorem dX3_both_39 : decode cX3_both 39 = .ok (.areturn, 1) := dk_176 (dk_at dksX3_both_1 15 rfl rfl)
abbrev cX3_plain : ByteArray := prog_15_method_17_code
def yX3_plain : MethodName := ⟨RX3, "plain", "()LBrothFlasks$Test;"⟩
def dkwX3_plain_7 : List UInt8 := [153, 0, 14, 187, 0, 220, 89, 44, 183, 0, 222, 167, 0, 4, 44, 176]
abbrev dktX3_plain_7 : List UInt8 := dkwX3_plain_7 ++ []
def dkwX3_plain_6 : List UInt8 := [54, 5, 42, 182, 0, 90, 187, 0, 215, 89, 25, 4, 21, 5, 42, 182, 0, 155, 183, 0, 217, 77, 27]
abbrev dktX3_plain_6 : List UInt8 := dkwX3_plain_6 ++ dktX3_plain_7
def dkwX3_plain_5 : List UInt8 := [153, 0, 7, 4, 167, 0, 4, 3, 182, 0, 93, 42, 180, 0, 3, 180, 0, 124, 42, 180, 0, 107, 51]
abbrev dktX3_plain_5 : List UInt8 := dkwX3_plain_5 ++ dktX3_plain_6
def dkwX3_plain_4 : List UInt8 := [18, 209, 182, 0, 143, 154, 0, 21, 42, 18, 211, 182, 0, 143, 154, 0, 12, 42, 18, 213, 182, 0, 143]
abbrev dktX3_plain_4 : List UInt8 := dkwX3_plain_4 ++ dktX3_plain_5
def dkwX3_plain_3 : List UInt8 := [182, 0, 90, 187, 0, 206, 89, 29, 183, 0, 208, 77, 167, 0, 79, 42, 182, 0, 155, 58, 4, 42, 42]
abbrev dktX3_plain_3 : List UInt8 := dkwX3_plain_3 ++ dktX3_plain_4
def dkwX3_plain_2 : List UInt8 := [182, 0, 161, 77, 42, 18, 197, 182, 0, 199, 167, 0, 104, 29, 2, 159, 0, 23, 42, 182, 0, 203, 42]
abbrev dktX3_plain_2 : List UInt8 := dkwX3_plain_2 ++ dktX3_plain_3
def dkwX3_plain_1 : List UInt8 := [42, 42, 180, 0, 59, 182, 0, 151, 62, 42, 18, 193, 182, 0, 143, 153, 0, 21, 42, 182, 0, 195, 42]
abbrev dktX3_plain_1 : List UInt8 := dkwX3_plain_1 ++ dktX3_plain_2
def dkwX3_plain_0 : List UInt8 := [3, 60, 42, 18, 191, 182, 0, 103, 153, 0, 16, 27, 154, 0, 7, 4, 167, 0, 4, 3, 60, 167, 255, 237]
abbrev dktX3_plain_0 : List UInt8 := dkwX3_plain_0 ++ dktX3_plain_1
theorem dksX3_plain_0 : cX3_plain.data.toList.drop 0 = dktX3_plain_0 := by decide +kernel
theorem dksX3_plain_1 : cX3_plain.data.toList.drop 24 = dktX3_plain_1 := dk_seg dksX3_plain_0 24 rfl rfl
theorem dksX3_plain_2 : cX3_plain.data.toList.drop 47 = dktX3_plain_2 := dk_seg dksX3_plain_1 23 rfl rfl
theorem dksX3_plain_3 : cX3_plain.data.toList.drop 70 = dktX3_plain_3 := dk_seg dksX3_plain_2 23 rfl rfl
theorem dksX3_plain_4 : cX3_plain.data.toList.drop 93 = dktX3_plain_4 := dk_seg dksX3_plain_3 23 rfl rfl
theorem dksX3_plain_5 : cX3_plain.data.toList.drop 116 = dktX3_plain_5 := dk_seg dksX3_plain_4 23 rfl rfl
theorem dksX3_plain_6 : cX3_plain.data.toList.drop 139 = dktX3_plain_6 := dk_seg dksX3_plain_5 23 rfl rfl
theorem dksX3_plain_7 : cX3_plain.data.toList.drop 162 = dktX3_plain_7 := dk_seg dksX3_plain_6 23 rfl rfl
theorem dX3_plain_0 : decode cX3_plain 0 = .ok (.iconst 0, 1) := dk_3 (dk_at dksX3_plain_0 0 rfl rfl)
theorem dX3_plain_1 : decode cX3_plain 1 = .ok (.istore_n 1, 1) := dk_60 (dk_at dksX3_plain_0 1 rfl rfl)
theorem dX3_plain_2 : decode cX3_plain 2 = .ok (.aload_n 0, 1) := dk_42 (dk_at dksX3_plain_0 2 rfl rfl)
theorem dX3_plain_3 : decode cX3_plain 3 = .ok (.ldc 191, 2) := dk_18 191 (dk_at dksX3_plain_0 3 rfl rfl)
theorem dX3_plain_5 : decode cX3_plain 5 = .ok (.invokevirtual 103, 3) := dk_182 0 103 (dk_at dksX3_plain_0 5 rfl rfl)
theorem dX3_plain_8 : decode cX3_plain 8 = .ok (.ifCond .eq 16, 3) := dk_153 0 16 (dk_at dksX3_plain_0 8 rfl rfl)
theorem dX3_plain_11 : decode cX3_plain 11 = .ok (.iload_n 1, 1) := dk_27 (dk_at dksX3_plain_0 11 rfl rfl)
theorem dX3_plain_12 : decode cX3_plain 12 = .ok (.ifCond .ne 7, 3) := dk_154 0 7 (dk_at dksX3_plain_0 12 rfl rfl)
theorem dX3_plain_15 : decode cX3_plain 15 = .ok (.iconst 1, 1) := dk_4 (dk_at dksX3_plain_0 15 rfl rfl)
theorem dX3_plain_16 : decode cX3_plain 16 = .ok (.goto 4, 3) := dk_167 0 4 (dk_at dksX3_plain_0 16 rfl rfl)
theorem dX3_plain_19 : decode cX3_plain 19 = .ok (.iconst 0, 1) := dk_3 (dk_at dksX3_plain_0 19 rfl rfl)
theorem dX3_plain_20 : decode cX3_plain 20 = .ok (.istore_n 1, 1) := dk_60 (dk_at dksX3_plain_0 20 rfl rfl)
theorem dX3_plain_21 : decode cX3_plain 21 = .ok (.goto (-19), 3) := dk_167 255 237 (dk_at dksX3_plain_0 21 rfl rfl)
theorem dX3_plain_24 : decode cX3_plain 24 = .ok (.aload_n 0, 1) := dk_42 (dk_at dksX3_plain_1 0 rfl rfl)
theorem dX3_plain_25 : decode cX3_plain 25 = .ok (.aload_n 0, 1) := dk_42 (dk_at dksX3_plain_1 1 rfl rfl)
theorem dX3_plain_26 : decode cX3_plain 26 = .ok (.getfield 59, 3) := dk_180 0 59 (dk_at dksX3_plain_1 2 rfl rfl)
theorem dX3_plain_29 : decode cX3_plain 29 = .ok (.invokevirtual 151, 3) := dk_182 0 151 (dk_at dksX3_plain_1 5 rfl rfl)
theorem dX3_plain_32 : decode cX3_plain 32 = .ok (.istore_n 3, 1) := dk_62 (dk_at dksX3_plain_1 8 rfl rfl)
theorem dX3_plain_33 : decode cX3_plain 33 = .ok (.aload_n 0, 1) := dk_42 (dk_at dksX3_plain_1 9 rfl rfl)
theorem dX3_plain_34 : decode cX3_plain 34 = .ok (.ldc 193, 2) := dk_18 193 (dk_at dksX3_plain_1 10 rfl rfl)
theorem dX3_plain_36 : decode cX3_plain 36 = .ok (.invokevirtual 143, 3) := dk_182 0 143 (dk_at dksX3_plain_1 12 rfl rfl)
theorem dX3_plain_39 : decode cX3_plain 39 = .ok (.ifCond .eq 21, 3) := dk_153 0 21 (dk_at dksX3_plain_1 15 rfl rfl)
theorem dX3_plain_42 : decode cX3_plain 42 = .ok (.aload_n 0, 1) := dk_42 (dk_at dksX3_plain_1 18 rfl rfl)
theorem dX3_plain_43 : decode cX3_plain 43 = .ok (.invokevirtual 195, 3) := dk_182 0 195 (dk_at dksX3_plain_1 19 rfl rfl)
theorem dX3_plain_46 : decode cX3_plain 46 = .ok (.aload_n 0, 1) := dk_42 (dk_at dksX3_plain_1 22 rfl rfl)
theorem dX3_plain_47 : decode cX3_plain 47 = .ok (.invokevirtual 161, 3) := dk_182 0 161 (dk_at dksX3_plain_2 0 rfl rfl)
theorem dX3_plain_50 : decode cX3_plain 50 = .ok (.astore_n 2, 1) := dk_77 (dk_at dksX3_plain_2 3 rfl rfl)
theorem dX3_plain_51 : decode cX3_plain 51 = .ok (.aload_n 0, 1) := dk_42 (dk_at dksX3_plain_2 4 rfl rfl)
theorem dX3_plain_52 : decode cX3_plain 52 = .ok (.ldc 197, 2) := dk_18 197 (dk_at dksX3_plain_2 5 rfl rfl)
theorem dX3_plain_54 : decode cX3_plain 54 = .ok (.invokevirtual 199, 3) := dk_182 0 199 (dk_at dksX3_plain_2 7 rfl rfl)
theorem dX3_plain_57 : decode cX3_plain 57 = .ok (.goto 104, 3) := dk_167 0 104 (dk_at dksX3_plain_2 10 rfl rfl)
theorem dX3_plain_60 : decode cX3_plain 60 = .ok (.iload_n 3, 1) := dk_29 (dk_at dksX3_plain_2 13 rfl rfl)
theorem dX3_plain_61 : decode cX3_plain 61 = .ok (.iconst (-1), 1) := dk_2 (dk_at dksX3_plain_2 14 rfl rfl)
theorem dX3_plain_62 : decode cX3_plain 62 = .ok (.if_icmp .eq 23, 3) := dk_159 0 23 (dk_at dksX3_plain_2 15 rfl rfl)
theorem dX3_plain_65 : decode cX3_plain 65 = .ok (.aload_n 0, 1) := dk_42 (dk_at dksX3_plain_2 18 rfl rfl)
theorem dX3_plain_66 : decode cX3_plain 66 = .ok (.invokevirtual 203, 3) := dk_182 0 203 (dk_at dksX3_plain_2 19 rfl rfl)
theorem dX3_plain_69 : decode cX3_plain 69 = .ok (.aload_n 0, 1) := dk_42 (dk_at dksX3_plain_2 22 rfl rfl)
theorem dX3_plain_70 : decode cX3_plain 70 = .ok (.invokevirtual 90, 3) := dk_182 0 90 (dk_at dksX3_plain_3 0 rfl rfl)
theorem dX3_plain_73 : decode cX3_plain 73 = .ok (.new 206, 3) := dk_187 0 206 (dk_at dksX3_plain_3 3 rfl rfl)
theorem dX3_plain_76 : decode cX3_plain 76 = .ok (.dup, 1) := dk_89 (dk_at dksX3_plain_3 6 rfl rfl)
theorem dX3_plain_77 : decode cX3_plain 77 = .ok (.iload_n 3, 1) := dk_29 (dk_at dksX3_plain_3 7 rfl rfl)
theorem dX3_plain_78 : decode cX3_plain 78 = .ok (.invokespecial 208, 3) := dk_183 0 208 (dk_at dksX3_plain_3 8 rfl rfl)
theorem dX3_plain_81 : decode cX3_plain 81 = .ok (.astore_n 2, 1) := dk_77 (dk_at dksX3_plain_3 11 rfl rfl)
theorem dX3_plain_82 : decode cX3_plain 82 = .ok (.goto 79, 3) := dk_167 0 79 (dk_at dksX3_plain_3 12 rfl rfl)
theorem dX3_plain_85 : decode cX3_plain 85 = .ok (.aload_n 0, 1) := dk_42 (dk_at dksX3_plain_3 15 rfl rfl)
theorem dX3_plain_86 : decode cX3_plain 86 = .ok (.invokevirtual 155, 3) := dk_182 0 155 (dk_at dksX3_plain_3 16 rfl rfl)
theorem dX3_plain_89 : decode cX3_plain 89 = .ok (.astore 4, 2) := dk_58 4 (dk_at dksX3_plain_3 19 rfl rfl)
theorem dX3_plain_91 : decode cX3_plain 91 = .ok (.aload_n 0, 1) := dk_42 (dk_at dksX3_plain_3 21 rfl rfl)
theorem dX3_plain_92 : decode cX3_plain 92 = .ok (.aload_n 0, 1) := dk_42 (dk_at dksX3_plain_3 22 rfl rfl)
theorem dX3_plain_93 : decode cX3_plain 93 = .ok (.ldc 209, 2) := dk_18 209 (dk_at dksX3_plain_4 0 rfl rfl)
theorem dX3_plain_95 : decode cX3_plain 95 = .ok (.invokevirtual 143, 3) := dk_182 0 143 (dk_at dksX3_plain_4 2 rfl rfl)
theorem dX3_plain_98 : decode cX3_plain 98 = .ok (.ifCond .ne 21, 3) := dk_154 0 21 (dk_at dksX3_plain_4 5 rfl rfl)
theorem dX3_plain_101 : decode cX3_plain 101 = .ok (.aload_n 0, 1) := dk_42 (dk_at dksX3_plain_4 8 rfl rfl)
theorem dX3_plain_102 : decode cX3_plain 102 = .ok (.ldc 211, 2) := dk_18 211 (dk_at dksX3_plain_4 9 rfl rfl)
theorem dX3_plain_104 : decode cX3_plain 104 = .ok (.invokevirtual 143, 3) := dk_182 0 143 (dk_at dksX3_plain_4 11 rfl rfl)
theorem dX3_plain_107 : decode cX3_plain 107 = .ok (.ifCond .ne 12, 3) := dk_154 0 12 (dk_at dksX3_plain_4 14 rfl rfl)
theorem dX3_plain_110 : decode cX3_plain 110 = .ok (.aload_n 0, 1) := dk_42 (dk_at dksX3_plain_4 17 rfl rfl)
theorem dX3_plain_111 : decode cX3_plain 111 = .ok (.ldc 213, 2) := dk_18 213 (dk_at dksX3_plain_4 18 rfl rfl)
theorem dX3_plain_113 : decode cX3_plain 113 = .ok (.invokevirtual 143, 3) := dk_182 0 143 (dk_at dksX3_plain_4 20 rfl rfl)
theorem dX3_plain_116 : decode cX3_plain 116 = .ok (.ifCond .eq 7, 3) := dk_153 0 7 (dk_at dksX3_plain_5 0 rfl rfl)
theorem dX3_plain_119 : decode cX3_plain 119 = .ok (.iconst 1, 1) := dk_4 (dk_at dksX3_plain_5 3 rfl rfl)
theorem dX3_plain_120 : decode cX3_plain 120 = .ok (.goto 4, 3) := dk_167 0 4 (dk_at dksX3_plain_5 4 rfl rfl)
theorem dX3_plain_123 : decode cX3_plain 123 = .ok (.iconst 0, 1) := dk_3 (dk_at dksX3_plain_5 7 rfl rfl)
theorem dX3_plain_124 : decode cX3_plain 124 = .ok (.invokevirtual 93, 3) := dk_182 0 93 (dk_at dksX3_plain_5 8 rfl rfl)
theorem dX3_plain_127 : decode cX3_plain 127 = .ok (.aload_n 0, 1) := dk_42 (dk_at dksX3_plain_5 11 rfl rfl)
theorem dX3_plain_128 : decode cX3_plain 128 = .ok (.getfield 3, 3) := dk_180 0 3 (dk_at dksX3_plain_5 12 rfl rfl)
theorem dX3_plain_131 : decode cX3_plain 131 = .ok (.getfield 124, 3) := dk_180 0 124 (dk_at dksX3_plain_5 15 rfl rfl)
theorem dX3_plain_134 : decode cX3_plain 134 = .ok (.aload_n 0, 1) := dk_42 (dk_at dksX3_plain_5 18 rfl rfl)
theorem dX3_plain_135 : decode cX3_plain 135 = .ok (.getfield 107, 3) := dk_180 0 107 (dk_at dksX3_plain_5 19 rfl rfl)
theorem dX3_plain_138 : decode cX3_plain 138 = .ok (.baload, 1) := dk_51 (dk_at dksX3_plain_5 22 rfl rfl)
theorem dX3_plain_139 : decode cX3_plain 139 = .ok (.istore 5, 2) := dk_54 5 (dk_at dksX3_plain_6 0 rfl rfl)
theorem dX3_plain_141 : decode cX3_plain 141 = .ok (.aload_n 0, 1) := dk_42 (dk_at dksX3_plain_6 2 rfl rfl)
theorem dX3_plain_142 : decode cX3_plain 142 = .ok (.invokevirtual 90, 3) := dk_182 0 90 (dk_at dksX3_plain_6 3 rfl rfl)
theorem dX3_plain_145 : decode cX3_plain 145 = .ok (.new 215, 3) := dk_187 0 215 (dk_at dksX3_plain_6 6 rfl rfl)
theorem dX3_plain_148 : decode cX3_plain 148 = .ok (.dup, 1) := dk_89 (dk_at dksX3_plain_6 9 rfl rfl)
theorem dX3_plain_149 : decode cX3_plain 149 = .ok (.aload 4, 2) := dk_25 4 (dk_at dksX3_plain_6 10 rfl rfl)
theorem dX3_plain_151 : decode cX3_plain 151 = .ok (.iload 5, 2) := dk_21 5 (dk_at dksX3_plain_6 12 rfl rfl)
theorem dX3_plain_153 : decode cX3_plain 153 = .ok (.aload_n 0, 1) := dk_42 (dk_at dksX3_plain_6 14 rfl rfl)
theorem dX3_plain_154 : decode cX3_plain 154 = .ok (.invokevirtual 155, 3) := dk_182 0 155 (dk_at dksX3_plain_6 15 rfl rfl)
theorem dX3_plain_157 : decode cX3_plain 157 = .ok (.invokespecial 217, 3) := dk_183 0 217 (dk_at dksX3_plain_6 18 rfl rfl)
theorem dX3_plain_160 : decode cX3_plain 160 = .ok (.astore_n 2, 1) := dk_77 (dk_at dksX3_plain_6 21 rfl rfl)
theorem dX3_plain_161 : decode cX3_plain 161 = .ok (.iload_n 1, 1) := dk_27 (dk_at dksX3_plain_6 22 rfl rfl)
theorem dX3_plain_162 : decode cX3_plain 162 = .ok (.ifCond .eq 14, 3) := dk_153 0 14 (dk_at dksX3_plain_7 0 rfl rfl)
theorem dX3_plain_165 : decode cX3_plain 165 = .ok (.new 220, 3) := dk_187 0 220 (dk_at dksX3_plain_7 3 rfl rfl)
theorem dX3_plain_168 : decode cX3_plain 168 = .ok (.dup, 1) := dk_89 (dk_at dksX3_plain_7 6 rfl rfl)
theorem dX3_plain_169 : decode cX3_plain 169 = .ok (.aload_n 2, 1) := dk_44 (dk_at dksX3_plain_7 7 rfl rfl)
theorem dX3_plain_170 : decode cX3_plain 170 = .ok (.invokespecial 222, 3) := dk_183 0 222 (dk_at dksX3_plain_7 8 rfl rfl)
theorem dX3_plain_173 : decode cX3_plain 173 = .ok (.goto 4, 3) := dk_167 0 4 (dk_at dksX3_plain_7 11 rfl rfl)
theorem dX3_plain_176 : decode cX3_plain 176 = .ok (.aload_n 2, 1) := dk_44 (dk_at dksX3_plain_7 14 rfl rfl)
theorem dX3_plain_177 : decode cX3_plain 177 = .ok (.areturn, 1) := dk_176 (dk_at dksX3_plain_7 15 rfl rfl)
abbrev cX3_add : ByteArray := prog_15_method_12_code
def yX3_add : MethodName := ⟨RX3, "add", "(LBrothFlasks$Test;)V"⟩
def dkwX3_add_0 : List UInt8 := [42, 180, 0, 17, 42, 180, 0, 87, 43, 83, 42, 89, 180, 0, 87, 4, 96, 181, 0, 87, 177]
abbrev dktX3_add_0 : List UInt8 := dkwX3_add_0 ++ []
theorem dksX3_add_0 : cX3_add.data.toList.drop 0 = dktX3_add_0 := by decide +kernel
theorem dX3_add_0 : decode cX3_add 0 = .ok (.aload_n 0, 1) := dk_42 (dk_at dksX3_add_0 0 rfl rfl)
theorem dX3_add_1 : decode cX3_add 1 = .ok (.getfield 17, 3) := dk_180 0 17 (dk_at dksX3_add_0 1 rfl rfl)
theorem dX3_add_4 : decode cX3_add 4 = .ok (.aload_n 0, 1) := dk_42 (dk_at dksX3_add_0 4 rfl rfl)
theorem dX3_add_5 : decode cX3_add 5 = .ok (.getfield 87, 3) := dk_180 0 87 (dk_at dksX3_add_0 5 rfl rfl)
theorem dX3_add_8 : decode cX3_add 8 = .ok (.aload_n 1, 1) := dk_43 (dk_at dksX3_add_0 8 rfl rfl)
theorem dX3_add_9 : decode cX3_add 9 = .ok (.aastore, 1) := dk_83 (dk_at dksX3_add_0 9 rfl rfl)
theorem dX3_add_10 : decode cX3_add 10 = .ok (.aload_n 0, 1) := dk_42 (dk_at dksX3_add_0 10 rfl rfl)
theorem dX3_add_11 : decode cX3_add 11 = .ok (.dup, 1) := dk_89 (dk_at dksX3_add_0 11 rfl rfl)
theorem dX3_add_12 : decode cX3_add 12 = .ok (.getfield 87, 3) := dk_180 0 87 (dk_at dksX3_add_0 12 rfl rfl)
theorem dX3_add_15 : decode cX3_add 15 = .ok (.iconst 1, 1) := dk_4 (dk_at dksX3_add_0 15 rfl rfl)
theorem dX3_add_16 : decode cX3_add 16 = .ok (.iadd, 1) := dk_96 (dk_at dksX3_add_0 16 rfl rfl)
theorem dX3_add_17 : decode cX3_add 17 = .ok (.putfield 87, 3) := dk_181 0 87 (dk_at dksX3_add_0 17 rfl rfl)
theorem dX3_add_20 : decode cX3_add 20 = .ok (.return_, 1) := dk_177 (dk_at dksX3_add_0 20 rfl rfl)
abbrev cX3_row : ByteArray := prog_15_method_13_code
def yX3_row : MethodName := ⟨RX3, "row", "(ZI)LBrothFlasks$Test;"⟩
def dkwX3_row_2 : List UInt8 := [25, 4, 183, 0, 188, 78, 42, 28, 181, 0, 87, 45, 176]
abbrev dktX3_row_2 : List UInt8 := dkwX3_row_2 ++ []
def dkwX3_row_1 : List UInt8 := [189, 0, 15, 58, 4, 42, 180, 0, 17, 28, 25, 4, 3, 25, 4, 190, 184, 0, 113, 187, 0, 186, 89, 27]
abbrev dktX3_row_1 : List UInt8 := dkwX3_row_1 ++ dktX3_row_2
def dkwX3_row_0 : List UInt8 := [42, 180, 0, 17, 28, 50, 78, 42, 180, 0, 87, 28, 100, 4, 164, 0, 39, 42, 180, 0, 87, 28, 100]
abbrev dktX3_row_0 : List UInt8 := dkwX3_row_0 ++ dktX3_row_1
theorem dksX3_row_0 : cX3_row.data.toList.drop 0 = dktX3_row_0 := by decide +kernel
theorem dksX3_row_1 : cX3_row.data.toList.drop 23 = dktX3_row_1 := dk_seg dksX3_row_0 23 rfl rfl
theorem dksX3_row_2 : cX3_row.data.toList.drop 47 = dktX3_row_2 := dk_seg dksX3_row_1 24 rfl rfl
theorem dX3_row_0 : decode cX3_row 0 = .ok (.aload_n 0, 1) := dk_42 (dk_at dksX3_row_0 0 rfl rfl)
theorem dX3_row_1 : decode cX3_row 1 = .ok (.getfield 17, 3) := dk_180 0 17 (dk_at dksX3_row_0 1 rfl rfl)
theorem dX3_row_4 : decode cX3_row 4 = .ok (.iload_n 2, 1) := dk_28 (dk_at dksX3_row_0 4 rfl rfl)
theorem dX3_row_5 : decode cX3_row 5 = .ok (.aaload, 1) := dk_50 (dk_at dksX3_row_0 5 rfl rfl)
theorem dX3_row_6 : decode cX3_row 6 = .ok (.astore_n 3, 1) := dk_78 (dk_at dksX3_row_0 6 rfl rfl)
theorem dX3_row_7 : decode cX3_row 7 = .ok (.aload_n 0, 1) := dk_42 (dk_at dksX3_row_0 7 rfl rfl)
theorem dX3_row_8 : decode cX3_row 8 = .ok (.getfield 87, 3) := dk_180 0 87 (dk_at dksX3_row_0 8 rfl rfl)
theorem dX3_row_11 : decode cX3_row 11 = .ok (.iload_n 2, 1) := dk_28 (dk_at dksX3_row_0 11 rfl rfl)
theorem dX3_row_12 : decode cX3_row 12 = .ok (.isub, 1) := dk_100 (dk_at dksX3_row_0 12 rfl rfl)
theorem dX3_row_13 : decode cX3_row 13 = .ok (.iconst 1, 1) := dk_4 (dk_at dksX3_row_0 13 rfl rfl)
theorem dX3_row_14 : decode cX3_row 14 = .ok (.if_icmp .le 39, 3) := dk_164 0 39 (dk_at dksX3_row_0 14 rfl rfl)
theorem dX3_row_17 : decode cX3_row 17 = .ok (.aload_n 0, 1) := dk_42 (dk_at dksX3_row_0 17 rfl rfl)
theorem dX3_row_18 : decode cX3_row 18 = .ok (.getfield 87, 3) := dk_180 0 87 (dk_at dksX3_row_0 18 rfl rfl)
theorem dX3_row_21 : decode cX3_row 21 = .ok (.iload_n 2, 1) := dk_28 (dk_at dksX3_row_0 21 rfl rfl)
theorem dX3_row_22 : decode cX3_row 22 = .ok (.isub, 1) := dk_100 (dk_at dksX3_row_0 22 rfl rfl)
theorem dX3_row_23 : decode cX3_row 23 = .ok (.anewarray 15, 3) := dk_189 0 15 (dk_at dksX3_row_1 0 rfl rfl)
theorem dX3_row_26 : decode cX3_row 26 = .ok (.astore 4, 2) := dk_58 4 (dk_at dksX3_row_1 3 rfl rfl)
theorem dX3_row_28 : decode cX3_row 28 = .ok (.aload_n 0, 1) := dk_42 (dk_at dksX3_row_1 5 rfl rfl)
theorem dX3_row_29 : decode cX3_row 29 = .ok (.getfield 17, 3) := dk_180 0 17 (dk_at dksX3_row_1 6 rfl rfl)
theorem dX3_row_32 : decode cX3_row 32 = .ok (.iload_n 2, 1) := dk_28 (dk_at dksX3_row_1 9 rfl rfl)
theorem dX3_row_33 : decode cX3_row 33 = .ok (.aload 4, 2) := dk_25 4 (dk_at dksX3_row_1 10 rfl rfl)
theorem dX3_row_35 : decode cX3_row 35 = .ok (.iconst 0, 1) := dk_3 (dk_at dksX3_row_1 12 rfl rfl)
theorem dX3_row_36 : decode cX3_row 36 = .ok (.aload 4, 2) := dk_25 4 (dk_at dksX3_row_1 13 rfl rfl)
theorem dX3_row_38 : decode cX3_row 38 = .ok (.arraylength, 1) := dk_190 (dk_at dksX3_row_1 15 rfl rfl)
theorem dX3_row_39 : decode cX3_row 39 = .ok (.invokestatic 113, 3) := dk_184 0 113 (dk_at dksX3_row_1 16 rfl rfl)
theorem dX3_row_42 : decode cX3_row 42 = .ok (.new 186, 3) := dk_187 0 186 (dk_at dksX3_row_1 19 rfl rfl)
theorem dX3_row_45 : decode cX3_row 45 = .ok (.dup, 1) := dk_89 (dk_at dksX3_row_1 22 rfl rfl)
theorem dX3_row_46 : decode cX3_row 46 = .ok (.iload_n 1, 1) := dk_27 (dk_at dksX3_row_1 23 rfl rfl)
theorem dX3_row_47 : decode cX3_row 47 = .ok (.aload 4, 2) := dk_25 4 (dk_at dksX3_row_2 0 rfl rfl)
theorem dX3_row_49 : decode cX3_row 49 = .ok (.invokespecial 188, 3) := dk_183 0 188 (dk_at dksX3_row_2 2 rfl rfl)
theorem dX3_row_52 : decode cX3_row 52 = .ok (.astore_n 3, 1) := dk_78 (dk_at dksX3_row_2 5 rfl rfl)
theorem dX3_row_53 : decode cX3_row 53 = .ok (.aload_n 0, 1) := dk_42 (dk_at dksX3_row_2 6 rfl rfl)
theorem dX3_row_54 : decode cX3_row 54 = .ok (.iload_n 2, 1) := dk_28 (dk_at dksX3_row_2 7 rfl rfl)
theorem dX3_row_55 : decode cX3_row 55 = .ok (.putfield 87, 3) := dk_181 0 87 (dk_at dksX3_row_2 8 rfl rfl)
theorem dX3_row_58 : decode cX3_row 58 = .ok (.aload_n 3, 1) := dk_45 (dk_at dksX3_row_2 11 rfl rfl)
theorem dX3_row_59 : decode cX3_row 59 = .ok (.areturn, 1) := dk_176 (dk_at dksX3_row_2 12 rfl rfl)
theorem q108 : (Jvm.Cond.initialized "BrothFlasks$Reader") ∈ lw_all := lw_g (lw_at lw_m1 4 rfl) rfl
theorem q277 : (Jvm.Cond.instantiable "BrothFlasks$Reader" (10 : Nat)) ∈ lw_all := lw_g (lw_at lw_m1 173 rfl) rfl
theorem q279 : (Jvm.Cond.instanceMethod ({ cls := "BrothFlasks$Reader", name := "<init>", desc := "(LBrothFlasks;)V" } : Jvm.MethodName)) ∈ lw_all := lw_g (lw_at lw_m1 175 rfl) rfl
theorem q280 : (Jvm.Cond.code ({ cls := "BrothFlasks$Reader", name := "<init>", desc := "(LBrothFlasks;)V" } : Jvm.MethodName) prog_15_method_1_code (2 : Nat) (Option.none : Option Jvm.ClassFile.FieldType)) ∈ lw_all := lw_g (lw_at lw_m1 176 rfl) rfl
theorem q281 : (Jvm.Cond.methodLink "BrothFlasks$Reader" (9 : Nat) ({ cls := "java/lang/Object", name := "<init>", desc := "()V" } : Jvm.MethodName)) ∈ lw_all := lw_g (lw_at lw_m1 177 rfl) rfl
theorem q282 : (Jvm.Cond.classLink "BrothFlasks$Reader" (15 : Nat) "BrothFlasks$Test") ∈ lw_all := lw_g (lw_at lw_m1 178 rfl) rfl
theorem q284 : (Jvm.Cond.classLink "BrothFlasks$Reader" (21 : Nat) "java/lang/String") ∈ lw_all := lw_g (lw_at lw_m1 180 rfl) rfl
theorem q286 : (Jvm.Cond.stringRef "BrothFlasks$Reader" (23 : Nat) "broth") ∈ lw_tbl := lw_at lw_m1 182 rfl
theorem q287 : (Jvm.Cond.stringRef "BrothFlasks$Reader" (25 : Nat) "sort") ∈ lw_tbl := lw_at lw_m1 183 rfl
theorem q288 : (Jvm.Cond.stringRef "BrothFlasks$Reader" (27 : Nat) "heat") ∈ lw_tbl := lw_at lw_m1 184 rfl
theorem q289 : (Jvm.Cond.stringRef "BrothFlasks$Reader" (29 : Nat) "minutes") ∈ lw_tbl := lw_at lw_m1 185 rfl
theorem q290 : (Jvm.Cond.stringRef "BrothFlasks$Reader" (31 : Nat) "since") ∈ lw_tbl := lw_at lw_m1 186 rfl
theorem q291 : (Jvm.Cond.stringRef "BrothFlasks$Reader" (33 : Nat) "place") ∈ lw_tbl := lw_at lw_m1 187 rfl
theorem q292 : (Jvm.Cond.stringRef "BrothFlasks$Reader" (35 : Nat) "open") ∈ lw_tbl := lw_at lw_m1 188 rfl
theorem q293 : (Jvm.Cond.stringRef "BrothFlasks$Reader" (37 : Nat) "TIPPED") ∈ lw_tbl := lw_at lw_m1 189 rfl
theorem q294 : (Jvm.Cond.stringRef "BrothFlasks$Reader" (39 : Nat) "hand") ∈ lw_tbl := lw_at lw_m1 190 rfl
theorem q295 : (Jvm.Cond.stringRef "BrothFlasks$Reader" (45 : Nat) "swan") ∈ lw_tbl := lw_at lw_m1 191 rfl
theorem q296 : (Jvm.Cond.stringRef "BrothFlasks$Reader" (47 : Nat) "sealed") ∈ lw_tbl := lw_at lw_m1 192 rfl
theorem q297 : (Jvm.Cond.stringRef "BrothFlasks$Reader" (49 : Nat) "plugged") ∈ lw_tbl := lw_at lw_m1 193 rfl
theorem q298 : (Jvm.Cond.stringRef "BrothFlasks$Reader" (51 : Nat) "mercury") ∈ lw_tbl := lw_at lw_m1 194 rfl
theorem q299 : (Jvm.Cond.stringRef "BrothFlasks$Reader" (53 : Nat) "living") ∈ lw_tbl := lw_at lw_m1 195 rfl
theorem q300 : (Jvm.Cond.stringRef "BrothFlasks$Reader" (55 : Nat) "tipped") ∈ lw_tbl := lw_at lw_m1 196 rfl
theorem q301 : (Jvm.Cond.stringRef "BrothFlasks$Reader" (57 : Nat) "air") ∈ lw_tbl := lw_at lw_m1 197 rfl
theorem q302 : (Jvm.Cond.stringRef "BrothFlasks$Reader" (62 : Nat) "clear") ∈ lw_tbl := lw_at lw_m1 198 rfl
theorem q303 : (Jvm.Cond.stringRef "BrothFlasks$Reader" (64 : Nat) "turned") ∈ lw_tbl := lw_at lw_m1 199 rfl
theorem q304 : (Jvm.Cond.stringRef "BrothFlasks$Reader" (66 : Nat) "odds") ∈ lw_tbl := lw_at lw_m1 200 rfl
theorem q305 : (Jvm.Cond.stringRef "BrothFlasks$Reader" (68 : Nat) "save") ∈ lw_tbl := lw_at lw_m1 201 rfl
theorem q306 : (Jvm.Cond.stringRef "BrothFlasks$Reader" (70 : Nat) "fair") ∈ lw_tbl := lw_at lw_m1 202 rfl
theorem q307 : (Jvm.Cond.fieldLink "BrothFlasks$Reader" (107 : Nat) "BrothFlasks$Reader" "from" "I") ∈ lw_all := lw_g (lw_at lw_m1 203 rfl) rfl
theorem q308 : (Jvm.Cond.fieldLink "BrothFlasks$Reader" (77 : Nat) "BrothFlasks$Reader" "to" "I") ∈ lw_all := lw_g (lw_at lw_m1 204 rfl) rfl
theorem q309 : (Jvm.Cond.fieldLink "BrothFlasks$Reader" (81 : Nat) "BrothFlasks$Reader" "leaves" "I") ∈ lw_all := lw_g (lw_at lw_m1 205 rfl) rfl
theorem q310 : (Jvm.Cond.fieldLink "BrothFlasks$Reader" (84 : Nat) "BrothFlasks$Reader" "deep" "I") ∈ lw_all := lw_g (lw_at lw_m1 206 rfl) rfl
theorem q311 : (Jvm.Cond.fieldLink "BrothFlasks$Reader" (87 : Nat) "BrothFlasks$Reader" "piled" "I") ∈ lw_all := lw_g (lw_at lw_m1 207 rfl) rfl
theorem q312 : (Jvm.Cond.fieldLink "BrothFlasks$Reader" (17 : Nat) "BrothFlasks$Reader" "pile" "[LBrothFlasks$Test;") ∈ lw_all := lw_g (lw_at lw_m1 208 rfl) rfl
theorem q313 : (Jvm.Cond.fieldLink "BrothFlasks$Reader" (41 : Nat) "BrothFlasks$Reader" "words" "[Ljava/lang/String;") ∈ lw_all := lw_g (lw_at lw_m1 209 rfl) rfl
theorem q314 : (Jvm.Cond.fieldLink "BrothFlasks$Reader" (59 : Nat) "BrothFlasks$Reader" "facts" "[Ljava/lang/String;") ∈ lw_all := lw_g (lw_at lw_m1 210 rfl) rfl
theorem q315 : (Jvm.Cond.fieldLink "BrothFlasks$Reader" (72 : Nat) "BrothFlasks$Reader" "heads" "[Ljava/lang/String;") ∈ lw_all := lw_g (lw_at lw_m1 211 rfl) rfl
theorem q316 : (Jvm.Cond.fieldLink "BrothFlasks$Reader" (3 : Nat) "BrothFlasks$Reader" "this$0" "LBrothFlasks;") ∈ lw_all := lw_g (lw_at lw_m1 212 rfl) rfl
theorem q317 : (Jvm.Cond.lays "BrothFlasks$Reader" "BrothFlasks$Reader" "from" "I") ∈ lw_all := lw_g (lw_at lw_m1 213 rfl) rfl
theorem q318 : (Jvm.Cond.soleField "BrothFlasks$Reader" "from") ∈ lw_all := lw_g (lw_at lw_m1 214 rfl) rfl
theorem q319 : (Jvm.Cond.lays "BrothFlasks$Reader" "BrothFlasks$Reader" "to" "I") ∈ lw_all := lw_g (lw_at lw_m1 215 rfl) rfl
theorem q320 : (Jvm.Cond.soleField "BrothFlasks$Reader" "to") ∈ lw_all := lw_g (lw_at lw_m1 216 rfl) rfl
theorem q321 : (Jvm.Cond.lays "BrothFlasks$Reader" "BrothFlasks$Reader" "leaves" "I") ∈ lw_all := lw_g (lw_at lw_m1 217 rfl) rfl
theorem q322 : (Jvm.Cond.soleField "BrothFlasks$Reader" "leaves") ∈ lw_all := lw_g (lw_at lw_m1 218 rfl) rfl
theorem q323 : (Jvm.Cond.lays "BrothFlasks$Reader" "BrothFlasks$Reader" "deep" "I") ∈ lw_all := lw_g (lw_at lw_m1 219 rfl) rfl
theorem q324 : (Jvm.Cond.soleField "BrothFlasks$Reader" "deep") ∈ lw_all := lw_g (lw_at lw_m1 220 rfl) rfl
theorem q325 : (Jvm.Cond.lays "BrothFlasks$Reader" "BrothFlasks$Reader" "piled" "I") ∈ lw_all := lw_g (lw_at lw_m1 221 rfl) rfl
theorem q326 : (Jvm.Cond.soleField "BrothFlasks$Reader" "piled") ∈ lw_all := lw_g (lw_at lw_m1 222 rfl) rfl
theorem q327 : (Jvm.Cond.laysFinal "BrothFlasks$Reader" "BrothFlasks$Reader" "pile" "[LBrothFlasks$Test;") ∈ lw_all := lw_g (lw_at lw_m1 223 rfl) rfl
theorem q328 : (Jvm.Cond.soleField "BrothFlasks$Reader" "pile") ∈ lw_all := lw_g (lw_at lw_m1 224 rfl) rfl
theorem q329 : (Jvm.Cond.laysFinal "BrothFlasks$Reader" "BrothFlasks$Reader" "words" "[Ljava/lang/String;") ∈ lw_all := lw_g (lw_at lw_m1 225 rfl) rfl
theorem q330 : (Jvm.Cond.soleField "BrothFlasks$Reader" "words") ∈ lw_all := lw_g (lw_at lw_m1 226 rfl) rfl
theorem q331 : (Jvm.Cond.laysFinal "BrothFlasks$Reader" "BrothFlasks$Reader" "facts" "[Ljava/lang/String;") ∈ lw_all := lw_g (lw_at lw_m1 227 rfl) rfl
theorem q332 : (Jvm.Cond.soleField "BrothFlasks$Reader" "facts") ∈ lw_all := lw_g (lw_at lw_m1 228 rfl) rfl
theorem q333 : (Jvm.Cond.laysFinal "BrothFlasks$Reader" "BrothFlasks$Reader" "heads" "[Ljava/lang/String;") ∈ lw_all := lw_g (lw_at lw_m1 229 rfl) rfl
theorem q334 : (Jvm.Cond.soleField "BrothFlasks$Reader" "heads") ∈ lw_all := lw_g (lw_at lw_m1 230 rfl) rfl
theorem q335 : (Jvm.Cond.laysFinal "BrothFlasks$Reader" "BrothFlasks$Reader" "this$0" "LBrothFlasks;") ∈ lw_all := lw_g (lw_at lw_m1 231 rfl) rfl
theorem q336 : (Jvm.Cond.soleField "BrothFlasks$Reader" "this$0") ∈ lw_all := lw_g (lw_at lw_m1 232 rfl) rfl
theorem q337 : (Jvm.Cond.superclass "BrothFlasks$Reader" "java/lang/Object") ∈ lw_all := lw_g (lw_at lw_m1 233 rfl) rfl
theorem q344 : (Jvm.Cond.fieldLinkNest "BrothFlasks$Reader" (124 : Nat) "BrothFlasks" "tape" "[B" "BrothFlasks") ∈ lw_tbl := lw_at lw_m2 0 rfl
theorem q346 : (Jvm.Cond.fieldLinkNest "BrothFlasks$Reader" (110 : Nat) "BrothFlasks" "taped" "I" "BrothFlasks") ∈ lw_tbl := lw_at lw_m2 2 rfl
theorem q818 : (Jvm.Cond.instanceMethod ({ cls := "BrothFlasks$Reader", name := "read", desc := "()LBrothFlasks$Text;" } : Jvm.MethodName)) ∈ lw_all := lw_g (lw_at lw_m3 234 rfl) rfl
theorem q819 : (Jvm.Cond.selects "BrothFlasks$Reader" ({ cls := "BrothFlasks$Reader", name := "read", desc := "()LBrothFlasks$Text;" } : Jvm.MethodName) ({ cls := "BrothFlasks$Reader", name := "read", desc := "()LBrothFlasks$Text;" } : Jvm.MethodName)) ∈ lw_all := lw_g (lw_at lw_m3 235 rfl) rfl
theorem q820 : (Jvm.Cond.code ({ cls := "BrothFlasks$Reader", name := "read", desc := "()LBrothFlasks$Text;" } : Jvm.MethodName) prog_15_method_2_code (4 : Nat) (Option.some (Jvm.ClassFile.FieldType.object "BrothFlasks$Text"))) ∈ lw_all := lw_g (lw_at lw_m3 236 rfl) rfl
theorem q821 : (Jvm.Cond.classLink "BrothFlasks$Reader" (75 : Nat) "BrothFlasks$Clause") ∈ lw_all := lw_g (lw_at lw_m3 237 rfl) rfl
theorem q823 : (Jvm.Cond.methodLink "BrothFlasks$Reader" (90 : Nat) ({ cls := "BrothFlasks$Reader", name := "next", desc := "()V" } : Jvm.MethodName)) ∈ lw_all := lw_g (lw_at lw_m3 239 rfl) rfl
theorem q824 : (Jvm.Cond.privateMethod ({ cls := "BrothFlasks$Reader", name := "next", desc := "()V" } : Jvm.MethodName)) ∈ lw_tbl := lw_at lw_m4 0 rfl
theorem q825 : (Jvm.Cond.instanceMethod ({ cls := "BrothFlasks$Reader", name := "next", desc := "()V" } : Jvm.MethodName)) ∈ lw_all := lw_g (lw_at lw_m4 1 rfl) rfl
theorem q826 : (Jvm.Cond.code ({ cls := "BrothFlasks$Reader", name := "next", desc := "()V" } : Jvm.MethodName) prog_15_method_3_code (3 : Nat) (Option.none : Option Jvm.ClassFile.FieldType)) ∈ lw_all := lw_g (lw_at lw_m4 2 rfl) rfl
theorem q827 : (Jvm.Cond.methodLinkNest "BrothFlasks$Reader" (128 : Nat) ({ cls := "BrothFlasks", name := "isLetter", desc := "(I)Z" } : Jvm.MethodName) "BrothFlasks") ∈ lw_tbl := lw_at lw_m4 3 rfl
theorem q830 : (Jvm.Cond.methodLinkNest "BrothFlasks$Reader" (132 : Nat) ({ cls := "BrothFlasks", name := "isDigit", desc := "(I)Z" } : Jvm.MethodName) "BrothFlasks") ∈ lw_tbl := lw_at lw_m4 6 rfl
theorem q833 : (Jvm.Cond.methodLink "BrothFlasks$Reader" (93 : Nat) ({ cls := "BrothFlasks$Reader", name := "must", desc := "(Z)V" } : Jvm.MethodName)) ∈ lw_all := lw_g (lw_at lw_m4 9 rfl) rfl
theorem q834 : (Jvm.Cond.privateMethod ({ cls := "BrothFlasks$Reader", name := "must", desc := "(Z)V" } : Jvm.MethodName)) ∈ lw_tbl := lw_at lw_m4 10 rfl
theorem q835 : (Jvm.Cond.instanceMethod ({ cls := "BrothFlasks$Reader", name := "must", desc := "(Z)V" } : Jvm.MethodName)) ∈ lw_all := lw_g (lw_at lw_m4 11 rfl) rfl
theorem q836 : (Jvm.Cond.code ({ cls := "BrothFlasks$Reader", name := "must", desc := "(Z)V" } : Jvm.MethodName) prog_15_method_7_code (2 : Nat) (Option.none : Option Jvm.ClassFile.FieldType)) ∈ lw_all := lw_g (lw_at lw_m4 12 rfl) rfl
theorem q837 : (Jvm.Cond.classLink "BrothFlasks$Reader" (146 : Nat) "BrothFlasks$Wrong") ∈ lw_all := lw_g (lw_at lw_m4 13 rfl) rfl
theorem q874 : (Jvm.Cond.methodLink "BrothFlasks$Reader" (148 : Nat) ({ cls := "BrothFlasks$Wrong", name := "<init>", desc := "(I)V" } : Jvm.MethodName)) ∈ lw_all := lw_g (lw_at lw_m4 50 rfl) rfl
theorem q900 : (Jvm.Cond.methodLink "BrothFlasks$Reader" (97 : Nat) ({ cls := "BrothFlasks$Reader", name := "clause", desc := "()LBrothFlasks$Clause;" } : Jvm.MethodName)) ∈ lw_all := lw_g (lw_at lw_m4 76 rfl) rfl
theorem q901 : (Jvm.Cond.privateMethod ({ cls := "BrothFlasks$Reader", name := "clause", desc := "()LBrothFlasks$Clause;" } : Jvm.MethodName)) ∈ lw_tbl := lw_at lw_m4 77 rfl
theorem q902 : (Jvm.Cond.instanceMethod ({ cls := "BrothFlasks$Reader", name := "clause", desc := "()LBrothFlasks$Clause;" } : Jvm.MethodName)) ∈ lw_all := lw_g (lw_at lw_m4 78 rfl) rfl
theorem q903 : (Jvm.Cond.code ({ cls := "BrothFlasks$Reader", name := "clause", desc := "()LBrothFlasks$Clause;" } : Jvm.MethodName) prog_15_method_9_code (4 : Nat) (Option.some (Jvm.ClassFile.FieldType.object "BrothFlasks$Clause"))) ∈ lw_all := lw_g (lw_at lw_m4 79 rfl) rfl
theorem q904 : (Jvm.Cond.methodLink "BrothFlasks$Reader" (151 : Nat) ({ cls := "BrothFlasks$Reader", name := "which", desc := "([Ljava/lang/String;)I" } : Jvm.MethodName)) ∈ lw_all := lw_g (lw_at lw_m4 80 rfl) rfl
theorem q905 : (Jvm.Cond.privateMethod ({ cls := "BrothFlasks$Reader", name := "which", desc := "([Ljava/lang/String;)I" } : Jvm.MethodName)) ∈ lw_tbl := lw_at lw_m4 81 rfl
theorem q906 : (Jvm.Cond.instanceMethod ({ cls := "BrothFlasks$Reader", name := "which", desc := "([Ljava/lang/String;)I" } : Jvm.MethodName)) ∈ lw_all := lw_g (lw_at lw_m4 82 rfl) rfl
theorem q907 : (Jvm.Cond.code ({ cls := "BrothFlasks$Reader", name := "which", desc := "([Ljava/lang/String;)I" } : Jvm.MethodName) prog_15_method_5_code (3 : Nat) (Option.some Jvm.ClassFile.FieldType.int)) ∈ lw_all := lw_g (lw_at lw_m4 83 rfl) rfl
theorem q908 : (Jvm.Cond.methodLink "BrothFlasks$Reader" (143 : Nat) ({ cls := "BrothFlasks$Reader", name := "isWord", desc := "(Ljava/lang/String;)Z" } : Jvm.MethodName)) ∈ lw_all := lw_g (lw_at lw_m4 84 rfl) rfl
theorem q909 : (Jvm.Cond.privateMethod ({ cls := "BrothFlasks$Reader", name := "isWord", desc := "(Ljava/lang/String;)Z" } : Jvm.MethodName)) ∈ lw_tbl := lw_at lw_m4 85 rfl
theorem q910 : (Jvm.Cond.instanceMethod ({ cls := "BrothFlasks$Reader", name := "isWord", desc := "(Ljava/lang/String;)Z" } : Jvm.MethodName)) ∈ lw_all := lw_g (lw_at lw_m4 86 rfl) rfl
theorem q911 : (Jvm.Cond.code ({ cls := "BrothFlasks$Reader", name := "isWord", desc := "(Ljava/lang/String;)Z" } : Jvm.MethodName) prog_15_method_4_code (3 : Nat) (Option.some Jvm.ClassFile.FieldType.boolean)) ∈ lw_all := lw_g (lw_at lw_m4 87 rfl) rfl
theorem q912 : (Jvm.Cond.methodLink "BrothFlasks$Reader" (135 : Nat) ({ cls := "java/lang/String", name := "length", desc := "()I" } : Jvm.MethodName)) ∈ lw_all := lw_g (lw_at lw_m4 88 rfl) rfl
theorem q922 : (Jvm.Cond.methodLink "BrothFlasks$Reader" (139 : Nat) ({ cls := "java/lang/String", name := "charAt", desc := "(I)C" } : Jvm.MethodName)) ∈ lw_all := lw_g (lw_at lw_m4 98 rfl) rfl
theorem q960 : (Jvm.Cond.methodLink "BrothFlasks$Reader" (155 : Nat) ({ cls := "BrothFlasks$Reader", name := "sum", desc := "()LBrothFlasks$Sum;" } : Jvm.MethodName)) ∈ lw_all := lw_g (lw_at lw_m4 136 rfl) rfl
theorem q961 : (Jvm.Cond.privateMethod ({ cls := "BrothFlasks$Reader", name := "sum", desc := "()LBrothFlasks$Sum;" } : Jvm.MethodName)) ∈ lw_tbl := lw_at lw_m4 137 rfl
theorem q962 : (Jvm.Cond.instanceMethod ({ cls := "BrothFlasks$Reader", name := "sum", desc := "()LBrothFlasks$Sum;" } : Jvm.MethodName)) ∈ lw_all := lw_g (lw_at lw_m4 138 rfl) rfl
theorem q963 : (Jvm.Cond.code ({ cls := "BrothFlasks$Reader", name := "sum", desc := "()LBrothFlasks$Sum;" } : Jvm.MethodName) prog_15_method_18_code (3 : Nat) (Option.some (Jvm.ClassFile.FieldType.object "BrothFlasks$Sum"))) ∈ lw_all := lw_g (lw_at lw_m4 139 rfl) rfl
theorem q964 : (Jvm.Cond.methodLink "BrothFlasks$Reader" (224 : Nat) ({ cls := "BrothFlasks$Reader", name := "term", desc := "()LBrothFlasks$Sum;" } : Jvm.MethodName)) ∈ lw_all := lw_g (lw_at lw_m4 140 rfl) rfl
theorem q965 : (Jvm.Cond.privateMethod ({ cls := "BrothFlasks$Reader", name := "term", desc := "()LBrothFlasks$Sum;" } : Jvm.MethodName)) ∈ lw_tbl := lw_at lw_m4 141 rfl
theorem q966 : (Jvm.Cond.instanceMethod ({ cls := "BrothFlasks$Reader", name := "term", desc := "()LBrothFlasks$Sum;" } : Jvm.MethodName)) ∈ lw_all := lw_g (lw_at lw_m4 142 rfl) rfl
theorem q967 : (Jvm.Cond.code ({ cls := "BrothFlasks$Reader", name := "term", desc := "()LBrothFlasks$Sum;" } : Jvm.MethodName) prog_15_method_19_code (3 : Nat) (Option.some (Jvm.ClassFile.FieldType.object "BrothFlasks$Sum"))) ∈ lw_all := lw_g (lw_at lw_m4 143 rfl) rfl
theorem q968 : (Jvm.Cond.methodLink "BrothFlasks$Reader" (234 : Nat) ({ cls := "BrothFlasks$Reader", name := "part", desc := "()LBrothFlasks$Sum;" } : Jvm.MethodName)) ∈ lw_all := lw_g (lw_at lw_m4 144 rfl) rfl
theorem q969 : (Jvm.Cond.privateMethod ({ cls := "BrothFlasks$Reader", name := "part", desc := "()LBrothFlasks$Sum;" } : Jvm.MethodName)) ∈ lw_tbl := lw_at lw_m4 145 rfl
theorem q970 : (Jvm.Cond.instanceMethod ({ cls := "BrothFlasks$Reader", name := "part", desc := "()LBrothFlasks$Sum;" } : Jvm.MethodName)) ∈ lw_all := lw_g (lw_at lw_m4 146 rfl) rfl
theorem q971 : (Jvm.Cond.code ({ cls := "BrothFlasks$Reader", name := "part", desc := "()LBrothFlasks$Sum;" } : Jvm.MethodName) prog_15_method_20_code (2 : Nat) (Option.some (Jvm.ClassFile.FieldType.object "BrothFlasks$Sum"))) ∈ lw_all := lw_g (lw_at lw_m4 147 rfl) rfl
theorem q972 : (Jvm.Cond.stringRef "BrothFlasks$Reader" (241 : Nat) "[") ∈ lw_tbl := lw_at lw_m4 148 rfl
theorem q973 : (Jvm.Cond.methodLink "BrothFlasks$Reader" (195 : Nat) ({ cls := "BrothFlasks$Reader", name := "open", desc := "()V" } : Jvm.MethodName)) ∈ lw_all := lw_g (lw_at lw_m4 149 rfl) rfl
theorem q974 : (Jvm.Cond.privateMethod ({ cls := "BrothFlasks$Reader", name := "open", desc := "()V" } : Jvm.MethodName)) ∈ lw_tbl := lw_at lw_m4 150 rfl
theorem q975 : (Jvm.Cond.instanceMethod ({ cls := "BrothFlasks$Reader", name := "open", desc := "()V" } : Jvm.MethodName)) ∈ lw_all := lw_g (lw_at lw_m4 151 rfl) rfl
theorem q976 : (Jvm.Cond.code ({ cls := "BrothFlasks$Reader", name := "open", desc := "()V" } : Jvm.MethodName) prog_15_method_14_code (1 : Nat) (Option.none : Option Jvm.ClassFile.FieldType)) ∈ lw_all := lw_g (lw_at lw_m4 152 rfl) rfl
theorem q977 : (Jvm.Cond.stringRef "BrothFlasks$Reader" (243 : Nat) "]") ∈ lw_tbl := lw_at lw_m4 153 rfl
theorem q978 : (Jvm.Cond.methodLink "BrothFlasks$Reader" (199 : Nat) ({ cls := "BrothFlasks$Reader", name := "close", desc := "(Ljava/lang/String;)V" } : Jvm.MethodName)) ∈ lw_all := lw_g (lw_at lw_m4 154 rfl) rfl
theorem q979 : (Jvm.Cond.privateMethod ({ cls := "BrothFlasks$Reader", name := "close", desc := "(Ljava/lang/String;)V" } : Jvm.MethodName)) ∈ lw_tbl := lw_at lw_m4 155 rfl
theorem q980 : (Jvm.Cond.instanceMethod ({ cls := "BrothFlasks$Reader", name := "close", desc := "(Ljava/lang/String;)V" } : Jvm.MethodName)) ∈ lw_all := lw_g (lw_at lw_m4 156 rfl) rfl
theorem q981 : (Jvm.Cond.code ({ cls := "BrothFlasks$Reader", name := "close", desc := "(Ljava/lang/String;)V" } : Jvm.MethodName) prog_15_method_15_code (2 : Nat) (Option.none : Option Jvm.ClassFile.FieldType)) ∈ lw_all := lw_g (lw_at lw_m4 157 rfl) rfl
theorem q982 : (Jvm.Cond.methodLink "BrothFlasks$Reader" (103 : Nat) ({ cls := "BrothFlasks$Reader", name := "accept", desc := "(Ljava/lang/String;)Z" } : Jvm.MethodName)) ∈ lw_all := lw_g (lw_at lw_m4 158 rfl) rfl
theorem q983 : (Jvm.Cond.privateMethod ({ cls := "BrothFlasks$Reader", name := "accept", desc := "(Ljava/lang/String;)Z" } : Jvm.MethodName)) ∈ lw_tbl := lw_at lw_m4 159 rfl
theorem q984 : (Jvm.Cond.instanceMethod ({ cls := "BrothFlasks$Reader", name := "accept", desc := "(Ljava/lang/String;)Z" } : Jvm.MethodName)) ∈ lw_all := lw_g (lw_at lw_m4 160 rfl) rfl
theorem q985 : (Jvm.Cond.code ({ cls := "BrothFlasks$Reader", name := "accept", desc := "(Ljava/lang/String;)Z" } : Jvm.MethodName) prog_15_method_6_code (3 : Nat) (Option.some Jvm.ClassFile.FieldType.boolean)) ∈ lw_all := lw_g (lw_at lw_m4 161 rfl) rfl
theorem q986 : (Jvm.Cond.methodLink "BrothFlasks$Reader" (203 : Nat) ({ cls := "BrothFlasks$Reader", name := "leaf", desc := "()V" } : Jvm.MethodName)) ∈ lw_all := lw_g (lw_at lw_m4 162 rfl) rfl
theorem q987 : (Jvm.Cond.privateMethod ({ cls := "BrothFlasks$Reader", name := "leaf", desc := "()V" } : Jvm.MethodName)) ∈ lw_tbl := lw_at lw_m4 163 rfl
theorem q988 : (Jvm.Cond.instanceMethod ({ cls := "BrothFlasks$Reader", name := "leaf", desc := "()V" } : Jvm.MethodName)) ∈ lw_all := lw_g (lw_at lw_m4 164 rfl) rfl
theorem q989 : (Jvm.Cond.code ({ cls := "BrothFlasks$Reader", name := "leaf", desc := "()V" } : Jvm.MethodName) prog_15_method_16_code (1 : Nat) (Option.none : Option Jvm.ClassFile.FieldType)) ∈ lw_all := lw_g (lw_at lw_m4 165 rfl) rfl
theorem q990 : (Jvm.Cond.classLink "BrothFlasks$Reader" (245 : Nat) "BrothFlasks$Amount") ∈ lw_all := lw_g (lw_at lw_m4 166 rfl) rfl
theorem q992 : (Jvm.Cond.constant "BrothFlasks$Reader" (247 : Nat) (100000 : Int32)) ∈ lw_all := lw_g (lw_at lw_m4 168 rfl) rfl
theorem q993 : (Jvm.Cond.methodLink "BrothFlasks$Reader" (248 : Nat) ({ cls := "BrothFlasks$Reader", name := "number", desc := "(I)I" } : Jvm.MethodName)) ∈ lw_all := lw_g (lw_at lw_m4 169 rfl) rfl
theorem q994 : (Jvm.Cond.privateMethod ({ cls := "BrothFlasks$Reader", name := "number", desc := "(I)I" } : Jvm.MethodName)) ∈ lw_tbl := lw_at lw_m4 170 rfl
theorem q995 : (Jvm.Cond.instanceMethod ({ cls := "BrothFlasks$Reader", name := "number", desc := "(I)I" } : Jvm.MethodName)) ∈ lw_all := lw_g (lw_at lw_m4 171 rfl) rfl
theorem q996 : (Jvm.Cond.code ({ cls := "BrothFlasks$Reader", name := "number", desc := "(I)I" } : Jvm.MethodName) prog_15_method_8_code (4 : Nat) (Option.some Jvm.ClassFile.FieldType.int)) ∈ lw_all := lw_g (lw_at lw_m4 172 rfl) rfl
theorem q997 : (Jvm.Cond.methodLink "BrothFlasks$Reader" (252 : Nat) ({ cls := "BrothFlasks$Amount", name := "<init>", desc := "(I)V" } : Jvm.MethodName)) ∈ lw_all := lw_g (lw_at lw_m4 173 rfl) rfl
theorem q1008 : (Jvm.Cond.classLink "BrothFlasks$Reader" (253 : Nat) "BrothFlasks$Part") ∈ lw_all := lw_g (lw_at lw_m4 184 rfl) rfl
theorem q1010 : (Jvm.Cond.methodLink "BrothFlasks$Reader" (255 : Nat) ({ cls := "BrothFlasks$Part", name := "<init>", desc := "(I)V" } : Jvm.MethodName)) ∈ lw_all := lw_g (lw_at lw_m4 186 rfl) rfl
theorem q1018 : (Jvm.Cond.stringRef "BrothFlasks$Reader" (237 : Nat) "*") ∈ lw_tbl := lw_at lw_m4 194 rfl
theorem q1019 : (Jvm.Cond.stringRef "BrothFlasks$Reader" (239 : Nat) "/") ∈ lw_tbl := lw_at lw_m4 195 rfl
theorem q1020 : (Jvm.Cond.classLink "BrothFlasks$Reader" (231 : Nat) "BrothFlasks$Joined") ∈ lw_all := lw_g (lw_at lw_m4 196 rfl) rfl
theorem q1022 : (Jvm.Cond.methodLink "BrothFlasks$Reader" (233 : Nat) ({ cls := "BrothFlasks$Joined", name := "<init>", desc := "(LBrothFlasks$Sum;ILBrothFlasks$Sum;)V" } : Jvm.MethodName)) ∈ lw_all := lw_g (lw_at lw_m4 198 rfl) rfl
theorem q1036 : (Jvm.Cond.stringRef "BrothFlasks$Reader" (227 : Nat) "+") ∈ lw_tbl := lw_at lw_m4 212 rfl
theorem q1037 : (Jvm.Cond.stringRef "BrothFlasks$Reader" (229 : Nat) "-") ∈ lw_tbl := lw_at lw_m4 213 rfl
theorem q1038 : (Jvm.Cond.stringRef "BrothFlasks$Reader" (159 : Nat) "if") ∈ lw_tbl := lw_at lw_m4 214 rfl
theorem q1039 : (Jvm.Cond.methodLink "BrothFlasks$Reader" (161 : Nat) ({ cls := "BrothFlasks$Reader", name := "test", desc := "()LBrothFlasks$Test;" } : Jvm.MethodName)) ∈ lw_all := lw_g (lw_at lw_m4 215 rfl) rfl
theorem q1040 : (Jvm.Cond.privateMethod ({ cls := "BrothFlasks$Reader", name := "test", desc := "()LBrothFlasks$Test;" } : Jvm.MethodName)) ∈ lw_tbl := lw_at lw_m4 216 rfl
theorem q1041 : (Jvm.Cond.instanceMethod ({ cls := "BrothFlasks$Reader", name := "test", desc := "()LBrothFlasks$Test;" } : Jvm.MethodName)) ∈ lw_all := lw_g (lw_at lw_m4 217 rfl) rfl
theorem q1042 : (Jvm.Cond.code ({ cls := "BrothFlasks$Reader", name := "test", desc := "()LBrothFlasks$Test;" } : Jvm.MethodName) prog_15_method_10_code (2 : Nat) (Option.some (Jvm.ClassFile.FieldType.object "BrothFlasks$Test"))) ∈ lw_all := lw_g (lw_at lw_m4 218 rfl) rfl
theorem q1043 : (Jvm.Cond.methodLink "BrothFlasks$Reader" (168 : Nat) ({ cls := "BrothFlasks$Reader", name := "both", desc := "()LBrothFlasks$Test;" } : Jvm.MethodName)) ∈ lw_all := lw_g (lw_at lw_m4 219 rfl) rfl
theorem q1044 : (Jvm.Cond.privateMethod ({ cls := "BrothFlasks$Reader", name := "both", desc := "()LBrothFlasks$Test;" } : Jvm.MethodName)) ∈ lw_tbl := lw_at lw_m4 220 rfl
theorem q1045 : (Jvm.Cond.instanceMethod ({ cls := "BrothFlasks$Reader", name := "both", desc := "()LBrothFlasks$Test;" } : Jvm.MethodName)) ∈ lw_all := lw_g (lw_at lw_m4 221 rfl) rfl
theorem q1046 : (Jvm.Cond.code ({ cls := "BrothFlasks$Reader", name := "both", desc := "()LBrothFlasks$Test;" } : Jvm.MethodName) prog_15_method_11_code (2 : Nat) (Option.some (Jvm.ClassFile.FieldType.object "BrothFlasks$Test"))) ∈ lw_all := lw_g (lw_at lw_m4 222 rfl) rfl
theorem q1047 : (Jvm.Cond.methodLink "BrothFlasks$Reader" (181 : Nat) ({ cls := "BrothFlasks$Reader", name := "plain", desc := "()LBrothFlasks$Test;" } : Jvm.MethodName)) ∈ lw_all := lw_g (lw_at lw_m4 223 rfl) rfl
theorem q1048 : (Jvm.Cond.privateMethod ({ cls := "BrothFlasks$Reader", name := "plain", desc := "()LBrothFlasks$Test;" } : Jvm.MethodName)) ∈ lw_tbl := lw_at lw_m4 224 rfl
theorem q1049 : (Jvm.Cond.instanceMethod ({ cls := "BrothFlasks$Reader", name := "plain", desc := "()LBrothFlasks$Test;" } : Jvm.MethodName)) ∈ lw_all := lw_g (lw_at lw_m4 225 rfl) rfl
theorem q1050 : (Jvm.Cond.code ({ cls := "BrothFlasks$Reader", name := "plain", desc := "()LBrothFlasks$Test;" } : Jvm.MethodName) prog_15_method_17_code (6 : Nat) (Option.some (Jvm.ClassFile.FieldType.object "BrothFlasks$Test"))) ∈ lw_all := lw_g (lw_at lw_m4 226 rfl) rfl
theorem q1051 : (Jvm.Cond.stringRef "BrothFlasks$Reader" (191 : Nat) "not") ∈ lw_tbl := lw_at lw_m4 227 rfl
theorem q1052 : (Jvm.Cond.stringRef "BrothFlasks$Reader" (193 : Nat) "(") ∈ lw_tbl := lw_at lw_m4 228 rfl
theorem q1053 : (Jvm.Cond.stringRef "BrothFlasks$Reader" (197 : Nat) ")") ∈ lw_tbl := lw_at lw_m4 229 rfl
theorem q1054 : (Jvm.Cond.classLink "BrothFlasks$Reader" (206 : Nat) "BrothFlasks$Fact") ∈ lw_all := lw_g (lw_at lw_m4 230 rfl) rfl
theorem q1056 : (Jvm.Cond.methodLink "BrothFlasks$Reader" (208 : Nat) ({ cls := "BrothFlasks$Fact", name := "<init>", desc := "(I)V" } : Jvm.MethodName)) ∈ lw_all := lw_g (lw_at lw_m4 232 rfl) rfl
theorem q1067 : (Jvm.Cond.stringRef "BrothFlasks$Reader" (209 : Nat) "<") ∈ lw_tbl := lw_at lw_m5 3 rfl
theorem q1068 : (Jvm.Cond.stringRef "BrothFlasks$Reader" (211 : Nat) ">") ∈ lw_tbl := lw_at lw_m5 4 rfl
theorem q1069 : (Jvm.Cond.stringRef "BrothFlasks$Reader" (213 : Nat) "=") ∈ lw_tbl := lw_at lw_m5 5 rfl
theorem q1070 : (Jvm.Cond.classLink "BrothFlasks$Reader" (215 : Nat) "BrothFlasks$Compared") ∈ lw_all := lw_g (lw_at lw_m5 6 rfl) rfl
theorem q1072 : (Jvm.Cond.methodLink "BrothFlasks$Reader" (217 : Nat) ({ cls := "BrothFlasks$Compared", name := "<init>", desc := "(LBrothFlasks$Sum;ILBrothFlasks$Sum;)V" } : Jvm.MethodName)) ∈ lw_all := lw_g (lw_at lw_m5 8 rfl) rfl
theorem q1086 : (Jvm.Cond.classLink "BrothFlasks$Reader" (220 : Nat) "BrothFlasks$Not") ∈ lw_all := lw_g (lw_at lw_m5 22 rfl) rfl
theorem q1088 : (Jvm.Cond.methodLink "BrothFlasks$Reader" (222 : Nat) ({ cls := "BrothFlasks$Not", name := "<init>", desc := "(LBrothFlasks$Test;)V" } : Jvm.MethodName)) ∈ lw_all := lw_g (lw_at lw_m5 24 rfl) rfl
theorem q1096 : (Jvm.Cond.methodLink "BrothFlasks$Reader" (171 : Nat) ({ cls := "BrothFlasks$Reader", name := "add", desc := "(LBrothFlasks$Test;)V" } : Jvm.MethodName)) ∈ lw_all := lw_g (lw_at lw_m5 32 rfl) rfl
theorem q1097 : (Jvm.Cond.privateMethod ({ cls := "BrothFlasks$Reader", name := "add", desc := "(LBrothFlasks$Test;)V" } : Jvm.MethodName)) ∈ lw_tbl := lw_at lw_m5 33 rfl
theorem q1098 : (Jvm.Cond.instanceMethod ({ cls := "BrothFlasks$Reader", name := "add", desc := "(LBrothFlasks$Test;)V" } : Jvm.MethodName)) ∈ lw_all := lw_g (lw_at lw_m5 34 rfl) rfl
theorem q1099 : (Jvm.Cond.code ({ cls := "BrothFlasks$Reader", name := "add", desc := "(LBrothFlasks$Test;)V" } : Jvm.MethodName) prog_15_method_12_code (2 : Nat) (Option.none : Option Jvm.ClassFile.FieldType)) ∈ lw_all := lw_g (lw_at lw_m5 35 rfl) rfl
theorem q1100 : (Jvm.Cond.stringRef "BrothFlasks$Reader" (184 : Nat) "and") ∈ lw_tbl := lw_at lw_m5 36 rfl
theorem q1101 : (Jvm.Cond.methodLink "BrothFlasks$Reader" (177 : Nat) ({ cls := "BrothFlasks$Reader", name := "row", desc := "(ZI)LBrothFlasks$Test;" } : Jvm.MethodName)) ∈ lw_all := lw_g (lw_at lw_m5 37 rfl) rfl
theorem q1102 : (Jvm.Cond.privateMethod ({ cls := "BrothFlasks$Reader", name := "row", desc := "(ZI)LBrothFlasks$Test;" } : Jvm.MethodName)) ∈ lw_tbl := lw_at lw_m5 38 rfl
theorem q1103 : (Jvm.Cond.instanceMethod ({ cls := "BrothFlasks$Reader", name := "row", desc := "(ZI)LBrothFlasks$Test;" } : Jvm.MethodName)) ∈ lw_all := lw_g (lw_at lw_m5 39 rfl) rfl
theorem q1104 : (Jvm.Cond.code ({ cls := "BrothFlasks$Reader", name := "row", desc := "(ZI)LBrothFlasks$Test;" } : Jvm.MethodName) prog_15_method_13_code (5 : Nat) (Option.some (Jvm.ClassFile.FieldType.object "BrothFlasks$Test"))) ∈ lw_all := lw_g (lw_at lw_m5 40 rfl) rfl
theorem q1105 : (Jvm.Cond.methodLink "BrothFlasks$Reader" (113 : Nat) ({ cls := "java/lang/System", name := "arraycopy", desc := "(Ljava/lang/Object;ILjava/lang/Object;II)V" } : Jvm.MethodName)) ∈ lw_all := lw_g (lw_at lw_m5 41 rfl) rfl
theorem q1106 : (Jvm.Cond.classLink "BrothFlasks$Reader" (186 : Nat) "BrothFlasks$Row") ∈ lw_all := lw_g (lw_at lw_m5 42 rfl) rfl
theorem q1108 : (Jvm.Cond.methodLink "BrothFlasks$Reader" (188 : Nat) ({ cls := "BrothFlasks$Row", name := "<init>", desc := "(Z[LBrothFlasks$Test;)V" } : Jvm.MethodName)) ∈ lw_all := lw_g (lw_at lw_m5 44 rfl) rfl
theorem q1119 : (Jvm.Cond.stringRef "BrothFlasks$Reader" (175 : Nat) "or") ∈ lw_tbl := lw_at lw_m5 55 rfl
theorem q1121 : (Jvm.Cond.methodLink "BrothFlasks$Reader" (165 : Nat) ({ cls := "BrothFlasks$Clause", name := "<init>", desc := "(ILBrothFlasks$Sum;LBrothFlasks$Test;)V" } : Jvm.MethodName)) ∈ lw_all := lw_g (lw_at lw_m5 57 rfl) rfl
theorem q1141 : (Jvm.Cond.stringRef "BrothFlasks$Reader" (101 : Nat) ";") ∈ lw_tbl := lw_at lw_m5 77 rfl
theorem q1142 : (Jvm.Cond.classLink "BrothFlasks$Reader" (119 : Nat) "BrothFlasks$Text") ∈ lw_all := lw_g (lw_at lw_m5 78 rfl) rfl
theorem q1144 : (Jvm.Cond.methodLink "BrothFlasks$Reader" (121 : Nat) ({ cls := "BrothFlasks$Text", name := "<init>", desc := "([LBrothFlasks$Clause;)V" } : Jvm.MethodName)) ∈ lw_all := lw_g (lw_at lw_m5 80 rfl) rfl
theorem in_X3 : ∀ w ∈ wsX30, w ∈ lw_all := lw_in wsX30 [317, 319, 321, 323, 325, 327, 329, 331, 333, 335] (by decide +kernel) (by decide +kernel)
