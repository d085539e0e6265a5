/-! BrothFlasks -/
set_option maxRecDepth 100000
def RX0 : String := "BrothFlasks"
def TX0 : u_T := fun k => match k with
  | 0 => ("BrothFlasks", "bench", "LBrothFlasks$Bench;", true)
  | 1 => ("BrothFlasks", "images", "[LBrothFlasks$Bench;", true)
  | 2 => ("BrothFlasks", "refusals", "[I", true)
  | 3 => ("BrothFlasks", "status", "I", false)
  | 4 => ("BrothFlasks", "shown", "LBrothFlasks$Case;", true)
  | 5 => ("BrothFlasks", "tape", "[B", true)
  | 6 => ("BrothFlasks", "taped", "I", false)
  | 7 => ("BrothFlasks", "reader", "LBrothFlasks$Reader;", true)
  | 8 => ("BrothFlasks", "fault", "I", false)
  | 9 => ("BrothFlasks", "turnedBy", "[I", true)
  | 10 => ("BrothFlasks", "fewest", "[I", true)
  | 11 => ("BrothFlasks", "changed", "LBrothFlasks$Case;", true)
  | _ => ("BrothFlasks", "lower", "J", false)
def tyX0 : Nat → FieldType := fun k => match k with
  | 0 => .object "BrothFlasks$Bench"
  | 1 => .array (.object "BrothFlasks$Bench")
  | 2 => .array .int
  | 3 => .int
  | 4 => .object "BrothFlasks$Case"
  | 5 => .array .byte
  | 6 => .int
  | 7 => .object "BrothFlasks$Reader"
  | 8 => .int
  | 9 => .array .int
  | 10 => .array .int
  | 11 => .object "BrothFlasks$Case"
  | _ => .long
abbrev wsX00 : List Cond := u_ws RX0 TX0 13
set_option maxRecDepth 100000 in
theorem nmX0 : ∀ a, a < 13 → ∀ b, b < 13 → a ≠ b → (TX0 a).2.1 ≠ (TX0 b).2.1 := by decide +kernel
set_option maxRecDepth 100000 in
theorem tyX0_ok : ∀ k, k < 13 → parseFieldDescriptor (TX0 k).2.2.1 = some (tyX0 k) := by decide +kernel
abbrev cX0_init : ByteArray := prog_1_method_3_code
def yX0_init : MethodName := ⟨RX0, "<init>", "()V"⟩
def dkwX0_init_4 : List UInt8 := [181, 0, 68, 177]
abbrev dktX0_init_4 : List UInt8 := dkwX0_init_4 ++ []
def dkwX0_init_3 : List UInt8 := [188, 10, 181, 0, 62, 42, 17, 16, 0, 188, 10, 181, 0, 65, 42, 187, 0, 38, 89, 183, 0, 40]
abbrev dktX0_init_3 : List UInt8 := dkwX0_init_3 ++ dktX0_init_4
def dkwX0_init_2 : List UInt8 := [181, 0, 45, 42, 187, 0, 49, 89, 42, 183, 0, 51, 181, 0, 54, 42, 2, 181, 0, 58, 42, 16, 12]
abbrev dktX0_init_2 : List UInt8 := dkwX0_init_2 ++ dktX0_init_3
def dkwX0_init_1 : List UInt8 := [16, 7, 188, 10, 181, 0, 34, 42, 187, 0, 38, 89, 183, 0, 40, 181, 0, 41, 42, 17, 1, 144, 188, 8]
abbrev dktX0_init_1 : List UInt8 := dkwX0_init_1 ++ dktX0_init_2
def dkwX0_init_0 : List UInt8 := [42, 183, 0, 17, 42, 187, 0, 23, 89, 183, 0, 25, 181, 0, 26, 42, 5, 189, 0, 23, 181, 0, 30, 42]
abbrev dktX0_init_0 : List UInt8 := dkwX0_init_0 ++ dktX0_init_1
theorem dksX0_init_0 : cX0_init.data.toList.drop 0 = dktX0_init_0 := by decide +kernel
theorem dksX0_init_1 : cX0_init.data.toList.drop 24 = dktX0_init_1 := dk_seg dksX0_init_0 24 rfl rfl
theorem dksX0_init_2 : cX0_init.data.toList.drop 48 = dktX0_init_2 := dk_seg dksX0_init_1 24 rfl rfl
theorem dksX0_init_3 : cX0_init.data.toList.drop 71 = dktX0_init_3 := dk_seg dksX0_init_2 23 rfl rfl
theorem dksX0_init_4 : cX0_init.data.toList.drop 93 = dktX0_init_4 := dk_seg dksX0_init_3 22 rfl rfl
theorem dX0_init_0 : decode cX0_init 0 = .ok (.aload_n 0, 1) := dk_42 (dk_at dksX0_init_0 0 rfl rfl)
theorem dX0_init_1 : decode cX0_init 1 = .ok (.invokespecial 17, 3) := dk_183 0 17 (dk_at dksX0_init_0 1 rfl rfl)
theorem dX0_init_4 : decode cX0_init 4 = .ok (.aload_n 0, 1) := dk_42 (dk_at dksX0_init_0 4 rfl rfl)
theorem dX0_init_5 : decode cX0_init 5 = .ok (.new 23, 3) := dk_187 0 23 (dk_at dksX0_init_0 5 rfl rfl)
theorem dX0_init_8 : decode cX0_init 8 = .ok (.dup, 1) := dk_89 (dk_at dksX0_init_0 8 rfl rfl)
theorem dX0_init_9 : decode cX0_init 9 = .ok (.invokespecial 25, 3) := dk_183 0 25 (dk_at dksX0_init_0 9 rfl rfl)
theorem dX0_init_12 : decode cX0_init 12 = .ok (.putfield 26, 3) := dk_181 0 26 (dk_at dksX0_init_0 12 rfl rfl)
theorem dX0_init_15 : decode cX0_init 15 = .ok (.aload_n 0, 1) := dk_42 (dk_at dksX0_init_0 15 rfl rfl)
theorem dX0_init_16 : decode cX0_init 16 = .ok (.iconst 2, 1) := dk_5 (dk_at dksX0_init_0 16 rfl rfl)
theorem dX0_init_17 : decode cX0_init 17 = .ok (.anewarray 23, 3) := dk_189 0 23 (dk_at dksX0_init_0 17 rfl rfl)
theorem dX0_init_20 : decode cX0_init 20 = .ok (.putfield 30, 3) := dk_181 0 30 (dk_at dksX0_init_0 20 rfl rfl)
theorem dX0_init_23 : decode cX0_init 23 = .ok (.aload_n 0, 1) := dk_42 (dk_at dksX0_init_0 23 rfl rfl)
theorem dX0_init_24 : decode cX0_init 24 = .ok (.bipush 7, 2) := dk_16 7 (dk_at dksX0_init_1 0 rfl rfl)
theorem dX0_init_26 : decode cX0_init 26 = .ok (.newarray .int, 2) := dk_188_10 (dk_at dksX0_init_1 2 rfl rfl)
theorem dX0_init_28 : decode cX0_init 28 = .ok (.putfield 34, 3) := dk_181 0 34 (dk_at dksX0_init_1 4 rfl rfl)
theorem dX0_init_31 : decode cX0_init 31 = .ok (.aload_n 0, 1) := dk_42 (dk_at dksX0_init_1 7 rfl rfl)
theorem dX0_init_32 : decode cX0_init 32 = .ok (.new 38, 3) := dk_187 0 38 (dk_at dksX0_init_1 8 rfl rfl)
theorem dX0_init_35 : decode cX0_init 35 = .ok (.dup, 1) := dk_89 (dk_at dksX0_init_1 11 rfl rfl)
theorem dX0_init_36 : decode cX0_init 36 = .ok (.invokespecial 40, 3) := dk_183 0 40 (dk_at dksX0_init_1 12 rfl rfl)
theorem dX0_init_39 : decode cX0_init 39 = .ok (.putfield 41, 3) := dk_181 0 41 (dk_at dksX0_init_1 15 rfl rfl)
theorem dX0_init_42 : decode cX0_init 42 = .ok (.aload_n 0, 1) := dk_42 (dk_at dksX0_init_1 18 rfl rfl)
theorem dX0_init_43 : decode cX0_init 43 = .ok (.sipush 400, 3) := dk_17 1 144 (dk_at dksX0_init_1 19 rfl rfl)
theorem dX0_init_46 : decode cX0_init 46 = .ok (.newarray .byte, 2) := dk_188_8 (dk_at dksX0_init_1 22 rfl rfl)
theorem dX0_init_48 : decode cX0_init 48 = .ok (.putfield 45, 3) := dk_181 0 45 (dk_at dksX0_init_2 0 rfl rfl)
theorem dX0_init_51 : decode cX0_init 51 = .ok (.aload_n 0, 1) := dk_42 (dk_at dksX0_init_2 3 rfl rfl)
theorem dX0_init_52 : decode cX0_init 52 = .ok (.new 49, 3) := dk_187 0 49 (dk_at dksX0_init_2 4 rfl rfl)
theorem dX0_init_55 : decode cX0_init 55 = .ok (.dup, 1) := dk_89 (dk_at dksX0_init_2 7 rfl rfl)
theorem dX0_init_56 : decode cX0_init 56 = .ok (.aload_n 0, 1) := dk_42 (dk_at dksX0_init_2 8 rfl rfl)
theorem dX0_init_57 : decode cX0_init 57 = .ok (.invokespecial 51, 3) := dk_183 0 51 (dk_at dksX0_init_2 9 rfl rfl)
theorem dX0_init_60 : decode cX0_init 60 = .ok (.putfield 54, 3) := dk_181 0 54 (dk_at dksX0_init_2 12 rfl rfl)
theorem dX0_init_63 : decode cX0_init 63 = .ok (.aload_n 0, 1) := dk_42 (dk_at dksX0_init_2 15 rfl rfl)
theorem dX0_init_64 : decode cX0_init 64 = .ok (.iconst (-1), 1) := dk_2 (dk_at dksX0_init_2 16 rfl rfl)
theorem dX0_init_65 : decode cX0_init 65 = .ok (.putfield 58, 3) := dk_181 0 58 (dk_at dksX0_init_2 17 rfl rfl)
theorem dX0_init_68 : decode cX0_init 68 = .ok (.aload_n 0, 1) := dk_42 (dk_at dksX0_init_2 20 rfl rfl)
theorem dX0_init_69 : decode cX0_init 69 = .ok (.bipush 12, 2) := dk_16 12 (dk_at dksX0_init_2 21 rfl rfl)
theorem dX0_init_71 : decode cX0_init 71 = .ok (.newarray .int, 2) := dk_188_10 (dk_at dksX0_init_3 0 rfl rfl)
theorem dX0_init_73 : decode cX0_init 73 = .ok (.putfield 62, 3) := dk_181 0 62 (dk_at dksX0_init_3 2 rfl rfl)
theorem dX0_init_76 : decode cX0_init 76 = .ok (.aload_n 0, 1) := dk_42 (dk_at dksX0_init_3 5 rfl rfl)
theorem dX0_init_77 : decode cX0_init 77 = .ok (.sipush 4096, 3) := dk_17 16 0 (dk_at dksX0_init_3 6 rfl rfl)
theorem dX0_init_80 : decode cX0_init 80 = .ok (.newarray .int, 2) := dk_188_10 (dk_at dksX0_init_3 9 rfl rfl)
theorem dX0_init_82 : decode cX0_init 82 = .ok (.putfield 65, 3) := dk_181 0 65 (dk_at dksX0_init_3 11 rfl rfl)
theorem dX0_init_85 : decode cX0_init 85 = .ok (.aload_n 0, 1) := dk_42 (dk_at dksX0_init_3 14 rfl rfl)
theorem dX0_init_86 : decode cX0_init 86 = .ok (.new 38, 3) := dk_187 0 38 (dk_at dksX0_init_3 15 rfl rfl)
theorem dX0_init_89 : decode cX0_init 89 = .ok (.dup, 1) := dk_89 (dk_at dksX0_init_3 18 rfl rfl)
theorem dX0_init_90 : decode cX0_init 90 = .ok (.invokespecial 40, 3) := dk_183 0 40 (dk_at dksX0_init_3 19 rfl rfl)
theorem dX0_init_93 : decode cX0_init 93 = .ok (.putfield 68, 3) := dk_181 0 68 (dk_at dksX0_init_4 0 rfl rfl)
theorem dX0_init_96 : decode cX0_init 96 = .ok (.return_, 1) := dk_177 (dk_at dksX0_init_4 3 rfl rfl)
abbrev cX0_kind : ByteArray := prog_1_method_13_code
def yX0_kind : MethodName := ⟨RX0, "kind", "(IIIIII)I"⟩
def dkwX0_kind_6 : List UInt8 := [89, 180, 0, 74, 4, 96, 181, 0, 74, 42, 42, 180, 0, 26, 180, 0, 74, 4, 100, 182, 0, 106, 172]
abbrev dktX0_kind_6 : List UInt8 := dkwX0_kind_6 ++ []
def dkwX0_kind_5 : List UInt8 := [29, 21, 4, 21, 5, 4, 160, 0, 7, 4, 167, 0, 4, 3, 21, 6, 183, 0, 103, 83, 42, 180, 0, 26]
abbrev dktX0_kind_5 : List UInt8 := dkwX0_kind_5 ++ dktX0_kind_6
def dkwX0_kind_4 : List UInt8 := [182, 0, 93, 172, 42, 180, 0, 26, 180, 0, 97, 42, 180, 0, 26, 180, 0, 74, 187, 0, 101, 89, 27, 28]
abbrev dktX0_kind_4 : List UInt8 := dkwX0_kind_4 ++ dktX0_kind_5
def dkwX0_kind_3 : List UInt8 := [154, 0, 9, 42, 2, 182, 0, 93, 172, 42, 180, 0, 26, 180, 0, 74, 16, 8, 160, 0, 10, 42, 16, 251]
abbrev dktX0_kind_3 : List UInt8 := dkwX0_kind_3 ++ dktX0_kind_4
def dkwX0_kind_2 : List UInt8 := [153, 0, 27, 21, 5, 133, 9, 10, 184, 0, 5, 153, 0, 16, 21, 6, 133, 9, 20, 0, 13, 184, 0, 5]
abbrev dktX0_kind_2 : List UInt8 := dkwX0_kind_2 ++ dktX0_kind_3
def dkwX0_kind_1 : List UInt8 := [29, 133, 9, 20, 0, 89, 184, 0, 5, 153, 0, 40, 21, 4, 133, 10, 20, 0, 91, 184, 0, 5]
abbrev dktX0_kind_1 : List UInt8 := dkwX0_kind_1 ++ dktX0_kind_2
def dkwX0_kind_0 : List UInt8 := [27, 133, 9, 20, 0, 9, 184, 0, 5, 153, 0, 64, 28, 133, 10, 20, 0, 15, 184, 0, 5, 153, 0, 52]
abbrev dktX0_kind_0 : List UInt8 := dkwX0_kind_0 ++ dktX0_kind_1
theorem dksX0_kind_0 : cX0_kind.data.toList.drop 0 = dktX0_kind_0 := by decide +kernel
theorem dksX0_kind_1 : cX0_kind.data.toList.drop 24 = dktX0_kind_1 := dk_seg dksX0_kind_0 24 rfl rfl
theorem dksX0_kind_2 : cX0_kind.data.toList.drop 46 = dktX0_kind_2 := dk_seg dksX0_kind_1 22 rfl rfl
theorem dksX0_kind_3 : cX0_kind.data.toList.drop 70 = dktX0_kind_3 := dk_seg dksX0_kind_2 24 rfl rfl
theorem dksX0_kind_4 : cX0_kind.data.toList.drop 94 = dktX0_kind_4 := dk_seg dksX0_kind_3 24 rfl rfl
theorem dksX0_kind_5 : cX0_kind.data.toList.drop 118 = dktX0_kind_5 := dk_seg dksX0_kind_4 24 rfl rfl
theorem dksX0_kind_6 : cX0_kind.data.toList.drop 142 = dktX0_kind_6 := dk_seg dksX0_kind_5 24 rfl rfl
theorem dX0_kind_0 : decode cX0_kind 0 = .ok (.iload_n 1, 1) := dk_27 (dk_at dksX0_kind_0 0 rfl rfl)
theorem dX0_kind_1 : decode cX0_kind 1 = .ok (.i2l, 1) := dk_133 (dk_at dksX0_kind_0 1 rfl rfl)
theorem dX0_kind_2 : decode cX0_kind 2 = .ok (.lconst 0, 1) := dk_9 (dk_at dksX0_kind_0 2 rfl rfl)
theorem dX0_kind_3 : decode cX0_kind 3 = .ok (.ldc2_w 9, 3) := dk_20 0 9 (dk_at dksX0_kind_0 3 rfl rfl)
theorem dX0_kind_6 : decode cX0_kind 6 = .ok (.invokestatic 5, 3) := dk_184 0 5 (dk_at dksX0_kind_0 6 rfl rfl)
theorem dX0_kind_9 : decode cX0_kind 9 = .ok (.ifCond .eq 64, 3) := dk_153 0 64 (dk_at dksX0_kind_0 9 rfl rfl)
theorem dX0_kind_12 : decode cX0_kind 12 = .ok (.iload_n 2, 1) := dk_28 (dk_at dksX0_kind_0 12 rfl rfl)
theorem dX0_kind_13 : decode cX0_kind 13 = .ok (.i2l, 1) := dk_133 (dk_at dksX0_kind_0 13 rfl rfl)
theorem dX0_kind_14 : decode cX0_kind 14 = .ok (.lconst 1, 1) := dk_10 (dk_at dksX0_kind_0 14 rfl rfl)
theorem dX0_kind_15 : decode cX0_kind 15 = .ok (.ldc2_w 15, 3) := dk_20 0 15 (dk_at dksX0_kind_0 15 rfl rfl)
theorem dX0_kind_18 : decode cX0_kind 18 = .ok (.invokestatic 5, 3) := dk_184 0 5 (dk_at dksX0_kind_0 18 rfl rfl)
theorem dX0_kind_21 : decode cX0_kind 21 = .ok (.ifCond .eq 52, 3) := dk_153 0 52 (dk_at dksX0_kind_0 21 rfl rfl)
theorem dX0_kind_24 : decode cX0_kind 24 = .ok (.iload_n 3, 1) := dk_29 (dk_at dksX0_kind_1 0 rfl rfl)
theorem dX0_kind_25 : decode cX0_kind 25 = .ok (.i2l, 1) := dk_133 (dk_at dksX0_kind_1 1 rfl rfl)
theorem dX0_kind_26 : decode cX0_kind 26 = .ok (.lconst 0, 1) := dk_9 (dk_at dksX0_kind_1 2 rfl rfl)
theorem dX0_kind_27 : decode cX0_kind 27 = .ok (.ldc2_w 89, 3) := dk_20 0 89 (dk_at dksX0_kind_1 3 rfl rfl)
theorem dX0_kind_30 : decode cX0_kind 30 = .ok (.invokestatic 5, 3) := dk_184 0 5 (dk_at dksX0_kind_1 6 rfl rfl)
theorem dX0_kind_33 : decode cX0_kind 33 = .ok (.ifCond .eq 40, 3) := dk_153 0 40 (dk_at dksX0_kind_1 9 rfl rfl)
theorem dX0_kind_36 : decode cX0_kind 36 = .ok (.iload 4, 2) := dk_21 4 (dk_at dksX0_kind_1 12 rfl rfl)
theorem dX0_kind_38 : decode cX0_kind 38 = .ok (.i2l, 1) := dk_133 (dk_at dksX0_kind_1 14 rfl rfl)
theorem dX0_kind_39 : decode cX0_kind 39 = .ok (.lconst 1, 1) := dk_10 (dk_at dksX0_kind_1 15 rfl rfl)
theorem dX0_kind_40 : decode cX0_kind 40 = .ok (.ldc2_w 91, 3) := dk_20 0 91 (dk_at dksX0_kind_1 16 rfl rfl)
theorem dX0_kind_43 : decode cX0_kind 43 = .ok (.invokestatic 5, 3) := dk_184 0 5 (dk_at dksX0_kind_1 19 rfl rfl)
theorem dX0_kind_46 : decode cX0_kind 46 = .ok (.ifCond .eq 27, 3) := dk_153 0 27 (dk_at dksX0_kind_2 0 rfl rfl)
theorem dX0_kind_49 : decode cX0_kind 49 = .ok (.iload 5, 2) := dk_21 5 (dk_at dksX0_kind_2 3 rfl rfl)
theorem dX0_kind_51 : decode cX0_kind 51 = .ok (.i2l, 1) := dk_133 (dk_at dksX0_kind_2 5 rfl rfl)
theorem dX0_kind_52 : decode cX0_kind 52 = .ok (.lconst 0, 1) := dk_9 (dk_at dksX0_kind_2 6 rfl rfl)
theorem dX0_kind_53 : decode cX0_kind 53 = .ok (.lconst 1, 1) := dk_10 (dk_at dksX0_kind_2 7 rfl rfl)
theorem dX0_kind_54 : decode cX0_kind 54 = .ok (.invokestatic 5, 3) := dk_184 0 5 (dk_at dksX0_kind_2 8 rfl rfl)
theorem dX0_kind_57 : decode cX0_kind 57 = .ok (.ifCond .eq 16, 3) := dk_153 0 16 (dk_at dksX0_kind_2 11 rfl rfl)
theorem dX0_kind_60 : decode cX0_kind 60 = .ok (.iload 6, 2) := dk_21 6 (dk_at dksX0_kind_2 14 rfl rfl)
theorem dX0_kind_62 : decode cX0_kind 62 = .ok (.i2l, 1) := dk_133 (dk_at dksX0_kind_2 16 rfl rfl)
theorem dX0_kind_63 : decode cX0_kind 63 = .ok (.lconst 0, 1) := dk_9 (dk_at dksX0_kind_2 17 rfl rfl)
theorem dX0_kind_64 : decode cX0_kind 64 = .ok (.ldc2_w 13, 3) := dk_20 0 13 (dk_at dksX0_kind_2 18 rfl rfl)
theorem dX0_kind_67 : decode cX0_kind 67 = .ok (.invokestatic 5, 3) := dk_184 0 5 (dk_at dksX0_kind_2 21 rfl rfl)
theorem dX0_kind_70 : decode cX0_kind 70 = .ok (.ifCond .ne 9, 3) := dk_154 0 9 (dk_at dksX0_kind_3 0 rfl rfl)
theorem dX0_kind_73 : decode cX0_kind 73 = .ok (.aload_n 0, 1) := dk_42 (dk_at dksX0_kind_3 3 rfl rfl)
theorem dX0_kind_74 : decode cX0_kind 74 = .ok (.iconst (-1), 1) := dk_2 (dk_at dksX0_kind_3 4 rfl rfl)
theorem dX0_kind_75 : decode cX0_kind 75 = .ok (.invokevirtual 93, 3) := dk_182 0 93 (dk_at dksX0_kind_3 5 rfl rfl)
theorem dX0_kind_78 : decode cX0_kind 78 = .ok (.ireturn, 1) := dk_172 (dk_at dksX0_kind_3 8 rfl rfl)
theorem dX0_kind_79 : decode cX0_kind 79 = .ok (.aload_n 0, 1) := dk_42 (dk_at dksX0_kind_3 9 rfl rfl)
theorem dX0_kind_80 : decode cX0_kind 80 = .ok (.getfield 26, 3) := dk_180 0 26 (dk_at dksX0_kind_3 10 rfl rfl)
theorem dX0_kind_83 : decode cX0_kind 83 = .ok (.getfield 74, 3) := dk_180 0 74 (dk_at dksX0_kind_3 13 rfl rfl)
theorem dX0_kind_86 : decode cX0_kind 86 = .ok (.bipush 8, 2) := dk_16 8 (dk_at dksX0_kind_3 16 rfl rfl)
theorem dX0_kind_88 : decode cX0_kind 88 = .ok (.if_icmp .ne 10, 3) := dk_160 0 10 (dk_at dksX0_kind_3 18 rfl rfl)
theorem dX0_kind_91 : decode cX0_kind 91 = .ok (.aload_n 0, 1) := dk_42 (dk_at dksX0_kind_3 21 rfl rfl)
theorem dX0_kind_92 : decode cX0_kind 92 = .ok (.bipush (-5), 2) := dk_16 251 (dk_at dksX0_kind_3 22 rfl rfl)
theorem dX0_kind_94 : decode cX0_kind 94 = .ok (.invokevirtual 93, 3) := dk_182 0 93 (dk_at dksX0_kind_4 0 rfl rfl)
theorem dX0_kind_97 : decode cX0_kind 97 = .ok (.ireturn, 1) := dk_172 (dk_at dksX0_kind_4 3 rfl rfl)
theorem dX0_kind_98 : decode cX0_kind 98 = .ok (.aload_n 0, 1) := dk_42 (dk_at dksX0_kind_4 4 rfl rfl)
theorem dX0_kind_99 : decode cX0_kind 99 = .ok (.getfield 26, 3) := dk_180 0 26 (dk_at dksX0_kind_4 5 rfl rfl)
theorem dX0_kind_102 : decode cX0_kind 102 = .ok (.getfield 97, 3) := dk_180 0 97 (dk_at dksX0_kind_4 8 rfl rfl)
theorem dX0_kind_105 : decode cX0_kind 105 = .ok (.aload_n 0, 1) := dk_42 (dk_at dksX0_kind_4 11 rfl rfl)
theorem dX0_kind_106 : decode cX0_kind 106 = .ok (.getfield 26, 3) := dk_180 0 26 (dk_at dksX0_kind_4 12 rfl rfl)
theorem dX0_kind_109 : decode cX0_kind 109 = .ok (.getfield 74, 3) := dk_180 0 74 (dk_at dksX0_kind_4 15 rfl rfl)
theorem dX0_kind_112 : decode cX0_kind 112 = .ok (.new 101, 3) := dk_187 0 101 (dk_at dksX0_kind_4 18 rfl rfl)
theorem dX0_kind_115 : decode cX0_kind 115 = .ok (.dup, 1) := dk_89 (dk_at dksX0_kind_4 21 rfl rfl)
theorem dX0_kind_116 : decode cX0_kind 116 = .ok (.iload_n 1, 1) := dk_27 (dk_at dksX0_kind_4 22 rfl rfl)
theorem dX0_kind_117 : decode cX0_kind 117 = .ok (.iload_n 2, 1) := dk_28 (dk_at dksX0_kind_4 23 rfl rfl)
theorem dX0_kind_118 : decode cX0_kind 118 = .ok (.iload_n 3, 1) := dk_29 (dk_at dksX0_kind_5 0 rfl rfl)
theorem dX0_kind_119 : decode cX0_kind 119 = .ok (.iload 4, 2) := dk_21 4 (dk_at dksX0_kind_5 1 rfl rfl)
theorem dX0_kind_121 : decode cX0_kind 121 = .ok (.iload 5, 2) := dk_21 5 (dk_at dksX0_kind_5 3 rfl rfl)
theorem dX0_kind_123 : decode cX0_kind 123 = .ok (.iconst 1, 1) := dk_4 (dk_at dksX0_kind_5 5 rfl rfl)
theorem dX0_kind_124 : decode cX0_kind 124 = .ok (.if_icmp .ne 7, 3) := dk_160 0 7 (dk_at dksX0_kind_5 6 rfl rfl)
theorem dX0_kind_127 : decode cX0_kind 127 = .ok (.iconst 1, 1) := dk_4 (dk_at dksX0_kind_5 9 rfl rfl)
theorem dX0_kind_128 : decode cX0_kind 128 = .ok (.goto 4, 3) := dk_167 0 4 (dk_at dksX0_kind_5 10 rfl rfl)
theorem dX0_kind_131 : decode cX0_kind 131 = .ok (.iconst 0, 1) := dk_3 (dk_at dksX0_kind_5 13 rfl rfl)
theorem dX0_kind_132 : decode cX0_kind 132 = .ok (.iload 6, 2) := dk_21 6 (dk_at dksX0_kind_5 14 rfl rfl)
theorem dX0_kind_134 : decode cX0_kind 134 = .ok (.invokespecial 103, 3) := dk_183 0 103 (dk_at dksX0_kind_5 16 rfl rfl)
theorem dX0_kind_137 : decode cX0_kind 137 = .ok (.aastore, 1) := dk_83 (dk_at dksX0_kind_5 19 rfl rfl)
theorem dX0_kind_138 : decode cX0_kind 138 = .ok (.aload_n 0, 1) := dk_42 (dk_at dksX0_kind_5 20 rfl rfl)
theorem dX0_kind_139 : decode cX0_kind 139 = .ok (.getfield 26, 3) := dk_180 0 26 (dk_at dksX0_kind_5 21 rfl rfl)
theorem dX0_kind_142 : decode cX0_kind 142 = .ok (.dup, 1) := dk_89 (dk_at dksX0_kind_6 0 rfl rfl)
theorem dX0_kind_143 : decode cX0_kind 143 = .ok (.getfield 74, 3) := dk_180 0 74 (dk_at dksX0_kind_6 1 rfl rfl)
theorem dX0_kind_146 : decode cX0_kind 146 = .ok (.iconst 1, 1) := dk_4 (dk_at dksX0_kind_6 4 rfl rfl)
theorem dX0_kind_147 : decode cX0_kind 147 = .ok (.iadd, 1) := dk_96 (dk_at dksX0_kind_6 5 rfl rfl)
theorem dX0_kind_148 : decode cX0_kind 148 = .ok (.putfield 74, 3) := dk_181 0 74 (dk_at dksX0_kind_6 6 rfl rfl)
theorem dX0_kind_151 : decode cX0_kind 151 = .ok (.aload_n 0, 1) := dk_42 (dk_at dksX0_kind_6 9 rfl rfl)
theorem dX0_kind_152 : decode cX0_kind 152 = .ok (.aload_n 0, 1) := dk_42 (dk_at dksX0_kind_6 10 rfl rfl)
theorem dX0_kind_153 : decode cX0_kind 153 = .ok (.getfield 26, 3) := dk_180 0 26 (dk_at dksX0_kind_6 11 rfl rfl)
theorem dX0_kind_156 : decode cX0_kind 156 = .ok (.getfield 74, 3) := dk_180 0 74 (dk_at dksX0_kind_6 14 rfl rfl)
theorem dX0_kind_159 : decode cX0_kind 159 = .ok (.iconst 1, 1) := dk_4 (dk_at dksX0_kind_6 17 rfl rfl)
theorem dX0_kind_160 : decode cX0_kind 160 = .ok (.isub, 1) := dk_100 (dk_at dksX0_kind_6 18 rfl rfl)
theorem dX0_kind_161 : decode cX0_kind 161 = .ok (.invokevirtual 106, 3) := dk_182 0 106 (dk_at dksX0_kind_6 19 rfl rfl)
theorem dX0_kind_164 : decode cX0_kind 164 = .ok (.ireturn, 1) := dk_172 (dk_at dksX0_kind_6 22 rfl rfl)
abbrev cX0_in : ByteArray := prog_1_method_1_code
def yX0_in : MethodName := ⟨RX0, "in", "(JJJ)Z"⟩
def dkwX0_in_0 : List UInt8 := [30, 32, 148, 155, 0, 14, 30, 22, 4, 148, 157, 0, 7, 4, 167, 0, 4, 3, 172]
abbrev dktX0_in_0 : List UInt8 := dkwX0_in_0 ++ []
theorem dksX0_in_0 : cX0_in.data.toList.drop 0 = dktX0_in_0 := by decide +kernel
theorem dX0_in_0 : decode cX0_in 0 = .ok (.lload_n 0, 1) := dk_30 (dk_at dksX0_in_0 0 rfl rfl)
theorem dX0_in_1 : decode cX0_in 1 = .ok (.lload_n 2, 1) := dk_32 (dk_at dksX0_in_0 1 rfl rfl)
theorem dX0_in_2 : decode cX0_in 2 = .ok (.lcmp, 1) := dk_148 (dk_at dksX0_in_0 2 rfl rfl)
theorem dX0_in_3 : decode cX0_in 3 = .ok (.ifCond .lt 14, 3) := dk_155 0 14 (dk_at dksX0_in_0 3 rfl rfl)
theorem dX0_in_6 : decode cX0_in 6 = .ok (.lload_n 0, 1) := dk_30 (dk_at dksX0_in_0 6 rfl rfl)
theorem dX0_in_7 : decode cX0_in 7 = .ok (.lload 4, 2) := dk_22 4 (dk_at dksX0_in_0 7 rfl rfl)
theorem dX0_in_9 : decode cX0_in 9 = .ok (.lcmp, 1) := dk_148 (dk_at dksX0_in_0 9 rfl rfl)
theorem dX0_in_10 : decode cX0_in 10 = .ok (.ifCond .gt 7, 3) := dk_157 0 7 (dk_at dksX0_in_0 10 rfl rfl)
theorem dX0_in_13 : decode cX0_in 13 = .ok (.iconst 1, 1) := dk_4 (dk_at dksX0_in_0 13 rfl rfl)
theorem dX0_in_14 : decode cX0_in 14 = .ok (.goto 4, 3) := dk_167 0 4 (dk_at dksX0_in_0 14 rfl rfl)
theorem dX0_in_17 : decode cX0_in 17 = .ok (.iconst 0, 1) := dk_3 (dk_at dksX0_in_0 17 rfl rfl)
theorem dX0_in_18 : decode cX0_in 18 = .ok (.ireturn, 1) := dk_172 (dk_at dksX0_in_0 18 rfl rfl)
abbrev cX0_refuse : ByteArray := prog_1_method_4_code
def yX0_refuse : MethodName := ⟨RX0, "refuse", "(I)I"⟩
def dkwX0_refuse_0 : List UInt8 := [42, 27, 181, 0, 71, 42, 180, 0, 34, 27, 116, 92, 46, 4, 96, 79, 27, 172]
abbrev dktX0_refuse_0 : List UInt8 := dkwX0_refuse_0 ++ []
theorem dksX0_refuse_0 : cX0_refuse.data.toList.drop 0 = dktX0_refuse_0 := by decide +kernel
theorem dX0_refuse_0 : decode cX0_refuse 0 = .ok (.aload_n 0, 1) := dk_42 (dk_at dksX0_refuse_0 0 rfl rfl)
theorem dX0_refuse_1 : decode cX0_refuse 1 = .ok (.iload_n 1, 1) := dk_27 (dk_at dksX0_refuse_0 1 rfl rfl)
theorem dX0_refuse_2 : decode cX0_refuse 2 = .ok (.putfield 71, 3) := dk_181 0 71 (dk_at dksX0_refuse_0 2 rfl rfl)
theorem dX0_refuse_5 : decode cX0_refuse 5 = .ok (.aload_n 0, 1) := dk_42 (dk_at dksX0_refuse_0 5 rfl rfl)
theorem dX0_refuse_6 : decode cX0_refuse 6 = .ok (.getfield 34, 3) := dk_180 0 34 (dk_at dksX0_refuse_0 6 rfl rfl)
theorem dX0_refuse_9 : decode cX0_refuse 9 = .ok (.iload_n 1, 1) := dk_27 (dk_at dksX0_refuse_0 9 rfl rfl)
theorem dX0_refuse_10 : decode cX0_refuse 10 = .ok (.ineg, 1) := dk_116 (dk_at dksX0_refuse_0 10 rfl rfl)
theorem dX0_refuse_11 : decode cX0_refuse 11 = .ok (.dup2, 1) := dk_92 (dk_at dksX0_refuse_0 11 rfl rfl)
theorem dX0_refuse_12 : decode cX0_refuse 12 = .ok (.iaload, 1) := dk_46 (dk_at dksX0_refuse_0 12 rfl rfl)
theorem dX0_refuse_13 : decode cX0_refuse 13 = .ok (.iconst 1, 1) := dk_4 (dk_at dksX0_refuse_0 13 rfl rfl)
theorem dX0_refuse_14 : decode cX0_refuse 14 = .ok (.iadd, 1) := dk_96 (dk_at dksX0_refuse_0 14 rfl rfl)
theorem dX0_refuse_15 : decode cX0_refuse 15 = .ok (.iastore, 1) := dk_79 (dk_at dksX0_refuse_0 15 rfl rfl)
theorem dX0_refuse_16 : decode cX0_refuse 16 = .ok (.iload_n 1, 1) := dk_27 (dk_at dksX0_refuse_0 16 rfl rfl)
theorem dX0_refuse_17 : decode cX0_refuse 17 = .ok (.ireturn, 1) := dk_172 (dk_at dksX0_refuse_0 17 rfl rfl)
abbrev cX0_done : ByteArray := prog_1_method_5_code
def yX0_done : MethodName := ⟨RX0, "done", "(I)I"⟩
def dkwX0_done_0 : List UInt8 := [42, 3, 181, 0, 71, 27, 172]
abbrev dktX0_done_0 : List UInt8 := dkwX0_done_0 ++ []
theorem dksX0_done_0 : cX0_done.data.toList.drop 0 = dktX0_done_0 := by decide +kernel
theorem dX0_done_0 : decode cX0_done 0 = .ok (.aload_n 0, 1) := dk_42 (dk_at dksX0_done_0 0 rfl rfl)
theorem dX0_done_1 : decode cX0_done 1 = .ok (.iconst 0, 1) := dk_3 (dk_at dksX0_done_0 1 rfl rfl)
theorem dX0_done_2 : decode cX0_done 2 = .ok (.putfield 71, 3) := dk_181 0 71 (dk_at dksX0_done_0 2 rfl rfl)
theorem dX0_done_5 : decode cX0_done 5 = .ok (.iload_n 1, 1) := dk_27 (dk_at dksX0_done_0 5 rfl rfl)
theorem dX0_done_6 : decode cX0_done 6 = .ok (.ireturn, 1) := dk_172 (dk_at dksX0_done_0 6 rfl rfl)
abbrev cX0_broth : ByteArray := prog_1_method_14_code
def yX0_broth : MethodName := ⟨RX0, "broth", "(IIII)I"⟩
def dkwX0_broth_3 : List UInt8 := [79, 42, 180, 0, 26, 180, 0, 115, 27, 21, 4, 79, 42, 3, 182, 0, 106, 172]
abbrev dktX0_broth_3 : List UInt8 := dkwX0_broth_3 ++ []
def dkwX0_broth_2 : List UInt8 := [2, 182, 0, 93, 172, 42, 180, 0, 26, 180, 0, 109, 27, 28, 79, 42, 180, 0, 26, 180, 0, 112, 27, 29]
abbrev dktX0_broth_2 : List UInt8 := dkwX0_broth_2 ++ dktX0_broth_3
def dkwX0_broth_1 : List UInt8 := [29, 133, 9, 20, 0, 9, 184, 0, 5, 153, 0, 14, 21, 4, 133, 9, 10, 184, 0, 5, 154, 0, 9, 42]
abbrev dktX0_broth_1 : List UInt8 := dkwX0_broth_1 ++ dktX0_broth_2
def dkwX0_broth_0 : List UInt8 := [27, 133, 9, 20, 0, 3, 184, 0, 5, 153, 0, 38, 28, 133, 9, 20, 0, 91, 184, 0, 5, 153, 0, 26]
abbrev dktX0_broth_0 : List UInt8 := dkwX0_broth_0 ++ dktX0_broth_1
theorem dksX0_broth_0 : cX0_broth.data.toList.drop 0 = dktX0_broth_0 := by decide +kernel
theorem dksX0_broth_1 : cX0_broth.data.toList.drop 24 = dktX0_broth_1 := dk_seg dksX0_broth_0 24 rfl rfl
theorem dksX0_broth_2 : cX0_broth.data.toList.drop 48 = dktX0_broth_2 := dk_seg dksX0_broth_1 24 rfl rfl
theorem dksX0_broth_3 : cX0_broth.data.toList.drop 72 = dktX0_broth_3 := dk_seg dksX0_broth_2 24 rfl rfl
theorem dX0_broth_0 : decode cX0_broth 0 = .ok (.iload_n 1, 1) := dk_27 (dk_at dksX0_broth_0 0 rfl rfl)
theorem dX0_broth_1 : decode cX0_broth 1 = .ok (.i2l, 1) := dk_133 (dk_at dksX0_broth_0 1 rfl rfl)
theorem dX0_broth_2 : decode cX0_broth 2 = .ok (.lconst 0, 1) := dk_9 (dk_at dksX0_broth_0 2 rfl rfl)
theorem dX0_broth_3 : decode cX0_broth 3 = .ok (.ldc2_w 3, 3) := dk_20 0 3 (dk_at dksX0_broth_0 3 rfl rfl)
theorem dX0_broth_6 : decode cX0_broth 6 = .ok (.invokestatic 5, 3) := dk_184 0 5 (dk_at dksX0_broth_0 6 rfl rfl)
theorem dX0_broth_9 : decode cX0_broth 9 = .ok (.ifCond .eq 38, 3) := dk_153 0 38 (dk_at dksX0_broth_0 9 rfl rfl)
theorem dX0_broth_12 : decode cX0_broth 12 = .ok (.iload_n 2, 1) := dk_28 (dk_at dksX0_broth_0 12 rfl rfl)
theorem dX0_broth_13 : decode cX0_broth 13 = .ok (.i2l, 1) := dk_133 (dk_at dksX0_broth_0 13 rfl rfl)
theorem dX0_broth_14 : decode cX0_broth 14 = .ok (.lconst 0, 1) := dk_9 (dk_at dksX0_broth_0 14 rfl rfl)
theorem dX0_broth_15 : decode cX0_broth 15 = .ok (.ldc2_w 91, 3) := dk_20 0 91 (dk_at dksX0_broth_0 15 rfl rfl)
theorem dX0_broth_18 : decode cX0_broth 18 = .ok (.invokestatic 5, 3) := dk_184 0 5 (dk_at dksX0_broth_0 18 rfl rfl)
theorem dX0_broth_21 : decode cX0_broth 21 = .ok (.ifCond .eq 26, 3) := dk_153 0 26 (dk_at dksX0_broth_0 21 rfl rfl)
theorem dX0_broth_24 : decode cX0_broth 24 = .ok (.iload_n 3, 1) := dk_29 (dk_at dksX0_broth_1 0 rfl rfl)
theorem dX0_broth_25 : decode cX0_broth 25 = .ok (.i2l, 1) := dk_133 (dk_at dksX0_broth_1 1 rfl rfl)
theorem dX0_broth_26 : decode cX0_broth 26 = .ok (.lconst 0, 1) := dk_9 (dk_at dksX0_broth_1 2 rfl rfl)
theorem dX0_broth_27 : decode cX0_broth 27 = .ok (.ldc2_w 9, 3) := dk_20 0 9 (dk_at dksX0_broth_1 3 rfl rfl)
theorem dX0_broth_30 : decode cX0_broth 30 = .ok (.invokestatic 5, 3) := dk_184 0 5 (dk_at dksX0_broth_1 6 rfl rfl)
theorem dX0_broth_33 : decode cX0_broth 33 = .ok (.ifCond .eq 14, 3) := dk_153 0 14 (dk_at dksX0_broth_1 9 rfl rfl)
theorem dX0_broth_36 : decode cX0_broth 36 = .ok (.iload 4, 2) := dk_21 4 (dk_at dksX0_broth_1 12 rfl rfl)
theorem dX0_broth_38 : decode cX0_broth 38 = .ok (.i2l, 1) := dk_133 (dk_at dksX0_broth_1 14 rfl rfl)
theorem dX0_broth_39 : decode cX0_broth 39 = .ok (.lconst 0, 1) := dk_9 (dk_at dksX0_broth_1 15 rfl rfl)
theorem dX0_broth_40 : decode cX0_broth 40 = .ok (.lconst 1, 1) := dk_10 (dk_at dksX0_broth_1 16 rfl rfl)
theorem dX0_broth_41 : decode cX0_broth 41 = .ok (.invokestatic 5, 3) := dk_184 0 5 (dk_at dksX0_broth_1 17 rfl rfl)
theorem dX0_broth_44 : decode cX0_broth 44 = .ok (.ifCond .ne 9, 3) := dk_154 0 9 (dk_at dksX0_broth_1 20 rfl rfl)
theorem dX0_broth_47 : decode cX0_broth 47 = .ok (.aload_n 0, 1) := dk_42 (dk_at dksX0_broth_1 23 rfl rfl)
theorem dX0_broth_48 : decode cX0_broth 48 = .ok (.iconst (-1), 1) := dk_2 (dk_at dksX0_broth_2 0 rfl rfl)
theorem dX0_broth_49 : decode cX0_broth 49 = .ok (.invokevirtual 93, 3) := dk_182 0 93 (dk_at dksX0_broth_2 1 rfl rfl)
theorem dX0_broth_52 : decode cX0_broth 52 = .ok (.ireturn, 1) := dk_172 (dk_at dksX0_broth_2 4 rfl rfl)
theorem dX0_broth_53 : decode cX0_broth 53 = .ok (.aload_n 0, 1) := dk_42 (dk_at dksX0_broth_2 5 rfl rfl)
theorem dX0_broth_54 : decode cX0_broth 54 = .ok (.getfield 26, 3) := dk_180 0 26 (dk_at dksX0_broth_2 6 rfl rfl)
theorem dX0_broth_57 : decode cX0_broth 57 = .ok (.getfield 109, 3) := dk_180 0 109 (dk_at dksX0_broth_2 9 rfl rfl)
theorem dX0_broth_60 : decode cX0_broth 60 = .ok (.iload_n 1, 1) := dk_27 (dk_at dksX0_broth_2 12 rfl rfl)
theorem dX0_broth_61 : decode cX0_broth 61 = .ok (.iload_n 2, 1) := dk_28 (dk_at dksX0_broth_2 13 rfl rfl)
theorem dX0_broth_62 : decode cX0_broth 62 = .ok (.iastore, 1) := dk_79 (dk_at dksX0_broth_2 14 rfl rfl)
theorem dX0_broth_63 : decode cX0_broth 63 = .ok (.aload_n 0, 1) := dk_42 (dk_at dksX0_broth_2 15 rfl rfl)
theorem dX0_broth_64 : decode cX0_broth 64 = .ok (.getfield 26, 3) := dk_180 0 26 (dk_at dksX0_broth_2 16 rfl rfl)
theorem dX0_broth_67 : decode cX0_broth 67 = .ok (.getfield 112, 3) := dk_180 0 112 (dk_at dksX0_broth_2 19 rfl rfl)
theorem dX0_broth_70 : decode cX0_broth 70 = .ok (.iload_n 1, 1) := dk_27 (dk_at dksX0_broth_2 22 rfl rfl)
theorem dX0_broth_71 : decode cX0_broth 71 = .ok (.iload_n 3, 1) := dk_29 (dk_at dksX0_broth_2 23 rfl rfl)
theorem dX0_broth_72 : decode cX0_broth 72 = .ok (.iastore, 1) := dk_79 (dk_at dksX0_broth_3 0 rfl rfl)
theorem dX0_broth_73 : decode cX0_broth 73 = .ok (.aload_n 0, 1) := dk_42 (dk_at dksX0_broth_3 1 rfl rfl)
theorem dX0_broth_74 : decode cX0_broth 74 = .ok (.getfield 26, 3) := dk_180 0 26 (dk_at dksX0_broth_3 2 rfl rfl)
theorem dX0_broth_77 : decode cX0_broth 77 = .ok (.getfield 115, 3) := dk_180 0 115 (dk_at dksX0_broth_3 5 rfl rfl)
theorem dX0_broth_80 : decode cX0_broth 80 = .ok (.iload_n 1, 1) := dk_27 (dk_at dksX0_broth_3 8 rfl rfl)
theorem dX0_broth_81 : decode cX0_broth 81 = .ok (.iload 4, 2) := dk_21 4 (dk_at dksX0_broth_3 9 rfl rfl)
theorem dX0_broth_83 : decode cX0_broth 83 = .ok (.iastore, 1) := dk_79 (dk_at dksX0_broth_3 11 rfl rfl)
theorem dX0_broth_84 : decode cX0_broth 84 = .ok (.aload_n 0, 1) := dk_42 (dk_at dksX0_broth_3 12 rfl rfl)
theorem dX0_broth_85 : decode cX0_broth 85 = .ok (.iconst 0, 1) := dk_3 (dk_at dksX0_broth_3 13 rfl rfl)
theorem dX0_broth_86 : decode cX0_broth 86 = .ok (.invokevirtual 106, 3) := dk_182 0 106 (dk_at dksX0_broth_3 14 rfl rfl)
theorem dX0_broth_89 : decode cX0_broth 89 = .ok (.ireturn, 1) := dk_172 (dk_at dksX0_broth_3 17 rfl rfl)
abbrev cX0_lets : ByteArray := prog_1_method_15_code
def yX0_lets : MethodName := ⟨RX0, "lets", "(III)I"⟩
def dkwX0_lets_5 : List UInt8 := [182, 0, 106, 172]
abbrev dktX0_lets_5 : List UInt8 := dkwX0_lets_5 ++ []
def dkwX0_lets_4 : List UInt8 := [42, 180, 0, 26, 180, 0, 126, 58, 4, 25, 4, 28, 46, 54, 5, 25, 4, 28, 29, 79, 42, 21, 5]
abbrev dktX0_lets_4 : List UInt8 := dkwX0_lets_4 ++ dktX0_lets_5
def dkwX0_lets_3 : List UInt8 := [180, 0, 26, 180, 0, 120, 167, 0, 25, 27, 4, 160, 0, 13, 42, 180, 0, 26, 180, 0, 123, 167, 0, 10]
abbrev dktX0_lets_3 : List UInt8 := dkwX0_lets_3 ++ dktX0_lets_4
def dkwX0_lets_2 : List UInt8 := [133, 9, 20, 0, 91, 184, 0, 5, 154, 0, 9, 42, 2, 182, 0, 93, 172, 27, 154, 0, 13, 42]
abbrev dktX0_lets_2 : List UInt8 := dkwX0_lets_2 ++ dktX0_lets_3
def dkwX0_lets_1 : List UInt8 := [167, 0, 17, 27, 4, 160, 0, 9, 20, 0, 13, 167, 0, 6, 20, 0, 11, 184, 0, 5, 153, 0, 15, 29]
abbrev dktX0_lets_1 : List UInt8 := dkwX0_lets_1 ++ dktX0_lets_2
def dkwX0_lets_0 : List UInt8 := [27, 133, 9, 20, 0, 118, 184, 0, 5, 153, 0, 48, 28, 133, 9, 27, 154, 0, 9, 20, 0, 3]
abbrev dktX0_lets_0 : List UInt8 := dkwX0_lets_0 ++ dktX0_lets_1
theorem dksX0_lets_0 : cX0_lets.data.toList.drop 0 = dktX0_lets_0 := by decide +kernel
theorem dksX0_lets_1 : cX0_lets.data.toList.drop 22 = dktX0_lets_1 := dk_seg dksX0_lets_0 22 rfl rfl
theorem dksX0_lets_2 : cX0_lets.data.toList.drop 46 = dktX0_lets_2 := dk_seg dksX0_lets_1 24 rfl rfl
theorem dksX0_lets_3 : cX0_lets.data.toList.drop 68 = dktX0_lets_3 := dk_seg dksX0_lets_2 22 rfl rfl
theorem dksX0_lets_4 : cX0_lets.data.toList.drop 92 = dktX0_lets_4 := dk_seg dksX0_lets_3 24 rfl rfl
theorem dksX0_lets_5 : cX0_lets.data.toList.drop 115 = dktX0_lets_5 := dk_seg dksX0_lets_4 23 rfl rfl
theorem dX0_lets_0 : decode cX0_lets 0 = .ok (.iload_n 1, 1) := dk_27 (dk_at dksX0_lets_0 0 rfl rfl)
theorem dX0_lets_1 : decode cX0_lets 1 = .ok (.i2l, 1) := dk_133 (dk_at dksX0_lets_0 1 rfl rfl)
theorem dX0_lets_2 : decode cX0_lets 2 = .ok (.lconst 0, 1) := dk_9 (dk_at dksX0_lets_0 2 rfl rfl)
theorem dX0_lets_3 : decode cX0_lets 3 = .ok (.ldc2_w 118, 3) := dk_20 0 118 (dk_at dksX0_lets_0 3 rfl rfl)
theorem dX0_lets_6 : decode cX0_lets 6 = .ok (.invokestatic 5, 3) := dk_184 0 5 (dk_at dksX0_lets_0 6 rfl rfl)
theorem dX0_lets_9 : decode cX0_lets 9 = .ok (.ifCond .eq 48, 3) := dk_153 0 48 (dk_at dksX0_lets_0 9 rfl rfl)
theorem dX0_lets_12 : decode cX0_lets 12 = .ok (.iload_n 2, 1) := dk_28 (dk_at dksX0_lets_0 12 rfl rfl)
theorem dX0_lets_13 : decode cX0_lets 13 = .ok (.i2l, 1) := dk_133 (dk_at dksX0_lets_0 13 rfl rfl)
theorem dX0_lets_14 : decode cX0_lets 14 = .ok (.lconst 0, 1) := dk_9 (dk_at dksX0_lets_0 14 rfl rfl)
theorem dX0_lets_15 : decode cX0_lets 15 = .ok (.iload_n 1, 1) := dk_27 (dk_at dksX0_lets_0 15 rfl rfl)
theorem dX0_lets_16 : decode cX0_lets 16 = .ok (.ifCond .ne 9, 3) := dk_154 0 9 (dk_at dksX0_lets_0 16 rfl rfl)
theorem dX0_lets_19 : decode cX0_lets 19 = .ok (.ldc2_w 3, 3) := dk_20 0 3 (dk_at dksX0_lets_0 19 rfl rfl)
theorem dX0_lets_22 : decode cX0_lets 22 = .ok (.goto 17, 3) := dk_167 0 17 (dk_at dksX0_lets_1 0 rfl rfl)
theorem dX0_lets_25 : decode cX0_lets 25 = .ok (.iload_n 1, 1) := dk_27 (dk_at dksX0_lets_1 3 rfl rfl)
theorem dX0_lets_26 : decode cX0_lets 26 = .ok (.iconst 1, 1) := dk_4 (dk_at dksX0_lets_1 4 rfl rfl)
theorem dX0_lets_27 : decode cX0_lets 27 = .ok (.if_icmp .ne 9, 3) := dk_160 0 9 (dk_at dksX0_lets_1 5 rfl rfl)
theorem dX0_lets_30 : decode cX0_lets 30 = .ok (.ldc2_w 13, 3) := dk_20 0 13 (dk_at dksX0_lets_1 8 rfl rfl)
theorem dX0_lets_33 : decode cX0_lets 33 = .ok (.goto 6, 3) := dk_167 0 6 (dk_at dksX0_lets_1 11 rfl rfl)
theorem dX0_lets_36 : decode cX0_lets 36 = .ok (.ldc2_w 11, 3) := dk_20 0 11 (dk_at dksX0_lets_1 14 rfl rfl)
theorem dX0_lets_39 : decode cX0_lets 39 = .ok (.invokestatic 5, 3) := dk_184 0 5 (dk_at dksX0_lets_1 17 rfl rfl)
theorem dX0_lets_42 : decode cX0_lets 42 = .ok (.ifCond .eq 15, 3) := dk_153 0 15 (dk_at dksX0_lets_1 20 rfl rfl)
theorem dX0_lets_45 : decode cX0_lets 45 = .ok (.iload_n 3, 1) := dk_29 (dk_at dksX0_lets_1 23 rfl rfl)
theorem dX0_lets_46 : decode cX0_lets 46 = .ok (.i2l, 1) := dk_133 (dk_at dksX0_lets_2 0 rfl rfl)
theorem dX0_lets_47 : decode cX0_lets 47 = .ok (.lconst 0, 1) := dk_9 (dk_at dksX0_lets_2 1 rfl rfl)
theorem dX0_lets_48 : decode cX0_lets 48 = .ok (.ldc2_w 91, 3) := dk_20 0 91 (dk_at dksX0_lets_2 2 rfl rfl)
theorem dX0_lets_51 : decode cX0_lets 51 = .ok (.invokestatic 5, 3) := dk_184 0 5 (dk_at dksX0_lets_2 5 rfl rfl)
theorem dX0_lets_54 : decode cX0_lets 54 = .ok (.ifCond .ne 9, 3) := dk_154 0 9 (dk_at dksX0_lets_2 8 rfl rfl)
theorem dX0_lets_57 : decode cX0_lets 57 = .ok (.aload_n 0, 1) := dk_42 (dk_at dksX0_lets_2 11 rfl rfl)
theorem dX0_lets_58 : decode cX0_lets 58 = .ok (.iconst (-1), 1) := dk_2 (dk_at dksX0_lets_2 12 rfl rfl)
theorem dX0_lets_59 : decode cX0_lets 59 = .ok (.invokevirtual 93, 3) := dk_182 0 93 (dk_at dksX0_lets_2 13 rfl rfl)
theorem dX0_lets_62 : decode cX0_lets 62 = .ok (.ireturn, 1) := dk_172 (dk_at dksX0_lets_2 16 rfl rfl)
theorem dX0_lets_63 : decode cX0_lets 63 = .ok (.iload_n 1, 1) := dk_27 (dk_at dksX0_lets_2 17 rfl rfl)
theorem dX0_lets_64 : decode cX0_lets 64 = .ok (.ifCond .ne 13, 3) := dk_154 0 13 (dk_at dksX0_lets_2 18 rfl rfl)
theorem dX0_lets_67 : decode cX0_lets 67 = .ok (.aload_n 0, 1) := dk_42 (dk_at dksX0_lets_2 21 rfl rfl)
theorem dX0_lets_68 : decode cX0_lets 68 = .ok (.getfield 26, 3) := dk_180 0 26 (dk_at dksX0_lets_3 0 rfl rfl)
theorem dX0_lets_71 : decode cX0_lets 71 = .ok (.getfield 120, 3) := dk_180 0 120 (dk_at dksX0_lets_3 3 rfl rfl)
theorem dX0_lets_74 : decode cX0_lets 74 = .ok (.goto 25, 3) := dk_167 0 25 (dk_at dksX0_lets_3 6 rfl rfl)
theorem dX0_lets_77 : decode cX0_lets 77 = .ok (.iload_n 1, 1) := dk_27 (dk_at dksX0_lets_3 9 rfl rfl)
theorem dX0_lets_78 : decode cX0_lets 78 = .ok (.iconst 1, 1) := dk_4 (dk_at dksX0_lets_3 10 rfl rfl)
theorem dX0_lets_79 : decode cX0_lets 79 = .ok (.if_icmp .ne 13, 3) := dk_160 0 13 (dk_at dksX0_lets_3 11 rfl rfl)
theorem dX0_lets_82 : decode cX0_lets 82 = .ok (.aload_n 0, 1) := dk_42 (dk_at dksX0_lets_3 14 rfl rfl)
theorem dX0_lets_83 : decode cX0_lets 83 = .ok (.getfield 26, 3) := dk_180 0 26 (dk_at dksX0_lets_3 15 rfl rfl)
theorem dX0_lets_86 : decode cX0_lets 86 = .ok (.getfield 123, 3) := dk_180 0 123 (dk_at dksX0_lets_3 18 rfl rfl)
theorem dX0_lets_89 : decode cX0_lets 89 = .ok (.goto 10, 3) := dk_167 0 10 (dk_at dksX0_lets_3 21 rfl rfl)
theorem dX0_lets_92 : decode cX0_lets 92 = .ok (.aload_n 0, 1) := dk_42 (dk_at dksX0_lets_4 0 rfl rfl)
theorem dX0_lets_93 : decode cX0_lets 93 = .ok (.getfield 26, 3) := dk_180 0 26 (dk_at dksX0_lets_4 1 rfl rfl)
theorem dX0_lets_96 : decode cX0_lets 96 = .ok (.getfield 126, 3) := dk_180 0 126 (dk_at dksX0_lets_4 4 rfl rfl)
theorem dX0_lets_99 : decode cX0_lets 99 = .ok (.astore 4, 2) := dk_58 4 (dk_at dksX0_lets_4 7 rfl rfl)
theorem dX0_lets_101 : decode cX0_lets 101 = .ok (.aload 4, 2) := dk_25 4 (dk_at dksX0_lets_4 9 rfl rfl)
theorem dX0_lets_103 : decode cX0_lets 103 = .ok (.iload_n 2, 1) := dk_28 (dk_at dksX0_lets_4 11 rfl rfl)
theorem dX0_lets_104 : decode cX0_lets 104 = .ok (.iaload, 1) := dk_46 (dk_at dksX0_lets_4 12 rfl rfl)
theorem dX0_lets_105 : decode cX0_lets 105 = .ok (.istore 5, 2) := dk_54 5 (dk_at dksX0_lets_4 13 rfl rfl)
theorem dX0_lets_107 : decode cX0_lets 107 = .ok (.aload 4, 2) := dk_25 4 (dk_at dksX0_lets_4 15 rfl rfl)
theorem dX0_lets_109 : decode cX0_lets 109 = .ok (.iload_n 2, 1) := dk_28 (dk_at dksX0_lets_4 17 rfl rfl)
theorem dX0_lets_110 : decode cX0_lets 110 = .ok (.iload_n 3, 1) := dk_29 (dk_at dksX0_lets_4 18 rfl rfl)
theorem dX0_lets_111 : decode cX0_lets 111 = .ok (.iastore, 1) := dk_79 (dk_at dksX0_lets_4 19 rfl rfl)
theorem dX0_lets_112 : decode cX0_lets 112 = .ok (.aload_n 0, 1) := dk_42 (dk_at dksX0_lets_4 20 rfl rfl)
theorem dX0_lets_113 : decode cX0_lets 113 = .ok (.iload 5, 2) := dk_21 5 (dk_at dksX0_lets_4 21 rfl rfl)
theorem dX0_lets_115 : decode cX0_lets 115 = .ok (.invokevirtual 106, 3) := dk_182 0 106 (dk_at dksX0_lets_5 0 rfl rfl)
theorem dX0_lets_118 : decode cX0_lets 118 = .ok (.ireturn, 1) := dk_172 (dk_at dksX0_lets_5 3 rfl rfl)
abbrev cX0_weigh : ByteArray := prog_1_method_16_code
def yX0_weigh : MethodName := ⟨RX0, "weigh", "(III)I"⟩
def dkwX0_weigh_3 : List UInt8 := [42, 21, 4, 182, 0, 106, 172]
abbrev dktX0_weigh_3 : List UInt8 := dkwX0_weigh_3 ++ []
def dkwX0_weigh_2 : List UInt8 := [16, 8, 27, 104, 28, 96, 46, 54, 4, 42, 180, 0, 26, 180, 0, 138, 16, 8, 27, 104, 28, 96, 29, 79]
abbrev dktX0_weigh_2 : List UInt8 := dkwX0_weigh_2 ++ dktX0_weigh_3
def dkwX0_weigh_1 : List UInt8 := [172, 42, 28, 182, 0, 135, 154, 0, 10, 42, 16, 254, 182, 0, 93, 172, 42, 180, 0, 26, 180, 0, 138]
abbrev dktX0_weigh_1 : List UInt8 := dkwX0_weigh_1 ++ dktX0_weigh_2
def dkwX0_weigh_0 : List UInt8 := [27, 184, 0, 129, 153, 0, 15, 29, 133, 9, 20, 0, 133, 184, 0, 5, 154, 0, 9, 42, 2, 182, 0, 93]
abbrev dktX0_weigh_0 : List UInt8 := dkwX0_weigh_0 ++ dktX0_weigh_1
theorem dksX0_weigh_0 : cX0_weigh.data.toList.drop 0 = dktX0_weigh_0 := by decide +kernel
theorem dksX0_weigh_1 : cX0_weigh.data.toList.drop 24 = dktX0_weigh_1 := dk_seg dksX0_weigh_0 24 rfl rfl
theorem dksX0_weigh_2 : cX0_weigh.data.toList.drop 47 = dktX0_weigh_2 := dk_seg dksX0_weigh_1 23 rfl rfl
theorem dksX0_weigh_3 : cX0_weigh.data.toList.drop 71 = dktX0_weigh_3 := dk_seg dksX0_weigh_2 24 rfl rfl
theorem dX0_weigh_0 : decode cX0_weigh 0 = .ok (.iload_n 1, 1) := dk_27 (dk_at dksX0_weigh_0 0 rfl rfl)
theorem dX0_weigh_1 : decode cX0_weigh 1 = .ok (.invokestatic 129, 3) := dk_184 0 129 (dk_at dksX0_weigh_0 1 rfl rfl)
theorem dX0_weigh_4 : decode cX0_weigh 4 = .ok (.ifCond .eq 15, 3) := dk_153 0 15 (dk_at dksX0_weigh_0 4 rfl rfl)
theorem dX0_weigh_7 : decode cX0_weigh 7 = .ok (.iload_n 3, 1) := dk_29 (dk_at dksX0_weigh_0 7 rfl rfl)
theorem dX0_weigh_8 : decode cX0_weigh 8 = .ok (.i2l, 1) := dk_133 (dk_at dksX0_weigh_0 8 rfl rfl)
theorem dX0_weigh_9 : decode cX0_weigh 9 = .ok (.lconst 0, 1) := dk_9 (dk_at dksX0_weigh_0 9 rfl rfl)
theorem dX0_weigh_10 : decode cX0_weigh 10 = .ok (.ldc2_w 133, 3) := dk_20 0 133 (dk_at dksX0_weigh_0 10 rfl rfl)
theorem dX0_weigh_13 : decode cX0_weigh 13 = .ok (.invokestatic 5, 3) := dk_184 0 5 (dk_at dksX0_weigh_0 13 rfl rfl)
theorem dX0_weigh_16 : decode cX0_weigh 16 = .ok (.ifCond .ne 9, 3) := dk_154 0 9 (dk_at dksX0_weigh_0 16 rfl rfl)
theorem dX0_weigh_19 : decode cX0_weigh 19 = .ok (.aload_n 0, 1) := dk_42 (dk_at dksX0_weigh_0 19 rfl rfl)
theorem dX0_weigh_20 : decode cX0_weigh 20 = .ok (.iconst (-1), 1) := dk_2 (dk_at dksX0_weigh_0 20 rfl rfl)
theorem dX0_weigh_21 : decode cX0_weigh 21 = .ok (.invokevirtual 93, 3) := dk_182 0 93 (dk_at dksX0_weigh_0 21 rfl rfl)
theorem dX0_weigh_24 : decode cX0_weigh 24 = .ok (.ireturn, 1) := dk_172 (dk_at dksX0_weigh_1 0 rfl rfl)
theorem dX0_weigh_25 : decode cX0_weigh 25 = .ok (.aload_n 0, 1) := dk_42 (dk_at dksX0_weigh_1 1 rfl rfl)
theorem dX0_weigh_26 : decode cX0_weigh 26 = .ok (.iload_n 2, 1) := dk_28 (dk_at dksX0_weigh_1 2 rfl rfl)
theorem dX0_weigh_27 : decode cX0_weigh 27 = .ok (.invokevirtual 135, 3) := dk_182 0 135 (dk_at dksX0_weigh_1 3 rfl rfl)
theorem dX0_weigh_30 : decode cX0_weigh 30 = .ok (.ifCond .ne 10, 3) := dk_154 0 10 (dk_at dksX0_weigh_1 6 rfl rfl)
theorem dX0_weigh_33 : decode cX0_weigh 33 = .ok (.aload_n 0, 1) := dk_42 (dk_at dksX0_weigh_1 9 rfl rfl)
theorem dX0_weigh_34 : decode cX0_weigh 34 = .ok (.bipush (-2), 2) := dk_16 254 (dk_at dksX0_weigh_1 10 rfl rfl)
theorem dX0_weigh_36 : decode cX0_weigh 36 = .ok (.invokevirtual 93, 3) := dk_182 0 93 (dk_at dksX0_weigh_1 12 rfl rfl)
theorem dX0_weigh_39 : decode cX0_weigh 39 = .ok (.ireturn, 1) := dk_172 (dk_at dksX0_weigh_1 15 rfl rfl)
theorem dX0_weigh_40 : decode cX0_weigh 40 = .ok (.aload_n 0, 1) := dk_42 (dk_at dksX0_weigh_1 16 rfl rfl)
theorem dX0_weigh_41 : decode cX0_weigh 41 = .ok (.getfield 26, 3) := dk_180 0 26 (dk_at dksX0_weigh_1 17 rfl rfl)
theorem dX0_weigh_44 : decode cX0_weigh 44 = .ok (.getfield 138, 3) := dk_180 0 138 (dk_at dksX0_weigh_1 20 rfl rfl)
theorem dX0_weigh_47 : decode cX0_weigh 47 = .ok (.bipush 8, 2) := dk_16 8 (dk_at dksX0_weigh_2 0 rfl rfl)
theorem dX0_weigh_49 : decode cX0_weigh 49 = .ok (.iload_n 1, 1) := dk_27 (dk_at dksX0_weigh_2 2 rfl rfl)
theorem dX0_weigh_50 : decode cX0_weigh 50 = .ok (.imul, 1) := dk_104 (dk_at dksX0_weigh_2 3 rfl rfl)
theorem dX0_weigh_51 : decode cX0_weigh 51 = .ok (.iload_n 2, 1) := dk_28 (dk_at dksX0_weigh_2 4 rfl rfl)
theorem dX0_weigh_52 : decode cX0_weigh 52 = .ok (.iadd, 1) := dk_96 (dk_at dksX0_weigh_2 5 rfl rfl)
theorem dX0_weigh_53 : decode cX0_weigh 53 = .ok (.iaload, 1) := dk_46 (dk_at dksX0_weigh_2 6 rfl rfl)
theorem dX0_weigh_54 : decode cX0_weigh 54 = .ok (.istore 4, 2) := dk_54 4 (dk_at dksX0_weigh_2 7 rfl rfl)
theorem dX0_weigh_56 : decode cX0_weigh 56 = .ok (.aload_n 0, 1) := dk_42 (dk_at dksX0_weigh_2 9 rfl rfl)
theorem dX0_weigh_57 : decode cX0_weigh 57 = .ok (.getfield 26, 3) := dk_180 0 26 (dk_at dksX0_weigh_2 10 rfl rfl)
theorem dX0_weigh_60 : decode cX0_weigh 60 = .ok (.getfield 138, 3) := dk_180 0 138 (dk_at dksX0_weigh_2 13 rfl rfl)
theorem dX0_weigh_63 : decode cX0_weigh 63 = .ok (.bipush 8, 2) := dk_16 8 (dk_at dksX0_weigh_2 16 rfl rfl)
theorem dX0_weigh_65 : decode cX0_weigh 65 = .ok (.iload_n 1, 1) := dk_27 (dk_at dksX0_weigh_2 18 rfl rfl)
theorem dX0_weigh_66 : decode cX0_weigh 66 = .ok (.imul, 1) := dk_104 (dk_at dksX0_weigh_2 19 rfl rfl)
theorem dX0_weigh_67 : decode cX0_weigh 67 = .ok (.iload_n 2, 1) := dk_28 (dk_at dksX0_weigh_2 20 rfl rfl)
theorem dX0_weigh_68 : decode cX0_weigh 68 = .ok (.iadd, 1) := dk_96 (dk_at dksX0_weigh_2 21 rfl rfl)
theorem dX0_weigh_69 : decode cX0_weigh 69 = .ok (.iload_n 3, 1) := dk_29 (dk_at dksX0_weigh_2 22 rfl rfl)
theorem dX0_weigh_70 : decode cX0_weigh 70 = .ok (.iastore, 1) := dk_79 (dk_at dksX0_weigh_2 23 rfl rfl)
theorem dX0_weigh_71 : decode cX0_weigh 71 = .ok (.aload_n 0, 1) := dk_42 (dk_at dksX0_weigh_3 0 rfl rfl)
theorem dX0_weigh_72 : decode cX0_weigh 72 = .ok (.iload 4, 2) := dk_21 4 (dk_at dksX0_weigh_3 1 rfl rfl)
theorem dX0_weigh_74 : decode cX0_weigh 74 = .ok (.invokevirtual 106, 3) := dk_182 0 106 (dk_at dksX0_weigh_3 3 rfl rfl)
theorem dX0_weigh_77 : decode cX0_weigh 77 = .ok (.ireturn, 1) := dk_172 (dk_at dksX0_weigh_3 6 rfl rfl)
abbrev cX0_isPlace : ByteArray := prog_1_method_11_code
def yX0_isPlace : MethodName := ⟨RX0, "isPlace", "(I)Z"⟩
def dkwX0_isPlace_0 : List UInt8 := [26, 133, 9, 20, 0, 11, 184, 0, 5, 172]
abbrev dktX0_isPlace_0 : List UInt8 := dkwX0_isPlace_0 ++ []
theorem dksX0_isPlace_0 : cX0_isPlace.data.toList.drop 0 = dktX0_isPlace_0 := by decide +kernel
theorem dX0_isPlace_0 : decode cX0_isPlace 0 = .ok (.iload_n 0, 1) := dk_26 (dk_at dksX0_isPlace_0 0 rfl rfl)
theorem dX0_isPlace_1 : decode cX0_isPlace 1 = .ok (.i2l, 1) := dk_133 (dk_at dksX0_isPlace_0 1 rfl rfl)
theorem dX0_isPlace_2 : decode cX0_isPlace 2 = .ok (.lconst 0, 1) := dk_9 (dk_at dksX0_isPlace_0 2 rfl rfl)
theorem dX0_isPlace_3 : decode cX0_isPlace 3 = .ok (.ldc2_w 11, 3) := dk_20 0 11 (dk_at dksX0_isPlace_0 3 rfl rfl)
theorem dX0_isPlace_6 : decode cX0_isPlace 6 = .ok (.invokestatic 5, 3) := dk_184 0 5 (dk_at dksX0_isPlace_0 6 rfl rfl)
theorem dX0_isPlace_9 : decode cX0_isPlace 9 = .ok (.ireturn, 1) := dk_172 (dk_at dksX0_isPlace_0 9 rfl rfl)
abbrev cX0_isKind : ByteArray := prog_1_method_6_code
def yX0_isKind : MethodName := ⟨RX0, "isKind", "(I)Z"⟩
def dkwX0_isKind_0 : List UInt8 := [27, 133, 9, 42, 180, 0, 26, 180, 0, 74, 4, 100, 133, 184, 0, 5, 172]
abbrev dktX0_isKind_0 : List UInt8 := dkwX0_isKind_0 ++ []
theorem dksX0_isKind_0 : cX0_isKind.data.toList.drop 0 = dktX0_isKind_0 := by decide +kernel
theorem dX0_isKind_0 : decode cX0_isKind 0 = .ok (.iload_n 1, 1) := dk_27 (dk_at dksX0_isKind_0 0 rfl rfl)
theorem dX0_isKind_1 : decode cX0_isKind 1 = .ok (.i2l, 1) := dk_133 (dk_at dksX0_isKind_0 1 rfl rfl)
theorem dX0_isKind_2 : decode cX0_isKind 2 = .ok (.lconst 0, 1) := dk_9 (dk_at dksX0_isKind_0 2 rfl rfl)
theorem dX0_isKind_3 : decode cX0_isKind 3 = .ok (.aload_n 0, 1) := dk_42 (dk_at dksX0_isKind_0 3 rfl rfl)
theorem dX0_isKind_4 : decode cX0_isKind 4 = .ok (.getfield 26, 3) := dk_180 0 26 (dk_at dksX0_isKind_0 4 rfl rfl)
theorem dX0_isKind_7 : decode cX0_isKind 7 = .ok (.getfield 74, 3) := dk_180 0 74 (dk_at dksX0_isKind_0 7 rfl rfl)
theorem dX0_isKind_10 : decode cX0_isKind 10 = .ok (.iconst 1, 1) := dk_4 (dk_at dksX0_isKind_0 10 rfl rfl)
theorem dX0_isKind_11 : decode cX0_isKind 11 = .ok (.isub, 1) := dk_100 (dk_at dksX0_isKind_0 11 rfl rfl)
theorem dX0_isKind_12 : decode cX0_isKind 12 = .ok (.i2l, 1) := dk_133 (dk_at dksX0_isKind_0 12 rfl rfl)
theorem dX0_isKind_13 : decode cX0_isKind 13 = .ok (.invokestatic 5, 3) := dk_184 0 5 (dk_at dksX0_isKind_0 13 rfl rfl)
theorem dX0_isKind_16 : decode cX0_isKind 16 = .ok (.ireturn, 1) := dk_172 (dk_at dksX0_isKind_0 16 rfl rfl)
abbrev cX0_seed : ByteArray := prog_1_method_17_code
def yX0_seed : MethodName := ⟨RX0, "seed", "(I)I"⟩
def dkwX0_seed_1 : List UInt8 := [181, 0, 143, 42, 3, 182, 0, 106, 172]
abbrev dktX0_seed_1 : List UInt8 := dkwX0_seed_1 ++ []
def dkwX0_seed_0 : List UInt8 := [27, 133, 9, 20, 0, 141, 184, 0, 5, 154, 0, 9, 42, 2, 182, 0, 93, 172, 42, 180, 0, 26, 27, 133]
abbrev dktX0_seed_0 : List UInt8 := dkwX0_seed_0 ++ dktX0_seed_1
theorem dksX0_seed_0 : cX0_seed.data.toList.drop 0 = dktX0_seed_0 := by decide +kernel
theorem dksX0_seed_1 : cX0_seed.data.toList.drop 24 = dktX0_seed_1 := dk_seg dksX0_seed_0 24 rfl rfl
theorem dX0_seed_0 : decode cX0_seed 0 = .ok (.iload_n 1, 1) := dk_27 (dk_at dksX0_seed_0 0 rfl rfl)
theorem dX0_seed_1 : decode cX0_seed 1 = .ok (.i2l, 1) := dk_133 (dk_at dksX0_seed_0 1 rfl rfl)
theorem dX0_seed_2 : decode cX0_seed 2 = .ok (.lconst 0, 1) := dk_9 (dk_at dksX0_seed_0 2 rfl rfl)
theorem dX0_seed_3 : decode cX0_seed 3 = .ok (.ldc2_w 141, 3) := dk_20 0 141 (dk_at dksX0_seed_0 3 rfl rfl)
theorem dX0_seed_6 : decode cX0_seed 6 = .ok (.invokestatic 5, 3) := dk_184 0 5 (dk_at dksX0_seed_0 6 rfl rfl)
theorem dX0_seed_9 : decode cX0_seed 9 = .ok (.ifCond .ne 9, 3) := dk_154 0 9 (dk_at dksX0_seed_0 9 rfl rfl)
theorem dX0_seed_12 : decode cX0_seed 12 = .ok (.aload_n 0, 1) := dk_42 (dk_at dksX0_seed_0 12 rfl rfl)
theorem dX0_seed_13 : decode cX0_seed 13 = .ok (.iconst (-1), 1) := dk_2 (dk_at dksX0_seed_0 13 rfl rfl)
theorem dX0_seed_14 : decode cX0_seed 14 = .ok (.invokevirtual 93, 3) := dk_182 0 93 (dk_at dksX0_seed_0 14 rfl rfl)
theorem dX0_seed_17 : decode cX0_seed 17 = .ok (.ireturn, 1) := dk_172 (dk_at dksX0_seed_0 17 rfl rfl)
theorem dX0_seed_18 : decode cX0_seed 18 = .ok (.aload_n 0, 1) := dk_42 (dk_at dksX0_seed_0 18 rfl rfl)
theorem dX0_seed_19 : decode cX0_seed 19 = .ok (.getfield 26, 3) := dk_180 0 26 (dk_at dksX0_seed_0 19 rfl rfl)
theorem dX0_seed_22 : decode cX0_seed 22 = .ok (.iload_n 1, 1) := dk_27 (dk_at dksX0_seed_0 22 rfl rfl)
theorem dX0_seed_23 : decode cX0_seed 23 = .ok (.i2l, 1) := dk_133 (dk_at dksX0_seed_0 23 rfl rfl)
theorem dX0_seed_24 : decode cX0_seed 24 = .ok (.putfield 143, 3) := dk_181 0 143 (dk_at dksX0_seed_1 0 rfl rfl)
theorem dX0_seed_27 : decode cX0_seed 27 = .ok (.aload_n 0, 1) := dk_42 (dk_at dksX0_seed_1 3 rfl rfl)
theorem dX0_seed_28 : decode cX0_seed 28 = .ok (.iconst 0, 1) := dk_3 (dk_at dksX0_seed_1 4 rfl rfl)
theorem dX0_seed_29 : decode cX0_seed 29 = .ok (.invokevirtual 106, 3) := dk_182 0 106 (dk_at dksX0_seed_1 5 rfl rfl)
theorem dX0_seed_32 : decode cX0_seed 32 = .ok (.ireturn, 1) := dk_172 (dk_at dksX0_seed_1 8 rfl rfl)
abbrev cX0_flask : ByteArray := prog_1_method_18_code
def yX0_flask : MethodName := ⟨RX0, "flask", "(IIII)I"⟩
def dkwX0_flask_7 : List UInt8 := [42, 42, 180, 0, 26, 180, 0, 77, 4, 100, 182, 0, 106, 172]
abbrev dktX0_flask_7 : List UInt8 := dkwX0_flask_7 ++ []
def dkwX0_flask_6 : List UInt8 := [27, 28, 29, 21, 4, 21, 5, 183, 0, 169, 83, 42, 180, 0, 26, 89, 180, 0, 77, 4, 96, 181, 0, 77]
abbrev dktX0_flask_6 : List UInt8 := dkwX0_flask_6 ++ dktX0_flask_7
def dkwX0_flask_5 : List UInt8 := [160, 0, 20, 187, 0, 162, 89, 27, 28, 29, 21, 4, 21, 5, 183, 0, 164, 167, 0, 17, 187, 0, 167, 89]
abbrev dktX0_flask_5 : List UInt8 := dkwX0_flask_5 ++ dktX0_flask_6
def dkwX0_flask_4 : List UInt8 := [187, 0, 157, 89, 27, 29, 21, 4, 21, 5, 183, 0, 159, 167, 0, 43, 28, 153, 0, 8, 28, 6]
abbrev dktX0_flask_4 : List UInt8 := dkwX0_flask_4 ++ dktX0_flask_5
def dkwX0_flask_3 : List UInt8 := [180, 0, 150, 54, 5, 42, 180, 0, 26, 180, 0, 153, 42, 180, 0, 26, 180, 0, 77, 28, 4, 160, 0, 19]
abbrev dktX0_flask_3 : List UInt8 := dkwX0_flask_3 ++ dktX0_flask_4
def dkwX0_flask_2 : List UInt8 := [180, 0, 26, 180, 0, 77, 16, 40, 160, 0, 10, 42, 16, 251, 182, 0, 93, 172, 42, 180, 0, 26]
abbrev dktX0_flask_2 : List UInt8 := dkwX0_flask_2 ++ dktX0_flask_3
def dkwX0_flask_1 : List UInt8 := [29, 184, 0, 129, 153, 0, 11, 21, 4, 184, 0, 147, 154, 0, 9, 42, 2, 182, 0, 93, 172, 42]
abbrev dktX0_flask_1 : List UInt8 := dkwX0_flask_1 ++ dktX0_flask_2
def dkwX0_flask_0 : List UInt8 := [27, 133, 9, 20, 0, 3, 184, 0, 5, 153, 0, 30, 28, 133, 9, 20, 0, 3, 184, 0, 5, 153, 0, 18]
abbrev dktX0_flask_0 : List UInt8 := dkwX0_flask_0 ++ dktX0_flask_1
theorem dksX0_flask_0 : cX0_flask.data.toList.drop 0 = dktX0_flask_0 := by decide +kernel
theorem dksX0_flask_1 : cX0_flask.data.toList.drop 24 = dktX0_flask_1 := dk_seg dksX0_flask_0 24 rfl rfl
theorem dksX0_flask_2 : cX0_flask.data.toList.drop 46 = dktX0_flask_2 := dk_seg dksX0_flask_1 22 rfl rfl
theorem dksX0_flask_3 : cX0_flask.data.toList.drop 68 = dktX0_flask_3 := dk_seg dksX0_flask_2 22 rfl rfl
theorem dksX0_flask_4 : cX0_flask.data.toList.drop 92 = dktX0_flask_4 := dk_seg dksX0_flask_3 24 rfl rfl
theorem dksX0_flask_5 : cX0_flask.data.toList.drop 114 = dktX0_flask_5 := dk_seg dksX0_flask_4 22 rfl rfl
theorem dksX0_flask_6 : cX0_flask.data.toList.drop 138 = dktX0_flask_6 := dk_seg dksX0_flask_5 24 rfl rfl
theorem dksX0_flask_7 : cX0_flask.data.toList.drop 162 = dktX0_flask_7 := dk_seg dksX0_flask_6 24 rfl rfl
theorem dX0_flask_0 : decode cX0_flask 0 = .ok (.iload_n 1, 1) := dk_27 (dk_at dksX0_flask_0 0 rfl rfl)
theorem dX0_flask_1 : decode cX0_flask 1 = .ok (.i2l, 1) := dk_133 (dk_at dksX0_flask_0 1 rfl rfl)
theorem dX0_flask_2 : decode cX0_flask 2 = .ok (.lconst 0, 1) := dk_9 (dk_at dksX0_flask_0 2 rfl rfl)
theorem dX0_flask_3 : decode cX0_flask 3 = .ok (.ldc2_w 3, 3) := dk_20 0 3 (dk_at dksX0_flask_0 3 rfl rfl)
theorem dX0_flask_6 : decode cX0_flask 6 = .ok (.invokestatic 5, 3) := dk_184 0 5 (dk_at dksX0_flask_0 6 rfl rfl)
theorem dX0_flask_9 : decode cX0_flask 9 = .ok (.ifCond .eq 30, 3) := dk_153 0 30 (dk_at dksX0_flask_0 9 rfl rfl)
theorem dX0_flask_12 : decode cX0_flask 12 = .ok (.iload_n 2, 1) := dk_28 (dk_at dksX0_flask_0 12 rfl rfl)
theorem dX0_flask_13 : decode cX0_flask 13 = .ok (.i2l, 1) := dk_133 (dk_at dksX0_flask_0 13 rfl rfl)
theorem dX0_flask_14 : decode cX0_flask 14 = .ok (.lconst 0, 1) := dk_9 (dk_at dksX0_flask_0 14 rfl rfl)
theorem dX0_flask_15 : decode cX0_flask 15 = .ok (.ldc2_w 3, 3) := dk_20 0 3 (dk_at dksX0_flask_0 15 rfl rfl)
theorem dX0_flask_18 : decode cX0_flask 18 = .ok (.invokestatic 5, 3) := dk_184 0 5 (dk_at dksX0_flask_0 18 rfl rfl)
theorem dX0_flask_21 : decode cX0_flask 21 = .ok (.ifCond .eq 18, 3) := dk_153 0 18 (dk_at dksX0_flask_0 21 rfl rfl)
theorem dX0_flask_24 : decode cX0_flask 24 = .ok (.iload_n 3, 1) := dk_29 (dk_at dksX0_flask_1 0 rfl rfl)
theorem dX0_flask_25 : decode cX0_flask 25 = .ok (.invokestatic 129, 3) := dk_184 0 129 (dk_at dksX0_flask_1 1 rfl rfl)
theorem dX0_flask_28 : decode cX0_flask 28 = .ok (.ifCond .eq 11, 3) := dk_153 0 11 (dk_at dksX0_flask_1 4 rfl rfl)
theorem dX0_flask_31 : decode cX0_flask 31 = .ok (.iload 4, 2) := dk_21 4 (dk_at dksX0_flask_1 7 rfl rfl)
theorem dX0_flask_33 : decode cX0_flask 33 = .ok (.invokestatic 147, 3) := dk_184 0 147 (dk_at dksX0_flask_1 9 rfl rfl)
theorem dX0_flask_36 : decode cX0_flask 36 = .ok (.ifCond .ne 9, 3) := dk_154 0 9 (dk_at dksX0_flask_1 12 rfl rfl)
theorem dX0_flask_39 : decode cX0_flask 39 = .ok (.aload_n 0, 1) := dk_42 (dk_at dksX0_flask_1 15 rfl rfl)
theorem dX0_flask_40 : decode cX0_flask 40 = .ok (.iconst (-1), 1) := dk_2 (dk_at dksX0_flask_1 16 rfl rfl)
theorem dX0_flask_41 : decode cX0_flask 41 = .ok (.invokevirtual 93, 3) := dk_182 0 93 (dk_at dksX0_flask_1 17 rfl rfl)
theorem dX0_flask_44 : decode cX0_flask 44 = .ok (.ireturn, 1) := dk_172 (dk_at dksX0_flask_1 20 rfl rfl)
theorem dX0_flask_45 : decode cX0_flask 45 = .ok (.aload_n 0, 1) := dk_42 (dk_at dksX0_flask_1 21 rfl rfl)
theorem dX0_flask_46 : decode cX0_flask 46 = .ok (.getfield 26, 3) := dk_180 0 26 (dk_at dksX0_flask_2 0 rfl rfl)
theorem dX0_flask_49 : decode cX0_flask 49 = .ok (.getfield 77, 3) := dk_180 0 77 (dk_at dksX0_flask_2 3 rfl rfl)
theorem dX0_flask_52 : decode cX0_flask 52 = .ok (.bipush 40, 2) := dk_16 40 (dk_at dksX0_flask_2 6 rfl rfl)
theorem dX0_flask_54 : decode cX0_flask 54 = .ok (.if_icmp .ne 10, 3) := dk_160 0 10 (dk_at dksX0_flask_2 8 rfl rfl)
theorem dX0_flask_57 : decode cX0_flask 57 = .ok (.aload_n 0, 1) := dk_42 (dk_at dksX0_flask_2 11 rfl rfl)
theorem dX0_flask_58 : decode cX0_flask 58 = .ok (.bipush (-5), 2) := dk_16 251 (dk_at dksX0_flask_2 12 rfl rfl)
theorem dX0_flask_60 : decode cX0_flask 60 = .ok (.invokevirtual 93, 3) := dk_182 0 93 (dk_at dksX0_flask_2 14 rfl rfl)
theorem dX0_flask_63 : decode cX0_flask 63 = .ok (.ireturn, 1) := dk_172 (dk_at dksX0_flask_2 17 rfl rfl)
theorem dX0_flask_64 : decode cX0_flask 64 = .ok (.aload_n 0, 1) := dk_42 (dk_at dksX0_flask_2 18 rfl rfl)
theorem dX0_flask_65 : decode cX0_flask 65 = .ok (.getfield 26, 3) := dk_180 0 26 (dk_at dksX0_flask_2 19 rfl rfl)
theorem dX0_flask_68 : decode cX0_flask 68 = .ok (.getfield 150, 3) := dk_180 0 150 (dk_at dksX0_flask_3 0 rfl rfl)
theorem dX0_flask_71 : decode cX0_flask 71 = .ok (.istore 5, 2) := dk_54 5 (dk_at dksX0_flask_3 3 rfl rfl)
theorem dX0_flask_73 : decode cX0_flask 73 = .ok (.aload_n 0, 1) := dk_42 (dk_at dksX0_flask_3 5 rfl rfl)
theorem dX0_flask_74 : decode cX0_flask 74 = .ok (.getfield 26, 3) := dk_180 0 26 (dk_at dksX0_flask_3 6 rfl rfl)
theorem dX0_flask_77 : decode cX0_flask 77 = .ok (.getfield 153, 3) := dk_180 0 153 (dk_at dksX0_flask_3 9 rfl rfl)
theorem dX0_flask_80 : decode cX0_flask 80 = .ok (.aload_n 0, 1) := dk_42 (dk_at dksX0_flask_3 12 rfl rfl)
theorem dX0_flask_81 : decode cX0_flask 81 = .ok (.getfield 26, 3) := dk_180 0 26 (dk_at dksX0_flask_3 13 rfl rfl)
theorem dX0_flask_84 : decode cX0_flask 84 = .ok (.getfield 77, 3) := dk_180 0 77 (dk_at dksX0_flask_3 16 rfl rfl)
theorem dX0_flask_87 : decode cX0_flask 87 = .ok (.iload_n 2, 1) := dk_28 (dk_at dksX0_flask_3 19 rfl rfl)
theorem dX0_flask_88 : decode cX0_flask 88 = .ok (.iconst 1, 1) := dk_4 (dk_at dksX0_flask_3 20 rfl rfl)
theorem dX0_flask_89 : decode cX0_flask 89 = .ok (.if_icmp .ne 19, 3) := dk_160 0 19 (dk_at dksX0_flask_3 21 rfl rfl)
theorem dX0_flask_92 : decode cX0_flask 92 = .ok (.new 157, 3) := dk_187 0 157 (dk_at dksX0_flask_4 0 rfl rfl)
theorem dX0_flask_95 : decode cX0_flask 95 = .ok (.dup, 1) := dk_89 (dk_at dksX0_flask_4 3 rfl rfl)
theorem dX0_flask_96 : decode cX0_flask 96 = .ok (.iload_n 1, 1) := dk_27 (dk_at dksX0_flask_4 4 rfl rfl)
theorem dX0_flask_97 : decode cX0_flask 97 = .ok (.iload_n 3, 1) := dk_29 (dk_at dksX0_flask_4 5 rfl rfl)
theorem dX0_flask_98 : decode cX0_flask 98 = .ok (.iload 4, 2) := dk_21 4 (dk_at dksX0_flask_4 6 rfl rfl)
theorem dX0_flask_100 : decode cX0_flask 100 = .ok (.iload 5, 2) := dk_21 5 (dk_at dksX0_flask_4 8 rfl rfl)
theorem dX0_flask_102 : decode cX0_flask 102 = .ok (.invokespecial 159, 3) := dk_183 0 159 (dk_at dksX0_flask_4 10 rfl rfl)
theorem dX0_flask_105 : decode cX0_flask 105 = .ok (.goto 43, 3) := dk_167 0 43 (dk_at dksX0_flask_4 13 rfl rfl)
theorem dX0_flask_108 : decode cX0_flask 108 = .ok (.iload_n 2, 1) := dk_28 (dk_at dksX0_flask_4 16 rfl rfl)
theorem dX0_flask_109 : decode cX0_flask 109 = .ok (.ifCond .eq 8, 3) := dk_153 0 8 (dk_at dksX0_flask_4 17 rfl rfl)
theorem dX0_flask_112 : decode cX0_flask 112 = .ok (.iload_n 2, 1) := dk_28 (dk_at dksX0_flask_4 20 rfl rfl)
theorem dX0_flask_113 : decode cX0_flask 113 = .ok (.iconst 3, 1) := dk_6 (dk_at dksX0_flask_4 21 rfl rfl)
theorem dX0_flask_114 : decode cX0_flask 114 = .ok (.if_icmp .ne 20, 3) := dk_160 0 20 (dk_at dksX0_flask_5 0 rfl rfl)
theorem dX0_flask_117 : decode cX0_flask 117 = .ok (.new 162, 3) := dk_187 0 162 (dk_at dksX0_flask_5 3 rfl rfl)
theorem dX0_flask_120 : decode cX0_flask 120 = .ok (.dup, 1) := dk_89 (dk_at dksX0_flask_5 6 rfl rfl)
theorem dX0_flask_121 : decode cX0_flask 121 = .ok (.iload_n 1, 1) := dk_27 (dk_at dksX0_flask_5 7 rfl rfl)
theorem dX0_flask_122 : decode cX0_flask 122 = .ok (.iload_n 2, 1) := dk_28 (dk_at dksX0_flask_5 8 rfl rfl)
theorem dX0_flask_123 : decode cX0_flask 123 = .ok (.iload_n 3, 1) := dk_29 (dk_at dksX0_flask_5 9 rfl rfl)
theorem dX0_flask_124 : decode cX0_flask 124 = .ok (.iload 4, 2) := dk_21 4 (dk_at dksX0_flask_5 10 rfl rfl)
theorem dX0_flask_126 : decode cX0_flask 126 = .ok (.iload 5, 2) := dk_21 5 (dk_at dksX0_flask_5 12 rfl rfl)
theorem dX0_flask_128 : decode cX0_flask 128 = .ok (.invokespecial 164, 3) := dk_183 0 164 (dk_at dksX0_flask_5 14 rfl rfl)
theorem dX0_flask_131 : decode cX0_flask 131 = .ok (.goto 17, 3) := dk_167 0 17 (dk_at dksX0_flask_5 17 rfl rfl)
theorem dX0_flask_134 : decode cX0_flask 134 = .ok (.new 167, 3) := dk_187 0 167 (dk_at dksX0_flask_5 20 rfl rfl)
theorem dX0_flask_137 : decode cX0_flask 137 = .ok (.dup, 1) := dk_89 (dk_at dksX0_flask_5 23 rfl rfl)
theorem dX0_flask_138 : decode cX0_flask 138 = .ok (.iload_n 1, 1) := dk_27 (dk_at dksX0_flask_6 0 rfl rfl)
theorem dX0_flask_139 : decode cX0_flask 139 = .ok (.iload_n 2, 1) := dk_28 (dk_at dksX0_flask_6 1 rfl rfl)
theorem dX0_flask_140 : decode cX0_flask 140 = .ok (.iload_n 3, 1) := dk_29 (dk_at dksX0_flask_6 2 rfl rfl)
theorem dX0_flask_141 : decode cX0_flask 141 = .ok (.iload 4, 2) := dk_21 4 (dk_at dksX0_flask_6 3 rfl rfl)
theorem dX0_flask_143 : decode cX0_flask 143 = .ok (.iload 5, 2) := dk_21 5 (dk_at dksX0_flask_6 5 rfl rfl)
theorem dX0_flask_145 : decode cX0_flask 145 = .ok (.invokespecial 169, 3) := dk_183 0 169 (dk_at dksX0_flask_6 7 rfl rfl)
theorem dX0_flask_148 : decode cX0_flask 148 = .ok (.aastore, 1) := dk_83 (dk_at dksX0_flask_6 10 rfl rfl)
theorem dX0_flask_149 : decode cX0_flask 149 = .ok (.aload_n 0, 1) := dk_42 (dk_at dksX0_flask_6 11 rfl rfl)
theorem dX0_flask_150 : decode cX0_flask 150 = .ok (.getfield 26, 3) := dk_180 0 26 (dk_at dksX0_flask_6 12 rfl rfl)
theorem dX0_flask_153 : decode cX0_flask 153 = .ok (.dup, 1) := dk_89 (dk_at dksX0_flask_6 15 rfl rfl)
theorem dX0_flask_154 : decode cX0_flask 154 = .ok (.getfield 77, 3) := dk_180 0 77 (dk_at dksX0_flask_6 16 rfl rfl)
theorem dX0_flask_157 : decode cX0_flask 157 = .ok (.iconst 1, 1) := dk_4 (dk_at dksX0_flask_6 19 rfl rfl)
theorem dX0_flask_158 : decode cX0_flask 158 = .ok (.iadd, 1) := dk_96 (dk_at dksX0_flask_6 20 rfl rfl)
theorem dX0_flask_159 : decode cX0_flask 159 = .ok (.putfield 77, 3) := dk_181 0 77 (dk_at dksX0_flask_6 21 rfl rfl)
theorem dX0_flask_162 : decode cX0_flask 162 = .ok (.aload_n 0, 1) := dk_42 (dk_at dksX0_flask_7 0 rfl rfl)
theorem dX0_flask_163 : decode cX0_flask 163 = .ok (.aload_n 0, 1) := dk_42 (dk_at dksX0_flask_7 1 rfl rfl)
theorem dX0_flask_164 : decode cX0_flask 164 = .ok (.getfield 26, 3) := dk_180 0 26 (dk_at dksX0_flask_7 2 rfl rfl)
theorem dX0_flask_167 : decode cX0_flask 167 = .ok (.getfield 77, 3) := dk_180 0 77 (dk_at dksX0_flask_7 5 rfl rfl)
theorem dX0_flask_170 : decode cX0_flask 170 = .ok (.iconst 1, 1) := dk_4 (dk_at dksX0_flask_7 8 rfl rfl)
theorem dX0_flask_171 : decode cX0_flask 171 = .ok (.isub, 1) := dk_100 (dk_at dksX0_flask_7 9 rfl rfl)
theorem dX0_flask_172 : decode cX0_flask 172 = .ok (.invokevirtual 106, 3) := dk_182 0 106 (dk_at dksX0_flask_7 10 rfl rfl)
theorem dX0_flask_175 : decode cX0_flask 175 = .ok (.ireturn, 1) := dk_172 (dk_at dksX0_flask_7 13 rfl rfl)
abbrev cX0_isHand : ByteArray := prog_1_method_12_code
def yX0_isHand : MethodName := ⟨RX0, "isHand", "(I)Z"⟩
def dkwX0_isHand_0 : List UInt8 := [26, 133, 9, 20, 0, 13, 184, 0, 5, 172]
abbrev dktX0_isHand_0 : List UInt8 := dkwX0_isHand_0 ++ []
theorem dksX0_isHand_0 : cX0_isHand.data.toList.drop 0 = dktX0_isHand_0 := by decide +kernel
theorem dX0_isHand_0 : decode cX0_isHand 0 = .ok (.iload_n 0, 1) := dk_26 (dk_at dksX0_isHand_0 0 rfl rfl)
theorem dX0_isHand_1 : decode cX0_isHand 1 = .ok (.i2l, 1) := dk_133 (dk_at dksX0_isHand_0 1 rfl rfl)
theorem dX0_isHand_2 : decode cX0_isHand 2 = .ok (.lconst 0, 1) := dk_9 (dk_at dksX0_isHand_0 2 rfl rfl)
theorem dX0_isHand_3 : decode cX0_isHand 3 = .ok (.ldc2_w 13, 3) := dk_20 0 13 (dk_at dksX0_isHand_0 3 rfl rfl)
theorem dX0_isHand_6 : decode cX0_isHand 6 = .ok (.invokestatic 5, 3) := dk_184 0 5 (dk_at dksX0_isHand_0 6 rfl rfl)
theorem dX0_isHand_9 : decode cX0_isHand 9 = .ok (.ireturn, 1) := dk_172 (dk_at dksX0_isHand_0 9 rfl rfl)
abbrev cX0_heat : ByteArray := prog_1_method_19_code
def yX0_heat : MethodName := ⟨RX0, "heat", "(III)I"⟩
def dkwX0_heat_3 : List UInt8 := [182, 0, 173, 42, 42, 180, 0, 26, 180, 0, 153, 27, 50, 180, 0, 179, 182, 0, 106, 172]
abbrev dktX0_heat_3 : List UInt8 := dkwX0_heat_3 ++ []
def dkwX0_heat_2 : List UInt8 := [180, 0, 26, 180, 0, 153, 27, 50, 42, 180, 0, 26, 180, 0, 150, 28, 29, 42, 180, 0, 26, 180, 0, 97]
abbrev dktX0_heat_2 : List UInt8 := dkwX0_heat_2 ++ dktX0_heat_3
def dkwX0_heat_1 : List UInt8 := [42, 2, 182, 0, 93, 172, 42, 27, 182, 0, 170, 154, 0, 10, 42, 16, 254, 182, 0, 93, 172, 42]
abbrev dktX0_heat_1 : List UInt8 := dkwX0_heat_1 ++ dktX0_heat_2
def dkwX0_heat_0 : List UInt8 := [28, 133, 9, 20, 0, 9, 184, 0, 5, 153, 0, 15, 29, 133, 10, 20, 0, 15, 184, 0, 5, 154, 0, 9]
abbrev dktX0_heat_0 : List UInt8 := dkwX0_heat_0 ++ dktX0_heat_1
theorem dksX0_heat_0 : cX0_heat.data.toList.drop 0 = dktX0_heat_0 := by decide +kernel
theorem dksX0_heat_1 : cX0_heat.data.toList.drop 24 = dktX0_heat_1 := dk_seg dksX0_heat_0 24 rfl rfl
theorem dksX0_heat_2 : cX0_heat.data.toList.drop 46 = dktX0_heat_2 := dk_seg dksX0_heat_1 22 rfl rfl
theorem dksX0_heat_3 : cX0_heat.data.toList.drop 70 = dktX0_heat_3 := dk_seg dksX0_heat_2 24 rfl rfl
theorem dX0_heat_0 : decode cX0_heat 0 = .ok (.iload_n 2, 1) := dk_28 (dk_at dksX0_heat_0 0 rfl rfl)
theorem dX0_heat_1 : decode cX0_heat 1 = .ok (.i2l, 1) := dk_133 (dk_at dksX0_heat_0 1 rfl rfl)
theorem dX0_heat_2 : decode cX0_heat 2 = .ok (.lconst 0, 1) := dk_9 (dk_at dksX0_heat_0 2 rfl rfl)
theorem dX0_heat_3 : decode cX0_heat 3 = .ok (.ldc2_w 9, 3) := dk_20 0 9 (dk_at dksX0_heat_0 3 rfl rfl)
theorem dX0_heat_6 : decode cX0_heat 6 = .ok (.invokestatic 5, 3) := dk_184 0 5 (dk_at dksX0_heat_0 6 rfl rfl)
theorem dX0_heat_9 : decode cX0_heat 9 = .ok (.ifCond .eq 15, 3) := dk_153 0 15 (dk_at dksX0_heat_0 9 rfl rfl)
theorem dX0_heat_12 : decode cX0_heat 12 = .ok (.iload_n 3, 1) := dk_29 (dk_at dksX0_heat_0 12 rfl rfl)
theorem dX0_heat_13 : decode cX0_heat 13 = .ok (.i2l, 1) := dk_133 (dk_at dksX0_heat_0 13 rfl rfl)
theorem dX0_heat_14 : decode cX0_heat 14 = .ok (.lconst 1, 1) := dk_10 (dk_at dksX0_heat_0 14 rfl rfl)
theorem dX0_heat_15 : decode cX0_heat 15 = .ok (.ldc2_w 15, 3) := dk_20 0 15 (dk_at dksX0_heat_0 15 rfl rfl)
theorem dX0_heat_18 : decode cX0_heat 18 = .ok (.invokestatic 5, 3) := dk_184 0 5 (dk_at dksX0_heat_0 18 rfl rfl)
theorem dX0_heat_21 : decode cX0_heat 21 = .ok (.ifCond .ne 9, 3) := dk_154 0 9 (dk_at dksX0_heat_0 21 rfl rfl)
theorem dX0_heat_24 : decode cX0_heat 24 = .ok (.aload_n 0, 1) := dk_42 (dk_at dksX0_heat_1 0 rfl rfl)
theorem dX0_heat_25 : decode cX0_heat 25 = .ok (.iconst (-1), 1) := dk_2 (dk_at dksX0_heat_1 1 rfl rfl)
theorem dX0_heat_26 : decode cX0_heat 26 = .ok (.invokevirtual 93, 3) := dk_182 0 93 (dk_at dksX0_heat_1 2 rfl rfl)
theorem dX0_heat_29 : decode cX0_heat 29 = .ok (.ireturn, 1) := dk_172 (dk_at dksX0_heat_1 5 rfl rfl)
theorem dX0_heat_30 : decode cX0_heat 30 = .ok (.aload_n 0, 1) := dk_42 (dk_at dksX0_heat_1 6 rfl rfl)
theorem dX0_heat_31 : decode cX0_heat 31 = .ok (.iload_n 1, 1) := dk_27 (dk_at dksX0_heat_1 7 rfl rfl)
theorem dX0_heat_32 : decode cX0_heat 32 = .ok (.invokevirtual 170, 3) := dk_182 0 170 (dk_at dksX0_heat_1 8 rfl rfl)
theorem dX0_heat_35 : decode cX0_heat 35 = .ok (.ifCond .ne 10, 3) := dk_154 0 10 (dk_at dksX0_heat_1 11 rfl rfl)
theorem dX0_heat_38 : decode cX0_heat 38 = .ok (.aload_n 0, 1) := dk_42 (dk_at dksX0_heat_1 14 rfl rfl)
theorem dX0_heat_39 : decode cX0_heat 39 = .ok (.bipush (-2), 2) := dk_16 254 (dk_at dksX0_heat_1 15 rfl rfl)
theorem dX0_heat_41 : decode cX0_heat 41 = .ok (.invokevirtual 93, 3) := dk_182 0 93 (dk_at dksX0_heat_1 17 rfl rfl)
theorem dX0_heat_44 : decode cX0_heat 44 = .ok (.ireturn, 1) := dk_172 (dk_at dksX0_heat_1 20 rfl rfl)
theorem dX0_heat_45 : decode cX0_heat 45 = .ok (.aload_n 0, 1) := dk_42 (dk_at dksX0_heat_1 21 rfl rfl)
theorem dX0_heat_46 : decode cX0_heat 46 = .ok (.getfield 26, 3) := dk_180 0 26 (dk_at dksX0_heat_2 0 rfl rfl)
theorem dX0_heat_49 : decode cX0_heat 49 = .ok (.getfield 153, 3) := dk_180 0 153 (dk_at dksX0_heat_2 3 rfl rfl)
theorem dX0_heat_52 : decode cX0_heat 52 = .ok (.iload_n 1, 1) := dk_27 (dk_at dksX0_heat_2 6 rfl rfl)
theorem dX0_heat_53 : decode cX0_heat 53 = .ok (.aaload, 1) := dk_50 (dk_at dksX0_heat_2 7 rfl rfl)
theorem dX0_heat_54 : decode cX0_heat 54 = .ok (.aload_n 0, 1) := dk_42 (dk_at dksX0_heat_2 8 rfl rfl)
theorem dX0_heat_55 : decode cX0_heat 55 = .ok (.getfield 26, 3) := dk_180 0 26 (dk_at dksX0_heat_2 9 rfl rfl)
theorem dX0_heat_58 : decode cX0_heat 58 = .ok (.getfield 150, 3) := dk_180 0 150 (dk_at dksX0_heat_2 12 rfl rfl)
theorem dX0_heat_61 : decode cX0_heat 61 = .ok (.iload_n 2, 1) := dk_28 (dk_at dksX0_heat_2 15 rfl rfl)
theorem dX0_heat_62 : decode cX0_heat 62 = .ok (.iload_n 3, 1) := dk_29 (dk_at dksX0_heat_2 16 rfl rfl)
theorem dX0_heat_63 : decode cX0_heat 63 = .ok (.aload_n 0, 1) := dk_42 (dk_at dksX0_heat_2 17 rfl rfl)
theorem dX0_heat_64 : decode cX0_heat 64 = .ok (.getfield 26, 3) := dk_180 0 26 (dk_at dksX0_heat_2 18 rfl rfl)
theorem dX0_heat_67 : decode cX0_heat 67 = .ok (.getfield 97, 3) := dk_180 0 97 (dk_at dksX0_heat_2 21 rfl rfl)
theorem dX0_heat_70 : decode cX0_heat 70 = .ok (.invokevirtual 173, 3) := dk_182 0 173 (dk_at dksX0_heat_3 0 rfl rfl)
theorem dX0_heat_73 : decode cX0_heat 73 = .ok (.aload_n 0, 1) := dk_42 (dk_at dksX0_heat_3 3 rfl rfl)
theorem dX0_heat_74 : decode cX0_heat 74 = .ok (.aload_n 0, 1) := dk_42 (dk_at dksX0_heat_3 4 rfl rfl)
theorem dX0_heat_75 : decode cX0_heat 75 = .ok (.getfield 26, 3) := dk_180 0 26 (dk_at dksX0_heat_3 5 rfl rfl)
theorem dX0_heat_78 : decode cX0_heat 78 = .ok (.getfield 153, 3) := dk_180 0 153 (dk_at dksX0_heat_3 8 rfl rfl)
theorem dX0_heat_81 : decode cX0_heat 81 = .ok (.iload_n 1, 1) := dk_27 (dk_at dksX0_heat_3 11 rfl rfl)
theorem dX0_heat_82 : decode cX0_heat 82 = .ok (.aaload, 1) := dk_50 (dk_at dksX0_heat_3 12 rfl rfl)
theorem dX0_heat_83 : decode cX0_heat 83 = .ok (.getfield 179, 3) := dk_180 0 179 (dk_at dksX0_heat_3 13 rfl rfl)
theorem dX0_heat_86 : decode cX0_heat 86 = .ok (.invokevirtual 106, 3) := dk_182 0 106 (dk_at dksX0_heat_3 16 rfl rfl)
theorem dX0_heat_89 : decode cX0_heat 89 = .ok (.ireturn, 1) := dk_172 (dk_at dksX0_heat_3 19 rfl rfl)
abbrev cX0_isFlask : ByteArray := prog_1_method_7_code
def yX0_isFlask : MethodName := ⟨RX0, "isFlask", "(I)Z"⟩
def dkwX0_isFlask_0 : List UInt8 := [27, 133, 9, 42, 180, 0, 26, 180, 0, 77, 4, 100, 133, 184, 0, 5, 172]
abbrev dktX0_isFlask_0 : List UInt8 := dkwX0_isFlask_0 ++ []
theorem dksX0_isFlask_0 : cX0_isFlask.data.toList.drop 0 = dktX0_isFlask_0 := by decide +kernel
theorem dX0_isFlask_0 : decode cX0_isFlask 0 = .ok (.iload_n 1, 1) := dk_27 (dk_at dksX0_isFlask_0 0 rfl rfl)
theorem dX0_isFlask_1 : decode cX0_isFlask 1 = .ok (.i2l, 1) := dk_133 (dk_at dksX0_isFlask_0 1 rfl rfl)
theorem dX0_isFlask_2 : decode cX0_isFlask 2 = .ok (.lconst 0, 1) := dk_9 (dk_at dksX0_isFlask_0 2 rfl rfl)
theorem dX0_isFlask_3 : decode cX0_isFlask 3 = .ok (.aload_n 0, 1) := dk_42 (dk_at dksX0_isFlask_0 3 rfl rfl)
theorem dX0_isFlask_4 : decode cX0_isFlask 4 = .ok (.getfield 26, 3) := dk_180 0 26 (dk_at dksX0_isFlask_0 4 rfl rfl)
theorem dX0_isFlask_7 : decode cX0_isFlask 7 = .ok (.getfield 77, 3) := dk_180 0 77 (dk_at dksX0_isFlask_0 7 rfl rfl)
theorem dX0_isFlask_10 : decode cX0_isFlask 10 = .ok (.iconst 1, 1) := dk_4 (dk_at dksX0_isFlask_0 10 rfl rfl)
theorem dX0_isFlask_11 : decode cX0_isFlask 11 = .ok (.isub, 1) := dk_100 (dk_at dksX0_isFlask_0 11 rfl rfl)
theorem dX0_isFlask_12 : decode cX0_isFlask 12 = .ok (.i2l, 1) := dk_133 (dk_at dksX0_isFlask_0 12 rfl rfl)
theorem dX0_isFlask_13 : decode cX0_isFlask 13 = .ok (.invokestatic 5, 3) := dk_184 0 5 (dk_at dksX0_isFlask_0 13 rfl rfl)
theorem dX0_isFlask_16 : decode cX0_isFlask 16 = .ok (.ireturn, 1) := dk_172 (dk_at dksX0_isFlask_0 16 rfl rfl)
abbrev cX0_move : ByteArray := prog_1_method_20_code
def yX0_move : MethodName := ⟨RX0, "move", "(II)I"⟩
def dkwX0_move_1 : List UInt8 := [182, 0, 93, 172, 42, 180, 0, 26, 180, 0, 153, 27, 50, 28, 181, 0, 182, 42, 3, 182, 0, 106, 172]
abbrev dktX0_move_1 : List UInt8 := dkwX0_move_1 ++ []
def dkwX0_move_0 : List UInt8 := [28, 184, 0, 129, 154, 0, 9, 42, 2, 182, 0, 93, 172, 42, 27, 182, 0, 170, 154, 0, 10, 42, 16, 254]
abbrev dktX0_move_0 : List UInt8 := dkwX0_move_0 ++ dktX0_move_1
theorem dksX0_move_0 : cX0_move.data.toList.drop 0 = dktX0_move_0 := by decide +kernel
theorem dksX0_move_1 : cX0_move.data.toList.drop 24 = dktX0_move_1 := dk_seg dksX0_move_0 24 rfl rfl
theorem dX0_move_0 : decode cX0_move 0 = .ok (.iload_n 2, 1) := dk_28 (dk_at dksX0_move_0 0 rfl rfl)
theorem dX0_move_1 : decode cX0_move 1 = .ok (.invokestatic 129, 3) := dk_184 0 129 (dk_at dksX0_move_0 1 rfl rfl)
theorem dX0_move_4 : decode cX0_move 4 = .ok (.ifCond .ne 9, 3) := dk_154 0 9 (dk_at dksX0_move_0 4 rfl rfl)
theorem dX0_move_7 : decode cX0_move 7 = .ok (.aload_n 0, 1) := dk_42 (dk_at dksX0_move_0 7 rfl rfl)
theorem dX0_move_8 : decode cX0_move 8 = .ok (.iconst (-1), 1) := dk_2 (dk_at dksX0_move_0 8 rfl rfl)
theorem dX0_move_9 : decode cX0_move 9 = .ok (.invokevirtual 93, 3) := dk_182 0 93 (dk_at dksX0_move_0 9 rfl rfl)
theorem dX0_move_12 : decode cX0_move 12 = .ok (.ireturn, 1) := dk_172 (dk_at dksX0_move_0 12 rfl rfl)
theorem dX0_move_13 : decode cX0_move 13 = .ok (.aload_n 0, 1) := dk_42 (dk_at dksX0_move_0 13 rfl rfl)
theorem dX0_move_14 : decode cX0_move 14 = .ok (.iload_n 1, 1) := dk_27 (dk_at dksX0_move_0 14 rfl rfl)
theorem dX0_move_15 : decode cX0_move 15 = .ok (.invokevirtual 170, 3) := dk_182 0 170 (dk_at dksX0_move_0 15 rfl rfl)
theorem dX0_move_18 : decode cX0_move 18 = .ok (.ifCond .ne 10, 3) := dk_154 0 10 (dk_at dksX0_move_0 18 rfl rfl)
theorem dX0_move_21 : decode cX0_move 21 = .ok (.aload_n 0, 1) := dk_42 (dk_at dksX0_move_0 21 rfl rfl)
theorem dX0_move_22 : decode cX0_move 22 = .ok (.bipush (-2), 2) := dk_16 254 (dk_at dksX0_move_0 22 rfl rfl)
theorem dX0_move_24 : decode cX0_move 24 = .ok (.invokevirtual 93, 3) := dk_182 0 93 (dk_at dksX0_move_1 0 rfl rfl)
theorem dX0_move_27 : decode cX0_move 27 = .ok (.ireturn, 1) := dk_172 (dk_at dksX0_move_1 3 rfl rfl)
theorem dX0_move_28 : decode cX0_move 28 = .ok (.aload_n 0, 1) := dk_42 (dk_at dksX0_move_1 4 rfl rfl)
theorem dX0_move_29 : decode cX0_move 29 = .ok (.getfield 26, 3) := dk_180 0 26 (dk_at dksX0_move_1 5 rfl rfl)
theorem dX0_move_32 : decode cX0_move 32 = .ok (.getfield 153, 3) := dk_180 0 153 (dk_at dksX0_move_1 8 rfl rfl)
theorem dX0_move_35 : decode cX0_move 35 = .ok (.iload_n 1, 1) := dk_27 (dk_at dksX0_move_1 11 rfl rfl)
theorem dX0_move_36 : decode cX0_move 36 = .ok (.aaload, 1) := dk_50 (dk_at dksX0_move_1 12 rfl rfl)
theorem dX0_move_37 : decode cX0_move 37 = .ok (.iload_n 2, 1) := dk_28 (dk_at dksX0_move_1 13 rfl rfl)
theorem dX0_move_38 : decode cX0_move 38 = .ok (.putfield 182, 3) := dk_181 0 182 (dk_at dksX0_move_1 14 rfl rfl)
theorem dX0_move_41 : decode cX0_move 41 = .ok (.aload_n 0, 1) := dk_42 (dk_at dksX0_move_1 17 rfl rfl)
theorem dX0_move_42 : decode cX0_move 42 = .ok (.iconst 0, 1) := dk_3 (dk_at dksX0_move_1 18 rfl rfl)
theorem dX0_move_43 : decode cX0_move 43 = .ok (.invokevirtual 106, 3) := dk_182 0 106 (dk_at dksX0_move_1 19 rfl rfl)
theorem dX0_move_46 : decode cX0_move 46 = .ok (.ireturn, 1) := dk_172 (dk_at dksX0_move_1 22 rfl rfl)
abbrev cX0_open : ByteArray := prog_1_method_21_code
def yX0_open : MethodName := ⟨RX0, "open", "(II)I"⟩
def dkwX0_open_3 : List UInt8 := [180, 0, 150, 28, 96, 4, 100, 181, 0, 188, 42, 3, 182, 0, 106, 172]
abbrev dktX0_open_3 : List UInt8 := dkwX0_open_3 ++ []
def dkwX0_open_2 : List UInt8 := [154, 0, 10, 42, 16, 253, 182, 0, 93, 172, 42, 180, 0, 26, 180, 0, 153, 27, 50, 42, 180, 0, 26]
abbrev dktX0_open_2 : List UInt8 := dkwX0_open_2 ++ dktX0_open_3
def dkwX0_open_1 : List UInt8 := [154, 0, 10, 42, 16, 254, 182, 0, 93, 172, 42, 180, 0, 26, 180, 0, 153, 27, 50, 180, 0, 185]
abbrev dktX0_open_1 : List UInt8 := dkwX0_open_1 ++ dktX0_open_2
def dkwX0_open_0 : List UInt8 := [28, 133, 10, 20, 0, 91, 184, 0, 5, 154, 0, 9, 42, 2, 182, 0, 93, 172, 42, 27, 182, 0, 170]
abbrev dktX0_open_0 : List UInt8 := dkwX0_open_0 ++ dktX0_open_1
theorem dksX0_open_0 : cX0_open.data.toList.drop 0 = dktX0_open_0 := by decide +kernel
theorem dksX0_open_1 : cX0_open.data.toList.drop 23 = dktX0_open_1 := dk_seg dksX0_open_0 23 rfl rfl
theorem dksX0_open_2 : cX0_open.data.toList.drop 45 = dktX0_open_2 := dk_seg dksX0_open_1 22 rfl rfl
theorem dksX0_open_3 : cX0_open.data.toList.drop 68 = dktX0_open_3 := dk_seg dksX0_open_2 23 rfl rfl
theorem dX0_open_0 : decode cX0_open 0 = .ok (.iload_n 2, 1) := dk_28 (dk_at dksX0_open_0 0 rfl rfl)
theorem dX0_open_1 : decode cX0_open 1 = .ok (.i2l, 1) := dk_133 (dk_at dksX0_open_0 1 rfl rfl)
theorem dX0_open_2 : decode cX0_open 2 = .ok (.lconst 1, 1) := dk_10 (dk_at dksX0_open_0 2 rfl rfl)
theorem dX0_open_3 : decode cX0_open 3 = .ok (.ldc2_w 91, 3) := dk_20 0 91 (dk_at dksX0_open_0 3 rfl rfl)
theorem dX0_open_6 : decode cX0_open 6 = .ok (.invokestatic 5, 3) := dk_184 0 5 (dk_at dksX0_open_0 6 rfl rfl)
theorem dX0_open_9 : decode cX0_open 9 = .ok (.ifCond .ne 9, 3) := dk_154 0 9 (dk_at dksX0_open_0 9 rfl rfl)
theorem dX0_open_12 : decode cX0_open 12 = .ok (.aload_n 0, 1) := dk_42 (dk_at dksX0_open_0 12 rfl rfl)
theorem dX0_open_13 : decode cX0_open 13 = .ok (.iconst (-1), 1) := dk_2 (dk_at dksX0_open_0 13 rfl rfl)
theorem dX0_open_14 : decode cX0_open 14 = .ok (.invokevirtual 93, 3) := dk_182 0 93 (dk_at dksX0_open_0 14 rfl rfl)
theorem dX0_open_17 : decode cX0_open 17 = .ok (.ireturn, 1) := dk_172 (dk_at dksX0_open_0 17 rfl rfl)
theorem dX0_open_18 : decode cX0_open 18 = .ok (.aload_n 0, 1) := dk_42 (dk_at dksX0_open_0 18 rfl rfl)
theorem dX0_open_19 : decode cX0_open 19 = .ok (.iload_n 1, 1) := dk_27 (dk_at dksX0_open_0 19 rfl rfl)
theorem dX0_open_20 : decode cX0_open 20 = .ok (.invokevirtual 170, 3) := dk_182 0 170 (dk_at dksX0_open_0 20 rfl rfl)
theorem dX0_open_23 : decode cX0_open 23 = .ok (.ifCond .ne 10, 3) := dk_154 0 10 (dk_at dksX0_open_1 0 rfl rfl)
theorem dX0_open_26 : decode cX0_open 26 = .ok (.aload_n 0, 1) := dk_42 (dk_at dksX0_open_1 3 rfl rfl)
theorem dX0_open_27 : decode cX0_open 27 = .ok (.bipush (-2), 2) := dk_16 254 (dk_at dksX0_open_1 4 rfl rfl)
theorem dX0_open_29 : decode cX0_open 29 = .ok (.invokevirtual 93, 3) := dk_182 0 93 (dk_at dksX0_open_1 6 rfl rfl)
theorem dX0_open_32 : decode cX0_open 32 = .ok (.ireturn, 1) := dk_172 (dk_at dksX0_open_1 9 rfl rfl)
theorem dX0_open_33 : decode cX0_open 33 = .ok (.aload_n 0, 1) := dk_42 (dk_at dksX0_open_1 10 rfl rfl)
theorem dX0_open_34 : decode cX0_open 34 = .ok (.getfield 26, 3) := dk_180 0 26 (dk_at dksX0_open_1 11 rfl rfl)
theorem dX0_open_37 : decode cX0_open 37 = .ok (.getfield 153, 3) := dk_180 0 153 (dk_at dksX0_open_1 14 rfl rfl)
theorem dX0_open_40 : decode cX0_open 40 = .ok (.iload_n 1, 1) := dk_27 (dk_at dksX0_open_1 17 rfl rfl)
theorem dX0_open_41 : decode cX0_open 41 = .ok (.aaload, 1) := dk_50 (dk_at dksX0_open_1 18 rfl rfl)
theorem dX0_open_42 : decode cX0_open 42 = .ok (.getfield 185, 3) := dk_180 0 185 (dk_at dksX0_open_1 19 rfl rfl)
theorem dX0_open_45 : decode cX0_open 45 = .ok (.ifCond .ne 10, 3) := dk_154 0 10 (dk_at dksX0_open_2 0 rfl rfl)
theorem dX0_open_48 : decode cX0_open 48 = .ok (.aload_n 0, 1) := dk_42 (dk_at dksX0_open_2 3 rfl rfl)
theorem dX0_open_49 : decode cX0_open 49 = .ok (.bipush (-3), 2) := dk_16 253 (dk_at dksX0_open_2 4 rfl rfl)
theorem dX0_open_51 : decode cX0_open 51 = .ok (.invokevirtual 93, 3) := dk_182 0 93 (dk_at dksX0_open_2 6 rfl rfl)
theorem dX0_open_54 : decode cX0_open 54 = .ok (.ireturn, 1) := dk_172 (dk_at dksX0_open_2 9 rfl rfl)
theorem dX0_open_55 : decode cX0_open 55 = .ok (.aload_n 0, 1) := dk_42 (dk_at dksX0_open_2 10 rfl rfl)
theorem dX0_open_56 : decode cX0_open 56 = .ok (.getfield 26, 3) := dk_180 0 26 (dk_at dksX0_open_2 11 rfl rfl)
theorem dX0_open_59 : decode cX0_open 59 = .ok (.getfield 153, 3) := dk_180 0 153 (dk_at dksX0_open_2 14 rfl rfl)
theorem dX0_open_62 : decode cX0_open 62 = .ok (.iload_n 1, 1) := dk_27 (dk_at dksX0_open_2 17 rfl rfl)
theorem dX0_open_63 : decode cX0_open 63 = .ok (.aaload, 1) := dk_50 (dk_at dksX0_open_2 18 rfl rfl)
theorem dX0_open_64 : decode cX0_open 64 = .ok (.aload_n 0, 1) := dk_42 (dk_at dksX0_open_2 19 rfl rfl)
theorem dX0_open_65 : decode cX0_open 65 = .ok (.getfield 26, 3) := dk_180 0 26 (dk_at dksX0_open_2 20 rfl rfl)
theorem dX0_open_68 : decode cX0_open 68 = .ok (.getfield 150, 3) := dk_180 0 150 (dk_at dksX0_open_3 0 rfl rfl)
theorem dX0_open_71 : decode cX0_open 71 = .ok (.iload_n 2, 1) := dk_28 (dk_at dksX0_open_3 3 rfl rfl)
theorem dX0_open_72 : decode cX0_open 72 = .ok (.iadd, 1) := dk_96 (dk_at dksX0_open_3 4 rfl rfl)
theorem dX0_open_73 : decode cX0_open 73 = .ok (.iconst 1, 1) := dk_4 (dk_at dksX0_open_3 5 rfl rfl)
theorem dX0_open_74 : decode cX0_open 74 = .ok (.isub, 1) := dk_100 (dk_at dksX0_open_3 6 rfl rfl)
theorem dX0_open_75 : decode cX0_open 75 = .ok (.putfield 188, 3) := dk_181 0 188 (dk_at dksX0_open_3 7 rfl rfl)
theorem dX0_open_78 : decode cX0_open 78 = .ok (.aload_n 0, 1) := dk_42 (dk_at dksX0_open_3 10 rfl rfl)
theorem dX0_open_79 : decode cX0_open 79 = .ok (.iconst 0, 1) := dk_3 (dk_at dksX0_open_3 11 rfl rfl)
theorem dX0_open_80 : decode cX0_open 80 = .ok (.invokevirtual 106, 3) := dk_182 0 106 (dk_at dksX0_open_3 12 rfl rfl)
theorem dX0_open_83 : decode cX0_open 83 = .ok (.ireturn, 1) := dk_172 (dk_at dksX0_open_3 15 rfl rfl)
abbrev cX0_tip : ByteArray := prog_1_method_22_code
def yX0_tip : MethodName := ⟨RX0, "tip", "(I)I"⟩
def dkwX0_tip_3 : List UInt8 := [182, 0, 106, 172]
abbrev dktX0_tip_3 : List UInt8 := dkwX0_tip_3 ++ []
def dkwX0_tip_2 : List UInt8 := [180, 0, 26, 180, 0, 150, 181, 0, 195, 42, 180, 0, 26, 180, 0, 153, 27, 50, 4, 181, 0, 198, 42, 3]
abbrev dktX0_tip_2 : List UInt8 := dkwX0_tip_2 ++ dktX0_tip_3
def dkwX0_tip_1 : List UInt8 := [182, 0, 191, 154, 0, 10, 42, 16, 253, 182, 0, 93, 172, 42, 180, 0, 26, 180, 0, 153, 27, 50, 42]
abbrev dktX0_tip_1 : List UInt8 := dkwX0_tip_1 ++ dktX0_tip_2
def dkwX0_tip_0 : List UInt8 := [42, 27, 182, 0, 170, 154, 0, 10, 42, 16, 254, 182, 0, 93, 172, 42, 180, 0, 26, 180, 0, 153, 27, 50]
abbrev dktX0_tip_0 : List UInt8 := dkwX0_tip_0 ++ dktX0_tip_1
theorem dksX0_tip_0 : cX0_tip.data.toList.drop 0 = dktX0_tip_0 := by decide +kernel
theorem dksX0_tip_1 : cX0_tip.data.toList.drop 24 = dktX0_tip_1 := dk_seg dksX0_tip_0 24 rfl rfl
theorem dksX0_tip_2 : cX0_tip.data.toList.drop 47 = dktX0_tip_2 := dk_seg dksX0_tip_1 23 rfl rfl
theorem dksX0_tip_3 : cX0_tip.data.toList.drop 71 = dktX0_tip_3 := dk_seg dksX0_tip_2 24 rfl rfl
theorem dX0_tip_0 : decode cX0_tip 0 = .ok (.aload_n 0, 1) := dk_42 (dk_at dksX0_tip_0 0 rfl rfl)
theorem dX0_tip_1 : decode cX0_tip 1 = .ok (.iload_n 1, 1) := dk_27 (dk_at dksX0_tip_0 1 rfl rfl)
theorem dX0_tip_2 : decode cX0_tip 2 = .ok (.invokevirtual 170, 3) := dk_182 0 170 (dk_at dksX0_tip_0 2 rfl rfl)
theorem dX0_tip_5 : decode cX0_tip 5 = .ok (.ifCond .ne 10, 3) := dk_154 0 10 (dk_at dksX0_tip_0 5 rfl rfl)
theorem dX0_tip_8 : decode cX0_tip 8 = .ok (.aload_n 0, 1) := dk_42 (dk_at dksX0_tip_0 8 rfl rfl)
theorem dX0_tip_9 : decode cX0_tip 9 = .ok (.bipush (-2), 2) := dk_16 254 (dk_at dksX0_tip_0 9 rfl rfl)
theorem dX0_tip_11 : decode cX0_tip 11 = .ok (.invokevirtual 93, 3) := dk_182 0 93 (dk_at dksX0_tip_0 11 rfl rfl)
theorem dX0_tip_14 : decode cX0_tip 14 = .ok (.ireturn, 1) := dk_172 (dk_at dksX0_tip_0 14 rfl rfl)
theorem dX0_tip_15 : decode cX0_tip 15 = .ok (.aload_n 0, 1) := dk_42 (dk_at dksX0_tip_0 15 rfl rfl)
theorem dX0_tip_16 : decode cX0_tip 16 = .ok (.getfield 26, 3) := dk_180 0 26 (dk_at dksX0_tip_0 16 rfl rfl)
theorem dX0_tip_19 : decode cX0_tip 19 = .ok (.getfield 153, 3) := dk_180 0 153 (dk_at dksX0_tip_0 19 rfl rfl)
theorem dX0_tip_22 : decode cX0_tip 22 = .ok (.iload_n 1, 1) := dk_27 (dk_at dksX0_tip_0 22 rfl rfl)
theorem dX0_tip_23 : decode cX0_tip 23 = .ok (.aaload, 1) := dk_50 (dk_at dksX0_tip_0 23 rfl rfl)
theorem dX0_tip_24 : decode cX0_tip 24 = .ok (.invokevirtual 191, 3) := dk_182 0 191 (dk_at dksX0_tip_1 0 rfl rfl)
theorem dX0_tip_27 : decode cX0_tip 27 = .ok (.ifCond .ne 10, 3) := dk_154 0 10 (dk_at dksX0_tip_1 3 rfl rfl)
theorem dX0_tip_30 : decode cX0_tip 30 = .ok (.aload_n 0, 1) := dk_42 (dk_at dksX0_tip_1 6 rfl rfl)
theorem dX0_tip_31 : decode cX0_tip 31 = .ok (.bipush (-3), 2) := dk_16 253 (dk_at dksX0_tip_1 7 rfl rfl)
theorem dX0_tip_33 : decode cX0_tip 33 = .ok (.invokevirtual 93, 3) := dk_182 0 93 (dk_at dksX0_tip_1 9 rfl rfl)
theorem dX0_tip_36 : decode cX0_tip 36 = .ok (.ireturn, 1) := dk_172 (dk_at dksX0_tip_1 12 rfl rfl)
theorem dX0_tip_37 : decode cX0_tip 37 = .ok (.aload_n 0, 1) := dk_42 (dk_at dksX0_tip_1 13 rfl rfl)
theorem dX0_tip_38 : decode cX0_tip 38 = .ok (.getfield 26, 3) := dk_180 0 26 (dk_at dksX0_tip_1 14 rfl rfl)
theorem dX0_tip_41 : decode cX0_tip 41 = .ok (.getfield 153, 3) := dk_180 0 153 (dk_at dksX0_tip_1 17 rfl rfl)
theorem dX0_tip_44 : decode cX0_tip 44 = .ok (.iload_n 1, 1) := dk_27 (dk_at dksX0_tip_1 20 rfl rfl)
theorem dX0_tip_45 : decode cX0_tip 45 = .ok (.aaload, 1) := dk_50 (dk_at dksX0_tip_1 21 rfl rfl)
theorem dX0_tip_46 : decode cX0_tip 46 = .ok (.aload_n 0, 1) := dk_42 (dk_at dksX0_tip_1 22 rfl rfl)
theorem dX0_tip_47 : decode cX0_tip 47 = .ok (.getfield 26, 3) := dk_180 0 26 (dk_at dksX0_tip_2 0 rfl rfl)
theorem dX0_tip_50 : decode cX0_tip 50 = .ok (.getfield 150, 3) := dk_180 0 150 (dk_at dksX0_tip_2 3 rfl rfl)
theorem dX0_tip_53 : decode cX0_tip 53 = .ok (.putfield 195, 3) := dk_181 0 195 (dk_at dksX0_tip_2 6 rfl rfl)
theorem dX0_tip_56 : decode cX0_tip 56 = .ok (.aload_n 0, 1) := dk_42 (dk_at dksX0_tip_2 9 rfl rfl)
theorem dX0_tip_57 : decode cX0_tip 57 = .ok (.getfield 26, 3) := dk_180 0 26 (dk_at dksX0_tip_2 10 rfl rfl)
theorem dX0_tip_60 : decode cX0_tip 60 = .ok (.getfield 153, 3) := dk_180 0 153 (dk_at dksX0_tip_2 13 rfl rfl)
theorem dX0_tip_63 : decode cX0_tip 63 = .ok (.iload_n 1, 1) := dk_27 (dk_at dksX0_tip_2 16 rfl rfl)
theorem dX0_tip_64 : decode cX0_tip 64 = .ok (.aaload, 1) := dk_50 (dk_at dksX0_tip_2 17 rfl rfl)
theorem dX0_tip_65 : decode cX0_tip 65 = .ok (.iconst 1, 1) := dk_4 (dk_at dksX0_tip_2 18 rfl rfl)
theorem dX0_tip_66 : decode cX0_tip 66 = .ok (.putfield 198, 3) := dk_181 0 198 (dk_at dksX0_tip_2 19 rfl rfl)
theorem dX0_tip_69 : decode cX0_tip 69 = .ok (.aload_n 0, 1) := dk_42 (dk_at dksX0_tip_2 22 rfl rfl)
theorem dX0_tip_70 : decode cX0_tip 70 = .ok (.iconst 0, 1) := dk_3 (dk_at dksX0_tip_2 23 rfl rfl)
theorem dX0_tip_71 : decode cX0_tip 71 = .ok (.invokevirtual 106, 3) := dk_182 0 106 (dk_at dksX0_tip_3 0 rfl rfl)
theorem dX0_tip_74 : decode cX0_tip 74 = .ok (.ireturn, 1) := dk_172 (dk_at dksX0_tip_3 3 rfl rfl)
abbrev cX0_go : ByteArray := prog_1_method_23_code
def yX0_go : MethodName := ⟨RX0, "go", "(I)I"⟩
def dkwX0_go_2 : List UInt8 := [132, 2, 1, 167, 255, 241, 42, 42, 180, 0, 26, 180, 0, 150, 182, 0, 106, 172]
abbrev dktX0_go_2 : List UInt8 := dkwX0_go_2 ++ []
def dkwX0_go_1 : List UInt8 := [164, 0, 9, 42, 2, 182, 0, 93, 172, 3, 61, 28, 27, 162, 0, 16, 42, 180, 0, 26, 182, 0, 202]
abbrev dktX0_go_1 : List UInt8 := dkwX0_go_1 ++ dktX0_go_2
def dkwX0_go_0 : List UInt8 := [27, 133, 10, 20, 0, 91, 184, 0, 5, 153, 0, 18, 42, 180, 0, 26, 180, 0, 150, 27, 96, 17, 1, 143]
abbrev dktX0_go_0 : List UInt8 := dkwX0_go_0 ++ dktX0_go_1
theorem dksX0_go_0 : cX0_go.data.toList.drop 0 = dktX0_go_0 := by decide +kernel
theorem dksX0_go_1 : cX0_go.data.toList.drop 24 = dktX0_go_1 := dk_seg dksX0_go_0 24 rfl rfl
theorem dksX0_go_2 : cX0_go.data.toList.drop 47 = dktX0_go_2 := dk_seg dksX0_go_1 23 rfl rfl
theorem dX0_go_0 : decode cX0_go 0 = .ok (.iload_n 1, 1) := dk_27 (dk_at dksX0_go_0 0 rfl rfl)
theorem dX0_go_1 : decode cX0_go 1 = .ok (.i2l, 1) := dk_133 (dk_at dksX0_go_0 1 rfl rfl)
theorem dX0_go_2 : decode cX0_go 2 = .ok (.lconst 1, 1) := dk_10 (dk_at dksX0_go_0 2 rfl rfl)
theorem dX0_go_3 : decode cX0_go 3 = .ok (.ldc2_w 91, 3) := dk_20 0 91 (dk_at dksX0_go_0 3 rfl rfl)
theorem dX0_go_6 : decode cX0_go 6 = .ok (.invokestatic 5, 3) := dk_184 0 5 (dk_at dksX0_go_0 6 rfl rfl)
theorem dX0_go_9 : decode cX0_go 9 = .ok (.ifCond .eq 18, 3) := dk_153 0 18 (dk_at dksX0_go_0 9 rfl rfl)
theorem dX0_go_12 : decode cX0_go 12 = .ok (.aload_n 0, 1) := dk_42 (dk_at dksX0_go_0 12 rfl rfl)
theorem dX0_go_13 : decode cX0_go 13 = .ok (.getfield 26, 3) := dk_180 0 26 (dk_at dksX0_go_0 13 rfl rfl)
theorem dX0_go_16 : decode cX0_go 16 = .ok (.getfield 150, 3) := dk_180 0 150 (dk_at dksX0_go_0 16 rfl rfl)
theorem dX0_go_19 : decode cX0_go 19 = .ok (.iload_n 1, 1) := dk_27 (dk_at dksX0_go_0 19 rfl rfl)
theorem dX0_go_20 : decode cX0_go 20 = .ok (.iadd, 1) := dk_96 (dk_at dksX0_go_0 20 rfl rfl)
theorem dX0_go_21 : decode cX0_go 21 = .ok (.sipush 399, 3) := dk_17 1 143 (dk_at dksX0_go_0 21 rfl rfl)
theorem dX0_go_24 : decode cX0_go 24 = .ok (.if_icmp .le 9, 3) := dk_164 0 9 (dk_at dksX0_go_1 0 rfl rfl)
theorem dX0_go_27 : decode cX0_go 27 = .ok (.aload_n 0, 1) := dk_42 (dk_at dksX0_go_1 3 rfl rfl)
theorem dX0_go_28 : decode cX0_go 28 = .ok (.iconst (-1), 1) := dk_2 (dk_at dksX0_go_1 4 rfl rfl)
theorem dX0_go_29 : decode cX0_go 29 = .ok (.invokevirtual 93, 3) := dk_182 0 93 (dk_at dksX0_go_1 5 rfl rfl)
theorem dX0_go_32 : decode cX0_go 32 = .ok (.ireturn, 1) := dk_172 (dk_at dksX0_go_1 8 rfl rfl)
theorem dX0_go_33 : decode cX0_go 33 = .ok (.iconst 0, 1) := dk_3 (dk_at dksX0_go_1 9 rfl rfl)
theorem dX0_go_34 : decode cX0_go 34 = .ok (.istore_n 2, 1) := dk_61 (dk_at dksX0_go_1 10 rfl rfl)
theorem dX0_go_35 : decode cX0_go 35 = .ok (.iload_n 2, 1) := dk_28 (dk_at dksX0_go_1 11 rfl rfl)
theorem dX0_go_36 : decode cX0_go 36 = .ok (.iload_n 1, 1) := dk_27 (dk_at dksX0_go_1 12 rfl rfl)
theorem dX0_go_37 : decode cX0_go 37 = .ok (.if_icmp .ge 16, 3) := dk_162 0 16 (dk_at dksX0_go_1 13 rfl rfl)
theorem dX0_go_40 : decode cX0_go 40 = .ok (.aload_n 0, 1) := dk_42 (dk_at dksX0_go_1 16 rfl rfl)
theorem dX0_go_41 : decode cX0_go 41 = .ok (.getfield 26, 3) := dk_180 0 26 (dk_at dksX0_go_1 17 rfl rfl)
theorem dX0_go_44 : decode cX0_go 44 = .ok (.invokevirtual 202, 3) := dk_182 0 202 (dk_at dksX0_go_1 20 rfl rfl)
theorem dX0_go_47 : decode cX0_go 47 = .ok (.iinc 2 1, 3) := dk_132 2 1 (dk_at dksX0_go_2 0 rfl rfl)
theorem dX0_go_50 : decode cX0_go 50 = .ok (.goto (-15), 3) := dk_167 255 241 (dk_at dksX0_go_2 3 rfl rfl)
theorem dX0_go_53 : decode cX0_go 53 = .ok (.aload_n 0, 1) := dk_42 (dk_at dksX0_go_2 6 rfl rfl)
theorem dX0_go_54 : decode cX0_go 54 = .ok (.aload_n 0, 1) := dk_42 (dk_at dksX0_go_2 7 rfl rfl)
theorem dX0_go_55 : decode cX0_go 55 = .ok (.getfield 26, 3) := dk_180 0 26 (dk_at dksX0_go_2 8 rfl rfl)
theorem dX0_go_58 : decode cX0_go 58 = .ok (.getfield 150, 3) := dk_180 0 150 (dk_at dksX0_go_2 11 rfl rfl)
theorem dX0_go_61 : decode cX0_go 61 = .ok (.invokevirtual 106, 3) := dk_182 0 106 (dk_at dksX0_go_2 14 rfl rfl)
theorem dX0_go_64 : decode cX0_go 64 = .ok (.ireturn, 1) := dk_172 (dk_at dksX0_go_2 17 rfl rfl)
abbrev cX0_tells : ByteArray := prog_1_method_24_code
def yX0_tells : MethodName := ⟨RX0, "tells", "(II)I"⟩
def dkwX0_tells_6 : List UInt8 := [180, 0, 41, 180, 0, 226, 28, 46, 172]
abbrev dktX0_tells_6 : List UInt8 := dkwX0_tells_6 ++ []
def dkwX0_tells_5 : List UInt8 := [180, 0, 217, 172, 45, 182, 0, 220, 153, 0, 7, 4, 167, 0, 4, 3, 172, 45, 180, 0, 223, 172, 42]
abbrev dktX0_tells_5 : List UInt8 := dkwX0_tells_5 ++ dktX0_tells_6
def dkwX0_tells_4 : List UInt8 := [45, 180, 0, 211, 153, 0, 7, 4, 167, 0, 4, 3, 172, 45, 180, 0, 214, 172, 45, 180, 0, 179, 172, 45]
abbrev dktX0_tells_4 : List UInt8 := dkwX0_tells_4 ++ dktX0_tells_5
def dkwX0_tells_3 : List UInt8 := [170, 0, 0, 0, 0, 84, 0, 0, 0, 9, 0, 0, 0, 14, 0, 0, 0, 38, 0, 0, 0, 51, 0, 0, 0, 56, 0, 0, 0, 61, 0, 0, 0, 66, 0, 0, 0, 79]
abbrev dktX0_tells_3 : List UInt8 := dkwX0_tells_3 ++ dktX0_tells_4
def dkwX0_tells_2 : List UInt8 := [182, 0, 207, 28]
abbrev dktX0_tells_2 : List UInt8 := dkwX0_tells_2 ++ dktX0_tells_3
def dkwX0_tells_1 : List UInt8 := [42, 180, 0, 26, 180, 0, 153, 27, 50, 78, 45, 42, 180, 0, 41, 42, 180, 0, 26, 180, 0, 150]
abbrev dktX0_tells_1 : List UInt8 := dkwX0_tells_1 ++ dktX0_tells_2
def dkwX0_tells_0 : List UInt8 := [42, 27, 182, 0, 170, 153, 0, 15, 28, 133, 9, 20, 0, 205, 184, 0, 5, 154, 0, 7, 17, 252, 24, 172]
abbrev dktX0_tells_0 : List UInt8 := dkwX0_tells_0 ++ dktX0_tells_1
theorem dksX0_tells_0 : cX0_tells.data.toList.drop 0 = dktX0_tells_0 := by decide +kernel
theorem dksX0_tells_1 : cX0_tells.data.toList.drop 24 = dktX0_tells_1 := dk_seg dksX0_tells_0 24 rfl rfl
theorem dksX0_tells_2 : cX0_tells.data.toList.drop 46 = dktX0_tells_2 := dk_seg dksX0_tells_1 22 rfl rfl
theorem dksX0_tells_3 : cX0_tells.data.toList.drop 50 = dktX0_tells_3 := dk_seg dksX0_tells_2 4 rfl rfl
theorem dksX0_tells_4 : cX0_tells.data.toList.drop 88 = dktX0_tells_4 := dk_seg dksX0_tells_3 38 rfl rfl
theorem dksX0_tells_5 : cX0_tells.data.toList.drop 112 = dktX0_tells_5 := dk_seg dksX0_tells_4 24 rfl rfl
theorem dksX0_tells_6 : cX0_tells.data.toList.drop 135 = dktX0_tells_6 := dk_seg dksX0_tells_5 23 rfl rfl
theorem dX0_tells_0 : decode cX0_tells 0 = .ok (.aload_n 0, 1) := dk_42 (dk_at dksX0_tells_0 0 rfl rfl)
theorem dX0_tells_1 : decode cX0_tells 1 = .ok (.iload_n 1, 1) := dk_27 (dk_at dksX0_tells_0 1 rfl rfl)
theorem dX0_tells_2 : decode cX0_tells 2 = .ok (.invokevirtual 170, 3) := dk_182 0 170 (dk_at dksX0_tells_0 2 rfl rfl)
theorem dX0_tells_5 : decode cX0_tells 5 = .ok (.ifCond .eq 15, 3) := dk_153 0 15 (dk_at dksX0_tells_0 5 rfl rfl)
theorem dX0_tells_8 : decode cX0_tells 8 = .ok (.iload_n 2, 1) := dk_28 (dk_at dksX0_tells_0 8 rfl rfl)
theorem dX0_tells_9 : decode cX0_tells 9 = .ok (.i2l, 1) := dk_133 (dk_at dksX0_tells_0 9 rfl rfl)
theorem dX0_tells_10 : decode cX0_tells 10 = .ok (.lconst 0, 1) := dk_9 (dk_at dksX0_tells_0 10 rfl rfl)
theorem dX0_tells_11 : decode cX0_tells 11 = .ok (.ldc2_w 205, 3) := dk_20 0 205 (dk_at dksX0_tells_0 11 rfl rfl)
theorem dX0_tells_14 : decode cX0_tells 14 = .ok (.invokestatic 5, 3) := dk_184 0 5 (dk_at dksX0_tells_0 14 rfl rfl)
theorem dX0_tells_17 : decode cX0_tells 17 = .ok (.ifCond .ne 7, 3) := dk_154 0 7 (dk_at dksX0_tells_0 17 rfl rfl)
theorem dX0_tells_20 : decode cX0_tells 20 = .ok (.sipush (-1000), 3) := dk_17 252 24 (dk_at dksX0_tells_0 20 rfl rfl)
theorem dX0_tells_23 : decode cX0_tells 23 = .ok (.ireturn, 1) := dk_172 (dk_at dksX0_tells_0 23 rfl rfl)
theorem dX0_tells_24 : decode cX0_tells 24 = .ok (.aload_n 0, 1) := dk_42 (dk_at dksX0_tells_1 0 rfl rfl)
theorem dX0_tells_25 : decode cX0_tells 25 = .ok (.getfield 26, 3) := dk_180 0 26 (dk_at dksX0_tells_1 1 rfl rfl)
theorem dX0_tells_28 : decode cX0_tells 28 = .ok (.getfield 153, 3) := dk_180 0 153 (dk_at dksX0_tells_1 4 rfl rfl)
theorem dX0_tells_31 : decode cX0_tells 31 = .ok (.iload_n 1, 1) := dk_27 (dk_at dksX0_tells_1 7 rfl rfl)
theorem dX0_tells_32 : decode cX0_tells 32 = .ok (.aaload, 1) := dk_50 (dk_at dksX0_tells_1 8 rfl rfl)
theorem dX0_tells_33 : decode cX0_tells 33 = .ok (.astore_n 3, 1) := dk_78 (dk_at dksX0_tells_1 9 rfl rfl)
theorem dX0_tells_34 : decode cX0_tells 34 = .ok (.aload_n 3, 1) := dk_45 (dk_at dksX0_tells_1 10 rfl rfl)
theorem dX0_tells_35 : decode cX0_tells 35 = .ok (.aload_n 0, 1) := dk_42 (dk_at dksX0_tells_1 11 rfl rfl)
theorem dX0_tells_36 : decode cX0_tells 36 = .ok (.getfield 41, 3) := dk_180 0 41 (dk_at dksX0_tells_1 12 rfl rfl)
theorem dX0_tells_39 : decode cX0_tells 39 = .ok (.aload_n 0, 1) := dk_42 (dk_at dksX0_tells_1 15 rfl rfl)
theorem dX0_tells_40 : decode cX0_tells 40 = .ok (.getfield 26, 3) := dk_180 0 26 (dk_at dksX0_tells_1 16 rfl rfl)
theorem dX0_tells_43 : decode cX0_tells 43 = .ok (.getfield 150, 3) := dk_180 0 150 (dk_at dksX0_tells_1 19 rfl rfl)
theorem dX0_tells_46 : decode cX0_tells 46 = .ok (.invokevirtual 207, 3) := dk_182 0 207 (dk_at dksX0_tells_2 0 rfl rfl)
theorem dX0_tells_49 : decode cX0_tells 49 = .ok (.iload_n 2, 1) := dk_28 (dk_at dksX0_tells_2 3 rfl rfl)
theorem dX0_tells_50 : decode cX0_tells 50 = .ok (.tableswitch 84 9 14 #[38, 51, 56, 61, 66, 79], 38) := by decide +kernel
theorem dX0_tells_88 : decode cX0_tells 88 = .ok (.aload_n 3, 1) := dk_45 (dk_at dksX0_tells_4 0 rfl rfl)
theorem dX0_tells_89 : decode cX0_tells 89 = .ok (.getfield 211, 3) := dk_180 0 211 (dk_at dksX0_tells_4 1 rfl rfl)
theorem dX0_tells_92 : decode cX0_tells 92 = .ok (.ifCond .eq 7, 3) := dk_153 0 7 (dk_at dksX0_tells_4 4 rfl rfl)
theorem dX0_tells_95 : decode cX0_tells 95 = .ok (.iconst 1, 1) := dk_4 (dk_at dksX0_tells_4 7 rfl rfl)
theorem dX0_tells_96 : decode cX0_tells 96 = .ok (.goto 4, 3) := dk_167 0 4 (dk_at dksX0_tells_4 8 rfl rfl)
theorem dX0_tells_99 : decode cX0_tells 99 = .ok (.iconst 0, 1) := dk_3 (dk_at dksX0_tells_4 11 rfl rfl)
theorem dX0_tells_100 : decode cX0_tells 100 = .ok (.ireturn, 1) := dk_172 (dk_at dksX0_tells_4 12 rfl rfl)
theorem dX0_tells_101 : decode cX0_tells 101 = .ok (.aload_n 3, 1) := dk_45 (dk_at dksX0_tells_4 13 rfl rfl)
theorem dX0_tells_102 : decode cX0_tells 102 = .ok (.getfield 214, 3) := dk_180 0 214 (dk_at dksX0_tells_4 14 rfl rfl)
theorem dX0_tells_105 : decode cX0_tells 105 = .ok (.ireturn, 1) := dk_172 (dk_at dksX0_tells_4 17 rfl rfl)
theorem dX0_tells_106 : decode cX0_tells 106 = .ok (.aload_n 3, 1) := dk_45 (dk_at dksX0_tells_4 18 rfl rfl)
theorem dX0_tells_107 : decode cX0_tells 107 = .ok (.getfield 179, 3) := dk_180 0 179 (dk_at dksX0_tells_4 19 rfl rfl)
theorem dX0_tells_110 : decode cX0_tells 110 = .ok (.ireturn, 1) := dk_172 (dk_at dksX0_tells_4 22 rfl rfl)
theorem dX0_tells_111 : decode cX0_tells 111 = .ok (.aload_n 3, 1) := dk_45 (dk_at dksX0_tells_4 23 rfl rfl)
theorem dX0_tells_112 : decode cX0_tells 112 = .ok (.getfield 217, 3) := dk_180 0 217 (dk_at dksX0_tells_5 0 rfl rfl)
theorem dX0_tells_115 : decode cX0_tells 115 = .ok (.ireturn, 1) := dk_172 (dk_at dksX0_tells_5 3 rfl rfl)
theorem dX0_tells_116 : decode cX0_tells 116 = .ok (.aload_n 3, 1) := dk_45 (dk_at dksX0_tells_5 4 rfl rfl)
theorem dX0_tells_117 : decode cX0_tells 117 = .ok (.invokevirtual 220, 3) := dk_182 0 220 (dk_at dksX0_tells_5 5 rfl rfl)
theorem dX0_tells_120 : decode cX0_tells 120 = .ok (.ifCond .eq 7, 3) := dk_153 0 7 (dk_at dksX0_tells_5 8 rfl rfl)
theorem dX0_tells_123 : decode cX0_tells 123 = .ok (.iconst 1, 1) := dk_4 (dk_at dksX0_tells_5 11 rfl rfl)
theorem dX0_tells_124 : decode cX0_tells 124 = .ok (.goto 4, 3) := dk_167 0 4 (dk_at dksX0_tells_5 12 rfl rfl)
theorem dX0_tells_127 : decode cX0_tells 127 = .ok (.iconst 0, 1) := dk_3 (dk_at dksX0_tells_5 15 rfl rfl)
theorem dX0_tells_128 : decode cX0_tells 128 = .ok (.ireturn, 1) := dk_172 (dk_at dksX0_tells_5 16 rfl rfl)
theorem dX0_tells_129 : decode cX0_tells 129 = .ok (.aload_n 3, 1) := dk_45 (dk_at dksX0_tells_5 17 rfl rfl)
theorem dX0_tells_130 : decode cX0_tells 130 = .ok (.getfield 223, 3) := dk_180 0 223 (dk_at dksX0_tells_5 18 rfl rfl)
theorem dX0_tells_133 : decode cX0_tells 133 = .ok (.ireturn, 1) := dk_172 (dk_at dksX0_tells_5 21 rfl rfl)
theorem dX0_tells_134 : decode cX0_tells 134 = .ok (.aload_n 0, 1) := dk_42 (dk_at dksX0_tells_5 22 rfl rfl)
theorem dX0_tells_135 : decode cX0_tells 135 = .ok (.getfield 41, 3) := dk_180 0 41 (dk_at dksX0_tells_6 0 rfl rfl)
theorem dX0_tells_138 : decode cX0_tells 138 = .ok (.getfield 226, 3) := dk_180 0 226 (dk_at dksX0_tells_6 3 rfl rfl)
theorem dX0_tells_141 : decode cX0_tells 141 = .ok (.iload_n 2, 1) := dk_28 (dk_at dksX0_tells_6 6 rfl rfl)
theorem dX0_tells_142 : decode cX0_tells 142 = .ok (.iaload, 1) := dk_46 (dk_at dksX0_tells_6 7 rfl rfl)
theorem dX0_tells_143 : decode cX0_tells 143 = .ok (.ireturn, 1) := dk_172 (dk_at dksX0_tells_6 8 rfl rfl)
abbrev cX0_look : ByteArray := prog_1_method_27_code
def yX0_look : MethodName := ⟨RX0, "look", "(I)I"⟩
def dkwX0_look_3 : List UInt8 := [180, 0, 211, 182, 0, 246, 182, 0, 106, 172]
abbrev dktX0_look_3 : List UInt8 := dkwX0_look_3 ++ []
def dkwX0_look_2 : List UInt8 := [180, 0, 26, 180, 0, 150, 182, 0, 207, 42, 42, 42, 180, 0, 41, 42, 180, 0, 26, 180, 0, 153, 27, 50]
abbrev dktX0_look_2 : List UInt8 := dkwX0_look_2 ++ dktX0_look_3
def dkwX0_look_1 : List UInt8 := [160, 0, 10, 42, 16, 251, 182, 0, 93, 172, 42, 180, 0, 26, 180, 0, 153, 27, 50, 42, 180, 0, 41, 42]
abbrev dktX0_look_1 : List UInt8 := dkwX0_look_1 ++ dktX0_look_2
def dkwX0_look_0 : List UInt8 := [42, 27, 182, 0, 170, 154, 0, 10, 42, 16, 254, 182, 0, 93, 172, 42, 180, 0, 26, 180, 0, 83, 16, 40]
abbrev dktX0_look_0 : List UInt8 := dkwX0_look_0 ++ dktX0_look_1
theorem dksX0_look_0 : cX0_look.data.toList.drop 0 = dktX0_look_0 := by decide +kernel
theorem dksX0_look_1 : cX0_look.data.toList.drop 24 = dktX0_look_1 := dk_seg dksX0_look_0 24 rfl rfl
theorem dksX0_look_2 : cX0_look.data.toList.drop 48 = dktX0_look_2 := dk_seg dksX0_look_1 24 rfl rfl
theorem dksX0_look_3 : cX0_look.data.toList.drop 72 = dktX0_look_3 := dk_seg dksX0_look_2 24 rfl rfl
theorem dX0_look_0 : decode cX0_look 0 = .ok (.aload_n 0, 1) := dk_42 (dk_at dksX0_look_0 0 rfl rfl)
theorem dX0_look_1 : decode cX0_look 1 = .ok (.iload_n 1, 1) := dk_27 (dk_at dksX0_look_0 1 rfl rfl)
theorem dX0_look_2 : decode cX0_look 2 = .ok (.invokevirtual 170, 3) := dk_182 0 170 (dk_at dksX0_look_0 2 rfl rfl)
theorem dX0_look_5 : decode cX0_look 5 = .ok (.ifCond .ne 10, 3) := dk_154 0 10 (dk_at dksX0_look_0 5 rfl rfl)
theorem dX0_look_8 : decode cX0_look 8 = .ok (.aload_n 0, 1) := dk_42 (dk_at dksX0_look_0 8 rfl rfl)
theorem dX0_look_9 : decode cX0_look 9 = .ok (.bipush (-2), 2) := dk_16 254 (dk_at dksX0_look_0 9 rfl rfl)
theorem dX0_look_11 : decode cX0_look 11 = .ok (.invokevirtual 93, 3) := dk_182 0 93 (dk_at dksX0_look_0 11 rfl rfl)
theorem dX0_look_14 : decode cX0_look 14 = .ok (.ireturn, 1) := dk_172 (dk_at dksX0_look_0 14 rfl rfl)
theorem dX0_look_15 : decode cX0_look 15 = .ok (.aload_n 0, 1) := dk_42 (dk_at dksX0_look_0 15 rfl rfl)
theorem dX0_look_16 : decode cX0_look 16 = .ok (.getfield 26, 3) := dk_180 0 26 (dk_at dksX0_look_0 16 rfl rfl)
theorem dX0_look_19 : decode cX0_look 19 = .ok (.getfield 83, 3) := dk_180 0 83 (dk_at dksX0_look_0 19 rfl rfl)
theorem dX0_look_22 : decode cX0_look 22 = .ok (.bipush 40, 2) := dk_16 40 (dk_at dksX0_look_0 22 rfl rfl)
theorem dX0_look_24 : decode cX0_look 24 = .ok (.if_icmp .ne 10, 3) := dk_160 0 10 (dk_at dksX0_look_1 0 rfl rfl)
theorem dX0_look_27 : decode cX0_look 27 = .ok (.aload_n 0, 1) := dk_42 (dk_at dksX0_look_1 3 rfl rfl)
theorem dX0_look_28 : decode cX0_look 28 = .ok (.bipush (-5), 2) := dk_16 251 (dk_at dksX0_look_1 4 rfl rfl)
theorem dX0_look_30 : decode cX0_look 30 = .ok (.invokevirtual 93, 3) := dk_182 0 93 (dk_at dksX0_look_1 6 rfl rfl)
theorem dX0_look_33 : decode cX0_look 33 = .ok (.ireturn, 1) := dk_172 (dk_at dksX0_look_1 9 rfl rfl)
theorem dX0_look_34 : decode cX0_look 34 = .ok (.aload_n 0, 1) := dk_42 (dk_at dksX0_look_1 10 rfl rfl)
theorem dX0_look_35 : decode cX0_look 35 = .ok (.getfield 26, 3) := dk_180 0 26 (dk_at dksX0_look_1 11 rfl rfl)
theorem dX0_look_38 : decode cX0_look 38 = .ok (.getfield 153, 3) := dk_180 0 153 (dk_at dksX0_look_1 14 rfl rfl)
theorem dX0_look_41 : decode cX0_look 41 = .ok (.iload_n 1, 1) := dk_27 (dk_at dksX0_look_1 17 rfl rfl)
theorem dX0_look_42 : decode cX0_look 42 = .ok (.aaload, 1) := dk_50 (dk_at dksX0_look_1 18 rfl rfl)
theorem dX0_look_43 : decode cX0_look 43 = .ok (.aload_n 0, 1) := dk_42 (dk_at dksX0_look_1 19 rfl rfl)
theorem dX0_look_44 : decode cX0_look 44 = .ok (.getfield 41, 3) := dk_180 0 41 (dk_at dksX0_look_1 20 rfl rfl)
theorem dX0_look_47 : decode cX0_look 47 = .ok (.aload_n 0, 1) := dk_42 (dk_at dksX0_look_1 23 rfl rfl)
theorem dX0_look_48 : decode cX0_look 48 = .ok (.getfield 26, 3) := dk_180 0 26 (dk_at dksX0_look_2 0 rfl rfl)
theorem dX0_look_51 : decode cX0_look 51 = .ok (.getfield 150, 3) := dk_180 0 150 (dk_at dksX0_look_2 3 rfl rfl)
theorem dX0_look_54 : decode cX0_look 54 = .ok (.invokevirtual 207, 3) := dk_182 0 207 (dk_at dksX0_look_2 6 rfl rfl)
theorem dX0_look_57 : decode cX0_look 57 = .ok (.aload_n 0, 1) := dk_42 (dk_at dksX0_look_2 9 rfl rfl)
theorem dX0_look_58 : decode cX0_look 58 = .ok (.aload_n 0, 1) := dk_42 (dk_at dksX0_look_2 10 rfl rfl)
theorem dX0_look_59 : decode cX0_look 59 = .ok (.aload_n 0, 1) := dk_42 (dk_at dksX0_look_2 11 rfl rfl)
theorem dX0_look_60 : decode cX0_look 60 = .ok (.getfield 41, 3) := dk_180 0 41 (dk_at dksX0_look_2 12 rfl rfl)
theorem dX0_look_63 : decode cX0_look 63 = .ok (.aload_n 0, 1) := dk_42 (dk_at dksX0_look_2 15 rfl rfl)
theorem dX0_look_64 : decode cX0_look 64 = .ok (.getfield 26, 3) := dk_180 0 26 (dk_at dksX0_look_2 16 rfl rfl)
theorem dX0_look_67 : decode cX0_look 67 = .ok (.getfield 153, 3) := dk_180 0 153 (dk_at dksX0_look_2 19 rfl rfl)
theorem dX0_look_70 : decode cX0_look 70 = .ok (.iload_n 1, 1) := dk_27 (dk_at dksX0_look_2 22 rfl rfl)
theorem dX0_look_71 : decode cX0_look 71 = .ok (.aaload, 1) := dk_50 (dk_at dksX0_look_2 23 rfl rfl)
theorem dX0_look_72 : decode cX0_look 72 = .ok (.getfield 211, 3) := dk_180 0 211 (dk_at dksX0_look_3 0 rfl rfl)
theorem dX0_look_75 : decode cX0_look 75 = .ok (.invokevirtual 246, 3) := dk_182 0 246 (dk_at dksX0_look_3 3 rfl rfl)
theorem dX0_look_78 : decode cX0_look 78 = .ok (.invokevirtual 106, 3) := dk_182 0 106 (dk_at dksX0_look_3 6 rfl rfl)
theorem dX0_look_81 : decode cX0_look 81 = .ok (.ireturn, 1) := dk_172 (dk_at dksX0_look_3 9 rfl rfl)
abbrev cX0_addLook : ByteArray := prog_1_method_25_code
def yX0_addLook : MethodName := ⟨RX0, "addLook", "(LBrothFlasks$Case;Z)I"⟩
def dkwX0_addLook_2 : List UInt8 := [181, 0, 83, 42, 180, 0, 26, 180, 0, 83, 4, 100, 172]
abbrev dktX0_addLook_2 : List UInt8 := dkwX0_addLook_2 ++ []
def dkwX0_addLook_1 : List UInt8 := [180, 0, 237, 42, 180, 0, 26, 180, 0, 83, 45, 83, 42, 180, 0, 26, 89, 180, 0, 83, 4, 96]
abbrev dktX0_addLook_1 : List UInt8 := dkwX0_addLook_1 ++ dktX0_addLook_2
def dkwX0_addLook_0 : List UInt8 := [187, 0, 229, 89, 183, 0, 231, 78, 45, 43, 182, 0, 232, 45, 28, 181, 0, 236, 42, 180, 0, 26]
abbrev dktX0_addLook_0 : List UInt8 := dkwX0_addLook_0 ++ dktX0_addLook_1
theorem dksX0_addLook_0 : cX0_addLook.data.toList.drop 0 = dktX0_addLook_0 := by decide +kernel
theorem dksX0_addLook_1 : cX0_addLook.data.toList.drop 22 = dktX0_addLook_1 := dk_seg dksX0_addLook_0 22 rfl rfl
theorem dksX0_addLook_2 : cX0_addLook.data.toList.drop 44 = dktX0_addLook_2 := dk_seg dksX0_addLook_1 22 rfl rfl
theorem dX0_addLook_0 : decode cX0_addLook 0 = .ok (.new 229, 3) := dk_187 0 229 (dk_at dksX0_addLook_0 0 rfl rfl)
theorem dX0_addLook_3 : decode cX0_addLook 3 = .ok (.dup, 1) := dk_89 (dk_at dksX0_addLook_0 3 rfl rfl)
theorem dX0_addLook_4 : decode cX0_addLook 4 = .ok (.invokespecial 231, 3) := dk_183 0 231 (dk_at dksX0_addLook_0 4 rfl rfl)
theorem dX0_addLook_7 : decode cX0_addLook 7 = .ok (.astore_n 3, 1) := dk_78 (dk_at dksX0_addLook_0 7 rfl rfl)
theorem dX0_addLook_8 : decode cX0_addLook 8 = .ok (.aload_n 3, 1) := dk_45 (dk_at dksX0_addLook_0 8 rfl rfl)
theorem dX0_addLook_9 : decode cX0_addLook 9 = .ok (.aload_n 1, 1) := dk_43 (dk_at dksX0_addLook_0 9 rfl rfl)
theorem dX0_addLook_10 : decode cX0_addLook 10 = .ok (.invokevirtual 232, 3) := dk_182 0 232 (dk_at dksX0_addLook_0 10 rfl rfl)
theorem dX0_addLook_13 : decode cX0_addLook 13 = .ok (.aload_n 3, 1) := dk_45 (dk_at dksX0_addLook_0 13 rfl rfl)
theorem dX0_addLook_14 : decode cX0_addLook 14 = .ok (.iload_n 2, 1) := dk_28 (dk_at dksX0_addLook_0 14 rfl rfl)
theorem dX0_addLook_15 : decode cX0_addLook 15 = .ok (.putfield 236, 3) := dk_181 0 236 (dk_at dksX0_addLook_0 15 rfl rfl)
theorem dX0_addLook_18 : decode cX0_addLook 18 = .ok (.aload_n 0, 1) := dk_42 (dk_at dksX0_addLook_0 18 rfl rfl)
theorem dX0_addLook_19 : decode cX0_addLook 19 = .ok (.getfield 26, 3) := dk_180 0 26 (dk_at dksX0_addLook_0 19 rfl rfl)
theorem dX0_addLook_22 : decode cX0_addLook 22 = .ok (.getfield 237, 3) := dk_180 0 237 (dk_at dksX0_addLook_1 0 rfl rfl)
theorem dX0_addLook_25 : decode cX0_addLook 25 = .ok (.aload_n 0, 1) := dk_42 (dk_at dksX0_addLook_1 3 rfl rfl)
theorem dX0_addLook_26 : decode cX0_addLook 26 = .ok (.getfield 26, 3) := dk_180 0 26 (dk_at dksX0_addLook_1 4 rfl rfl)
theorem dX0_addLook_29 : decode cX0_addLook 29 = .ok (.getfield 83, 3) := dk_180 0 83 (dk_at dksX0_addLook_1 7 rfl rfl)
theorem dX0_addLook_32 : decode cX0_addLook 32 = .ok (.aload_n 3, 1) := dk_45 (dk_at dksX0_addLook_1 10 rfl rfl)
theorem dX0_addLook_33 : decode cX0_addLook 33 = .ok (.aastore, 1) := dk_83 (dk_at dksX0_addLook_1 11 rfl rfl)
theorem dX0_addLook_34 : decode cX0_addLook 34 = .ok (.aload_n 0, 1) := dk_42 (dk_at dksX0_addLook_1 12 rfl rfl)
theorem dX0_addLook_35 : decode cX0_addLook 35 = .ok (.getfield 26, 3) := dk_180 0 26 (dk_at dksX0_addLook_1 13 rfl rfl)
theorem dX0_addLook_38 : decode cX0_addLook 38 = .ok (.dup, 1) := dk_89 (dk_at dksX0_addLook_1 16 rfl rfl)
theorem dX0_addLook_39 : decode cX0_addLook 39 = .ok (.getfield 83, 3) := dk_180 0 83 (dk_at dksX0_addLook_1 17 rfl rfl)
theorem dX0_addLook_42 : decode cX0_addLook 42 = .ok (.iconst 1, 1) := dk_4 (dk_at dksX0_addLook_1 20 rfl rfl)
theorem dX0_addLook_43 : decode cX0_addLook 43 = .ok (.iadd, 1) := dk_96 (dk_at dksX0_addLook_1 21 rfl rfl)
theorem dX0_addLook_44 : decode cX0_addLook 44 = .ok (.putfield 83, 3) := dk_181 0 83 (dk_at dksX0_addLook_2 0 rfl rfl)
theorem dX0_addLook_47 : decode cX0_addLook 47 = .ok (.aload_n 0, 1) := dk_42 (dk_at dksX0_addLook_2 3 rfl rfl)
theorem dX0_addLook_48 : decode cX0_addLook 48 = .ok (.getfield 26, 3) := dk_180 0 26 (dk_at dksX0_addLook_2 4 rfl rfl)
theorem dX0_addLook_51 : decode cX0_addLook 51 = .ok (.getfield 83, 3) := dk_180 0 83 (dk_at dksX0_addLook_2 7 rfl rfl)
theorem dX0_addLook_54 : decode cX0_addLook 54 = .ok (.iconst 1, 1) := dk_4 (dk_at dksX0_addLook_2 10 rfl rfl)
theorem dX0_addLook_55 : decode cX0_addLook 55 = .ok (.isub, 1) := dk_100 (dk_at dksX0_addLook_2 11 rfl rfl)
theorem dX0_addLook_56 : decode cX0_addLook 56 = .ok (.ireturn, 1) := dk_172 (dk_at dksX0_addLook_2 12 rfl rfl)
abbrev cX0_trial : ByteArray := prog_1_method_28_code
def yX0_trial : MethodName := ⟨RX0, "trial", "(I)I"⟩
def dkwX0_trial_2 : List UInt8 := [180, 0, 26, 180, 0, 150, 182, 0, 207, 42, 42, 42, 180, 0, 41, 182, 0, 250, 182, 0, 106, 172]
abbrev dktX0_trial_2 : List UInt8 := dkwX0_trial_2 ++ []
def dkwX0_trial_1 : List UInt8 := [160, 0, 10, 42, 16, 251, 182, 0, 93, 172, 42, 180, 0, 26, 180, 0, 153, 27, 50, 42, 180, 0, 41, 42]
abbrev dktX0_trial_1 : List UInt8 := dkwX0_trial_1 ++ dktX0_trial_2
def dkwX0_trial_0 : List UInt8 := [42, 27, 182, 0, 170, 154, 0, 10, 42, 16, 254, 182, 0, 93, 172, 42, 180, 0, 26, 180, 0, 86, 16, 12]
abbrev dktX0_trial_0 : List UInt8 := dkwX0_trial_0 ++ dktX0_trial_1
theorem dksX0_trial_0 : cX0_trial.data.toList.drop 0 = dktX0_trial_0 := by decide +kernel
theorem dksX0_trial_1 : cX0_trial.data.toList.drop 24 = dktX0_trial_1 := dk_seg dksX0_trial_0 24 rfl rfl
theorem dksX0_trial_2 : cX0_trial.data.toList.drop 48 = dktX0_trial_2 := dk_seg dksX0_trial_1 24 rfl rfl
theorem dX0_trial_0 : decode cX0_trial 0 = .ok (.aload_n 0, 1) := dk_42 (dk_at dksX0_trial_0 0 rfl rfl)
theorem dX0_trial_1 : decode cX0_trial 1 = .ok (.iload_n 1, 1) := dk_27 (dk_at dksX0_trial_0 1 rfl rfl)
theorem dX0_trial_2 : decode cX0_trial 2 = .ok (.invokevirtual 170, 3) := dk_182 0 170 (dk_at dksX0_trial_0 2 rfl rfl)
theorem dX0_trial_5 : decode cX0_trial 5 = .ok (.ifCond .ne 10, 3) := dk_154 0 10 (dk_at dksX0_trial_0 5 rfl rfl)
theorem dX0_trial_8 : decode cX0_trial 8 = .ok (.aload_n 0, 1) := dk_42 (dk_at dksX0_trial_0 8 rfl rfl)
theorem dX0_trial_9 : decode cX0_trial 9 = .ok (.bipush (-2), 2) := dk_16 254 (dk_at dksX0_trial_0 9 rfl rfl)
theorem dX0_trial_11 : decode cX0_trial 11 = .ok (.invokevirtual 93, 3) := dk_182 0 93 (dk_at dksX0_trial_0 11 rfl rfl)
theorem dX0_trial_14 : decode cX0_trial 14 = .ok (.ireturn, 1) := dk_172 (dk_at dksX0_trial_0 14 rfl rfl)
theorem dX0_trial_15 : decode cX0_trial 15 = .ok (.aload_n 0, 1) := dk_42 (dk_at dksX0_trial_0 15 rfl rfl)
theorem dX0_trial_16 : decode cX0_trial 16 = .ok (.getfield 26, 3) := dk_180 0 26 (dk_at dksX0_trial_0 16 rfl rfl)
theorem dX0_trial_19 : decode cX0_trial 19 = .ok (.getfield 86, 3) := dk_180 0 86 (dk_at dksX0_trial_0 19 rfl rfl)
theorem dX0_trial_22 : decode cX0_trial 22 = .ok (.bipush 12, 2) := dk_16 12 (dk_at dksX0_trial_0 22 rfl rfl)
theorem dX0_trial_24 : decode cX0_trial 24 = .ok (.if_icmp .ne 10, 3) := dk_160 0 10 (dk_at dksX0_trial_1 0 rfl rfl)
theorem dX0_trial_27 : decode cX0_trial 27 = .ok (.aload_n 0, 1) := dk_42 (dk_at dksX0_trial_1 3 rfl rfl)
theorem dX0_trial_28 : decode cX0_trial 28 = .ok (.bipush (-5), 2) := dk_16 251 (dk_at dksX0_trial_1 4 rfl rfl)
theorem dX0_trial_30 : decode cX0_trial 30 = .ok (.invokevirtual 93, 3) := dk_182 0 93 (dk_at dksX0_trial_1 6 rfl rfl)
theorem dX0_trial_33 : decode cX0_trial 33 = .ok (.ireturn, 1) := dk_172 (dk_at dksX0_trial_1 9 rfl rfl)
theorem dX0_trial_34 : decode cX0_trial 34 = .ok (.aload_n 0, 1) := dk_42 (dk_at dksX0_trial_1 10 rfl rfl)
theorem dX0_trial_35 : decode cX0_trial 35 = .ok (.getfield 26, 3) := dk_180 0 26 (dk_at dksX0_trial_1 11 rfl rfl)
theorem dX0_trial_38 : decode cX0_trial 38 = .ok (.getfield 153, 3) := dk_180 0 153 (dk_at dksX0_trial_1 14 rfl rfl)
theorem dX0_trial_41 : decode cX0_trial 41 = .ok (.iload_n 1, 1) := dk_27 (dk_at dksX0_trial_1 17 rfl rfl)
theorem dX0_trial_42 : decode cX0_trial 42 = .ok (.aaload, 1) := dk_50 (dk_at dksX0_trial_1 18 rfl rfl)
theorem dX0_trial_43 : decode cX0_trial 43 = .ok (.aload_n 0, 1) := dk_42 (dk_at dksX0_trial_1 19 rfl rfl)
theorem dX0_trial_44 : decode cX0_trial 44 = .ok (.getfield 41, 3) := dk_180 0 41 (dk_at dksX0_trial_1 20 rfl rfl)
theorem dX0_trial_47 : decode cX0_trial 47 = .ok (.aload_n 0, 1) := dk_42 (dk_at dksX0_trial_1 23 rfl rfl)
theorem dX0_trial_48 : decode cX0_trial 48 = .ok (.getfield 26, 3) := dk_180 0 26 (dk_at dksX0_trial_2 0 rfl rfl)
theorem dX0_trial_51 : decode cX0_trial 51 = .ok (.getfield 150, 3) := dk_180 0 150 (dk_at dksX0_trial_2 3 rfl rfl)
theorem dX0_trial_54 : decode cX0_trial 54 = .ok (.invokevirtual 207, 3) := dk_182 0 207 (dk_at dksX0_trial_2 6 rfl rfl)
theorem dX0_trial_57 : decode cX0_trial 57 = .ok (.aload_n 0, 1) := dk_42 (dk_at dksX0_trial_2 9 rfl rfl)
theorem dX0_trial_58 : decode cX0_trial 58 = .ok (.aload_n 0, 1) := dk_42 (dk_at dksX0_trial_2 10 rfl rfl)
theorem dX0_trial_59 : decode cX0_trial 59 = .ok (.aload_n 0, 1) := dk_42 (dk_at dksX0_trial_2 11 rfl rfl)
theorem dX0_trial_60 : decode cX0_trial 60 = .ok (.getfield 41, 3) := dk_180 0 41 (dk_at dksX0_trial_2 12 rfl rfl)
theorem dX0_trial_63 : decode cX0_trial 63 = .ok (.invokevirtual 250, 3) := dk_182 0 250 (dk_at dksX0_trial_2 15 rfl rfl)
theorem dX0_trial_66 : decode cX0_trial 66 = .ok (.invokevirtual 106, 3) := dk_182 0 106 (dk_at dksX0_trial_2 18 rfl rfl)
theorem dX0_trial_69 : decode cX0_trial 69 = .ok (.ireturn, 1) := dk_172 (dk_at dksX0_trial_2 21 rfl rfl)
abbrev cX0_addTrial : ByteArray := prog_1_method_26_code
def yX0_addTrial : MethodName := ⟨RX0, "addTrial", "(LBrothFlasks$Case;)I"⟩
def dkwX0_addTrial_2 : List UInt8 := [180, 0, 86, 4, 100, 172]
abbrev dktX0_addTrial_2 : List UInt8 := dkwX0_addTrial_2 ++ []
def dkwX0_addTrial_1 : List UInt8 := [180, 0, 86, 44, 83, 42, 180, 0, 26, 89, 180, 0, 86, 4, 96, 181, 0, 86, 42, 180, 0, 26]
abbrev dktX0_addTrial_1 : List UInt8 := dkwX0_addTrial_1 ++ dktX0_addTrial_2
def dkwX0_addTrial_0 : List UInt8 := [187, 0, 38, 89, 183, 0, 40, 77, 44, 43, 182, 0, 241, 42, 180, 0, 26, 180, 0, 242, 42, 180, 0, 26]
abbrev dktX0_addTrial_0 : List UInt8 := dkwX0_addTrial_0 ++ dktX0_addTrial_1
theorem dksX0_addTrial_0 : cX0_addTrial.data.toList.drop 0 = dktX0_addTrial_0 := by decide +kernel
theorem dksX0_addTrial_1 : cX0_addTrial.data.toList.drop 24 = dktX0_addTrial_1 := dk_seg dksX0_addTrial_0 24 rfl rfl
theorem dksX0_addTrial_2 : cX0_addTrial.data.toList.drop 46 = dktX0_addTrial_2 := dk_seg dksX0_addTrial_1 22 rfl rfl
theorem dX0_addTrial_0 : decode cX0_addTrial 0 = .ok (.new 38, 3) := dk_187 0 38 (dk_at dksX0_addTrial_0 0 rfl rfl)
theorem dX0_addTrial_3 : decode cX0_addTrial 3 = .ok (.dup, 1) := dk_89 (dk_at dksX0_addTrial_0 3 rfl rfl)
theorem dX0_addTrial_4 : decode cX0_addTrial 4 = .ok (.invokespecial 40, 3) := dk_183 0 40 (dk_at dksX0_addTrial_0 4 rfl rfl)
theorem dX0_addTrial_7 : decode cX0_addTrial 7 = .ok (.astore_n 2, 1) := dk_77 (dk_at dksX0_addTrial_0 7 rfl rfl)
theorem dX0_addTrial_8 : decode cX0_addTrial 8 = .ok (.aload_n 2, 1) := dk_44 (dk_at dksX0_addTrial_0 8 rfl rfl)
theorem dX0_addTrial_9 : decode cX0_addTrial 9 = .ok (.aload_n 1, 1) := dk_43 (dk_at dksX0_addTrial_0 9 rfl rfl)
theorem dX0_addTrial_10 : decode cX0_addTrial 10 = .ok (.invokevirtual 241, 3) := dk_182 0 241 (dk_at dksX0_addTrial_0 10 rfl rfl)
theorem dX0_addTrial_13 : decode cX0_addTrial 13 = .ok (.aload_n 0, 1) := dk_42 (dk_at dksX0_addTrial_0 13 rfl rfl)
theorem dX0_addTrial_14 : decode cX0_addTrial 14 = .ok (.getfield 26, 3) := dk_180 0 26 (dk_at dksX0_addTrial_0 14 rfl rfl)
theorem dX0_addTrial_17 : decode cX0_addTrial 17 = .ok (.getfield 242, 3) := dk_180 0 242 (dk_at dksX0_addTrial_0 17 rfl rfl)
theorem dX0_addTrial_20 : decode cX0_addTrial 20 = .ok (.aload_n 0, 1) := dk_42 (dk_at dksX0_addTrial_0 20 rfl rfl)
theorem dX0_addTrial_21 : decode cX0_addTrial 21 = .ok (.getfield 26, 3) := dk_180 0 26 (dk_at dksX0_addTrial_0 21 rfl rfl)
theorem dX0_addTrial_24 : decode cX0_addTrial 24 = .ok (.getfield 86, 3) := dk_180 0 86 (dk_at dksX0_addTrial_1 0 rfl rfl)
theorem dX0_addTrial_27 : decode cX0_addTrial 27 = .ok (.aload_n 2, 1) := dk_44 (dk_at dksX0_addTrial_1 3 rfl rfl)
theorem dX0_addTrial_28 : decode cX0_addTrial 28 = .ok (.aastore, 1) := dk_83 (dk_at dksX0_addTrial_1 4 rfl rfl)
theorem dX0_addTrial_29 : decode cX0_addTrial 29 = .ok (.aload_n 0, 1) := dk_42 (dk_at dksX0_addTrial_1 5 rfl rfl)
theorem dX0_addTrial_30 : decode cX0_addTrial 30 = .ok (.getfield 26, 3) := dk_180 0 26 (dk_at dksX0_addTrial_1 6 rfl rfl)
theorem dX0_addTrial_33 : decode cX0_addTrial 33 = .ok (.dup, 1) := dk_89 (dk_at dksX0_addTrial_1 9 rfl rfl)
theorem dX0_addTrial_34 : decode cX0_addTrial 34 = .ok (.getfield 86, 3) := dk_180 0 86 (dk_at dksX0_addTrial_1 10 rfl rfl)
theorem dX0_addTrial_37 : decode cX0_addTrial 37 = .ok (.iconst 1, 1) := dk_4 (dk_at dksX0_addTrial_1 13 rfl rfl)
theorem dX0_addTrial_38 : decode cX0_addTrial 38 = .ok (.iadd, 1) := dk_96 (dk_at dksX0_addTrial_1 14 rfl rfl)
theorem dX0_addTrial_39 : decode cX0_addTrial 39 = .ok (.putfield 86, 3) := dk_181 0 86 (dk_at dksX0_addTrial_1 15 rfl rfl)
theorem dX0_addTrial_42 : decode cX0_addTrial 42 = .ok (.aload_n 0, 1) := dk_42 (dk_at dksX0_addTrial_1 18 rfl rfl)
theorem dX0_addTrial_43 : decode cX0_addTrial 43 = .ok (.getfield 26, 3) := dk_180 0 26 (dk_at dksX0_addTrial_1 19 rfl rfl)
theorem dX0_addTrial_46 : decode cX0_addTrial 46 = .ok (.getfield 86, 3) := dk_180 0 86 (dk_at dksX0_addTrial_2 0 rfl rfl)
theorem dX0_addTrial_49 : decode cX0_addTrial 49 = .ok (.iconst 1, 1) := dk_4 (dk_at dksX0_addTrial_2 3 rfl rfl)
theorem dX0_addTrial_50 : decode cX0_addTrial 50 = .ok (.isub, 1) := dk_100 (dk_at dksX0_addTrial_2 4 rfl rfl)
theorem dX0_addTrial_51 : decode cX0_addTrial 51 = .ok (.ireturn, 1) := dk_172 (dk_at dksX0_addTrial_2 5 rfl rfl)
abbrev cX0_row : ByteArray := prog_1_method_29_code
def yX0_row : MethodName := ⟨RX0, "row", "(I)I"⟩
def dkwX0_row_11 : List UInt8 := [167, 255, 53, 42, 29, 182, 0, 106, 172]
abbrev dktX0_row_11 : List UInt8 := dkwX0_row_11 ++ []
def dkwX0_row_10 : List UInt8 := [167, 0, 12, 42, 42, 180, 0, 41, 182, 0, 250, 87, 132, 3, 1, 21, 5, 21, 4, 96, 54, 5]
abbrev dktX0_row_10 : List UInt8 := dkwX0_row_10 ++ dktX0_row_11
def dkwX0_row_9 : List UInt8 := [180, 0, 45, 21, 5, 16, 9, 96, 51, 4, 160, 0, 7, 4, 167, 0, 4, 3, 182, 0, 246, 87]
abbrev dktX0_row_9 : List UInt8 := dkwX0_row_9 ++ dktX0_row_10
def dkwX0_row_8 : List UInt8 := [132, 7, 1, 167, 255, 192, 21, 6, 154, 0, 6, 167, 0, 50, 27, 154, 0, 34, 42, 42, 180, 0, 41, 42]
abbrev dktX0_row_8 : List UInt8 := dkwX0_row_8 ++ dktX0_row_9
def dkwX0_row_7 : List UInt8 := [42, 180, 0, 41, 180, 0, 226, 21, 7, 46, 184, 1, 1, 153, 0, 7, 4, 167, 0, 4, 3, 54, 6]
abbrev dktX0_row_7 : List UInt8 := dkwX0_row_7 ++ dktX0_row_8
def dkwX0_row_6 : List UInt8 := [21, 7, 42, 180, 0, 45, 21, 5, 21, 7, 96, 51, 17, 0, 255, 126, 79, 21, 6, 153, 0, 25, 21, 7]
abbrev dktX0_row_6 : List UInt8 := dkwX0_row_6 ++ dktX0_row_7
def dkwX0_row_5 : List UInt8 := [167, 0, 4, 3, 54, 6, 3, 54, 7, 21, 7, 16, 9, 162, 0, 63, 42, 180, 0, 41, 180, 0, 226]
abbrev dktX0_row_5 : List UInt8 := dkwX0_row_5 ++ dktX0_row_6
def dkwX0_row_4 : List UInt8 := [153, 0, 7, 4, 167, 0, 24, 3, 167, 0, 20, 42, 180, 0, 26, 180, 0, 86, 16, 12, 162, 0, 7, 4]
abbrev dktX0_row_4 : List UInt8 := dkwX0_row_4 ++ dktX0_row_5
def dkwX0_row_3 : List UInt8 := [180, 0, 83, 16, 40, 162, 0, 26, 42, 180, 0, 45, 21, 5, 16, 9, 96, 51, 133, 9, 10, 184, 0, 5]
abbrev dktX0_row_3 : List UInt8 := dkwX0_row_3 ++ dktX0_row_4
def dkwX0_row_2 : List UInt8 := [16, 9, 54, 4, 3, 54, 5, 21, 5, 21, 4, 96, 28, 163, 0, 200, 27, 154, 0, 42, 42, 180, 0, 26]
abbrev dktX0_row_2 : List UInt8 := dkwX0_row_2 ++ dktX0_row_3
def dkwX0_row_1 : List UInt8 := [182, 0, 93, 172, 28, 154, 0, 10, 42, 16, 250, 182, 0, 93, 172, 27, 154, 0, 8, 16, 10, 167, 0, 5]
abbrev dktX0_row_1 : List UInt8 := dkwX0_row_1 ++ dktX0_row_2
def dkwX0_row_0 : List UInt8 := [42, 180, 0, 254, 61, 3, 62, 42, 3, 181, 0, 254, 27, 133, 9, 10, 184, 0, 5, 154, 0, 9, 42, 2]
abbrev dktX0_row_0 : List UInt8 := dkwX0_row_0 ++ dktX0_row_1
theorem dksX0_row_0 : cX0_row.data.toList.drop 0 = dktX0_row_0 := by decide +kernel
theorem dksX0_row_1 : cX0_row.data.toList.drop 24 = dktX0_row_1 := dk_seg dksX0_row_0 24 rfl rfl
theorem dksX0_row_2 : cX0_row.data.toList.drop 48 = dktX0_row_2 := dk_seg dksX0_row_1 24 rfl rfl
theorem dksX0_row_3 : cX0_row.data.toList.drop 72 = dktX0_row_3 := dk_seg dksX0_row_2 24 rfl rfl
theorem dksX0_row_4 : cX0_row.data.toList.drop 96 = dktX0_row_4 := dk_seg dksX0_row_3 24 rfl rfl
theorem dksX0_row_5 : cX0_row.data.toList.drop 120 = dktX0_row_5 := dk_seg dksX0_row_4 24 rfl rfl
theorem dksX0_row_6 : cX0_row.data.toList.drop 143 = dktX0_row_6 := dk_seg dksX0_row_5 23 rfl rfl
theorem dksX0_row_7 : cX0_row.data.toList.drop 167 = dktX0_row_7 := dk_seg dksX0_row_6 24 rfl rfl
theorem dksX0_row_8 : cX0_row.data.toList.drop 190 = dktX0_row_8 := dk_seg dksX0_row_7 23 rfl rfl
theorem dksX0_row_9 : cX0_row.data.toList.drop 214 = dktX0_row_9 := dk_seg dksX0_row_8 24 rfl rfl
theorem dksX0_row_10 : cX0_row.data.toList.drop 236 = dktX0_row_10 := dk_seg dksX0_row_9 22 rfl rfl
theorem dksX0_row_11 : cX0_row.data.toList.drop 258 = dktX0_row_11 := dk_seg dksX0_row_10 22 rfl rfl
theorem dX0_row_0 : decode cX0_row 0 = .ok (.aload_n 0, 1) := dk_42 (dk_at dksX0_row_0 0 rfl rfl)
theorem dX0_row_1 : decode cX0_row 1 = .ok (.getfield 254, 3) := dk_180 0 254 (dk_at dksX0_row_0 1 rfl rfl)
theorem dX0_row_4 : decode cX0_row 4 = .ok (.istore_n 2, 1) := dk_61 (dk_at dksX0_row_0 4 rfl rfl)
theorem dX0_row_5 : decode cX0_row 5 = .ok (.iconst 0, 1) := dk_3 (dk_at dksX0_row_0 5 rfl rfl)
theorem dX0_row_6 : decode cX0_row 6 = .ok (.istore_n 3, 1) := dk_62 (dk_at dksX0_row_0 6 rfl rfl)
theorem dX0_row_7 : decode cX0_row 7 = .ok (.aload_n 0, 1) := dk_42 (dk_at dksX0_row_0 7 rfl rfl)
theorem dX0_row_8 : decode cX0_row 8 = .ok (.iconst 0, 1) := dk_3 (dk_at dksX0_row_0 8 rfl rfl)
theorem dX0_row_9 : decode cX0_row 9 = .ok (.putfield 254, 3) := dk_181 0 254 (dk_at dksX0_row_0 9 rfl rfl)
theorem dX0_row_12 : decode cX0_row 12 = .ok (.iload_n 1, 1) := dk_27 (dk_at dksX0_row_0 12 rfl rfl)
theorem dX0_row_13 : decode cX0_row 13 = .ok (.i2l, 1) := dk_133 (dk_at dksX0_row_0 13 rfl rfl)
theorem dX0_row_14 : decode cX0_row 14 = .ok (.lconst 0, 1) := dk_9 (dk_at dksX0_row_0 14 rfl rfl)
theorem dX0_row_15 : decode cX0_row 15 = .ok (.lconst 1, 1) := dk_10 (dk_at dksX0_row_0 15 rfl rfl)
theorem dX0_row_16 : decode cX0_row 16 = .ok (.invokestatic 5, 3) := dk_184 0 5 (dk_at dksX0_row_0 16 rfl rfl)
theorem dX0_row_19 : decode cX0_row 19 = .ok (.ifCond .ne 9, 3) := dk_154 0 9 (dk_at dksX0_row_0 19 rfl rfl)
theorem dX0_row_22 : decode cX0_row 22 = .ok (.aload_n 0, 1) := dk_42 (dk_at dksX0_row_0 22 rfl rfl)
theorem dX0_row_23 : decode cX0_row 23 = .ok (.iconst (-1), 1) := dk_2 (dk_at dksX0_row_0 23 rfl rfl)
theorem dX0_row_24 : decode cX0_row 24 = .ok (.invokevirtual 93, 3) := dk_182 0 93 (dk_at dksX0_row_1 0 rfl rfl)
theorem dX0_row_27 : decode cX0_row 27 = .ok (.ireturn, 1) := dk_172 (dk_at dksX0_row_1 3 rfl rfl)
theorem dX0_row_28 : decode cX0_row 28 = .ok (.iload_n 2, 1) := dk_28 (dk_at dksX0_row_1 4 rfl rfl)
theorem dX0_row_29 : decode cX0_row 29 = .ok (.ifCond .ne 10, 3) := dk_154 0 10 (dk_at dksX0_row_1 5 rfl rfl)
theorem dX0_row_32 : decode cX0_row 32 = .ok (.aload_n 0, 1) := dk_42 (dk_at dksX0_row_1 8 rfl rfl)
theorem dX0_row_33 : decode cX0_row 33 = .ok (.bipush (-6), 2) := dk_16 250 (dk_at dksX0_row_1 9 rfl rfl)
theorem dX0_row_35 : decode cX0_row 35 = .ok (.invokevirtual 93, 3) := dk_182 0 93 (dk_at dksX0_row_1 11 rfl rfl)
theorem dX0_row_38 : decode cX0_row 38 = .ok (.ireturn, 1) := dk_172 (dk_at dksX0_row_1 14 rfl rfl)
theorem dX0_row_39 : decode cX0_row 39 = .ok (.iload_n 1, 1) := dk_27 (dk_at dksX0_row_1 15 rfl rfl)
theorem dX0_row_40 : decode cX0_row 40 = .ok (.ifCond .ne 8, 3) := dk_154 0 8 (dk_at dksX0_row_1 16 rfl rfl)
theorem dX0_row_43 : decode cX0_row 43 = .ok (.bipush 10, 2) := dk_16 10 (dk_at dksX0_row_1 19 rfl rfl)
theorem dX0_row_45 : decode cX0_row 45 = .ok (.goto 5, 3) := dk_167 0 5 (dk_at dksX0_row_1 21 rfl rfl)
theorem dX0_row_48 : decode cX0_row 48 = .ok (.bipush 9, 2) := dk_16 9 (dk_at dksX0_row_2 0 rfl rfl)
theorem dX0_row_50 : decode cX0_row 50 = .ok (.istore 4, 2) := dk_54 4 (dk_at dksX0_row_2 2 rfl rfl)
theorem dX0_row_52 : decode cX0_row 52 = .ok (.iconst 0, 1) := dk_3 (dk_at dksX0_row_2 4 rfl rfl)
theorem dX0_row_53 : decode cX0_row 53 = .ok (.istore 5, 2) := dk_54 5 (dk_at dksX0_row_2 5 rfl rfl)
theorem dX0_row_55 : decode cX0_row 55 = .ok (.iload 5, 2) := dk_21 5 (dk_at dksX0_row_2 7 rfl rfl)
theorem dX0_row_57 : decode cX0_row 57 = .ok (.iload 4, 2) := dk_21 4 (dk_at dksX0_row_2 9 rfl rfl)
theorem dX0_row_59 : decode cX0_row 59 = .ok (.iadd, 1) := dk_96 (dk_at dksX0_row_2 11 rfl rfl)
theorem dX0_row_60 : decode cX0_row 60 = .ok (.iload_n 2, 1) := dk_28 (dk_at dksX0_row_2 12 rfl rfl)
theorem dX0_row_61 : decode cX0_row 61 = .ok (.if_icmp .gt 200, 3) := dk_163 0 200 (dk_at dksX0_row_2 13 rfl rfl)
theorem dX0_row_64 : decode cX0_row 64 = .ok (.iload_n 1, 1) := dk_27 (dk_at dksX0_row_2 16 rfl rfl)
theorem dX0_row_65 : decode cX0_row 65 = .ok (.ifCond .ne 42, 3) := dk_154 0 42 (dk_at dksX0_row_2 17 rfl rfl)
theorem dX0_row_68 : decode cX0_row 68 = .ok (.aload_n 0, 1) := dk_42 (dk_at dksX0_row_2 20 rfl rfl)
theorem dX0_row_69 : decode cX0_row 69 = .ok (.getfield 26, 3) := dk_180 0 26 (dk_at dksX0_row_2 21 rfl rfl)
theorem dX0_row_72 : decode cX0_row 72 = .ok (.getfield 83, 3) := dk_180 0 83 (dk_at dksX0_row_3 0 rfl rfl)
theorem dX0_row_75 : decode cX0_row 75 = .ok (.bipush 40, 2) := dk_16 40 (dk_at dksX0_row_3 3 rfl rfl)
theorem dX0_row_77 : decode cX0_row 77 = .ok (.if_icmp .ge 26, 3) := dk_162 0 26 (dk_at dksX0_row_3 5 rfl rfl)
theorem dX0_row_80 : decode cX0_row 80 = .ok (.aload_n 0, 1) := dk_42 (dk_at dksX0_row_3 8 rfl rfl)
theorem dX0_row_81 : decode cX0_row 81 = .ok (.getfield 45, 3) := dk_180 0 45 (dk_at dksX0_row_3 9 rfl rfl)
theorem dX0_row_84 : decode cX0_row 84 = .ok (.iload 5, 2) := dk_21 5 (dk_at dksX0_row_3 12 rfl rfl)
theorem dX0_row_86 : decode cX0_row 86 = .ok (.bipush 9, 2) := dk_16 9 (dk_at dksX0_row_3 14 rfl rfl)
theorem dX0_row_88 : decode cX0_row 88 = .ok (.iadd, 1) := dk_96 (dk_at dksX0_row_3 16 rfl rfl)
theorem dX0_row_89 : decode cX0_row 89 = .ok (.baload, 1) := dk_51 (dk_at dksX0_row_3 17 rfl rfl)
theorem dX0_row_90 : decode cX0_row 90 = .ok (.i2l, 1) := dk_133 (dk_at dksX0_row_3 18 rfl rfl)
theorem dX0_row_91 : decode cX0_row 91 = .ok (.lconst 0, 1) := dk_9 (dk_at dksX0_row_3 19 rfl rfl)
theorem dX0_row_92 : decode cX0_row 92 = .ok (.lconst 1, 1) := dk_10 (dk_at dksX0_row_3 20 rfl rfl)
theorem dX0_row_93 : decode cX0_row 93 = .ok (.invokestatic 5, 3) := dk_184 0 5 (dk_at dksX0_row_3 21 rfl rfl)
theorem dX0_row_96 : decode cX0_row 96 = .ok (.ifCond .eq 7, 3) := dk_153 0 7 (dk_at dksX0_row_4 0 rfl rfl)
theorem dX0_row_99 : decode cX0_row 99 = .ok (.iconst 1, 1) := dk_4 (dk_at dksX0_row_4 3 rfl rfl)
theorem dX0_row_100 : decode cX0_row 100 = .ok (.goto 24, 3) := dk_167 0 24 (dk_at dksX0_row_4 4 rfl rfl)
theorem dX0_row_103 : decode cX0_row 103 = .ok (.iconst 0, 1) := dk_3 (dk_at dksX0_row_4 7 rfl rfl)
theorem dX0_row_104 : decode cX0_row 104 = .ok (.goto 20, 3) := dk_167 0 20 (dk_at dksX0_row_4 8 rfl rfl)
theorem dX0_row_107 : decode cX0_row 107 = .ok (.aload_n 0, 1) := dk_42 (dk_at dksX0_row_4 11 rfl rfl)
theorem dX0_row_108 : decode cX0_row 108 = .ok (.getfield 26, 3) := dk_180 0 26 (dk_at dksX0_row_4 12 rfl rfl)
theorem dX0_row_111 : decode cX0_row 111 = .ok (.getfield 86, 3) := dk_180 0 86 (dk_at dksX0_row_4 15 rfl rfl)
theorem dX0_row_114 : decode cX0_row 114 = .ok (.bipush 12, 2) := dk_16 12 (dk_at dksX0_row_4 18 rfl rfl)
theorem dX0_row_116 : decode cX0_row 116 = .ok (.if_icmp .ge 7, 3) := dk_162 0 7 (dk_at dksX0_row_4 20 rfl rfl)
theorem dX0_row_119 : decode cX0_row 119 = .ok (.iconst 1, 1) := dk_4 (dk_at dksX0_row_4 23 rfl rfl)
theorem dX0_row_120 : decode cX0_row 120 = .ok (.goto 4, 3) := dk_167 0 4 (dk_at dksX0_row_5 0 rfl rfl)
theorem dX0_row_123 : decode cX0_row 123 = .ok (.iconst 0, 1) := dk_3 (dk_at dksX0_row_5 3 rfl rfl)
theorem dX0_row_124 : decode cX0_row 124 = .ok (.istore 6, 2) := dk_54 6 (dk_at dksX0_row_5 4 rfl rfl)
theorem dX0_row_126 : decode cX0_row 126 = .ok (.iconst 0, 1) := dk_3 (dk_at dksX0_row_5 6 rfl rfl)
theorem dX0_row_127 : decode cX0_row 127 = .ok (.istore 7, 2) := dk_54 7 (dk_at dksX0_row_5 7 rfl rfl)
theorem dX0_row_129 : decode cX0_row 129 = .ok (.iload 7, 2) := dk_21 7 (dk_at dksX0_row_5 9 rfl rfl)
theorem dX0_row_131 : decode cX0_row 131 = .ok (.bipush 9, 2) := dk_16 9 (dk_at dksX0_row_5 11 rfl rfl)
theorem dX0_row_133 : decode cX0_row 133 = .ok (.if_icmp .ge 63, 3) := dk_162 0 63 (dk_at dksX0_row_5 13 rfl rfl)
theorem dX0_row_136 : decode cX0_row 136 = .ok (.aload_n 0, 1) := dk_42 (dk_at dksX0_row_5 16 rfl rfl)
theorem dX0_row_137 : decode cX0_row 137 = .ok (.getfield 41, 3) := dk_180 0 41 (dk_at dksX0_row_5 17 rfl rfl)
theorem dX0_row_140 : decode cX0_row 140 = .ok (.getfield 226, 3) := dk_180 0 226 (dk_at dksX0_row_5 20 rfl rfl)
theorem dX0_row_143 : decode cX0_row 143 = .ok (.iload 7, 2) := dk_21 7 (dk_at dksX0_row_6 0 rfl rfl)
theorem dX0_row_145 : decode cX0_row 145 = .ok (.aload_n 0, 1) := dk_42 (dk_at dksX0_row_6 2 rfl rfl)
theorem dX0_row_146 : decode cX0_row 146 = .ok (.getfield 45, 3) := dk_180 0 45 (dk_at dksX0_row_6 3 rfl rfl)
theorem dX0_row_149 : decode cX0_row 149 = .ok (.iload 5, 2) := dk_21 5 (dk_at dksX0_row_6 6 rfl rfl)
theorem dX0_row_151 : decode cX0_row 151 = .ok (.iload 7, 2) := dk_21 7 (dk_at dksX0_row_6 8 rfl rfl)
theorem dX0_row_153 : decode cX0_row 153 = .ok (.iadd, 1) := dk_96 (dk_at dksX0_row_6 10 rfl rfl)
theorem dX0_row_154 : decode cX0_row 154 = .ok (.baload, 1) := dk_51 (dk_at dksX0_row_6 11 rfl rfl)
theorem dX0_row_155 : decode cX0_row 155 = .ok (.sipush 255, 3) := dk_17 0 255 (dk_at dksX0_row_6 12 rfl rfl)
theorem dX0_row_158 : decode cX0_row 158 = .ok (.iand, 1) := dk_126 (dk_at dksX0_row_6 15 rfl rfl)
theorem dX0_row_159 : decode cX0_row 159 = .ok (.iastore, 1) := dk_79 (dk_at dksX0_row_6 16 rfl rfl)
theorem dX0_row_160 : decode cX0_row 160 = .ok (.iload 6, 2) := dk_21 6 (dk_at dksX0_row_6 17 rfl rfl)
theorem dX0_row_162 : decode cX0_row 162 = .ok (.ifCond .eq 25, 3) := dk_153 0 25 (dk_at dksX0_row_6 19 rfl rfl)
theorem dX0_row_165 : decode cX0_row 165 = .ok (.iload 7, 2) := dk_21 7 (dk_at dksX0_row_6 22 rfl rfl)
theorem dX0_row_167 : decode cX0_row 167 = .ok (.aload_n 0, 1) := dk_42 (dk_at dksX0_row_7 0 rfl rfl)
theorem dX0_row_168 : decode cX0_row 168 = .ok (.getfield 41, 3) := dk_180 0 41 (dk_at dksX0_row_7 1 rfl rfl)
theorem dX0_row_171 : decode cX0_row 171 = .ok (.getfield 226, 3) := dk_180 0 226 (dk_at dksX0_row_7 4 rfl rfl)
theorem dX0_row_174 : decode cX0_row 174 = .ok (.iload 7, 2) := dk_21 7 (dk_at dksX0_row_7 7 rfl rfl)
theorem dX0_row_176 : decode cX0_row 176 = .ok (.iaload, 1) := dk_46 (dk_at dksX0_row_7 9 rfl rfl)
theorem dX0_row_177 : decode cX0_row 177 = .ok (.invokestatic 257, 3) := dk_184 1 1 (dk_at dksX0_row_7 10 rfl rfl)
theorem dX0_row_180 : decode cX0_row 180 = .ok (.ifCond .eq 7, 3) := dk_153 0 7 (dk_at dksX0_row_7 13 rfl rfl)
theorem dX0_row_183 : decode cX0_row 183 = .ok (.iconst 1, 1) := dk_4 (dk_at dksX0_row_7 16 rfl rfl)
theorem dX0_row_184 : decode cX0_row 184 = .ok (.goto 4, 3) := dk_167 0 4 (dk_at dksX0_row_7 17 rfl rfl)
theorem dX0_row_187 : decode cX0_row 187 = .ok (.iconst 0, 1) := dk_3 (dk_at dksX0_row_7 20 rfl rfl)
theorem dX0_row_188 : decode cX0_row 188 = .ok (.istore 6, 2) := dk_54 6 (dk_at dksX0_row_7 21 rfl rfl)
theorem dX0_row_190 : decode cX0_row 190 = .ok (.iinc 7 1, 3) := dk_132 7 1 (dk_at dksX0_row_8 0 rfl rfl)
theorem dX0_row_193 : decode cX0_row 193 = .ok (.goto (-64), 3) := dk_167 255 192 (dk_at dksX0_row_8 3 rfl rfl)
theorem dX0_row_196 : decode cX0_row 196 = .ok (.iload 6, 2) := dk_21 6 (dk_at dksX0_row_8 6 rfl rfl)
theorem dX0_row_198 : decode cX0_row 198 = .ok (.ifCond .ne 6, 3) := dk_154 0 6 (dk_at dksX0_row_8 8 rfl rfl)
theorem dX0_row_201 : decode cX0_row 201 = .ok (.goto 50, 3) := dk_167 0 50 (dk_at dksX0_row_8 11 rfl rfl)
theorem dX0_row_204 : decode cX0_row 204 = .ok (.iload_n 1, 1) := dk_27 (dk_at dksX0_row_8 14 rfl rfl)
theorem dX0_row_205 : decode cX0_row 205 = .ok (.ifCond .ne 34, 3) := dk_154 0 34 (dk_at dksX0_row_8 15 rfl rfl)
theorem dX0_row_208 : decode cX0_row 208 = .ok (.aload_n 0, 1) := dk_42 (dk_at dksX0_row_8 18 rfl rfl)
theorem dX0_row_209 : decode cX0_row 209 = .ok (.aload_n 0, 1) := dk_42 (dk_at dksX0_row_8 19 rfl rfl)
theorem dX0_row_210 : decode cX0_row 210 = .ok (.getfield 41, 3) := dk_180 0 41 (dk_at dksX0_row_8 20 rfl rfl)
theorem dX0_row_213 : decode cX0_row 213 = .ok (.aload_n 0, 1) := dk_42 (dk_at dksX0_row_8 23 rfl rfl)
theorem dX0_row_214 : decode cX0_row 214 = .ok (.getfield 45, 3) := dk_180 0 45 (dk_at dksX0_row_9 0 rfl rfl)
theorem dX0_row_217 : decode cX0_row 217 = .ok (.iload 5, 2) := dk_21 5 (dk_at dksX0_row_9 3 rfl rfl)
theorem dX0_row_219 : decode cX0_row 219 = .ok (.bipush 9, 2) := dk_16 9 (dk_at dksX0_row_9 5 rfl rfl)
theorem dX0_row_221 : decode cX0_row 221 = .ok (.iadd, 1) := dk_96 (dk_at dksX0_row_9 7 rfl rfl)
theorem dX0_row_222 : decode cX0_row 222 = .ok (.baload, 1) := dk_51 (dk_at dksX0_row_9 8 rfl rfl)
theorem dX0_row_223 : decode cX0_row 223 = .ok (.iconst 1, 1) := dk_4 (dk_at dksX0_row_9 9 rfl rfl)
theorem dX0_row_224 : decode cX0_row 224 = .ok (.if_icmp .ne 7, 3) := dk_160 0 7 (dk_at dksX0_row_9 10 rfl rfl)
theorem dX0_row_227 : decode cX0_row 227 = .ok (.iconst 1, 1) := dk_4 (dk_at dksX0_row_9 13 rfl rfl)
theorem dX0_row_228 : decode cX0_row 228 = .ok (.goto 4, 3) := dk_167 0 4 (dk_at dksX0_row_9 14 rfl rfl)
theorem dX0_row_231 : decode cX0_row 231 = .ok (.iconst 0, 1) := dk_3 (dk_at dksX0_row_9 17 rfl rfl)
theorem dX0_row_232 : decode cX0_row 232 = .ok (.invokevirtual 246, 3) := dk_182 0 246 (dk_at dksX0_row_9 18 rfl rfl)
theorem dX0_row_235 : decode cX0_row 235 = .ok (.pop, 1) := dk_87 (dk_at dksX0_row_9 21 rfl rfl)
theorem dX0_row_236 : decode cX0_row 236 = .ok (.goto 12, 3) := dk_167 0 12 (dk_at dksX0_row_10 0 rfl rfl)
theorem dX0_row_239 : decode cX0_row 239 = .ok (.aload_n 0, 1) := dk_42 (dk_at dksX0_row_10 3 rfl rfl)
theorem dX0_row_240 : decode cX0_row 240 = .ok (.aload_n 0, 1) := dk_42 (dk_at dksX0_row_10 4 rfl rfl)
theorem dX0_row_241 : decode cX0_row 241 = .ok (.getfield 41, 3) := dk_180 0 41 (dk_at dksX0_row_10 5 rfl rfl)
theorem dX0_row_244 : decode cX0_row 244 = .ok (.invokevirtual 250, 3) := dk_182 0 250 (dk_at dksX0_row_10 8 rfl rfl)
theorem dX0_row_247 : decode cX0_row 247 = .ok (.pop, 1) := dk_87 (dk_at dksX0_row_10 11 rfl rfl)
theorem dX0_row_248 : decode cX0_row 248 = .ok (.iinc 3 1, 3) := dk_132 3 1 (dk_at dksX0_row_10 12 rfl rfl)
theorem dX0_row_251 : decode cX0_row 251 = .ok (.iload 5, 2) := dk_21 5 (dk_at dksX0_row_10 15 rfl rfl)
theorem dX0_row_253 : decode cX0_row 253 = .ok (.iload 4, 2) := dk_21 4 (dk_at dksX0_row_10 17 rfl rfl)
theorem dX0_row_255 : decode cX0_row 255 = .ok (.iadd, 1) := dk_96 (dk_at dksX0_row_10 19 rfl rfl)
theorem dX0_row_256 : decode cX0_row 256 = .ok (.istore 5, 2) := dk_54 5 (dk_at dksX0_row_10 20 rfl rfl)
theorem dX0_row_258 : decode cX0_row 258 = .ok (.goto (-203), 3) := dk_167 255 53 (dk_at dksX0_row_11 0 rfl rfl)
theorem dX0_row_261 : decode cX0_row 261 = .ok (.aload_n 0, 1) := dk_42 (dk_at dksX0_row_11 3 rfl rfl)
theorem dX0_row_262 : decode cX0_row 262 = .ok (.iload_n 3, 1) := dk_29 (dk_at dksX0_row_11 4 rfl rfl)
theorem dX0_row_263 : decode cX0_row 263 = .ok (.invokevirtual 106, 3) := dk_182 0 106 (dk_at dksX0_row_11 5 rfl rfl)
theorem dX0_row_266 : decode cX0_row 266 = .ok (.ireturn, 1) := dk_172 (dk_at dksX0_row_11 8 rfl rfl)
abbrev cX0_isCaseNumber : ByteArray := prog_1_method_2_code
def yX0_isCaseNumber : MethodName := ⟨RX0, "isCaseNumber", "(II)Z"⟩
def dkwX0_isCaseNumber_4 : List UInt8 := [172, 27, 133, 9, 20, 0, 13, 184, 0, 5, 172, 27, 133, 9, 20, 0, 15, 184, 0, 5, 172]
abbrev dktX0_isCaseNumber_4 : List UInt8 := dkwX0_isCaseNumber_4 ++ []
def dkwX0_isCaseNumber_3 : List UInt8 := [20, 0, 9, 184, 0, 5, 172, 27, 133, 9, 20, 0, 11, 184, 0, 5, 172, 27, 133, 9, 10, 184, 0, 5]
abbrev dktX0_isCaseNumber_3 : List UInt8 := dkwX0_isCaseNumber_3 ++ dktX0_isCaseNumber_4
def dkwX0_isCaseNumber_2 : List UInt8 := [27, 133, 9, 20, 0, 3, 184, 0, 5, 172, 27, 133, 9, 20, 0, 3, 184, 0, 5, 172, 27, 133, 9]
abbrev dktX0_isCaseNumber_2 : List UInt8 := dkwX0_isCaseNumber_2 ++ dktX0_isCaseNumber_3
def dkwX0_isCaseNumber_1 : List UInt8 := [170, 0, 0, 0, 0, 0, 109, 0, 0, 0, 0, 0, 0, 0, 8, 0, 0, 0, 51, 0, 0, 0, 61, 0, 0, 0, 71, 0, 0, 0, 109, 0, 0, 0, 109, 0, 0, 0, 81, 0, 0, 0, 109, 0, 0, 0, 91, 0, 0, 0, 99]
abbrev dktX0_isCaseNumber_1 : List UInt8 := dkwX0_isCaseNumber_1 ++ dktX0_isCaseNumber_2
def dkwX0_isCaseNumber_0 : List UInt8 := [26]
abbrev dktX0_isCaseNumber_0 : List UInt8 := dkwX0_isCaseNumber_0 ++ dktX0_isCaseNumber_1
theorem dksX0_isCaseNumber_0 : cX0_isCaseNumber.data.toList.drop 0 = dktX0_isCaseNumber_0 := by decide +kernel
theorem dksX0_isCaseNumber_1 : cX0_isCaseNumber.data.toList.drop 1 = dktX0_isCaseNumber_1 := dk_seg dksX0_isCaseNumber_0 1 rfl rfl
theorem dksX0_isCaseNumber_2 : cX0_isCaseNumber.data.toList.drop 52 = dktX0_isCaseNumber_2 := dk_seg dksX0_isCaseNumber_1 51 rfl rfl
theorem dksX0_isCaseNumber_3 : cX0_isCaseNumber.data.toList.drop 75 = dktX0_isCaseNumber_3 := dk_seg dksX0_isCaseNumber_2 23 rfl rfl
theorem dksX0_isCaseNumber_4 : cX0_isCaseNumber.data.toList.drop 99 = dktX0_isCaseNumber_4 := dk_seg dksX0_isCaseNumber_3 24 rfl rfl
theorem dX0_isCaseNumber_0 : decode cX0_isCaseNumber 0 = .ok (.iload_n 0, 1) := dk_26 (dk_at dksX0_isCaseNumber_0 0 rfl rfl)
theorem dX0_isCaseNumber_1 : decode cX0_isCaseNumber 1 = .ok (.tableswitch 109 0 8 #[51, 61, 71, 109, 109, 81, 109, 91, 99], 51) := by decide +kernel
theorem dX0_isCaseNumber_52 : decode cX0_isCaseNumber 52 = .ok (.iload_n 1, 1) := dk_27 (dk_at dksX0_isCaseNumber_2 0 rfl rfl)
theorem dX0_isCaseNumber_53 : decode cX0_isCaseNumber 53 = .ok (.i2l, 1) := dk_133 (dk_at dksX0_isCaseNumber_2 1 rfl rfl)
theorem dX0_isCaseNumber_54 : decode cX0_isCaseNumber 54 = .ok (.lconst 0, 1) := dk_9 (dk_at dksX0_isCaseNumber_2 2 rfl rfl)
theorem dX0_isCaseNumber_55 : decode cX0_isCaseNumber 55 = .ok (.ldc2_w 3, 3) := dk_20 0 3 (dk_at dksX0_isCaseNumber_2 3 rfl rfl)
theorem dX0_isCaseNumber_58 : decode cX0_isCaseNumber 58 = .ok (.invokestatic 5, 3) := dk_184 0 5 (dk_at dksX0_isCaseNumber_2 6 rfl rfl)
theorem dX0_isCaseNumber_61 : decode cX0_isCaseNumber 61 = .ok (.ireturn, 1) := dk_172 (dk_at dksX0_isCaseNumber_2 9 rfl rfl)
theorem dX0_isCaseNumber_62 : decode cX0_isCaseNumber 62 = .ok (.iload_n 1, 1) := dk_27 (dk_at dksX0_isCaseNumber_2 10 rfl rfl)
theorem dX0_isCaseNumber_63 : decode cX0_isCaseNumber 63 = .ok (.i2l, 1) := dk_133 (dk_at dksX0_isCaseNumber_2 11 rfl rfl)
theorem dX0_isCaseNumber_64 : decode cX0_isCaseNumber 64 = .ok (.lconst 0, 1) := dk_9 (dk_at dksX0_isCaseNumber_2 12 rfl rfl)
theorem dX0_isCaseNumber_65 : decode cX0_isCaseNumber 65 = .ok (.ldc2_w 3, 3) := dk_20 0 3 (dk_at dksX0_isCaseNumber_2 13 rfl rfl)
theorem dX0_isCaseNumber_68 : decode cX0_isCaseNumber 68 = .ok (.invokestatic 5, 3) := dk_184 0 5 (dk_at dksX0_isCaseNumber_2 16 rfl rfl)
theorem dX0_isCaseNumber_71 : decode cX0_isCaseNumber 71 = .ok (.ireturn, 1) := dk_172 (dk_at dksX0_isCaseNumber_2 19 rfl rfl)
theorem dX0_isCaseNumber_72 : decode cX0_isCaseNumber 72 = .ok (.iload_n 1, 1) := dk_27 (dk_at dksX0_isCaseNumber_2 20 rfl rfl)
theorem dX0_isCaseNumber_73 : decode cX0_isCaseNumber 73 = .ok (.i2l, 1) := dk_133 (dk_at dksX0_isCaseNumber_2 21 rfl rfl)
theorem dX0_isCaseNumber_74 : decode cX0_isCaseNumber 74 = .ok (.lconst 0, 1) := dk_9 (dk_at dksX0_isCaseNumber_2 22 rfl rfl)
theorem dX0_isCaseNumber_75 : decode cX0_isCaseNumber 75 = .ok (.ldc2_w 9, 3) := dk_20 0 9 (dk_at dksX0_isCaseNumber_3 0 rfl rfl)
theorem dX0_isCaseNumber_78 : decode cX0_isCaseNumber 78 = .ok (.invokestatic 5, 3) := dk_184 0 5 (dk_at dksX0_isCaseNumber_3 3 rfl rfl)
theorem dX0_isCaseNumber_81 : decode cX0_isCaseNumber 81 = .ok (.ireturn, 1) := dk_172 (dk_at dksX0_isCaseNumber_3 6 rfl rfl)
theorem dX0_isCaseNumber_82 : decode cX0_isCaseNumber 82 = .ok (.iload_n 1, 1) := dk_27 (dk_at dksX0_isCaseNumber_3 7 rfl rfl)
theorem dX0_isCaseNumber_83 : decode cX0_isCaseNumber 83 = .ok (.i2l, 1) := dk_133 (dk_at dksX0_isCaseNumber_3 8 rfl rfl)
theorem dX0_isCaseNumber_84 : decode cX0_isCaseNumber 84 = .ok (.lconst 0, 1) := dk_9 (dk_at dksX0_isCaseNumber_3 9 rfl rfl)
theorem dX0_isCaseNumber_85 : decode cX0_isCaseNumber 85 = .ok (.ldc2_w 11, 3) := dk_20 0 11 (dk_at dksX0_isCaseNumber_3 10 rfl rfl)
theorem dX0_isCaseNumber_88 : decode cX0_isCaseNumber 88 = .ok (.invokestatic 5, 3) := dk_184 0 5 (dk_at dksX0_isCaseNumber_3 13 rfl rfl)
theorem dX0_isCaseNumber_91 : decode cX0_isCaseNumber 91 = .ok (.ireturn, 1) := dk_172 (dk_at dksX0_isCaseNumber_3 16 rfl rfl)
theorem dX0_isCaseNumber_92 : decode cX0_isCaseNumber 92 = .ok (.iload_n 1, 1) := dk_27 (dk_at dksX0_isCaseNumber_3 17 rfl rfl)
theorem dX0_isCaseNumber_93 : decode cX0_isCaseNumber 93 = .ok (.i2l, 1) := dk_133 (dk_at dksX0_isCaseNumber_3 18 rfl rfl)
theorem dX0_isCaseNumber_94 : decode cX0_isCaseNumber 94 = .ok (.lconst 0, 1) := dk_9 (dk_at dksX0_isCaseNumber_3 19 rfl rfl)
theorem dX0_isCaseNumber_95 : decode cX0_isCaseNumber 95 = .ok (.lconst 1, 1) := dk_10 (dk_at dksX0_isCaseNumber_3 20 rfl rfl)
theorem dX0_isCaseNumber_96 : decode cX0_isCaseNumber 96 = .ok (.invokestatic 5, 3) := dk_184 0 5 (dk_at dksX0_isCaseNumber_3 21 rfl rfl)
theorem dX0_isCaseNumber_99 : decode cX0_isCaseNumber 99 = .ok (.ireturn, 1) := dk_172 (dk_at dksX0_isCaseNumber_4 0 rfl rfl)
theorem dX0_isCaseNumber_100 : decode cX0_isCaseNumber 100 = .ok (.iload_n 1, 1) := dk_27 (dk_at dksX0_isCaseNumber_4 1 rfl rfl)
theorem dX0_isCaseNumber_101 : decode cX0_isCaseNumber 101 = .ok (.i2l, 1) := dk_133 (dk_at dksX0_isCaseNumber_4 2 rfl rfl)
theorem dX0_isCaseNumber_102 : decode cX0_isCaseNumber 102 = .ok (.lconst 0, 1) := dk_9 (dk_at dksX0_isCaseNumber_4 3 rfl rfl)
theorem dX0_isCaseNumber_103 : decode cX0_isCaseNumber 103 = .ok (.ldc2_w 13, 3) := dk_20 0 13 (dk_at dksX0_isCaseNumber_4 4 rfl rfl)
theorem dX0_isCaseNumber_106 : decode cX0_isCaseNumber 106 = .ok (.invokestatic 5, 3) := dk_184 0 5 (dk_at dksX0_isCaseNumber_4 7 rfl rfl)
theorem dX0_isCaseNumber_109 : decode cX0_isCaseNumber 109 = .ok (.ireturn, 1) := dk_172 (dk_at dksX0_isCaseNumber_4 10 rfl rfl)
theorem dX0_isCaseNumber_110 : decode cX0_isCaseNumber 110 = .ok (.iload_n 1, 1) := dk_27 (dk_at dksX0_isCaseNumber_4 11 rfl rfl)
theorem dX0_isCaseNumber_111 : decode cX0_isCaseNumber 111 = .ok (.i2l, 1) := dk_133 (dk_at dksX0_isCaseNumber_4 12 rfl rfl)
theorem dX0_isCaseNumber_112 : decode cX0_isCaseNumber 112 = .ok (.lconst 0, 1) := dk_9 (dk_at dksX0_isCaseNumber_4 13 rfl rfl)
theorem dX0_isCaseNumber_113 : decode cX0_isCaseNumber 113 = .ok (.ldc2_w 15, 3) := dk_20 0 15 (dk_at dksX0_isCaseNumber_4 14 rfl rfl)
theorem dX0_isCaseNumber_116 : decode cX0_isCaseNumber 116 = .ok (.invokestatic 5, 3) := dk_184 0 5 (dk_at dksX0_isCaseNumber_4 17 rfl rfl)
theorem dX0_isCaseNumber_119 : decode cX0_isCaseNumber 119 = .ok (.ireturn, 1) := dk_172 (dk_at dksX0_isCaseNumber_4 20 rfl rfl)
abbrev cX0_of : ByteArray := prog_1_method_30_code
def yX0_of : MethodName := ⟨RX0, "of", "(III)I"⟩
def dkwX0_of_4 : List UInt8 := [180, 0, 26, 180, 0, 242, 28, 50, 180, 0, 226, 29, 46, 167, 0, 4, 2, 172]
abbrev dktX0_of_4 : List UInt8 := dkwX0_of_4 ++ []
def dkwX0_of_3 : List UInt8 := [160, 0, 40, 42, 28, 182, 1, 11, 153, 0, 32, 29, 133, 9, 20, 1, 14, 184, 0, 5, 153, 0, 20, 42]
abbrev dktX0_of_3 : List UInt8 := dkwX0_of_3 ++ dktX0_of_4
def dkwX0_of_2 : List UInt8 := [180, 0, 26, 180, 0, 237, 28, 50, 180, 0, 236, 153, 0, 7, 4, 167, 0, 4, 3, 172, 27, 4]
abbrev dktX0_of_2 : List UInt8 := dkwX0_of_2 ++ dktX0_of_3
def dkwX0_of_1 : List UInt8 := [29, 16, 9, 162, 0, 20, 42, 180, 0, 26, 180, 0, 237, 28, 50, 180, 1, 10, 29, 46, 167, 0, 23, 42]
abbrev dktX0_of_1 : List UInt8 := dkwX0_of_1 ++ dktX0_of_2
def dkwX0_of_0 : List UInt8 := [27, 154, 0, 67, 42, 28, 182, 1, 5, 153, 0, 59, 29, 133, 9, 20, 1, 8, 184, 0, 5, 153, 0, 47]
abbrev dktX0_of_0 : List UInt8 := dkwX0_of_0 ++ dktX0_of_1
theorem dksX0_of_0 : cX0_of.data.toList.drop 0 = dktX0_of_0 := by decide +kernel
theorem dksX0_of_1 : cX0_of.data.toList.drop 24 = dktX0_of_1 := dk_seg dksX0_of_0 24 rfl rfl
theorem dksX0_of_2 : cX0_of.data.toList.drop 48 = dktX0_of_2 := dk_seg dksX0_of_1 24 rfl rfl
theorem dksX0_of_3 : cX0_of.data.toList.drop 70 = dktX0_of_3 := dk_seg dksX0_of_2 22 rfl rfl
theorem dksX0_of_4 : cX0_of.data.toList.drop 94 = dktX0_of_4 := dk_seg dksX0_of_3 24 rfl rfl
theorem dX0_of_0 : decode cX0_of 0 = .ok (.iload_n 1, 1) := dk_27 (dk_at dksX0_of_0 0 rfl rfl)
theorem dX0_of_1 : decode cX0_of 1 = .ok (.ifCond .ne 67, 3) := dk_154 0 67 (dk_at dksX0_of_0 1 rfl rfl)
theorem dX0_of_4 : decode cX0_of 4 = .ok (.aload_n 0, 1) := dk_42 (dk_at dksX0_of_0 4 rfl rfl)
theorem dX0_of_5 : decode cX0_of 5 = .ok (.iload_n 2, 1) := dk_28 (dk_at dksX0_of_0 5 rfl rfl)
theorem dX0_of_6 : decode cX0_of 6 = .ok (.invokevirtual 261, 3) := dk_182 1 5 (dk_at dksX0_of_0 6 rfl rfl)
theorem dX0_of_9 : decode cX0_of 9 = .ok (.ifCond .eq 59, 3) := dk_153 0 59 (dk_at dksX0_of_0 9 rfl rfl)
theorem dX0_of_12 : decode cX0_of 12 = .ok (.iload_n 3, 1) := dk_29 (dk_at dksX0_of_0 12 rfl rfl)
theorem dX0_of_13 : decode cX0_of 13 = .ok (.i2l, 1) := dk_133 (dk_at dksX0_of_0 13 rfl rfl)
theorem dX0_of_14 : decode cX0_of 14 = .ok (.lconst 0, 1) := dk_9 (dk_at dksX0_of_0 14 rfl rfl)
theorem dX0_of_15 : decode cX0_of 15 = .ok (.ldc2_w 264, 3) := dk_20 1 8 (dk_at dksX0_of_0 15 rfl rfl)
theorem dX0_of_18 : decode cX0_of 18 = .ok (.invokestatic 5, 3) := dk_184 0 5 (dk_at dksX0_of_0 18 rfl rfl)
theorem dX0_of_21 : decode cX0_of 21 = .ok (.ifCond .eq 47, 3) := dk_153 0 47 (dk_at dksX0_of_0 21 rfl rfl)
theorem dX0_of_24 : decode cX0_of 24 = .ok (.iload_n 3, 1) := dk_29 (dk_at dksX0_of_1 0 rfl rfl)
theorem dX0_of_25 : decode cX0_of 25 = .ok (.bipush 9, 2) := dk_16 9 (dk_at dksX0_of_1 1 rfl rfl)
theorem dX0_of_27 : decode cX0_of 27 = .ok (.if_icmp .ge 20, 3) := dk_162 0 20 (dk_at dksX0_of_1 3 rfl rfl)
theorem dX0_of_30 : decode cX0_of 30 = .ok (.aload_n 0, 1) := dk_42 (dk_at dksX0_of_1 6 rfl rfl)
theorem dX0_of_31 : decode cX0_of 31 = .ok (.getfield 26, 3) := dk_180 0 26 (dk_at dksX0_of_1 7 rfl rfl)
theorem dX0_of_34 : decode cX0_of 34 = .ok (.getfield 237, 3) := dk_180 0 237 (dk_at dksX0_of_1 10 rfl rfl)
theorem dX0_of_37 : decode cX0_of 37 = .ok (.iload_n 2, 1) := dk_28 (dk_at dksX0_of_1 13 rfl rfl)
theorem dX0_of_38 : decode cX0_of 38 = .ok (.aaload, 1) := dk_50 (dk_at dksX0_of_1 14 rfl rfl)
theorem dX0_of_39 : decode cX0_of 39 = .ok (.getfield 266, 3) := dk_180 1 10 (dk_at dksX0_of_1 15 rfl rfl)
theorem dX0_of_42 : decode cX0_of 42 = .ok (.iload_n 3, 1) := dk_29 (dk_at dksX0_of_1 18 rfl rfl)
theorem dX0_of_43 : decode cX0_of 43 = .ok (.iaload, 1) := dk_46 (dk_at dksX0_of_1 19 rfl rfl)
theorem dX0_of_44 : decode cX0_of 44 = .ok (.goto 23, 3) := dk_167 0 23 (dk_at dksX0_of_1 20 rfl rfl)
theorem dX0_of_47 : decode cX0_of 47 = .ok (.aload_n 0, 1) := dk_42 (dk_at dksX0_of_1 23 rfl rfl)
theorem dX0_of_48 : decode cX0_of 48 = .ok (.getfield 26, 3) := dk_180 0 26 (dk_at dksX0_of_2 0 rfl rfl)
theorem dX0_of_51 : decode cX0_of 51 = .ok (.getfield 237, 3) := dk_180 0 237 (dk_at dksX0_of_2 3 rfl rfl)
theorem dX0_of_54 : decode cX0_of 54 = .ok (.iload_n 2, 1) := dk_28 (dk_at dksX0_of_2 6 rfl rfl)
theorem dX0_of_55 : decode cX0_of 55 = .ok (.aaload, 1) := dk_50 (dk_at dksX0_of_2 7 rfl rfl)
theorem dX0_of_56 : decode cX0_of 56 = .ok (.getfield 236, 3) := dk_180 0 236 (dk_at dksX0_of_2 8 rfl rfl)
theorem dX0_of_59 : decode cX0_of 59 = .ok (.ifCond .eq 7, 3) := dk_153 0 7 (dk_at dksX0_of_2 11 rfl rfl)
theorem dX0_of_62 : decode cX0_of 62 = .ok (.iconst 1, 1) := dk_4 (dk_at dksX0_of_2 14 rfl rfl)
theorem dX0_of_63 : decode cX0_of 63 = .ok (.goto 4, 3) := dk_167 0 4 (dk_at dksX0_of_2 15 rfl rfl)
theorem dX0_of_66 : decode cX0_of 66 = .ok (.iconst 0, 1) := dk_3 (dk_at dksX0_of_2 18 rfl rfl)
theorem dX0_of_67 : decode cX0_of 67 = .ok (.ireturn, 1) := dk_172 (dk_at dksX0_of_2 19 rfl rfl)
theorem dX0_of_68 : decode cX0_of 68 = .ok (.iload_n 1, 1) := dk_27 (dk_at dksX0_of_2 20 rfl rfl)
theorem dX0_of_69 : decode cX0_of 69 = .ok (.iconst 1, 1) := dk_4 (dk_at dksX0_of_2 21 rfl rfl)
theorem dX0_of_70 : decode cX0_of 70 = .ok (.if_icmp .ne 40, 3) := dk_160 0 40 (dk_at dksX0_of_3 0 rfl rfl)
theorem dX0_of_73 : decode cX0_of 73 = .ok (.aload_n 0, 1) := dk_42 (dk_at dksX0_of_3 3 rfl rfl)
theorem dX0_of_74 : decode cX0_of 74 = .ok (.iload_n 2, 1) := dk_28 (dk_at dksX0_of_3 4 rfl rfl)
theorem dX0_of_75 : decode cX0_of 75 = .ok (.invokevirtual 267, 3) := dk_182 1 11 (dk_at dksX0_of_3 5 rfl rfl)
theorem dX0_of_78 : decode cX0_of 78 = .ok (.ifCond .eq 32, 3) := dk_153 0 32 (dk_at dksX0_of_3 8 rfl rfl)
theorem dX0_of_81 : decode cX0_of 81 = .ok (.iload_n 3, 1) := dk_29 (dk_at dksX0_of_3 11 rfl rfl)
theorem dX0_of_82 : decode cX0_of 82 = .ok (.i2l, 1) := dk_133 (dk_at dksX0_of_3 12 rfl rfl)
theorem dX0_of_83 : decode cX0_of 83 = .ok (.lconst 0, 1) := dk_9 (dk_at dksX0_of_3 13 rfl rfl)
theorem dX0_of_84 : decode cX0_of 84 = .ok (.ldc2_w 270, 3) := dk_20 1 14 (dk_at dksX0_of_3 14 rfl rfl)
theorem dX0_of_87 : decode cX0_of 87 = .ok (.invokestatic 5, 3) := dk_184 0 5 (dk_at dksX0_of_3 17 rfl rfl)
theorem dX0_of_90 : decode cX0_of 90 = .ok (.ifCond .eq 20, 3) := dk_153 0 20 (dk_at dksX0_of_3 20 rfl rfl)
theorem dX0_of_93 : decode cX0_of 93 = .ok (.aload_n 0, 1) := dk_42 (dk_at dksX0_of_3 23 rfl rfl)
theorem dX0_of_94 : decode cX0_of 94 = .ok (.getfield 26, 3) := dk_180 0 26 (dk_at dksX0_of_4 0 rfl rfl)
theorem dX0_of_97 : decode cX0_of 97 = .ok (.getfield 242, 3) := dk_180 0 242 (dk_at dksX0_of_4 3 rfl rfl)
theorem dX0_of_100 : decode cX0_of 100 = .ok (.iload_n 2, 1) := dk_28 (dk_at dksX0_of_4 6 rfl rfl)
theorem dX0_of_101 : decode cX0_of 101 = .ok (.aaload, 1) := dk_50 (dk_at dksX0_of_4 7 rfl rfl)
theorem dX0_of_102 : decode cX0_of 102 = .ok (.getfield 226, 3) := dk_180 0 226 (dk_at dksX0_of_4 8 rfl rfl)
theorem dX0_of_105 : decode cX0_of 105 = .ok (.iload_n 3, 1) := dk_29 (dk_at dksX0_of_4 11 rfl rfl)
theorem dX0_of_106 : decode cX0_of 106 = .ok (.iaload, 1) := dk_46 (dk_at dksX0_of_4 12 rfl rfl)
theorem dX0_of_107 : decode cX0_of 107 = .ok (.goto 4, 3) := dk_167 0 4 (dk_at dksX0_of_4 13 rfl rfl)
theorem dX0_of_110 : decode cX0_of 110 = .ok (.iconst (-1), 1) := dk_2 (dk_at dksX0_of_4 16 rfl rfl)
theorem dX0_of_111 : decode cX0_of 111 = .ok (.ireturn, 1) := dk_172 (dk_at dksX0_of_4 17 rfl rfl)
abbrev cX0_isLook : ByteArray := prog_1_method_9_code
def yX0_isLook : MethodName := ⟨RX0, "isLook", "(I)Z"⟩
def dkwX0_isLook_0 : List UInt8 := [27, 133, 9, 42, 180, 0, 26, 180, 0, 83, 4, 100, 133, 184, 0, 5, 172]
abbrev dktX0_isLook_0 : List UInt8 := dkwX0_isLook_0 ++ []
theorem dksX0_isLook_0 : cX0_isLook.data.toList.drop 0 = dktX0_isLook_0 := by decide +kernel
theorem dX0_isLook_0 : decode cX0_isLook 0 = .ok (.iload_n 1, 1) := dk_27 (dk_at dksX0_isLook_0 0 rfl rfl)
theorem dX0_isLook_1 : decode cX0_isLook 1 = .ok (.i2l, 1) := dk_133 (dk_at dksX0_isLook_0 1 rfl rfl)
theorem dX0_isLook_2 : decode cX0_isLook 2 = .ok (.lconst 0, 1) := dk_9 (dk_at dksX0_isLook_0 2 rfl rfl)
theorem dX0_isLook_3 : decode cX0_isLook 3 = .ok (.aload_n 0, 1) := dk_42 (dk_at dksX0_isLook_0 3 rfl rfl)
theorem dX0_isLook_4 : decode cX0_isLook 4 = .ok (.getfield 26, 3) := dk_180 0 26 (dk_at dksX0_isLook_0 4 rfl rfl)
theorem dX0_isLook_7 : decode cX0_isLook 7 = .ok (.getfield 83, 3) := dk_180 0 83 (dk_at dksX0_isLook_0 7 rfl rfl)
theorem dX0_isLook_10 : decode cX0_isLook 10 = .ok (.iconst 1, 1) := dk_4 (dk_at dksX0_isLook_0 10 rfl rfl)
theorem dX0_isLook_11 : decode cX0_isLook 11 = .ok (.isub, 1) := dk_100 (dk_at dksX0_isLook_0 11 rfl rfl)
theorem dX0_isLook_12 : decode cX0_isLook 12 = .ok (.i2l, 1) := dk_133 (dk_at dksX0_isLook_0 12 rfl rfl)
theorem dX0_isLook_13 : decode cX0_isLook 13 = .ok (.invokestatic 5, 3) := dk_184 0 5 (dk_at dksX0_isLook_0 13 rfl rfl)
theorem dX0_isLook_16 : decode cX0_isLook 16 = .ok (.ireturn, 1) := dk_172 (dk_at dksX0_isLook_0 16 rfl rfl)
abbrev cX0_isTrial : ByteArray := prog_1_method_10_code
def yX0_isTrial : MethodName := ⟨RX0, "isTrial", "(I)Z"⟩
def dkwX0_isTrial_0 : List UInt8 := [27, 133, 9, 42, 180, 0, 26, 180, 0, 86, 4, 100, 133, 184, 0, 5, 172]
abbrev dktX0_isTrial_0 : List UInt8 := dkwX0_isTrial_0 ++ []
theorem dksX0_isTrial_0 : cX0_isTrial.data.toList.drop 0 = dktX0_isTrial_0 := by decide +kernel
theorem dX0_isTrial_0 : decode cX0_isTrial 0 = .ok (.iload_n 1, 1) := dk_27 (dk_at dksX0_isTrial_0 0 rfl rfl)
theorem dX0_isTrial_1 : decode cX0_isTrial 1 = .ok (.i2l, 1) := dk_133 (dk_at dksX0_isTrial_0 1 rfl rfl)
theorem dX0_isTrial_2 : decode cX0_isTrial 2 = .ok (.lconst 0, 1) := dk_9 (dk_at dksX0_isTrial_0 2 rfl rfl)
theorem dX0_isTrial_3 : decode cX0_isTrial 3 = .ok (.aload_n 0, 1) := dk_42 (dk_at dksX0_isTrial_0 3 rfl rfl)
theorem dX0_isTrial_4 : decode cX0_isTrial 4 = .ok (.getfield 26, 3) := dk_180 0 26 (dk_at dksX0_isTrial_0 4 rfl rfl)
theorem dX0_isTrial_7 : decode cX0_isTrial 7 = .ok (.getfield 86, 3) := dk_180 0 86 (dk_at dksX0_isTrial_0 7 rfl rfl)
theorem dX0_isTrial_10 : decode cX0_isTrial 10 = .ok (.iconst 1, 1) := dk_4 (dk_at dksX0_isTrial_0 10 rfl rfl)
theorem dX0_isTrial_11 : decode cX0_isTrial 11 = .ok (.isub, 1) := dk_100 (dk_at dksX0_isTrial_0 11 rfl rfl)
theorem dX0_isTrial_12 : decode cX0_isTrial 12 = .ok (.i2l, 1) := dk_133 (dk_at dksX0_isTrial_0 12 rfl rfl)
theorem dX0_isTrial_13 : decode cX0_isTrial 13 = .ok (.invokestatic 5, 3) := dk_184 0 5 (dk_at dksX0_isTrial_0 13 rfl rfl)
theorem dX0_isTrial_16 : decode cX0_isTrial 16 = .ok (.ireturn, 1) := dk_172 (dk_at dksX0_isTrial_0 16 rfl rfl)
abbrev cX0_feed : ByteArray := prog_1_method_32_code
def yX0_feed : MethodName := ⟨RX0, "feed", "(IIIII)I"⟩
def dkwX0_feed_2 : List UInt8 := [172]
abbrev dktX0_feed_2 : List UInt8 := dkwX0_feed_2 ++ []
def dkwX0_feed_1 : List UInt8 := [182, 1, 16, 42, 29, 182, 1, 16, 42, 21, 4, 182, 1, 16, 42, 21, 5, 182, 1, 16, 42, 180, 0, 254]
abbrev dktX0_feed_1 : List UInt8 := dkwX0_feed_1 ++ dktX0_feed_2
def dkwX0_feed_0 : List UInt8 := [42, 180, 0, 254, 16, 20, 96, 17, 1, 144, 164, 0, 5, 2, 172, 42, 27, 182, 1, 16, 42, 28]
abbrev dktX0_feed_0 : List UInt8 := dkwX0_feed_0 ++ dktX0_feed_1
theorem dksX0_feed_0 : cX0_feed.data.toList.drop 0 = dktX0_feed_0 := by decide +kernel
theorem dksX0_feed_1 : cX0_feed.data.toList.drop 22 = dktX0_feed_1 := dk_seg dksX0_feed_0 22 rfl rfl
theorem dksX0_feed_2 : cX0_feed.data.toList.drop 46 = dktX0_feed_2 := dk_seg dksX0_feed_1 24 rfl rfl
theorem dX0_feed_0 : decode cX0_feed 0 = .ok (.aload_n 0, 1) := dk_42 (dk_at dksX0_feed_0 0 rfl rfl)
theorem dX0_feed_1 : decode cX0_feed 1 = .ok (.getfield 254, 3) := dk_180 0 254 (dk_at dksX0_feed_0 1 rfl rfl)
theorem dX0_feed_4 : decode cX0_feed 4 = .ok (.bipush 20, 2) := dk_16 20 (dk_at dksX0_feed_0 4 rfl rfl)
theorem dX0_feed_6 : decode cX0_feed 6 = .ok (.iadd, 1) := dk_96 (dk_at dksX0_feed_0 6 rfl rfl)
theorem dX0_feed_7 : decode cX0_feed 7 = .ok (.sipush 400, 3) := dk_17 1 144 (dk_at dksX0_feed_0 7 rfl rfl)
theorem dX0_feed_10 : decode cX0_feed 10 = .ok (.if_icmp .le 5, 3) := dk_164 0 5 (dk_at dksX0_feed_0 10 rfl rfl)
theorem dX0_feed_13 : decode cX0_feed 13 = .ok (.iconst (-1), 1) := dk_2 (dk_at dksX0_feed_0 13 rfl rfl)
theorem dX0_feed_14 : decode cX0_feed 14 = .ok (.ireturn, 1) := dk_172 (dk_at dksX0_feed_0 14 rfl rfl)
theorem dX0_feed_15 : decode cX0_feed 15 = .ok (.aload_n 0, 1) := dk_42 (dk_at dksX0_feed_0 15 rfl rfl)
theorem dX0_feed_16 : decode cX0_feed 16 = .ok (.iload_n 1, 1) := dk_27 (dk_at dksX0_feed_0 16 rfl rfl)
theorem dX0_feed_17 : decode cX0_feed 17 = .ok (.invokevirtual 272, 3) := dk_182 1 16 (dk_at dksX0_feed_0 17 rfl rfl)
theorem dX0_feed_20 : decode cX0_feed 20 = .ok (.aload_n 0, 1) := dk_42 (dk_at dksX0_feed_0 20 rfl rfl)
theorem dX0_feed_21 : decode cX0_feed 21 = .ok (.iload_n 2, 1) := dk_28 (dk_at dksX0_feed_0 21 rfl rfl)
theorem dX0_feed_22 : decode cX0_feed 22 = .ok (.invokevirtual 272, 3) := dk_182 1 16 (dk_at dksX0_feed_1 0 rfl rfl)
theorem dX0_feed_25 : decode cX0_feed 25 = .ok (.aload_n 0, 1) := dk_42 (dk_at dksX0_feed_1 3 rfl rfl)
theorem dX0_feed_26 : decode cX0_feed 26 = .ok (.iload_n 3, 1) := dk_29 (dk_at dksX0_feed_1 4 rfl rfl)
theorem dX0_feed_27 : decode cX0_feed 27 = .ok (.invokevirtual 272, 3) := dk_182 1 16 (dk_at dksX0_feed_1 5 rfl rfl)
theorem dX0_feed_30 : decode cX0_feed 30 = .ok (.aload_n 0, 1) := dk_42 (dk_at dksX0_feed_1 8 rfl rfl)
theorem dX0_feed_31 : decode cX0_feed 31 = .ok (.iload 4, 2) := dk_21 4 (dk_at dksX0_feed_1 9 rfl rfl)
theorem dX0_feed_33 : decode cX0_feed 33 = .ok (.invokevirtual 272, 3) := dk_182 1 16 (dk_at dksX0_feed_1 11 rfl rfl)
theorem dX0_feed_36 : decode cX0_feed 36 = .ok (.aload_n 0, 1) := dk_42 (dk_at dksX0_feed_1 14 rfl rfl)
theorem dX0_feed_37 : decode cX0_feed 37 = .ok (.iload 5, 2) := dk_21 5 (dk_at dksX0_feed_1 15 rfl rfl)
theorem dX0_feed_39 : decode cX0_feed 39 = .ok (.invokevirtual 272, 3) := dk_182 1 16 (dk_at dksX0_feed_1 17 rfl rfl)
theorem dX0_feed_42 : decode cX0_feed 42 = .ok (.aload_n 0, 1) := dk_42 (dk_at dksX0_feed_1 20 rfl rfl)
theorem dX0_feed_43 : decode cX0_feed 43 = .ok (.getfield 254, 3) := dk_180 0 254 (dk_at dksX0_feed_1 21 rfl rfl)
theorem dX0_feed_46 : decode cX0_feed 46 = .ok (.ireturn, 1) := dk_172 (dk_at dksX0_feed_2 0 rfl rfl)
abbrev cX0_four : ByteArray := prog_1_method_31_code
def yX0_four : MethodName := ⟨RX0, "four", "(I)V"⟩
def dkwX0_four_1 : List UInt8 := [180, 0, 254, 4, 96, 181, 0, 254, 132, 2, 248, 167, 255, 226, 177]
abbrev dktX0_four_1 : List UInt8 := dkwX0_four_1 ++ []
def dkwX0_four_0 : List UInt8 := [16, 24, 61, 28, 155, 0, 32, 42, 180, 0, 45, 42, 180, 0, 254, 27, 28, 122, 145, 84, 42, 89]
abbrev dktX0_four_0 : List UInt8 := dkwX0_four_0 ++ dktX0_four_1
theorem dksX0_four_0 : cX0_four.data.toList.drop 0 = dktX0_four_0 := by decide +kernel
theorem dksX0_four_1 : cX0_four.data.toList.drop 22 = dktX0_four_1 := dk_seg dksX0_four_0 22 rfl rfl
theorem dX0_four_0 : decode cX0_four 0 = .ok (.bipush 24, 2) := dk_16 24 (dk_at dksX0_four_0 0 rfl rfl)
theorem dX0_four_2 : decode cX0_four 2 = .ok (.istore_n 2, 1) := dk_61 (dk_at dksX0_four_0 2 rfl rfl)
theorem dX0_four_3 : decode cX0_four 3 = .ok (.iload_n 2, 1) := dk_28 (dk_at dksX0_four_0 3 rfl rfl)
theorem dX0_four_4 : decode cX0_four 4 = .ok (.ifCond .lt 32, 3) := dk_155 0 32 (dk_at dksX0_four_0 4 rfl rfl)
theorem dX0_four_7 : decode cX0_four 7 = .ok (.aload_n 0, 1) := dk_42 (dk_at dksX0_four_0 7 rfl rfl)
theorem dX0_four_8 : decode cX0_four 8 = .ok (.getfield 45, 3) := dk_180 0 45 (dk_at dksX0_four_0 8 rfl rfl)
theorem dX0_four_11 : decode cX0_four 11 = .ok (.aload_n 0, 1) := dk_42 (dk_at dksX0_four_0 11 rfl rfl)
theorem dX0_four_12 : decode cX0_four 12 = .ok (.getfield 254, 3) := dk_180 0 254 (dk_at dksX0_four_0 12 rfl rfl)
theorem dX0_four_15 : decode cX0_four 15 = .ok (.iload_n 1, 1) := dk_27 (dk_at dksX0_four_0 15 rfl rfl)
theorem dX0_four_16 : decode cX0_four 16 = .ok (.iload_n 2, 1) := dk_28 (dk_at dksX0_four_0 16 rfl rfl)
theorem dX0_four_17 : decode cX0_four 17 = .ok (.ishr, 1) := dk_122 (dk_at dksX0_four_0 17 rfl rfl)
theorem dX0_four_18 : decode cX0_four 18 = .ok (.i2b, 1) := dk_145 (dk_at dksX0_four_0 18 rfl rfl)
theorem dX0_four_19 : decode cX0_four 19 = .ok (.bastore, 1) := dk_84 (dk_at dksX0_four_0 19 rfl rfl)
theorem dX0_four_20 : decode cX0_four 20 = .ok (.aload_n 0, 1) := dk_42 (dk_at dksX0_four_0 20 rfl rfl)
theorem dX0_four_21 : decode cX0_four 21 = .ok (.dup, 1) := dk_89 (dk_at dksX0_four_0 21 rfl rfl)
theorem dX0_four_22 : decode cX0_four 22 = .ok (.getfield 254, 3) := dk_180 0 254 (dk_at dksX0_four_1 0 rfl rfl)
theorem dX0_four_25 : decode cX0_four 25 = .ok (.iconst 1, 1) := dk_4 (dk_at dksX0_four_1 3 rfl rfl)
theorem dX0_four_26 : decode cX0_four 26 = .ok (.iadd, 1) := dk_96 (dk_at dksX0_four_1 4 rfl rfl)
theorem dX0_four_27 : decode cX0_four 27 = .ok (.putfield 254, 3) := dk_181 0 254 (dk_at dksX0_four_1 5 rfl rfl)
theorem dX0_four_30 : decode cX0_four 30 = .ok (.iinc 2 (-8), 3) := dk_132 2 248 (dk_at dksX0_four_1 8 rfl rfl)
theorem dX0_four_33 : decode cX0_four 33 = .ok (.goto (-30), 3) := dk_167 255 226 (dk_at dksX0_four_1 11 rfl rfl)
theorem dX0_four_36 : decode cX0_four 36 = .ok (.return_, 1) := dk_177 (dk_at dksX0_four_1 14 rfl rfl)
abbrev cX0_end : ByteArray := prog_1_method_33_code
def yX0_end : MethodName := ⟨RX0, "end", "(I)I"⟩
def dkwX0_end_0 : List UInt8 := [27, 133, 9, 42, 180, 0, 254, 133, 184, 0, 5, 154, 0, 5, 2, 172, 42, 27, 181, 0, 254, 27, 172]
abbrev dktX0_end_0 : List UInt8 := dkwX0_end_0 ++ []
theorem dksX0_end_0 : cX0_end.data.toList.drop 0 = dktX0_end_0 := by decide +kernel
theorem dX0_end_0 : decode cX0_end 0 = .ok (.iload_n 1, 1) := dk_27 (dk_at dksX0_end_0 0 rfl rfl)
theorem dX0_end_1 : decode cX0_end 1 = .ok (.i2l, 1) := dk_133 (dk_at dksX0_end_0 1 rfl rfl)
theorem dX0_end_2 : decode cX0_end 2 = .ok (.lconst 0, 1) := dk_9 (dk_at dksX0_end_0 2 rfl rfl)
theorem dX0_end_3 : decode cX0_end 3 = .ok (.aload_n 0, 1) := dk_42 (dk_at dksX0_end_0 3 rfl rfl)
theorem dX0_end_4 : decode cX0_end 4 = .ok (.getfield 254, 3) := dk_180 0 254 (dk_at dksX0_end_0 4 rfl rfl)
theorem dX0_end_7 : decode cX0_end 7 = .ok (.i2l, 1) := dk_133 (dk_at dksX0_end_0 7 rfl rfl)
theorem dX0_end_8 : decode cX0_end 8 = .ok (.invokestatic 5, 3) := dk_184 0 5 (dk_at dksX0_end_0 8 rfl rfl)
theorem dX0_end_11 : decode cX0_end 11 = .ok (.ifCond .ne 5, 3) := dk_154 0 5 (dk_at dksX0_end_0 11 rfl rfl)
theorem dX0_end_14 : decode cX0_end 14 = .ok (.iconst (-1), 1) := dk_2 (dk_at dksX0_end_0 14 rfl rfl)
theorem dX0_end_15 : decode cX0_end 15 = .ok (.ireturn, 1) := dk_172 (dk_at dksX0_end_0 15 rfl rfl)
theorem dX0_end_16 : decode cX0_end 16 = .ok (.aload_n 0, 1) := dk_42 (dk_at dksX0_end_0 16 rfl rfl)
theorem dX0_end_17 : decode cX0_end 17 = .ok (.iload_n 1, 1) := dk_27 (dk_at dksX0_end_0 17 rfl rfl)
theorem dX0_end_18 : decode cX0_end 18 = .ok (.putfield 254, 3) := dk_181 0 254 (dk_at dksX0_end_0 18 rfl rfl)
theorem dX0_end_21 : decode cX0_end 21 = .ok (.iload_n 1, 1) := dk_27 (dk_at dksX0_end_0 21 rfl rfl)
theorem dX0_end_22 : decode cX0_end 22 = .ok (.ireturn, 1) := dk_172 (dk_at dksX0_end_0 22 rfl rfl)
abbrev cX0_text : ByteArray := prog_1_method_36_code
def yX0_text : MethodName := ⟨RX0, "text", "()I"⟩
def dkwX0_text_4 : List UInt8 := [180, 0, 80, 4, 100, 182, 0, 106, 167, 0, 9, 42, 16, 250, 182, 0, 93, 172]
abbrev dktX0_text_4 : List UInt8 := dkwX0_text_4 ++ []
def dkwX0_text_3 : List UInt8 := [180, 1, 30, 181, 0, 58, 42, 3, 181, 0, 254, 42, 180, 0, 58, 2, 160, 0, 19, 42, 42, 180, 0, 26]
abbrev dktX0_text_3 : List UInt8 := dkwX0_text_3 ++ dktX0_text_4
def dkwX0_text_2 : List UInt8 := [182, 1, 24, 83, 42, 180, 0, 26, 89, 180, 0, 80, 4, 96, 181, 0, 80, 167, 0, 12, 76, 42, 43]
abbrev dktX0_text_2 : List UInt8 := dkwX0_text_2 ++ dktX0_text_3
def dkwX0_text_1 : List UInt8 := [42, 2, 181, 0, 58, 42, 180, 0, 26, 180, 1, 20, 42, 180, 0, 26, 180, 0, 80, 42, 180, 0, 54]
abbrev dktX0_text_1 : List UInt8 := dkwX0_text_1 ++ dktX0_text_2
def dkwX0_text_0 : List UInt8 := [42, 180, 0, 26, 180, 0, 80, 16, 12, 160, 0, 15, 42, 3, 181, 0, 254, 42, 16, 251, 182, 0, 93, 172]
abbrev dktX0_text_0 : List UInt8 := dkwX0_text_0 ++ dktX0_text_1
theorem dksX0_text_0 : cX0_text.data.toList.drop 0 = dktX0_text_0 := by decide +kernel
theorem dksX0_text_1 : cX0_text.data.toList.drop 24 = dktX0_text_1 := dk_seg dksX0_text_0 24 rfl rfl
theorem dksX0_text_2 : cX0_text.data.toList.drop 47 = dktX0_text_2 := dk_seg dksX0_text_1 23 rfl rfl
theorem dksX0_text_3 : cX0_text.data.toList.drop 70 = dktX0_text_3 := dk_seg dksX0_text_2 23 rfl rfl
theorem dksX0_text_4 : cX0_text.data.toList.drop 94 = dktX0_text_4 := dk_seg dksX0_text_3 24 rfl rfl
theorem dX0_text_0 : decode cX0_text 0 = .ok (.aload_n 0, 1) := dk_42 (dk_at dksX0_text_0 0 rfl rfl)
theorem dX0_text_1 : decode cX0_text 1 = .ok (.getfield 26, 3) := dk_180 0 26 (dk_at dksX0_text_0 1 rfl rfl)
theorem dX0_text_4 : decode cX0_text 4 = .ok (.getfield 80, 3) := dk_180 0 80 (dk_at dksX0_text_0 4 rfl rfl)
theorem dX0_text_7 : decode cX0_text 7 = .ok (.bipush 12, 2) := dk_16 12 (dk_at dksX0_text_0 7 rfl rfl)
theorem dX0_text_9 : decode cX0_text 9 = .ok (.if_icmp .ne 15, 3) := dk_160 0 15 (dk_at dksX0_text_0 9 rfl rfl)
theorem dX0_text_12 : decode cX0_text 12 = .ok (.aload_n 0, 1) := dk_42 (dk_at dksX0_text_0 12 rfl rfl)
theorem dX0_text_13 : decode cX0_text 13 = .ok (.iconst 0, 1) := dk_3 (dk_at dksX0_text_0 13 rfl rfl)
theorem dX0_text_14 : decode cX0_text 14 = .ok (.putfield 254, 3) := dk_181 0 254 (dk_at dksX0_text_0 14 rfl rfl)
theorem dX0_text_17 : decode cX0_text 17 = .ok (.aload_n 0, 1) := dk_42 (dk_at dksX0_text_0 17 rfl rfl)
theorem dX0_text_18 : decode cX0_text 18 = .ok (.bipush (-5), 2) := dk_16 251 (dk_at dksX0_text_0 18 rfl rfl)
theorem dX0_text_20 : decode cX0_text 20 = .ok (.invokevirtual 93, 3) := dk_182 0 93 (dk_at dksX0_text_0 20 rfl rfl)
theorem dX0_text_23 : decode cX0_text 23 = .ok (.ireturn, 1) := dk_172 (dk_at dksX0_text_0 23 rfl rfl)
theorem dX0_text_24 : decode cX0_text 24 = .ok (.aload_n 0, 1) := dk_42 (dk_at dksX0_text_1 0 rfl rfl)
theorem dX0_text_25 : decode cX0_text 25 = .ok (.iconst (-1), 1) := dk_2 (dk_at dksX0_text_1 1 rfl rfl)
theorem dX0_text_26 : decode cX0_text 26 = .ok (.putfield 58, 3) := dk_181 0 58 (dk_at dksX0_text_1 2 rfl rfl)
theorem dX0_text_29 : decode cX0_text 29 = .ok (.aload_n 0, 1) := dk_42 (dk_at dksX0_text_1 5 rfl rfl)
theorem dX0_text_30 : decode cX0_text 30 = .ok (.getfield 26, 3) := dk_180 0 26 (dk_at dksX0_text_1 6 rfl rfl)
theorem dX0_text_33 : decode cX0_text 33 = .ok (.getfield 276, 3) := dk_180 1 20 (dk_at dksX0_text_1 9 rfl rfl)
theorem dX0_text_36 : decode cX0_text 36 = .ok (.aload_n 0, 1) := dk_42 (dk_at dksX0_text_1 12 rfl rfl)
theorem dX0_text_37 : decode cX0_text 37 = .ok (.getfield 26, 3) := dk_180 0 26 (dk_at dksX0_text_1 13 rfl rfl)
theorem dX0_text_40 : decode cX0_text 40 = .ok (.getfield 80, 3) := dk_180 0 80 (dk_at dksX0_text_1 16 rfl rfl)
theorem dX0_text_43 : decode cX0_text 43 = .ok (.aload_n 0, 1) := dk_42 (dk_at dksX0_text_1 19 rfl rfl)
theorem dX0_text_44 : decode cX0_text 44 = .ok (.getfield 54, 3) := dk_180 0 54 (dk_at dksX0_text_1 20 rfl rfl)
theorem dX0_text_47 : decode cX0_text 47 = .ok (.invokevirtual 280, 3) := dk_182 1 24 (dk_at dksX0_text_2 0 rfl rfl)
theorem dX0_text_50 : decode cX0_text 50 = .ok (.aastore, 1) := dk_83 (dk_at dksX0_text_2 3 rfl rfl)
theorem dX0_text_51 : decode cX0_text 51 = .ok (.aload_n 0, 1) := dk_42 (dk_at dksX0_text_2 4 rfl rfl)
theorem dX0_text_52 : decode cX0_text 52 = .ok (.getfield 26, 3) := dk_180 0 26 (dk_at dksX0_text_2 5 rfl rfl)
theorem dX0_text_55 : decode cX0_text 55 = .ok (.dup, 1) := dk_89 (dk_at dksX0_text_2 8 rfl rfl)
theorem dX0_text_56 : decode cX0_text 56 = .ok (.getfield 80, 3) := dk_180 0 80 (dk_at dksX0_text_2 9 rfl rfl)
theorem dX0_text_59 : decode cX0_text 59 = .ok (.iconst 1, 1) := dk_4 (dk_at dksX0_text_2 12 rfl rfl)
theorem dX0_text_60 : decode cX0_text 60 = .ok (.iadd, 1) := dk_96 (dk_at dksX0_text_2 13 rfl rfl)
theorem dX0_text_61 : decode cX0_text 61 = .ok (.putfield 80, 3) := dk_181 0 80 (dk_at dksX0_text_2 14 rfl rfl)
theorem dX0_text_64 : decode cX0_text 64 = .ok (.goto 12, 3) := dk_167 0 12 (dk_at dksX0_text_2 17 rfl rfl)
theorem dX0_text_67 : decode cX0_text 67 = .ok (.astore_n 1, 1) := dk_76 (dk_at dksX0_text_2 20 rfl rfl)
theorem dX0_text_68 : decode cX0_text 68 = .ok (.aload_n 0, 1) := dk_42 (dk_at dksX0_text_2 21 rfl rfl)
theorem dX0_text_69 : decode cX0_text 69 = .ok (.aload_n 1, 1) := dk_43 (dk_at dksX0_text_2 22 rfl rfl)
theorem dX0_text_70 : decode cX0_text 70 = .ok (.getfield 286, 3) := dk_180 1 30 (dk_at dksX0_text_3 0 rfl rfl)
theorem dX0_text_73 : decode cX0_text 73 = .ok (.putfield 58, 3) := dk_181 0 58 (dk_at dksX0_text_3 3 rfl rfl)
theorem dX0_text_76 : decode cX0_text 76 = .ok (.aload_n 0, 1) := dk_42 (dk_at dksX0_text_3 6 rfl rfl)
theorem dX0_text_77 : decode cX0_text 77 = .ok (.iconst 0, 1) := dk_3 (dk_at dksX0_text_3 7 rfl rfl)
theorem dX0_text_78 : decode cX0_text 78 = .ok (.putfield 254, 3) := dk_181 0 254 (dk_at dksX0_text_3 8 rfl rfl)
theorem dX0_text_81 : decode cX0_text 81 = .ok (.aload_n 0, 1) := dk_42 (dk_at dksX0_text_3 11 rfl rfl)
theorem dX0_text_82 : decode cX0_text 82 = .ok (.getfield 58, 3) := dk_180 0 58 (dk_at dksX0_text_3 12 rfl rfl)
theorem dX0_text_85 : decode cX0_text 85 = .ok (.iconst (-1), 1) := dk_2 (dk_at dksX0_text_3 15 rfl rfl)
theorem dX0_text_86 : decode cX0_text 86 = .ok (.if_icmp .ne 19, 3) := dk_160 0 19 (dk_at dksX0_text_3 16 rfl rfl)
theorem dX0_text_89 : decode cX0_text 89 = .ok (.aload_n 0, 1) := dk_42 (dk_at dksX0_text_3 19 rfl rfl)
theorem dX0_text_90 : decode cX0_text 90 = .ok (.aload_n 0, 1) := dk_42 (dk_at dksX0_text_3 20 rfl rfl)
theorem dX0_text_91 : decode cX0_text 91 = .ok (.getfield 26, 3) := dk_180 0 26 (dk_at dksX0_text_3 21 rfl rfl)
theorem dX0_text_94 : decode cX0_text 94 = .ok (.getfield 80, 3) := dk_180 0 80 (dk_at dksX0_text_4 0 rfl rfl)
theorem dX0_text_97 : decode cX0_text 97 = .ok (.iconst 1, 1) := dk_4 (dk_at dksX0_text_4 3 rfl rfl)
theorem dX0_text_98 : decode cX0_text 98 = .ok (.isub, 1) := dk_100 (dk_at dksX0_text_4 4 rfl rfl)
theorem dX0_text_99 : decode cX0_text 99 = .ok (.invokevirtual 106, 3) := dk_182 0 106 (dk_at dksX0_text_4 5 rfl rfl)
theorem dX0_text_102 : decode cX0_text 102 = .ok (.goto 9, 3) := dk_167 0 9 (dk_at dksX0_text_4 8 rfl rfl)
theorem dX0_text_105 : decode cX0_text 105 = .ok (.aload_n 0, 1) := dk_42 (dk_at dksX0_text_4 11 rfl rfl)
theorem dX0_text_106 : decode cX0_text 106 = .ok (.bipush (-6), 2) := dk_16 250 (dk_at dksX0_text_4 12 rfl rfl)
theorem dX0_text_108 : decode cX0_text 108 = .ok (.invokevirtual 93, 3) := dk_182 0 93 (dk_at dksX0_text_4 14 rfl rfl)
theorem dX0_text_111 : decode cX0_text 111 = .ok (.ireturn, 1) := dk_172 (dk_at dksX0_text_4 17 rfl rfl)
abbrev cX0_isLetter : ByteArray := prog_1_method_34_code
def yX0_isLetter : MethodName := ⟨RX0, "isLetter", "(I)Z"⟩
def dkwX0_isLetter_0 : List UInt8 := [26, 16, 97, 161, 0, 13, 26, 16, 122, 163, 0, 7, 4, 167, 0, 4, 3, 172]
abbrev dktX0_isLetter_0 : List UInt8 := dkwX0_isLetter_0 ++ []
theorem dksX0_isLetter_0 : cX0_isLetter.data.toList.drop 0 = dktX0_isLetter_0 := by decide +kernel
theorem dX0_isLetter_0 : decode cX0_isLetter 0 = .ok (.iload_n 0, 1) := dk_26 (dk_at dksX0_isLetter_0 0 rfl rfl)
theorem dX0_isLetter_1 : decode cX0_isLetter 1 = .ok (.bipush 97, 2) := dk_16 97 (dk_at dksX0_isLetter_0 1 rfl rfl)
theorem dX0_isLetter_3 : decode cX0_isLetter 3 = .ok (.if_icmp .lt 13, 3) := dk_161 0 13 (dk_at dksX0_isLetter_0 3 rfl rfl)
theorem dX0_isLetter_6 : decode cX0_isLetter 6 = .ok (.iload_n 0, 1) := dk_26 (dk_at dksX0_isLetter_0 6 rfl rfl)
theorem dX0_isLetter_7 : decode cX0_isLetter 7 = .ok (.bipush 122, 2) := dk_16 122 (dk_at dksX0_isLetter_0 7 rfl rfl)
theorem dX0_isLetter_9 : decode cX0_isLetter 9 = .ok (.if_icmp .gt 7, 3) := dk_163 0 7 (dk_at dksX0_isLetter_0 9 rfl rfl)
theorem dX0_isLetter_12 : decode cX0_isLetter 12 = .ok (.iconst 1, 1) := dk_4 (dk_at dksX0_isLetter_0 12 rfl rfl)
theorem dX0_isLetter_13 : decode cX0_isLetter 13 = .ok (.goto 4, 3) := dk_167 0 4 (dk_at dksX0_isLetter_0 13 rfl rfl)
theorem dX0_isLetter_16 : decode cX0_isLetter 16 = .ok (.iconst 0, 1) := dk_3 (dk_at dksX0_isLetter_0 16 rfl rfl)
theorem dX0_isLetter_17 : decode cX0_isLetter 17 = .ok (.ireturn, 1) := dk_172 (dk_at dksX0_isLetter_0 17 rfl rfl)
abbrev cX0_isDigit : ByteArray := prog_1_method_35_code
def yX0_isDigit : MethodName := ⟨RX0, "isDigit", "(I)Z"⟩
def dkwX0_isDigit_0 : List UInt8 := [26, 16, 48, 161, 0, 13, 26, 16, 57, 163, 0, 7, 4, 167, 0, 4, 3, 172]
abbrev dktX0_isDigit_0 : List UInt8 := dkwX0_isDigit_0 ++ []
theorem dksX0_isDigit_0 : cX0_isDigit.data.toList.drop 0 = dktX0_isDigit_0 := by decide +kernel
theorem dX0_isDigit_0 : decode cX0_isDigit 0 = .ok (.iload_n 0, 1) := dk_26 (dk_at dksX0_isDigit_0 0 rfl rfl)
theorem dX0_isDigit_1 : decode cX0_isDigit 1 = .ok (.bipush 48, 2) := dk_16 48 (dk_at dksX0_isDigit_0 1 rfl rfl)
theorem dX0_isDigit_3 : decode cX0_isDigit 3 = .ok (.if_icmp .lt 13, 3) := dk_161 0 13 (dk_at dksX0_isDigit_0 3 rfl rfl)
theorem dX0_isDigit_6 : decode cX0_isDigit 6 = .ok (.iload_n 0, 1) := dk_26 (dk_at dksX0_isDigit_0 6 rfl rfl)
theorem dX0_isDigit_7 : decode cX0_isDigit 7 = .ok (.bipush 57, 2) := dk_16 57 (dk_at dksX0_isDigit_0 7 rfl rfl)
theorem dX0_isDigit_9 : decode cX0_isDigit 9 = .ok (.if_icmp .gt 7, 3) := dk_163 0 7 (dk_at dksX0_isDigit_0 9 rfl rfl)
theorem dX0_isDigit_12 : decode cX0_isDigit 12 = .ok (.iconst 1, 1) := dk_4 (dk_at dksX0_isDigit_0 12 rfl rfl)
theorem dX0_isDigit_13 : decode cX0_isDigit 13 = .ok (.goto 4, 3) := dk_167 0 4 (dk_at dksX0_isDigit_0 13 rfl rfl)
theorem dX0_isDigit_16 : decode cX0_isDigit 16 = .ok (.iconst 0, 1) := dk_3 (dk_at dksX0_isDigit_0 16 rfl rfl)
theorem dX0_isDigit_17 : decode cX0_isDigit 17 = .ok (.ireturn, 1) := dk_172 (dk_at dksX0_isDigit_0 17 rfl rfl)
abbrev cX0_fault : ByteArray := prog_1_method_37_code
def yX0_fault : MethodName := ⟨RX0, "fault", "()I"⟩
theorem dX0_fault_0 : decode cX0_fault 0 = .ok (.aload_n 0, 1) := by decide +kernel
theorem dX0_fault_1 : decode cX0_fault 1 = .ok (.getfield 58, 3) := by decide +kernel
theorem dX0_fault_4 : decode cX0_fault 4 = .ok (.ireturn, 1) := by decide +kernel
abbrev cX0_odds : ByteArray := prog_1_method_38_code
def yX0_odds : MethodName := ⟨RX0, "odds", "(III)I"⟩
def dkwX0_odds_3 : List UInt8 := [27, 50, 42, 180, 0, 26, 180, 0, 242, 29, 50, 182, 1, 40, 172]
abbrev dktX0_odds_3 : List UInt8 := dkwX0_odds_3 ++ []
def dkwX0_odds_2 : List UInt8 := [27, 50, 42, 180, 0, 26, 180, 0, 237, 29, 50, 182, 1, 34, 167, 0, 24, 42, 180, 0, 26, 180, 1, 20]
abbrev dktX0_odds_2 : List UInt8 := dkwX0_odds_2 ++ dktX0_odds_3
def dkwX0_odds_1 : List UInt8 := [160, 0, 11, 42, 29, 182, 1, 11, 154, 0, 5, 2, 172, 28, 154, 0, 27, 42, 180, 0, 26, 180, 1, 20]
abbrev dktX0_odds_1 : List UInt8 := dkwX0_odds_1 ++ dktX0_odds_2
def dkwX0_odds_0 : List UInt8 := [42, 27, 182, 1, 31, 153, 0, 28, 28, 154, 0, 11, 42, 29, 182, 1, 5, 154, 0, 18, 28, 4]
abbrev dktX0_odds_0 : List UInt8 := dkwX0_odds_0 ++ dktX0_odds_1
theorem dksX0_odds_0 : cX0_odds.data.toList.drop 0 = dktX0_odds_0 := by decide +kernel
theorem dksX0_odds_1 : cX0_odds.data.toList.drop 22 = dktX0_odds_1 := dk_seg dksX0_odds_0 22 rfl rfl
theorem dksX0_odds_2 : cX0_odds.data.toList.drop 46 = dktX0_odds_2 := dk_seg dksX0_odds_1 24 rfl rfl
theorem dksX0_odds_3 : cX0_odds.data.toList.drop 70 = dktX0_odds_3 := dk_seg dksX0_odds_2 24 rfl rfl
theorem dX0_odds_0 : decode cX0_odds 0 = .ok (.aload_n 0, 1) := dk_42 (dk_at dksX0_odds_0 0 rfl rfl)
theorem dX0_odds_1 : decode cX0_odds 1 = .ok (.iload_n 1, 1) := dk_27 (dk_at dksX0_odds_0 1 rfl rfl)
theorem dX0_odds_2 : decode cX0_odds 2 = .ok (.invokevirtual 287, 3) := dk_182 1 31 (dk_at dksX0_odds_0 2 rfl rfl)
theorem dX0_odds_5 : decode cX0_odds 5 = .ok (.ifCond .eq 28, 3) := dk_153 0 28 (dk_at dksX0_odds_0 5 rfl rfl)
theorem dX0_odds_8 : decode cX0_odds 8 = .ok (.iload_n 2, 1) := dk_28 (dk_at dksX0_odds_0 8 rfl rfl)
theorem dX0_odds_9 : decode cX0_odds 9 = .ok (.ifCond .ne 11, 3) := dk_154 0 11 (dk_at dksX0_odds_0 9 rfl rfl)
theorem dX0_odds_12 : decode cX0_odds 12 = .ok (.aload_n 0, 1) := dk_42 (dk_at dksX0_odds_0 12 rfl rfl)
theorem dX0_odds_13 : decode cX0_odds 13 = .ok (.iload_n 3, 1) := dk_29 (dk_at dksX0_odds_0 13 rfl rfl)
theorem dX0_odds_14 : decode cX0_odds 14 = .ok (.invokevirtual 261, 3) := dk_182 1 5 (dk_at dksX0_odds_0 14 rfl rfl)
theorem dX0_odds_17 : decode cX0_odds 17 = .ok (.ifCond .ne 18, 3) := dk_154 0 18 (dk_at dksX0_odds_0 17 rfl rfl)
theorem dX0_odds_20 : decode cX0_odds 20 = .ok (.iload_n 2, 1) := dk_28 (dk_at dksX0_odds_0 20 rfl rfl)
theorem dX0_odds_21 : decode cX0_odds 21 = .ok (.iconst 1, 1) := dk_4 (dk_at dksX0_odds_0 21 rfl rfl)
theorem dX0_odds_22 : decode cX0_odds 22 = .ok (.if_icmp .ne 11, 3) := dk_160 0 11 (dk_at dksX0_odds_1 0 rfl rfl)
theorem dX0_odds_25 : decode cX0_odds 25 = .ok (.aload_n 0, 1) := dk_42 (dk_at dksX0_odds_1 3 rfl rfl)
theorem dX0_odds_26 : decode cX0_odds 26 = .ok (.iload_n 3, 1) := dk_29 (dk_at dksX0_odds_1 4 rfl rfl)
theorem dX0_odds_27 : decode cX0_odds 27 = .ok (.invokevirtual 267, 3) := dk_182 1 11 (dk_at dksX0_odds_1 5 rfl rfl)
theorem dX0_odds_30 : decode cX0_odds 30 = .ok (.ifCond .ne 5, 3) := dk_154 0 5 (dk_at dksX0_odds_1 8 rfl rfl)
theorem dX0_odds_33 : decode cX0_odds 33 = .ok (.iconst (-1), 1) := dk_2 (dk_at dksX0_odds_1 11 rfl rfl)
theorem dX0_odds_34 : decode cX0_odds 34 = .ok (.ireturn, 1) := dk_172 (dk_at dksX0_odds_1 12 rfl rfl)
theorem dX0_odds_35 : decode cX0_odds 35 = .ok (.iload_n 2, 1) := dk_28 (dk_at dksX0_odds_1 13 rfl rfl)
theorem dX0_odds_36 : decode cX0_odds 36 = .ok (.ifCond .ne 27, 3) := dk_154 0 27 (dk_at dksX0_odds_1 14 rfl rfl)
theorem dX0_odds_39 : decode cX0_odds 39 = .ok (.aload_n 0, 1) := dk_42 (dk_at dksX0_odds_1 17 rfl rfl)
theorem dX0_odds_40 : decode cX0_odds 40 = .ok (.getfield 26, 3) := dk_180 0 26 (dk_at dksX0_odds_1 18 rfl rfl)
theorem dX0_odds_43 : decode cX0_odds 43 = .ok (.getfield 276, 3) := dk_180 1 20 (dk_at dksX0_odds_1 21 rfl rfl)
theorem dX0_odds_46 : decode cX0_odds 46 = .ok (.iload_n 1, 1) := dk_27 (dk_at dksX0_odds_2 0 rfl rfl)
theorem dX0_odds_47 : decode cX0_odds 47 = .ok (.aaload, 1) := dk_50 (dk_at dksX0_odds_2 1 rfl rfl)
theorem dX0_odds_48 : decode cX0_odds 48 = .ok (.aload_n 0, 1) := dk_42 (dk_at dksX0_odds_2 2 rfl rfl)
theorem dX0_odds_49 : decode cX0_odds 49 = .ok (.getfield 26, 3) := dk_180 0 26 (dk_at dksX0_odds_2 3 rfl rfl)
theorem dX0_odds_52 : decode cX0_odds 52 = .ok (.getfield 237, 3) := dk_180 0 237 (dk_at dksX0_odds_2 6 rfl rfl)
theorem dX0_odds_55 : decode cX0_odds 55 = .ok (.iload_n 3, 1) := dk_29 (dk_at dksX0_odds_2 9 rfl rfl)
theorem dX0_odds_56 : decode cX0_odds 56 = .ok (.aaload, 1) := dk_50 (dk_at dksX0_odds_2 10 rfl rfl)
theorem dX0_odds_57 : decode cX0_odds 57 = .ok (.invokevirtual 290, 3) := dk_182 1 34 (dk_at dksX0_odds_2 11 rfl rfl)
theorem dX0_odds_60 : decode cX0_odds 60 = .ok (.goto 24, 3) := dk_167 0 24 (dk_at dksX0_odds_2 14 rfl rfl)
theorem dX0_odds_63 : decode cX0_odds 63 = .ok (.aload_n 0, 1) := dk_42 (dk_at dksX0_odds_2 17 rfl rfl)
theorem dX0_odds_64 : decode cX0_odds 64 = .ok (.getfield 26, 3) := dk_180 0 26 (dk_at dksX0_odds_2 18 rfl rfl)
theorem dX0_odds_67 : decode cX0_odds 67 = .ok (.getfield 276, 3) := dk_180 1 20 (dk_at dksX0_odds_2 21 rfl rfl)
theorem dX0_odds_70 : decode cX0_odds 70 = .ok (.iload_n 1, 1) := dk_27 (dk_at dksX0_odds_3 0 rfl rfl)
theorem dX0_odds_71 : decode cX0_odds 71 = .ok (.aaload, 1) := dk_50 (dk_at dksX0_odds_3 1 rfl rfl)
theorem dX0_odds_72 : decode cX0_odds 72 = .ok (.aload_n 0, 1) := dk_42 (dk_at dksX0_odds_3 2 rfl rfl)
theorem dX0_odds_73 : decode cX0_odds 73 = .ok (.getfield 26, 3) := dk_180 0 26 (dk_at dksX0_odds_3 3 rfl rfl)
theorem dX0_odds_76 : decode cX0_odds 76 = .ok (.getfield 242, 3) := dk_180 0 242 (dk_at dksX0_odds_3 6 rfl rfl)
theorem dX0_odds_79 : decode cX0_odds 79 = .ok (.iload_n 3, 1) := dk_29 (dk_at dksX0_odds_3 9 rfl rfl)
theorem dX0_odds_80 : decode cX0_odds 80 = .ok (.aaload, 1) := dk_50 (dk_at dksX0_odds_3 10 rfl rfl)
theorem dX0_odds_81 : decode cX0_odds 81 = .ok (.invokevirtual 296, 3) := dk_182 1 40 (dk_at dksX0_odds_3 11 rfl rfl)
theorem dX0_odds_84 : decode cX0_odds 84 = .ok (.ireturn, 1) := dk_172 (dk_at dksX0_odds_3 14 rfl rfl)
abbrev cX0_isText : ByteArray := prog_1_method_8_code
def yX0_isText : MethodName := ⟨RX0, "isText", "(I)Z"⟩
def dkwX0_isText_0 : List UInt8 := [27, 133, 9, 42, 180, 0, 26, 180, 0, 80, 4, 100, 133, 184, 0, 5, 172]
abbrev dktX0_isText_0 : List UInt8 := dkwX0_isText_0 ++ []
theorem dksX0_isText_0 : cX0_isText.data.toList.drop 0 = dktX0_isText_0 := by decide +kernel
theorem dX0_isText_0 : decode cX0_isText 0 = .ok (.iload_n 1, 1) := dk_27 (dk_at dksX0_isText_0 0 rfl rfl)
theorem dX0_isText_1 : decode cX0_isText 1 = .ok (.i2l, 1) := dk_133 (dk_at dksX0_isText_0 1 rfl rfl)
theorem dX0_isText_2 : decode cX0_isText 2 = .ok (.lconst 0, 1) := dk_9 (dk_at dksX0_isText_0 2 rfl rfl)
theorem dX0_isText_3 : decode cX0_isText 3 = .ok (.aload_n 0, 1) := dk_42 (dk_at dksX0_isText_0 3 rfl rfl)
theorem dX0_isText_4 : decode cX0_isText 4 = .ok (.getfield 26, 3) := dk_180 0 26 (dk_at dksX0_isText_0 4 rfl rfl)
theorem dX0_isText_7 : decode cX0_isText 7 = .ok (.getfield 80, 3) := dk_180 0 80 (dk_at dksX0_isText_0 7 rfl rfl)
theorem dX0_isText_10 : decode cX0_isText 10 = .ok (.iconst 1, 1) := dk_4 (dk_at dksX0_isText_0 10 rfl rfl)
theorem dX0_isText_11 : decode cX0_isText 11 = .ok (.isub, 1) := dk_100 (dk_at dksX0_isText_0 11 rfl rfl)
theorem dX0_isText_12 : decode cX0_isText 12 = .ok (.i2l, 1) := dk_133 (dk_at dksX0_isText_0 12 rfl rfl)
theorem dX0_isText_13 : decode cX0_isText 13 = .ok (.invokestatic 5, 3) := dk_184 0 5 (dk_at dksX0_isText_0 13 rfl rfl)
theorem dX0_isText_16 : decode cX0_isText 16 = .ok (.ireturn, 1) := dk_172 (dk_at dksX0_isText_0 16 rfl rfl)
abbrev cX0_fair : ByteArray := prog_1_method_39_code
def yX0_fair : MethodName := ⟨RX0, "fair", "(II)I"⟩
def dkwX0_fair_2 : List UInt8 := [3, 172]
abbrev dktX0_fair_2 : List UInt8 := dkwX0_fair_2 ++ []
def dkwX0_fair_1 : List UInt8 := [180, 1, 20, 27, 50, 42, 180, 0, 26, 180, 0, 242, 28, 50, 182, 1, 43, 153, 0, 7, 4, 167, 0, 4]
abbrev dktX0_fair_1 : List UInt8 := dkwX0_fair_1 ++ dktX0_fair_2
def dkwX0_fair_0 : List UInt8 := [42, 27, 182, 1, 31, 153, 0, 11, 42, 28, 182, 1, 11, 154, 0, 7, 2, 167, 0, 32, 42, 180, 0, 26]
abbrev dktX0_fair_0 : List UInt8 := dkwX0_fair_0 ++ dktX0_fair_1
theorem dksX0_fair_0 : cX0_fair.data.toList.drop 0 = dktX0_fair_0 := by decide +kernel
theorem dksX0_fair_1 : cX0_fair.data.toList.drop 24 = dktX0_fair_1 := dk_seg dksX0_fair_0 24 rfl rfl
theorem dksX0_fair_2 : cX0_fair.data.toList.drop 48 = dktX0_fair_2 := dk_seg dksX0_fair_1 24 rfl rfl
theorem dX0_fair_0 : decode cX0_fair 0 = .ok (.aload_n 0, 1) := dk_42 (dk_at dksX0_fair_0 0 rfl rfl)
theorem dX0_fair_1 : decode cX0_fair 1 = .ok (.iload_n 1, 1) := dk_27 (dk_at dksX0_fair_0 1 rfl rfl)
theorem dX0_fair_2 : decode cX0_fair 2 = .ok (.invokevirtual 287, 3) := dk_182 1 31 (dk_at dksX0_fair_0 2 rfl rfl)
theorem dX0_fair_5 : decode cX0_fair 5 = .ok (.ifCond .eq 11, 3) := dk_153 0 11 (dk_at dksX0_fair_0 5 rfl rfl)
theorem dX0_fair_8 : decode cX0_fair 8 = .ok (.aload_n 0, 1) := dk_42 (dk_at dksX0_fair_0 8 rfl rfl)
theorem dX0_fair_9 : decode cX0_fair 9 = .ok (.iload_n 2, 1) := dk_28 (dk_at dksX0_fair_0 9 rfl rfl)
theorem dX0_fair_10 : decode cX0_fair 10 = .ok (.invokevirtual 267, 3) := dk_182 1 11 (dk_at dksX0_fair_0 10 rfl rfl)
theorem dX0_fair_13 : decode cX0_fair 13 = .ok (.ifCond .ne 7, 3) := dk_154 0 7 (dk_at dksX0_fair_0 13 rfl rfl)
theorem dX0_fair_16 : decode cX0_fair 16 = .ok (.iconst (-1), 1) := dk_2 (dk_at dksX0_fair_0 16 rfl rfl)
theorem dX0_fair_17 : decode cX0_fair 17 = .ok (.goto 32, 3) := dk_167 0 32 (dk_at dksX0_fair_0 17 rfl rfl)
theorem dX0_fair_20 : decode cX0_fair 20 = .ok (.aload_n 0, 1) := dk_42 (dk_at dksX0_fair_0 20 rfl rfl)
theorem dX0_fair_21 : decode cX0_fair 21 = .ok (.getfield 26, 3) := dk_180 0 26 (dk_at dksX0_fair_0 21 rfl rfl)
theorem dX0_fair_24 : decode cX0_fair 24 = .ok (.getfield 276, 3) := dk_180 1 20 (dk_at dksX0_fair_1 0 rfl rfl)
theorem dX0_fair_27 : decode cX0_fair 27 = .ok (.iload_n 1, 1) := dk_27 (dk_at dksX0_fair_1 3 rfl rfl)
theorem dX0_fair_28 : decode cX0_fair 28 = .ok (.aaload, 1) := dk_50 (dk_at dksX0_fair_1 4 rfl rfl)
theorem dX0_fair_29 : decode cX0_fair 29 = .ok (.aload_n 0, 1) := dk_42 (dk_at dksX0_fair_1 5 rfl rfl)
theorem dX0_fair_30 : decode cX0_fair 30 = .ok (.getfield 26, 3) := dk_180 0 26 (dk_at dksX0_fair_1 6 rfl rfl)
theorem dX0_fair_33 : decode cX0_fair 33 = .ok (.getfield 242, 3) := dk_180 0 242 (dk_at dksX0_fair_1 9 rfl rfl)
theorem dX0_fair_36 : decode cX0_fair 36 = .ok (.iload_n 2, 1) := dk_28 (dk_at dksX0_fair_1 12 rfl rfl)
theorem dX0_fair_37 : decode cX0_fair 37 = .ok (.aaload, 1) := dk_50 (dk_at dksX0_fair_1 13 rfl rfl)
theorem dX0_fair_38 : decode cX0_fair 38 = .ok (.invokevirtual 299, 3) := dk_182 1 43 (dk_at dksX0_fair_1 14 rfl rfl)
theorem dX0_fair_41 : decode cX0_fair 41 = .ok (.ifCond .eq 7, 3) := dk_153 0 7 (dk_at dksX0_fair_1 17 rfl rfl)
theorem dX0_fair_44 : decode cX0_fair 44 = .ok (.iconst 1, 1) := dk_4 (dk_at dksX0_fair_1 20 rfl rfl)
theorem dX0_fair_45 : decode cX0_fair 45 = .ok (.goto 4, 3) := dk_167 0 4 (dk_at dksX0_fair_1 21 rfl rfl)
theorem dX0_fair_48 : decode cX0_fair 48 = .ok (.iconst 0, 1) := dk_3 (dk_at dksX0_fair_2 0 rfl rfl)
theorem dX0_fair_49 : decode cX0_fair 49 = .ok (.ireturn, 1) := dk_172 (dk_at dksX0_fair_2 1 rfl rfl)
abbrev cX0_outBy : ByteArray := prog_1_method_40_code
def yX0_outBy : MethodName := ⟨RX0, "outBy", "(II)I"⟩
def dkwX0_outBy_3 : List UInt8 := [167, 255, 202, 28, 2, 160, 0, 7, 29, 167, 0, 4, 2, 172]
abbrev dktX0_outBy_3 : List UInt8 := dkwX0_outBy_3 ++ []
def dkwX0_outBy_2 : List UInt8 := [182, 1, 34, 158, 0, 6, 167, 0, 14, 29, 28, 160, 0, 6, 21, 4, 172, 132, 3, 1, 132, 4, 1]
abbrev dktX0_outBy_2 : List UInt8 := dkwX0_outBy_2 ++ dktX0_outBy_3
def dkwX0_outBy_1 : List UInt8 := [162, 0, 48, 42, 180, 0, 26, 180, 1, 20, 27, 50, 42, 180, 0, 26, 180, 0, 237, 21, 4, 50]
abbrev dktX0_outBy_1 : List UInt8 := dkwX0_outBy_1 ++ dktX0_outBy_2
def dkwX0_outBy_0 : List UInt8 := [42, 27, 182, 1, 31, 154, 0, 5, 2, 172, 3, 62, 3, 54, 4, 21, 4, 42, 180, 0, 26, 180, 0, 83]
abbrev dktX0_outBy_0 : List UInt8 := dkwX0_outBy_0 ++ dktX0_outBy_1
theorem dksX0_outBy_0 : cX0_outBy.data.toList.drop 0 = dktX0_outBy_0 := by decide +kernel
theorem dksX0_outBy_1 : cX0_outBy.data.toList.drop 24 = dktX0_outBy_1 := dk_seg dksX0_outBy_0 24 rfl rfl
theorem dksX0_outBy_2 : cX0_outBy.data.toList.drop 46 = dktX0_outBy_2 := dk_seg dksX0_outBy_1 22 rfl rfl
theorem dksX0_outBy_3 : cX0_outBy.data.toList.drop 69 = dktX0_outBy_3 := dk_seg dksX0_outBy_2 23 rfl rfl
theorem dX0_outBy_0 : decode cX0_outBy 0 = .ok (.aload_n 0, 1) := dk_42 (dk_at dksX0_outBy_0 0 rfl rfl)
theorem dX0_outBy_1 : decode cX0_outBy 1 = .ok (.iload_n 1, 1) := dk_27 (dk_at dksX0_outBy_0 1 rfl rfl)
theorem dX0_outBy_2 : decode cX0_outBy 2 = .ok (.invokevirtual 287, 3) := dk_182 1 31 (dk_at dksX0_outBy_0 2 rfl rfl)
theorem dX0_outBy_5 : decode cX0_outBy 5 = .ok (.ifCond .ne 5, 3) := dk_154 0 5 (dk_at dksX0_outBy_0 5 rfl rfl)
theorem dX0_outBy_8 : decode cX0_outBy 8 = .ok (.iconst (-1), 1) := dk_2 (dk_at dksX0_outBy_0 8 rfl rfl)
theorem dX0_outBy_9 : decode cX0_outBy 9 = .ok (.ireturn, 1) := dk_172 (dk_at dksX0_outBy_0 9 rfl rfl)
theorem dX0_outBy_10 : decode cX0_outBy 10 = .ok (.iconst 0, 1) := dk_3 (dk_at dksX0_outBy_0 10 rfl rfl)
theorem dX0_outBy_11 : decode cX0_outBy 11 = .ok (.istore_n 3, 1) := dk_62 (dk_at dksX0_outBy_0 11 rfl rfl)
theorem dX0_outBy_12 : decode cX0_outBy 12 = .ok (.iconst 0, 1) := dk_3 (dk_at dksX0_outBy_0 12 rfl rfl)
theorem dX0_outBy_13 : decode cX0_outBy 13 = .ok (.istore 4, 2) := dk_54 4 (dk_at dksX0_outBy_0 13 rfl rfl)
theorem dX0_outBy_15 : decode cX0_outBy 15 = .ok (.iload 4, 2) := dk_21 4 (dk_at dksX0_outBy_0 15 rfl rfl)
theorem dX0_outBy_17 : decode cX0_outBy 17 = .ok (.aload_n 0, 1) := dk_42 (dk_at dksX0_outBy_0 17 rfl rfl)
theorem dX0_outBy_18 : decode cX0_outBy 18 = .ok (.getfield 26, 3) := dk_180 0 26 (dk_at dksX0_outBy_0 18 rfl rfl)
theorem dX0_outBy_21 : decode cX0_outBy 21 = .ok (.getfield 83, 3) := dk_180 0 83 (dk_at dksX0_outBy_0 21 rfl rfl)
theorem dX0_outBy_24 : decode cX0_outBy 24 = .ok (.if_icmp .ge 48, 3) := dk_162 0 48 (dk_at dksX0_outBy_1 0 rfl rfl)
theorem dX0_outBy_27 : decode cX0_outBy 27 = .ok (.aload_n 0, 1) := dk_42 (dk_at dksX0_outBy_1 3 rfl rfl)
theorem dX0_outBy_28 : decode cX0_outBy 28 = .ok (.getfield 26, 3) := dk_180 0 26 (dk_at dksX0_outBy_1 4 rfl rfl)
theorem dX0_outBy_31 : decode cX0_outBy 31 = .ok (.getfield 276, 3) := dk_180 1 20 (dk_at dksX0_outBy_1 7 rfl rfl)
theorem dX0_outBy_34 : decode cX0_outBy 34 = .ok (.iload_n 1, 1) := dk_27 (dk_at dksX0_outBy_1 10 rfl rfl)
theorem dX0_outBy_35 : decode cX0_outBy 35 = .ok (.aaload, 1) := dk_50 (dk_at dksX0_outBy_1 11 rfl rfl)
theorem dX0_outBy_36 : decode cX0_outBy 36 = .ok (.aload_n 0, 1) := dk_42 (dk_at dksX0_outBy_1 12 rfl rfl)
theorem dX0_outBy_37 : decode cX0_outBy 37 = .ok (.getfield 26, 3) := dk_180 0 26 (dk_at dksX0_outBy_1 13 rfl rfl)
theorem dX0_outBy_40 : decode cX0_outBy 40 = .ok (.getfield 237, 3) := dk_180 0 237 (dk_at dksX0_outBy_1 16 rfl rfl)
theorem dX0_outBy_43 : decode cX0_outBy 43 = .ok (.iload 4, 2) := dk_21 4 (dk_at dksX0_outBy_1 19 rfl rfl)
theorem dX0_outBy_45 : decode cX0_outBy 45 = .ok (.aaload, 1) := dk_50 (dk_at dksX0_outBy_1 21 rfl rfl)
theorem dX0_outBy_46 : decode cX0_outBy 46 = .ok (.invokevirtual 290, 3) := dk_182 1 34 (dk_at dksX0_outBy_2 0 rfl rfl)
theorem dX0_outBy_49 : decode cX0_outBy 49 = .ok (.ifCond .le 6, 3) := dk_158 0 6 (dk_at dksX0_outBy_2 3 rfl rfl)
theorem dX0_outBy_52 : decode cX0_outBy 52 = .ok (.goto 14, 3) := dk_167 0 14 (dk_at dksX0_outBy_2 6 rfl rfl)
theorem dX0_outBy_55 : decode cX0_outBy 55 = .ok (.iload_n 3, 1) := dk_29 (dk_at dksX0_outBy_2 9 rfl rfl)
theorem dX0_outBy_56 : decode cX0_outBy 56 = .ok (.iload_n 2, 1) := dk_28 (dk_at dksX0_outBy_2 10 rfl rfl)
theorem dX0_outBy_57 : decode cX0_outBy 57 = .ok (.if_icmp .ne 6, 3) := dk_160 0 6 (dk_at dksX0_outBy_2 11 rfl rfl)
theorem dX0_outBy_60 : decode cX0_outBy 60 = .ok (.iload 4, 2) := dk_21 4 (dk_at dksX0_outBy_2 14 rfl rfl)
theorem dX0_outBy_62 : decode cX0_outBy 62 = .ok (.ireturn, 1) := dk_172 (dk_at dksX0_outBy_2 16 rfl rfl)
theorem dX0_outBy_63 : decode cX0_outBy 63 = .ok (.iinc 3 1, 3) := dk_132 3 1 (dk_at dksX0_outBy_2 17 rfl rfl)
theorem dX0_outBy_66 : decode cX0_outBy 66 = .ok (.iinc 4 1, 3) := dk_132 4 1 (dk_at dksX0_outBy_2 20 rfl rfl)
theorem dX0_outBy_69 : decode cX0_outBy 69 = .ok (.goto (-54), 3) := dk_167 255 202 (dk_at dksX0_outBy_3 0 rfl rfl)
theorem dX0_outBy_72 : decode cX0_outBy 72 = .ok (.iload_n 2, 1) := dk_28 (dk_at dksX0_outBy_3 3 rfl rfl)
theorem dX0_outBy_73 : decode cX0_outBy 73 = .ok (.iconst (-1), 1) := dk_2 (dk_at dksX0_outBy_3 4 rfl rfl)
theorem dX0_outBy_74 : decode cX0_outBy 74 = .ok (.if_icmp .ne 7, 3) := dk_160 0 7 (dk_at dksX0_outBy_3 5 rfl rfl)
theorem dX0_outBy_77 : decode cX0_outBy 77 = .ok (.iload_n 3, 1) := dk_29 (dk_at dksX0_outBy_3 8 rfl rfl)
theorem dX0_outBy_78 : decode cX0_outBy 78 = .ok (.goto 4, 3) := dk_167 0 4 (dk_at dksX0_outBy_3 9 rfl rfl)
theorem dX0_outBy_81 : decode cX0_outBy 81 = .ok (.iconst (-1), 1) := dk_2 (dk_at dksX0_outBy_3 12 rfl rfl)
theorem dX0_outBy_82 : decode cX0_outBy 82 = .ok (.ireturn, 1) := dk_172 (dk_at dksX0_outBy_3 13 rfl rfl)
abbrev cX0_worth : ByteArray := prog_1_method_44_code
def yX0_worth : MethodName := ⟨RX0, "worth", "(IIII)J"⟩
def dkwX0_worth_4 : List UInt8 := [55, 7, 132, 9, 1, 167, 255, 211, 22, 5, 22, 7, 21, 4, 184, 1, 56, 173]
abbrev dktX0_worth_4 : List UInt8 := dkwX0_worth_4 ++ []
def dkwX0_worth_3 : List UInt8 := [50, 42, 180, 0, 26, 180, 0, 237, 21, 9, 50, 182, 1, 34, 133, 105, 55, 5, 22, 7, 20, 0, 91, 105]
abbrev dktX0_worth_3 : List UInt8 := dkwX0_worth_3 ++ dktX0_worth_4
def dkwX0_worth_2 : List UInt8 := [55, 5, 10, 55, 7, 28, 54, 9, 21, 9, 29, 163, 0, 45, 22, 5, 42, 180, 0, 26, 180, 1, 20, 27]
abbrev dktX0_worth_2 : List UInt8 := dkwX0_worth_2 ++ dktX0_worth_3
def dkwX0_worth_1 : List UInt8 := [153, 0, 19, 29, 28, 100, 16, 9, 162, 0, 11, 21, 4, 184, 1, 51, 154, 0, 7, 20, 1, 54, 173, 10]
abbrev dktX0_worth_1 : List UInt8 := dkwX0_worth_1 ++ dktX0_worth_2
def dkwX0_worth_0 : List UInt8 := [42, 27, 182, 1, 31, 153, 0, 38, 42, 29, 182, 1, 5, 153, 0, 30, 28, 133, 9, 29, 133, 184, 0, 5]
abbrev dktX0_worth_0 : List UInt8 := dkwX0_worth_0 ++ dktX0_worth_1
theorem dksX0_worth_0 : cX0_worth.data.toList.drop 0 = dktX0_worth_0 := by decide +kernel
theorem dksX0_worth_1 : cX0_worth.data.toList.drop 24 = dktX0_worth_1 := dk_seg dksX0_worth_0 24 rfl rfl
theorem dksX0_worth_2 : cX0_worth.data.toList.drop 48 = dktX0_worth_2 := dk_seg dksX0_worth_1 24 rfl rfl
theorem dksX0_worth_3 : cX0_worth.data.toList.drop 72 = dktX0_worth_3 := dk_seg dksX0_worth_2 24 rfl rfl
theorem dksX0_worth_4 : cX0_worth.data.toList.drop 96 = dktX0_worth_4 := dk_seg dksX0_worth_3 24 rfl rfl
theorem dX0_worth_0 : decode cX0_worth 0 = .ok (.aload_n 0, 1) := dk_42 (dk_at dksX0_worth_0 0 rfl rfl)
theorem dX0_worth_1 : decode cX0_worth 1 = .ok (.iload_n 1, 1) := dk_27 (dk_at dksX0_worth_0 1 rfl rfl)
theorem dX0_worth_2 : decode cX0_worth 2 = .ok (.invokevirtual 287, 3) := dk_182 1 31 (dk_at dksX0_worth_0 2 rfl rfl)
theorem dX0_worth_5 : decode cX0_worth 5 = .ok (.ifCond .eq 38, 3) := dk_153 0 38 (dk_at dksX0_worth_0 5 rfl rfl)
theorem dX0_worth_8 : decode cX0_worth 8 = .ok (.aload_n 0, 1) := dk_42 (dk_at dksX0_worth_0 8 rfl rfl)
theorem dX0_worth_9 : decode cX0_worth 9 = .ok (.iload_n 3, 1) := dk_29 (dk_at dksX0_worth_0 9 rfl rfl)
theorem dX0_worth_10 : decode cX0_worth 10 = .ok (.invokevirtual 261, 3) := dk_182 1 5 (dk_at dksX0_worth_0 10 rfl rfl)
theorem dX0_worth_13 : decode cX0_worth 13 = .ok (.ifCond .eq 30, 3) := dk_153 0 30 (dk_at dksX0_worth_0 13 rfl rfl)
theorem dX0_worth_16 : decode cX0_worth 16 = .ok (.iload_n 2, 1) := dk_28 (dk_at dksX0_worth_0 16 rfl rfl)
theorem dX0_worth_17 : decode cX0_worth 17 = .ok (.i2l, 1) := dk_133 (dk_at dksX0_worth_0 17 rfl rfl)
theorem dX0_worth_18 : decode cX0_worth 18 = .ok (.lconst 0, 1) := dk_9 (dk_at dksX0_worth_0 18 rfl rfl)
theorem dX0_worth_19 : decode cX0_worth 19 = .ok (.iload_n 3, 1) := dk_29 (dk_at dksX0_worth_0 19 rfl rfl)
theorem dX0_worth_20 : decode cX0_worth 20 = .ok (.i2l, 1) := dk_133 (dk_at dksX0_worth_0 20 rfl rfl)
theorem dX0_worth_21 : decode cX0_worth 21 = .ok (.invokestatic 5, 3) := dk_184 0 5 (dk_at dksX0_worth_0 21 rfl rfl)
theorem dX0_worth_24 : decode cX0_worth 24 = .ok (.ifCond .eq 19, 3) := dk_153 0 19 (dk_at dksX0_worth_1 0 rfl rfl)
theorem dX0_worth_27 : decode cX0_worth 27 = .ok (.iload_n 3, 1) := dk_29 (dk_at dksX0_worth_1 3 rfl rfl)
theorem dX0_worth_28 : decode cX0_worth 28 = .ok (.iload_n 2, 1) := dk_28 (dk_at dksX0_worth_1 4 rfl rfl)
theorem dX0_worth_29 : decode cX0_worth 29 = .ok (.isub, 1) := dk_100 (dk_at dksX0_worth_1 5 rfl rfl)
theorem dX0_worth_30 : decode cX0_worth 30 = .ok (.bipush 9, 2) := dk_16 9 (dk_at dksX0_worth_1 6 rfl rfl)
theorem dX0_worth_32 : decode cX0_worth 32 = .ok (.if_icmp .ge 11, 3) := dk_162 0 11 (dk_at dksX0_worth_1 8 rfl rfl)
theorem dX0_worth_35 : decode cX0_worth 35 = .ok (.iload 4, 2) := dk_21 4 (dk_at dksX0_worth_1 11 rfl rfl)
theorem dX0_worth_37 : decode cX0_worth 37 = .ok (.invokestatic 307, 3) := dk_184 1 51 (dk_at dksX0_worth_1 13 rfl rfl)
theorem dX0_worth_40 : decode cX0_worth 40 = .ok (.ifCond .ne 7, 3) := dk_154 0 7 (dk_at dksX0_worth_1 16 rfl rfl)
theorem dX0_worth_43 : decode cX0_worth 43 = .ok (.ldc2_w 310, 3) := dk_20 1 54 (dk_at dksX0_worth_1 19 rfl rfl)
theorem dX0_worth_46 : decode cX0_worth 46 = .ok (.lreturn, 1) := dk_173 (dk_at dksX0_worth_1 22 rfl rfl)
theorem dX0_worth_47 : decode cX0_worth 47 = .ok (.lconst 1, 1) := dk_10 (dk_at dksX0_worth_1 23 rfl rfl)
theorem dX0_worth_48 : decode cX0_worth 48 = .ok (.lstore 5, 2) := dk_55 5 (dk_at dksX0_worth_2 0 rfl rfl)
theorem dX0_worth_50 : decode cX0_worth 50 = .ok (.lconst 1, 1) := dk_10 (dk_at dksX0_worth_2 2 rfl rfl)
theorem dX0_worth_51 : decode cX0_worth 51 = .ok (.lstore 7, 2) := dk_55 7 (dk_at dksX0_worth_2 3 rfl rfl)
theorem dX0_worth_53 : decode cX0_worth 53 = .ok (.iload_n 2, 1) := dk_28 (dk_at dksX0_worth_2 5 rfl rfl)
theorem dX0_worth_54 : decode cX0_worth 54 = .ok (.istore 9, 2) := dk_54 9 (dk_at dksX0_worth_2 6 rfl rfl)
theorem dX0_worth_56 : decode cX0_worth 56 = .ok (.iload 9, 2) := dk_21 9 (dk_at dksX0_worth_2 8 rfl rfl)
theorem dX0_worth_58 : decode cX0_worth 58 = .ok (.iload_n 3, 1) := dk_29 (dk_at dksX0_worth_2 10 rfl rfl)
theorem dX0_worth_59 : decode cX0_worth 59 = .ok (.if_icmp .gt 45, 3) := dk_163 0 45 (dk_at dksX0_worth_2 11 rfl rfl)
theorem dX0_worth_62 : decode cX0_worth 62 = .ok (.lload 5, 2) := dk_22 5 (dk_at dksX0_worth_2 14 rfl rfl)
theorem dX0_worth_64 : decode cX0_worth 64 = .ok (.aload_n 0, 1) := dk_42 (dk_at dksX0_worth_2 16 rfl rfl)
theorem dX0_worth_65 : decode cX0_worth 65 = .ok (.getfield 26, 3) := dk_180 0 26 (dk_at dksX0_worth_2 17 rfl rfl)
theorem dX0_worth_68 : decode cX0_worth 68 = .ok (.getfield 276, 3) := dk_180 1 20 (dk_at dksX0_worth_2 20 rfl rfl)
theorem dX0_worth_71 : decode cX0_worth 71 = .ok (.iload_n 1, 1) := dk_27 (dk_at dksX0_worth_2 23 rfl rfl)
theorem dX0_worth_72 : decode cX0_worth 72 = .ok (.aaload, 1) := dk_50 (dk_at dksX0_worth_3 0 rfl rfl)
theorem dX0_worth_73 : decode cX0_worth 73 = .ok (.aload_n 0, 1) := dk_42 (dk_at dksX0_worth_3 1 rfl rfl)
theorem dX0_worth_74 : decode cX0_worth 74 = .ok (.getfield 26, 3) := dk_180 0 26 (dk_at dksX0_worth_3 2 rfl rfl)
theorem dX0_worth_77 : decode cX0_worth 77 = .ok (.getfield 237, 3) := dk_180 0 237 (dk_at dksX0_worth_3 5 rfl rfl)
theorem dX0_worth_80 : decode cX0_worth 80 = .ok (.iload 9, 2) := dk_21 9 (dk_at dksX0_worth_3 8 rfl rfl)
theorem dX0_worth_82 : decode cX0_worth 82 = .ok (.aaload, 1) := dk_50 (dk_at dksX0_worth_3 10 rfl rfl)
theorem dX0_worth_83 : decode cX0_worth 83 = .ok (.invokevirtual 290, 3) := dk_182 1 34 (dk_at dksX0_worth_3 11 rfl rfl)
theorem dX0_worth_86 : decode cX0_worth 86 = .ok (.i2l, 1) := dk_133 (dk_at dksX0_worth_3 14 rfl rfl)
theorem dX0_worth_87 : decode cX0_worth 87 = .ok (.lmul, 1) := dk_105 (dk_at dksX0_worth_3 15 rfl rfl)
theorem dX0_worth_88 : decode cX0_worth 88 = .ok (.lstore 5, 2) := dk_55 5 (dk_at dksX0_worth_3 16 rfl rfl)
theorem dX0_worth_90 : decode cX0_worth 90 = .ok (.lload 7, 2) := dk_22 7 (dk_at dksX0_worth_3 18 rfl rfl)
theorem dX0_worth_92 : decode cX0_worth 92 = .ok (.ldc2_w 91, 3) := dk_20 0 91 (dk_at dksX0_worth_3 20 rfl rfl)
theorem dX0_worth_95 : decode cX0_worth 95 = .ok (.lmul, 1) := dk_105 (dk_at dksX0_worth_3 23 rfl rfl)
theorem dX0_worth_96 : decode cX0_worth 96 = .ok (.lstore 7, 2) := dk_55 7 (dk_at dksX0_worth_4 0 rfl rfl)
theorem dX0_worth_98 : decode cX0_worth 98 = .ok (.iinc 9 1, 3) := dk_132 9 1 (dk_at dksX0_worth_4 2 rfl rfl)
theorem dX0_worth_101 : decode cX0_worth 101 = .ok (.goto (-45), 3) := dk_167 255 211 (dk_at dksX0_worth_4 5 rfl rfl)
theorem dX0_worth_104 : decode cX0_worth 104 = .ok (.lload 5, 2) := dk_22 5 (dk_at dksX0_worth_4 8 rfl rfl)
theorem dX0_worth_106 : decode cX0_worth 106 = .ok (.lload 7, 2) := dk_22 7 (dk_at dksX0_worth_4 10 rfl rfl)
theorem dX0_worth_108 : decode cX0_worth 108 = .ok (.iload 4, 2) := dk_21 4 (dk_at dksX0_worth_4 12 rfl rfl)
theorem dX0_worth_110 : decode cX0_worth 110 = .ok (.invokestatic 312, 3) := dk_184 1 56 (dk_at dksX0_worth_4 14 rfl rfl)
theorem dX0_worth_113 : decode cX0_worth 113 = .ok (.lreturn, 1) := dk_173 (dk_at dksX0_worth_4 17 rfl rfl)
abbrev cX0_isPart : ByteArray := prog_1_method_43_code
def yX0_isPart : MethodName := ⟨RX0, "isPart", "(I)Z"⟩
def dkwX0_isPart_0 : List UInt8 := [26, 133, 9, 10, 184, 0, 5, 172]
abbrev dktX0_isPart_0 : List UInt8 := dkwX0_isPart_0 ++ []
theorem dksX0_isPart_0 : cX0_isPart.data.toList.drop 0 = dktX0_isPart_0 := by decide +kernel
theorem dX0_isPart_0 : decode cX0_isPart 0 = .ok (.iload_n 0, 1) := dk_26 (dk_at dksX0_isPart_0 0 rfl rfl)
theorem dX0_isPart_1 : decode cX0_isPart 1 = .ok (.i2l, 1) := dk_133 (dk_at dksX0_isPart_0 1 rfl rfl)
theorem dX0_isPart_2 : decode cX0_isPart 2 = .ok (.lconst 0, 1) := dk_9 (dk_at dksX0_isPart_0 2 rfl rfl)
theorem dX0_isPart_3 : decode cX0_isPart 3 = .ok (.lconst 1, 1) := dk_10 (dk_at dksX0_isPart_0 3 rfl rfl)
theorem dX0_isPart_4 : decode cX0_isPart 4 = .ok (.invokestatic 5, 3) := dk_184 0 5 (dk_at dksX0_isPart_0 4 rfl rfl)
theorem dX0_isPart_7 : decode cX0_isPart 7 = .ok (.ireturn, 1) := dk_172 (dk_at dksX0_isPart_0 7 rfl rfl)
abbrev cX0_lowest : ByteArray := prog_1_method_42_code
def yX0_lowest : MethodName := ⟨RX0, "lowest", "(JJI)J"⟩
def dkwX0_lowest_1 : List UInt8 := [22, 5, 109, 167, 0, 7, 32, 22, 5, 109, 173]
abbrev dktX0_lowest_1 : List UInt8 := dkwX0_lowest_1 ++ []
def dkwX0_lowest_0 : List UInt8 := [30, 9, 148, 154, 0, 7, 21, 4, 133, 173, 30, 32, 184, 1, 47, 55, 5, 21, 4, 154, 0, 10, 30]
abbrev dktX0_lowest_0 : List UInt8 := dkwX0_lowest_0 ++ dktX0_lowest_1
theorem dksX0_lowest_0 : cX0_lowest.data.toList.drop 0 = dktX0_lowest_0 := by decide +kernel
theorem dksX0_lowest_1 : cX0_lowest.data.toList.drop 23 = dktX0_lowest_1 := dk_seg dksX0_lowest_0 23 rfl rfl
theorem dX0_lowest_0 : decode cX0_lowest 0 = .ok (.lload_n 0, 1) := dk_30 (dk_at dksX0_lowest_0 0 rfl rfl)
theorem dX0_lowest_1 : decode cX0_lowest 1 = .ok (.lconst 0, 1) := dk_9 (dk_at dksX0_lowest_0 1 rfl rfl)
theorem dX0_lowest_2 : decode cX0_lowest 2 = .ok (.lcmp, 1) := dk_148 (dk_at dksX0_lowest_0 2 rfl rfl)
theorem dX0_lowest_3 : decode cX0_lowest 3 = .ok (.ifCond .ne 7, 3) := dk_154 0 7 (dk_at dksX0_lowest_0 3 rfl rfl)
theorem dX0_lowest_6 : decode cX0_lowest 6 = .ok (.iload 4, 2) := dk_21 4 (dk_at dksX0_lowest_0 6 rfl rfl)
theorem dX0_lowest_8 : decode cX0_lowest 8 = .ok (.i2l, 1) := dk_133 (dk_at dksX0_lowest_0 8 rfl rfl)
theorem dX0_lowest_9 : decode cX0_lowest 9 = .ok (.lreturn, 1) := dk_173 (dk_at dksX0_lowest_0 9 rfl rfl)
theorem dX0_lowest_10 : decode cX0_lowest 10 = .ok (.lload_n 0, 1) := dk_30 (dk_at dksX0_lowest_0 10 rfl rfl)
theorem dX0_lowest_11 : decode cX0_lowest 11 = .ok (.lload_n 2, 1) := dk_32 (dk_at dksX0_lowest_0 11 rfl rfl)
theorem dX0_lowest_12 : decode cX0_lowest 12 = .ok (.invokestatic 303, 3) := dk_184 1 47 (dk_at dksX0_lowest_0 12 rfl rfl)
theorem dX0_lowest_15 : decode cX0_lowest 15 = .ok (.lstore 5, 2) := dk_55 5 (dk_at dksX0_lowest_0 15 rfl rfl)
theorem dX0_lowest_17 : decode cX0_lowest 17 = .ok (.iload 4, 2) := dk_21 4 (dk_at dksX0_lowest_0 17 rfl rfl)
theorem dX0_lowest_19 : decode cX0_lowest 19 = .ok (.ifCond .ne 10, 3) := dk_154 0 10 (dk_at dksX0_lowest_0 19 rfl rfl)
theorem dX0_lowest_22 : decode cX0_lowest 22 = .ok (.lload_n 0, 1) := dk_30 (dk_at dksX0_lowest_0 22 rfl rfl)
theorem dX0_lowest_23 : decode cX0_lowest 23 = .ok (.lload 5, 2) := dk_22 5 (dk_at dksX0_lowest_1 0 rfl rfl)
theorem dX0_lowest_25 : decode cX0_lowest 25 = .ok (.ldiv, 1) := dk_109 (dk_at dksX0_lowest_1 2 rfl rfl)
theorem dX0_lowest_26 : decode cX0_lowest 26 = .ok (.goto 7, 3) := dk_167 0 7 (dk_at dksX0_lowest_1 3 rfl rfl)
theorem dX0_lowest_29 : decode cX0_lowest 29 = .ok (.lload_n 2, 1) := dk_32 (dk_at dksX0_lowest_1 6 rfl rfl)
theorem dX0_lowest_30 : decode cX0_lowest 30 = .ok (.lload 5, 2) := dk_22 5 (dk_at dksX0_lowest_1 7 rfl rfl)
theorem dX0_lowest_32 : decode cX0_lowest 32 = .ok (.ldiv, 1) := dk_109 (dk_at dksX0_lowest_1 9 rfl rfl)
theorem dX0_lowest_33 : decode cX0_lowest 33 = .ok (.lreturn, 1) := dk_173 (dk_at dksX0_lowest_1 10 rfl rfl)
abbrev cX0_common : ByteArray := prog_1_method_41_code
def yX0_common : MethodName := ⟨RX0, "common", "(JJ)J"⟩
def dkwX0_common_1 : List UInt8 := [22, 8, 55, 6, 167, 255, 234, 22, 4, 173]
abbrev dktX0_common_1 : List UInt8 := dkwX0_common_1 ++ []
def dkwX0_common_0 : List UInt8 := [30, 55, 4, 32, 55, 6, 22, 6, 9, 148, 153, 0, 21, 22, 4, 22, 6, 113, 55, 8, 22, 6, 55, 4]
abbrev dktX0_common_0 : List UInt8 := dkwX0_common_0 ++ dktX0_common_1
theorem dksX0_common_0 : cX0_common.data.toList.drop 0 = dktX0_common_0 := by decide +kernel
theorem dksX0_common_1 : cX0_common.data.toList.drop 24 = dktX0_common_1 := dk_seg dksX0_common_0 24 rfl rfl
theorem dX0_common_0 : decode cX0_common 0 = .ok (.lload_n 0, 1) := dk_30 (dk_at dksX0_common_0 0 rfl rfl)
theorem dX0_common_1 : decode cX0_common 1 = .ok (.lstore 4, 2) := dk_55 4 (dk_at dksX0_common_0 1 rfl rfl)
theorem dX0_common_3 : decode cX0_common 3 = .ok (.lload_n 2, 1) := dk_32 (dk_at dksX0_common_0 3 rfl rfl)
theorem dX0_common_4 : decode cX0_common 4 = .ok (.lstore 6, 2) := dk_55 6 (dk_at dksX0_common_0 4 rfl rfl)
theorem dX0_common_6 : decode cX0_common 6 = .ok (.lload 6, 2) := dk_22 6 (dk_at dksX0_common_0 6 rfl rfl)
theorem dX0_common_8 : decode cX0_common 8 = .ok (.lconst 0, 1) := dk_9 (dk_at dksX0_common_0 8 rfl rfl)
theorem dX0_common_9 : decode cX0_common 9 = .ok (.lcmp, 1) := dk_148 (dk_at dksX0_common_0 9 rfl rfl)
theorem dX0_common_10 : decode cX0_common 10 = .ok (.ifCond .eq 21, 3) := dk_153 0 21 (dk_at dksX0_common_0 10 rfl rfl)
theorem dX0_common_13 : decode cX0_common 13 = .ok (.lload 4, 2) := dk_22 4 (dk_at dksX0_common_0 13 rfl rfl)
theorem dX0_common_15 : decode cX0_common 15 = .ok (.lload 6, 2) := dk_22 6 (dk_at dksX0_common_0 15 rfl rfl)
theorem dX0_common_17 : decode cX0_common 17 = .ok (.lrem, 1) := dk_113 (dk_at dksX0_common_0 17 rfl rfl)
theorem dX0_common_18 : decode cX0_common 18 = .ok (.lstore 8, 2) := dk_55 8 (dk_at dksX0_common_0 18 rfl rfl)
theorem dX0_common_20 : decode cX0_common 20 = .ok (.lload 6, 2) := dk_22 6 (dk_at dksX0_common_0 20 rfl rfl)
theorem dX0_common_22 : decode cX0_common 22 = .ok (.lstore 4, 2) := dk_55 4 (dk_at dksX0_common_0 22 rfl rfl)
theorem dX0_common_24 : decode cX0_common 24 = .ok (.lload 8, 2) := dk_22 8 (dk_at dksX0_common_1 0 rfl rfl)
theorem dX0_common_26 : decode cX0_common 26 = .ok (.lstore 6, 2) := dk_55 6 (dk_at dksX0_common_1 2 rfl rfl)
theorem dX0_common_28 : decode cX0_common 28 = .ok (.goto (-22), 3) := dk_167 255 234 (dk_at dksX0_common_1 4 rfl rfl)
theorem dX0_common_31 : decode cX0_common 31 = .ok (.lload 4, 2) := dk_22 4 (dk_at dksX0_common_1 7 rfl rfl)
theorem dX0_common_33 : decode cX0_common 33 = .ok (.lreturn, 1) := dk_173 (dk_at dksX0_common_1 9 rfl rfl)
abbrev cX0_answer : ByteArray := prog_1_method_45_code
def yX0_answer : MethodName := ⟨RX0, "answer", "(II)I"⟩
def dkwX0_answer_2 : List UInt8 := [180, 0, 26, 180, 1, 20, 27, 50, 45, 182, 1, 64, 167, 0, 4, 3, 172]
abbrev dktX0_answer_2 : List UInt8 := dkwX0_answer_2 ++ []
def dkwX0_answer_1 : List UInt8 := [180, 0, 237, 28, 50, 78, 42, 180, 0, 26, 180, 1, 20, 27, 50, 45, 182, 1, 60, 153, 0, 19, 42]
abbrev dktX0_answer_1 : List UInt8 := dkwX0_answer_1 ++ dktX0_answer_2
def dkwX0_answer_0 : List UInt8 := [42, 27, 182, 1, 31, 153, 0, 11, 42, 28, 182, 1, 5, 154, 0, 5, 2, 172, 42, 180, 0, 26]
abbrev dktX0_answer_0 : List UInt8 := dkwX0_answer_0 ++ dktX0_answer_1
theorem dksX0_answer_0 : cX0_answer.data.toList.drop 0 = dktX0_answer_0 := by decide +kernel
theorem dksX0_answer_1 : cX0_answer.data.toList.drop 22 = dktX0_answer_1 := dk_seg dksX0_answer_0 22 rfl rfl
theorem dksX0_answer_2 : cX0_answer.data.toList.drop 45 = dktX0_answer_2 := dk_seg dksX0_answer_1 23 rfl rfl
theorem dX0_answer_0 : decode cX0_answer 0 = .ok (.aload_n 0, 1) := dk_42 (dk_at dksX0_answer_0 0 rfl rfl)
theorem dX0_answer_1 : decode cX0_answer 1 = .ok (.iload_n 1, 1) := dk_27 (dk_at dksX0_answer_0 1 rfl rfl)
theorem dX0_answer_2 : decode cX0_answer 2 = .ok (.invokevirtual 287, 3) := dk_182 1 31 (dk_at dksX0_answer_0 2 rfl rfl)
theorem dX0_answer_5 : decode cX0_answer 5 = .ok (.ifCond .eq 11, 3) := dk_153 0 11 (dk_at dksX0_answer_0 5 rfl rfl)
theorem dX0_answer_8 : decode cX0_answer 8 = .ok (.aload_n 0, 1) := dk_42 (dk_at dksX0_answer_0 8 rfl rfl)
theorem dX0_answer_9 : decode cX0_answer 9 = .ok (.iload_n 2, 1) := dk_28 (dk_at dksX0_answer_0 9 rfl rfl)
theorem dX0_answer_10 : decode cX0_answer 10 = .ok (.invokevirtual 261, 3) := dk_182 1 5 (dk_at dksX0_answer_0 10 rfl rfl)
theorem dX0_answer_13 : decode cX0_answer 13 = .ok (.ifCond .ne 5, 3) := dk_154 0 5 (dk_at dksX0_answer_0 13 rfl rfl)
theorem dX0_answer_16 : decode cX0_answer 16 = .ok (.iconst (-1), 1) := dk_2 (dk_at dksX0_answer_0 16 rfl rfl)
theorem dX0_answer_17 : decode cX0_answer 17 = .ok (.ireturn, 1) := dk_172 (dk_at dksX0_answer_0 17 rfl rfl)
theorem dX0_answer_18 : decode cX0_answer 18 = .ok (.aload_n 0, 1) := dk_42 (dk_at dksX0_answer_0 18 rfl rfl)
theorem dX0_answer_19 : decode cX0_answer 19 = .ok (.getfield 26, 3) := dk_180 0 26 (dk_at dksX0_answer_0 19 rfl rfl)
theorem dX0_answer_22 : decode cX0_answer 22 = .ok (.getfield 237, 3) := dk_180 0 237 (dk_at dksX0_answer_1 0 rfl rfl)
theorem dX0_answer_25 : decode cX0_answer 25 = .ok (.iload_n 2, 1) := dk_28 (dk_at dksX0_answer_1 3 rfl rfl)
theorem dX0_answer_26 : decode cX0_answer 26 = .ok (.aaload, 1) := dk_50 (dk_at dksX0_answer_1 4 rfl rfl)
theorem dX0_answer_27 : decode cX0_answer 27 = .ok (.astore_n 3, 1) := dk_78 (dk_at dksX0_answer_1 5 rfl rfl)
theorem dX0_answer_28 : decode cX0_answer 28 = .ok (.aload_n 0, 1) := dk_42 (dk_at dksX0_answer_1 6 rfl rfl)
theorem dX0_answer_29 : decode cX0_answer 29 = .ok (.getfield 26, 3) := dk_180 0 26 (dk_at dksX0_answer_1 7 rfl rfl)
theorem dX0_answer_32 : decode cX0_answer 32 = .ok (.getfield 276, 3) := dk_180 1 20 (dk_at dksX0_answer_1 10 rfl rfl)
theorem dX0_answer_35 : decode cX0_answer 35 = .ok (.iload_n 1, 1) := dk_27 (dk_at dksX0_answer_1 13 rfl rfl)
theorem dX0_answer_36 : decode cX0_answer 36 = .ok (.aaload, 1) := dk_50 (dk_at dksX0_answer_1 14 rfl rfl)
theorem dX0_answer_37 : decode cX0_answer 37 = .ok (.aload_n 3, 1) := dk_45 (dk_at dksX0_answer_1 15 rfl rfl)
theorem dX0_answer_38 : decode cX0_answer 38 = .ok (.invokevirtual 316, 3) := dk_182 1 60 (dk_at dksX0_answer_1 16 rfl rfl)
theorem dX0_answer_41 : decode cX0_answer 41 = .ok (.ifCond .eq 19, 3) := dk_153 0 19 (dk_at dksX0_answer_1 19 rfl rfl)
theorem dX0_answer_44 : decode cX0_answer 44 = .ok (.aload_n 0, 1) := dk_42 (dk_at dksX0_answer_1 22 rfl rfl)
theorem dX0_answer_45 : decode cX0_answer 45 = .ok (.getfield 26, 3) := dk_180 0 26 (dk_at dksX0_answer_2 0 rfl rfl)
theorem dX0_answer_48 : decode cX0_answer 48 = .ok (.getfield 276, 3) := dk_180 1 20 (dk_at dksX0_answer_2 3 rfl rfl)
theorem dX0_answer_51 : decode cX0_answer 51 = .ok (.iload_n 1, 1) := dk_27 (dk_at dksX0_answer_2 6 rfl rfl)
theorem dX0_answer_52 : decode cX0_answer 52 = .ok (.aaload, 1) := dk_50 (dk_at dksX0_answer_2 7 rfl rfl)
theorem dX0_answer_53 : decode cX0_answer 53 = .ok (.aload_n 3, 1) := dk_45 (dk_at dksX0_answer_2 8 rfl rfl)
theorem dX0_answer_54 : decode cX0_answer 54 = .ok (.invokevirtual 320, 3) := dk_182 1 64 (dk_at dksX0_answer_2 9 rfl rfl)
theorem dX0_answer_57 : decode cX0_answer 57 = .ok (.goto 4, 3) := dk_167 0 4 (dk_at dksX0_answer_2 12 rfl rfl)
theorem dX0_answer_60 : decode cX0_answer 60 = .ok (.iconst 0, 1) := dk_3 (dk_at dksX0_answer_2 15 rfl rfl)
theorem dX0_answer_61 : decode cX0_answer 61 = .ok (.ireturn, 1) := dk_172 (dk_at dksX0_answer_2 16 rfl rfl)
abbrev cX0_saves : ByteArray := prog_1_method_46_code
def yX0_saves : MethodName := ⟨RX0, "saves", "(I)I"⟩
def dkwX0_saves_2 : List UInt8 := [132, 3, 1, 167, 255, 221, 28, 172]
abbrev dktX0_saves_2 : List UInt8 := dkwX0_saves_2 ++ []
def dkwX0_saves_1 : List UInt8 := [162, 0, 30, 42, 27, 29, 182, 1, 67, 54, 4, 21, 4, 2, 160, 0, 5, 2, 172, 28, 21, 4, 96, 61]
abbrev dktX0_saves_1 : List UInt8 := dkwX0_saves_1 ++ dktX0_saves_2
def dkwX0_saves_0 : List UInt8 := [42, 27, 182, 1, 31, 154, 0, 5, 2, 172, 3, 61, 3, 62, 29, 42, 180, 0, 26, 180, 0, 83]
abbrev dktX0_saves_0 : List UInt8 := dkwX0_saves_0 ++ dktX0_saves_1
theorem dksX0_saves_0 : cX0_saves.data.toList.drop 0 = dktX0_saves_0 := by decide +kernel
theorem dksX0_saves_1 : cX0_saves.data.toList.drop 22 = dktX0_saves_1 := dk_seg dksX0_saves_0 22 rfl rfl
theorem dksX0_saves_2 : cX0_saves.data.toList.drop 46 = dktX0_saves_2 := dk_seg dksX0_saves_1 24 rfl rfl
theorem dX0_saves_0 : decode cX0_saves 0 = .ok (.aload_n 0, 1) := dk_42 (dk_at dksX0_saves_0 0 rfl rfl)
theorem dX0_saves_1 : decode cX0_saves 1 = .ok (.iload_n 1, 1) := dk_27 (dk_at dksX0_saves_0 1 rfl rfl)
theorem dX0_saves_2 : decode cX0_saves 2 = .ok (.invokevirtual 287, 3) := dk_182 1 31 (dk_at dksX0_saves_0 2 rfl rfl)
theorem dX0_saves_5 : decode cX0_saves 5 = .ok (.ifCond .ne 5, 3) := dk_154 0 5 (dk_at dksX0_saves_0 5 rfl rfl)
theorem dX0_saves_8 : decode cX0_saves 8 = .ok (.iconst (-1), 1) := dk_2 (dk_at dksX0_saves_0 8 rfl rfl)
theorem dX0_saves_9 : decode cX0_saves 9 = .ok (.ireturn, 1) := dk_172 (dk_at dksX0_saves_0 9 rfl rfl)
theorem dX0_saves_10 : decode cX0_saves 10 = .ok (.iconst 0, 1) := dk_3 (dk_at dksX0_saves_0 10 rfl rfl)
theorem dX0_saves_11 : decode cX0_saves 11 = .ok (.istore_n 2, 1) := dk_61 (dk_at dksX0_saves_0 11 rfl rfl)
theorem dX0_saves_12 : decode cX0_saves 12 = .ok (.iconst 0, 1) := dk_3 (dk_at dksX0_saves_0 12 rfl rfl)
theorem dX0_saves_13 : decode cX0_saves 13 = .ok (.istore_n 3, 1) := dk_62 (dk_at dksX0_saves_0 13 rfl rfl)
theorem dX0_saves_14 : decode cX0_saves 14 = .ok (.iload_n 3, 1) := dk_29 (dk_at dksX0_saves_0 14 rfl rfl)
theorem dX0_saves_15 : decode cX0_saves 15 = .ok (.aload_n 0, 1) := dk_42 (dk_at dksX0_saves_0 15 rfl rfl)
theorem dX0_saves_16 : decode cX0_saves 16 = .ok (.getfield 26, 3) := dk_180 0 26 (dk_at dksX0_saves_0 16 rfl rfl)
theorem dX0_saves_19 : decode cX0_saves 19 = .ok (.getfield 83, 3) := dk_180 0 83 (dk_at dksX0_saves_0 19 rfl rfl)
theorem dX0_saves_22 : decode cX0_saves 22 = .ok (.if_icmp .ge 30, 3) := dk_162 0 30 (dk_at dksX0_saves_1 0 rfl rfl)
theorem dX0_saves_25 : decode cX0_saves 25 = .ok (.aload_n 0, 1) := dk_42 (dk_at dksX0_saves_1 3 rfl rfl)
theorem dX0_saves_26 : decode cX0_saves 26 = .ok (.iload_n 1, 1) := dk_27 (dk_at dksX0_saves_1 4 rfl rfl)
theorem dX0_saves_27 : decode cX0_saves 27 = .ok (.iload_n 3, 1) := dk_29 (dk_at dksX0_saves_1 5 rfl rfl)
theorem dX0_saves_28 : decode cX0_saves 28 = .ok (.invokevirtual 323, 3) := dk_182 1 67 (dk_at dksX0_saves_1 6 rfl rfl)
theorem dX0_saves_31 : decode cX0_saves 31 = .ok (.istore 4, 2) := dk_54 4 (dk_at dksX0_saves_1 9 rfl rfl)
theorem dX0_saves_33 : decode cX0_saves 33 = .ok (.iload 4, 2) := dk_21 4 (dk_at dksX0_saves_1 11 rfl rfl)
theorem dX0_saves_35 : decode cX0_saves 35 = .ok (.iconst (-1), 1) := dk_2 (dk_at dksX0_saves_1 13 rfl rfl)
theorem dX0_saves_36 : decode cX0_saves 36 = .ok (.if_icmp .ne 5, 3) := dk_160 0 5 (dk_at dksX0_saves_1 14 rfl rfl)
theorem dX0_saves_39 : decode cX0_saves 39 = .ok (.iconst (-1), 1) := dk_2 (dk_at dksX0_saves_1 17 rfl rfl)
theorem dX0_saves_40 : decode cX0_saves 40 = .ok (.ireturn, 1) := dk_172 (dk_at dksX0_saves_1 18 rfl rfl)
theorem dX0_saves_41 : decode cX0_saves 41 = .ok (.iload_n 2, 1) := dk_28 (dk_at dksX0_saves_1 19 rfl rfl)
theorem dX0_saves_42 : decode cX0_saves 42 = .ok (.iload 4, 2) := dk_21 4 (dk_at dksX0_saves_1 20 rfl rfl)
theorem dX0_saves_44 : decode cX0_saves 44 = .ok (.iadd, 1) := dk_96 (dk_at dksX0_saves_1 22 rfl rfl)
theorem dX0_saves_45 : decode cX0_saves 45 = .ok (.istore_n 2, 1) := dk_61 (dk_at dksX0_saves_1 23 rfl rfl)
theorem dX0_saves_46 : decode cX0_saves 46 = .ok (.iinc 3 1, 3) := dk_132 3 1 (dk_at dksX0_saves_2 0 rfl rfl)
theorem dX0_saves_49 : decode cX0_saves 49 = .ok (.goto (-35), 3) := dk_167 255 221 (dk_at dksX0_saves_2 3 rfl rfl)
theorem dX0_saves_52 : decode cX0_saves 52 = .ok (.iload_n 2, 1) := dk_28 (dk_at dksX0_saves_2 6 rfl rfl)
theorem dX0_saves_53 : decode cX0_saves 53 = .ok (.ireturn, 1) := dk_172 (dk_at dksX0_saves_2 7 rfl rfl)
abbrev cX0_all : ByteArray := prog_1_method_47_code
def yX0_all : MethodName := ⟨RX0, "all", "(I)I"⟩
def dkwX0_all_6 : List UInt8 := [2, 172]
abbrev dktX0_all_6 : List UInt8 := dkwX0_all_6 ++ []
def dkwX0_all_5 : List UInt8 := [132, 6, 1, 167, 255, 192, 21, 4, 153, 0, 10, 21, 5, 153, 0, 5, 29, 172, 132, 3, 1, 167, 255, 139]
abbrev dktX0_all_5 : List UInt8 := dkwX0_all_5 ++ dktX0_all_6
def dkwX0_all_4 : List UInt8 := [54, 5, 44, 180, 1, 71, 29, 50, 42, 180, 0, 26, 180, 0, 237, 21, 6, 50, 182, 1, 80, 54, 4]
abbrev dktX0_all_4 : List UInt8 := dkwX0_all_4 ++ dktX0_all_5
def dkwX0_all_3 : List UInt8 := [153, 0, 53, 44, 42, 180, 0, 26, 180, 0, 237, 21, 6, 50, 182, 1, 60, 154, 0, 6, 167, 0, 27, 4]
abbrev dktX0_all_3 : List UInt8 := dkwX0_all_3 ++ dktX0_all_4
def dkwX0_all_2 : List UInt8 := [3, 54, 4, 3, 54, 5, 3, 54, 6, 21, 6, 42, 180, 0, 26, 180, 0, 83, 162, 0, 58, 21, 4]
abbrev dktX0_all_2 : List UInt8 := dkwX0_all_2 ++ dktX0_all_3
def dkwX0_all_1 : List UInt8 := [180, 1, 71, 190, 162, 0, 114, 44, 180, 1, 71, 29, 50, 180, 1, 75, 6, 160, 0, 7, 4, 167, 0, 4]
abbrev dktX0_all_1 : List UInt8 := dkwX0_all_1 ++ dktX0_all_2
def dkwX0_all_0 : List UInt8 := [42, 27, 182, 1, 31, 154, 0, 5, 2, 172, 42, 180, 0, 26, 180, 1, 20, 27, 50, 77, 3, 62, 29, 44]
abbrev dktX0_all_0 : List UInt8 := dkwX0_all_0 ++ dktX0_all_1
theorem dksX0_all_0 : cX0_all.data.toList.drop 0 = dktX0_all_0 := by decide +kernel
theorem dksX0_all_1 : cX0_all.data.toList.drop 24 = dktX0_all_1 := dk_seg dksX0_all_0 24 rfl rfl
theorem dksX0_all_2 : cX0_all.data.toList.drop 48 = dktX0_all_2 := dk_seg dksX0_all_1 24 rfl rfl
theorem dksX0_all_3 : cX0_all.data.toList.drop 71 = dktX0_all_3 := dk_seg dksX0_all_2 23 rfl rfl
theorem dksX0_all_4 : cX0_all.data.toList.drop 95 = dktX0_all_4 := dk_seg dksX0_all_3 24 rfl rfl
theorem dksX0_all_5 : cX0_all.data.toList.drop 118 = dktX0_all_5 := dk_seg dksX0_all_4 23 rfl rfl
theorem dksX0_all_6 : cX0_all.data.toList.drop 142 = dktX0_all_6 := dk_seg dksX0_all_5 24 rfl rfl
theorem dX0_all_0 : decode cX0_all 0 = .ok (.aload_n 0, 1) := dk_42 (dk_at dksX0_all_0 0 rfl rfl)
theorem dX0_all_1 : decode cX0_all 1 = .ok (.iload_n 1, 1) := dk_27 (dk_at dksX0_all_0 1 rfl rfl)
theorem dX0_all_2 : decode cX0_all 2 = .ok (.invokevirtual 287, 3) := dk_182 1 31 (dk_at dksX0_all_0 2 rfl rfl)
theorem dX0_all_5 : decode cX0_all 5 = .ok (.ifCond .ne 5, 3) := dk_154 0 5 (dk_at dksX0_all_0 5 rfl rfl)
theorem dX0_all_8 : decode cX0_all 8 = .ok (.iconst (-1), 1) := dk_2 (dk_at dksX0_all_0 8 rfl rfl)
theorem dX0_all_9 : decode cX0_all 9 = .ok (.ireturn, 1) := dk_172 (dk_at dksX0_all_0 9 rfl rfl)
theorem dX0_all_10 : decode cX0_all 10 = .ok (.aload_n 0, 1) := dk_42 (dk_at dksX0_all_0 10 rfl rfl)
theorem dX0_all_11 : decode cX0_all 11 = .ok (.getfield 26, 3) := dk_180 0 26 (dk_at dksX0_all_0 11 rfl rfl)
theorem dX0_all_14 : decode cX0_all 14 = .ok (.getfield 276, 3) := dk_180 1 20 (dk_at dksX0_all_0 14 rfl rfl)
theorem dX0_all_17 : decode cX0_all 17 = .ok (.iload_n 1, 1) := dk_27 (dk_at dksX0_all_0 17 rfl rfl)
theorem dX0_all_18 : decode cX0_all 18 = .ok (.aaload, 1) := dk_50 (dk_at dksX0_all_0 18 rfl rfl)
theorem dX0_all_19 : decode cX0_all 19 = .ok (.astore_n 2, 1) := dk_77 (dk_at dksX0_all_0 19 rfl rfl)
theorem dX0_all_20 : decode cX0_all 20 = .ok (.iconst 0, 1) := dk_3 (dk_at dksX0_all_0 20 rfl rfl)
theorem dX0_all_21 : decode cX0_all 21 = .ok (.istore_n 3, 1) := dk_62 (dk_at dksX0_all_0 21 rfl rfl)
theorem dX0_all_22 : decode cX0_all 22 = .ok (.iload_n 3, 1) := dk_29 (dk_at dksX0_all_0 22 rfl rfl)
theorem dX0_all_23 : decode cX0_all 23 = .ok (.aload_n 2, 1) := dk_44 (dk_at dksX0_all_0 23 rfl rfl)
theorem dX0_all_24 : decode cX0_all 24 = .ok (.getfield 327, 3) := dk_180 1 71 (dk_at dksX0_all_1 0 rfl rfl)
theorem dX0_all_27 : decode cX0_all 27 = .ok (.arraylength, 1) := dk_190 (dk_at dksX0_all_1 3 rfl rfl)
theorem dX0_all_28 : decode cX0_all 28 = .ok (.if_icmp .ge 114, 3) := dk_162 0 114 (dk_at dksX0_all_1 4 rfl rfl)
theorem dX0_all_31 : decode cX0_all 31 = .ok (.aload_n 2, 1) := dk_44 (dk_at dksX0_all_1 7 rfl rfl)
theorem dX0_all_32 : decode cX0_all 32 = .ok (.getfield 327, 3) := dk_180 1 71 (dk_at dksX0_all_1 8 rfl rfl)
theorem dX0_all_35 : decode cX0_all 35 = .ok (.iload_n 3, 1) := dk_29 (dk_at dksX0_all_1 11 rfl rfl)
theorem dX0_all_36 : decode cX0_all 36 = .ok (.aaload, 1) := dk_50 (dk_at dksX0_all_1 12 rfl rfl)
theorem dX0_all_37 : decode cX0_all 37 = .ok (.getfield 331, 3) := dk_180 1 75 (dk_at dksX0_all_1 13 rfl rfl)
theorem dX0_all_40 : decode cX0_all 40 = .ok (.iconst 3, 1) := dk_6 (dk_at dksX0_all_1 16 rfl rfl)
theorem dX0_all_41 : decode cX0_all 41 = .ok (.if_icmp .ne 7, 3) := dk_160 0 7 (dk_at dksX0_all_1 17 rfl rfl)
theorem dX0_all_44 : decode cX0_all 44 = .ok (.iconst 1, 1) := dk_4 (dk_at dksX0_all_1 20 rfl rfl)
theorem dX0_all_45 : decode cX0_all 45 = .ok (.goto 4, 3) := dk_167 0 4 (dk_at dksX0_all_1 21 rfl rfl)
theorem dX0_all_48 : decode cX0_all 48 = .ok (.iconst 0, 1) := dk_3 (dk_at dksX0_all_2 0 rfl rfl)
theorem dX0_all_49 : decode cX0_all 49 = .ok (.istore 4, 2) := dk_54 4 (dk_at dksX0_all_2 1 rfl rfl)
theorem dX0_all_51 : decode cX0_all 51 = .ok (.iconst 0, 1) := dk_3 (dk_at dksX0_all_2 3 rfl rfl)
theorem dX0_all_52 : decode cX0_all 52 = .ok (.istore 5, 2) := dk_54 5 (dk_at dksX0_all_2 4 rfl rfl)
theorem dX0_all_54 : decode cX0_all 54 = .ok (.iconst 0, 1) := dk_3 (dk_at dksX0_all_2 6 rfl rfl)
theorem dX0_all_55 : decode cX0_all 55 = .ok (.istore 6, 2) := dk_54 6 (dk_at dksX0_all_2 7 rfl rfl)
theorem dX0_all_57 : decode cX0_all 57 = .ok (.iload 6, 2) := dk_21 6 (dk_at dksX0_all_2 9 rfl rfl)
theorem dX0_all_59 : decode cX0_all 59 = .ok (.aload_n 0, 1) := dk_42 (dk_at dksX0_all_2 11 rfl rfl)
theorem dX0_all_60 : decode cX0_all 60 = .ok (.getfield 26, 3) := dk_180 0 26 (dk_at dksX0_all_2 12 rfl rfl)
theorem dX0_all_63 : decode cX0_all 63 = .ok (.getfield 83, 3) := dk_180 0 83 (dk_at dksX0_all_2 15 rfl rfl)
theorem dX0_all_66 : decode cX0_all 66 = .ok (.if_icmp .ge 58, 3) := dk_162 0 58 (dk_at dksX0_all_2 18 rfl rfl)
theorem dX0_all_69 : decode cX0_all 69 = .ok (.iload 4, 2) := dk_21 4 (dk_at dksX0_all_2 21 rfl rfl)
theorem dX0_all_71 : decode cX0_all 71 = .ok (.ifCond .eq 53, 3) := dk_153 0 53 (dk_at dksX0_all_3 0 rfl rfl)
theorem dX0_all_74 : decode cX0_all 74 = .ok (.aload_n 2, 1) := dk_44 (dk_at dksX0_all_3 3 rfl rfl)
theorem dX0_all_75 : decode cX0_all 75 = .ok (.aload_n 0, 1) := dk_42 (dk_at dksX0_all_3 4 rfl rfl)
theorem dX0_all_76 : decode cX0_all 76 = .ok (.getfield 26, 3) := dk_180 0 26 (dk_at dksX0_all_3 5 rfl rfl)
theorem dX0_all_79 : decode cX0_all 79 = .ok (.getfield 237, 3) := dk_180 0 237 (dk_at dksX0_all_3 8 rfl rfl)
theorem dX0_all_82 : decode cX0_all 82 = .ok (.iload 6, 2) := dk_21 6 (dk_at dksX0_all_3 11 rfl rfl)
theorem dX0_all_84 : decode cX0_all 84 = .ok (.aaload, 1) := dk_50 (dk_at dksX0_all_3 13 rfl rfl)
theorem dX0_all_85 : decode cX0_all 85 = .ok (.invokevirtual 316, 3) := dk_182 1 60 (dk_at dksX0_all_3 14 rfl rfl)
theorem dX0_all_88 : decode cX0_all 88 = .ok (.ifCond .ne 6, 3) := dk_154 0 6 (dk_at dksX0_all_3 17 rfl rfl)
theorem dX0_all_91 : decode cX0_all 91 = .ok (.goto 27, 3) := dk_167 0 27 (dk_at dksX0_all_3 20 rfl rfl)
theorem dX0_all_94 : decode cX0_all 94 = .ok (.iconst 1, 1) := dk_4 (dk_at dksX0_all_3 23 rfl rfl)
theorem dX0_all_95 : decode cX0_all 95 = .ok (.istore 5, 2) := dk_54 5 (dk_at dksX0_all_4 0 rfl rfl)
theorem dX0_all_97 : decode cX0_all 97 = .ok (.aload_n 2, 1) := dk_44 (dk_at dksX0_all_4 2 rfl rfl)
theorem dX0_all_98 : decode cX0_all 98 = .ok (.getfield 327, 3) := dk_180 1 71 (dk_at dksX0_all_4 3 rfl rfl)
theorem dX0_all_101 : decode cX0_all 101 = .ok (.iload_n 3, 1) := dk_29 (dk_at dksX0_all_4 6 rfl rfl)
theorem dX0_all_102 : decode cX0_all 102 = .ok (.aaload, 1) := dk_50 (dk_at dksX0_all_4 7 rfl rfl)
theorem dX0_all_103 : decode cX0_all 103 = .ok (.aload_n 0, 1) := dk_42 (dk_at dksX0_all_4 8 rfl rfl)
theorem dX0_all_104 : decode cX0_all 104 = .ok (.getfield 26, 3) := dk_180 0 26 (dk_at dksX0_all_4 9 rfl rfl)
theorem dX0_all_107 : decode cX0_all 107 = .ok (.getfield 237, 3) := dk_180 0 237 (dk_at dksX0_all_4 12 rfl rfl)
theorem dX0_all_110 : decode cX0_all 110 = .ok (.iload 6, 2) := dk_21 6 (dk_at dksX0_all_4 15 rfl rfl)
theorem dX0_all_112 : decode cX0_all 112 = .ok (.aaload, 1) := dk_50 (dk_at dksX0_all_4 17 rfl rfl)
theorem dX0_all_113 : decode cX0_all 113 = .ok (.invokevirtual 336, 3) := dk_182 1 80 (dk_at dksX0_all_4 18 rfl rfl)
theorem dX0_all_116 : decode cX0_all 116 = .ok (.istore 4, 2) := dk_54 4 (dk_at dksX0_all_4 21 rfl rfl)
theorem dX0_all_118 : decode cX0_all 118 = .ok (.iinc 6 1, 3) := dk_132 6 1 (dk_at dksX0_all_5 0 rfl rfl)
theorem dX0_all_121 : decode cX0_all 121 = .ok (.goto (-64), 3) := dk_167 255 192 (dk_at dksX0_all_5 3 rfl rfl)
theorem dX0_all_124 : decode cX0_all 124 = .ok (.iload 4, 2) := dk_21 4 (dk_at dksX0_all_5 6 rfl rfl)
theorem dX0_all_126 : decode cX0_all 126 = .ok (.ifCond .eq 10, 3) := dk_153 0 10 (dk_at dksX0_all_5 8 rfl rfl)
theorem dX0_all_129 : decode cX0_all 129 = .ok (.iload 5, 2) := dk_21 5 (dk_at dksX0_all_5 11 rfl rfl)
theorem dX0_all_131 : decode cX0_all 131 = .ok (.ifCond .eq 5, 3) := dk_153 0 5 (dk_at dksX0_all_5 13 rfl rfl)
theorem dX0_all_134 : decode cX0_all 134 = .ok (.iload_n 3, 1) := dk_29 (dk_at dksX0_all_5 16 rfl rfl)
theorem dX0_all_135 : decode cX0_all 135 = .ok (.ireturn, 1) := dk_172 (dk_at dksX0_all_5 17 rfl rfl)
theorem dX0_all_136 : decode cX0_all 136 = .ok (.iinc 3 1, 3) := dk_132 3 1 (dk_at dksX0_all_5 18 rfl rfl)
theorem dX0_all_139 : decode cX0_all 139 = .ok (.goto (-117), 3) := dk_167 255 139 (dk_at dksX0_all_5 21 rfl rfl)
theorem dX0_all_142 : decode cX0_all 142 = .ok (.iconst (-1), 1) := dk_2 (dk_at dksX0_all_6 0 rfl rfl)
theorem dX0_all_143 : decode cX0_all 143 = .ok (.ireturn, 1) := dk_172 (dk_at dksX0_all_6 1 rfl rfl)
abbrev cX0_parting : ByteArray := prog_1_method_51_code
def yX0_parting : MethodName := ⟨RX0, "parting", "(II)I"⟩
def dkwX0_parting_1 : List UInt8 := [180, 0, 242, 28, 50, 182, 1, 91, 167, 0, 4, 2, 172]
abbrev dktX0_parting_1 : List UInt8 := dkwX0_parting_1 ++ []
def dkwX0_parting_0 : List UInt8 := [42, 27, 182, 1, 88, 153, 0, 28, 42, 28, 182, 1, 11, 153, 0, 20, 42, 27, 42, 180, 0, 26]
abbrev dktX0_parting_0 : List UInt8 := dkwX0_parting_0 ++ dktX0_parting_1
theorem dksX0_parting_0 : cX0_parting.data.toList.drop 0 = dktX0_parting_0 := by decide +kernel
theorem dksX0_parting_1 : cX0_parting.data.toList.drop 22 = dktX0_parting_1 := dk_seg dksX0_parting_0 22 rfl rfl
theorem dX0_parting_0 : decode cX0_parting 0 = .ok (.aload_n 0, 1) := dk_42 (dk_at dksX0_parting_0 0 rfl rfl)
theorem dX0_parting_1 : decode cX0_parting 1 = .ok (.iload_n 1, 1) := dk_27 (dk_at dksX0_parting_0 1 rfl rfl)
theorem dX0_parting_2 : decode cX0_parting 2 = .ok (.invokevirtual 344, 3) := dk_182 1 88 (dk_at dksX0_parting_0 2 rfl rfl)
theorem dX0_parting_5 : decode cX0_parting 5 = .ok (.ifCond .eq 28, 3) := dk_153 0 28 (dk_at dksX0_parting_0 5 rfl rfl)
theorem dX0_parting_8 : decode cX0_parting 8 = .ok (.aload_n 0, 1) := dk_42 (dk_at dksX0_parting_0 8 rfl rfl)
theorem dX0_parting_9 : decode cX0_parting 9 = .ok (.iload_n 2, 1) := dk_28 (dk_at dksX0_parting_0 9 rfl rfl)
theorem dX0_parting_10 : decode cX0_parting 10 = .ok (.invokevirtual 267, 3) := dk_182 1 11 (dk_at dksX0_parting_0 10 rfl rfl)
theorem dX0_parting_13 : decode cX0_parting 13 = .ok (.ifCond .eq 20, 3) := dk_153 0 20 (dk_at dksX0_parting_0 13 rfl rfl)
theorem dX0_parting_16 : decode cX0_parting 16 = .ok (.aload_n 0, 1) := dk_42 (dk_at dksX0_parting_0 16 rfl rfl)
theorem dX0_parting_17 : decode cX0_parting 17 = .ok (.iload_n 1, 1) := dk_27 (dk_at dksX0_parting_0 17 rfl rfl)
theorem dX0_parting_18 : decode cX0_parting 18 = .ok (.aload_n 0, 1) := dk_42 (dk_at dksX0_parting_0 18 rfl rfl)
theorem dX0_parting_19 : decode cX0_parting 19 = .ok (.getfield 26, 3) := dk_180 0 26 (dk_at dksX0_parting_0 19 rfl rfl)
theorem dX0_parting_22 : decode cX0_parting 22 = .ok (.getfield 242, 3) := dk_180 0 242 (dk_at dksX0_parting_1 0 rfl rfl)
theorem dX0_parting_25 : decode cX0_parting 25 = .ok (.iload_n 2, 1) := dk_28 (dk_at dksX0_parting_1 3 rfl rfl)
theorem dX0_parting_26 : decode cX0_parting 26 = .ok (.aaload, 1) := dk_50 (dk_at dksX0_parting_1 4 rfl rfl)
theorem dX0_parting_27 : decode cX0_parting 27 = .ok (.invokevirtual 347, 3) := dk_182 1 91 (dk_at dksX0_parting_1 5 rfl rfl)
theorem dX0_parting_30 : decode cX0_parting 30 = .ok (.goto 4, 3) := dk_167 0 4 (dk_at dksX0_parting_1 8 rfl rfl)
theorem dX0_parting_33 : decode cX0_parting 33 = .ok (.iconst (-1), 1) := dk_2 (dk_at dksX0_parting_1 11 rfl rfl)
theorem dX0_parting_34 : decode cX0_parting 34 = .ok (.ireturn, 1) := dk_172 (dk_at dksX0_parting_1 12 rfl rfl)
abbrev cX0_areTexts : ByteArray := prog_1_method_48_code
def yX0_areTexts : MethodName := ⟨RX0, "areTexts", "(I)Z"⟩
def dkwX0_areTexts_0 : List UInt8 := [27, 133, 9, 4, 42, 180, 0, 26, 180, 0, 80, 120, 4, 100, 133, 184, 0, 5, 172]
abbrev dktX0_areTexts_0 : List UInt8 := dkwX0_areTexts_0 ++ []
theorem dksX0_areTexts_0 : cX0_areTexts.data.toList.drop 0 = dktX0_areTexts_0 := by decide +kernel
theorem dX0_areTexts_0 : decode cX0_areTexts 0 = .ok (.iload_n 1, 1) := dk_27 (dk_at dksX0_areTexts_0 0 rfl rfl)
theorem dX0_areTexts_1 : decode cX0_areTexts 1 = .ok (.i2l, 1) := dk_133 (dk_at dksX0_areTexts_0 1 rfl rfl)
theorem dX0_areTexts_2 : decode cX0_areTexts 2 = .ok (.lconst 0, 1) := dk_9 (dk_at dksX0_areTexts_0 2 rfl rfl)
theorem dX0_areTexts_3 : decode cX0_areTexts 3 = .ok (.iconst 1, 1) := dk_4 (dk_at dksX0_areTexts_0 3 rfl rfl)
theorem dX0_areTexts_4 : decode cX0_areTexts 4 = .ok (.aload_n 0, 1) := dk_42 (dk_at dksX0_areTexts_0 4 rfl rfl)
theorem dX0_areTexts_5 : decode cX0_areTexts 5 = .ok (.getfield 26, 3) := dk_180 0 26 (dk_at dksX0_areTexts_0 5 rfl rfl)
theorem dX0_areTexts_8 : decode cX0_areTexts 8 = .ok (.getfield 80, 3) := dk_180 0 80 (dk_at dksX0_areTexts_0 8 rfl rfl)
theorem dX0_areTexts_11 : decode cX0_areTexts 11 = .ok (.ishl, 1) := dk_120 (dk_at dksX0_areTexts_0 11 rfl rfl)
theorem dX0_areTexts_12 : decode cX0_areTexts 12 = .ok (.iconst 1, 1) := dk_4 (dk_at dksX0_areTexts_0 12 rfl rfl)
theorem dX0_areTexts_13 : decode cX0_areTexts 13 = .ok (.isub, 1) := dk_100 (dk_at dksX0_areTexts_0 13 rfl rfl)
theorem dX0_areTexts_14 : decode cX0_areTexts 14 = .ok (.i2l, 1) := dk_133 (dk_at dksX0_areTexts_0 14 rfl rfl)
theorem dX0_areTexts_15 : decode cX0_areTexts 15 = .ok (.invokestatic 5, 3) := dk_184 0 5 (dk_at dksX0_areTexts_0 15 rfl rfl)
theorem dX0_areTexts_18 : decode cX0_areTexts 18 = .ok (.ireturn, 1) := dk_172 (dk_at dksX0_areTexts_0 18 rfl rfl)
abbrev cX0_partingBy : ByteArray := prog_1_method_49_code
def yX0_partingBy : MethodName := ⟨RX0, "partingBy", "(ILBrothFlasks$Case;)I"⟩
def dkwX0_partingBy_4 : List UInt8 := [167, 255, 186, 132, 4, 1, 167, 255, 162, 29, 172]
abbrev dktX0_partingBy_4 : List UInt8 := dkwX0_partingBy_4 ++ []
def dkwX0_partingBy_3 : List UInt8 := [42, 180, 0, 26, 180, 1, 20, 21, 5, 50, 44, 182, 1, 40, 100, 184, 1, 83, 96, 62, 132, 5, 1]
abbrev dktX0_partingBy_3 : List UInt8 := dkwX0_partingBy_3 ++ dktX0_partingBy_4
def dkwX0_partingBy_2 : List UInt8 := [21, 5, 122, 4, 126, 4, 160, 0, 38, 29, 42, 180, 0, 26, 180, 1, 20, 21, 4, 50, 44, 182, 1, 40]
abbrev dktX0_partingBy_2 : List UInt8 := dkwX0_partingBy_2 ++ dktX0_partingBy_3
def dkwX0_partingBy_1 : List UInt8 := [21, 5, 42, 180, 0, 26, 180, 0, 80, 162, 0, 64, 27, 21, 4, 122, 4, 126, 4, 160, 0, 48, 27]
abbrev dktX0_partingBy_1 : List UInt8 := dkwX0_partingBy_1 ++ dktX0_partingBy_2
def dkwX0_partingBy_0 : List UInt8 := [3, 62, 3, 54, 4, 21, 4, 42, 180, 0, 26, 180, 0, 80, 162, 0, 88, 21, 4, 4, 96, 54, 5]
abbrev dktX0_partingBy_0 : List UInt8 := dkwX0_partingBy_0 ++ dktX0_partingBy_1
theorem dksX0_partingBy_0 : cX0_partingBy.data.toList.drop 0 = dktX0_partingBy_0 := by decide +kernel
theorem dksX0_partingBy_1 : cX0_partingBy.data.toList.drop 23 = dktX0_partingBy_1 := dk_seg dksX0_partingBy_0 23 rfl rfl
theorem dksX0_partingBy_2 : cX0_partingBy.data.toList.drop 46 = dktX0_partingBy_2 := dk_seg dksX0_partingBy_1 23 rfl rfl
theorem dksX0_partingBy_3 : cX0_partingBy.data.toList.drop 70 = dktX0_partingBy_3 := dk_seg dksX0_partingBy_2 24 rfl rfl
theorem dksX0_partingBy_4 : cX0_partingBy.data.toList.drop 93 = dktX0_partingBy_4 := dk_seg dksX0_partingBy_3 23 rfl rfl
theorem dX0_partingBy_0 : decode cX0_partingBy 0 = .ok (.iconst 0, 1) := dk_3 (dk_at dksX0_partingBy_0 0 rfl rfl)
theorem dX0_partingBy_1 : decode cX0_partingBy 1 = .ok (.istore_n 3, 1) := dk_62 (dk_at dksX0_partingBy_0 1 rfl rfl)
theorem dX0_partingBy_2 : decode cX0_partingBy 2 = .ok (.iconst 0, 1) := dk_3 (dk_at dksX0_partingBy_0 2 rfl rfl)
theorem dX0_partingBy_3 : decode cX0_partingBy 3 = .ok (.istore 4, 2) := dk_54 4 (dk_at dksX0_partingBy_0 3 rfl rfl)
theorem dX0_partingBy_5 : decode cX0_partingBy 5 = .ok (.iload 4, 2) := dk_21 4 (dk_at dksX0_partingBy_0 5 rfl rfl)
theorem dX0_partingBy_7 : decode cX0_partingBy 7 = .ok (.aload_n 0, 1) := dk_42 (dk_at dksX0_partingBy_0 7 rfl rfl)
theorem dX0_partingBy_8 : decode cX0_partingBy 8 = .ok (.getfield 26, 3) := dk_180 0 26 (dk_at dksX0_partingBy_0 8 rfl rfl)
theorem dX0_partingBy_11 : decode cX0_partingBy 11 = .ok (.getfield 80, 3) := dk_180 0 80 (dk_at dksX0_partingBy_0 11 rfl rfl)
theorem dX0_partingBy_14 : decode cX0_partingBy 14 = .ok (.if_icmp .ge 88, 3) := dk_162 0 88 (dk_at dksX0_partingBy_0 14 rfl rfl)
theorem dX0_partingBy_17 : decode cX0_partingBy 17 = .ok (.iload 4, 2) := dk_21 4 (dk_at dksX0_partingBy_0 17 rfl rfl)
theorem dX0_partingBy_19 : decode cX0_partingBy 19 = .ok (.iconst 1, 1) := dk_4 (dk_at dksX0_partingBy_0 19 rfl rfl)
theorem dX0_partingBy_20 : decode cX0_partingBy 20 = .ok (.iadd, 1) := dk_96 (dk_at dksX0_partingBy_0 20 rfl rfl)
theorem dX0_partingBy_21 : decode cX0_partingBy 21 = .ok (.istore 5, 2) := dk_54 5 (dk_at dksX0_partingBy_0 21 rfl rfl)
theorem dX0_partingBy_23 : decode cX0_partingBy 23 = .ok (.iload 5, 2) := dk_21 5 (dk_at dksX0_partingBy_1 0 rfl rfl)
theorem dX0_partingBy_25 : decode cX0_partingBy 25 = .ok (.aload_n 0, 1) := dk_42 (dk_at dksX0_partingBy_1 2 rfl rfl)
theorem dX0_partingBy_26 : decode cX0_partingBy 26 = .ok (.getfield 26, 3) := dk_180 0 26 (dk_at dksX0_partingBy_1 3 rfl rfl)
theorem dX0_partingBy_29 : decode cX0_partingBy 29 = .ok (.getfield 80, 3) := dk_180 0 80 (dk_at dksX0_partingBy_1 6 rfl rfl)
theorem dX0_partingBy_32 : decode cX0_partingBy 32 = .ok (.if_icmp .ge 64, 3) := dk_162 0 64 (dk_at dksX0_partingBy_1 9 rfl rfl)
theorem dX0_partingBy_35 : decode cX0_partingBy 35 = .ok (.iload_n 1, 1) := dk_27 (dk_at dksX0_partingBy_1 12 rfl rfl)
theorem dX0_partingBy_36 : decode cX0_partingBy 36 = .ok (.iload 4, 2) := dk_21 4 (dk_at dksX0_partingBy_1 13 rfl rfl)
theorem dX0_partingBy_38 : decode cX0_partingBy 38 = .ok (.ishr, 1) := dk_122 (dk_at dksX0_partingBy_1 15 rfl rfl)
theorem dX0_partingBy_39 : decode cX0_partingBy 39 = .ok (.iconst 1, 1) := dk_4 (dk_at dksX0_partingBy_1 16 rfl rfl)
theorem dX0_partingBy_40 : decode cX0_partingBy 40 = .ok (.iand, 1) := dk_126 (dk_at dksX0_partingBy_1 17 rfl rfl)
theorem dX0_partingBy_41 : decode cX0_partingBy 41 = .ok (.iconst 1, 1) := dk_4 (dk_at dksX0_partingBy_1 18 rfl rfl)
theorem dX0_partingBy_42 : decode cX0_partingBy 42 = .ok (.if_icmp .ne 48, 3) := dk_160 0 48 (dk_at dksX0_partingBy_1 19 rfl rfl)
theorem dX0_partingBy_45 : decode cX0_partingBy 45 = .ok (.iload_n 1, 1) := dk_27 (dk_at dksX0_partingBy_1 22 rfl rfl)
theorem dX0_partingBy_46 : decode cX0_partingBy 46 = .ok (.iload 5, 2) := dk_21 5 (dk_at dksX0_partingBy_2 0 rfl rfl)
theorem dX0_partingBy_48 : decode cX0_partingBy 48 = .ok (.ishr, 1) := dk_122 (dk_at dksX0_partingBy_2 2 rfl rfl)
theorem dX0_partingBy_49 : decode cX0_partingBy 49 = .ok (.iconst 1, 1) := dk_4 (dk_at dksX0_partingBy_2 3 rfl rfl)
theorem dX0_partingBy_50 : decode cX0_partingBy 50 = .ok (.iand, 1) := dk_126 (dk_at dksX0_partingBy_2 4 rfl rfl)
theorem dX0_partingBy_51 : decode cX0_partingBy 51 = .ok (.iconst 1, 1) := dk_4 (dk_at dksX0_partingBy_2 5 rfl rfl)
theorem dX0_partingBy_52 : decode cX0_partingBy 52 = .ok (.if_icmp .ne 38, 3) := dk_160 0 38 (dk_at dksX0_partingBy_2 6 rfl rfl)
theorem dX0_partingBy_55 : decode cX0_partingBy 55 = .ok (.iload_n 3, 1) := dk_29 (dk_at dksX0_partingBy_2 9 rfl rfl)
theorem dX0_partingBy_56 : decode cX0_partingBy 56 = .ok (.aload_n 0, 1) := dk_42 (dk_at dksX0_partingBy_2 10 rfl rfl)
theorem dX0_partingBy_57 : decode cX0_partingBy 57 = .ok (.getfield 26, 3) := dk_180 0 26 (dk_at dksX0_partingBy_2 11 rfl rfl)
theorem dX0_partingBy_60 : decode cX0_partingBy 60 = .ok (.getfield 276, 3) := dk_180 1 20 (dk_at dksX0_partingBy_2 14 rfl rfl)
theorem dX0_partingBy_63 : decode cX0_partingBy 63 = .ok (.iload 4, 2) := dk_21 4 (dk_at dksX0_partingBy_2 17 rfl rfl)
theorem dX0_partingBy_65 : decode cX0_partingBy 65 = .ok (.aaload, 1) := dk_50 (dk_at dksX0_partingBy_2 19 rfl rfl)
theorem dX0_partingBy_66 : decode cX0_partingBy 66 = .ok (.aload_n 2, 1) := dk_44 (dk_at dksX0_partingBy_2 20 rfl rfl)
theorem dX0_partingBy_67 : decode cX0_partingBy 67 = .ok (.invokevirtual 296, 3) := dk_182 1 40 (dk_at dksX0_partingBy_2 21 rfl rfl)
theorem dX0_partingBy_70 : decode cX0_partingBy 70 = .ok (.aload_n 0, 1) := dk_42 (dk_at dksX0_partingBy_3 0 rfl rfl)
theorem dX0_partingBy_71 : decode cX0_partingBy 71 = .ok (.getfield 26, 3) := dk_180 0 26 (dk_at dksX0_partingBy_3 1 rfl rfl)
theorem dX0_partingBy_74 : decode cX0_partingBy 74 = .ok (.getfield 276, 3) := dk_180 1 20 (dk_at dksX0_partingBy_3 4 rfl rfl)
theorem dX0_partingBy_77 : decode cX0_partingBy 77 = .ok (.iload 5, 2) := dk_21 5 (dk_at dksX0_partingBy_3 7 rfl rfl)
theorem dX0_partingBy_79 : decode cX0_partingBy 79 = .ok (.aaload, 1) := dk_50 (dk_at dksX0_partingBy_3 9 rfl rfl)
theorem dX0_partingBy_80 : decode cX0_partingBy 80 = .ok (.aload_n 2, 1) := dk_44 (dk_at dksX0_partingBy_3 10 rfl rfl)
theorem dX0_partingBy_81 : decode cX0_partingBy 81 = .ok (.invokevirtual 296, 3) := dk_182 1 40 (dk_at dksX0_partingBy_3 11 rfl rfl)
theorem dX0_partingBy_84 : decode cX0_partingBy 84 = .ok (.isub, 1) := dk_100 (dk_at dksX0_partingBy_3 14 rfl rfl)
theorem dX0_partingBy_85 : decode cX0_partingBy 85 = .ok (.invokestatic 339, 3) := dk_184 1 83 (dk_at dksX0_partingBy_3 15 rfl rfl)
theorem dX0_partingBy_88 : decode cX0_partingBy 88 = .ok (.iadd, 1) := dk_96 (dk_at dksX0_partingBy_3 18 rfl rfl)
theorem dX0_partingBy_89 : decode cX0_partingBy 89 = .ok (.istore_n 3, 1) := dk_62 (dk_at dksX0_partingBy_3 19 rfl rfl)
theorem dX0_partingBy_90 : decode cX0_partingBy 90 = .ok (.iinc 5 1, 3) := dk_132 5 1 (dk_at dksX0_partingBy_3 20 rfl rfl)
theorem dX0_partingBy_93 : decode cX0_partingBy 93 = .ok (.goto (-70), 3) := dk_167 255 186 (dk_at dksX0_partingBy_4 0 rfl rfl)
theorem dX0_partingBy_96 : decode cX0_partingBy 96 = .ok (.iinc 4 1, 3) := dk_132 4 1 (dk_at dksX0_partingBy_4 3 rfl rfl)
theorem dX0_partingBy_99 : decode cX0_partingBy 99 = .ok (.goto (-94), 3) := dk_167 255 162 (dk_at dksX0_partingBy_4 6 rfl rfl)
theorem dX0_partingBy_102 : decode cX0_partingBy 102 = .ok (.iload_n 3, 1) := dk_29 (dk_at dksX0_partingBy_4 9 rfl rfl)
theorem dX0_partingBy_103 : decode cX0_partingBy 103 = .ok (.ireturn, 1) := dk_172 (dk_at dksX0_partingBy_4 10 rfl rfl)
abbrev cX0_next : ByteArray := prog_1_method_52_code
def yX0_next : MethodName := ⟨RX0, "next", "(I)I"⟩
def dkwX0_next_3 : List UInt8 := [163, 0, 6, 167, 0, 9, 21, 5, 62, 21, 4, 61, 132, 4, 1, 167, 255, 188, 28, 172]
abbrev dktX0_next_3 : List UInt8 := dkwX0_next_3 ++ []
def dkwX0_next_2 : List UInt8 := [167, 0, 35, 42, 27, 42, 180, 0, 26, 180, 0, 242, 21, 4, 50, 182, 1, 91, 54, 5, 21, 5, 29]
abbrev dktX0_next_2 : List UInt8 := dkwX0_next_2 ++ dktX0_next_3
def dkwX0_next_1 : List UInt8 := [180, 0, 86, 162, 0, 62, 42, 27, 42, 180, 0, 26, 180, 0, 242, 21, 4, 50, 182, 1, 95, 154, 0, 6]
abbrev dktX0_next_1 : List UInt8 := dkwX0_next_1 ++ dktX0_next_2
def dkwX0_next_0 : List UInt8 := [42, 27, 182, 1, 88, 154, 0, 5, 2, 172, 2, 61, 3, 62, 3, 54, 4, 21, 4, 42, 180, 0, 26]
abbrev dktX0_next_0 : List UInt8 := dkwX0_next_0 ++ dktX0_next_1
theorem dksX0_next_0 : cX0_next.data.toList.drop 0 = dktX0_next_0 := by decide +kernel
theorem dksX0_next_1 : cX0_next.data.toList.drop 23 = dktX0_next_1 := dk_seg dksX0_next_0 23 rfl rfl
theorem dksX0_next_2 : cX0_next.data.toList.drop 47 = dktX0_next_2 := dk_seg dksX0_next_1 24 rfl rfl
theorem dksX0_next_3 : cX0_next.data.toList.drop 70 = dktX0_next_3 := dk_seg dksX0_next_2 23 rfl rfl
theorem dX0_next_0 : decode cX0_next 0 = .ok (.aload_n 0, 1) := dk_42 (dk_at dksX0_next_0 0 rfl rfl)
theorem dX0_next_1 : decode cX0_next 1 = .ok (.iload_n 1, 1) := dk_27 (dk_at dksX0_next_0 1 rfl rfl)
theorem dX0_next_2 : decode cX0_next 2 = .ok (.invokevirtual 344, 3) := dk_182 1 88 (dk_at dksX0_next_0 2 rfl rfl)
theorem dX0_next_5 : decode cX0_next 5 = .ok (.ifCond .ne 5, 3) := dk_154 0 5 (dk_at dksX0_next_0 5 rfl rfl)
theorem dX0_next_8 : decode cX0_next 8 = .ok (.iconst (-1), 1) := dk_2 (dk_at dksX0_next_0 8 rfl rfl)
theorem dX0_next_9 : decode cX0_next 9 = .ok (.ireturn, 1) := dk_172 (dk_at dksX0_next_0 9 rfl rfl)
theorem dX0_next_10 : decode cX0_next 10 = .ok (.iconst (-1), 1) := dk_2 (dk_at dksX0_next_0 10 rfl rfl)
theorem dX0_next_11 : decode cX0_next 11 = .ok (.istore_n 2, 1) := dk_61 (dk_at dksX0_next_0 11 rfl rfl)
theorem dX0_next_12 : decode cX0_next 12 = .ok (.iconst 0, 1) := dk_3 (dk_at dksX0_next_0 12 rfl rfl)
theorem dX0_next_13 : decode cX0_next 13 = .ok (.istore_n 3, 1) := dk_62 (dk_at dksX0_next_0 13 rfl rfl)
theorem dX0_next_14 : decode cX0_next 14 = .ok (.iconst 0, 1) := dk_3 (dk_at dksX0_next_0 14 rfl rfl)
theorem dX0_next_15 : decode cX0_next 15 = .ok (.istore 4, 2) := dk_54 4 (dk_at dksX0_next_0 15 rfl rfl)
theorem dX0_next_17 : decode cX0_next 17 = .ok (.iload 4, 2) := dk_21 4 (dk_at dksX0_next_0 17 rfl rfl)
theorem dX0_next_19 : decode cX0_next 19 = .ok (.aload_n 0, 1) := dk_42 (dk_at dksX0_next_0 19 rfl rfl)
theorem dX0_next_20 : decode cX0_next 20 = .ok (.getfield 26, 3) := dk_180 0 26 (dk_at dksX0_next_0 20 rfl rfl)
theorem dX0_next_23 : decode cX0_next 23 = .ok (.getfield 86, 3) := dk_180 0 86 (dk_at dksX0_next_1 0 rfl rfl)
theorem dX0_next_26 : decode cX0_next 26 = .ok (.if_icmp .ge 62, 3) := dk_162 0 62 (dk_at dksX0_next_1 3 rfl rfl)
theorem dX0_next_29 : decode cX0_next 29 = .ok (.aload_n 0, 1) := dk_42 (dk_at dksX0_next_1 6 rfl rfl)
theorem dX0_next_30 : decode cX0_next 30 = .ok (.iload_n 1, 1) := dk_27 (dk_at dksX0_next_1 7 rfl rfl)
theorem dX0_next_31 : decode cX0_next 31 = .ok (.aload_n 0, 1) := dk_42 (dk_at dksX0_next_1 8 rfl rfl)
theorem dX0_next_32 : decode cX0_next 32 = .ok (.getfield 26, 3) := dk_180 0 26 (dk_at dksX0_next_1 9 rfl rfl)
theorem dX0_next_35 : decode cX0_next 35 = .ok (.getfield 242, 3) := dk_180 0 242 (dk_at dksX0_next_1 12 rfl rfl)
theorem dX0_next_38 : decode cX0_next 38 = .ok (.iload 4, 2) := dk_21 4 (dk_at dksX0_next_1 15 rfl rfl)
theorem dX0_next_40 : decode cX0_next 40 = .ok (.aaload, 1) := dk_50 (dk_at dksX0_next_1 17 rfl rfl)
theorem dX0_next_41 : decode cX0_next 41 = .ok (.invokevirtual 351, 3) := dk_182 1 95 (dk_at dksX0_next_1 18 rfl rfl)
theorem dX0_next_44 : decode cX0_next 44 = .ok (.ifCond .ne 6, 3) := dk_154 0 6 (dk_at dksX0_next_1 21 rfl rfl)
theorem dX0_next_47 : decode cX0_next 47 = .ok (.goto 35, 3) := dk_167 0 35 (dk_at dksX0_next_2 0 rfl rfl)
theorem dX0_next_50 : decode cX0_next 50 = .ok (.aload_n 0, 1) := dk_42 (dk_at dksX0_next_2 3 rfl rfl)
theorem dX0_next_51 : decode cX0_next 51 = .ok (.iload_n 1, 1) := dk_27 (dk_at dksX0_next_2 4 rfl rfl)
theorem dX0_next_52 : decode cX0_next 52 = .ok (.aload_n 0, 1) := dk_42 (dk_at dksX0_next_2 5 rfl rfl)
theorem dX0_next_53 : decode cX0_next 53 = .ok (.getfield 26, 3) := dk_180 0 26 (dk_at dksX0_next_2 6 rfl rfl)
theorem dX0_next_56 : decode cX0_next 56 = .ok (.getfield 242, 3) := dk_180 0 242 (dk_at dksX0_next_2 9 rfl rfl)
theorem dX0_next_59 : decode cX0_next 59 = .ok (.iload 4, 2) := dk_21 4 (dk_at dksX0_next_2 12 rfl rfl)
theorem dX0_next_61 : decode cX0_next 61 = .ok (.aaload, 1) := dk_50 (dk_at dksX0_next_2 14 rfl rfl)
theorem dX0_next_62 : decode cX0_next 62 = .ok (.invokevirtual 347, 3) := dk_182 1 91 (dk_at dksX0_next_2 15 rfl rfl)
theorem dX0_next_65 : decode cX0_next 65 = .ok (.istore 5, 2) := dk_54 5 (dk_at dksX0_next_2 18 rfl rfl)
theorem dX0_next_67 : decode cX0_next 67 = .ok (.iload 5, 2) := dk_21 5 (dk_at dksX0_next_2 20 rfl rfl)
theorem dX0_next_69 : decode cX0_next 69 = .ok (.iload_n 3, 1) := dk_29 (dk_at dksX0_next_2 22 rfl rfl)
theorem dX0_next_70 : decode cX0_next 70 = .ok (.if_icmp .gt 6, 3) := dk_163 0 6 (dk_at dksX0_next_3 0 rfl rfl)
theorem dX0_next_73 : decode cX0_next 73 = .ok (.goto 9, 3) := dk_167 0 9 (dk_at dksX0_next_3 3 rfl rfl)
theorem dX0_next_76 : decode cX0_next 76 = .ok (.iload 5, 2) := dk_21 5 (dk_at dksX0_next_3 6 rfl rfl)
theorem dX0_next_78 : decode cX0_next 78 = .ok (.istore_n 3, 1) := dk_62 (dk_at dksX0_next_3 8 rfl rfl)
theorem dX0_next_79 : decode cX0_next 79 = .ok (.iload 4, 2) := dk_21 4 (dk_at dksX0_next_3 9 rfl rfl)
theorem dX0_next_81 : decode cX0_next 81 = .ok (.istore_n 2, 1) := dk_61 (dk_at dksX0_next_3 11 rfl rfl)
theorem dX0_next_82 : decode cX0_next 82 = .ok (.iinc 4 1, 3) := dk_132 4 1 (dk_at dksX0_next_3 12 rfl rfl)
theorem dX0_next_85 : decode cX0_next 85 = .ok (.goto (-68), 3) := dk_167 255 188 (dk_at dksX0_next_3 15 rfl rfl)
theorem dX0_next_88 : decode cX0_next 88 = .ok (.iload_n 2, 1) := dk_28 (dk_at dksX0_next_3 18 rfl rfl)
theorem dX0_next_89 : decode cX0_next 89 = .ok (.ireturn, 1) := dk_172 (dk_at dksX0_next_3 19 rfl rfl)
abbrev cX0_isFairToAll : ByteArray := prog_1_method_50_code
def yX0_isFairToAll : MethodName := ⟨RX0, "isFairToAll", "(ILBrothFlasks$Case;)Z"⟩
def dkwX0_isFairToAll_2 : List UInt8 := [172]
abbrev dktX0_isFairToAll_2 : List UInt8 := dkwX0_isFairToAll_2 ++ []
def dkwX0_isFairToAll_1 : List UInt8 := [180, 0, 26, 180, 1, 20, 29, 50, 44, 182, 1, 43, 154, 0, 5, 3, 172, 132, 3, 1, 167, 255, 215, 4]
abbrev dktX0_isFairToAll_1 : List UInt8 := dkwX0_isFairToAll_1 ++ dktX0_isFairToAll_2
def dkwX0_isFairToAll_0 : List UInt8 := [3, 62, 29, 42, 180, 0, 26, 180, 0, 80, 162, 0, 36, 27, 29, 122, 4, 126, 4, 160, 0, 21, 42]
abbrev dktX0_isFairToAll_0 : List UInt8 := dkwX0_isFairToAll_0 ++ dktX0_isFairToAll_1
theorem dksX0_isFairToAll_0 : cX0_isFairToAll.data.toList.drop 0 = dktX0_isFairToAll_0 := by decide +kernel
theorem dksX0_isFairToAll_1 : cX0_isFairToAll.data.toList.drop 23 = dktX0_isFairToAll_1 := dk_seg dksX0_isFairToAll_0 23 rfl rfl
theorem dksX0_isFairToAll_2 : cX0_isFairToAll.data.toList.drop 47 = dktX0_isFairToAll_2 := dk_seg dksX0_isFairToAll_1 24 rfl rfl
theorem dX0_isFairToAll_0 : decode cX0_isFairToAll 0 = .ok (.iconst 0, 1) := dk_3 (dk_at dksX0_isFairToAll_0 0 rfl rfl)
theorem dX0_isFairToAll_1 : decode cX0_isFairToAll 1 = .ok (.istore_n 3, 1) := dk_62 (dk_at dksX0_isFairToAll_0 1 rfl rfl)
theorem dX0_isFairToAll_2 : decode cX0_isFairToAll 2 = .ok (.iload_n 3, 1) := dk_29 (dk_at dksX0_isFairToAll_0 2 rfl rfl)
theorem dX0_isFairToAll_3 : decode cX0_isFairToAll 3 = .ok (.aload_n 0, 1) := dk_42 (dk_at dksX0_isFairToAll_0 3 rfl rfl)
theorem dX0_isFairToAll_4 : decode cX0_isFairToAll 4 = .ok (.getfield 26, 3) := dk_180 0 26 (dk_at dksX0_isFairToAll_0 4 rfl rfl)
theorem dX0_isFairToAll_7 : decode cX0_isFairToAll 7 = .ok (.getfield 80, 3) := dk_180 0 80 (dk_at dksX0_isFairToAll_0 7 rfl rfl)
theorem dX0_isFairToAll_10 : decode cX0_isFairToAll 10 = .ok (.if_icmp .ge 36, 3) := dk_162 0 36 (dk_at dksX0_isFairToAll_0 10 rfl rfl)
theorem dX0_isFairToAll_13 : decode cX0_isFairToAll 13 = .ok (.iload_n 1, 1) := dk_27 (dk_at dksX0_isFairToAll_0 13 rfl rfl)
theorem dX0_isFairToAll_14 : decode cX0_isFairToAll 14 = .ok (.iload_n 3, 1) := dk_29 (dk_at dksX0_isFairToAll_0 14 rfl rfl)
theorem dX0_isFairToAll_15 : decode cX0_isFairToAll 15 = .ok (.ishr, 1) := dk_122 (dk_at dksX0_isFairToAll_0 15 rfl rfl)
theorem dX0_isFairToAll_16 : decode cX0_isFairToAll 16 = .ok (.iconst 1, 1) := dk_4 (dk_at dksX0_isFairToAll_0 16 rfl rfl)
theorem dX0_isFairToAll_17 : decode cX0_isFairToAll 17 = .ok (.iand, 1) := dk_126 (dk_at dksX0_isFairToAll_0 17 rfl rfl)
theorem dX0_isFairToAll_18 : decode cX0_isFairToAll 18 = .ok (.iconst 1, 1) := dk_4 (dk_at dksX0_isFairToAll_0 18 rfl rfl)
theorem dX0_isFairToAll_19 : decode cX0_isFairToAll 19 = .ok (.if_icmp .ne 21, 3) := dk_160 0 21 (dk_at dksX0_isFairToAll_0 19 rfl rfl)
theorem dX0_isFairToAll_22 : decode cX0_isFairToAll 22 = .ok (.aload_n 0, 1) := dk_42 (dk_at dksX0_isFairToAll_0 22 rfl rfl)
theorem dX0_isFairToAll_23 : decode cX0_isFairToAll 23 = .ok (.getfield 26, 3) := dk_180 0 26 (dk_at dksX0_isFairToAll_1 0 rfl rfl)
theorem dX0_isFairToAll_26 : decode cX0_isFairToAll 26 = .ok (.getfield 276, 3) := dk_180 1 20 (dk_at dksX0_isFairToAll_1 3 rfl rfl)
theorem dX0_isFairToAll_29 : decode cX0_isFairToAll 29 = .ok (.iload_n 3, 1) := dk_29 (dk_at dksX0_isFairToAll_1 6 rfl rfl)
theorem dX0_isFairToAll_30 : decode cX0_isFairToAll 30 = .ok (.aaload, 1) := dk_50 (dk_at dksX0_isFairToAll_1 7 rfl rfl)
theorem dX0_isFairToAll_31 : decode cX0_isFairToAll 31 = .ok (.aload_n 2, 1) := dk_44 (dk_at dksX0_isFairToAll_1 8 rfl rfl)
theorem dX0_isFairToAll_32 : decode cX0_isFairToAll 32 = .ok (.invokevirtual 299, 3) := dk_182 1 43 (dk_at dksX0_isFairToAll_1 9 rfl rfl)
theorem dX0_isFairToAll_35 : decode cX0_isFairToAll 35 = .ok (.ifCond .ne 5, 3) := dk_154 0 5 (dk_at dksX0_isFairToAll_1 12 rfl rfl)
theorem dX0_isFairToAll_38 : decode cX0_isFairToAll 38 = .ok (.iconst 0, 1) := dk_3 (dk_at dksX0_isFairToAll_1 15 rfl rfl)
theorem dX0_isFairToAll_39 : decode cX0_isFairToAll 39 = .ok (.ireturn, 1) := dk_172 (dk_at dksX0_isFairToAll_1 16 rfl rfl)
theorem dX0_isFairToAll_40 : decode cX0_isFairToAll 40 = .ok (.iinc 3 1, 3) := dk_132 3 1 (dk_at dksX0_isFairToAll_1 17 rfl rfl)
theorem dX0_isFairToAll_43 : decode cX0_isFairToAll 43 = .ok (.goto (-41), 3) := dk_167 255 215 (dk_at dksX0_isFairToAll_1 20 rfl rfl)
theorem dX0_isFairToAll_46 : decode cX0_isFairToAll 46 = .ok (.iconst 1, 1) := dk_4 (dk_at dksX0_isFairToAll_1 23 rfl rfl)
theorem dX0_isFairToAll_47 : decode cX0_isFairToAll 47 = .ok (.ireturn, 1) := dk_172 (dk_at dksX0_isFairToAll_2 0 rfl rfl)
abbrev cX0_telling : ByteArray := prog_1_method_55_code
def yX0_telling : MethodName := ⟨RX0, "telling", "(II)I"⟩
def dkwX0_telling_6 : List UInt8 := [28, 154, 0, 12, 42, 180, 0, 65, 27, 46, 167, 0, 4, 29, 172]
abbrev dktX0_telling_6 : List UInt8 := dkwX0_telling_6 ++ []
def dkwX0_telling_5 : List UInt8 := [180, 0, 65, 21, 4, 21, 5, 2, 160, 0, 7, 3, 167, 0, 5, 21, 5, 79, 132, 4, 1, 167, 255, 151]
abbrev dktX0_telling_5 : List UInt8 := dkwX0_telling_5 ++ dktX0_telling_6
def dkwX0_telling_4 : List UInt8 := [21, 5, 161, 0, 6, 167, 0, 10, 21, 7, 54, 5, 21, 6, 62, 132, 6, 1, 167, 255, 202, 42]
abbrev dktX0_telling_4 : List UInt8 := dkwX0_telling_4 ++ dktX0_telling_5
def dkwX0_telling_3 : List UInt8 := [21, 4, 21, 6, 182, 1, 105, 54, 7, 21, 7, 2, 159, 0, 26, 21, 5, 2, 159, 0, 13, 21, 7]
abbrev dktX0_telling_3 : List UInt8 := dkwX0_telling_3 ++ dktX0_telling_4
def dkwX0_telling_2 : List UInt8 := [167, 0, 87, 2, 54, 5, 2, 62, 3, 54, 6, 21, 6, 42, 180, 0, 26, 180, 0, 86, 162, 0, 48, 42]
abbrev dktX0_telling_2 : List UInt8 := dkwX0_telling_2 ++ dktX0_telling_3
def dkwX0_telling_1 : List UInt8 := [182, 1, 102, 2, 62, 3, 54, 4, 21, 4, 27, 163, 0, 105, 21, 4, 27, 2, 130, 126, 153, 0, 6]
abbrev dktX0_telling_1 : List UInt8 := dkwX0_telling_1 ++ dktX0_telling_2
def dkwX0_telling_0 : List UInt8 := [42, 27, 182, 1, 88, 153, 0, 13, 28, 133, 9, 10, 184, 0, 5, 154, 0, 5, 2, 172, 42, 27]
abbrev dktX0_telling_0 : List UInt8 := dkwX0_telling_0 ++ dktX0_telling_1
theorem dksX0_telling_0 : cX0_telling.data.toList.drop 0 = dktX0_telling_0 := by decide +kernel
theorem dksX0_telling_1 : cX0_telling.data.toList.drop 22 = dktX0_telling_1 := dk_seg dksX0_telling_0 22 rfl rfl
theorem dksX0_telling_2 : cX0_telling.data.toList.drop 45 = dktX0_telling_2 := dk_seg dksX0_telling_1 23 rfl rfl
theorem dksX0_telling_3 : cX0_telling.data.toList.drop 69 = dktX0_telling_3 := dk_seg dksX0_telling_2 24 rfl rfl
theorem dksX0_telling_4 : cX0_telling.data.toList.drop 92 = dktX0_telling_4 := dk_seg dksX0_telling_3 23 rfl rfl
theorem dksX0_telling_5 : cX0_telling.data.toList.drop 114 = dktX0_telling_5 := dk_seg dksX0_telling_4 22 rfl rfl
theorem dksX0_telling_6 : cX0_telling.data.toList.drop 138 = dktX0_telling_6 := dk_seg dksX0_telling_5 24 rfl rfl
theorem dX0_telling_0 : decode cX0_telling 0 = .ok (.aload_n 0, 1) := dk_42 (dk_at dksX0_telling_0 0 rfl rfl)
theorem dX0_telling_1 : decode cX0_telling 1 = .ok (.iload_n 1, 1) := dk_27 (dk_at dksX0_telling_0 1 rfl rfl)
theorem dX0_telling_2 : decode cX0_telling 2 = .ok (.invokevirtual 344, 3) := dk_182 1 88 (dk_at dksX0_telling_0 2 rfl rfl)
theorem dX0_telling_5 : decode cX0_telling 5 = .ok (.ifCond .eq 13, 3) := dk_153 0 13 (dk_at dksX0_telling_0 5 rfl rfl)
theorem dX0_telling_8 : decode cX0_telling 8 = .ok (.iload_n 2, 1) := dk_28 (dk_at dksX0_telling_0 8 rfl rfl)
theorem dX0_telling_9 : decode cX0_telling 9 = .ok (.i2l, 1) := dk_133 (dk_at dksX0_telling_0 9 rfl rfl)
theorem dX0_telling_10 : decode cX0_telling 10 = .ok (.lconst 0, 1) := dk_9 (dk_at dksX0_telling_0 10 rfl rfl)
theorem dX0_telling_11 : decode cX0_telling 11 = .ok (.lconst 1, 1) := dk_10 (dk_at dksX0_telling_0 11 rfl rfl)
theorem dX0_telling_12 : decode cX0_telling 12 = .ok (.invokestatic 5, 3) := dk_184 0 5 (dk_at dksX0_telling_0 12 rfl rfl)
theorem dX0_telling_15 : decode cX0_telling 15 = .ok (.ifCond .ne 5, 3) := dk_154 0 5 (dk_at dksX0_telling_0 15 rfl rfl)
theorem dX0_telling_18 : decode cX0_telling 18 = .ok (.iconst (-1), 1) := dk_2 (dk_at dksX0_telling_0 18 rfl rfl)
theorem dX0_telling_19 : decode cX0_telling 19 = .ok (.ireturn, 1) := dk_172 (dk_at dksX0_telling_0 19 rfl rfl)
theorem dX0_telling_20 : decode cX0_telling 20 = .ok (.aload_n 0, 1) := dk_42 (dk_at dksX0_telling_0 20 rfl rfl)
theorem dX0_telling_21 : decode cX0_telling 21 = .ok (.iload_n 1, 1) := dk_27 (dk_at dksX0_telling_0 21 rfl rfl)
theorem dX0_telling_22 : decode cX0_telling 22 = .ok (.invokevirtual 358, 3) := dk_182 1 102 (dk_at dksX0_telling_1 0 rfl rfl)
theorem dX0_telling_25 : decode cX0_telling 25 = .ok (.iconst (-1), 1) := dk_2 (dk_at dksX0_telling_1 3 rfl rfl)
theorem dX0_telling_26 : decode cX0_telling 26 = .ok (.istore_n 3, 1) := dk_62 (dk_at dksX0_telling_1 4 rfl rfl)
theorem dX0_telling_27 : decode cX0_telling 27 = .ok (.iconst 0, 1) := dk_3 (dk_at dksX0_telling_1 5 rfl rfl)
theorem dX0_telling_28 : decode cX0_telling 28 = .ok (.istore 4, 2) := dk_54 4 (dk_at dksX0_telling_1 6 rfl rfl)
theorem dX0_telling_30 : decode cX0_telling 30 = .ok (.iload 4, 2) := dk_21 4 (dk_at dksX0_telling_1 8 rfl rfl)
theorem dX0_telling_32 : decode cX0_telling 32 = .ok (.iload_n 1, 1) := dk_27 (dk_at dksX0_telling_1 10 rfl rfl)
theorem dX0_telling_33 : decode cX0_telling 33 = .ok (.if_icmp .gt 105, 3) := dk_163 0 105 (dk_at dksX0_telling_1 11 rfl rfl)
theorem dX0_telling_36 : decode cX0_telling 36 = .ok (.iload 4, 2) := dk_21 4 (dk_at dksX0_telling_1 14 rfl rfl)
theorem dX0_telling_38 : decode cX0_telling 38 = .ok (.iload_n 1, 1) := dk_27 (dk_at dksX0_telling_1 16 rfl rfl)
theorem dX0_telling_39 : decode cX0_telling 39 = .ok (.iconst (-1), 1) := dk_2 (dk_at dksX0_telling_1 17 rfl rfl)
theorem dX0_telling_40 : decode cX0_telling 40 = .ok (.ixor, 1) := dk_130 (dk_at dksX0_telling_1 18 rfl rfl)
theorem dX0_telling_41 : decode cX0_telling 41 = .ok (.iand, 1) := dk_126 (dk_at dksX0_telling_1 19 rfl rfl)
theorem dX0_telling_42 : decode cX0_telling 42 = .ok (.ifCond .eq 6, 3) := dk_153 0 6 (dk_at dksX0_telling_1 20 rfl rfl)
theorem dX0_telling_45 : decode cX0_telling 45 = .ok (.goto 87, 3) := dk_167 0 87 (dk_at dksX0_telling_2 0 rfl rfl)
theorem dX0_telling_48 : decode cX0_telling 48 = .ok (.iconst (-1), 1) := dk_2 (dk_at dksX0_telling_2 3 rfl rfl)
theorem dX0_telling_49 : decode cX0_telling 49 = .ok (.istore 5, 2) := dk_54 5 (dk_at dksX0_telling_2 4 rfl rfl)
theorem dX0_telling_51 : decode cX0_telling 51 = .ok (.iconst (-1), 1) := dk_2 (dk_at dksX0_telling_2 6 rfl rfl)
theorem dX0_telling_52 : decode cX0_telling 52 = .ok (.istore_n 3, 1) := dk_62 (dk_at dksX0_telling_2 7 rfl rfl)
theorem dX0_telling_53 : decode cX0_telling 53 = .ok (.iconst 0, 1) := dk_3 (dk_at dksX0_telling_2 8 rfl rfl)
theorem dX0_telling_54 : decode cX0_telling 54 = .ok (.istore 6, 2) := dk_54 6 (dk_at dksX0_telling_2 9 rfl rfl)
theorem dX0_telling_56 : decode cX0_telling 56 = .ok (.iload 6, 2) := dk_21 6 (dk_at dksX0_telling_2 11 rfl rfl)
theorem dX0_telling_58 : decode cX0_telling 58 = .ok (.aload_n 0, 1) := dk_42 (dk_at dksX0_telling_2 13 rfl rfl)
theorem dX0_telling_59 : decode cX0_telling 59 = .ok (.getfield 26, 3) := dk_180 0 26 (dk_at dksX0_telling_2 14 rfl rfl)
theorem dX0_telling_62 : decode cX0_telling 62 = .ok (.getfield 86, 3) := dk_180 0 86 (dk_at dksX0_telling_2 17 rfl rfl)
theorem dX0_telling_65 : decode cX0_telling 65 = .ok (.if_icmp .ge 48, 3) := dk_162 0 48 (dk_at dksX0_telling_2 20 rfl rfl)
theorem dX0_telling_68 : decode cX0_telling 68 = .ok (.aload_n 0, 1) := dk_42 (dk_at dksX0_telling_2 23 rfl rfl)
theorem dX0_telling_69 : decode cX0_telling 69 = .ok (.iload 4, 2) := dk_21 4 (dk_at dksX0_telling_3 0 rfl rfl)
theorem dX0_telling_71 : decode cX0_telling 71 = .ok (.iload 6, 2) := dk_21 6 (dk_at dksX0_telling_3 2 rfl rfl)
theorem dX0_telling_73 : decode cX0_telling 73 = .ok (.invokevirtual 361, 3) := dk_182 1 105 (dk_at dksX0_telling_3 4 rfl rfl)
theorem dX0_telling_76 : decode cX0_telling 76 = .ok (.istore 7, 2) := dk_54 7 (dk_at dksX0_telling_3 7 rfl rfl)
theorem dX0_telling_78 : decode cX0_telling 78 = .ok (.iload 7, 2) := dk_21 7 (dk_at dksX0_telling_3 9 rfl rfl)
theorem dX0_telling_80 : decode cX0_telling 80 = .ok (.iconst (-1), 1) := dk_2 (dk_at dksX0_telling_3 11 rfl rfl)
theorem dX0_telling_81 : decode cX0_telling 81 = .ok (.if_icmp .eq 26, 3) := dk_159 0 26 (dk_at dksX0_telling_3 12 rfl rfl)
theorem dX0_telling_84 : decode cX0_telling 84 = .ok (.iload 5, 2) := dk_21 5 (dk_at dksX0_telling_3 15 rfl rfl)
theorem dX0_telling_86 : decode cX0_telling 86 = .ok (.iconst (-1), 1) := dk_2 (dk_at dksX0_telling_3 17 rfl rfl)
theorem dX0_telling_87 : decode cX0_telling 87 = .ok (.if_icmp .eq 13, 3) := dk_159 0 13 (dk_at dksX0_telling_3 18 rfl rfl)
theorem dX0_telling_90 : decode cX0_telling 90 = .ok (.iload 7, 2) := dk_21 7 (dk_at dksX0_telling_3 21 rfl rfl)
theorem dX0_telling_92 : decode cX0_telling 92 = .ok (.iload 5, 2) := dk_21 5 (dk_at dksX0_telling_4 0 rfl rfl)
theorem dX0_telling_94 : decode cX0_telling 94 = .ok (.if_icmp .lt 6, 3) := dk_161 0 6 (dk_at dksX0_telling_4 2 rfl rfl)
theorem dX0_telling_97 : decode cX0_telling 97 = .ok (.goto 10, 3) := dk_167 0 10 (dk_at dksX0_telling_4 5 rfl rfl)
theorem dX0_telling_100 : decode cX0_telling 100 = .ok (.iload 7, 2) := dk_21 7 (dk_at dksX0_telling_4 8 rfl rfl)
theorem dX0_telling_102 : decode cX0_telling 102 = .ok (.istore 5, 2) := dk_54 5 (dk_at dksX0_telling_4 10 rfl rfl)
theorem dX0_telling_104 : decode cX0_telling 104 = .ok (.iload 6, 2) := dk_21 6 (dk_at dksX0_telling_4 12 rfl rfl)
theorem dX0_telling_106 : decode cX0_telling 106 = .ok (.istore_n 3, 1) := dk_62 (dk_at dksX0_telling_4 14 rfl rfl)
theorem dX0_telling_107 : decode cX0_telling 107 = .ok (.iinc 6 1, 3) := dk_132 6 1 (dk_at dksX0_telling_4 15 rfl rfl)
theorem dX0_telling_110 : decode cX0_telling 110 = .ok (.goto (-54), 3) := dk_167 255 202 (dk_at dksX0_telling_4 18 rfl rfl)
theorem dX0_telling_113 : decode cX0_telling 113 = .ok (.aload_n 0, 1) := dk_42 (dk_at dksX0_telling_4 21 rfl rfl)
theorem dX0_telling_114 : decode cX0_telling 114 = .ok (.getfield 65, 3) := dk_180 0 65 (dk_at dksX0_telling_5 0 rfl rfl)
theorem dX0_telling_117 : decode cX0_telling 117 = .ok (.iload 4, 2) := dk_21 4 (dk_at dksX0_telling_5 3 rfl rfl)
theorem dX0_telling_119 : decode cX0_telling 119 = .ok (.iload 5, 2) := dk_21 5 (dk_at dksX0_telling_5 5 rfl rfl)
theorem dX0_telling_121 : decode cX0_telling 121 = .ok (.iconst (-1), 1) := dk_2 (dk_at dksX0_telling_5 7 rfl rfl)
theorem dX0_telling_122 : decode cX0_telling 122 = .ok (.if_icmp .ne 7, 3) := dk_160 0 7 (dk_at dksX0_telling_5 8 rfl rfl)
theorem dX0_telling_125 : decode cX0_telling 125 = .ok (.iconst 0, 1) := dk_3 (dk_at dksX0_telling_5 11 rfl rfl)
theorem dX0_telling_126 : decode cX0_telling 126 = .ok (.goto 5, 3) := dk_167 0 5 (dk_at dksX0_telling_5 12 rfl rfl)
theorem dX0_telling_129 : decode cX0_telling 129 = .ok (.iload 5, 2) := dk_21 5 (dk_at dksX0_telling_5 15 rfl rfl)
theorem dX0_telling_131 : decode cX0_telling 131 = .ok (.iastore, 1) := dk_79 (dk_at dksX0_telling_5 17 rfl rfl)
theorem dX0_telling_132 : decode cX0_telling 132 = .ok (.iinc 4 1, 3) := dk_132 4 1 (dk_at dksX0_telling_5 18 rfl rfl)
theorem dX0_telling_135 : decode cX0_telling 135 = .ok (.goto (-105), 3) := dk_167 255 151 (dk_at dksX0_telling_5 21 rfl rfl)
theorem dX0_telling_138 : decode cX0_telling 138 = .ok (.iload_n 2, 1) := dk_28 (dk_at dksX0_telling_6 0 rfl rfl)
theorem dX0_telling_139 : decode cX0_telling 139 = .ok (.ifCond .ne 12, 3) := dk_154 0 12 (dk_at dksX0_telling_6 1 rfl rfl)
theorem dX0_telling_142 : decode cX0_telling 142 = .ok (.aload_n 0, 1) := dk_42 (dk_at dksX0_telling_6 4 rfl rfl)
theorem dX0_telling_143 : decode cX0_telling 143 = .ok (.getfield 65, 3) := dk_180 0 65 (dk_at dksX0_telling_6 5 rfl rfl)
theorem dX0_telling_146 : decode cX0_telling 146 = .ok (.iload_n 1, 1) := dk_27 (dk_at dksX0_telling_6 8 rfl rfl)
theorem dX0_telling_147 : decode cX0_telling 147 = .ok (.iaload, 1) := dk_46 (dk_at dksX0_telling_6 9 rfl rfl)
theorem dX0_telling_148 : decode cX0_telling 148 = .ok (.goto 4, 3) := dk_167 0 4 (dk_at dksX0_telling_6 10 rfl rfl)
theorem dX0_telling_151 : decode cX0_telling 151 = .ok (.iload_n 3, 1) := dk_29 (dk_at dksX0_telling_6 13 rfl rfl)
theorem dX0_telling_152 : decode cX0_telling 152 = .ok (.ireturn, 1) := dk_172 (dk_at dksX0_telling_6 14 rfl rfl)
abbrev cX0_findPlain : ByteArray := prog_1_method_53_code
def yX0_findPlain : MethodName := ⟨RX0, "findPlain", "(I)V"⟩
def dkwX0_findPlain_5 : List UInt8 := [42, 180, 0, 62, 28, 21, 4, 153, 0, 7, 29, 167, 0, 4, 2, 79, 132, 2, 1, 167, 255, 122, 177]
abbrev dktX0_findPlain_5 : List UInt8 := dkwX0_findPlain_5 ++ []
def dkwX0_findPlain_4 : List UInt8 := [29, 21, 6, 16, 100, 160, 0, 10, 4, 21, 5, 120, 167, 0, 4, 3, 128, 62, 132, 5, 1, 167, 255, 163]
abbrev dktX0_findPlain_4 : List UInt8 := dkwX0_findPlain_4 ++ dktX0_findPlain_5
def dkwX0_findPlain_3 : List UInt8 := [21, 4, 153, 0, 19, 21, 6, 153, 0, 10, 21, 6, 16, 100, 160, 0, 7, 4, 167, 0, 4, 3, 54, 4]
abbrev dktX0_findPlain_3 : List UInt8 := dkwX0_findPlain_3 ++ dktX0_findPlain_4
def dkwX0_findPlain_2 : List UInt8 := [180, 0, 26, 180, 1, 20, 21, 5, 50, 42, 180, 0, 26, 180, 0, 242, 28, 50, 182, 1, 40, 54, 6]
abbrev dktX0_findPlain_2 : List UInt8 := dkwX0_findPlain_2 ++ dktX0_findPlain_3
def dkwX0_findPlain_1 : List UInt8 := [180, 0, 26, 180, 0, 80, 162, 0, 87, 27, 21, 5, 122, 4, 126, 154, 0, 6, 167, 0, 69, 42]
abbrev dktX0_findPlain_1 : List UInt8 := dkwX0_findPlain_1 ++ dktX0_findPlain_2
def dkwX0_findPlain_0 : List UInt8 := [3, 61, 28, 42, 180, 0, 26, 180, 0, 86, 162, 0, 129, 3, 62, 4, 54, 4, 3, 54, 5, 21, 5, 42]
abbrev dktX0_findPlain_0 : List UInt8 := dkwX0_findPlain_0 ++ dktX0_findPlain_1
theorem dksX0_findPlain_0 : cX0_findPlain.data.toList.drop 0 = dktX0_findPlain_0 := by decide +kernel
theorem dksX0_findPlain_1 : cX0_findPlain.data.toList.drop 24 = dktX0_findPlain_1 := dk_seg dksX0_findPlain_0 24 rfl rfl
theorem dksX0_findPlain_2 : cX0_findPlain.data.toList.drop 46 = dktX0_findPlain_2 := dk_seg dksX0_findPlain_1 22 rfl rfl
theorem dksX0_findPlain_3 : cX0_findPlain.data.toList.drop 69 = dktX0_findPlain_3 := dk_seg dksX0_findPlain_2 23 rfl rfl
theorem dksX0_findPlain_4 : cX0_findPlain.data.toList.drop 93 = dktX0_findPlain_4 := dk_seg dksX0_findPlain_3 24 rfl rfl
theorem dksX0_findPlain_5 : cX0_findPlain.data.toList.drop 117 = dktX0_findPlain_5 := dk_seg dksX0_findPlain_4 24 rfl rfl
theorem dX0_findPlain_0 : decode cX0_findPlain 0 = .ok (.iconst 0, 1) := dk_3 (dk_at dksX0_findPlain_0 0 rfl rfl)
theorem dX0_findPlain_1 : decode cX0_findPlain 1 = .ok (.istore_n 2, 1) := dk_61 (dk_at dksX0_findPlain_0 1 rfl rfl)
theorem dX0_findPlain_2 : decode cX0_findPlain 2 = .ok (.iload_n 2, 1) := dk_28 (dk_at dksX0_findPlain_0 2 rfl rfl)
theorem dX0_findPlain_3 : decode cX0_findPlain 3 = .ok (.aload_n 0, 1) := dk_42 (dk_at dksX0_findPlain_0 3 rfl rfl)
theorem dX0_findPlain_4 : decode cX0_findPlain 4 = .ok (.getfield 26, 3) := dk_180 0 26 (dk_at dksX0_findPlain_0 4 rfl rfl)
theorem dX0_findPlain_7 : decode cX0_findPlain 7 = .ok (.getfield 86, 3) := dk_180 0 86 (dk_at dksX0_findPlain_0 7 rfl rfl)
theorem dX0_findPlain_10 : decode cX0_findPlain 10 = .ok (.if_icmp .ge 129, 3) := dk_162 0 129 (dk_at dksX0_findPlain_0 10 rfl rfl)
theorem dX0_findPlain_13 : decode cX0_findPlain 13 = .ok (.iconst 0, 1) := dk_3 (dk_at dksX0_findPlain_0 13 rfl rfl)
theorem dX0_findPlain_14 : decode cX0_findPlain 14 = .ok (.istore_n 3, 1) := dk_62 (dk_at dksX0_findPlain_0 14 rfl rfl)
theorem dX0_findPlain_15 : decode cX0_findPlain 15 = .ok (.iconst 1, 1) := dk_4 (dk_at dksX0_findPlain_0 15 rfl rfl)
theorem dX0_findPlain_16 : decode cX0_findPlain 16 = .ok (.istore 4, 2) := dk_54 4 (dk_at dksX0_findPlain_0 16 rfl rfl)
theorem dX0_findPlain_18 : decode cX0_findPlain 18 = .ok (.iconst 0, 1) := dk_3 (dk_at dksX0_findPlain_0 18 rfl rfl)
theorem dX0_findPlain_19 : decode cX0_findPlain 19 = .ok (.istore 5, 2) := dk_54 5 (dk_at dksX0_findPlain_0 19 rfl rfl)
theorem dX0_findPlain_21 : decode cX0_findPlain 21 = .ok (.iload 5, 2) := dk_21 5 (dk_at dksX0_findPlain_0 21 rfl rfl)
theorem dX0_findPlain_23 : decode cX0_findPlain 23 = .ok (.aload_n 0, 1) := dk_42 (dk_at dksX0_findPlain_0 23 rfl rfl)
theorem dX0_findPlain_24 : decode cX0_findPlain 24 = .ok (.getfield 26, 3) := dk_180 0 26 (dk_at dksX0_findPlain_1 0 rfl rfl)
theorem dX0_findPlain_27 : decode cX0_findPlain 27 = .ok (.getfield 80, 3) := dk_180 0 80 (dk_at dksX0_findPlain_1 3 rfl rfl)
theorem dX0_findPlain_30 : decode cX0_findPlain 30 = .ok (.if_icmp .ge 87, 3) := dk_162 0 87 (dk_at dksX0_findPlain_1 6 rfl rfl)
theorem dX0_findPlain_33 : decode cX0_findPlain 33 = .ok (.iload_n 1, 1) := dk_27 (dk_at dksX0_findPlain_1 9 rfl rfl)
theorem dX0_findPlain_34 : decode cX0_findPlain 34 = .ok (.iload 5, 2) := dk_21 5 (dk_at dksX0_findPlain_1 10 rfl rfl)
theorem dX0_findPlain_36 : decode cX0_findPlain 36 = .ok (.ishr, 1) := dk_122 (dk_at dksX0_findPlain_1 12 rfl rfl)
theorem dX0_findPlain_37 : decode cX0_findPlain 37 = .ok (.iconst 1, 1) := dk_4 (dk_at dksX0_findPlain_1 13 rfl rfl)
theorem dX0_findPlain_38 : decode cX0_findPlain 38 = .ok (.iand, 1) := dk_126 (dk_at dksX0_findPlain_1 14 rfl rfl)
theorem dX0_findPlain_39 : decode cX0_findPlain 39 = .ok (.ifCond .ne 6, 3) := dk_154 0 6 (dk_at dksX0_findPlain_1 15 rfl rfl)
theorem dX0_findPlain_42 : decode cX0_findPlain 42 = .ok (.goto 69, 3) := dk_167 0 69 (dk_at dksX0_findPlain_1 18 rfl rfl)
theorem dX0_findPlain_45 : decode cX0_findPlain 45 = .ok (.aload_n 0, 1) := dk_42 (dk_at dksX0_findPlain_1 21 rfl rfl)
theorem dX0_findPlain_46 : decode cX0_findPlain 46 = .ok (.getfield 26, 3) := dk_180 0 26 (dk_at dksX0_findPlain_2 0 rfl rfl)
theorem dX0_findPlain_49 : decode cX0_findPlain 49 = .ok (.getfield 276, 3) := dk_180 1 20 (dk_at dksX0_findPlain_2 3 rfl rfl)
theorem dX0_findPlain_52 : decode cX0_findPlain 52 = .ok (.iload 5, 2) := dk_21 5 (dk_at dksX0_findPlain_2 6 rfl rfl)
theorem dX0_findPlain_54 : decode cX0_findPlain 54 = .ok (.aaload, 1) := dk_50 (dk_at dksX0_findPlain_2 8 rfl rfl)
theorem dX0_findPlain_55 : decode cX0_findPlain 55 = .ok (.aload_n 0, 1) := dk_42 (dk_at dksX0_findPlain_2 9 rfl rfl)
theorem dX0_findPlain_56 : decode cX0_findPlain 56 = .ok (.getfield 26, 3) := dk_180 0 26 (dk_at dksX0_findPlain_2 10 rfl rfl)
theorem dX0_findPlain_59 : decode cX0_findPlain 59 = .ok (.getfield 242, 3) := dk_180 0 242 (dk_at dksX0_findPlain_2 13 rfl rfl)
theorem dX0_findPlain_62 : decode cX0_findPlain 62 = .ok (.iload_n 2, 1) := dk_28 (dk_at dksX0_findPlain_2 16 rfl rfl)
theorem dX0_findPlain_63 : decode cX0_findPlain 63 = .ok (.aaload, 1) := dk_50 (dk_at dksX0_findPlain_2 17 rfl rfl)
theorem dX0_findPlain_64 : decode cX0_findPlain 64 = .ok (.invokevirtual 296, 3) := dk_182 1 40 (dk_at dksX0_findPlain_2 18 rfl rfl)
theorem dX0_findPlain_67 : decode cX0_findPlain 67 = .ok (.istore 6, 2) := dk_54 6 (dk_at dksX0_findPlain_2 21 rfl rfl)
theorem dX0_findPlain_69 : decode cX0_findPlain 69 = .ok (.iload 4, 2) := dk_21 4 (dk_at dksX0_findPlain_3 0 rfl rfl)
theorem dX0_findPlain_71 : decode cX0_findPlain 71 = .ok (.ifCond .eq 19, 3) := dk_153 0 19 (dk_at dksX0_findPlain_3 2 rfl rfl)
theorem dX0_findPlain_74 : decode cX0_findPlain 74 = .ok (.iload 6, 2) := dk_21 6 (dk_at dksX0_findPlain_3 5 rfl rfl)
theorem dX0_findPlain_76 : decode cX0_findPlain 76 = .ok (.ifCond .eq 10, 3) := dk_153 0 10 (dk_at dksX0_findPlain_3 7 rfl rfl)
theorem dX0_findPlain_79 : decode cX0_findPlain 79 = .ok (.iload 6, 2) := dk_21 6 (dk_at dksX0_findPlain_3 10 rfl rfl)
theorem dX0_findPlain_81 : decode cX0_findPlain 81 = .ok (.bipush 100, 2) := dk_16 100 (dk_at dksX0_findPlain_3 12 rfl rfl)
theorem dX0_findPlain_83 : decode cX0_findPlain 83 = .ok (.if_icmp .ne 7, 3) := dk_160 0 7 (dk_at dksX0_findPlain_3 14 rfl rfl)
theorem dX0_findPlain_86 : decode cX0_findPlain 86 = .ok (.iconst 1, 1) := dk_4 (dk_at dksX0_findPlain_3 17 rfl rfl)
theorem dX0_findPlain_87 : decode cX0_findPlain 87 = .ok (.goto 4, 3) := dk_167 0 4 (dk_at dksX0_findPlain_3 18 rfl rfl)
theorem dX0_findPlain_90 : decode cX0_findPlain 90 = .ok (.iconst 0, 1) := dk_3 (dk_at dksX0_findPlain_3 21 rfl rfl)
theorem dX0_findPlain_91 : decode cX0_findPlain 91 = .ok (.istore 4, 2) := dk_54 4 (dk_at dksX0_findPlain_3 22 rfl rfl)
theorem dX0_findPlain_93 : decode cX0_findPlain 93 = .ok (.iload_n 3, 1) := dk_29 (dk_at dksX0_findPlain_4 0 rfl rfl)
theorem dX0_findPlain_94 : decode cX0_findPlain 94 = .ok (.iload 6, 2) := dk_21 6 (dk_at dksX0_findPlain_4 1 rfl rfl)
theorem dX0_findPlain_96 : decode cX0_findPlain 96 = .ok (.bipush 100, 2) := dk_16 100 (dk_at dksX0_findPlain_4 3 rfl rfl)
theorem dX0_findPlain_98 : decode cX0_findPlain 98 = .ok (.if_icmp .ne 10, 3) := dk_160 0 10 (dk_at dksX0_findPlain_4 5 rfl rfl)
theorem dX0_findPlain_101 : decode cX0_findPlain 101 = .ok (.iconst 1, 1) := dk_4 (dk_at dksX0_findPlain_4 8 rfl rfl)
theorem dX0_findPlain_102 : decode cX0_findPlain 102 = .ok (.iload 5, 2) := dk_21 5 (dk_at dksX0_findPlain_4 9 rfl rfl)
theorem dX0_findPlain_104 : decode cX0_findPlain 104 = .ok (.ishl, 1) := dk_120 (dk_at dksX0_findPlain_4 11 rfl rfl)
theorem dX0_findPlain_105 : decode cX0_findPlain 105 = .ok (.goto 4, 3) := dk_167 0 4 (dk_at dksX0_findPlain_4 12 rfl rfl)
theorem dX0_findPlain_108 : decode cX0_findPlain 108 = .ok (.iconst 0, 1) := dk_3 (dk_at dksX0_findPlain_4 15 rfl rfl)
theorem dX0_findPlain_109 : decode cX0_findPlain 109 = .ok (.ior, 1) := dk_128 (dk_at dksX0_findPlain_4 16 rfl rfl)
theorem dX0_findPlain_110 : decode cX0_findPlain 110 = .ok (.istore_n 3, 1) := dk_62 (dk_at dksX0_findPlain_4 17 rfl rfl)
theorem dX0_findPlain_111 : decode cX0_findPlain 111 = .ok (.iinc 5 1, 3) := dk_132 5 1 (dk_at dksX0_findPlain_4 18 rfl rfl)
theorem dX0_findPlain_114 : decode cX0_findPlain 114 = .ok (.goto (-93), 3) := dk_167 255 163 (dk_at dksX0_findPlain_4 21 rfl rfl)
theorem dX0_findPlain_117 : decode cX0_findPlain 117 = .ok (.aload_n 0, 1) := dk_42 (dk_at dksX0_findPlain_5 0 rfl rfl)
theorem dX0_findPlain_118 : decode cX0_findPlain 118 = .ok (.getfield 62, 3) := dk_180 0 62 (dk_at dksX0_findPlain_5 1 rfl rfl)
theorem dX0_findPlain_121 : decode cX0_findPlain 121 = .ok (.iload_n 2, 1) := dk_28 (dk_at dksX0_findPlain_5 4 rfl rfl)
theorem dX0_findPlain_122 : decode cX0_findPlain 122 = .ok (.iload 4, 2) := dk_21 4 (dk_at dksX0_findPlain_5 5 rfl rfl)
theorem dX0_findPlain_124 : decode cX0_findPlain 124 = .ok (.ifCond .eq 7, 3) := dk_153 0 7 (dk_at dksX0_findPlain_5 7 rfl rfl)
theorem dX0_findPlain_127 : decode cX0_findPlain 127 = .ok (.iload_n 3, 1) := dk_29 (dk_at dksX0_findPlain_5 10 rfl rfl)
theorem dX0_findPlain_128 : decode cX0_findPlain 128 = .ok (.goto 4, 3) := dk_167 0 4 (dk_at dksX0_findPlain_5 11 rfl rfl)
theorem dX0_findPlain_131 : decode cX0_findPlain 131 = .ok (.iconst (-1), 1) := dk_2 (dk_at dksX0_findPlain_5 14 rfl rfl)
theorem dX0_findPlain_132 : decode cX0_findPlain 132 = .ok (.iastore, 1) := dk_79 (dk_at dksX0_findPlain_5 15 rfl rfl)
theorem dX0_findPlain_133 : decode cX0_findPlain 133 = .ok (.iinc 2 1, 3) := dk_132 2 1 (dk_at dksX0_findPlain_5 16 rfl rfl)
theorem dX0_findPlain_136 : decode cX0_findPlain 136 = .ok (.goto (-134), 3) := dk_167 255 122 (dk_at dksX0_findPlain_5 19 rfl rfl)
theorem dX0_findPlain_139 : decode cX0_findPlain 139 = .ok (.return_, 1) := dk_177 (dk_at dksX0_findPlain_5 22 rfl rfl)
abbrev cX0_by : ByteArray := prog_1_method_54_code
def yX0_by : MethodName := ⟨RX0, "by", "(II)I"⟩
def dkwX0_by_2 : List UInt8 := [29, 2, 130, 126, 46, 184, 1, 99, 96, 172]
abbrev dktX0_by_2 : List UInt8 := dkwX0_by_2 ++ []
def dkwX0_by_1 : List UInt8 := [153, 0, 8, 29, 27, 160, 0, 7, 2, 167, 0, 24, 4, 42, 180, 0, 65, 29, 46, 42, 180, 0, 65, 27]
abbrev dktX0_by_1 : List UInt8 := dkwX0_by_1 ++ dktX0_by_2
def dkwX0_by_0 : List UInt8 := [42, 180, 0, 62, 28, 46, 2, 160, 0, 5, 2, 172, 27, 42, 180, 0, 62, 28, 46, 126, 62, 29]
abbrev dktX0_by_0 : List UInt8 := dkwX0_by_0 ++ dktX0_by_1
theorem dksX0_by_0 : cX0_by.data.toList.drop 0 = dktX0_by_0 := by decide +kernel
theorem dksX0_by_1 : cX0_by.data.toList.drop 22 = dktX0_by_1 := dk_seg dksX0_by_0 22 rfl rfl
theorem dksX0_by_2 : cX0_by.data.toList.drop 46 = dktX0_by_2 := dk_seg dksX0_by_1 24 rfl rfl
theorem dX0_by_0 : decode cX0_by 0 = .ok (.aload_n 0, 1) := dk_42 (dk_at dksX0_by_0 0 rfl rfl)
theorem dX0_by_1 : decode cX0_by 1 = .ok (.getfield 62, 3) := dk_180 0 62 (dk_at dksX0_by_0 1 rfl rfl)
theorem dX0_by_4 : decode cX0_by 4 = .ok (.iload_n 2, 1) := dk_28 (dk_at dksX0_by_0 4 rfl rfl)
theorem dX0_by_5 : decode cX0_by 5 = .ok (.iaload, 1) := dk_46 (dk_at dksX0_by_0 5 rfl rfl)
theorem dX0_by_6 : decode cX0_by 6 = .ok (.iconst (-1), 1) := dk_2 (dk_at dksX0_by_0 6 rfl rfl)
theorem dX0_by_7 : decode cX0_by 7 = .ok (.if_icmp .ne 5, 3) := dk_160 0 5 (dk_at dksX0_by_0 7 rfl rfl)
theorem dX0_by_10 : decode cX0_by 10 = .ok (.iconst (-1), 1) := dk_2 (dk_at dksX0_by_0 10 rfl rfl)
theorem dX0_by_11 : decode cX0_by 11 = .ok (.ireturn, 1) := dk_172 (dk_at dksX0_by_0 11 rfl rfl)
theorem dX0_by_12 : decode cX0_by 12 = .ok (.iload_n 1, 1) := dk_27 (dk_at dksX0_by_0 12 rfl rfl)
theorem dX0_by_13 : decode cX0_by 13 = .ok (.aload_n 0, 1) := dk_42 (dk_at dksX0_by_0 13 rfl rfl)
theorem dX0_by_14 : decode cX0_by 14 = .ok (.getfield 62, 3) := dk_180 0 62 (dk_at dksX0_by_0 14 rfl rfl)
theorem dX0_by_17 : decode cX0_by 17 = .ok (.iload_n 2, 1) := dk_28 (dk_at dksX0_by_0 17 rfl rfl)
theorem dX0_by_18 : decode cX0_by 18 = .ok (.iaload, 1) := dk_46 (dk_at dksX0_by_0 18 rfl rfl)
theorem dX0_by_19 : decode cX0_by 19 = .ok (.iand, 1) := dk_126 (dk_at dksX0_by_0 19 rfl rfl)
theorem dX0_by_20 : decode cX0_by 20 = .ok (.istore_n 3, 1) := dk_62 (dk_at dksX0_by_0 20 rfl rfl)
theorem dX0_by_21 : decode cX0_by 21 = .ok (.iload_n 3, 1) := dk_29 (dk_at dksX0_by_0 21 rfl rfl)
theorem dX0_by_22 : decode cX0_by 22 = .ok (.ifCond .eq 8, 3) := dk_153 0 8 (dk_at dksX0_by_1 0 rfl rfl)
theorem dX0_by_25 : decode cX0_by 25 = .ok (.iload_n 3, 1) := dk_29 (dk_at dksX0_by_1 3 rfl rfl)
theorem dX0_by_26 : decode cX0_by 26 = .ok (.iload_n 1, 1) := dk_27 (dk_at dksX0_by_1 4 rfl rfl)
theorem dX0_by_27 : decode cX0_by 27 = .ok (.if_icmp .ne 7, 3) := dk_160 0 7 (dk_at dksX0_by_1 5 rfl rfl)
theorem dX0_by_30 : decode cX0_by 30 = .ok (.iconst (-1), 1) := dk_2 (dk_at dksX0_by_1 8 rfl rfl)
theorem dX0_by_31 : decode cX0_by 31 = .ok (.goto 24, 3) := dk_167 0 24 (dk_at dksX0_by_1 9 rfl rfl)
theorem dX0_by_34 : decode cX0_by 34 = .ok (.iconst 1, 1) := dk_4 (dk_at dksX0_by_1 12 rfl rfl)
theorem dX0_by_35 : decode cX0_by 35 = .ok (.aload_n 0, 1) := dk_42 (dk_at dksX0_by_1 13 rfl rfl)
theorem dX0_by_36 : decode cX0_by 36 = .ok (.getfield 65, 3) := dk_180 0 65 (dk_at dksX0_by_1 14 rfl rfl)
theorem dX0_by_39 : decode cX0_by 39 = .ok (.iload_n 3, 1) := dk_29 (dk_at dksX0_by_1 17 rfl rfl)
theorem dX0_by_40 : decode cX0_by 40 = .ok (.iaload, 1) := dk_46 (dk_at dksX0_by_1 18 rfl rfl)
theorem dX0_by_41 : decode cX0_by 41 = .ok (.aload_n 0, 1) := dk_42 (dk_at dksX0_by_1 19 rfl rfl)
theorem dX0_by_42 : decode cX0_by 42 = .ok (.getfield 65, 3) := dk_180 0 65 (dk_at dksX0_by_1 20 rfl rfl)
theorem dX0_by_45 : decode cX0_by 45 = .ok (.iload_n 1, 1) := dk_27 (dk_at dksX0_by_1 23 rfl rfl)
theorem dX0_by_46 : decode cX0_by 46 = .ok (.iload_n 3, 1) := dk_29 (dk_at dksX0_by_2 0 rfl rfl)
theorem dX0_by_47 : decode cX0_by 47 = .ok (.iconst (-1), 1) := dk_2 (dk_at dksX0_by_2 1 rfl rfl)
theorem dX0_by_48 : decode cX0_by 48 = .ok (.ixor, 1) := dk_130 (dk_at dksX0_by_2 2 rfl rfl)
theorem dX0_by_49 : decode cX0_by 49 = .ok (.iand, 1) := dk_126 (dk_at dksX0_by_2 3 rfl rfl)
theorem dX0_by_50 : decode cX0_by 50 = .ok (.iaload, 1) := dk_46 (dk_at dksX0_by_2 4 rfl rfl)
theorem dX0_by_51 : decode cX0_by 51 = .ok (.invokestatic 355, 3) := dk_184 1 99 (dk_at dksX0_by_2 5 rfl rfl)
theorem dX0_by_54 : decode cX0_by 54 = .ok (.iadd, 1) := dk_96 (dk_at dksX0_by_2 8 rfl rfl)
theorem dX0_by_55 : decode cX0_by 55 = .ok (.ireturn, 1) := dk_172 (dk_at dksX0_by_2 9 rfl rfl)
abbrev cX0_span : ByteArray := prog_1_method_59_code
def yX0_span : MethodName := ⟨RX0, "span", "(III)I"⟩
def dkwX0_span_3 : List UInt8 := [54, 4, 132, 5, 1, 167, 255, 221, 21, 4, 172]
abbrev dktX0_span_3 : List UInt8 := dkwX0_span_3 ++ []
def dkwX0_span_2 : List UInt8 := [27, 28, 21, 5, 184, 1, 123, 153, 0, 18, 21, 4, 2, 159, 0, 8, 29, 4, 160, 0, 7, 21, 5]
abbrev dktX0_span_2 : List UInt8 := dkwX0_span_2 ++ dktX0_span_3
def dkwX0_span_1 : List UInt8 := [133, 9, 10, 184, 0, 5, 154, 0, 5, 2, 172, 2, 54, 4, 3, 54, 5, 21, 5, 16, 10, 163, 0, 34]
abbrev dktX0_span_1 : List UInt8 := dkwX0_span_1 ++ dktX0_span_2
def dkwX0_span_0 : List UInt8 := [27, 133, 10, 20, 1, 121, 184, 0, 5, 153, 0, 24, 28, 133, 9, 27, 133, 184, 0, 5, 153, 0, 13, 29]
abbrev dktX0_span_0 : List UInt8 := dkwX0_span_0 ++ dktX0_span_1
theorem dksX0_span_0 : cX0_span.data.toList.drop 0 = dktX0_span_0 := by decide +kernel
theorem dksX0_span_1 : cX0_span.data.toList.drop 24 = dktX0_span_1 := dk_seg dksX0_span_0 24 rfl rfl
theorem dksX0_span_2 : cX0_span.data.toList.drop 48 = dktX0_span_2 := dk_seg dksX0_span_1 24 rfl rfl
theorem dksX0_span_3 : cX0_span.data.toList.drop 71 = dktX0_span_3 := dk_seg dksX0_span_2 23 rfl rfl
theorem dX0_span_0 : decode cX0_span 0 = .ok (.iload_n 1, 1) := dk_27 (dk_at dksX0_span_0 0 rfl rfl)
theorem dX0_span_1 : decode cX0_span 1 = .ok (.i2l, 1) := dk_133 (dk_at dksX0_span_0 1 rfl rfl)
theorem dX0_span_2 : decode cX0_span 2 = .ok (.lconst 1, 1) := dk_10 (dk_at dksX0_span_0 2 rfl rfl)
theorem dX0_span_3 : decode cX0_span 3 = .ok (.ldc2_w 377, 3) := dk_20 1 121 (dk_at dksX0_span_0 3 rfl rfl)
theorem dX0_span_6 : decode cX0_span 6 = .ok (.invokestatic 5, 3) := dk_184 0 5 (dk_at dksX0_span_0 6 rfl rfl)
theorem dX0_span_9 : decode cX0_span 9 = .ok (.ifCond .eq 24, 3) := dk_153 0 24 (dk_at dksX0_span_0 9 rfl rfl)
theorem dX0_span_12 : decode cX0_span 12 = .ok (.iload_n 2, 1) := dk_28 (dk_at dksX0_span_0 12 rfl rfl)
theorem dX0_span_13 : decode cX0_span 13 = .ok (.i2l, 1) := dk_133 (dk_at dksX0_span_0 13 rfl rfl)
theorem dX0_span_14 : decode cX0_span 14 = .ok (.lconst 0, 1) := dk_9 (dk_at dksX0_span_0 14 rfl rfl)
theorem dX0_span_15 : decode cX0_span 15 = .ok (.iload_n 1, 1) := dk_27 (dk_at dksX0_span_0 15 rfl rfl)
theorem dX0_span_16 : decode cX0_span 16 = .ok (.i2l, 1) := dk_133 (dk_at dksX0_span_0 16 rfl rfl)
theorem dX0_span_17 : decode cX0_span 17 = .ok (.invokestatic 5, 3) := dk_184 0 5 (dk_at dksX0_span_0 17 rfl rfl)
theorem dX0_span_20 : decode cX0_span 20 = .ok (.ifCond .eq 13, 3) := dk_153 0 13 (dk_at dksX0_span_0 20 rfl rfl)
theorem dX0_span_23 : decode cX0_span 23 = .ok (.iload_n 3, 1) := dk_29 (dk_at dksX0_span_0 23 rfl rfl)
theorem dX0_span_24 : decode cX0_span 24 = .ok (.i2l, 1) := dk_133 (dk_at dksX0_span_1 0 rfl rfl)
theorem dX0_span_25 : decode cX0_span 25 = .ok (.lconst 0, 1) := dk_9 (dk_at dksX0_span_1 1 rfl rfl)
theorem dX0_span_26 : decode cX0_span 26 = .ok (.lconst 1, 1) := dk_10 (dk_at dksX0_span_1 2 rfl rfl)
theorem dX0_span_27 : decode cX0_span 27 = .ok (.invokestatic 5, 3) := dk_184 0 5 (dk_at dksX0_span_1 3 rfl rfl)
theorem dX0_span_30 : decode cX0_span 30 = .ok (.ifCond .ne 5, 3) := dk_154 0 5 (dk_at dksX0_span_1 6 rfl rfl)
theorem dX0_span_33 : decode cX0_span 33 = .ok (.iconst (-1), 1) := dk_2 (dk_at dksX0_span_1 9 rfl rfl)
theorem dX0_span_34 : decode cX0_span 34 = .ok (.ireturn, 1) := dk_172 (dk_at dksX0_span_1 10 rfl rfl)
theorem dX0_span_35 : decode cX0_span 35 = .ok (.iconst (-1), 1) := dk_2 (dk_at dksX0_span_1 11 rfl rfl)
theorem dX0_span_36 : decode cX0_span 36 = .ok (.istore 4, 2) := dk_54 4 (dk_at dksX0_span_1 12 rfl rfl)
theorem dX0_span_38 : decode cX0_span 38 = .ok (.iconst 0, 1) := dk_3 (dk_at dksX0_span_1 14 rfl rfl)
theorem dX0_span_39 : decode cX0_span 39 = .ok (.istore 5, 2) := dk_54 5 (dk_at dksX0_span_1 15 rfl rfl)
theorem dX0_span_41 : decode cX0_span 41 = .ok (.iload 5, 2) := dk_21 5 (dk_at dksX0_span_1 17 rfl rfl)
theorem dX0_span_43 : decode cX0_span 43 = .ok (.bipush 10, 2) := dk_16 10 (dk_at dksX0_span_1 19 rfl rfl)
theorem dX0_span_45 : decode cX0_span 45 = .ok (.if_icmp .gt 34, 3) := dk_163 0 34 (dk_at dksX0_span_1 21 rfl rfl)
theorem dX0_span_48 : decode cX0_span 48 = .ok (.iload_n 1, 1) := dk_27 (dk_at dksX0_span_2 0 rfl rfl)
theorem dX0_span_49 : decode cX0_span 49 = .ok (.iload_n 2, 1) := dk_28 (dk_at dksX0_span_2 1 rfl rfl)
theorem dX0_span_50 : decode cX0_span 50 = .ok (.iload 5, 2) := dk_21 5 (dk_at dksX0_span_2 2 rfl rfl)
theorem dX0_span_52 : decode cX0_span 52 = .ok (.invokestatic 379, 3) := dk_184 1 123 (dk_at dksX0_span_2 4 rfl rfl)
theorem dX0_span_55 : decode cX0_span 55 = .ok (.ifCond .eq 18, 3) := dk_153 0 18 (dk_at dksX0_span_2 7 rfl rfl)
theorem dX0_span_58 : decode cX0_span 58 = .ok (.iload 4, 2) := dk_21 4 (dk_at dksX0_span_2 10 rfl rfl)
theorem dX0_span_60 : decode cX0_span 60 = .ok (.iconst (-1), 1) := dk_2 (dk_at dksX0_span_2 12 rfl rfl)
theorem dX0_span_61 : decode cX0_span 61 = .ok (.if_icmp .eq 8, 3) := dk_159 0 8 (dk_at dksX0_span_2 13 rfl rfl)
theorem dX0_span_64 : decode cX0_span 64 = .ok (.iload_n 3, 1) := dk_29 (dk_at dksX0_span_2 16 rfl rfl)
theorem dX0_span_65 : decode cX0_span 65 = .ok (.iconst 1, 1) := dk_4 (dk_at dksX0_span_2 17 rfl rfl)
theorem dX0_span_66 : decode cX0_span 66 = .ok (.if_icmp .ne 7, 3) := dk_160 0 7 (dk_at dksX0_span_2 18 rfl rfl)
theorem dX0_span_69 : decode cX0_span 69 = .ok (.iload 5, 2) := dk_21 5 (dk_at dksX0_span_2 21 rfl rfl)
theorem dX0_span_71 : decode cX0_span 71 = .ok (.istore 4, 2) := dk_54 4 (dk_at dksX0_span_3 0 rfl rfl)
theorem dX0_span_73 : decode cX0_span 73 = .ok (.iinc 5 1, 3) := dk_132 5 1 (dk_at dksX0_span_3 2 rfl rfl)
theorem dX0_span_76 : decode cX0_span 76 = .ok (.goto (-35), 3) := dk_167 255 221 (dk_at dksX0_span_3 5 rfl rfl)
theorem dX0_span_79 : decode cX0_span 79 = .ok (.iload 4, 2) := dk_21 4 (dk_at dksX0_span_3 8 rfl rfl)
theorem dX0_span_81 : decode cX0_span 81 = .ok (.ireturn, 1) := dk_172 (dk_at dksX0_span_3 10 rfl rfl)
abbrev cX0_mayBe : ByteArray := prog_1_method_58_code
def yX0_mayBe : MethodName := ⟨RX0, "mayBe", "(III)Z"⟩
def dkwX0_mayBe_5 : List UInt8 := [167, 0, 4, 3, 172]
abbrev dktX0_mayBe_5 : List UInt8 := dkwX0_mayBe_5 ++ []
def dkwX0_mayBe_4 : List UInt8 := [132, 9, 1, 167, 255, 186, 33, 22, 7, 148, 155, 0, 15, 22, 5, 22, 7, 148, 155, 0, 7, 4]
abbrev dktX0_mayBe_4 : List UInt8 := dkwX0_mayBe_4 ++ dktX0_mayBe_5
def dkwX0_mayBe_3 : List UInt8 := [167, 0, 4, 9, 97, 66, 22, 5, 21, 9, 27, 161, 0, 8, 22, 10, 167, 0, 4, 9, 97, 55, 5]
abbrev dktX0_mayBe_3 : List UInt8 := dkwX0_mayBe_3 ++ dktX0_mayBe_4
def dkwX0_mayBe_2 : List UInt8 := [28, 100, 133, 26, 21, 9, 100, 184, 1, 109, 105, 55, 10, 33, 21, 9, 27, 163, 0, 8, 22, 10]
abbrev dktX0_mayBe_2 : List UInt8 := dkwX0_mayBe_2 ++ dktX0_mayBe_3
def dkwX0_mayBe_1 : List UInt8 := [54, 9, 21, 9, 26, 163, 0, 70, 26, 21, 9, 184, 1, 117, 28, 133, 21, 9, 184, 1, 109, 105, 16, 10]
abbrev dktX0_mayBe_1 : List UInt8 := dkwX0_mayBe_1 ++ dktX0_mayBe_2
def dkwX0_mayBe_0 : List UInt8 := [9, 66, 9, 55, 5, 20, 1, 107, 26, 184, 1, 109, 20, 1, 113, 97, 20, 1, 115, 109, 55, 7, 3]
abbrev dktX0_mayBe_0 : List UInt8 := dkwX0_mayBe_0 ++ dktX0_mayBe_1
theorem dksX0_mayBe_0 : cX0_mayBe.data.toList.drop 0 = dktX0_mayBe_0 := by decide +kernel
theorem dksX0_mayBe_1 : cX0_mayBe.data.toList.drop 23 = dktX0_mayBe_1 := dk_seg dksX0_mayBe_0 23 rfl rfl
theorem dksX0_mayBe_2 : cX0_mayBe.data.toList.drop 47 = dktX0_mayBe_2 := dk_seg dksX0_mayBe_1 24 rfl rfl
theorem dksX0_mayBe_3 : cX0_mayBe.data.toList.drop 69 = dktX0_mayBe_3 := dk_seg dksX0_mayBe_2 22 rfl rfl
theorem dksX0_mayBe_4 : cX0_mayBe.data.toList.drop 92 = dktX0_mayBe_4 := dk_seg dksX0_mayBe_3 23 rfl rfl
theorem dksX0_mayBe_5 : cX0_mayBe.data.toList.drop 114 = dktX0_mayBe_5 := dk_seg dksX0_mayBe_4 22 rfl rfl
theorem dX0_mayBe_0 : decode cX0_mayBe 0 = .ok (.lconst 0, 1) := dk_9 (dk_at dksX0_mayBe_0 0 rfl rfl)
theorem dX0_mayBe_1 : decode cX0_mayBe 1 = .ok (.lstore_n 3, 1) := dk_66 (dk_at dksX0_mayBe_0 1 rfl rfl)
theorem dX0_mayBe_2 : decode cX0_mayBe 2 = .ok (.lconst 0, 1) := dk_9 (dk_at dksX0_mayBe_0 2 rfl rfl)
theorem dX0_mayBe_3 : decode cX0_mayBe 3 = .ok (.lstore 5, 2) := dk_55 5 (dk_at dksX0_mayBe_0 3 rfl rfl)
theorem dX0_mayBe_5 : decode cX0_mayBe 5 = .ok (.ldc2_w 363, 3) := dk_20 1 107 (dk_at dksX0_mayBe_0 5 rfl rfl)
theorem dX0_mayBe_8 : decode cX0_mayBe 8 = .ok (.iload_n 0, 1) := dk_26 (dk_at dksX0_mayBe_0 8 rfl rfl)
theorem dX0_mayBe_9 : decode cX0_mayBe 9 = .ok (.invokestatic 365, 3) := dk_184 1 109 (dk_at dksX0_mayBe_0 9 rfl rfl)
theorem dX0_mayBe_12 : decode cX0_mayBe 12 = .ok (.ldc2_w 369, 3) := dk_20 1 113 (dk_at dksX0_mayBe_0 12 rfl rfl)
theorem dX0_mayBe_15 : decode cX0_mayBe 15 = .ok (.ladd, 1) := dk_97 (dk_at dksX0_mayBe_0 15 rfl rfl)
theorem dX0_mayBe_16 : decode cX0_mayBe 16 = .ok (.ldc2_w 371, 3) := dk_20 1 115 (dk_at dksX0_mayBe_0 16 rfl rfl)
theorem dX0_mayBe_19 : decode cX0_mayBe 19 = .ok (.ldiv, 1) := dk_109 (dk_at dksX0_mayBe_0 19 rfl rfl)
theorem dX0_mayBe_20 : decode cX0_mayBe 20 = .ok (.lstore 7, 2) := dk_55 7 (dk_at dksX0_mayBe_0 20 rfl rfl)
theorem dX0_mayBe_22 : decode cX0_mayBe 22 = .ok (.iconst 0, 1) := dk_3 (dk_at dksX0_mayBe_0 22 rfl rfl)
theorem dX0_mayBe_23 : decode cX0_mayBe 23 = .ok (.istore 9, 2) := dk_54 9 (dk_at dksX0_mayBe_1 0 rfl rfl)
theorem dX0_mayBe_25 : decode cX0_mayBe 25 = .ok (.iload 9, 2) := dk_21 9 (dk_at dksX0_mayBe_1 2 rfl rfl)
theorem dX0_mayBe_27 : decode cX0_mayBe 27 = .ok (.iload_n 0, 1) := dk_26 (dk_at dksX0_mayBe_1 4 rfl rfl)
theorem dX0_mayBe_28 : decode cX0_mayBe 28 = .ok (.if_icmp .gt 70, 3) := dk_163 0 70 (dk_at dksX0_mayBe_1 5 rfl rfl)
theorem dX0_mayBe_31 : decode cX0_mayBe 31 = .ok (.iload_n 0, 1) := dk_26 (dk_at dksX0_mayBe_1 8 rfl rfl)
theorem dX0_mayBe_32 : decode cX0_mayBe 32 = .ok (.iload 9, 2) := dk_21 9 (dk_at dksX0_mayBe_1 9 rfl rfl)
theorem dX0_mayBe_34 : decode cX0_mayBe 34 = .ok (.invokestatic 373, 3) := dk_184 1 117 (dk_at dksX0_mayBe_1 11 rfl rfl)
theorem dX0_mayBe_37 : decode cX0_mayBe 37 = .ok (.iload_n 2, 1) := dk_28 (dk_at dksX0_mayBe_1 14 rfl rfl)
theorem dX0_mayBe_38 : decode cX0_mayBe 38 = .ok (.i2l, 1) := dk_133 (dk_at dksX0_mayBe_1 15 rfl rfl)
theorem dX0_mayBe_39 : decode cX0_mayBe 39 = .ok (.iload 9, 2) := dk_21 9 (dk_at dksX0_mayBe_1 16 rfl rfl)
theorem dX0_mayBe_41 : decode cX0_mayBe 41 = .ok (.invokestatic 365, 3) := dk_184 1 109 (dk_at dksX0_mayBe_1 18 rfl rfl)
theorem dX0_mayBe_44 : decode cX0_mayBe 44 = .ok (.lmul, 1) := dk_105 (dk_at dksX0_mayBe_1 21 rfl rfl)
theorem dX0_mayBe_45 : decode cX0_mayBe 45 = .ok (.bipush 10, 2) := dk_16 10 (dk_at dksX0_mayBe_1 22 rfl rfl)
theorem dX0_mayBe_47 : decode cX0_mayBe 47 = .ok (.iload_n 2, 1) := dk_28 (dk_at dksX0_mayBe_2 0 rfl rfl)
theorem dX0_mayBe_48 : decode cX0_mayBe 48 = .ok (.isub, 1) := dk_100 (dk_at dksX0_mayBe_2 1 rfl rfl)
theorem dX0_mayBe_49 : decode cX0_mayBe 49 = .ok (.i2l, 1) := dk_133 (dk_at dksX0_mayBe_2 2 rfl rfl)
theorem dX0_mayBe_50 : decode cX0_mayBe 50 = .ok (.iload_n 0, 1) := dk_26 (dk_at dksX0_mayBe_2 3 rfl rfl)
theorem dX0_mayBe_51 : decode cX0_mayBe 51 = .ok (.iload 9, 2) := dk_21 9 (dk_at dksX0_mayBe_2 4 rfl rfl)
theorem dX0_mayBe_53 : decode cX0_mayBe 53 = .ok (.isub, 1) := dk_100 (dk_at dksX0_mayBe_2 6 rfl rfl)
theorem dX0_mayBe_54 : decode cX0_mayBe 54 = .ok (.invokestatic 365, 3) := dk_184 1 109 (dk_at dksX0_mayBe_2 7 rfl rfl)
theorem dX0_mayBe_57 : decode cX0_mayBe 57 = .ok (.lmul, 1) := dk_105 (dk_at dksX0_mayBe_2 10 rfl rfl)
theorem dX0_mayBe_58 : decode cX0_mayBe 58 = .ok (.lstore 10, 2) := dk_55 10 (dk_at dksX0_mayBe_2 11 rfl rfl)
theorem dX0_mayBe_60 : decode cX0_mayBe 60 = .ok (.lload_n 3, 1) := dk_33 (dk_at dksX0_mayBe_2 13 rfl rfl)
theorem dX0_mayBe_61 : decode cX0_mayBe 61 = .ok (.iload 9, 2) := dk_21 9 (dk_at dksX0_mayBe_2 14 rfl rfl)
theorem dX0_mayBe_63 : decode cX0_mayBe 63 = .ok (.iload_n 1, 1) := dk_27 (dk_at dksX0_mayBe_2 16 rfl rfl)
theorem dX0_mayBe_64 : decode cX0_mayBe 64 = .ok (.if_icmp .gt 8, 3) := dk_163 0 8 (dk_at dksX0_mayBe_2 17 rfl rfl)
theorem dX0_mayBe_67 : decode cX0_mayBe 67 = .ok (.lload 10, 2) := dk_22 10 (dk_at dksX0_mayBe_2 20 rfl rfl)
theorem dX0_mayBe_69 : decode cX0_mayBe 69 = .ok (.goto 4, 3) := dk_167 0 4 (dk_at dksX0_mayBe_3 0 rfl rfl)
theorem dX0_mayBe_72 : decode cX0_mayBe 72 = .ok (.lconst 0, 1) := dk_9 (dk_at dksX0_mayBe_3 3 rfl rfl)
theorem dX0_mayBe_73 : decode cX0_mayBe 73 = .ok (.ladd, 1) := dk_97 (dk_at dksX0_mayBe_3 4 rfl rfl)
theorem dX0_mayBe_74 : decode cX0_mayBe 74 = .ok (.lstore_n 3, 1) := dk_66 (dk_at dksX0_mayBe_3 5 rfl rfl)
theorem dX0_mayBe_75 : decode cX0_mayBe 75 = .ok (.lload 5, 2) := dk_22 5 (dk_at dksX0_mayBe_3 6 rfl rfl)
theorem dX0_mayBe_77 : decode cX0_mayBe 77 = .ok (.iload 9, 2) := dk_21 9 (dk_at dksX0_mayBe_3 8 rfl rfl)
theorem dX0_mayBe_79 : decode cX0_mayBe 79 = .ok (.iload_n 1, 1) := dk_27 (dk_at dksX0_mayBe_3 10 rfl rfl)
theorem dX0_mayBe_80 : decode cX0_mayBe 80 = .ok (.if_icmp .lt 8, 3) := dk_161 0 8 (dk_at dksX0_mayBe_3 11 rfl rfl)
theorem dX0_mayBe_83 : decode cX0_mayBe 83 = .ok (.lload 10, 2) := dk_22 10 (dk_at dksX0_mayBe_3 14 rfl rfl)
theorem dX0_mayBe_85 : decode cX0_mayBe 85 = .ok (.goto 4, 3) := dk_167 0 4 (dk_at dksX0_mayBe_3 16 rfl rfl)
theorem dX0_mayBe_88 : decode cX0_mayBe 88 = .ok (.lconst 0, 1) := dk_9 (dk_at dksX0_mayBe_3 19 rfl rfl)
theorem dX0_mayBe_89 : decode cX0_mayBe 89 = .ok (.ladd, 1) := dk_97 (dk_at dksX0_mayBe_3 20 rfl rfl)
theorem dX0_mayBe_90 : decode cX0_mayBe 90 = .ok (.lstore 5, 2) := dk_55 5 (dk_at dksX0_mayBe_3 21 rfl rfl)
theorem dX0_mayBe_92 : decode cX0_mayBe 92 = .ok (.iinc 9 1, 3) := dk_132 9 1 (dk_at dksX0_mayBe_4 0 rfl rfl)
theorem dX0_mayBe_95 : decode cX0_mayBe 95 = .ok (.goto (-70), 3) := dk_167 255 186 (dk_at dksX0_mayBe_4 3 rfl rfl)
theorem dX0_mayBe_98 : decode cX0_mayBe 98 = .ok (.lload_n 3, 1) := dk_33 (dk_at dksX0_mayBe_4 6 rfl rfl)
theorem dX0_mayBe_99 : decode cX0_mayBe 99 = .ok (.lload 7, 2) := dk_22 7 (dk_at dksX0_mayBe_4 7 rfl rfl)
theorem dX0_mayBe_101 : decode cX0_mayBe 101 = .ok (.lcmp, 1) := dk_148 (dk_at dksX0_mayBe_4 9 rfl rfl)
theorem dX0_mayBe_102 : decode cX0_mayBe 102 = .ok (.ifCond .lt 15, 3) := dk_155 0 15 (dk_at dksX0_mayBe_4 10 rfl rfl)
theorem dX0_mayBe_105 : decode cX0_mayBe 105 = .ok (.lload 5, 2) := dk_22 5 (dk_at dksX0_mayBe_4 13 rfl rfl)
theorem dX0_mayBe_107 : decode cX0_mayBe 107 = .ok (.lload 7, 2) := dk_22 7 (dk_at dksX0_mayBe_4 15 rfl rfl)
theorem dX0_mayBe_109 : decode cX0_mayBe 109 = .ok (.lcmp, 1) := dk_148 (dk_at dksX0_mayBe_4 17 rfl rfl)
theorem dX0_mayBe_110 : decode cX0_mayBe 110 = .ok (.ifCond .lt 7, 3) := dk_155 0 7 (dk_at dksX0_mayBe_4 18 rfl rfl)
theorem dX0_mayBe_113 : decode cX0_mayBe 113 = .ok (.iconst 1, 1) := dk_4 (dk_at dksX0_mayBe_4 21 rfl rfl)
theorem dX0_mayBe_114 : decode cX0_mayBe 114 = .ok (.goto 4, 3) := dk_167 0 4 (dk_at dksX0_mayBe_5 0 rfl rfl)
theorem dX0_mayBe_117 : decode cX0_mayBe 117 = .ok (.iconst 0, 1) := dk_3 (dk_at dksX0_mayBe_5 3 rfl rfl)
theorem dX0_mayBe_118 : decode cX0_mayBe 118 = .ok (.ireturn, 1) := dk_172 (dk_at dksX0_mayBe_5 4 rfl rfl)
abbrev cX0_power : ByteArray := prog_1_method_56_code
def yX0_power : MethodName := ⟨RX0, "power", "(JI)J"⟩
def dkwX0_power_0 : List UInt8 := [10, 66, 3, 54, 5, 21, 5, 28, 162, 0, 13, 33, 30, 105, 66, 132, 5, 1, 167, 255, 243, 33, 173]
abbrev dktX0_power_0 : List UInt8 := dkwX0_power_0 ++ []
theorem dksX0_power_0 : cX0_power.data.toList.drop 0 = dktX0_power_0 := by decide +kernel
theorem dX0_power_0 : decode cX0_power 0 = .ok (.lconst 1, 1) := dk_10 (dk_at dksX0_power_0 0 rfl rfl)
theorem dX0_power_1 : decode cX0_power 1 = .ok (.lstore_n 3, 1) := dk_66 (dk_at dksX0_power_0 1 rfl rfl)
theorem dX0_power_2 : decode cX0_power 2 = .ok (.iconst 0, 1) := dk_3 (dk_at dksX0_power_0 2 rfl rfl)
theorem dX0_power_3 : decode cX0_power 3 = .ok (.istore 5, 2) := dk_54 5 (dk_at dksX0_power_0 3 rfl rfl)
theorem dX0_power_5 : decode cX0_power 5 = .ok (.iload 5, 2) := dk_21 5 (dk_at dksX0_power_0 5 rfl rfl)
theorem dX0_power_7 : decode cX0_power 7 = .ok (.iload_n 2, 1) := dk_28 (dk_at dksX0_power_0 7 rfl rfl)
theorem dX0_power_8 : decode cX0_power 8 = .ok (.if_icmp .ge 13, 3) := dk_162 0 13 (dk_at dksX0_power_0 8 rfl rfl)
theorem dX0_power_11 : decode cX0_power 11 = .ok (.lload_n 3, 1) := dk_33 (dk_at dksX0_power_0 11 rfl rfl)
theorem dX0_power_12 : decode cX0_power 12 = .ok (.lload_n 0, 1) := dk_30 (dk_at dksX0_power_0 12 rfl rfl)
theorem dX0_power_13 : decode cX0_power 13 = .ok (.lmul, 1) := dk_105 (dk_at dksX0_power_0 13 rfl rfl)
theorem dX0_power_14 : decode cX0_power 14 = .ok (.lstore_n 3, 1) := dk_66 (dk_at dksX0_power_0 14 rfl rfl)
theorem dX0_power_15 : decode cX0_power 15 = .ok (.iinc 5 1, 3) := dk_132 5 1 (dk_at dksX0_power_0 15 rfl rfl)
theorem dX0_power_18 : decode cX0_power 18 = .ok (.goto (-13), 3) := dk_167 255 243 (dk_at dksX0_power_0 18 rfl rfl)
theorem dX0_power_21 : decode cX0_power 21 = .ok (.lload_n 3, 1) := dk_33 (dk_at dksX0_power_0 21 rfl rfl)
theorem dX0_power_22 : decode cX0_power 22 = .ok (.lreturn, 1) := dk_173 (dk_at dksX0_power_0 22 rfl rfl)
abbrev cX0_choose : ByteArray := prog_1_method_57_code
def yX0_choose : MethodName := ⟨RX0, "choose", "(II)J"⟩
def dkwX0_choose_1 : List UInt8 := [65, 132, 4, 1, 167, 255, 233, 32, 173]
abbrev dktX0_choose_1 : List UInt8 := dkwX0_choose_1 ++ []
def dkwX0_choose_0 : List UInt8 := [10, 65, 3, 54, 4, 21, 4, 27, 162, 0, 23, 32, 26, 21, 4, 100, 133, 105, 21, 4, 4, 96, 133, 109]
abbrev dktX0_choose_0 : List UInt8 := dkwX0_choose_0 ++ dktX0_choose_1
theorem dksX0_choose_0 : cX0_choose.data.toList.drop 0 = dktX0_choose_0 := by decide +kernel
theorem dksX0_choose_1 : cX0_choose.data.toList.drop 24 = dktX0_choose_1 := dk_seg dksX0_choose_0 24 rfl rfl
theorem dX0_choose_0 : decode cX0_choose 0 = .ok (.lconst 1, 1) := dk_10 (dk_at dksX0_choose_0 0 rfl rfl)
theorem dX0_choose_1 : decode cX0_choose 1 = .ok (.lstore_n 2, 1) := dk_65 (dk_at dksX0_choose_0 1 rfl rfl)
theorem dX0_choose_2 : decode cX0_choose 2 = .ok (.iconst 0, 1) := dk_3 (dk_at dksX0_choose_0 2 rfl rfl)
theorem dX0_choose_3 : decode cX0_choose 3 = .ok (.istore 4, 2) := dk_54 4 (dk_at dksX0_choose_0 3 rfl rfl)
theorem dX0_choose_5 : decode cX0_choose 5 = .ok (.iload 4, 2) := dk_21 4 (dk_at dksX0_choose_0 5 rfl rfl)
theorem dX0_choose_7 : decode cX0_choose 7 = .ok (.iload_n 1, 1) := dk_27 (dk_at dksX0_choose_0 7 rfl rfl)
theorem dX0_choose_8 : decode cX0_choose 8 = .ok (.if_icmp .ge 23, 3) := dk_162 0 23 (dk_at dksX0_choose_0 8 rfl rfl)
theorem dX0_choose_11 : decode cX0_choose 11 = .ok (.lload_n 2, 1) := dk_32 (dk_at dksX0_choose_0 11 rfl rfl)
theorem dX0_choose_12 : decode cX0_choose 12 = .ok (.iload_n 0, 1) := dk_26 (dk_at dksX0_choose_0 12 rfl rfl)
theorem dX0_choose_13 : decode cX0_choose 13 = .ok (.iload 4, 2) := dk_21 4 (dk_at dksX0_choose_0 13 rfl rfl)
theorem dX0_choose_15 : decode cX0_choose 15 = .ok (.isub, 1) := dk_100 (dk_at dksX0_choose_0 15 rfl rfl)
theorem dX0_choose_16 : decode cX0_choose 16 = .ok (.i2l, 1) := dk_133 (dk_at dksX0_choose_0 16 rfl rfl)
theorem dX0_choose_17 : decode cX0_choose 17 = .ok (.lmul, 1) := dk_105 (dk_at dksX0_choose_0 17 rfl rfl)
theorem dX0_choose_18 : decode cX0_choose 18 = .ok (.iload 4, 2) := dk_21 4 (dk_at dksX0_choose_0 18 rfl rfl)
theorem dX0_choose_20 : decode cX0_choose 20 = .ok (.iconst 1, 1) := dk_4 (dk_at dksX0_choose_0 20 rfl rfl)
theorem dX0_choose_21 : decode cX0_choose 21 = .ok (.iadd, 1) := dk_96 (dk_at dksX0_choose_0 21 rfl rfl)
theorem dX0_choose_22 : decode cX0_choose 22 = .ok (.i2l, 1) := dk_133 (dk_at dksX0_choose_0 22 rfl rfl)
theorem dX0_choose_23 : decode cX0_choose 23 = .ok (.ldiv, 1) := dk_109 (dk_at dksX0_choose_0 23 rfl rfl)
theorem dX0_choose_24 : decode cX0_choose 24 = .ok (.lstore_n 2, 1) := dk_65 (dk_at dksX0_choose_1 0 rfl rfl)
theorem dX0_choose_25 : decode cX0_choose 25 = .ok (.iinc 4 1, 3) := dk_132 4 1 (dk_at dksX0_choose_1 1 rfl rfl)
theorem dX0_choose_28 : decode cX0_choose 28 = .ok (.goto (-23), 3) := dk_167 255 233 (dk_at dksX0_choose_1 4 rfl rfl)
theorem dX0_choose_31 : decode cX0_choose 31 = .ok (.lload_n 2, 1) := dk_32 (dk_at dksX0_choose_1 7 rfl rfl)
theorem dX0_choose_32 : decode cX0_choose 32 = .ok (.lreturn, 1) := dk_173 (dk_at dksX0_choose_1 8 rfl rfl)
abbrev cX0_need : ByteArray := prog_1_method_60_code
def yX0_need : MethodName := ⟨RX0, "need", "(II)I"⟩
def dkwX0_need_3 : List UInt8 := [132, 3, 1, 167, 255, 210, 2, 172]
abbrev dktX0_need_3 : List UInt8 := dkwX0_need_3 ++ []
def dkwX0_need_2 : List UInt8 := [133, 29, 184, 1, 109, 101, 105, 28, 133, 20, 1, 107, 29, 184, 1, 109, 105, 148, 155, 0, 5, 29, 172]
abbrev dktX0_need_2 : List UInt8 := dkwX0_need_2 ++ dktX0_need_3
def dkwX0_need_1 : List UInt8 := [2, 172, 4, 62, 29, 16, 16, 163, 0, 46, 20, 0, 91, 20, 1, 107, 29, 184, 1, 109, 16, 10, 27, 100]
abbrev dktX0_need_1 : List UInt8 := dkwX0_need_1 ++ dktX0_need_2
def dkwX0_need_0 : List UInt8 := [27, 133, 10, 20, 1, 107, 184, 0, 5, 153, 0, 15, 28, 133, 10, 20, 1, 127, 184, 0, 5, 154, 0, 5]
abbrev dktX0_need_0 : List UInt8 := dkwX0_need_0 ++ dktX0_need_1
theorem dksX0_need_0 : cX0_need.data.toList.drop 0 = dktX0_need_0 := by decide +kernel
theorem dksX0_need_1 : cX0_need.data.toList.drop 24 = dktX0_need_1 := dk_seg dksX0_need_0 24 rfl rfl
theorem dksX0_need_2 : cX0_need.data.toList.drop 48 = dktX0_need_2 := dk_seg dksX0_need_1 24 rfl rfl
theorem dksX0_need_3 : cX0_need.data.toList.drop 71 = dktX0_need_3 := dk_seg dksX0_need_2 23 rfl rfl
theorem dX0_need_0 : decode cX0_need 0 = .ok (.iload_n 1, 1) := dk_27 (dk_at dksX0_need_0 0 rfl rfl)
theorem dX0_need_1 : decode cX0_need 1 = .ok (.i2l, 1) := dk_133 (dk_at dksX0_need_0 1 rfl rfl)
theorem dX0_need_2 : decode cX0_need 2 = .ok (.lconst 1, 1) := dk_10 (dk_at dksX0_need_0 2 rfl rfl)
theorem dX0_need_3 : decode cX0_need 3 = .ok (.ldc2_w 363, 3) := dk_20 1 107 (dk_at dksX0_need_0 3 rfl rfl)
theorem dX0_need_6 : decode cX0_need 6 = .ok (.invokestatic 5, 3) := dk_184 0 5 (dk_at dksX0_need_0 6 rfl rfl)
theorem dX0_need_9 : decode cX0_need 9 = .ok (.ifCond .eq 15, 3) := dk_153 0 15 (dk_at dksX0_need_0 9 rfl rfl)
theorem dX0_need_12 : decode cX0_need 12 = .ok (.iload_n 2, 1) := dk_28 (dk_at dksX0_need_0 12 rfl rfl)
theorem dX0_need_13 : decode cX0_need 13 = .ok (.i2l, 1) := dk_133 (dk_at dksX0_need_0 13 rfl rfl)
theorem dX0_need_14 : decode cX0_need 14 = .ok (.lconst 1, 1) := dk_10 (dk_at dksX0_need_0 14 rfl rfl)
theorem dX0_need_15 : decode cX0_need 15 = .ok (.ldc2_w 383, 3) := dk_20 1 127 (dk_at dksX0_need_0 15 rfl rfl)
theorem dX0_need_18 : decode cX0_need 18 = .ok (.invokestatic 5, 3) := dk_184 0 5 (dk_at dksX0_need_0 18 rfl rfl)
theorem dX0_need_21 : decode cX0_need 21 = .ok (.ifCond .ne 5, 3) := dk_154 0 5 (dk_at dksX0_need_0 21 rfl rfl)
theorem dX0_need_24 : decode cX0_need 24 = .ok (.iconst (-1), 1) := dk_2 (dk_at dksX0_need_1 0 rfl rfl)
theorem dX0_need_25 : decode cX0_need 25 = .ok (.ireturn, 1) := dk_172 (dk_at dksX0_need_1 1 rfl rfl)
theorem dX0_need_26 : decode cX0_need 26 = .ok (.iconst 1, 1) := dk_4 (dk_at dksX0_need_1 2 rfl rfl)
theorem dX0_need_27 : decode cX0_need 27 = .ok (.istore_n 3, 1) := dk_62 (dk_at dksX0_need_1 3 rfl rfl)
theorem dX0_need_28 : decode cX0_need 28 = .ok (.iload_n 3, 1) := dk_29 (dk_at dksX0_need_1 4 rfl rfl)
theorem dX0_need_29 : decode cX0_need 29 = .ok (.bipush 16, 2) := dk_16 16 (dk_at dksX0_need_1 5 rfl rfl)
theorem dX0_need_31 : decode cX0_need 31 = .ok (.if_icmp .gt 46, 3) := dk_163 0 46 (dk_at dksX0_need_1 7 rfl rfl)
theorem dX0_need_34 : decode cX0_need 34 = .ok (.ldc2_w 91, 3) := dk_20 0 91 (dk_at dksX0_need_1 10 rfl rfl)
theorem dX0_need_37 : decode cX0_need 37 = .ok (.ldc2_w 363, 3) := dk_20 1 107 (dk_at dksX0_need_1 13 rfl rfl)
theorem dX0_need_40 : decode cX0_need 40 = .ok (.iload_n 3, 1) := dk_29 (dk_at dksX0_need_1 16 rfl rfl)
theorem dX0_need_41 : decode cX0_need 41 = .ok (.invokestatic 365, 3) := dk_184 1 109 (dk_at dksX0_need_1 17 rfl rfl)
theorem dX0_need_44 : decode cX0_need 44 = .ok (.bipush 10, 2) := dk_16 10 (dk_at dksX0_need_1 20 rfl rfl)
theorem dX0_need_46 : decode cX0_need 46 = .ok (.iload_n 1, 1) := dk_27 (dk_at dksX0_need_1 22 rfl rfl)
theorem dX0_need_47 : decode cX0_need 47 = .ok (.isub, 1) := dk_100 (dk_at dksX0_need_1 23 rfl rfl)
theorem dX0_need_48 : decode cX0_need 48 = .ok (.i2l, 1) := dk_133 (dk_at dksX0_need_2 0 rfl rfl)
theorem dX0_need_49 : decode cX0_need 49 = .ok (.iload_n 3, 1) := dk_29 (dk_at dksX0_need_2 1 rfl rfl)
theorem dX0_need_50 : decode cX0_need 50 = .ok (.invokestatic 365, 3) := dk_184 1 109 (dk_at dksX0_need_2 2 rfl rfl)
theorem dX0_need_53 : decode cX0_need 53 = .ok (.lsub, 1) := dk_101 (dk_at dksX0_need_2 5 rfl rfl)
theorem dX0_need_54 : decode cX0_need 54 = .ok (.lmul, 1) := dk_105 (dk_at dksX0_need_2 6 rfl rfl)
theorem dX0_need_55 : decode cX0_need 55 = .ok (.iload_n 2, 1) := dk_28 (dk_at dksX0_need_2 7 rfl rfl)
theorem dX0_need_56 : decode cX0_need 56 = .ok (.i2l, 1) := dk_133 (dk_at dksX0_need_2 8 rfl rfl)
theorem dX0_need_57 : decode cX0_need 57 = .ok (.ldc2_w 363, 3) := dk_20 1 107 (dk_at dksX0_need_2 9 rfl rfl)
theorem dX0_need_60 : decode cX0_need 60 = .ok (.iload_n 3, 1) := dk_29 (dk_at dksX0_need_2 12 rfl rfl)
theorem dX0_need_61 : decode cX0_need 61 = .ok (.invokestatic 365, 3) := dk_184 1 109 (dk_at dksX0_need_2 13 rfl rfl)
theorem dX0_need_64 : decode cX0_need 64 = .ok (.lmul, 1) := dk_105 (dk_at dksX0_need_2 16 rfl rfl)
theorem dX0_need_65 : decode cX0_need 65 = .ok (.lcmp, 1) := dk_148 (dk_at dksX0_need_2 17 rfl rfl)
theorem dX0_need_66 : decode cX0_need 66 = .ok (.ifCond .lt 5, 3) := dk_155 0 5 (dk_at dksX0_need_2 18 rfl rfl)
theorem dX0_need_69 : decode cX0_need 69 = .ok (.iload_n 3, 1) := dk_29 (dk_at dksX0_need_2 21 rfl rfl)
theorem dX0_need_70 : decode cX0_need 70 = .ok (.ireturn, 1) := dk_172 (dk_at dksX0_need_2 22 rfl rfl)
theorem dX0_need_71 : decode cX0_need 71 = .ok (.iinc 3 1, 3) := dk_132 3 1 (dk_at dksX0_need_3 0 rfl rfl)
theorem dX0_need_74 : decode cX0_need 74 = .ok (.goto (-46), 3) := dk_167 255 210 (dk_at dksX0_need_3 3 rfl rfl)
theorem dX0_need_77 : decode cX0_need 77 = .ok (.iconst (-1), 1) := dk_2 (dk_at dksX0_need_3 6 rfl rfl)
theorem dX0_need_78 : decode cX0_need 78 = .ok (.ireturn, 1) := dk_172 (dk_at dksX0_need_3 7 rfl rfl)
abbrev cX0_bound : ByteArray := prog_1_method_61_code
def yX0_bound : MethodName := ⟨RX0, "bound", "(I)I"⟩
def dkwX0_bound_2 : List UInt8 := [148, 155, 0, 5, 29, 61, 132, 3, 1, 167, 255, 217, 28, 172]
abbrev dktX0_bound_2 : List UInt8 := dkwX0_bound_2 ++ []
def dkwX0_bound_1 : List UInt8 := [16, 10, 29, 100, 133, 27, 184, 1, 109, 20, 1, 107, 27, 184, 1, 109, 20, 1, 113, 97, 20, 1, 115, 109]
abbrev dktX0_bound_1 : List UInt8 := dkwX0_bound_1 ++ dktX0_bound_2
def dkwX0_bound_0 : List UInt8 := [27, 133, 10, 20, 1, 121, 184, 0, 5, 154, 0, 5, 2, 172, 3, 61, 4, 62, 29, 16, 10, 162, 0, 39]
abbrev dktX0_bound_0 : List UInt8 := dkwX0_bound_0 ++ dktX0_bound_1
theorem dksX0_bound_0 : cX0_bound.data.toList.drop 0 = dktX0_bound_0 := by decide +kernel
theorem dksX0_bound_1 : cX0_bound.data.toList.drop 24 = dktX0_bound_1 := dk_seg dksX0_bound_0 24 rfl rfl
theorem dksX0_bound_2 : cX0_bound.data.toList.drop 48 = dktX0_bound_2 := dk_seg dksX0_bound_1 24 rfl rfl
theorem dX0_bound_0 : decode cX0_bound 0 = .ok (.iload_n 1, 1) := dk_27 (dk_at dksX0_bound_0 0 rfl rfl)
theorem dX0_bound_1 : decode cX0_bound 1 = .ok (.i2l, 1) := dk_133 (dk_at dksX0_bound_0 1 rfl rfl)
theorem dX0_bound_2 : decode cX0_bound 2 = .ok (.lconst 1, 1) := dk_10 (dk_at dksX0_bound_0 2 rfl rfl)
theorem dX0_bound_3 : decode cX0_bound 3 = .ok (.ldc2_w 377, 3) := dk_20 1 121 (dk_at dksX0_bound_0 3 rfl rfl)
theorem dX0_bound_6 : decode cX0_bound 6 = .ok (.invokestatic 5, 3) := dk_184 0 5 (dk_at dksX0_bound_0 6 rfl rfl)
theorem dX0_bound_9 : decode cX0_bound 9 = .ok (.ifCond .ne 5, 3) := dk_154 0 5 (dk_at dksX0_bound_0 9 rfl rfl)
theorem dX0_bound_12 : decode cX0_bound 12 = .ok (.iconst (-1), 1) := dk_2 (dk_at dksX0_bound_0 12 rfl rfl)
theorem dX0_bound_13 : decode cX0_bound 13 = .ok (.ireturn, 1) := dk_172 (dk_at dksX0_bound_0 13 rfl rfl)
theorem dX0_bound_14 : decode cX0_bound 14 = .ok (.iconst 0, 1) := dk_3 (dk_at dksX0_bound_0 14 rfl rfl)
theorem dX0_bound_15 : decode cX0_bound 15 = .ok (.istore_n 2, 1) := dk_61 (dk_at dksX0_bound_0 15 rfl rfl)
theorem dX0_bound_16 : decode cX0_bound 16 = .ok (.iconst 1, 1) := dk_4 (dk_at dksX0_bound_0 16 rfl rfl)
theorem dX0_bound_17 : decode cX0_bound 17 = .ok (.istore_n 3, 1) := dk_62 (dk_at dksX0_bound_0 17 rfl rfl)
theorem dX0_bound_18 : decode cX0_bound 18 = .ok (.iload_n 3, 1) := dk_29 (dk_at dksX0_bound_0 18 rfl rfl)
theorem dX0_bound_19 : decode cX0_bound 19 = .ok (.bipush 10, 2) := dk_16 10 (dk_at dksX0_bound_0 19 rfl rfl)
theorem dX0_bound_21 : decode cX0_bound 21 = .ok (.if_icmp .ge 39, 3) := dk_162 0 39 (dk_at dksX0_bound_0 21 rfl rfl)
theorem dX0_bound_24 : decode cX0_bound 24 = .ok (.bipush 10, 2) := dk_16 10 (dk_at dksX0_bound_1 0 rfl rfl)
theorem dX0_bound_26 : decode cX0_bound 26 = .ok (.iload_n 3, 1) := dk_29 (dk_at dksX0_bound_1 2 rfl rfl)
theorem dX0_bound_27 : decode cX0_bound 27 = .ok (.isub, 1) := dk_100 (dk_at dksX0_bound_1 3 rfl rfl)
theorem dX0_bound_28 : decode cX0_bound 28 = .ok (.i2l, 1) := dk_133 (dk_at dksX0_bound_1 4 rfl rfl)
theorem dX0_bound_29 : decode cX0_bound 29 = .ok (.iload_n 1, 1) := dk_27 (dk_at dksX0_bound_1 5 rfl rfl)
theorem dX0_bound_30 : decode cX0_bound 30 = .ok (.invokestatic 365, 3) := dk_184 1 109 (dk_at dksX0_bound_1 6 rfl rfl)
theorem dX0_bound_33 : decode cX0_bound 33 = .ok (.ldc2_w 363, 3) := dk_20 1 107 (dk_at dksX0_bound_1 9 rfl rfl)
theorem dX0_bound_36 : decode cX0_bound 36 = .ok (.iload_n 1, 1) := dk_27 (dk_at dksX0_bound_1 12 rfl rfl)
theorem dX0_bound_37 : decode cX0_bound 37 = .ok (.invokestatic 365, 3) := dk_184 1 109 (dk_at dksX0_bound_1 13 rfl rfl)
theorem dX0_bound_40 : decode cX0_bound 40 = .ok (.ldc2_w 369, 3) := dk_20 1 113 (dk_at dksX0_bound_1 16 rfl rfl)
theorem dX0_bound_43 : decode cX0_bound 43 = .ok (.ladd, 1) := dk_97 (dk_at dksX0_bound_1 19 rfl rfl)
theorem dX0_bound_44 : decode cX0_bound 44 = .ok (.ldc2_w 371, 3) := dk_20 1 115 (dk_at dksX0_bound_1 20 rfl rfl)
theorem dX0_bound_47 : decode cX0_bound 47 = .ok (.ldiv, 1) := dk_109 (dk_at dksX0_bound_1 23 rfl rfl)
theorem dX0_bound_48 : decode cX0_bound 48 = .ok (.lcmp, 1) := dk_148 (dk_at dksX0_bound_2 0 rfl rfl)
theorem dX0_bound_49 : decode cX0_bound 49 = .ok (.ifCond .lt 5, 3) := dk_155 0 5 (dk_at dksX0_bound_2 1 rfl rfl)
theorem dX0_bound_52 : decode cX0_bound 52 = .ok (.iload_n 3, 1) := dk_29 (dk_at dksX0_bound_2 4 rfl rfl)
theorem dX0_bound_53 : decode cX0_bound 53 = .ok (.istore_n 2, 1) := dk_61 (dk_at dksX0_bound_2 5 rfl rfl)
theorem dX0_bound_54 : decode cX0_bound 54 = .ok (.iinc 3 1, 3) := dk_132 3 1 (dk_at dksX0_bound_2 6 rfl rfl)
theorem dX0_bound_57 : decode cX0_bound 57 = .ok (.goto (-39), 3) := dk_167 255 217 (dk_at dksX0_bound_2 9 rfl rfl)
theorem dX0_bound_60 : decode cX0_bound 60 = .ok (.iload_n 2, 1) := dk_28 (dk_at dksX0_bound_2 12 rfl rfl)
theorem dX0_bound_61 : decode cX0_bound 61 = .ok (.ireturn, 1) := dk_172 (dk_at dksX0_bound_2 13 rfl rfl)
abbrev cX0_outlive : ByteArray := prog_1_method_62_code
def yX0_outlive : MethodName := ⟨RX0, "outlive", "(III)I"⟩
def dkwX0_outlive_6 : List UInt8 := [172]
abbrev dktX0_outlive_6 : List UInt8 := dkwX0_outlive_6 ++ []
def dkwX0_outlive_5 : List UInt8 := [167, 0, 24, 29, 4, 160, 0, 17, 21, 4, 154, 0, 7, 3, 167, 0, 10, 21, 5, 167, 0, 5, 21, 6]
abbrev dktX0_outlive_5 : List UInt8 := dkwX0_outlive_5 ++ dktX0_outlive_6
def dkwX0_outlive_4 : List UInt8 := [21, 7, 126, 54, 5, 21, 6, 21, 7, 128, 54, 6, 132, 7, 1, 167, 255, 208, 29, 154, 0, 8, 21, 4]
abbrev dktX0_outlive_4 : List UInt8 := dkwX0_outlive_4 ++ dktX0_outlive_5
def dkwX0_outlive_3 : List UInt8 := [120, 162, 0, 40, 42, 21, 7, 27, 28, 182, 1, 129, 154, 0, 6, 167, 0, 20, 132, 4, 1, 21, 5]
abbrev dktX0_outlive_3 : List UInt8 := dkwX0_outlive_3 ++ dktX0_outlive_4
def dkwX0_outlive_2 : List UInt8 := [180, 0, 74, 120, 4, 100, 54, 5, 3, 54, 6, 3, 54, 7, 21, 7, 4, 42, 180, 0, 26, 180, 0, 74]
abbrev dktX0_outlive_2 : List UInt8 := dkwX0_outlive_2 ++ dktX0_outlive_3
def dkwX0_outlive_1 : List UInt8 := [29, 133, 9, 20, 0, 118, 184, 0, 5, 154, 0, 5, 2, 172, 3, 54, 4, 4, 42, 180, 0, 26]
abbrev dktX0_outlive_1 : List UInt8 := dkwX0_outlive_1 ++ dktX0_outlive_2
def dkwX0_outlive_0 : List UInt8 := [27, 133, 9, 20, 0, 9, 184, 0, 5, 153, 0, 27, 28, 133, 10, 20, 0, 15, 184, 0, 5, 153, 0, 15]
abbrev dktX0_outlive_0 : List UInt8 := dkwX0_outlive_0 ++ dktX0_outlive_1
theorem dksX0_outlive_0 : cX0_outlive.data.toList.drop 0 = dktX0_outlive_0 := by decide +kernel
theorem dksX0_outlive_1 : cX0_outlive.data.toList.drop 24 = dktX0_outlive_1 := dk_seg dksX0_outlive_0 24 rfl rfl
theorem dksX0_outlive_2 : cX0_outlive.data.toList.drop 46 = dktX0_outlive_2 := dk_seg dksX0_outlive_1 22 rfl rfl
theorem dksX0_outlive_3 : cX0_outlive.data.toList.drop 70 = dktX0_outlive_3 := dk_seg dksX0_outlive_2 24 rfl rfl
theorem dksX0_outlive_4 : cX0_outlive.data.toList.drop 93 = dktX0_outlive_4 := dk_seg dksX0_outlive_3 23 rfl rfl
theorem dksX0_outlive_5 : cX0_outlive.data.toList.drop 117 = dktX0_outlive_5 := dk_seg dksX0_outlive_4 24 rfl rfl
theorem dksX0_outlive_6 : cX0_outlive.data.toList.drop 141 = dktX0_outlive_6 := dk_seg dksX0_outlive_5 24 rfl rfl
theorem dX0_outlive_0 : decode cX0_outlive 0 = .ok (.iload_n 1, 1) := dk_27 (dk_at dksX0_outlive_0 0 rfl rfl)
theorem dX0_outlive_1 : decode cX0_outlive 1 = .ok (.i2l, 1) := dk_133 (dk_at dksX0_outlive_0 1 rfl rfl)
theorem dX0_outlive_2 : decode cX0_outlive 2 = .ok (.lconst 0, 1) := dk_9 (dk_at dksX0_outlive_0 2 rfl rfl)
theorem dX0_outlive_3 : decode cX0_outlive 3 = .ok (.ldc2_w 9, 3) := dk_20 0 9 (dk_at dksX0_outlive_0 3 rfl rfl)
theorem dX0_outlive_6 : decode cX0_outlive 6 = .ok (.invokestatic 5, 3) := dk_184 0 5 (dk_at dksX0_outlive_0 6 rfl rfl)
theorem dX0_outlive_9 : decode cX0_outlive 9 = .ok (.ifCond .eq 27, 3) := dk_153 0 27 (dk_at dksX0_outlive_0 9 rfl rfl)
theorem dX0_outlive_12 : decode cX0_outlive 12 = .ok (.iload_n 2, 1) := dk_28 (dk_at dksX0_outlive_0 12 rfl rfl)
theorem dX0_outlive_13 : decode cX0_outlive 13 = .ok (.i2l, 1) := dk_133 (dk_at dksX0_outlive_0 13 rfl rfl)
theorem dX0_outlive_14 : decode cX0_outlive 14 = .ok (.lconst 1, 1) := dk_10 (dk_at dksX0_outlive_0 14 rfl rfl)
theorem dX0_outlive_15 : decode cX0_outlive 15 = .ok (.ldc2_w 15, 3) := dk_20 0 15 (dk_at dksX0_outlive_0 15 rfl rfl)
theorem dX0_outlive_18 : decode cX0_outlive 18 = .ok (.invokestatic 5, 3) := dk_184 0 5 (dk_at dksX0_outlive_0 18 rfl rfl)
theorem dX0_outlive_21 : decode cX0_outlive 21 = .ok (.ifCond .eq 15, 3) := dk_153 0 15 (dk_at dksX0_outlive_0 21 rfl rfl)
theorem dX0_outlive_24 : decode cX0_outlive 24 = .ok (.iload_n 3, 1) := dk_29 (dk_at dksX0_outlive_1 0 rfl rfl)
theorem dX0_outlive_25 : decode cX0_outlive 25 = .ok (.i2l, 1) := dk_133 (dk_at dksX0_outlive_1 1 rfl rfl)
theorem dX0_outlive_26 : decode cX0_outlive 26 = .ok (.lconst 0, 1) := dk_9 (dk_at dksX0_outlive_1 2 rfl rfl)
theorem dX0_outlive_27 : decode cX0_outlive 27 = .ok (.ldc2_w 118, 3) := dk_20 0 118 (dk_at dksX0_outlive_1 3 rfl rfl)
theorem dX0_outlive_30 : decode cX0_outlive 30 = .ok (.invokestatic 5, 3) := dk_184 0 5 (dk_at dksX0_outlive_1 6 rfl rfl)
theorem dX0_outlive_33 : decode cX0_outlive 33 = .ok (.ifCond .ne 5, 3) := dk_154 0 5 (dk_at dksX0_outlive_1 9 rfl rfl)
theorem dX0_outlive_36 : decode cX0_outlive 36 = .ok (.iconst (-1), 1) := dk_2 (dk_at dksX0_outlive_1 12 rfl rfl)
theorem dX0_outlive_37 : decode cX0_outlive 37 = .ok (.ireturn, 1) := dk_172 (dk_at dksX0_outlive_1 13 rfl rfl)
theorem dX0_outlive_38 : decode cX0_outlive 38 = .ok (.iconst 0, 1) := dk_3 (dk_at dksX0_outlive_1 14 rfl rfl)
theorem dX0_outlive_39 : decode cX0_outlive 39 = .ok (.istore 4, 2) := dk_54 4 (dk_at dksX0_outlive_1 15 rfl rfl)
theorem dX0_outlive_41 : decode cX0_outlive 41 = .ok (.iconst 1, 1) := dk_4 (dk_at dksX0_outlive_1 17 rfl rfl)
theorem dX0_outlive_42 : decode cX0_outlive 42 = .ok (.aload_n 0, 1) := dk_42 (dk_at dksX0_outlive_1 18 rfl rfl)
theorem dX0_outlive_43 : decode cX0_outlive 43 = .ok (.getfield 26, 3) := dk_180 0 26 (dk_at dksX0_outlive_1 19 rfl rfl)
theorem dX0_outlive_46 : decode cX0_outlive 46 = .ok (.getfield 74, 3) := dk_180 0 74 (dk_at dksX0_outlive_2 0 rfl rfl)
theorem dX0_outlive_49 : decode cX0_outlive 49 = .ok (.ishl, 1) := dk_120 (dk_at dksX0_outlive_2 3 rfl rfl)
theorem dX0_outlive_50 : decode cX0_outlive 50 = .ok (.iconst 1, 1) := dk_4 (dk_at dksX0_outlive_2 4 rfl rfl)
theorem dX0_outlive_51 : decode cX0_outlive 51 = .ok (.isub, 1) := dk_100 (dk_at dksX0_outlive_2 5 rfl rfl)
theorem dX0_outlive_52 : decode cX0_outlive 52 = .ok (.istore 5, 2) := dk_54 5 (dk_at dksX0_outlive_2 6 rfl rfl)
theorem dX0_outlive_54 : decode cX0_outlive 54 = .ok (.iconst 0, 1) := dk_3 (dk_at dksX0_outlive_2 8 rfl rfl)
theorem dX0_outlive_55 : decode cX0_outlive 55 = .ok (.istore 6, 2) := dk_54 6 (dk_at dksX0_outlive_2 9 rfl rfl)
theorem dX0_outlive_57 : decode cX0_outlive 57 = .ok (.iconst 0, 1) := dk_3 (dk_at dksX0_outlive_2 11 rfl rfl)
theorem dX0_outlive_58 : decode cX0_outlive 58 = .ok (.istore 7, 2) := dk_54 7 (dk_at dksX0_outlive_2 12 rfl rfl)
theorem dX0_outlive_60 : decode cX0_outlive 60 = .ok (.iload 7, 2) := dk_21 7 (dk_at dksX0_outlive_2 14 rfl rfl)
theorem dX0_outlive_62 : decode cX0_outlive 62 = .ok (.iconst 1, 1) := dk_4 (dk_at dksX0_outlive_2 16 rfl rfl)
theorem dX0_outlive_63 : decode cX0_outlive 63 = .ok (.aload_n 0, 1) := dk_42 (dk_at dksX0_outlive_2 17 rfl rfl)
theorem dX0_outlive_64 : decode cX0_outlive 64 = .ok (.getfield 26, 3) := dk_180 0 26 (dk_at dksX0_outlive_2 18 rfl rfl)
theorem dX0_outlive_67 : decode cX0_outlive 67 = .ok (.getfield 74, 3) := dk_180 0 74 (dk_at dksX0_outlive_2 21 rfl rfl)
theorem dX0_outlive_70 : decode cX0_outlive 70 = .ok (.ishl, 1) := dk_120 (dk_at dksX0_outlive_3 0 rfl rfl)
theorem dX0_outlive_71 : decode cX0_outlive 71 = .ok (.if_icmp .ge 40, 3) := dk_162 0 40 (dk_at dksX0_outlive_3 1 rfl rfl)
theorem dX0_outlive_74 : decode cX0_outlive 74 = .ok (.aload_n 0, 1) := dk_42 (dk_at dksX0_outlive_3 4 rfl rfl)
theorem dX0_outlive_75 : decode cX0_outlive 75 = .ok (.iload 7, 2) := dk_21 7 (dk_at dksX0_outlive_3 5 rfl rfl)
theorem dX0_outlive_77 : decode cX0_outlive 77 = .ok (.iload_n 1, 1) := dk_27 (dk_at dksX0_outlive_3 7 rfl rfl)
theorem dX0_outlive_78 : decode cX0_outlive 78 = .ok (.iload_n 2, 1) := dk_28 (dk_at dksX0_outlive_3 8 rfl rfl)
theorem dX0_outlive_79 : decode cX0_outlive 79 = .ok (.invokevirtual 385, 3) := dk_182 1 129 (dk_at dksX0_outlive_3 9 rfl rfl)
theorem dX0_outlive_82 : decode cX0_outlive 82 = .ok (.ifCond .ne 6, 3) := dk_154 0 6 (dk_at dksX0_outlive_3 12 rfl rfl)
theorem dX0_outlive_85 : decode cX0_outlive 85 = .ok (.goto 20, 3) := dk_167 0 20 (dk_at dksX0_outlive_3 15 rfl rfl)
theorem dX0_outlive_88 : decode cX0_outlive 88 = .ok (.iinc 4 1, 3) := dk_132 4 1 (dk_at dksX0_outlive_3 18 rfl rfl)
theorem dX0_outlive_91 : decode cX0_outlive 91 = .ok (.iload 5, 2) := dk_21 5 (dk_at dksX0_outlive_3 21 rfl rfl)
theorem dX0_outlive_93 : decode cX0_outlive 93 = .ok (.iload 7, 2) := dk_21 7 (dk_at dksX0_outlive_4 0 rfl rfl)
theorem dX0_outlive_95 : decode cX0_outlive 95 = .ok (.iand, 1) := dk_126 (dk_at dksX0_outlive_4 2 rfl rfl)
theorem dX0_outlive_96 : decode cX0_outlive 96 = .ok (.istore 5, 2) := dk_54 5 (dk_at dksX0_outlive_4 3 rfl rfl)
theorem dX0_outlive_98 : decode cX0_outlive 98 = .ok (.iload 6, 2) := dk_21 6 (dk_at dksX0_outlive_4 5 rfl rfl)
theorem dX0_outlive_100 : decode cX0_outlive 100 = .ok (.iload 7, 2) := dk_21 7 (dk_at dksX0_outlive_4 7 rfl rfl)
theorem dX0_outlive_102 : decode cX0_outlive 102 = .ok (.ior, 1) := dk_128 (dk_at dksX0_outlive_4 9 rfl rfl)
theorem dX0_outlive_103 : decode cX0_outlive 103 = .ok (.istore 6, 2) := dk_54 6 (dk_at dksX0_outlive_4 10 rfl rfl)
theorem dX0_outlive_105 : decode cX0_outlive 105 = .ok (.iinc 7 1, 3) := dk_132 7 1 (dk_at dksX0_outlive_4 12 rfl rfl)
theorem dX0_outlive_108 : decode cX0_outlive 108 = .ok (.goto (-48), 3) := dk_167 255 208 (dk_at dksX0_outlive_4 15 rfl rfl)
theorem dX0_outlive_111 : decode cX0_outlive 111 = .ok (.iload_n 3, 1) := dk_29 (dk_at dksX0_outlive_4 18 rfl rfl)
theorem dX0_outlive_112 : decode cX0_outlive 112 = .ok (.ifCond .ne 8, 3) := dk_154 0 8 (dk_at dksX0_outlive_4 19 rfl rfl)
theorem dX0_outlive_115 : decode cX0_outlive 115 = .ok (.iload 4, 2) := dk_21 4 (dk_at dksX0_outlive_4 22 rfl rfl)
theorem dX0_outlive_117 : decode cX0_outlive 117 = .ok (.goto 24, 3) := dk_167 0 24 (dk_at dksX0_outlive_5 0 rfl rfl)
theorem dX0_outlive_120 : decode cX0_outlive 120 = .ok (.iload_n 3, 1) := dk_29 (dk_at dksX0_outlive_5 3 rfl rfl)
theorem dX0_outlive_121 : decode cX0_outlive 121 = .ok (.iconst 1, 1) := dk_4 (dk_at dksX0_outlive_5 4 rfl rfl)
theorem dX0_outlive_122 : decode cX0_outlive 122 = .ok (.if_icmp .ne 17, 3) := dk_160 0 17 (dk_at dksX0_outlive_5 5 rfl rfl)
theorem dX0_outlive_125 : decode cX0_outlive 125 = .ok (.iload 4, 2) := dk_21 4 (dk_at dksX0_outlive_5 8 rfl rfl)
theorem dX0_outlive_127 : decode cX0_outlive 127 = .ok (.ifCond .ne 7, 3) := dk_154 0 7 (dk_at dksX0_outlive_5 10 rfl rfl)
theorem dX0_outlive_130 : decode cX0_outlive 130 = .ok (.iconst 0, 1) := dk_3 (dk_at dksX0_outlive_5 13 rfl rfl)
theorem dX0_outlive_131 : decode cX0_outlive 131 = .ok (.goto 10, 3) := dk_167 0 10 (dk_at dksX0_outlive_5 14 rfl rfl)
theorem dX0_outlive_134 : decode cX0_outlive 134 = .ok (.iload 5, 2) := dk_21 5 (dk_at dksX0_outlive_5 17 rfl rfl)
theorem dX0_outlive_136 : decode cX0_outlive 136 = .ok (.goto 5, 3) := dk_167 0 5 (dk_at dksX0_outlive_5 19 rfl rfl)
theorem dX0_outlive_139 : decode cX0_outlive 139 = .ok (.iload 6, 2) := dk_21 6 (dk_at dksX0_outlive_5 22 rfl rfl)
theorem dX0_outlive_141 : decode cX0_outlive 141 = .ok (.ireturn, 1) := dk_172 (dk_at dksX0_outlive_6 0 rfl rfl)
abbrev cX0_fits : ByteArray := prog_1_method_63_code
def yX0_fits : MethodName := ⟨RX0, "fits", "(III)Z"⟩
def dkwX0_fits_8 : List UInt8 := [21, 6, 153, 0, 5, 3, 172, 132, 4, 1, 167, 255, 64, 4, 172]
abbrev dktX0_fits_8 : List UInt8 := dkwX0_fits_8 ++ []
def dkwX0_fits_7 : List UInt8 := [180, 0, 236, 154, 0, 27, 21, 7, 157, 0, 22, 25, 5, 180, 1, 10, 7, 46, 16, 30, 161, 0, 10]
abbrev dktX0_fits_7 : List UInt8 := dkwX0_fits_7 ++ dktX0_fits_8
def dkwX0_fits_6 : List UInt8 := [54, 7, 25, 5, 180, 0, 236, 153, 0, 13, 21, 7, 155, 0, 8, 21, 6, 153, 0, 33, 25, 5]
abbrev dktX0_fits_6 : List UInt8 := dkwX0_fits_6 ++ dktX0_fits_7
def dkwX0_fits_5 : List UInt8 := [153, 0, 7, 4, 167, 0, 4, 3, 54, 6, 132, 7, 1, 167, 255, 196, 25, 5, 28, 29, 182, 1, 135]
abbrev dktX0_fits_5 : List UInt8 := dkwX0_fits_5 ++ dktX0_fits_6
def dkwX0_fits_4 : List UInt8 := [160, 0, 30, 42, 180, 0, 26, 180, 0, 97, 21, 7, 50, 25, 5, 180, 1, 10, 3, 46, 182, 1, 132]
abbrev dktX0_fits_4 : List UInt8 := dkwX0_fits_4 ++ dktX0_fits_5
def dkwX0_fits_3 : List UInt8 := [21, 7, 42, 180, 0, 26, 180, 0, 74, 162, 0, 54, 21, 6, 154, 0, 36, 27, 21, 7, 122, 4, 126, 4]
abbrev dktX0_fits_3 : List UInt8 := dkwX0_fits_3 ++ dktX0_fits_4
def dkwX0_fits_2 : List UInt8 := [157, 0, 146, 25, 5, 180, 1, 10, 16, 7, 46, 4, 160, 0, 6, 167, 0, 131, 3, 54, 6, 3, 54, 7]
abbrev dktX0_fits_2 : List UInt8 := dkwX0_fits_2 ++ dktX0_fits_3
def dkwX0_fits_1 : List UInt8 := [50, 58, 5, 25, 5, 180, 1, 10, 4, 46, 5, 160, 0, 157, 25, 5, 180, 1, 10, 16, 6, 46]
abbrev dktX0_fits_1 : List UInt8 := dkwX0_fits_1 ++ dktX0_fits_2
def dkwX0_fits_0 : List UInt8 := [3, 54, 4, 21, 4, 42, 180, 0, 26, 180, 0, 83, 162, 0, 186, 42, 180, 0, 26, 180, 0, 237, 21, 4]
abbrev dktX0_fits_0 : List UInt8 := dkwX0_fits_0 ++ dktX0_fits_1
theorem dksX0_fits_0 : cX0_fits.data.toList.drop 0 = dktX0_fits_0 := by decide +kernel
theorem dksX0_fits_1 : cX0_fits.data.toList.drop 24 = dktX0_fits_1 := dk_seg dksX0_fits_0 24 rfl rfl
theorem dksX0_fits_2 : cX0_fits.data.toList.drop 46 = dktX0_fits_2 := dk_seg dksX0_fits_1 22 rfl rfl
theorem dksX0_fits_3 : cX0_fits.data.toList.drop 70 = dktX0_fits_3 := dk_seg dksX0_fits_2 24 rfl rfl
theorem dksX0_fits_4 : cX0_fits.data.toList.drop 94 = dktX0_fits_4 := dk_seg dksX0_fits_3 24 rfl rfl
theorem dksX0_fits_5 : cX0_fits.data.toList.drop 117 = dktX0_fits_5 := dk_seg dksX0_fits_4 23 rfl rfl
theorem dksX0_fits_6 : cX0_fits.data.toList.drop 140 = dktX0_fits_6 := dk_seg dksX0_fits_5 23 rfl rfl
theorem dksX0_fits_7 : cX0_fits.data.toList.drop 162 = dktX0_fits_7 := dk_seg dksX0_fits_6 22 rfl rfl
theorem dksX0_fits_8 : cX0_fits.data.toList.drop 185 = dktX0_fits_8 := dk_seg dksX0_fits_7 23 rfl rfl
theorem dX0_fits_0 : decode cX0_fits 0 = .ok (.iconst 0, 1) := dk_3 (dk_at dksX0_fits_0 0 rfl rfl)
theorem dX0_fits_1 : decode cX0_fits 1 = .ok (.istore 4, 2) := dk_54 4 (dk_at dksX0_fits_0 1 rfl rfl)
theorem dX0_fits_3 : decode cX0_fits 3 = .ok (.iload 4, 2) := dk_21 4 (dk_at dksX0_fits_0 3 rfl rfl)
theorem dX0_fits_5 : decode cX0_fits 5 = .ok (.aload_n 0, 1) := dk_42 (dk_at dksX0_fits_0 5 rfl rfl)
theorem dX0_fits_6 : decode cX0_fits 6 = .ok (.getfield 26, 3) := dk_180 0 26 (dk_at dksX0_fits_0 6 rfl rfl)
theorem dX0_fits_9 : decode cX0_fits 9 = .ok (.getfield 83, 3) := dk_180 0 83 (dk_at dksX0_fits_0 9 rfl rfl)
theorem dX0_fits_12 : decode cX0_fits 12 = .ok (.if_icmp .ge 186, 3) := dk_162 0 186 (dk_at dksX0_fits_0 12 rfl rfl)
theorem dX0_fits_15 : decode cX0_fits 15 = .ok (.aload_n 0, 1) := dk_42 (dk_at dksX0_fits_0 15 rfl rfl)
theorem dX0_fits_16 : decode cX0_fits 16 = .ok (.getfield 26, 3) := dk_180 0 26 (dk_at dksX0_fits_0 16 rfl rfl)
theorem dX0_fits_19 : decode cX0_fits 19 = .ok (.getfield 237, 3) := dk_180 0 237 (dk_at dksX0_fits_0 19 rfl rfl)
theorem dX0_fits_22 : decode cX0_fits 22 = .ok (.iload 4, 2) := dk_21 4 (dk_at dksX0_fits_0 22 rfl rfl)
theorem dX0_fits_24 : decode cX0_fits 24 = .ok (.aaload, 1) := dk_50 (dk_at dksX0_fits_1 0 rfl rfl)
theorem dX0_fits_25 : decode cX0_fits 25 = .ok (.astore 5, 2) := dk_58 5 (dk_at dksX0_fits_1 1 rfl rfl)
theorem dX0_fits_27 : decode cX0_fits 27 = .ok (.aload 5, 2) := dk_25 5 (dk_at dksX0_fits_1 3 rfl rfl)
theorem dX0_fits_29 : decode cX0_fits 29 = .ok (.getfield 266, 3) := dk_180 1 10 (dk_at dksX0_fits_1 5 rfl rfl)
theorem dX0_fits_32 : decode cX0_fits 32 = .ok (.iconst 1, 1) := dk_4 (dk_at dksX0_fits_1 8 rfl rfl)
theorem dX0_fits_33 : decode cX0_fits 33 = .ok (.iaload, 1) := dk_46 (dk_at dksX0_fits_1 9 rfl rfl)
theorem dX0_fits_34 : decode cX0_fits 34 = .ok (.iconst 2, 1) := dk_5 (dk_at dksX0_fits_1 10 rfl rfl)
theorem dX0_fits_35 : decode cX0_fits 35 = .ok (.if_icmp .ne 157, 3) := dk_160 0 157 (dk_at dksX0_fits_1 11 rfl rfl)
theorem dX0_fits_38 : decode cX0_fits 38 = .ok (.aload 5, 2) := dk_25 5 (dk_at dksX0_fits_1 14 rfl rfl)
theorem dX0_fits_40 : decode cX0_fits 40 = .ok (.getfield 266, 3) := dk_180 1 10 (dk_at dksX0_fits_1 16 rfl rfl)
theorem dX0_fits_43 : decode cX0_fits 43 = .ok (.bipush 6, 2) := dk_16 6 (dk_at dksX0_fits_1 19 rfl rfl)
theorem dX0_fits_45 : decode cX0_fits 45 = .ok (.iaload, 1) := dk_46 (dk_at dksX0_fits_1 21 rfl rfl)
theorem dX0_fits_46 : decode cX0_fits 46 = .ok (.ifCond .gt 146, 3) := dk_157 0 146 (dk_at dksX0_fits_2 0 rfl rfl)
theorem dX0_fits_49 : decode cX0_fits 49 = .ok (.aload 5, 2) := dk_25 5 (dk_at dksX0_fits_2 3 rfl rfl)
theorem dX0_fits_51 : decode cX0_fits 51 = .ok (.getfield 266, 3) := dk_180 1 10 (dk_at dksX0_fits_2 5 rfl rfl)
theorem dX0_fits_54 : decode cX0_fits 54 = .ok (.bipush 7, 2) := dk_16 7 (dk_at dksX0_fits_2 8 rfl rfl)
theorem dX0_fits_56 : decode cX0_fits 56 = .ok (.iaload, 1) := dk_46 (dk_at dksX0_fits_2 10 rfl rfl)
theorem dX0_fits_57 : decode cX0_fits 57 = .ok (.iconst 1, 1) := dk_4 (dk_at dksX0_fits_2 11 rfl rfl)
theorem dX0_fits_58 : decode cX0_fits 58 = .ok (.if_icmp .ne 6, 3) := dk_160 0 6 (dk_at dksX0_fits_2 12 rfl rfl)
theorem dX0_fits_61 : decode cX0_fits 61 = .ok (.goto 131, 3) := dk_167 0 131 (dk_at dksX0_fits_2 15 rfl rfl)
theorem dX0_fits_64 : decode cX0_fits 64 = .ok (.iconst 0, 1) := dk_3 (dk_at dksX0_fits_2 18 rfl rfl)
theorem dX0_fits_65 : decode cX0_fits 65 = .ok (.istore 6, 2) := dk_54 6 (dk_at dksX0_fits_2 19 rfl rfl)
theorem dX0_fits_67 : decode cX0_fits 67 = .ok (.iconst 0, 1) := dk_3 (dk_at dksX0_fits_2 21 rfl rfl)
theorem dX0_fits_68 : decode cX0_fits 68 = .ok (.istore 7, 2) := dk_54 7 (dk_at dksX0_fits_2 22 rfl rfl)
theorem dX0_fits_70 : decode cX0_fits 70 = .ok (.iload 7, 2) := dk_21 7 (dk_at dksX0_fits_3 0 rfl rfl)
theorem dX0_fits_72 : decode cX0_fits 72 = .ok (.aload_n 0, 1) := dk_42 (dk_at dksX0_fits_3 2 rfl rfl)
theorem dX0_fits_73 : decode cX0_fits 73 = .ok (.getfield 26, 3) := dk_180 0 26 (dk_at dksX0_fits_3 3 rfl rfl)
theorem dX0_fits_76 : decode cX0_fits 76 = .ok (.getfield 74, 3) := dk_180 0 74 (dk_at dksX0_fits_3 6 rfl rfl)
theorem dX0_fits_79 : decode cX0_fits 79 = .ok (.if_icmp .ge 54, 3) := dk_162 0 54 (dk_at dksX0_fits_3 9 rfl rfl)
theorem dX0_fits_82 : decode cX0_fits 82 = .ok (.iload 6, 2) := dk_21 6 (dk_at dksX0_fits_3 12 rfl rfl)
theorem dX0_fits_84 : decode cX0_fits 84 = .ok (.ifCond .ne 36, 3) := dk_154 0 36 (dk_at dksX0_fits_3 14 rfl rfl)
theorem dX0_fits_87 : decode cX0_fits 87 = .ok (.iload_n 1, 1) := dk_27 (dk_at dksX0_fits_3 17 rfl rfl)
theorem dX0_fits_88 : decode cX0_fits 88 = .ok (.iload 7, 2) := dk_21 7 (dk_at dksX0_fits_3 18 rfl rfl)
theorem dX0_fits_90 : decode cX0_fits 90 = .ok (.ishr, 1) := dk_122 (dk_at dksX0_fits_3 20 rfl rfl)
theorem dX0_fits_91 : decode cX0_fits 91 = .ok (.iconst 1, 1) := dk_4 (dk_at dksX0_fits_3 21 rfl rfl)
theorem dX0_fits_92 : decode cX0_fits 92 = .ok (.iand, 1) := dk_126 (dk_at dksX0_fits_3 22 rfl rfl)
theorem dX0_fits_93 : decode cX0_fits 93 = .ok (.iconst 1, 1) := dk_4 (dk_at dksX0_fits_3 23 rfl rfl)
theorem dX0_fits_94 : decode cX0_fits 94 = .ok (.if_icmp .ne 30, 3) := dk_160 0 30 (dk_at dksX0_fits_4 0 rfl rfl)
theorem dX0_fits_97 : decode cX0_fits 97 = .ok (.aload_n 0, 1) := dk_42 (dk_at dksX0_fits_4 3 rfl rfl)
theorem dX0_fits_98 : decode cX0_fits 98 = .ok (.getfield 26, 3) := dk_180 0 26 (dk_at dksX0_fits_4 4 rfl rfl)
theorem dX0_fits_101 : decode cX0_fits 101 = .ok (.getfield 97, 3) := dk_180 0 97 (dk_at dksX0_fits_4 7 rfl rfl)
theorem dX0_fits_104 : decode cX0_fits 104 = .ok (.iload 7, 2) := dk_21 7 (dk_at dksX0_fits_4 10 rfl rfl)
theorem dX0_fits_106 : decode cX0_fits 106 = .ok (.aaload, 1) := dk_50 (dk_at dksX0_fits_4 12 rfl rfl)
theorem dX0_fits_107 : decode cX0_fits 107 = .ok (.aload 5, 2) := dk_25 5 (dk_at dksX0_fits_4 13 rfl rfl)
theorem dX0_fits_109 : decode cX0_fits 109 = .ok (.getfield 266, 3) := dk_180 1 10 (dk_at dksX0_fits_4 15 rfl rfl)
theorem dX0_fits_112 : decode cX0_fits 112 = .ok (.iconst 0, 1) := dk_3 (dk_at dksX0_fits_4 18 rfl rfl)
theorem dX0_fits_113 : decode cX0_fits 113 = .ok (.iaload, 1) := dk_46 (dk_at dksX0_fits_4 19 rfl rfl)
theorem dX0_fits_114 : decode cX0_fits 114 = .ok (.invokevirtual 388, 3) := dk_182 1 132 (dk_at dksX0_fits_4 20 rfl rfl)
theorem dX0_fits_117 : decode cX0_fits 117 = .ok (.ifCond .eq 7, 3) := dk_153 0 7 (dk_at dksX0_fits_5 0 rfl rfl)
theorem dX0_fits_120 : decode cX0_fits 120 = .ok (.iconst 1, 1) := dk_4 (dk_at dksX0_fits_5 3 rfl rfl)
theorem dX0_fits_121 : decode cX0_fits 121 = .ok (.goto 4, 3) := dk_167 0 4 (dk_at dksX0_fits_5 4 rfl rfl)
theorem dX0_fits_124 : decode cX0_fits 124 = .ok (.iconst 0, 1) := dk_3 (dk_at dksX0_fits_5 7 rfl rfl)
theorem dX0_fits_125 : decode cX0_fits 125 = .ok (.istore 6, 2) := dk_54 6 (dk_at dksX0_fits_5 8 rfl rfl)
theorem dX0_fits_127 : decode cX0_fits 127 = .ok (.iinc 7 1, 3) := dk_132 7 1 (dk_at dksX0_fits_5 10 rfl rfl)
theorem dX0_fits_130 : decode cX0_fits 130 = .ok (.goto (-60), 3) := dk_167 255 196 (dk_at dksX0_fits_5 13 rfl rfl)
theorem dX0_fits_133 : decode cX0_fits 133 = .ok (.aload 5, 2) := dk_25 5 (dk_at dksX0_fits_5 16 rfl rfl)
theorem dX0_fits_135 : decode cX0_fits 135 = .ok (.iload_n 2, 1) := dk_28 (dk_at dksX0_fits_5 18 rfl rfl)
theorem dX0_fits_136 : decode cX0_fits 136 = .ok (.iload_n 3, 1) := dk_29 (dk_at dksX0_fits_5 19 rfl rfl)
theorem dX0_fits_137 : decode cX0_fits 137 = .ok (.invokevirtual 391, 3) := dk_182 1 135 (dk_at dksX0_fits_5 20 rfl rfl)
theorem dX0_fits_140 : decode cX0_fits 140 = .ok (.istore 7, 2) := dk_54 7 (dk_at dksX0_fits_6 0 rfl rfl)
theorem dX0_fits_142 : decode cX0_fits 142 = .ok (.aload 5, 2) := dk_25 5 (dk_at dksX0_fits_6 2 rfl rfl)
theorem dX0_fits_144 : decode cX0_fits 144 = .ok (.getfield 236, 3) := dk_180 0 236 (dk_at dksX0_fits_6 4 rfl rfl)
theorem dX0_fits_147 : decode cX0_fits 147 = .ok (.ifCond .eq 13, 3) := dk_153 0 13 (dk_at dksX0_fits_6 7 rfl rfl)
theorem dX0_fits_150 : decode cX0_fits 150 = .ok (.iload 7, 2) := dk_21 7 (dk_at dksX0_fits_6 10 rfl rfl)
theorem dX0_fits_152 : decode cX0_fits 152 = .ok (.ifCond .lt 8, 3) := dk_155 0 8 (dk_at dksX0_fits_6 12 rfl rfl)
theorem dX0_fits_155 : decode cX0_fits 155 = .ok (.iload 6, 2) := dk_21 6 (dk_at dksX0_fits_6 15 rfl rfl)
theorem dX0_fits_157 : decode cX0_fits 157 = .ok (.ifCond .eq 33, 3) := dk_153 0 33 (dk_at dksX0_fits_6 17 rfl rfl)
theorem dX0_fits_160 : decode cX0_fits 160 = .ok (.aload 5, 2) := dk_25 5 (dk_at dksX0_fits_6 20 rfl rfl)
theorem dX0_fits_162 : decode cX0_fits 162 = .ok (.getfield 236, 3) := dk_180 0 236 (dk_at dksX0_fits_7 0 rfl rfl)
theorem dX0_fits_165 : decode cX0_fits 165 = .ok (.ifCond .ne 27, 3) := dk_154 0 27 (dk_at dksX0_fits_7 3 rfl rfl)
theorem dX0_fits_168 : decode cX0_fits 168 = .ok (.iload 7, 2) := dk_21 7 (dk_at dksX0_fits_7 6 rfl rfl)
theorem dX0_fits_170 : decode cX0_fits 170 = .ok (.ifCond .gt 22, 3) := dk_157 0 22 (dk_at dksX0_fits_7 8 rfl rfl)
theorem dX0_fits_173 : decode cX0_fits 173 = .ok (.aload 5, 2) := dk_25 5 (dk_at dksX0_fits_7 11 rfl rfl)
theorem dX0_fits_175 : decode cX0_fits 175 = .ok (.getfield 266, 3) := dk_180 1 10 (dk_at dksX0_fits_7 13 rfl rfl)
theorem dX0_fits_178 : decode cX0_fits 178 = .ok (.iconst 4, 1) := dk_7 (dk_at dksX0_fits_7 16 rfl rfl)
theorem dX0_fits_179 : decode cX0_fits 179 = .ok (.iaload, 1) := dk_46 (dk_at dksX0_fits_7 17 rfl rfl)
theorem dX0_fits_180 : decode cX0_fits 180 = .ok (.bipush 30, 2) := dk_16 30 (dk_at dksX0_fits_7 18 rfl rfl)
theorem dX0_fits_182 : decode cX0_fits 182 = .ok (.if_icmp .lt 10, 3) := dk_161 0 10 (dk_at dksX0_fits_7 20 rfl rfl)
theorem dX0_fits_185 : decode cX0_fits 185 = .ok (.iload 6, 2) := dk_21 6 (dk_at dksX0_fits_8 0 rfl rfl)
theorem dX0_fits_187 : decode cX0_fits 187 = .ok (.ifCond .eq 5, 3) := dk_153 0 5 (dk_at dksX0_fits_8 2 rfl rfl)
theorem dX0_fits_190 : decode cX0_fits 190 = .ok (.iconst 0, 1) := dk_3 (dk_at dksX0_fits_8 5 rfl rfl)
theorem dX0_fits_191 : decode cX0_fits 191 = .ok (.ireturn, 1) := dk_172 (dk_at dksX0_fits_8 6 rfl rfl)
theorem dX0_fits_192 : decode cX0_fits 192 = .ok (.iinc 4 1, 3) := dk_132 4 1 (dk_at dksX0_fits_8 7 rfl rfl)
theorem dX0_fits_195 : decode cX0_fits 195 = .ok (.goto (-192), 3) := dk_167 255 64 (dk_at dksX0_fits_8 10 rfl rfl)
theorem dX0_fits_198 : decode cX0_fits 198 = .ok (.iconst 1, 1) := dk_4 (dk_at dksX0_fits_8 13 rfl rfl)
theorem dX0_fits_199 : decode cX0_fits 199 = .ok (.ireturn, 1) := dk_172 (dk_at dksX0_fits_8 14 rfl rfl)
abbrev cX0_right : ByteArray := prog_1_method_64_code
def yX0_right : MethodName := ⟨RX0, "right", "(II)I"⟩
def dkwX0_right_6 : List UInt8 := [132, 4, 1, 167, 255, 133, 29, 172]
abbrev dktX0_right_6 : List UInt8 := dkwX0_right_6 ++ []
def dkwX0_right_5 : List UInt8 := [132, 6, 1, 167, 255, 173, 29, 21, 5, 153, 0, 10, 4, 21, 4, 120, 167, 0, 4, 3, 128, 62]
abbrev dktX0_right_5 : List UInt8 := dkwX0_right_5 ++ dktX0_right_6
def dkwX0_right_4 : List UInt8 := [50, 42, 180, 0, 26, 180, 0, 237, 21, 6, 50, 182, 1, 34, 158, 0, 7, 4, 167, 0, 4, 3, 54, 5]
abbrev dktX0_right_4 : List UInt8 := dkwX0_right_4 ++ dktX0_right_5
def dkwX0_right_3 : List UInt8 := [153, 0, 45, 21, 7, 27, 159, 0, 9, 21, 7, 28, 160, 0, 29, 42, 180, 0, 26, 180, 1, 20, 21, 4]
abbrev dktX0_right_3 : List UInt8 := dkwX0_right_3 ++ dktX0_right_4
def dkwX0_right_2 : List UInt8 := [162, 0, 77, 42, 180, 0, 26, 180, 0, 237, 21, 6, 50, 180, 1, 10, 16, 8, 46, 54, 7, 21, 5]
abbrev dktX0_right_2 : List UInt8 := dkwX0_right_2 ++ dktX0_right_3
def dkwX0_right_1 : List UInt8 := [180, 0, 26, 180, 0, 80, 162, 0, 117, 4, 54, 5, 3, 54, 6, 21, 6, 42, 180, 0, 26, 180, 0, 83]
abbrev dktX0_right_1 : List UInt8 := dkwX0_right_1 ++ dktX0_right_2
def dkwX0_right_0 : List UInt8 := [27, 184, 0, 147, 153, 0, 10, 28, 184, 0, 147, 154, 0, 5, 2, 172, 3, 62, 3, 54, 4, 21, 4, 42]
abbrev dktX0_right_0 : List UInt8 := dkwX0_right_0 ++ dktX0_right_1
theorem dksX0_right_0 : cX0_right.data.toList.drop 0 = dktX0_right_0 := by decide +kernel
theorem dksX0_right_1 : cX0_right.data.toList.drop 24 = dktX0_right_1 := dk_seg dksX0_right_0 24 rfl rfl
theorem dksX0_right_2 : cX0_right.data.toList.drop 48 = dktX0_right_2 := dk_seg dksX0_right_1 24 rfl rfl
theorem dksX0_right_3 : cX0_right.data.toList.drop 71 = dktX0_right_3 := dk_seg dksX0_right_2 23 rfl rfl
theorem dksX0_right_4 : cX0_right.data.toList.drop 95 = dktX0_right_4 := dk_seg dksX0_right_3 24 rfl rfl
theorem dksX0_right_5 : cX0_right.data.toList.drop 119 = dktX0_right_5 := dk_seg dksX0_right_4 24 rfl rfl
theorem dksX0_right_6 : cX0_right.data.toList.drop 141 = dktX0_right_6 := dk_seg dksX0_right_5 22 rfl rfl
theorem dX0_right_0 : decode cX0_right 0 = .ok (.iload_n 1, 1) := dk_27 (dk_at dksX0_right_0 0 rfl rfl)
theorem dX0_right_1 : decode cX0_right 1 = .ok (.invokestatic 147, 3) := dk_184 0 147 (dk_at dksX0_right_0 1 rfl rfl)
theorem dX0_right_4 : decode cX0_right 4 = .ok (.ifCond .eq 10, 3) := dk_153 0 10 (dk_at dksX0_right_0 4 rfl rfl)
theorem dX0_right_7 : decode cX0_right 7 = .ok (.iload_n 2, 1) := dk_28 (dk_at dksX0_right_0 7 rfl rfl)
theorem dX0_right_8 : decode cX0_right 8 = .ok (.invokestatic 147, 3) := dk_184 0 147 (dk_at dksX0_right_0 8 rfl rfl)
theorem dX0_right_11 : decode cX0_right 11 = .ok (.ifCond .ne 5, 3) := dk_154 0 5 (dk_at dksX0_right_0 11 rfl rfl)
theorem dX0_right_14 : decode cX0_right 14 = .ok (.iconst (-1), 1) := dk_2 (dk_at dksX0_right_0 14 rfl rfl)
theorem dX0_right_15 : decode cX0_right 15 = .ok (.ireturn, 1) := dk_172 (dk_at dksX0_right_0 15 rfl rfl)
theorem dX0_right_16 : decode cX0_right 16 = .ok (.iconst 0, 1) := dk_3 (dk_at dksX0_right_0 16 rfl rfl)
theorem dX0_right_17 : decode cX0_right 17 = .ok (.istore_n 3, 1) := dk_62 (dk_at dksX0_right_0 17 rfl rfl)
theorem dX0_right_18 : decode cX0_right 18 = .ok (.iconst 0, 1) := dk_3 (dk_at dksX0_right_0 18 rfl rfl)
theorem dX0_right_19 : decode cX0_right 19 = .ok (.istore 4, 2) := dk_54 4 (dk_at dksX0_right_0 19 rfl rfl)
theorem dX0_right_21 : decode cX0_right 21 = .ok (.iload 4, 2) := dk_21 4 (dk_at dksX0_right_0 21 rfl rfl)
theorem dX0_right_23 : decode cX0_right 23 = .ok (.aload_n 0, 1) := dk_42 (dk_at dksX0_right_0 23 rfl rfl)
theorem dX0_right_24 : decode cX0_right 24 = .ok (.getfield 26, 3) := dk_180 0 26 (dk_at dksX0_right_1 0 rfl rfl)
theorem dX0_right_27 : decode cX0_right 27 = .ok (.getfield 80, 3) := dk_180 0 80 (dk_at dksX0_right_1 3 rfl rfl)
theorem dX0_right_30 : decode cX0_right 30 = .ok (.if_icmp .ge 117, 3) := dk_162 0 117 (dk_at dksX0_right_1 6 rfl rfl)
theorem dX0_right_33 : decode cX0_right 33 = .ok (.iconst 1, 1) := dk_4 (dk_at dksX0_right_1 9 rfl rfl)
theorem dX0_right_34 : decode cX0_right 34 = .ok (.istore 5, 2) := dk_54 5 (dk_at dksX0_right_1 10 rfl rfl)
theorem dX0_right_36 : decode cX0_right 36 = .ok (.iconst 0, 1) := dk_3 (dk_at dksX0_right_1 12 rfl rfl)
theorem dX0_right_37 : decode cX0_right 37 = .ok (.istore 6, 2) := dk_54 6 (dk_at dksX0_right_1 13 rfl rfl)
theorem dX0_right_39 : decode cX0_right 39 = .ok (.iload 6, 2) := dk_21 6 (dk_at dksX0_right_1 15 rfl rfl)
theorem dX0_right_41 : decode cX0_right 41 = .ok (.aload_n 0, 1) := dk_42 (dk_at dksX0_right_1 17 rfl rfl)
theorem dX0_right_42 : decode cX0_right 42 = .ok (.getfield 26, 3) := dk_180 0 26 (dk_at dksX0_right_1 18 rfl rfl)
theorem dX0_right_45 : decode cX0_right 45 = .ok (.getfield 83, 3) := dk_180 0 83 (dk_at dksX0_right_1 21 rfl rfl)
theorem dX0_right_48 : decode cX0_right 48 = .ok (.if_icmp .ge 77, 3) := dk_162 0 77 (dk_at dksX0_right_2 0 rfl rfl)
theorem dX0_right_51 : decode cX0_right 51 = .ok (.aload_n 0, 1) := dk_42 (dk_at dksX0_right_2 3 rfl rfl)
theorem dX0_right_52 : decode cX0_right 52 = .ok (.getfield 26, 3) := dk_180 0 26 (dk_at dksX0_right_2 4 rfl rfl)
theorem dX0_right_55 : decode cX0_right 55 = .ok (.getfield 237, 3) := dk_180 0 237 (dk_at dksX0_right_2 7 rfl rfl)
theorem dX0_right_58 : decode cX0_right 58 = .ok (.iload 6, 2) := dk_21 6 (dk_at dksX0_right_2 10 rfl rfl)
theorem dX0_right_60 : decode cX0_right 60 = .ok (.aaload, 1) := dk_50 (dk_at dksX0_right_2 12 rfl rfl)
theorem dX0_right_61 : decode cX0_right 61 = .ok (.getfield 266, 3) := dk_180 1 10 (dk_at dksX0_right_2 13 rfl rfl)
theorem dX0_right_64 : decode cX0_right 64 = .ok (.bipush 8, 2) := dk_16 8 (dk_at dksX0_right_2 16 rfl rfl)
theorem dX0_right_66 : decode cX0_right 66 = .ok (.iaload, 1) := dk_46 (dk_at dksX0_right_2 18 rfl rfl)
theorem dX0_right_67 : decode cX0_right 67 = .ok (.istore 7, 2) := dk_54 7 (dk_at dksX0_right_2 19 rfl rfl)
theorem dX0_right_69 : decode cX0_right 69 = .ok (.iload 5, 2) := dk_21 5 (dk_at dksX0_right_2 21 rfl rfl)
theorem dX0_right_71 : decode cX0_right 71 = .ok (.ifCond .eq 45, 3) := dk_153 0 45 (dk_at dksX0_right_3 0 rfl rfl)
theorem dX0_right_74 : decode cX0_right 74 = .ok (.iload 7, 2) := dk_21 7 (dk_at dksX0_right_3 3 rfl rfl)
theorem dX0_right_76 : decode cX0_right 76 = .ok (.iload_n 1, 1) := dk_27 (dk_at dksX0_right_3 5 rfl rfl)
theorem dX0_right_77 : decode cX0_right 77 = .ok (.if_icmp .eq 9, 3) := dk_159 0 9 (dk_at dksX0_right_3 6 rfl rfl)
theorem dX0_right_80 : decode cX0_right 80 = .ok (.iload 7, 2) := dk_21 7 (dk_at dksX0_right_3 9 rfl rfl)
theorem dX0_right_82 : decode cX0_right 82 = .ok (.iload_n 2, 1) := dk_28 (dk_at dksX0_right_3 11 rfl rfl)
theorem dX0_right_83 : decode cX0_right 83 = .ok (.if_icmp .ne 29, 3) := dk_160 0 29 (dk_at dksX0_right_3 12 rfl rfl)
theorem dX0_right_86 : decode cX0_right 86 = .ok (.aload_n 0, 1) := dk_42 (dk_at dksX0_right_3 15 rfl rfl)
theorem dX0_right_87 : decode cX0_right 87 = .ok (.getfield 26, 3) := dk_180 0 26 (dk_at dksX0_right_3 16 rfl rfl)
theorem dX0_right_90 : decode cX0_right 90 = .ok (.getfield 276, 3) := dk_180 1 20 (dk_at dksX0_right_3 19 rfl rfl)
theorem dX0_right_93 : decode cX0_right 93 = .ok (.iload 4, 2) := dk_21 4 (dk_at dksX0_right_3 22 rfl rfl)
theorem dX0_right_95 : decode cX0_right 95 = .ok (.aaload, 1) := dk_50 (dk_at dksX0_right_4 0 rfl rfl)
theorem dX0_right_96 : decode cX0_right 96 = .ok (.aload_n 0, 1) := dk_42 (dk_at dksX0_right_4 1 rfl rfl)
theorem dX0_right_97 : decode cX0_right 97 = .ok (.getfield 26, 3) := dk_180 0 26 (dk_at dksX0_right_4 2 rfl rfl)
theorem dX0_right_100 : decode cX0_right 100 = .ok (.getfield 237, 3) := dk_180 0 237 (dk_at dksX0_right_4 5 rfl rfl)
theorem dX0_right_103 : decode cX0_right 103 = .ok (.iload 6, 2) := dk_21 6 (dk_at dksX0_right_4 8 rfl rfl)
theorem dX0_right_105 : decode cX0_right 105 = .ok (.aaload, 1) := dk_50 (dk_at dksX0_right_4 10 rfl rfl)
theorem dX0_right_106 : decode cX0_right 106 = .ok (.invokevirtual 290, 3) := dk_182 1 34 (dk_at dksX0_right_4 11 rfl rfl)
theorem dX0_right_109 : decode cX0_right 109 = .ok (.ifCond .le 7, 3) := dk_158 0 7 (dk_at dksX0_right_4 14 rfl rfl)
theorem dX0_right_112 : decode cX0_right 112 = .ok (.iconst 1, 1) := dk_4 (dk_at dksX0_right_4 17 rfl rfl)
theorem dX0_right_113 : decode cX0_right 113 = .ok (.goto 4, 3) := dk_167 0 4 (dk_at dksX0_right_4 18 rfl rfl)
theorem dX0_right_116 : decode cX0_right 116 = .ok (.iconst 0, 1) := dk_3 (dk_at dksX0_right_4 21 rfl rfl)
theorem dX0_right_117 : decode cX0_right 117 = .ok (.istore 5, 2) := dk_54 5 (dk_at dksX0_right_4 22 rfl rfl)
theorem dX0_right_119 : decode cX0_right 119 = .ok (.iinc 6 1, 3) := dk_132 6 1 (dk_at dksX0_right_5 0 rfl rfl)
theorem dX0_right_122 : decode cX0_right 122 = .ok (.goto (-83), 3) := dk_167 255 173 (dk_at dksX0_right_5 3 rfl rfl)
theorem dX0_right_125 : decode cX0_right 125 = .ok (.iload_n 3, 1) := dk_29 (dk_at dksX0_right_5 6 rfl rfl)
theorem dX0_right_126 : decode cX0_right 126 = .ok (.iload 5, 2) := dk_21 5 (dk_at dksX0_right_5 7 rfl rfl)
theorem dX0_right_128 : decode cX0_right 128 = .ok (.ifCond .eq 10, 3) := dk_153 0 10 (dk_at dksX0_right_5 9 rfl rfl)
theorem dX0_right_131 : decode cX0_right 131 = .ok (.iconst 1, 1) := dk_4 (dk_at dksX0_right_5 12 rfl rfl)
theorem dX0_right_132 : decode cX0_right 132 = .ok (.iload 4, 2) := dk_21 4 (dk_at dksX0_right_5 13 rfl rfl)
theorem dX0_right_134 : decode cX0_right 134 = .ok (.ishl, 1) := dk_120 (dk_at dksX0_right_5 15 rfl rfl)
theorem dX0_right_135 : decode cX0_right 135 = .ok (.goto 4, 3) := dk_167 0 4 (dk_at dksX0_right_5 16 rfl rfl)
theorem dX0_right_138 : decode cX0_right 138 = .ok (.iconst 0, 1) := dk_3 (dk_at dksX0_right_5 19 rfl rfl)
theorem dX0_right_139 : decode cX0_right 139 = .ok (.ior, 1) := dk_128 (dk_at dksX0_right_5 20 rfl rfl)
theorem dX0_right_140 : decode cX0_right 140 = .ok (.istore_n 3, 1) := dk_62 (dk_at dksX0_right_5 21 rfl rfl)
theorem dX0_right_141 : decode cX0_right 141 = .ok (.iinc 4 1, 3) := dk_132 4 1 (dk_at dksX0_right_6 0 rfl rfl)
theorem dX0_right_144 : decode cX0_right 144 = .ok (.goto (-123), 3) := dk_167 255 133 (dk_at dksX0_right_6 3 rfl rfl)
theorem dX0_right_147 : decode cX0_right 147 = .ok (.iload_n 3, 1) := dk_29 (dk_at dksX0_right_6 6 rfl rfl)
theorem dX0_right_148 : decode cX0_right 148 = .ok (.ireturn, 1) := dk_172 (dk_at dksX0_right_6 7 rfl rfl)
abbrev cX0_how : ByteArray := prog_1_method_65_code
def yX0_how : MethodName := ⟨RX0, "how", "(III)I"⟩
def dkwX0_how_6 : List UInt8 := [132, 6, 1, 167, 255, 188, 2, 172]
abbrev dktX0_how_6 : List UInt8 := dkwX0_how_6 ++ []
def dkwX0_how_5 : List UInt8 := [180, 1, 10, 21, 6, 46, 79, 25, 4, 42, 180, 0, 68, 182, 1, 40, 21, 5, 160, 0, 6, 21, 6, 172]
abbrev dktX0_how_5 : List UInt8 := dkwX0_how_5 ++ dktX0_how_6
def dkwX0_how_4 : List UInt8 := [50, 182, 0, 241, 42, 180, 0, 68, 180, 0, 226, 21, 6, 42, 180, 0, 26, 180, 0, 237, 29, 50]
abbrev dktX0_how_4 : List UInt8 := dkwX0_how_4 ++ dktX0_how_5
def dkwX0_how_3 : List UInt8 := [2, 172, 3, 54, 6, 21, 6, 16, 9, 162, 0, 67, 42, 180, 0, 68, 42, 180, 0, 26, 180, 0, 237, 28]
abbrev dktX0_how_3 : List UInt8 := dkwX0_how_3 ++ dktX0_how_4
def dkwX0_how_2 : List UInt8 := [182, 1, 40, 54, 5, 25, 4, 42, 180, 0, 26, 180, 0, 237, 28, 50, 182, 1, 40, 21, 5, 160, 0, 5]
abbrev dktX0_how_2 : List UInt8 := dkwX0_how_2 ++ dktX0_how_3
def dkwX0_how_1 : List UInt8 := [2, 172, 42, 180, 0, 26, 180, 1, 20, 27, 50, 58, 4, 25, 4, 42, 180, 0, 26, 180, 0, 237, 29, 50]
abbrev dktX0_how_1 : List UInt8 := dkwX0_how_1 ++ dktX0_how_2
def dkwX0_how_0 : List UInt8 := [42, 27, 182, 1, 31, 153, 0, 19, 42, 28, 182, 1, 5, 153, 0, 11, 42, 29, 182, 1, 5, 154, 0, 5]
abbrev dktX0_how_0 : List UInt8 := dkwX0_how_0 ++ dktX0_how_1
theorem dksX0_how_0 : cX0_how.data.toList.drop 0 = dktX0_how_0 := by decide +kernel
theorem dksX0_how_1 : cX0_how.data.toList.drop 24 = dktX0_how_1 := dk_seg dksX0_how_0 24 rfl rfl
theorem dksX0_how_2 : cX0_how.data.toList.drop 48 = dktX0_how_2 := dk_seg dksX0_how_1 24 rfl rfl
theorem dksX0_how_3 : cX0_how.data.toList.drop 72 = dktX0_how_3 := dk_seg dksX0_how_2 24 rfl rfl
theorem dksX0_how_4 : cX0_how.data.toList.drop 96 = dktX0_how_4 := dk_seg dksX0_how_3 24 rfl rfl
theorem dksX0_how_5 : cX0_how.data.toList.drop 118 = dktX0_how_5 := dk_seg dksX0_how_4 22 rfl rfl
theorem dksX0_how_6 : cX0_how.data.toList.drop 142 = dktX0_how_6 := dk_seg dksX0_how_5 24 rfl rfl
theorem dX0_how_0 : decode cX0_how 0 = .ok (.aload_n 0, 1) := dk_42 (dk_at dksX0_how_0 0 rfl rfl)
theorem dX0_how_1 : decode cX0_how 1 = .ok (.iload_n 1, 1) := dk_27 (dk_at dksX0_how_0 1 rfl rfl)
theorem dX0_how_2 : decode cX0_how 2 = .ok (.invokevirtual 287, 3) := dk_182 1 31 (dk_at dksX0_how_0 2 rfl rfl)
theorem dX0_how_5 : decode cX0_how 5 = .ok (.ifCond .eq 19, 3) := dk_153 0 19 (dk_at dksX0_how_0 5 rfl rfl)
theorem dX0_how_8 : decode cX0_how 8 = .ok (.aload_n 0, 1) := dk_42 (dk_at dksX0_how_0 8 rfl rfl)
theorem dX0_how_9 : decode cX0_how 9 = .ok (.iload_n 2, 1) := dk_28 (dk_at dksX0_how_0 9 rfl rfl)
theorem dX0_how_10 : decode cX0_how 10 = .ok (.invokevirtual 261, 3) := dk_182 1 5 (dk_at dksX0_how_0 10 rfl rfl)
theorem dX0_how_13 : decode cX0_how 13 = .ok (.ifCond .eq 11, 3) := dk_153 0 11 (dk_at dksX0_how_0 13 rfl rfl)
theorem dX0_how_16 : decode cX0_how 16 = .ok (.aload_n 0, 1) := dk_42 (dk_at dksX0_how_0 16 rfl rfl)
theorem dX0_how_17 : decode cX0_how 17 = .ok (.iload_n 3, 1) := dk_29 (dk_at dksX0_how_0 17 rfl rfl)
theorem dX0_how_18 : decode cX0_how 18 = .ok (.invokevirtual 261, 3) := dk_182 1 5 (dk_at dksX0_how_0 18 rfl rfl)
theorem dX0_how_21 : decode cX0_how 21 = .ok (.ifCond .ne 5, 3) := dk_154 0 5 (dk_at dksX0_how_0 21 rfl rfl)
theorem dX0_how_24 : decode cX0_how 24 = .ok (.iconst (-1), 1) := dk_2 (dk_at dksX0_how_1 0 rfl rfl)
theorem dX0_how_25 : decode cX0_how 25 = .ok (.ireturn, 1) := dk_172 (dk_at dksX0_how_1 1 rfl rfl)
theorem dX0_how_26 : decode cX0_how 26 = .ok (.aload_n 0, 1) := dk_42 (dk_at dksX0_how_1 2 rfl rfl)
theorem dX0_how_27 : decode cX0_how 27 = .ok (.getfield 26, 3) := dk_180 0 26 (dk_at dksX0_how_1 3 rfl rfl)
theorem dX0_how_30 : decode cX0_how 30 = .ok (.getfield 276, 3) := dk_180 1 20 (dk_at dksX0_how_1 6 rfl rfl)
theorem dX0_how_33 : decode cX0_how 33 = .ok (.iload_n 1, 1) := dk_27 (dk_at dksX0_how_1 9 rfl rfl)
theorem dX0_how_34 : decode cX0_how 34 = .ok (.aaload, 1) := dk_50 (dk_at dksX0_how_1 10 rfl rfl)
theorem dX0_how_35 : decode cX0_how 35 = .ok (.astore 4, 2) := dk_58 4 (dk_at dksX0_how_1 11 rfl rfl)
theorem dX0_how_37 : decode cX0_how 37 = .ok (.aload 4, 2) := dk_25 4 (dk_at dksX0_how_1 13 rfl rfl)
theorem dX0_how_39 : decode cX0_how 39 = .ok (.aload_n 0, 1) := dk_42 (dk_at dksX0_how_1 15 rfl rfl)
theorem dX0_how_40 : decode cX0_how 40 = .ok (.getfield 26, 3) := dk_180 0 26 (dk_at dksX0_how_1 16 rfl rfl)
theorem dX0_how_43 : decode cX0_how 43 = .ok (.getfield 237, 3) := dk_180 0 237 (dk_at dksX0_how_1 19 rfl rfl)
theorem dX0_how_46 : decode cX0_how 46 = .ok (.iload_n 3, 1) := dk_29 (dk_at dksX0_how_1 22 rfl rfl)
theorem dX0_how_47 : decode cX0_how 47 = .ok (.aaload, 1) := dk_50 (dk_at dksX0_how_1 23 rfl rfl)
theorem dX0_how_48 : decode cX0_how 48 = .ok (.invokevirtual 296, 3) := dk_182 1 40 (dk_at dksX0_how_2 0 rfl rfl)
theorem dX0_how_51 : decode cX0_how 51 = .ok (.istore 5, 2) := dk_54 5 (dk_at dksX0_how_2 3 rfl rfl)
theorem dX0_how_53 : decode cX0_how 53 = .ok (.aload 4, 2) := dk_25 4 (dk_at dksX0_how_2 5 rfl rfl)
theorem dX0_how_55 : decode cX0_how 55 = .ok (.aload_n 0, 1) := dk_42 (dk_at dksX0_how_2 7 rfl rfl)
theorem dX0_how_56 : decode cX0_how 56 = .ok (.getfield 26, 3) := dk_180 0 26 (dk_at dksX0_how_2 8 rfl rfl)
theorem dX0_how_59 : decode cX0_how 59 = .ok (.getfield 237, 3) := dk_180 0 237 (dk_at dksX0_how_2 11 rfl rfl)
theorem dX0_how_62 : decode cX0_how 62 = .ok (.iload_n 2, 1) := dk_28 (dk_at dksX0_how_2 14 rfl rfl)
theorem dX0_how_63 : decode cX0_how 63 = .ok (.aaload, 1) := dk_50 (dk_at dksX0_how_2 15 rfl rfl)
theorem dX0_how_64 : decode cX0_how 64 = .ok (.invokevirtual 296, 3) := dk_182 1 40 (dk_at dksX0_how_2 16 rfl rfl)
theorem dX0_how_67 : decode cX0_how 67 = .ok (.iload 5, 2) := dk_21 5 (dk_at dksX0_how_2 19 rfl rfl)
theorem dX0_how_69 : decode cX0_how 69 = .ok (.if_icmp .ne 5, 3) := dk_160 0 5 (dk_at dksX0_how_2 21 rfl rfl)
theorem dX0_how_72 : decode cX0_how 72 = .ok (.iconst (-1), 1) := dk_2 (dk_at dksX0_how_3 0 rfl rfl)
theorem dX0_how_73 : decode cX0_how 73 = .ok (.ireturn, 1) := dk_172 (dk_at dksX0_how_3 1 rfl rfl)
theorem dX0_how_74 : decode cX0_how 74 = .ok (.iconst 0, 1) := dk_3 (dk_at dksX0_how_3 2 rfl rfl)
theorem dX0_how_75 : decode cX0_how 75 = .ok (.istore 6, 2) := dk_54 6 (dk_at dksX0_how_3 3 rfl rfl)
theorem dX0_how_77 : decode cX0_how 77 = .ok (.iload 6, 2) := dk_21 6 (dk_at dksX0_how_3 5 rfl rfl)
theorem dX0_how_79 : decode cX0_how 79 = .ok (.bipush 9, 2) := dk_16 9 (dk_at dksX0_how_3 7 rfl rfl)
theorem dX0_how_81 : decode cX0_how 81 = .ok (.if_icmp .ge 67, 3) := dk_162 0 67 (dk_at dksX0_how_3 9 rfl rfl)
theorem dX0_how_84 : decode cX0_how 84 = .ok (.aload_n 0, 1) := dk_42 (dk_at dksX0_how_3 12 rfl rfl)
theorem dX0_how_85 : decode cX0_how 85 = .ok (.getfield 68, 3) := dk_180 0 68 (dk_at dksX0_how_3 13 rfl rfl)
theorem dX0_how_88 : decode cX0_how 88 = .ok (.aload_n 0, 1) := dk_42 (dk_at dksX0_how_3 16 rfl rfl)
theorem dX0_how_89 : decode cX0_how 89 = .ok (.getfield 26, 3) := dk_180 0 26 (dk_at dksX0_how_3 17 rfl rfl)
theorem dX0_how_92 : decode cX0_how 92 = .ok (.getfield 237, 3) := dk_180 0 237 (dk_at dksX0_how_3 20 rfl rfl)
theorem dX0_how_95 : decode cX0_how 95 = .ok (.iload_n 2, 1) := dk_28 (dk_at dksX0_how_3 23 rfl rfl)
theorem dX0_how_96 : decode cX0_how 96 = .ok (.aaload, 1) := dk_50 (dk_at dksX0_how_4 0 rfl rfl)
theorem dX0_how_97 : decode cX0_how 97 = .ok (.invokevirtual 241, 3) := dk_182 0 241 (dk_at dksX0_how_4 1 rfl rfl)
theorem dX0_how_100 : decode cX0_how 100 = .ok (.aload_n 0, 1) := dk_42 (dk_at dksX0_how_4 4 rfl rfl)
theorem dX0_how_101 : decode cX0_how 101 = .ok (.getfield 68, 3) := dk_180 0 68 (dk_at dksX0_how_4 5 rfl rfl)
theorem dX0_how_104 : decode cX0_how 104 = .ok (.getfield 226, 3) := dk_180 0 226 (dk_at dksX0_how_4 8 rfl rfl)
theorem dX0_how_107 : decode cX0_how 107 = .ok (.iload 6, 2) := dk_21 6 (dk_at dksX0_how_4 11 rfl rfl)
theorem dX0_how_109 : decode cX0_how 109 = .ok (.aload_n 0, 1) := dk_42 (dk_at dksX0_how_4 13 rfl rfl)
theorem dX0_how_110 : decode cX0_how 110 = .ok (.getfield 26, 3) := dk_180 0 26 (dk_at dksX0_how_4 14 rfl rfl)
theorem dX0_how_113 : decode cX0_how 113 = .ok (.getfield 237, 3) := dk_180 0 237 (dk_at dksX0_how_4 17 rfl rfl)
theorem dX0_how_116 : decode cX0_how 116 = .ok (.iload_n 3, 1) := dk_29 (dk_at dksX0_how_4 20 rfl rfl)
theorem dX0_how_117 : decode cX0_how 117 = .ok (.aaload, 1) := dk_50 (dk_at dksX0_how_4 21 rfl rfl)
theorem dX0_how_118 : decode cX0_how 118 = .ok (.getfield 266, 3) := dk_180 1 10 (dk_at dksX0_how_5 0 rfl rfl)
theorem dX0_how_121 : decode cX0_how 121 = .ok (.iload 6, 2) := dk_21 6 (dk_at dksX0_how_5 3 rfl rfl)
theorem dX0_how_123 : decode cX0_how 123 = .ok (.iaload, 1) := dk_46 (dk_at dksX0_how_5 5 rfl rfl)
theorem dX0_how_124 : decode cX0_how 124 = .ok (.iastore, 1) := dk_79 (dk_at dksX0_how_5 6 rfl rfl)
theorem dX0_how_125 : decode cX0_how 125 = .ok (.aload 4, 2) := dk_25 4 (dk_at dksX0_how_5 7 rfl rfl)
theorem dX0_how_127 : decode cX0_how 127 = .ok (.aload_n 0, 1) := dk_42 (dk_at dksX0_how_5 9 rfl rfl)
theorem dX0_how_128 : decode cX0_how 128 = .ok (.getfield 68, 3) := dk_180 0 68 (dk_at dksX0_how_5 10 rfl rfl)
theorem dX0_how_131 : decode cX0_how 131 = .ok (.invokevirtual 296, 3) := dk_182 1 40 (dk_at dksX0_how_5 13 rfl rfl)
theorem dX0_how_134 : decode cX0_how 134 = .ok (.iload 5, 2) := dk_21 5 (dk_at dksX0_how_5 16 rfl rfl)
theorem dX0_how_136 : decode cX0_how 136 = .ok (.if_icmp .ne 6, 3) := dk_160 0 6 (dk_at dksX0_how_5 18 rfl rfl)
theorem dX0_how_139 : decode cX0_how 139 = .ok (.iload 6, 2) := dk_21 6 (dk_at dksX0_how_5 21 rfl rfl)
theorem dX0_how_141 : decode cX0_how 141 = .ok (.ireturn, 1) := dk_172 (dk_at dksX0_how_5 23 rfl rfl)
theorem dX0_how_142 : decode cX0_how 142 = .ok (.iinc 6 1, 3) := dk_132 6 1 (dk_at dksX0_how_6 0 rfl rfl)
theorem dX0_how_145 : decode cX0_how 145 = .ok (.goto (-68), 3) := dk_167 255 188 (dk_at dksX0_how_6 3 rfl rfl)
theorem dX0_how_148 : decode cX0_how 148 = .ok (.iconst (-1), 1) := dk_2 (dk_at dksX0_how_6 6 rfl rfl)
theorem dX0_how_149 : decode cX0_how 149 = .ok (.ireturn, 1) := dk_172 (dk_at dksX0_how_6 7 rfl rfl)
abbrev cX0_ways : ByteArray := prog_1_method_66_code
def yX0_ways : MethodName := ⟨RX0, "ways", "(III)I"⟩
def dkwX0_ways_5 : List UInt8 := [54, 4, 132, 5, 1, 167, 255, 168, 21, 4, 172]
abbrev dktX0_ways_5 : List UInt8 := dkwX0_ways_5 ++ []
def dkwX0_ways_4 : List UInt8 := [154, 0, 7, 4, 167, 0, 5, 16, 100, 162, 0, 17, 21, 4, 4, 25, 6, 180, 1, 10, 4, 46, 120, 128]
abbrev dktX0_ways_4 : List UInt8 := dkwX0_ways_4 ++ dktX0_ways_5
def dkwX0_ways_3 : List UInt8 := [16, 8, 46, 28, 160, 0, 44, 42, 180, 0, 26, 180, 1, 20, 27, 50, 25, 6, 182, 1, 40, 29]
abbrev dktX0_ways_3 : List UInt8 := dkwX0_ways_3 ++ dktX0_ways_4
def dkwX0_ways_2 : List UInt8 := [180, 0, 26, 180, 0, 237, 21, 5, 50, 58, 6, 25, 6, 180, 0, 236, 153, 0, 56, 25, 6, 180, 1, 10]
abbrev dktX0_ways_2 : List UInt8 := dkwX0_ways_2 ++ dktX0_ways_3
def dkwX0_ways_1 : List UInt8 := [154, 0, 5, 2, 172, 3, 54, 4, 3, 54, 5, 21, 5, 42, 180, 0, 26, 180, 0, 83, 162, 0, 82, 42]
abbrev dktX0_ways_1 : List UInt8 := dkwX0_ways_1 ++ dktX0_ways_2
def dkwX0_ways_0 : List UInt8 := [42, 27, 182, 1, 31, 153, 0, 20, 28, 184, 0, 147, 153, 0, 13, 29, 133, 9, 10, 184, 0, 5]
abbrev dktX0_ways_0 : List UInt8 := dkwX0_ways_0 ++ dktX0_ways_1
theorem dksX0_ways_0 : cX0_ways.data.toList.drop 0 = dktX0_ways_0 := by decide +kernel
theorem dksX0_ways_1 : cX0_ways.data.toList.drop 22 = dktX0_ways_1 := dk_seg dksX0_ways_0 22 rfl rfl
theorem dksX0_ways_2 : cX0_ways.data.toList.drop 46 = dktX0_ways_2 := dk_seg dksX0_ways_1 24 rfl rfl
theorem dksX0_ways_3 : cX0_ways.data.toList.drop 70 = dktX0_ways_3 := dk_seg dksX0_ways_2 24 rfl rfl
theorem dksX0_ways_4 : cX0_ways.data.toList.drop 92 = dktX0_ways_4 := dk_seg dksX0_ways_3 22 rfl rfl
theorem dksX0_ways_5 : cX0_ways.data.toList.drop 116 = dktX0_ways_5 := dk_seg dksX0_ways_4 24 rfl rfl
theorem dX0_ways_0 : decode cX0_ways 0 = .ok (.aload_n 0, 1) := dk_42 (dk_at dksX0_ways_0 0 rfl rfl)
theorem dX0_ways_1 : decode cX0_ways 1 = .ok (.iload_n 1, 1) := dk_27 (dk_at dksX0_ways_0 1 rfl rfl)
theorem dX0_ways_2 : decode cX0_ways 2 = .ok (.invokevirtual 287, 3) := dk_182 1 31 (dk_at dksX0_ways_0 2 rfl rfl)
theorem dX0_ways_5 : decode cX0_ways 5 = .ok (.ifCond .eq 20, 3) := dk_153 0 20 (dk_at dksX0_ways_0 5 rfl rfl)
theorem dX0_ways_8 : decode cX0_ways 8 = .ok (.iload_n 2, 1) := dk_28 (dk_at dksX0_ways_0 8 rfl rfl)
theorem dX0_ways_9 : decode cX0_ways 9 = .ok (.invokestatic 147, 3) := dk_184 0 147 (dk_at dksX0_ways_0 9 rfl rfl)
theorem dX0_ways_12 : decode cX0_ways 12 = .ok (.ifCond .eq 13, 3) := dk_153 0 13 (dk_at dksX0_ways_0 12 rfl rfl)
theorem dX0_ways_15 : decode cX0_ways 15 = .ok (.iload_n 3, 1) := dk_29 (dk_at dksX0_ways_0 15 rfl rfl)
theorem dX0_ways_16 : decode cX0_ways 16 = .ok (.i2l, 1) := dk_133 (dk_at dksX0_ways_0 16 rfl rfl)
theorem dX0_ways_17 : decode cX0_ways 17 = .ok (.lconst 0, 1) := dk_9 (dk_at dksX0_ways_0 17 rfl rfl)
theorem dX0_ways_18 : decode cX0_ways 18 = .ok (.lconst 1, 1) := dk_10 (dk_at dksX0_ways_0 18 rfl rfl)
theorem dX0_ways_19 : decode cX0_ways 19 = .ok (.invokestatic 5, 3) := dk_184 0 5 (dk_at dksX0_ways_0 19 rfl rfl)
theorem dX0_ways_22 : decode cX0_ways 22 = .ok (.ifCond .ne 5, 3) := dk_154 0 5 (dk_at dksX0_ways_1 0 rfl rfl)
theorem dX0_ways_25 : decode cX0_ways 25 = .ok (.iconst (-1), 1) := dk_2 (dk_at dksX0_ways_1 3 rfl rfl)
theorem dX0_ways_26 : decode cX0_ways 26 = .ok (.ireturn, 1) := dk_172 (dk_at dksX0_ways_1 4 rfl rfl)
theorem dX0_ways_27 : decode cX0_ways 27 = .ok (.iconst 0, 1) := dk_3 (dk_at dksX0_ways_1 5 rfl rfl)
theorem dX0_ways_28 : decode cX0_ways 28 = .ok (.istore 4, 2) := dk_54 4 (dk_at dksX0_ways_1 6 rfl rfl)
theorem dX0_ways_30 : decode cX0_ways 30 = .ok (.iconst 0, 1) := dk_3 (dk_at dksX0_ways_1 8 rfl rfl)
theorem dX0_ways_31 : decode cX0_ways 31 = .ok (.istore 5, 2) := dk_54 5 (dk_at dksX0_ways_1 9 rfl rfl)
theorem dX0_ways_33 : decode cX0_ways 33 = .ok (.iload 5, 2) := dk_21 5 (dk_at dksX0_ways_1 11 rfl rfl)
theorem dX0_ways_35 : decode cX0_ways 35 = .ok (.aload_n 0, 1) := dk_42 (dk_at dksX0_ways_1 13 rfl rfl)
theorem dX0_ways_36 : decode cX0_ways 36 = .ok (.getfield 26, 3) := dk_180 0 26 (dk_at dksX0_ways_1 14 rfl rfl)
theorem dX0_ways_39 : decode cX0_ways 39 = .ok (.getfield 83, 3) := dk_180 0 83 (dk_at dksX0_ways_1 17 rfl rfl)
theorem dX0_ways_42 : decode cX0_ways 42 = .ok (.if_icmp .ge 82, 3) := dk_162 0 82 (dk_at dksX0_ways_1 20 rfl rfl)
theorem dX0_ways_45 : decode cX0_ways 45 = .ok (.aload_n 0, 1) := dk_42 (dk_at dksX0_ways_1 23 rfl rfl)
theorem dX0_ways_46 : decode cX0_ways 46 = .ok (.getfield 26, 3) := dk_180 0 26 (dk_at dksX0_ways_2 0 rfl rfl)
theorem dX0_ways_49 : decode cX0_ways 49 = .ok (.getfield 237, 3) := dk_180 0 237 (dk_at dksX0_ways_2 3 rfl rfl)
theorem dX0_ways_52 : decode cX0_ways 52 = .ok (.iload 5, 2) := dk_21 5 (dk_at dksX0_ways_2 6 rfl rfl)
theorem dX0_ways_54 : decode cX0_ways 54 = .ok (.aaload, 1) := dk_50 (dk_at dksX0_ways_2 8 rfl rfl)
theorem dX0_ways_55 : decode cX0_ways 55 = .ok (.astore 6, 2) := dk_58 6 (dk_at dksX0_ways_2 9 rfl rfl)
theorem dX0_ways_57 : decode cX0_ways 57 = .ok (.aload 6, 2) := dk_25 6 (dk_at dksX0_ways_2 11 rfl rfl)
theorem dX0_ways_59 : decode cX0_ways 59 = .ok (.getfield 236, 3) := dk_180 0 236 (dk_at dksX0_ways_2 13 rfl rfl)
theorem dX0_ways_62 : decode cX0_ways 62 = .ok (.ifCond .eq 56, 3) := dk_153 0 56 (dk_at dksX0_ways_2 16 rfl rfl)
theorem dX0_ways_65 : decode cX0_ways 65 = .ok (.aload 6, 2) := dk_25 6 (dk_at dksX0_ways_2 19 rfl rfl)
theorem dX0_ways_67 : decode cX0_ways 67 = .ok (.getfield 266, 3) := dk_180 1 10 (dk_at dksX0_ways_2 21 rfl rfl)
theorem dX0_ways_70 : decode cX0_ways 70 = .ok (.bipush 8, 2) := dk_16 8 (dk_at dksX0_ways_3 0 rfl rfl)
theorem dX0_ways_72 : decode cX0_ways 72 = .ok (.iaload, 1) := dk_46 (dk_at dksX0_ways_3 2 rfl rfl)
theorem dX0_ways_73 : decode cX0_ways 73 = .ok (.iload_n 2, 1) := dk_28 (dk_at dksX0_ways_3 3 rfl rfl)
theorem dX0_ways_74 : decode cX0_ways 74 = .ok (.if_icmp .ne 44, 3) := dk_160 0 44 (dk_at dksX0_ways_3 4 rfl rfl)
theorem dX0_ways_77 : decode cX0_ways 77 = .ok (.aload_n 0, 1) := dk_42 (dk_at dksX0_ways_3 7 rfl rfl)
theorem dX0_ways_78 : decode cX0_ways 78 = .ok (.getfield 26, 3) := dk_180 0 26 (dk_at dksX0_ways_3 8 rfl rfl)
theorem dX0_ways_81 : decode cX0_ways 81 = .ok (.getfield 276, 3) := dk_180 1 20 (dk_at dksX0_ways_3 11 rfl rfl)
theorem dX0_ways_84 : decode cX0_ways 84 = .ok (.iload_n 1, 1) := dk_27 (dk_at dksX0_ways_3 14 rfl rfl)
theorem dX0_ways_85 : decode cX0_ways 85 = .ok (.aaload, 1) := dk_50 (dk_at dksX0_ways_3 15 rfl rfl)
theorem dX0_ways_86 : decode cX0_ways 86 = .ok (.aload 6, 2) := dk_25 6 (dk_at dksX0_ways_3 16 rfl rfl)
theorem dX0_ways_88 : decode cX0_ways 88 = .ok (.invokevirtual 296, 3) := dk_182 1 40 (dk_at dksX0_ways_3 18 rfl rfl)
theorem dX0_ways_91 : decode cX0_ways 91 = .ok (.iload_n 3, 1) := dk_29 (dk_at dksX0_ways_3 21 rfl rfl)
theorem dX0_ways_92 : decode cX0_ways 92 = .ok (.ifCond .ne 7, 3) := dk_154 0 7 (dk_at dksX0_ways_4 0 rfl rfl)
theorem dX0_ways_95 : decode cX0_ways 95 = .ok (.iconst 1, 1) := dk_4 (dk_at dksX0_ways_4 3 rfl rfl)
theorem dX0_ways_96 : decode cX0_ways 96 = .ok (.goto 5, 3) := dk_167 0 5 (dk_at dksX0_ways_4 4 rfl rfl)
theorem dX0_ways_99 : decode cX0_ways 99 = .ok (.bipush 100, 2) := dk_16 100 (dk_at dksX0_ways_4 7 rfl rfl)
theorem dX0_ways_101 : decode cX0_ways 101 = .ok (.if_icmp .ge 17, 3) := dk_162 0 17 (dk_at dksX0_ways_4 9 rfl rfl)
theorem dX0_ways_104 : decode cX0_ways 104 = .ok (.iload 4, 2) := dk_21 4 (dk_at dksX0_ways_4 12 rfl rfl)
theorem dX0_ways_106 : decode cX0_ways 106 = .ok (.iconst 1, 1) := dk_4 (dk_at dksX0_ways_4 14 rfl rfl)
theorem dX0_ways_107 : decode cX0_ways 107 = .ok (.aload 6, 2) := dk_25 6 (dk_at dksX0_ways_4 15 rfl rfl)
theorem dX0_ways_109 : decode cX0_ways 109 = .ok (.getfield 266, 3) := dk_180 1 10 (dk_at dksX0_ways_4 17 rfl rfl)
theorem dX0_ways_112 : decode cX0_ways 112 = .ok (.iconst 1, 1) := dk_4 (dk_at dksX0_ways_4 20 rfl rfl)
theorem dX0_ways_113 : decode cX0_ways 113 = .ok (.iaload, 1) := dk_46 (dk_at dksX0_ways_4 21 rfl rfl)
theorem dX0_ways_114 : decode cX0_ways 114 = .ok (.ishl, 1) := dk_120 (dk_at dksX0_ways_4 22 rfl rfl)
theorem dX0_ways_115 : decode cX0_ways 115 = .ok (.ior, 1) := dk_128 (dk_at dksX0_ways_4 23 rfl rfl)
theorem dX0_ways_116 : decode cX0_ways 116 = .ok (.istore 4, 2) := dk_54 4 (dk_at dksX0_ways_5 0 rfl rfl)
theorem dX0_ways_118 : decode cX0_ways 118 = .ok (.iinc 5 1, 3) := dk_132 5 1 (dk_at dksX0_ways_5 2 rfl rfl)
theorem dX0_ways_121 : decode cX0_ways 121 = .ok (.goto (-88), 3) := dk_167 255 168 (dk_at dksX0_ways_5 5 rfl rfl)
theorem dX0_ways_124 : decode cX0_ways 124 = .ok (.iload 4, 2) := dk_21 4 (dk_at dksX0_ways_5 8 rfl rfl)
theorem dX0_ways_126 : decode cX0_ways 126 = .ok (.ireturn, 1) := dk_172 (dk_at dksX0_ways_5 10 rfl rfl)
abbrev cX0_spoilt : ByteArray := prog_1_method_68_code
def yX0_spoilt : MethodName := ⟨RX0, "spoilt", "(I)I"⟩
def dkwX0_spoilt_1 : List UInt8 := [2, 172]
abbrev dktX0_spoilt_1 : List UInt8 := dkwX0_spoilt_1 ++ []
def dkwX0_spoilt_0 : List UInt8 := [42, 27, 182, 1, 11, 153, 0, 19, 42, 42, 180, 0, 26, 180, 0, 242, 27, 50, 182, 1, 139, 167, 0, 4]
abbrev dktX0_spoilt_0 : List UInt8 := dkwX0_spoilt_0 ++ dktX0_spoilt_1
theorem dksX0_spoilt_0 : cX0_spoilt.data.toList.drop 0 = dktX0_spoilt_0 := by decide +kernel
theorem dksX0_spoilt_1 : cX0_spoilt.data.toList.drop 24 = dktX0_spoilt_1 := dk_seg dksX0_spoilt_0 24 rfl rfl
theorem dX0_spoilt_0 : decode cX0_spoilt 0 = .ok (.aload_n 0, 1) := dk_42 (dk_at dksX0_spoilt_0 0 rfl rfl)
theorem dX0_spoilt_1 : decode cX0_spoilt 1 = .ok (.iload_n 1, 1) := dk_27 (dk_at dksX0_spoilt_0 1 rfl rfl)
theorem dX0_spoilt_2 : decode cX0_spoilt 2 = .ok (.invokevirtual 267, 3) := dk_182 1 11 (dk_at dksX0_spoilt_0 2 rfl rfl)
theorem dX0_spoilt_5 : decode cX0_spoilt 5 = .ok (.ifCond .eq 19, 3) := dk_153 0 19 (dk_at dksX0_spoilt_0 5 rfl rfl)
theorem dX0_spoilt_8 : decode cX0_spoilt 8 = .ok (.aload_n 0, 1) := dk_42 (dk_at dksX0_spoilt_0 8 rfl rfl)
theorem dX0_spoilt_9 : decode cX0_spoilt 9 = .ok (.aload_n 0, 1) := dk_42 (dk_at dksX0_spoilt_0 9 rfl rfl)
theorem dX0_spoilt_10 : decode cX0_spoilt 10 = .ok (.getfield 26, 3) := dk_180 0 26 (dk_at dksX0_spoilt_0 10 rfl rfl)
theorem dX0_spoilt_13 : decode cX0_spoilt 13 = .ok (.getfield 242, 3) := dk_180 0 242 (dk_at dksX0_spoilt_0 13 rfl rfl)
theorem dX0_spoilt_16 : decode cX0_spoilt 16 = .ok (.iload_n 1, 1) := dk_27 (dk_at dksX0_spoilt_0 16 rfl rfl)
theorem dX0_spoilt_17 : decode cX0_spoilt 17 = .ok (.aaload, 1) := dk_50 (dk_at dksX0_spoilt_0 17 rfl rfl)
theorem dX0_spoilt_18 : decode cX0_spoilt 18 = .ok (.invokevirtual 395, 3) := dk_182 1 139 (dk_at dksX0_spoilt_0 18 rfl rfl)
theorem dX0_spoilt_21 : decode cX0_spoilt 21 = .ok (.goto 4, 3) := dk_167 0 4 (dk_at dksX0_spoilt_0 21 rfl rfl)
theorem dX0_spoilt_24 : decode cX0_spoilt 24 = .ok (.iconst (-1), 1) := dk_2 (dk_at dksX0_spoilt_1 0 rfl rfl)
theorem dX0_spoilt_25 : decode cX0_spoilt 25 = .ok (.ireturn, 1) := dk_172 (dk_at dksX0_spoilt_1 1 rfl rfl)
abbrev cX0_spoiltOf : ByteArray := prog_1_method_67_code
def yX0_spoiltOf : MethodName := ⟨RX0, "spoiltOf", "(LBrothFlasks$Case;)I"⟩
def dkwX0_spoiltOf_2 : List UInt8 := [182, 1, 138, 154, 0, 7, 5, 167, 0, 4, 3, 96, 172]
abbrev dktX0_spoiltOf_2 : List UInt8 := dkwX0_spoiltOf_2 ++ []
def dkwX0_spoiltOf_1 : List UInt8 := [164, 0, 7, 4, 167, 0, 4, 3, 42, 180, 0, 26, 180, 0, 115, 28, 46, 4, 160, 0, 14, 43]
abbrev dktX0_spoiltOf_1 : List UInt8 := dkwX0_spoiltOf_1 ++ dktX0_spoiltOf_2
def dkwX0_spoiltOf_0 : List UInt8 := [43, 180, 0, 226, 3, 46, 61, 43, 180, 0, 226, 5, 46, 42, 180, 0, 26, 180, 0, 112, 28, 46]
abbrev dktX0_spoiltOf_0 : List UInt8 := dkwX0_spoiltOf_0 ++ dktX0_spoiltOf_1
theorem dksX0_spoiltOf_0 : cX0_spoiltOf.data.toList.drop 0 = dktX0_spoiltOf_0 := by decide +kernel
theorem dksX0_spoiltOf_1 : cX0_spoiltOf.data.toList.drop 22 = dktX0_spoiltOf_1 := dk_seg dksX0_spoiltOf_0 22 rfl rfl
theorem dksX0_spoiltOf_2 : cX0_spoiltOf.data.toList.drop 44 = dktX0_spoiltOf_2 := dk_seg dksX0_spoiltOf_1 22 rfl rfl
theorem dX0_spoiltOf_0 : decode cX0_spoiltOf 0 = .ok (.aload_n 1, 1) := dk_43 (dk_at dksX0_spoiltOf_0 0 rfl rfl)
theorem dX0_spoiltOf_1 : decode cX0_spoiltOf 1 = .ok (.getfield 226, 3) := dk_180 0 226 (dk_at dksX0_spoiltOf_0 1 rfl rfl)
theorem dX0_spoiltOf_4 : decode cX0_spoiltOf 4 = .ok (.iconst 0, 1) := dk_3 (dk_at dksX0_spoiltOf_0 4 rfl rfl)
theorem dX0_spoiltOf_5 : decode cX0_spoiltOf 5 = .ok (.iaload, 1) := dk_46 (dk_at dksX0_spoiltOf_0 5 rfl rfl)
theorem dX0_spoiltOf_6 : decode cX0_spoiltOf 6 = .ok (.istore_n 2, 1) := dk_61 (dk_at dksX0_spoiltOf_0 6 rfl rfl)
theorem dX0_spoiltOf_7 : decode cX0_spoiltOf 7 = .ok (.aload_n 1, 1) := dk_43 (dk_at dksX0_spoiltOf_0 7 rfl rfl)
theorem dX0_spoiltOf_8 : decode cX0_spoiltOf 8 = .ok (.getfield 226, 3) := dk_180 0 226 (dk_at dksX0_spoiltOf_0 8 rfl rfl)
theorem dX0_spoiltOf_11 : decode cX0_spoiltOf 11 = .ok (.iconst 2, 1) := dk_5 (dk_at dksX0_spoiltOf_0 11 rfl rfl)
theorem dX0_spoiltOf_12 : decode cX0_spoiltOf 12 = .ok (.iaload, 1) := dk_46 (dk_at dksX0_spoiltOf_0 12 rfl rfl)
theorem dX0_spoiltOf_13 : decode cX0_spoiltOf 13 = .ok (.aload_n 0, 1) := dk_42 (dk_at dksX0_spoiltOf_0 13 rfl rfl)
theorem dX0_spoiltOf_14 : decode cX0_spoiltOf 14 = .ok (.getfield 26, 3) := dk_180 0 26 (dk_at dksX0_spoiltOf_0 14 rfl rfl)
theorem dX0_spoiltOf_17 : decode cX0_spoiltOf 17 = .ok (.getfield 112, 3) := dk_180 0 112 (dk_at dksX0_spoiltOf_0 17 rfl rfl)
theorem dX0_spoiltOf_20 : decode cX0_spoiltOf 20 = .ok (.iload_n 2, 1) := dk_28 (dk_at dksX0_spoiltOf_0 20 rfl rfl)
theorem dX0_spoiltOf_21 : decode cX0_spoiltOf 21 = .ok (.iaload, 1) := dk_46 (dk_at dksX0_spoiltOf_0 21 rfl rfl)
theorem dX0_spoiltOf_22 : decode cX0_spoiltOf 22 = .ok (.if_icmp .le 7, 3) := dk_164 0 7 (dk_at dksX0_spoiltOf_1 0 rfl rfl)
theorem dX0_spoiltOf_25 : decode cX0_spoiltOf 25 = .ok (.iconst 1, 1) := dk_4 (dk_at dksX0_spoiltOf_1 3 rfl rfl)
theorem dX0_spoiltOf_26 : decode cX0_spoiltOf 26 = .ok (.goto 4, 3) := dk_167 0 4 (dk_at dksX0_spoiltOf_1 4 rfl rfl)
theorem dX0_spoiltOf_29 : decode cX0_spoiltOf 29 = .ok (.iconst 0, 1) := dk_3 (dk_at dksX0_spoiltOf_1 7 rfl rfl)
theorem dX0_spoiltOf_30 : decode cX0_spoiltOf 30 = .ok (.aload_n 0, 1) := dk_42 (dk_at dksX0_spoiltOf_1 8 rfl rfl)
theorem dX0_spoiltOf_31 : decode cX0_spoiltOf 31 = .ok (.getfield 26, 3) := dk_180 0 26 (dk_at dksX0_spoiltOf_1 9 rfl rfl)
theorem dX0_spoiltOf_34 : decode cX0_spoiltOf 34 = .ok (.getfield 115, 3) := dk_180 0 115 (dk_at dksX0_spoiltOf_1 12 rfl rfl)
theorem dX0_spoiltOf_37 : decode cX0_spoiltOf 37 = .ok (.iload_n 2, 1) := dk_28 (dk_at dksX0_spoiltOf_1 15 rfl rfl)
theorem dX0_spoiltOf_38 : decode cX0_spoiltOf 38 = .ok (.iaload, 1) := dk_46 (dk_at dksX0_spoiltOf_1 16 rfl rfl)
theorem dX0_spoiltOf_39 : decode cX0_spoiltOf 39 = .ok (.iconst 1, 1) := dk_4 (dk_at dksX0_spoiltOf_1 17 rfl rfl)
theorem dX0_spoiltOf_40 : decode cX0_spoiltOf 40 = .ok (.if_icmp .ne 14, 3) := dk_160 0 14 (dk_at dksX0_spoiltOf_1 18 rfl rfl)
theorem dX0_spoiltOf_43 : decode cX0_spoiltOf 43 = .ok (.aload_n 1, 1) := dk_43 (dk_at dksX0_spoiltOf_1 21 rfl rfl)
theorem dX0_spoiltOf_44 : decode cX0_spoiltOf 44 = .ok (.invokevirtual 394, 3) := dk_182 1 138 (dk_at dksX0_spoiltOf_2 0 rfl rfl)
theorem dX0_spoiltOf_47 : decode cX0_spoiltOf 47 = .ok (.ifCond .ne 7, 3) := dk_154 0 7 (dk_at dksX0_spoiltOf_2 3 rfl rfl)
theorem dX0_spoiltOf_50 : decode cX0_spoiltOf 50 = .ok (.iconst 2, 1) := dk_5 (dk_at dksX0_spoiltOf_2 6 rfl rfl)
theorem dX0_spoiltOf_51 : decode cX0_spoiltOf 51 = .ok (.goto 4, 3) := dk_167 0 4 (dk_at dksX0_spoiltOf_2 7 rfl rfl)
theorem dX0_spoiltOf_54 : decode cX0_spoiltOf 54 = .ok (.iconst 0, 1) := dk_3 (dk_at dksX0_spoiltOf_2 10 rfl rfl)
theorem dX0_spoiltOf_55 : decode cX0_spoiltOf 55 = .ok (.iadd, 1) := dk_96 (dk_at dksX0_spoiltOf_2 11 rfl rfl)
theorem dX0_spoiltOf_56 : decode cX0_spoiltOf 56 = .ok (.ireturn, 1) := dk_172 (dk_at dksX0_spoiltOf_2 12 rfl rfl)
abbrev cX0_whole : ByteArray := prog_1_method_69_code
def yX0_whole : MethodName := ⟨RX0, "whole", "(I)I"⟩
def dkwX0_whole_2 : List UInt8 := [28, 50, 182, 1, 95, 153, 0, 5, 28, 172, 132, 2, 1, 167, 255, 207, 2, 172]
abbrev dktX0_whole_2 : List UInt8 := dkwX0_whole_2 ++ []
def dkwX0_whole_1 : List UInt8 := [42, 180, 0, 26, 180, 0, 242, 28, 50, 182, 1, 139, 154, 0, 22, 42, 27, 42, 180, 0, 26, 180, 0, 242]
abbrev dktX0_whole_1 : List UInt8 := dkwX0_whole_1 ++ dktX0_whole_2
def dkwX0_whole_0 : List UInt8 := [42, 27, 182, 1, 88, 154, 0, 5, 2, 172, 3, 61, 28, 42, 180, 0, 26, 180, 0, 86, 162, 0, 44, 42]
abbrev dktX0_whole_0 : List UInt8 := dkwX0_whole_0 ++ dktX0_whole_1
theorem dksX0_whole_0 : cX0_whole.data.toList.drop 0 = dktX0_whole_0 := by decide +kernel
theorem dksX0_whole_1 : cX0_whole.data.toList.drop 24 = dktX0_whole_1 := dk_seg dksX0_whole_0 24 rfl rfl
theorem dksX0_whole_2 : cX0_whole.data.toList.drop 48 = dktX0_whole_2 := dk_seg dksX0_whole_1 24 rfl rfl
theorem dX0_whole_0 : decode cX0_whole 0 = .ok (.aload_n 0, 1) := dk_42 (dk_at dksX0_whole_0 0 rfl rfl)
theorem dX0_whole_1 : decode cX0_whole 1 = .ok (.iload_n 1, 1) := dk_27 (dk_at dksX0_whole_0 1 rfl rfl)
theorem dX0_whole_2 : decode cX0_whole 2 = .ok (.invokevirtual 344, 3) := dk_182 1 88 (dk_at dksX0_whole_0 2 rfl rfl)
theorem dX0_whole_5 : decode cX0_whole 5 = .ok (.ifCond .ne 5, 3) := dk_154 0 5 (dk_at dksX0_whole_0 5 rfl rfl)
theorem dX0_whole_8 : decode cX0_whole 8 = .ok (.iconst (-1), 1) := dk_2 (dk_at dksX0_whole_0 8 rfl rfl)
theorem dX0_whole_9 : decode cX0_whole 9 = .ok (.ireturn, 1) := dk_172 (dk_at dksX0_whole_0 9 rfl rfl)
theorem dX0_whole_10 : decode cX0_whole 10 = .ok (.iconst 0, 1) := dk_3 (dk_at dksX0_whole_0 10 rfl rfl)
theorem dX0_whole_11 : decode cX0_whole 11 = .ok (.istore_n 2, 1) := dk_61 (dk_at dksX0_whole_0 11 rfl rfl)
theorem dX0_whole_12 : decode cX0_whole 12 = .ok (.iload_n 2, 1) := dk_28 (dk_at dksX0_whole_0 12 rfl rfl)
theorem dX0_whole_13 : decode cX0_whole 13 = .ok (.aload_n 0, 1) := dk_42 (dk_at dksX0_whole_0 13 rfl rfl)
theorem dX0_whole_14 : decode cX0_whole 14 = .ok (.getfield 26, 3) := dk_180 0 26 (dk_at dksX0_whole_0 14 rfl rfl)
theorem dX0_whole_17 : decode cX0_whole 17 = .ok (.getfield 86, 3) := dk_180 0 86 (dk_at dksX0_whole_0 17 rfl rfl)
theorem dX0_whole_20 : decode cX0_whole 20 = .ok (.if_icmp .ge 44, 3) := dk_162 0 44 (dk_at dksX0_whole_0 20 rfl rfl)
theorem dX0_whole_23 : decode cX0_whole 23 = .ok (.aload_n 0, 1) := dk_42 (dk_at dksX0_whole_0 23 rfl rfl)
theorem dX0_whole_24 : decode cX0_whole 24 = .ok (.aload_n 0, 1) := dk_42 (dk_at dksX0_whole_1 0 rfl rfl)
theorem dX0_whole_25 : decode cX0_whole 25 = .ok (.getfield 26, 3) := dk_180 0 26 (dk_at dksX0_whole_1 1 rfl rfl)
theorem dX0_whole_28 : decode cX0_whole 28 = .ok (.getfield 242, 3) := dk_180 0 242 (dk_at dksX0_whole_1 4 rfl rfl)
theorem dX0_whole_31 : decode cX0_whole 31 = .ok (.iload_n 2, 1) := dk_28 (dk_at dksX0_whole_1 7 rfl rfl)
theorem dX0_whole_32 : decode cX0_whole 32 = .ok (.aaload, 1) := dk_50 (dk_at dksX0_whole_1 8 rfl rfl)
theorem dX0_whole_33 : decode cX0_whole 33 = .ok (.invokevirtual 395, 3) := dk_182 1 139 (dk_at dksX0_whole_1 9 rfl rfl)
theorem dX0_whole_36 : decode cX0_whole 36 = .ok (.ifCond .ne 22, 3) := dk_154 0 22 (dk_at dksX0_whole_1 12 rfl rfl)
theorem dX0_whole_39 : decode cX0_whole 39 = .ok (.aload_n 0, 1) := dk_42 (dk_at dksX0_whole_1 15 rfl rfl)
theorem dX0_whole_40 : decode cX0_whole 40 = .ok (.iload_n 1, 1) := dk_27 (dk_at dksX0_whole_1 16 rfl rfl)
theorem dX0_whole_41 : decode cX0_whole 41 = .ok (.aload_n 0, 1) := dk_42 (dk_at dksX0_whole_1 17 rfl rfl)
theorem dX0_whole_42 : decode cX0_whole 42 = .ok (.getfield 26, 3) := dk_180 0 26 (dk_at dksX0_whole_1 18 rfl rfl)
theorem dX0_whole_45 : decode cX0_whole 45 = .ok (.getfield 242, 3) := dk_180 0 242 (dk_at dksX0_whole_1 21 rfl rfl)
theorem dX0_whole_48 : decode cX0_whole 48 = .ok (.iload_n 2, 1) := dk_28 (dk_at dksX0_whole_2 0 rfl rfl)
theorem dX0_whole_49 : decode cX0_whole 49 = .ok (.aaload, 1) := dk_50 (dk_at dksX0_whole_2 1 rfl rfl)
theorem dX0_whole_50 : decode cX0_whole 50 = .ok (.invokevirtual 351, 3) := dk_182 1 95 (dk_at dksX0_whole_2 2 rfl rfl)
theorem dX0_whole_53 : decode cX0_whole 53 = .ok (.ifCond .eq 5, 3) := dk_153 0 5 (dk_at dksX0_whole_2 5 rfl rfl)
theorem dX0_whole_56 : decode cX0_whole 56 = .ok (.iload_n 2, 1) := dk_28 (dk_at dksX0_whole_2 8 rfl rfl)
theorem dX0_whole_57 : decode cX0_whole 57 = .ok (.ireturn, 1) := dk_172 (dk_at dksX0_whole_2 9 rfl rfl)
theorem dX0_whole_58 : decode cX0_whole 58 = .ok (.iinc 2 1, 3) := dk_132 2 1 (dk_at dksX0_whole_2 10 rfl rfl)
theorem dX0_whole_61 : decode cX0_whole 61 = .ok (.goto (-49), 3) := dk_167 255 207 (dk_at dksX0_whole_2 13 rfl rfl)
theorem dX0_whole_64 : decode cX0_whole 64 = .ok (.iconst (-1), 1) := dk_2 (dk_at dksX0_whole_2 16 rfl rfl)
theorem dX0_whole_65 : decode cX0_whole 65 = .ok (.ireturn, 1) := dk_172 (dk_at dksX0_whole_2 17 rfl rfl)
abbrev cX0_commission : ByteArray := prog_1_method_70_code
def yX0_commission : MethodName := ⟨RX0, "commission", "(II)I"⟩
def dkwX0_commission_5 : List UInt8 := [180, 0, 26, 180, 1, 147, 4, 100, 182, 0, 106, 172]
abbrev dktX0_commission_5 : List UInt8 := dkwX0_commission_5 ++ []
def dkwX0_commission_4 : List UInt8 := [180, 0, 26, 180, 1, 147, 28, 79, 42, 180, 0, 26, 89, 180, 1, 147, 4, 96, 181, 1, 147, 42, 42]
abbrev dktX0_commission_4 : List UInt8 := dkwX0_commission_4 ++ dktX0_commission_5
def dkwX0_commission_3 : List UInt8 := [180, 0, 26, 180, 1, 150, 42, 180, 0, 26, 180, 1, 147, 27, 79, 42, 180, 0, 26, 180, 1, 153, 42]
abbrev dktX0_commission_3 : List UInt8 := dkwX0_commission_3 ++ dktX0_commission_4
def dkwX0_commission_2 : List UInt8 := [182, 0, 93, 172, 42, 180, 0, 26, 180, 1, 147, 16, 9, 160, 0, 10, 42, 16, 251, 182, 0, 93, 172, 42]
abbrev dktX0_commission_2 : List UInt8 := dkwX0_commission_2 ++ dktX0_commission_3
def dkwX0_commission_1 : List UInt8 := [153, 0, 20, 29, 16, 9, 163, 0, 14, 28, 133, 10, 29, 133, 184, 0, 5, 154, 0, 9, 42, 2]
abbrev dktX0_commission_1 : List UInt8 := dkwX0_commission_1 ++ dktX0_commission_2
def dkwX0_commission_0 : List UInt8 := [27, 184, 1, 142, 62, 27, 133, 10, 4, 42, 180, 0, 26, 180, 0, 86, 120, 4, 100, 133, 184, 0, 5]
abbrev dktX0_commission_0 : List UInt8 := dkwX0_commission_0 ++ dktX0_commission_1
theorem dksX0_commission_0 : cX0_commission.data.toList.drop 0 = dktX0_commission_0 := by decide +kernel
theorem dksX0_commission_1 : cX0_commission.data.toList.drop 23 = dktX0_commission_1 := dk_seg dksX0_commission_0 23 rfl rfl
theorem dksX0_commission_2 : cX0_commission.data.toList.drop 45 = dktX0_commission_2 := dk_seg dksX0_commission_1 22 rfl rfl
theorem dksX0_commission_3 : cX0_commission.data.toList.drop 69 = dktX0_commission_3 := dk_seg dksX0_commission_2 24 rfl rfl
theorem dksX0_commission_4 : cX0_commission.data.toList.drop 92 = dktX0_commission_4 := dk_seg dksX0_commission_3 23 rfl rfl
theorem dksX0_commission_5 : cX0_commission.data.toList.drop 115 = dktX0_commission_5 := dk_seg dksX0_commission_4 23 rfl rfl
theorem dX0_commission_0 : decode cX0_commission 0 = .ok (.iload_n 1, 1) := dk_27 (dk_at dksX0_commission_0 0 rfl rfl)
theorem dX0_commission_1 : decode cX0_commission 1 = .ok (.invokestatic 398, 3) := dk_184 1 142 (dk_at dksX0_commission_0 1 rfl rfl)
theorem dX0_commission_4 : decode cX0_commission 4 = .ok (.istore_n 3, 1) := dk_62 (dk_at dksX0_commission_0 4 rfl rfl)
theorem dX0_commission_5 : decode cX0_commission 5 = .ok (.iload_n 1, 1) := dk_27 (dk_at dksX0_commission_0 5 rfl rfl)
theorem dX0_commission_6 : decode cX0_commission 6 = .ok (.i2l, 1) := dk_133 (dk_at dksX0_commission_0 6 rfl rfl)
theorem dX0_commission_7 : decode cX0_commission 7 = .ok (.lconst 1, 1) := dk_10 (dk_at dksX0_commission_0 7 rfl rfl)
theorem dX0_commission_8 : decode cX0_commission 8 = .ok (.iconst 1, 1) := dk_4 (dk_at dksX0_commission_0 8 rfl rfl)
theorem dX0_commission_9 : decode cX0_commission 9 = .ok (.aload_n 0, 1) := dk_42 (dk_at dksX0_commission_0 9 rfl rfl)
theorem dX0_commission_10 : decode cX0_commission 10 = .ok (.getfield 26, 3) := dk_180 0 26 (dk_at dksX0_commission_0 10 rfl rfl)
theorem dX0_commission_13 : decode cX0_commission 13 = .ok (.getfield 86, 3) := dk_180 0 86 (dk_at dksX0_commission_0 13 rfl rfl)
theorem dX0_commission_16 : decode cX0_commission 16 = .ok (.ishl, 1) := dk_120 (dk_at dksX0_commission_0 16 rfl rfl)
theorem dX0_commission_17 : decode cX0_commission 17 = .ok (.iconst 1, 1) := dk_4 (dk_at dksX0_commission_0 17 rfl rfl)
theorem dX0_commission_18 : decode cX0_commission 18 = .ok (.isub, 1) := dk_100 (dk_at dksX0_commission_0 18 rfl rfl)
theorem dX0_commission_19 : decode cX0_commission 19 = .ok (.i2l, 1) := dk_133 (dk_at dksX0_commission_0 19 rfl rfl)
theorem dX0_commission_20 : decode cX0_commission 20 = .ok (.invokestatic 5, 3) := dk_184 0 5 (dk_at dksX0_commission_0 20 rfl rfl)
theorem dX0_commission_23 : decode cX0_commission 23 = .ok (.ifCond .eq 20, 3) := dk_153 0 20 (dk_at dksX0_commission_1 0 rfl rfl)
theorem dX0_commission_26 : decode cX0_commission 26 = .ok (.iload_n 3, 1) := dk_29 (dk_at dksX0_commission_1 3 rfl rfl)
theorem dX0_commission_27 : decode cX0_commission 27 = .ok (.bipush 9, 2) := dk_16 9 (dk_at dksX0_commission_1 4 rfl rfl)
theorem dX0_commission_29 : decode cX0_commission 29 = .ok (.if_icmp .gt 14, 3) := dk_163 0 14 (dk_at dksX0_commission_1 6 rfl rfl)
theorem dX0_commission_32 : decode cX0_commission 32 = .ok (.iload_n 2, 1) := dk_28 (dk_at dksX0_commission_1 9 rfl rfl)
theorem dX0_commission_33 : decode cX0_commission 33 = .ok (.i2l, 1) := dk_133 (dk_at dksX0_commission_1 10 rfl rfl)
theorem dX0_commission_34 : decode cX0_commission 34 = .ok (.lconst 1, 1) := dk_10 (dk_at dksX0_commission_1 11 rfl rfl)
theorem dX0_commission_35 : decode cX0_commission 35 = .ok (.iload_n 3, 1) := dk_29 (dk_at dksX0_commission_1 12 rfl rfl)
theorem dX0_commission_36 : decode cX0_commission 36 = .ok (.i2l, 1) := dk_133 (dk_at dksX0_commission_1 13 rfl rfl)
theorem dX0_commission_37 : decode cX0_commission 37 = .ok (.invokestatic 5, 3) := dk_184 0 5 (dk_at dksX0_commission_1 14 rfl rfl)
theorem dX0_commission_40 : decode cX0_commission 40 = .ok (.ifCond .ne 9, 3) := dk_154 0 9 (dk_at dksX0_commission_1 17 rfl rfl)
theorem dX0_commission_43 : decode cX0_commission 43 = .ok (.aload_n 0, 1) := dk_42 (dk_at dksX0_commission_1 20 rfl rfl)
theorem dX0_commission_44 : decode cX0_commission 44 = .ok (.iconst (-1), 1) := dk_2 (dk_at dksX0_commission_1 21 rfl rfl)
theorem dX0_commission_45 : decode cX0_commission 45 = .ok (.invokevirtual 93, 3) := dk_182 0 93 (dk_at dksX0_commission_2 0 rfl rfl)
theorem dX0_commission_48 : decode cX0_commission 48 = .ok (.ireturn, 1) := dk_172 (dk_at dksX0_commission_2 3 rfl rfl)
theorem dX0_commission_49 : decode cX0_commission 49 = .ok (.aload_n 0, 1) := dk_42 (dk_at dksX0_commission_2 4 rfl rfl)
theorem dX0_commission_50 : decode cX0_commission 50 = .ok (.getfield 26, 3) := dk_180 0 26 (dk_at dksX0_commission_2 5 rfl rfl)
theorem dX0_commission_53 : decode cX0_commission 53 = .ok (.getfield 403, 3) := dk_180 1 147 (dk_at dksX0_commission_2 8 rfl rfl)
theorem dX0_commission_56 : decode cX0_commission 56 = .ok (.bipush 9, 2) := dk_16 9 (dk_at dksX0_commission_2 11 rfl rfl)
theorem dX0_commission_58 : decode cX0_commission 58 = .ok (.if_icmp .ne 10, 3) := dk_160 0 10 (dk_at dksX0_commission_2 13 rfl rfl)
theorem dX0_commission_61 : decode cX0_commission 61 = .ok (.aload_n 0, 1) := dk_42 (dk_at dksX0_commission_2 16 rfl rfl)
theorem dX0_commission_62 : decode cX0_commission 62 = .ok (.bipush (-5), 2) := dk_16 251 (dk_at dksX0_commission_2 17 rfl rfl)
theorem dX0_commission_64 : decode cX0_commission 64 = .ok (.invokevirtual 93, 3) := dk_182 0 93 (dk_at dksX0_commission_2 19 rfl rfl)
theorem dX0_commission_67 : decode cX0_commission 67 = .ok (.ireturn, 1) := dk_172 (dk_at dksX0_commission_2 22 rfl rfl)
theorem dX0_commission_68 : decode cX0_commission 68 = .ok (.aload_n 0, 1) := dk_42 (dk_at dksX0_commission_2 23 rfl rfl)
theorem dX0_commission_69 : decode cX0_commission 69 = .ok (.getfield 26, 3) := dk_180 0 26 (dk_at dksX0_commission_3 0 rfl rfl)
theorem dX0_commission_72 : decode cX0_commission 72 = .ok (.getfield 406, 3) := dk_180 1 150 (dk_at dksX0_commission_3 3 rfl rfl)
theorem dX0_commission_75 : decode cX0_commission 75 = .ok (.aload_n 0, 1) := dk_42 (dk_at dksX0_commission_3 6 rfl rfl)
theorem dX0_commission_76 : decode cX0_commission 76 = .ok (.getfield 26, 3) := dk_180 0 26 (dk_at dksX0_commission_3 7 rfl rfl)
theorem dX0_commission_79 : decode cX0_commission 79 = .ok (.getfield 403, 3) := dk_180 1 147 (dk_at dksX0_commission_3 10 rfl rfl)
theorem dX0_commission_82 : decode cX0_commission 82 = .ok (.iload_n 1, 1) := dk_27 (dk_at dksX0_commission_3 13 rfl rfl)
theorem dX0_commission_83 : decode cX0_commission 83 = .ok (.iastore, 1) := dk_79 (dk_at dksX0_commission_3 14 rfl rfl)
theorem dX0_commission_84 : decode cX0_commission 84 = .ok (.aload_n 0, 1) := dk_42 (dk_at dksX0_commission_3 15 rfl rfl)
theorem dX0_commission_85 : decode cX0_commission 85 = .ok (.getfield 26, 3) := dk_180 0 26 (dk_at dksX0_commission_3 16 rfl rfl)
theorem dX0_commission_88 : decode cX0_commission 88 = .ok (.getfield 409, 3) := dk_180 1 153 (dk_at dksX0_commission_3 19 rfl rfl)
theorem dX0_commission_91 : decode cX0_commission 91 = .ok (.aload_n 0, 1) := dk_42 (dk_at dksX0_commission_3 22 rfl rfl)
theorem dX0_commission_92 : decode cX0_commission 92 = .ok (.getfield 26, 3) := dk_180 0 26 (dk_at dksX0_commission_4 0 rfl rfl)
theorem dX0_commission_95 : decode cX0_commission 95 = .ok (.getfield 403, 3) := dk_180 1 147 (dk_at dksX0_commission_4 3 rfl rfl)
theorem dX0_commission_98 : decode cX0_commission 98 = .ok (.iload_n 2, 1) := dk_28 (dk_at dksX0_commission_4 6 rfl rfl)
theorem dX0_commission_99 : decode cX0_commission 99 = .ok (.iastore, 1) := dk_79 (dk_at dksX0_commission_4 7 rfl rfl)
theorem dX0_commission_100 : decode cX0_commission 100 = .ok (.aload_n 0, 1) := dk_42 (dk_at dksX0_commission_4 8 rfl rfl)
theorem dX0_commission_101 : decode cX0_commission 101 = .ok (.getfield 26, 3) := dk_180 0 26 (dk_at dksX0_commission_4 9 rfl rfl)
theorem dX0_commission_104 : decode cX0_commission 104 = .ok (.dup, 1) := dk_89 (dk_at dksX0_commission_4 12 rfl rfl)
theorem dX0_commission_105 : decode cX0_commission 105 = .ok (.getfield 403, 3) := dk_180 1 147 (dk_at dksX0_commission_4 13 rfl rfl)
theorem dX0_commission_108 : decode cX0_commission 108 = .ok (.iconst 1, 1) := dk_4 (dk_at dksX0_commission_4 16 rfl rfl)
theorem dX0_commission_109 : decode cX0_commission 109 = .ok (.iadd, 1) := dk_96 (dk_at dksX0_commission_4 17 rfl rfl)
theorem dX0_commission_110 : decode cX0_commission 110 = .ok (.putfield 403, 3) := dk_181 1 147 (dk_at dksX0_commission_4 18 rfl rfl)
theorem dX0_commission_113 : decode cX0_commission 113 = .ok (.aload_n 0, 1) := dk_42 (dk_at dksX0_commission_4 21 rfl rfl)
theorem dX0_commission_114 : decode cX0_commission 114 = .ok (.aload_n 0, 1) := dk_42 (dk_at dksX0_commission_4 22 rfl rfl)
theorem dX0_commission_115 : decode cX0_commission 115 = .ok (.getfield 26, 3) := dk_180 0 26 (dk_at dksX0_commission_5 0 rfl rfl)
theorem dX0_commission_118 : decode cX0_commission 118 = .ok (.getfield 403, 3) := dk_180 1 147 (dk_at dksX0_commission_5 3 rfl rfl)
theorem dX0_commission_121 : decode cX0_commission 121 = .ok (.iconst 1, 1) := dk_4 (dk_at dksX0_commission_5 6 rfl rfl)
theorem dX0_commission_122 : decode cX0_commission 122 = .ok (.isub, 1) := dk_100 (dk_at dksX0_commission_5 7 rfl rfl)
theorem dX0_commission_123 : decode cX0_commission 123 = .ok (.invokevirtual 106, 3) := dk_182 0 106 (dk_at dksX0_commission_5 8 rfl rfl)
theorem dX0_commission_126 : decode cX0_commission 126 = .ok (.ireturn, 1) := dk_172 (dk_at dksX0_commission_5 11 rfl rfl)
abbrev cX0_judged : ByteArray := prog_1_method_73_code
def yX0_judged : MethodName := ⟨RX0, "judged", "(III)J"⟩
def dkwX0_judged_2 : List UInt8 := [180, 1, 156, 29, 184, 1, 56, 173]
abbrev dktX0_judged_2 : List UInt8 := dkwX0_judged_2 ++ []
def dkwX0_judged_1 : List UInt8 := [20, 1, 54, 173, 42, 27, 42, 180, 0, 26, 180, 1, 20, 28, 50, 182, 1, 162, 55, 4, 22, 4, 42]
abbrev dktX0_judged_1 : List UInt8 := dkwX0_judged_1 ++ dktX0_judged_2
def dkwX0_judged_0 : List UInt8 := [42, 27, 182, 1, 159, 153, 0, 18, 42, 28, 182, 1, 31, 153, 0, 10, 29, 184, 1, 51, 154, 0, 7]
abbrev dktX0_judged_0 : List UInt8 := dkwX0_judged_0 ++ dktX0_judged_1
theorem dksX0_judged_0 : cX0_judged.data.toList.drop 0 = dktX0_judged_0 := by decide +kernel
theorem dksX0_judged_1 : cX0_judged.data.toList.drop 23 = dktX0_judged_1 := dk_seg dksX0_judged_0 23 rfl rfl
theorem dksX0_judged_2 : cX0_judged.data.toList.drop 46 = dktX0_judged_2 := dk_seg dksX0_judged_1 23 rfl rfl
theorem dX0_judged_0 : decode cX0_judged 0 = .ok (.aload_n 0, 1) := dk_42 (dk_at dksX0_judged_0 0 rfl rfl)
theorem dX0_judged_1 : decode cX0_judged 1 = .ok (.iload_n 1, 1) := dk_27 (dk_at dksX0_judged_0 1 rfl rfl)
theorem dX0_judged_2 : decode cX0_judged 2 = .ok (.invokevirtual 415, 3) := dk_182 1 159 (dk_at dksX0_judged_0 2 rfl rfl)
theorem dX0_judged_5 : decode cX0_judged 5 = .ok (.ifCond .eq 18, 3) := dk_153 0 18 (dk_at dksX0_judged_0 5 rfl rfl)
theorem dX0_judged_8 : decode cX0_judged 8 = .ok (.aload_n 0, 1) := dk_42 (dk_at dksX0_judged_0 8 rfl rfl)
theorem dX0_judged_9 : decode cX0_judged 9 = .ok (.iload_n 2, 1) := dk_28 (dk_at dksX0_judged_0 9 rfl rfl)
theorem dX0_judged_10 : decode cX0_judged 10 = .ok (.invokevirtual 287, 3) := dk_182 1 31 (dk_at dksX0_judged_0 10 rfl rfl)
theorem dX0_judged_13 : decode cX0_judged 13 = .ok (.ifCond .eq 10, 3) := dk_153 0 10 (dk_at dksX0_judged_0 13 rfl rfl)
theorem dX0_judged_16 : decode cX0_judged 16 = .ok (.iload_n 3, 1) := dk_29 (dk_at dksX0_judged_0 16 rfl rfl)
theorem dX0_judged_17 : decode cX0_judged 17 = .ok (.invokestatic 307, 3) := dk_184 1 51 (dk_at dksX0_judged_0 17 rfl rfl)
theorem dX0_judged_20 : decode cX0_judged 20 = .ok (.ifCond .ne 7, 3) := dk_154 0 7 (dk_at dksX0_judged_0 20 rfl rfl)
theorem dX0_judged_23 : decode cX0_judged 23 = .ok (.ldc2_w 310, 3) := dk_20 1 54 (dk_at dksX0_judged_1 0 rfl rfl)
theorem dX0_judged_26 : decode cX0_judged 26 = .ok (.lreturn, 1) := dk_173 (dk_at dksX0_judged_1 3 rfl rfl)
theorem dX0_judged_27 : decode cX0_judged 27 = .ok (.aload_n 0, 1) := dk_42 (dk_at dksX0_judged_1 4 rfl rfl)
theorem dX0_judged_28 : decode cX0_judged 28 = .ok (.iload_n 1, 1) := dk_27 (dk_at dksX0_judged_1 5 rfl rfl)
theorem dX0_judged_29 : decode cX0_judged 29 = .ok (.aload_n 0, 1) := dk_42 (dk_at dksX0_judged_1 6 rfl rfl)
theorem dX0_judged_30 : decode cX0_judged 30 = .ok (.getfield 26, 3) := dk_180 0 26 (dk_at dksX0_judged_1 7 rfl rfl)
theorem dX0_judged_33 : decode cX0_judged 33 = .ok (.getfield 276, 3) := dk_180 1 20 (dk_at dksX0_judged_1 10 rfl rfl)
theorem dX0_judged_36 : decode cX0_judged 36 = .ok (.iload_n 2, 1) := dk_28 (dk_at dksX0_judged_1 13 rfl rfl)
theorem dX0_judged_37 : decode cX0_judged 37 = .ok (.aaload, 1) := dk_50 (dk_at dksX0_judged_1 14 rfl rfl)
theorem dX0_judged_38 : decode cX0_judged 38 = .ok (.invokevirtual 418, 3) := dk_182 1 162 (dk_at dksX0_judged_1 15 rfl rfl)
theorem dX0_judged_41 : decode cX0_judged 41 = .ok (.lstore 4, 2) := dk_55 4 (dk_at dksX0_judged_1 18 rfl rfl)
theorem dX0_judged_43 : decode cX0_judged 43 = .ok (.lload 4, 2) := dk_22 4 (dk_at dksX0_judged_1 20 rfl rfl)
theorem dX0_judged_45 : decode cX0_judged 45 = .ok (.aload_n 0, 1) := dk_42 (dk_at dksX0_judged_1 22 rfl rfl)
theorem dX0_judged_46 : decode cX0_judged 46 = .ok (.getfield 412, 3) := dk_180 1 156 (dk_at dksX0_judged_2 0 rfl rfl)
theorem dX0_judged_49 : decode cX0_judged 49 = .ok (.iload_n 3, 1) := dk_29 (dk_at dksX0_judged_2 3 rfl rfl)
theorem dX0_judged_50 : decode cX0_judged 50 = .ok (.invokestatic 312, 3) := dk_184 1 56 (dk_at dksX0_judged_2 4 rfl rfl)
theorem dX0_judged_53 : decode cX0_judged 53 = .ok (.lreturn, 1) := dk_173 (dk_at dksX0_judged_2 7 rfl rfl)
abbrev cX0_isCommission : ByteArray := prog_1_method_72_code
def yX0_isCommission : MethodName := ⟨RX0, "isCommission", "(I)Z"⟩
def dkwX0_isCommission_0 : List UInt8 := [27, 133, 9, 42, 180, 0, 26, 180, 1, 147, 4, 100, 133, 184, 0, 5, 172]
abbrev dktX0_isCommission_0 : List UInt8 := dkwX0_isCommission_0 ++ []
theorem dksX0_isCommission_0 : cX0_isCommission.data.toList.drop 0 = dktX0_isCommission_0 := by decide +kernel
theorem dX0_isCommission_0 : decode cX0_isCommission 0 = .ok (.iload_n 1, 1) := dk_27 (dk_at dksX0_isCommission_0 0 rfl rfl)
theorem dX0_isCommission_1 : decode cX0_isCommission 1 = .ok (.i2l, 1) := dk_133 (dk_at dksX0_isCommission_0 1 rfl rfl)
theorem dX0_isCommission_2 : decode cX0_isCommission 2 = .ok (.lconst 0, 1) := dk_9 (dk_at dksX0_isCommission_0 2 rfl rfl)
theorem dX0_isCommission_3 : decode cX0_isCommission 3 = .ok (.aload_n 0, 1) := dk_42 (dk_at dksX0_isCommission_0 3 rfl rfl)
theorem dX0_isCommission_4 : decode cX0_isCommission 4 = .ok (.getfield 26, 3) := dk_180 0 26 (dk_at dksX0_isCommission_0 4 rfl rfl)
theorem dX0_isCommission_7 : decode cX0_isCommission 7 = .ok (.getfield 403, 3) := dk_180 1 147 (dk_at dksX0_isCommission_0 7 rfl rfl)
theorem dX0_isCommission_10 : decode cX0_isCommission 10 = .ok (.iconst 1, 1) := dk_4 (dk_at dksX0_isCommission_0 10 rfl rfl)
theorem dX0_isCommission_11 : decode cX0_isCommission 11 = .ok (.isub, 1) := dk_100 (dk_at dksX0_isCommission_0 11 rfl rfl)
theorem dX0_isCommission_12 : decode cX0_isCommission 12 = .ok (.i2l, 1) := dk_133 (dk_at dksX0_isCommission_0 12 rfl rfl)
theorem dX0_isCommission_13 : decode cX0_isCommission 13 = .ok (.invokestatic 5, 3) := dk_184 0 5 (dk_at dksX0_isCommission_0 13 rfl rfl)
theorem dX0_isCommission_16 : decode cX0_isCommission 16 = .ok (.ireturn, 1) := dk_172 (dk_at dksX0_isCommission_0 16 rfl rfl)
abbrev cX0_verdicts : ByteArray := prog_1_method_71_code
def yX0_verdicts : MethodName := ⟨RX0, "verdicts", "(ILBrothFlasks$Text;)J"⟩
def dkwX0_verdicts_7 : List UInt8 := [21, 7, 47, 97, 55, 5, 132, 7, 1, 167, 255, 237, 22, 5, 173]
abbrev dktX0_verdicts_7 : List UInt8 := dkwX0_verdicts_7 ++ []
def dkwX0_verdicts_6 : List UInt8 := [55, 5, 42, 180, 0, 26, 180, 1, 153, 27, 46, 54, 7, 21, 7, 21, 4, 163, 0, 18, 22, 5, 45]
abbrev dktX0_verdicts_6 : List UInt8 := dkwX0_verdicts_6 ++ dktX0_verdicts_7
def dkwX0_verdicts_5 : List UInt8 := [47, 21, 6, 133, 105, 167, 0, 4, 9, 97, 80, 132, 7, 255, 167, 255, 213, 132, 5, 1, 167, 255, 140, 9]
abbrev dktX0_verdicts_5 : List UInt8 := dkwX0_verdicts_5 ++ dktX0_verdicts_6
def dkwX0_verdicts_4 : List UInt8 := [45, 21, 7, 45, 21, 7, 47, 16, 100, 21, 6, 100, 133, 105, 21, 7, 158, 0, 16, 45, 21, 7, 4, 100]
abbrev dktX0_verdicts_4 : List UInt8 := dkwX0_verdicts_4 ++ dktX0_verdicts_5
def dkwX0_verdicts_3 : List UInt8 := [132, 4, 1, 42, 89, 180, 1, 156, 20, 0, 91, 105, 181, 1, 156, 21, 4, 54, 7, 21, 7, 155, 0, 44]
abbrev dktX0_verdicts_3 : List UInt8 := dkwX0_verdicts_3 ++ dktX0_verdicts_4
def dkwX0_verdicts_2 : List UInt8 := [154, 0, 6, 167, 0, 84, 44, 42, 180, 0, 26, 180, 0, 242, 21, 5, 50, 182, 1, 40, 54, 6]
abbrev dktX0_verdicts_2 : List UInt8 := dkwX0_verdicts_2 ++ dktX0_verdicts_3
def dkwX0_verdicts_1 : List UInt8 := [180, 0, 26, 180, 0, 86, 162, 0, 110, 42, 180, 0, 26, 180, 1, 150, 27, 46, 21, 5, 122, 4, 126]
abbrev dktX0_verdicts_1 : List UInt8 := dkwX0_verdicts_1 ++ dktX0_verdicts_2
def dkwX0_verdicts_0 : List UInt8 := [16, 10, 188, 11, 78, 45, 3, 10, 80, 42, 10, 181, 1, 156, 3, 54, 4, 3, 54, 5, 21, 5, 42]
abbrev dktX0_verdicts_0 : List UInt8 := dkwX0_verdicts_0 ++ dktX0_verdicts_1
theorem dksX0_verdicts_0 : cX0_verdicts.data.toList.drop 0 = dktX0_verdicts_0 := by decide +kernel
theorem dksX0_verdicts_1 : cX0_verdicts.data.toList.drop 23 = dktX0_verdicts_1 := dk_seg dksX0_verdicts_0 23 rfl rfl
theorem dksX0_verdicts_2 : cX0_verdicts.data.toList.drop 46 = dktX0_verdicts_2 := dk_seg dksX0_verdicts_1 23 rfl rfl
theorem dksX0_verdicts_3 : cX0_verdicts.data.toList.drop 68 = dktX0_verdicts_3 := dk_seg dksX0_verdicts_2 22 rfl rfl
theorem dksX0_verdicts_4 : cX0_verdicts.data.toList.drop 92 = dktX0_verdicts_4 := dk_seg dksX0_verdicts_3 24 rfl rfl
theorem dksX0_verdicts_5 : cX0_verdicts.data.toList.drop 116 = dktX0_verdicts_5 := dk_seg dksX0_verdicts_4 24 rfl rfl
theorem dksX0_verdicts_6 : cX0_verdicts.data.toList.drop 140 = dktX0_verdicts_6 := dk_seg dksX0_verdicts_5 24 rfl rfl
theorem dksX0_verdicts_7 : cX0_verdicts.data.toList.drop 163 = dktX0_verdicts_7 := dk_seg dksX0_verdicts_6 23 rfl rfl
theorem dX0_verdicts_0 : decode cX0_verdicts 0 = .ok (.bipush 10, 2) := dk_16 10 (dk_at dksX0_verdicts_0 0 rfl rfl)
theorem dX0_verdicts_2 : decode cX0_verdicts 2 = .ok (.newarray .long, 2) := dk_188_11 (dk_at dksX0_verdicts_0 2 rfl rfl)
theorem dX0_verdicts_4 : decode cX0_verdicts 4 = .ok (.astore_n 3, 1) := dk_78 (dk_at dksX0_verdicts_0 4 rfl rfl)
theorem dX0_verdicts_5 : decode cX0_verdicts 5 = .ok (.aload_n 3, 1) := dk_45 (dk_at dksX0_verdicts_0 5 rfl rfl)
theorem dX0_verdicts_6 : decode cX0_verdicts 6 = .ok (.iconst 0, 1) := dk_3 (dk_at dksX0_verdicts_0 6 rfl rfl)
theorem dX0_verdicts_7 : decode cX0_verdicts 7 = .ok (.lconst 1, 1) := dk_10 (dk_at dksX0_verdicts_0 7 rfl rfl)
theorem dX0_verdicts_8 : decode cX0_verdicts 8 = .ok (.lastore, 1) := dk_80 (dk_at dksX0_verdicts_0 8 rfl rfl)
theorem dX0_verdicts_9 : decode cX0_verdicts 9 = .ok (.aload_n 0, 1) := dk_42 (dk_at dksX0_verdicts_0 9 rfl rfl)
theorem dX0_verdicts_10 : decode cX0_verdicts 10 = .ok (.lconst 1, 1) := dk_10 (dk_at dksX0_verdicts_0 10 rfl rfl)
theorem dX0_verdicts_11 : decode cX0_verdicts 11 = .ok (.putfield 412, 3) := dk_181 1 156 (dk_at dksX0_verdicts_0 11 rfl rfl)
theorem dX0_verdicts_14 : decode cX0_verdicts 14 = .ok (.iconst 0, 1) := dk_3 (dk_at dksX0_verdicts_0 14 rfl rfl)
theorem dX0_verdicts_15 : decode cX0_verdicts 15 = .ok (.istore 4, 2) := dk_54 4 (dk_at dksX0_verdicts_0 15 rfl rfl)
theorem dX0_verdicts_17 : decode cX0_verdicts 17 = .ok (.iconst 0, 1) := dk_3 (dk_at dksX0_verdicts_0 17 rfl rfl)
theorem dX0_verdicts_18 : decode cX0_verdicts 18 = .ok (.istore 5, 2) := dk_54 5 (dk_at dksX0_verdicts_0 18 rfl rfl)
theorem dX0_verdicts_20 : decode cX0_verdicts 20 = .ok (.iload 5, 2) := dk_21 5 (dk_at dksX0_verdicts_0 20 rfl rfl)
theorem dX0_verdicts_22 : decode cX0_verdicts 22 = .ok (.aload_n 0, 1) := dk_42 (dk_at dksX0_verdicts_0 22 rfl rfl)
theorem dX0_verdicts_23 : decode cX0_verdicts 23 = .ok (.getfield 26, 3) := dk_180 0 26 (dk_at dksX0_verdicts_1 0 rfl rfl)
theorem dX0_verdicts_26 : decode cX0_verdicts 26 = .ok (.getfield 86, 3) := dk_180 0 86 (dk_at dksX0_verdicts_1 3 rfl rfl)
theorem dX0_verdicts_29 : decode cX0_verdicts 29 = .ok (.if_icmp .ge 110, 3) := dk_162 0 110 (dk_at dksX0_verdicts_1 6 rfl rfl)
theorem dX0_verdicts_32 : decode cX0_verdicts 32 = .ok (.aload_n 0, 1) := dk_42 (dk_at dksX0_verdicts_1 9 rfl rfl)
theorem dX0_verdicts_33 : decode cX0_verdicts 33 = .ok (.getfield 26, 3) := dk_180 0 26 (dk_at dksX0_verdicts_1 10 rfl rfl)
theorem dX0_verdicts_36 : decode cX0_verdicts 36 = .ok (.getfield 406, 3) := dk_180 1 150 (dk_at dksX0_verdicts_1 13 rfl rfl)
theorem dX0_verdicts_39 : decode cX0_verdicts 39 = .ok (.iload_n 1, 1) := dk_27 (dk_at dksX0_verdicts_1 16 rfl rfl)
theorem dX0_verdicts_40 : decode cX0_verdicts 40 = .ok (.iaload, 1) := dk_46 (dk_at dksX0_verdicts_1 17 rfl rfl)
theorem dX0_verdicts_41 : decode cX0_verdicts 41 = .ok (.iload 5, 2) := dk_21 5 (dk_at dksX0_verdicts_1 18 rfl rfl)
theorem dX0_verdicts_43 : decode cX0_verdicts 43 = .ok (.ishr, 1) := dk_122 (dk_at dksX0_verdicts_1 20 rfl rfl)
theorem dX0_verdicts_44 : decode cX0_verdicts 44 = .ok (.iconst 1, 1) := dk_4 (dk_at dksX0_verdicts_1 21 rfl rfl)
theorem dX0_verdicts_45 : decode cX0_verdicts 45 = .ok (.iand, 1) := dk_126 (dk_at dksX0_verdicts_1 22 rfl rfl)
theorem dX0_verdicts_46 : decode cX0_verdicts 46 = .ok (.ifCond .ne 6, 3) := dk_154 0 6 (dk_at dksX0_verdicts_2 0 rfl rfl)
theorem dX0_verdicts_49 : decode cX0_verdicts 49 = .ok (.goto 84, 3) := dk_167 0 84 (dk_at dksX0_verdicts_2 3 rfl rfl)
theorem dX0_verdicts_52 : decode cX0_verdicts 52 = .ok (.aload_n 2, 1) := dk_44 (dk_at dksX0_verdicts_2 6 rfl rfl)
theorem dX0_verdicts_53 : decode cX0_verdicts 53 = .ok (.aload_n 0, 1) := dk_42 (dk_at dksX0_verdicts_2 7 rfl rfl)
theorem dX0_verdicts_54 : decode cX0_verdicts 54 = .ok (.getfield 26, 3) := dk_180 0 26 (dk_at dksX0_verdicts_2 8 rfl rfl)
theorem dX0_verdicts_57 : decode cX0_verdicts 57 = .ok (.getfield 242, 3) := dk_180 0 242 (dk_at dksX0_verdicts_2 11 rfl rfl)
theorem dX0_verdicts_60 : decode cX0_verdicts 60 = .ok (.iload 5, 2) := dk_21 5 (dk_at dksX0_verdicts_2 14 rfl rfl)
theorem dX0_verdicts_62 : decode cX0_verdicts 62 = .ok (.aaload, 1) := dk_50 (dk_at dksX0_verdicts_2 16 rfl rfl)
theorem dX0_verdicts_63 : decode cX0_verdicts 63 = .ok (.invokevirtual 296, 3) := dk_182 1 40 (dk_at dksX0_verdicts_2 17 rfl rfl)
theorem dX0_verdicts_66 : decode cX0_verdicts 66 = .ok (.istore 6, 2) := dk_54 6 (dk_at dksX0_verdicts_2 20 rfl rfl)
theorem dX0_verdicts_68 : decode cX0_verdicts 68 = .ok (.iinc 4 1, 3) := dk_132 4 1 (dk_at dksX0_verdicts_3 0 rfl rfl)
theorem dX0_verdicts_71 : decode cX0_verdicts 71 = .ok (.aload_n 0, 1) := dk_42 (dk_at dksX0_verdicts_3 3 rfl rfl)
theorem dX0_verdicts_72 : decode cX0_verdicts 72 = .ok (.dup, 1) := dk_89 (dk_at dksX0_verdicts_3 4 rfl rfl)
theorem dX0_verdicts_73 : decode cX0_verdicts 73 = .ok (.getfield 412, 3) := dk_180 1 156 (dk_at dksX0_verdicts_3 5 rfl rfl)
theorem dX0_verdicts_76 : decode cX0_verdicts 76 = .ok (.ldc2_w 91, 3) := dk_20 0 91 (dk_at dksX0_verdicts_3 8 rfl rfl)
theorem dX0_verdicts_79 : decode cX0_verdicts 79 = .ok (.lmul, 1) := dk_105 (dk_at dksX0_verdicts_3 11 rfl rfl)
theorem dX0_verdicts_80 : decode cX0_verdicts 80 = .ok (.putfield 412, 3) := dk_181 1 156 (dk_at dksX0_verdicts_3 12 rfl rfl)
theorem dX0_verdicts_83 : decode cX0_verdicts 83 = .ok (.iload 4, 2) := dk_21 4 (dk_at dksX0_verdicts_3 15 rfl rfl)
theorem dX0_verdicts_85 : decode cX0_verdicts 85 = .ok (.istore 7, 2) := dk_54 7 (dk_at dksX0_verdicts_3 17 rfl rfl)
theorem dX0_verdicts_87 : decode cX0_verdicts 87 = .ok (.iload 7, 2) := dk_21 7 (dk_at dksX0_verdicts_3 19 rfl rfl)
theorem dX0_verdicts_89 : decode cX0_verdicts 89 = .ok (.ifCond .lt 44, 3) := dk_155 0 44 (dk_at dksX0_verdicts_3 21 rfl rfl)
theorem dX0_verdicts_92 : decode cX0_verdicts 92 = .ok (.aload_n 3, 1) := dk_45 (dk_at dksX0_verdicts_4 0 rfl rfl)
theorem dX0_verdicts_93 : decode cX0_verdicts 93 = .ok (.iload 7, 2) := dk_21 7 (dk_at dksX0_verdicts_4 1 rfl rfl)
theorem dX0_verdicts_95 : decode cX0_verdicts 95 = .ok (.aload_n 3, 1) := dk_45 (dk_at dksX0_verdicts_4 3 rfl rfl)
theorem dX0_verdicts_96 : decode cX0_verdicts 96 = .ok (.iload 7, 2) := dk_21 7 (dk_at dksX0_verdicts_4 4 rfl rfl)
theorem dX0_verdicts_98 : decode cX0_verdicts 98 = .ok (.laload, 1) := dk_47 (dk_at dksX0_verdicts_4 6 rfl rfl)
theorem dX0_verdicts_99 : decode cX0_verdicts 99 = .ok (.bipush 100, 2) := dk_16 100 (dk_at dksX0_verdicts_4 7 rfl rfl)
theorem dX0_verdicts_101 : decode cX0_verdicts 101 = .ok (.iload 6, 2) := dk_21 6 (dk_at dksX0_verdicts_4 9 rfl rfl)
theorem dX0_verdicts_103 : decode cX0_verdicts 103 = .ok (.isub, 1) := dk_100 (dk_at dksX0_verdicts_4 11 rfl rfl)
theorem dX0_verdicts_104 : decode cX0_verdicts 104 = .ok (.i2l, 1) := dk_133 (dk_at dksX0_verdicts_4 12 rfl rfl)
theorem dX0_verdicts_105 : decode cX0_verdicts 105 = .ok (.lmul, 1) := dk_105 (dk_at dksX0_verdicts_4 13 rfl rfl)
theorem dX0_verdicts_106 : decode cX0_verdicts 106 = .ok (.iload 7, 2) := dk_21 7 (dk_at dksX0_verdicts_4 14 rfl rfl)
theorem dX0_verdicts_108 : decode cX0_verdicts 108 = .ok (.ifCond .le 16, 3) := dk_158 0 16 (dk_at dksX0_verdicts_4 16 rfl rfl)
theorem dX0_verdicts_111 : decode cX0_verdicts 111 = .ok (.aload_n 3, 1) := dk_45 (dk_at dksX0_verdicts_4 19 rfl rfl)
theorem dX0_verdicts_112 : decode cX0_verdicts 112 = .ok (.iload 7, 2) := dk_21 7 (dk_at dksX0_verdicts_4 20 rfl rfl)
theorem dX0_verdicts_114 : decode cX0_verdicts 114 = .ok (.iconst 1, 1) := dk_4 (dk_at dksX0_verdicts_4 22 rfl rfl)
theorem dX0_verdicts_115 : decode cX0_verdicts 115 = .ok (.isub, 1) := dk_100 (dk_at dksX0_verdicts_4 23 rfl rfl)
theorem dX0_verdicts_116 : decode cX0_verdicts 116 = .ok (.laload, 1) := dk_47 (dk_at dksX0_verdicts_5 0 rfl rfl)
theorem dX0_verdicts_117 : decode cX0_verdicts 117 = .ok (.iload 6, 2) := dk_21 6 (dk_at dksX0_verdicts_5 1 rfl rfl)
theorem dX0_verdicts_119 : decode cX0_verdicts 119 = .ok (.i2l, 1) := dk_133 (dk_at dksX0_verdicts_5 3 rfl rfl)
theorem dX0_verdicts_120 : decode cX0_verdicts 120 = .ok (.lmul, 1) := dk_105 (dk_at dksX0_verdicts_5 4 rfl rfl)
theorem dX0_verdicts_121 : decode cX0_verdicts 121 = .ok (.goto 4, 3) := dk_167 0 4 (dk_at dksX0_verdicts_5 5 rfl rfl)
theorem dX0_verdicts_124 : decode cX0_verdicts 124 = .ok (.lconst 0, 1) := dk_9 (dk_at dksX0_verdicts_5 8 rfl rfl)
theorem dX0_verdicts_125 : decode cX0_verdicts 125 = .ok (.ladd, 1) := dk_97 (dk_at dksX0_verdicts_5 9 rfl rfl)
theorem dX0_verdicts_126 : decode cX0_verdicts 126 = .ok (.lastore, 1) := dk_80 (dk_at dksX0_verdicts_5 10 rfl rfl)
theorem dX0_verdicts_127 : decode cX0_verdicts 127 = .ok (.iinc 7 (-1), 3) := dk_132 7 255 (dk_at dksX0_verdicts_5 11 rfl rfl)
theorem dX0_verdicts_130 : decode cX0_verdicts 130 = .ok (.goto (-43), 3) := dk_167 255 213 (dk_at dksX0_verdicts_5 14 rfl rfl)
theorem dX0_verdicts_133 : decode cX0_verdicts 133 = .ok (.iinc 5 1, 3) := dk_132 5 1 (dk_at dksX0_verdicts_5 17 rfl rfl)
theorem dX0_verdicts_136 : decode cX0_verdicts 136 = .ok (.goto (-116), 3) := dk_167 255 140 (dk_at dksX0_verdicts_5 20 rfl rfl)
theorem dX0_verdicts_139 : decode cX0_verdicts 139 = .ok (.lconst 0, 1) := dk_9 (dk_at dksX0_verdicts_5 23 rfl rfl)
theorem dX0_verdicts_140 : decode cX0_verdicts 140 = .ok (.lstore 5, 2) := dk_55 5 (dk_at dksX0_verdicts_6 0 rfl rfl)
theorem dX0_verdicts_142 : decode cX0_verdicts 142 = .ok (.aload_n 0, 1) := dk_42 (dk_at dksX0_verdicts_6 2 rfl rfl)
theorem dX0_verdicts_143 : decode cX0_verdicts 143 = .ok (.getfield 26, 3) := dk_180 0 26 (dk_at dksX0_verdicts_6 3 rfl rfl)
theorem dX0_verdicts_146 : decode cX0_verdicts 146 = .ok (.getfield 409, 3) := dk_180 1 153 (dk_at dksX0_verdicts_6 6 rfl rfl)
theorem dX0_verdicts_149 : decode cX0_verdicts 149 = .ok (.iload_n 1, 1) := dk_27 (dk_at dksX0_verdicts_6 9 rfl rfl)
theorem dX0_verdicts_150 : decode cX0_verdicts 150 = .ok (.iaload, 1) := dk_46 (dk_at dksX0_verdicts_6 10 rfl rfl)
theorem dX0_verdicts_151 : decode cX0_verdicts 151 = .ok (.istore 7, 2) := dk_54 7 (dk_at dksX0_verdicts_6 11 rfl rfl)
theorem dX0_verdicts_153 : decode cX0_verdicts 153 = .ok (.iload 7, 2) := dk_21 7 (dk_at dksX0_verdicts_6 13 rfl rfl)
theorem dX0_verdicts_155 : decode cX0_verdicts 155 = .ok (.iload 4, 2) := dk_21 4 (dk_at dksX0_verdicts_6 15 rfl rfl)
theorem dX0_verdicts_157 : decode cX0_verdicts 157 = .ok (.if_icmp .gt 18, 3) := dk_163 0 18 (dk_at dksX0_verdicts_6 17 rfl rfl)
theorem dX0_verdicts_160 : decode cX0_verdicts 160 = .ok (.lload 5, 2) := dk_22 5 (dk_at dksX0_verdicts_6 20 rfl rfl)
theorem dX0_verdicts_162 : decode cX0_verdicts 162 = .ok (.aload_n 3, 1) := dk_45 (dk_at dksX0_verdicts_6 22 rfl rfl)
theorem dX0_verdicts_163 : decode cX0_verdicts 163 = .ok (.iload 7, 2) := dk_21 7 (dk_at dksX0_verdicts_7 0 rfl rfl)
theorem dX0_verdicts_165 : decode cX0_verdicts 165 = .ok (.laload, 1) := dk_47 (dk_at dksX0_verdicts_7 2 rfl rfl)
theorem dX0_verdicts_166 : decode cX0_verdicts 166 = .ok (.ladd, 1) := dk_97 (dk_at dksX0_verdicts_7 3 rfl rfl)
theorem dX0_verdicts_167 : decode cX0_verdicts 167 = .ok (.lstore 5, 2) := dk_55 5 (dk_at dksX0_verdicts_7 4 rfl rfl)
theorem dX0_verdicts_169 : decode cX0_verdicts 169 = .ok (.iinc 7 1, 3) := dk_132 7 1 (dk_at dksX0_verdicts_7 6 rfl rfl)
theorem dX0_verdicts_172 : decode cX0_verdicts 172 = .ok (.goto (-19), 3) := dk_167 255 237 (dk_at dksX0_verdicts_7 9 rfl rfl)
theorem dX0_verdicts_175 : decode cX0_verdicts 175 = .ok (.lload 5, 2) := dk_22 5 (dk_at dksX0_verdicts_7 12 rfl rfl)
theorem dX0_verdicts_177 : decode cX0_verdicts 177 = .ok (.lreturn, 1) := dk_173 (dk_at dksX0_verdicts_7 14 rfl rfl)
abbrev cX0_leans : ByteArray := prog_1_method_75_code
def yX0_leans : MethodName := ⟨RX0, "leans", "(III)I"⟩
def dkwX0_leans_3 : List UInt8 := [167, 0, 4, 2, 172]
abbrev dktX0_leans_3 : List UInt8 := dkwX0_leans_3 ++ []
def dkwX0_leans_2 : List UInt8 := [153, 0, 12, 21, 5, 153, 0, 7, 4, 167, 0, 18, 21, 4, 154, 0, 8, 21, 5, 153, 0, 7, 3]
abbrev dktX0_leans_2 : List UInt8 := dkwX0_leans_2 ++ dktX0_leans_3
def dkwX0_leans_1 : List UInt8 := [17, 252, 24, 172, 42, 27, 28, 182, 1, 166, 54, 4, 42, 27, 29, 182, 1, 166, 54, 5, 21, 4]
abbrev dktX0_leans_1 : List UInt8 := dkwX0_leans_1 ++ dktX0_leans_2
def dkwX0_leans_0 : List UInt8 := [42, 27, 182, 1, 159, 153, 0, 19, 42, 28, 182, 1, 31, 153, 0, 11, 42, 29, 182, 1, 31, 154, 0, 7]
abbrev dktX0_leans_0 : List UInt8 := dkwX0_leans_0 ++ dktX0_leans_1
theorem dksX0_leans_0 : cX0_leans.data.toList.drop 0 = dktX0_leans_0 := by decide +kernel
theorem dksX0_leans_1 : cX0_leans.data.toList.drop 24 = dktX0_leans_1 := dk_seg dksX0_leans_0 24 rfl rfl
theorem dksX0_leans_2 : cX0_leans.data.toList.drop 46 = dktX0_leans_2 := dk_seg dksX0_leans_1 22 rfl rfl
theorem dksX0_leans_3 : cX0_leans.data.toList.drop 69 = dktX0_leans_3 := dk_seg dksX0_leans_2 23 rfl rfl
theorem dX0_leans_0 : decode cX0_leans 0 = .ok (.aload_n 0, 1) := dk_42 (dk_at dksX0_leans_0 0 rfl rfl)
theorem dX0_leans_1 : decode cX0_leans 1 = .ok (.iload_n 1, 1) := dk_27 (dk_at dksX0_leans_0 1 rfl rfl)
theorem dX0_leans_2 : decode cX0_leans 2 = .ok (.invokevirtual 415, 3) := dk_182 1 159 (dk_at dksX0_leans_0 2 rfl rfl)
theorem dX0_leans_5 : decode cX0_leans 5 = .ok (.ifCond .eq 19, 3) := dk_153 0 19 (dk_at dksX0_leans_0 5 rfl rfl)
theorem dX0_leans_8 : decode cX0_leans 8 = .ok (.aload_n 0, 1) := dk_42 (dk_at dksX0_leans_0 8 rfl rfl)
theorem dX0_leans_9 : decode cX0_leans 9 = .ok (.iload_n 2, 1) := dk_28 (dk_at dksX0_leans_0 9 rfl rfl)
theorem dX0_leans_10 : decode cX0_leans 10 = .ok (.invokevirtual 287, 3) := dk_182 1 31 (dk_at dksX0_leans_0 10 rfl rfl)
theorem dX0_leans_13 : decode cX0_leans 13 = .ok (.ifCond .eq 11, 3) := dk_153 0 11 (dk_at dksX0_leans_0 13 rfl rfl)
theorem dX0_leans_16 : decode cX0_leans 16 = .ok (.aload_n 0, 1) := dk_42 (dk_at dksX0_leans_0 16 rfl rfl)
theorem dX0_leans_17 : decode cX0_leans 17 = .ok (.iload_n 3, 1) := dk_29 (dk_at dksX0_leans_0 17 rfl rfl)
theorem dX0_leans_18 : decode cX0_leans 18 = .ok (.invokevirtual 287, 3) := dk_182 1 31 (dk_at dksX0_leans_0 18 rfl rfl)
theorem dX0_leans_21 : decode cX0_leans 21 = .ok (.ifCond .ne 7, 3) := dk_154 0 7 (dk_at dksX0_leans_0 21 rfl rfl)
theorem dX0_leans_24 : decode cX0_leans 24 = .ok (.sipush (-1000), 3) := dk_17 252 24 (dk_at dksX0_leans_1 0 rfl rfl)
theorem dX0_leans_27 : decode cX0_leans 27 = .ok (.ireturn, 1) := dk_172 (dk_at dksX0_leans_1 3 rfl rfl)
theorem dX0_leans_28 : decode cX0_leans 28 = .ok (.aload_n 0, 1) := dk_42 (dk_at dksX0_leans_1 4 rfl rfl)
theorem dX0_leans_29 : decode cX0_leans 29 = .ok (.iload_n 1, 1) := dk_27 (dk_at dksX0_leans_1 5 rfl rfl)
theorem dX0_leans_30 : decode cX0_leans 30 = .ok (.iload_n 2, 1) := dk_28 (dk_at dksX0_leans_1 6 rfl rfl)
theorem dX0_leans_31 : decode cX0_leans 31 = .ok (.invokevirtual 422, 3) := dk_182 1 166 (dk_at dksX0_leans_1 7 rfl rfl)
theorem dX0_leans_34 : decode cX0_leans 34 = .ok (.istore 4, 2) := dk_54 4 (dk_at dksX0_leans_1 10 rfl rfl)
theorem dX0_leans_36 : decode cX0_leans 36 = .ok (.aload_n 0, 1) := dk_42 (dk_at dksX0_leans_1 12 rfl rfl)
theorem dX0_leans_37 : decode cX0_leans 37 = .ok (.iload_n 1, 1) := dk_27 (dk_at dksX0_leans_1 13 rfl rfl)
theorem dX0_leans_38 : decode cX0_leans 38 = .ok (.iload_n 3, 1) := dk_29 (dk_at dksX0_leans_1 14 rfl rfl)
theorem dX0_leans_39 : decode cX0_leans 39 = .ok (.invokevirtual 422, 3) := dk_182 1 166 (dk_at dksX0_leans_1 15 rfl rfl)
theorem dX0_leans_42 : decode cX0_leans 42 = .ok (.istore 5, 2) := dk_54 5 (dk_at dksX0_leans_1 18 rfl rfl)
theorem dX0_leans_44 : decode cX0_leans 44 = .ok (.iload 4, 2) := dk_21 4 (dk_at dksX0_leans_1 20 rfl rfl)
theorem dX0_leans_46 : decode cX0_leans 46 = .ok (.ifCond .eq 12, 3) := dk_153 0 12 (dk_at dksX0_leans_2 0 rfl rfl)
theorem dX0_leans_49 : decode cX0_leans 49 = .ok (.iload 5, 2) := dk_21 5 (dk_at dksX0_leans_2 3 rfl rfl)
theorem dX0_leans_51 : decode cX0_leans 51 = .ok (.ifCond .eq 7, 3) := dk_153 0 7 (dk_at dksX0_leans_2 5 rfl rfl)
theorem dX0_leans_54 : decode cX0_leans 54 = .ok (.iconst 1, 1) := dk_4 (dk_at dksX0_leans_2 8 rfl rfl)
theorem dX0_leans_55 : decode cX0_leans 55 = .ok (.goto 18, 3) := dk_167 0 18 (dk_at dksX0_leans_2 9 rfl rfl)
theorem dX0_leans_58 : decode cX0_leans 58 = .ok (.iload 4, 2) := dk_21 4 (dk_at dksX0_leans_2 12 rfl rfl)
theorem dX0_leans_60 : decode cX0_leans 60 = .ok (.ifCond .ne 8, 3) := dk_154 0 8 (dk_at dksX0_leans_2 14 rfl rfl)
theorem dX0_leans_63 : decode cX0_leans 63 = .ok (.iload 5, 2) := dk_21 5 (dk_at dksX0_leans_2 17 rfl rfl)
theorem dX0_leans_65 : decode cX0_leans 65 = .ok (.ifCond .eq 7, 3) := dk_153 0 7 (dk_at dksX0_leans_2 19 rfl rfl)
theorem dX0_leans_68 : decode cX0_leans 68 = .ok (.iconst 0, 1) := dk_3 (dk_at dksX0_leans_2 22 rfl rfl)
theorem dX0_leans_69 : decode cX0_leans 69 = .ok (.goto 4, 3) := dk_167 0 4 (dk_at dksX0_leans_3 0 rfl rfl)
theorem dX0_leans_72 : decode cX0_leans 72 = .ok (.iconst (-1), 1) := dk_2 (dk_at dksX0_leans_3 3 rfl rfl)
theorem dX0_leans_73 : decode cX0_leans 73 = .ok (.ireturn, 1) := dk_172 (dk_at dksX0_leans_3 4 rfl rfl)
abbrev cX0_saysTurned : ByteArray := prog_1_method_74_code
def yX0_saysTurned : MethodName := ⟨RX0, "saysTurned", "(II)Z"⟩
def dkwX0_saysTurned_1 : List UInt8 := [155, 0, 7, 4, 167, 0, 4, 3, 172]
abbrev dktX0_saysTurned_1 : List UInt8 := dkwX0_saysTurned_1 ++ []
def dkwX0_saysTurned_0 : List UInt8 := [20, 0, 118, 42, 27, 42, 180, 0, 26, 180, 1, 20, 28, 50, 182, 1, 162, 105, 42, 180, 1, 156, 148]
abbrev dktX0_saysTurned_0 : List UInt8 := dkwX0_saysTurned_0 ++ dktX0_saysTurned_1
theorem dksX0_saysTurned_0 : cX0_saysTurned.data.toList.drop 0 = dktX0_saysTurned_0 := by decide +kernel
theorem dksX0_saysTurned_1 : cX0_saysTurned.data.toList.drop 23 = dktX0_saysTurned_1 := dk_seg dksX0_saysTurned_0 23 rfl rfl
theorem dX0_saysTurned_0 : decode cX0_saysTurned 0 = .ok (.ldc2_w 118, 3) := dk_20 0 118 (dk_at dksX0_saysTurned_0 0 rfl rfl)
theorem dX0_saysTurned_3 : decode cX0_saysTurned 3 = .ok (.aload_n 0, 1) := dk_42 (dk_at dksX0_saysTurned_0 3 rfl rfl)
theorem dX0_saysTurned_4 : decode cX0_saysTurned 4 = .ok (.iload_n 1, 1) := dk_27 (dk_at dksX0_saysTurned_0 4 rfl rfl)
theorem dX0_saysTurned_5 : decode cX0_saysTurned 5 = .ok (.aload_n 0, 1) := dk_42 (dk_at dksX0_saysTurned_0 5 rfl rfl)
theorem dX0_saysTurned_6 : decode cX0_saysTurned 6 = .ok (.getfield 26, 3) := dk_180 0 26 (dk_at dksX0_saysTurned_0 6 rfl rfl)
theorem dX0_saysTurned_9 : decode cX0_saysTurned 9 = .ok (.getfield 276, 3) := dk_180 1 20 (dk_at dksX0_saysTurned_0 9 rfl rfl)
theorem dX0_saysTurned_12 : decode cX0_saysTurned 12 = .ok (.iload_n 2, 1) := dk_28 (dk_at dksX0_saysTurned_0 12 rfl rfl)
theorem dX0_saysTurned_13 : decode cX0_saysTurned 13 = .ok (.aaload, 1) := dk_50 (dk_at dksX0_saysTurned_0 13 rfl rfl)
theorem dX0_saysTurned_14 : decode cX0_saysTurned 14 = .ok (.invokevirtual 418, 3) := dk_182 1 162 (dk_at dksX0_saysTurned_0 14 rfl rfl)
theorem dX0_saysTurned_17 : decode cX0_saysTurned 17 = .ok (.lmul, 1) := dk_105 (dk_at dksX0_saysTurned_0 17 rfl rfl)
theorem dX0_saysTurned_18 : decode cX0_saysTurned 18 = .ok (.aload_n 0, 1) := dk_42 (dk_at dksX0_saysTurned_0 18 rfl rfl)
theorem dX0_saysTurned_19 : decode cX0_saysTurned 19 = .ok (.getfield 412, 3) := dk_180 1 156 (dk_at dksX0_saysTurned_0 19 rfl rfl)
theorem dX0_saysTurned_22 : decode cX0_saysTurned 22 = .ok (.lcmp, 1) := dk_148 (dk_at dksX0_saysTurned_0 22 rfl rfl)
theorem dX0_saysTurned_23 : decode cX0_saysTurned 23 = .ok (.ifCond .lt 7, 3) := dk_155 0 7 (dk_at dksX0_saysTurned_1 0 rfl rfl)
theorem dX0_saysTurned_26 : decode cX0_saysTurned 26 = .ok (.iconst 1, 1) := dk_4 (dk_at dksX0_saysTurned_1 3 rfl rfl)
theorem dX0_saysTurned_27 : decode cX0_saysTurned 27 = .ok (.goto 4, 3) := dk_167 0 4 (dk_at dksX0_saysTurned_1 4 rfl rfl)
theorem dX0_saysTurned_30 : decode cX0_saysTurned 30 = .ok (.iconst 0, 1) := dk_3 (dk_at dksX0_saysTurned_1 7 rfl rfl)
theorem dX0_saysTurned_31 : decode cX0_saysTurned 31 = .ok (.ireturn, 1) := dk_172 (dk_at dksX0_saysTurned_1 8 rfl rfl)
abbrev cX0_shape : ByteArray := prog_1_method_76_code
def yX0_shape : MethodName := ⟨RX0, "shape", "(IIII)I"⟩
def dkwX0_shape_6 : List UInt8 := [167, 0, 4, 9, 21, 5, 133, 21, 4, 184, 1, 56, 136, 172]
abbrev dktX0_shape_6 : List UInt8 := dkwX0_shape_6 ++ []
def dkwX0_shape_5 : List UInt8 := [29, 50, 180, 1, 169, 28, 160, 0, 21, 42, 180, 0, 26, 180, 0, 138, 16, 8, 27, 104, 29, 96, 46, 133]
abbrev dktX0_shape_5 : List UInt8 := dkwX0_shape_5 ++ dktX0_shape_6
def dkwX0_shape_4 : List UInt8 := [54, 5, 132, 6, 1, 167, 255, 200, 21, 5, 154, 0, 7, 2, 167, 0, 47, 42, 180, 0, 26, 180, 0, 97]
abbrev dktX0_shape_4 : List UInt8 := dkwX0_shape_4 ++ dktX0_shape_5
def dkwX0_shape_3 : List UInt8 := [28, 160, 0, 21, 42, 180, 0, 26, 180, 0, 138, 16, 8, 27, 104, 21, 6, 96, 46, 167, 0, 4, 3, 96]
abbrev dktX0_shape_3 : List UInt8 := dkwX0_shape_3 ++ dktX0_shape_4
def dkwX0_shape_2 : List UInt8 := [180, 0, 26, 180, 0, 74, 162, 0, 50, 21, 5, 42, 180, 0, 26, 180, 0, 97, 21, 6, 50, 180, 1, 169]
abbrev dktX0_shape_2 : List UInt8 := dkwX0_shape_2 ++ dktX0_shape_3
def dkwX0_shape_1 : List UInt8 := [153, 0, 11, 21, 4, 184, 1, 51, 154, 0, 5, 2, 172, 3, 54, 5, 3, 54, 6, 21, 6, 42]
abbrev dktX0_shape_1 : List UInt8 := dkwX0_shape_1 ++ dktX0_shape_2
def dkwX0_shape_0 : List UInt8 := [27, 184, 0, 129, 153, 0, 31, 28, 133, 9, 20, 0, 13, 184, 0, 5, 153, 0, 19, 42, 29, 182, 0, 135]
abbrev dktX0_shape_0 : List UInt8 := dkwX0_shape_0 ++ dktX0_shape_1
theorem dksX0_shape_0 : cX0_shape.data.toList.drop 0 = dktX0_shape_0 := by decide +kernel
theorem dksX0_shape_1 : cX0_shape.data.toList.drop 24 = dktX0_shape_1 := dk_seg dksX0_shape_0 24 rfl rfl
theorem dksX0_shape_2 : cX0_shape.data.toList.drop 46 = dktX0_shape_2 := dk_seg dksX0_shape_1 22 rfl rfl
theorem dksX0_shape_3 : cX0_shape.data.toList.drop 70 = dktX0_shape_3 := dk_seg dksX0_shape_2 24 rfl rfl
theorem dksX0_shape_4 : cX0_shape.data.toList.drop 94 = dktX0_shape_4 := dk_seg dksX0_shape_3 24 rfl rfl
theorem dksX0_shape_5 : cX0_shape.data.toList.drop 118 = dktX0_shape_5 := dk_seg dksX0_shape_4 24 rfl rfl
theorem dksX0_shape_6 : cX0_shape.data.toList.drop 142 = dktX0_shape_6 := dk_seg dksX0_shape_5 24 rfl rfl
theorem dX0_shape_0 : decode cX0_shape 0 = .ok (.iload_n 1, 1) := dk_27 (dk_at dksX0_shape_0 0 rfl rfl)
theorem dX0_shape_1 : decode cX0_shape 1 = .ok (.invokestatic 129, 3) := dk_184 0 129 (dk_at dksX0_shape_0 1 rfl rfl)
theorem dX0_shape_4 : decode cX0_shape 4 = .ok (.ifCond .eq 31, 3) := dk_153 0 31 (dk_at dksX0_shape_0 4 rfl rfl)
theorem dX0_shape_7 : decode cX0_shape 7 = .ok (.iload_n 2, 1) := dk_28 (dk_at dksX0_shape_0 7 rfl rfl)
theorem dX0_shape_8 : decode cX0_shape 8 = .ok (.i2l, 1) := dk_133 (dk_at dksX0_shape_0 8 rfl rfl)
theorem dX0_shape_9 : decode cX0_shape 9 = .ok (.lconst 0, 1) := dk_9 (dk_at dksX0_shape_0 9 rfl rfl)
theorem dX0_shape_10 : decode cX0_shape 10 = .ok (.ldc2_w 13, 3) := dk_20 0 13 (dk_at dksX0_shape_0 10 rfl rfl)
theorem dX0_shape_13 : decode cX0_shape 13 = .ok (.invokestatic 5, 3) := dk_184 0 5 (dk_at dksX0_shape_0 13 rfl rfl)
theorem dX0_shape_16 : decode cX0_shape 16 = .ok (.ifCond .eq 19, 3) := dk_153 0 19 (dk_at dksX0_shape_0 16 rfl rfl)
theorem dX0_shape_19 : decode cX0_shape 19 = .ok (.aload_n 0, 1) := dk_42 (dk_at dksX0_shape_0 19 rfl rfl)
theorem dX0_shape_20 : decode cX0_shape 20 = .ok (.iload_n 3, 1) := dk_29 (dk_at dksX0_shape_0 20 rfl rfl)
theorem dX0_shape_21 : decode cX0_shape 21 = .ok (.invokevirtual 135, 3) := dk_182 0 135 (dk_at dksX0_shape_0 21 rfl rfl)
theorem dX0_shape_24 : decode cX0_shape 24 = .ok (.ifCond .eq 11, 3) := dk_153 0 11 (dk_at dksX0_shape_1 0 rfl rfl)
theorem dX0_shape_27 : decode cX0_shape 27 = .ok (.iload 4, 2) := dk_21 4 (dk_at dksX0_shape_1 3 rfl rfl)
theorem dX0_shape_29 : decode cX0_shape 29 = .ok (.invokestatic 307, 3) := dk_184 1 51 (dk_at dksX0_shape_1 5 rfl rfl)
theorem dX0_shape_32 : decode cX0_shape 32 = .ok (.ifCond .ne 5, 3) := dk_154 0 5 (dk_at dksX0_shape_1 8 rfl rfl)
theorem dX0_shape_35 : decode cX0_shape 35 = .ok (.iconst (-1), 1) := dk_2 (dk_at dksX0_shape_1 11 rfl rfl)
theorem dX0_shape_36 : decode cX0_shape 36 = .ok (.ireturn, 1) := dk_172 (dk_at dksX0_shape_1 12 rfl rfl)
theorem dX0_shape_37 : decode cX0_shape 37 = .ok (.iconst 0, 1) := dk_3 (dk_at dksX0_shape_1 13 rfl rfl)
theorem dX0_shape_38 : decode cX0_shape 38 = .ok (.istore 5, 2) := dk_54 5 (dk_at dksX0_shape_1 14 rfl rfl)
theorem dX0_shape_40 : decode cX0_shape 40 = .ok (.iconst 0, 1) := dk_3 (dk_at dksX0_shape_1 16 rfl rfl)
theorem dX0_shape_41 : decode cX0_shape 41 = .ok (.istore 6, 2) := dk_54 6 (dk_at dksX0_shape_1 17 rfl rfl)
theorem dX0_shape_43 : decode cX0_shape 43 = .ok (.iload 6, 2) := dk_21 6 (dk_at dksX0_shape_1 19 rfl rfl)
theorem dX0_shape_45 : decode cX0_shape 45 = .ok (.aload_n 0, 1) := dk_42 (dk_at dksX0_shape_1 21 rfl rfl)
theorem dX0_shape_46 : decode cX0_shape 46 = .ok (.getfield 26, 3) := dk_180 0 26 (dk_at dksX0_shape_2 0 rfl rfl)
theorem dX0_shape_49 : decode cX0_shape 49 = .ok (.getfield 74, 3) := dk_180 0 74 (dk_at dksX0_shape_2 3 rfl rfl)
theorem dX0_shape_52 : decode cX0_shape 52 = .ok (.if_icmp .ge 50, 3) := dk_162 0 50 (dk_at dksX0_shape_2 6 rfl rfl)
theorem dX0_shape_55 : decode cX0_shape 55 = .ok (.iload 5, 2) := dk_21 5 (dk_at dksX0_shape_2 9 rfl rfl)
theorem dX0_shape_57 : decode cX0_shape 57 = .ok (.aload_n 0, 1) := dk_42 (dk_at dksX0_shape_2 11 rfl rfl)
theorem dX0_shape_58 : decode cX0_shape 58 = .ok (.getfield 26, 3) := dk_180 0 26 (dk_at dksX0_shape_2 12 rfl rfl)
theorem dX0_shape_61 : decode cX0_shape 61 = .ok (.getfield 97, 3) := dk_180 0 97 (dk_at dksX0_shape_2 15 rfl rfl)
theorem dX0_shape_64 : decode cX0_shape 64 = .ok (.iload 6, 2) := dk_21 6 (dk_at dksX0_shape_2 18 rfl rfl)
theorem dX0_shape_66 : decode cX0_shape 66 = .ok (.aaload, 1) := dk_50 (dk_at dksX0_shape_2 20 rfl rfl)
theorem dX0_shape_67 : decode cX0_shape 67 = .ok (.getfield 425, 3) := dk_180 1 169 (dk_at dksX0_shape_2 21 rfl rfl)
theorem dX0_shape_70 : decode cX0_shape 70 = .ok (.iload_n 2, 1) := dk_28 (dk_at dksX0_shape_3 0 rfl rfl)
theorem dX0_shape_71 : decode cX0_shape 71 = .ok (.if_icmp .ne 21, 3) := dk_160 0 21 (dk_at dksX0_shape_3 1 rfl rfl)
theorem dX0_shape_74 : decode cX0_shape 74 = .ok (.aload_n 0, 1) := dk_42 (dk_at dksX0_shape_3 4 rfl rfl)
theorem dX0_shape_75 : decode cX0_shape 75 = .ok (.getfield 26, 3) := dk_180 0 26 (dk_at dksX0_shape_3 5 rfl rfl)
theorem dX0_shape_78 : decode cX0_shape 78 = .ok (.getfield 138, 3) := dk_180 0 138 (dk_at dksX0_shape_3 8 rfl rfl)
theorem dX0_shape_81 : decode cX0_shape 81 = .ok (.bipush 8, 2) := dk_16 8 (dk_at dksX0_shape_3 11 rfl rfl)
theorem dX0_shape_83 : decode cX0_shape 83 = .ok (.iload_n 1, 1) := dk_27 (dk_at dksX0_shape_3 13 rfl rfl)
theorem dX0_shape_84 : decode cX0_shape 84 = .ok (.imul, 1) := dk_104 (dk_at dksX0_shape_3 14 rfl rfl)
theorem dX0_shape_85 : decode cX0_shape 85 = .ok (.iload 6, 2) := dk_21 6 (dk_at dksX0_shape_3 15 rfl rfl)
theorem dX0_shape_87 : decode cX0_shape 87 = .ok (.iadd, 1) := dk_96 (dk_at dksX0_shape_3 17 rfl rfl)
theorem dX0_shape_88 : decode cX0_shape 88 = .ok (.iaload, 1) := dk_46 (dk_at dksX0_shape_3 18 rfl rfl)
theorem dX0_shape_89 : decode cX0_shape 89 = .ok (.goto 4, 3) := dk_167 0 4 (dk_at dksX0_shape_3 19 rfl rfl)
theorem dX0_shape_92 : decode cX0_shape 92 = .ok (.iconst 0, 1) := dk_3 (dk_at dksX0_shape_3 22 rfl rfl)
theorem dX0_shape_93 : decode cX0_shape 93 = .ok (.iadd, 1) := dk_96 (dk_at dksX0_shape_3 23 rfl rfl)
theorem dX0_shape_94 : decode cX0_shape 94 = .ok (.istore 5, 2) := dk_54 5 (dk_at dksX0_shape_4 0 rfl rfl)
theorem dX0_shape_96 : decode cX0_shape 96 = .ok (.iinc 6 1, 3) := dk_132 6 1 (dk_at dksX0_shape_4 2 rfl rfl)
theorem dX0_shape_99 : decode cX0_shape 99 = .ok (.goto (-56), 3) := dk_167 255 200 (dk_at dksX0_shape_4 5 rfl rfl)
theorem dX0_shape_102 : decode cX0_shape 102 = .ok (.iload 5, 2) := dk_21 5 (dk_at dksX0_shape_4 8 rfl rfl)
theorem dX0_shape_104 : decode cX0_shape 104 = .ok (.ifCond .ne 7, 3) := dk_154 0 7 (dk_at dksX0_shape_4 10 rfl rfl)
theorem dX0_shape_107 : decode cX0_shape 107 = .ok (.iconst (-1), 1) := dk_2 (dk_at dksX0_shape_4 13 rfl rfl)
theorem dX0_shape_108 : decode cX0_shape 108 = .ok (.goto 47, 3) := dk_167 0 47 (dk_at dksX0_shape_4 14 rfl rfl)
theorem dX0_shape_111 : decode cX0_shape 111 = .ok (.aload_n 0, 1) := dk_42 (dk_at dksX0_shape_4 17 rfl rfl)
theorem dX0_shape_112 : decode cX0_shape 112 = .ok (.getfield 26, 3) := dk_180 0 26 (dk_at dksX0_shape_4 18 rfl rfl)
theorem dX0_shape_115 : decode cX0_shape 115 = .ok (.getfield 97, 3) := dk_180 0 97 (dk_at dksX0_shape_4 21 rfl rfl)
theorem dX0_shape_118 : decode cX0_shape 118 = .ok (.iload_n 3, 1) := dk_29 (dk_at dksX0_shape_5 0 rfl rfl)
theorem dX0_shape_119 : decode cX0_shape 119 = .ok (.aaload, 1) := dk_50 (dk_at dksX0_shape_5 1 rfl rfl)
theorem dX0_shape_120 : decode cX0_shape 120 = .ok (.getfield 425, 3) := dk_180 1 169 (dk_at dksX0_shape_5 2 rfl rfl)
theorem dX0_shape_123 : decode cX0_shape 123 = .ok (.iload_n 2, 1) := dk_28 (dk_at dksX0_shape_5 5 rfl rfl)
theorem dX0_shape_124 : decode cX0_shape 124 = .ok (.if_icmp .ne 21, 3) := dk_160 0 21 (dk_at dksX0_shape_5 6 rfl rfl)
theorem dX0_shape_127 : decode cX0_shape 127 = .ok (.aload_n 0, 1) := dk_42 (dk_at dksX0_shape_5 9 rfl rfl)
theorem dX0_shape_128 : decode cX0_shape 128 = .ok (.getfield 26, 3) := dk_180 0 26 (dk_at dksX0_shape_5 10 rfl rfl)
theorem dX0_shape_131 : decode cX0_shape 131 = .ok (.getfield 138, 3) := dk_180 0 138 (dk_at dksX0_shape_5 13 rfl rfl)
theorem dX0_shape_134 : decode cX0_shape 134 = .ok (.bipush 8, 2) := dk_16 8 (dk_at dksX0_shape_5 16 rfl rfl)
theorem dX0_shape_136 : decode cX0_shape 136 = .ok (.iload_n 1, 1) := dk_27 (dk_at dksX0_shape_5 18 rfl rfl)
theorem dX0_shape_137 : decode cX0_shape 137 = .ok (.imul, 1) := dk_104 (dk_at dksX0_shape_5 19 rfl rfl)
theorem dX0_shape_138 : decode cX0_shape 138 = .ok (.iload_n 3, 1) := dk_29 (dk_at dksX0_shape_5 20 rfl rfl)
theorem dX0_shape_139 : decode cX0_shape 139 = .ok (.iadd, 1) := dk_96 (dk_at dksX0_shape_5 21 rfl rfl)
theorem dX0_shape_140 : decode cX0_shape 140 = .ok (.iaload, 1) := dk_46 (dk_at dksX0_shape_5 22 rfl rfl)
theorem dX0_shape_141 : decode cX0_shape 141 = .ok (.i2l, 1) := dk_133 (dk_at dksX0_shape_5 23 rfl rfl)
theorem dX0_shape_142 : decode cX0_shape 142 = .ok (.goto 4, 3) := dk_167 0 4 (dk_at dksX0_shape_6 0 rfl rfl)
theorem dX0_shape_145 : decode cX0_shape 145 = .ok (.lconst 0, 1) := dk_9 (dk_at dksX0_shape_6 3 rfl rfl)
theorem dX0_shape_146 : decode cX0_shape 146 = .ok (.iload 5, 2) := dk_21 5 (dk_at dksX0_shape_6 4 rfl rfl)
theorem dX0_shape_148 : decode cX0_shape 148 = .ok (.i2l, 1) := dk_133 (dk_at dksX0_shape_6 6 rfl rfl)
theorem dX0_shape_149 : decode cX0_shape 149 = .ok (.iload 4, 2) := dk_21 4 (dk_at dksX0_shape_6 7 rfl rfl)
theorem dX0_shape_151 : decode cX0_shape 151 = .ok (.invokestatic 312, 3) := dk_184 1 56 (dk_at dksX0_shape_6 9 rfl rfl)
theorem dX0_shape_154 : decode cX0_shape 154 = .ok (.l2i, 1) := dk_136 (dk_at dksX0_shape_6 12 rfl rfl)
theorem dX0_shape_155 : decode cX0_shape 155 = .ok (.ireturn, 1) := dk_172 (dk_at dksX0_shape_6 13 rfl rfl)
abbrev cX0_image : ByteArray := prog_1_method_77_code
def yX0_image : MethodName := ⟨RX0, "image", "(I)I"⟩
def dkwX0_image_1 : List UInt8 := [89, 183, 0, 25, 83, 42, 180, 0, 30, 27, 50, 42, 180, 0, 26, 182, 1, 172, 42, 3, 182, 0, 106, 172]
abbrev dktX0_image_1 : List UInt8 := dkwX0_image_1 ++ []
def dkwX0_image_0 : List UInt8 := [27, 133, 9, 10, 184, 0, 5, 154, 0, 9, 42, 2, 182, 0, 93, 172, 42, 180, 0, 30, 27, 187, 0, 23]
abbrev dktX0_image_0 : List UInt8 := dkwX0_image_0 ++ dktX0_image_1
theorem dksX0_image_0 : cX0_image.data.toList.drop 0 = dktX0_image_0 := by decide +kernel
theorem dksX0_image_1 : cX0_image.data.toList.drop 24 = dktX0_image_1 := dk_seg dksX0_image_0 24 rfl rfl
theorem dX0_image_0 : decode cX0_image 0 = .ok (.iload_n 1, 1) := dk_27 (dk_at dksX0_image_0 0 rfl rfl)
theorem dX0_image_1 : decode cX0_image 1 = .ok (.i2l, 1) := dk_133 (dk_at dksX0_image_0 1 rfl rfl)
theorem dX0_image_2 : decode cX0_image 2 = .ok (.lconst 0, 1) := dk_9 (dk_at dksX0_image_0 2 rfl rfl)
theorem dX0_image_3 : decode cX0_image 3 = .ok (.lconst 1, 1) := dk_10 (dk_at dksX0_image_0 3 rfl rfl)
theorem dX0_image_4 : decode cX0_image 4 = .ok (.invokestatic 5, 3) := dk_184 0 5 (dk_at dksX0_image_0 4 rfl rfl)
theorem dX0_image_7 : decode cX0_image 7 = .ok (.ifCond .ne 9, 3) := dk_154 0 9 (dk_at dksX0_image_0 7 rfl rfl)
theorem dX0_image_10 : decode cX0_image 10 = .ok (.aload_n 0, 1) := dk_42 (dk_at dksX0_image_0 10 rfl rfl)
theorem dX0_image_11 : decode cX0_image 11 = .ok (.iconst (-1), 1) := dk_2 (dk_at dksX0_image_0 11 rfl rfl)
theorem dX0_image_12 : decode cX0_image 12 = .ok (.invokevirtual 93, 3) := dk_182 0 93 (dk_at dksX0_image_0 12 rfl rfl)
theorem dX0_image_15 : decode cX0_image 15 = .ok (.ireturn, 1) := dk_172 (dk_at dksX0_image_0 15 rfl rfl)
theorem dX0_image_16 : decode cX0_image 16 = .ok (.aload_n 0, 1) := dk_42 (dk_at dksX0_image_0 16 rfl rfl)
theorem dX0_image_17 : decode cX0_image 17 = .ok (.getfield 30, 3) := dk_180 0 30 (dk_at dksX0_image_0 17 rfl rfl)
theorem dX0_image_20 : decode cX0_image 20 = .ok (.iload_n 1, 1) := dk_27 (dk_at dksX0_image_0 20 rfl rfl)
theorem dX0_image_21 : decode cX0_image 21 = .ok (.new 23, 3) := dk_187 0 23 (dk_at dksX0_image_0 21 rfl rfl)
theorem dX0_image_24 : decode cX0_image 24 = .ok (.dup, 1) := dk_89 (dk_at dksX0_image_1 0 rfl rfl)
theorem dX0_image_25 : decode cX0_image 25 = .ok (.invokespecial 25, 3) := dk_183 0 25 (dk_at dksX0_image_1 1 rfl rfl)
theorem dX0_image_28 : decode cX0_image 28 = .ok (.aastore, 1) := dk_83 (dk_at dksX0_image_1 4 rfl rfl)
theorem dX0_image_29 : decode cX0_image 29 = .ok (.aload_n 0, 1) := dk_42 (dk_at dksX0_image_1 5 rfl rfl)
theorem dX0_image_30 : decode cX0_image 30 = .ok (.getfield 30, 3) := dk_180 0 30 (dk_at dksX0_image_1 6 rfl rfl)
theorem dX0_image_33 : decode cX0_image 33 = .ok (.iload_n 1, 1) := dk_27 (dk_at dksX0_image_1 9 rfl rfl)
theorem dX0_image_34 : decode cX0_image 34 = .ok (.aaload, 1) := dk_50 (dk_at dksX0_image_1 10 rfl rfl)
theorem dX0_image_35 : decode cX0_image 35 = .ok (.aload_n 0, 1) := dk_42 (dk_at dksX0_image_1 11 rfl rfl)
theorem dX0_image_36 : decode cX0_image 36 = .ok (.getfield 26, 3) := dk_180 0 26 (dk_at dksX0_image_1 12 rfl rfl)
theorem dX0_image_39 : decode cX0_image 39 = .ok (.invokevirtual 428, 3) := dk_182 1 172 (dk_at dksX0_image_1 15 rfl rfl)
theorem dX0_image_42 : decode cX0_image 42 = .ok (.aload_n 0, 1) := dk_42 (dk_at dksX0_image_1 18 rfl rfl)
theorem dX0_image_43 : decode cX0_image 43 = .ok (.iconst 0, 1) := dk_3 (dk_at dksX0_image_1 19 rfl rfl)
theorem dX0_image_44 : decode cX0_image 44 = .ok (.invokevirtual 106, 3) := dk_182 0 106 (dk_at dksX0_image_1 20 rfl rfl)
theorem dX0_image_47 : decode cX0_image 47 = .ok (.ireturn, 1) := dk_172 (dk_at dksX0_image_1 23 rfl rfl)
abbrev cX0_back : ByteArray := prog_1_method_78_code
def yX0_back : MethodName := ⟨RX0, "back", "(I)I"⟩
def dkwX0_back_2 : List UInt8 := [3, 182, 0, 106, 172]
abbrev dktX0_back_2 : List UInt8 := dkwX0_back_2 ++ []
def dkwX0_back_1 : List UInt8 := [199, 0, 10, 42, 16, 254, 182, 0, 93, 172, 42, 180, 0, 26, 42, 180, 0, 30, 27, 50, 182, 1, 172, 42]
abbrev dktX0_back_1 : List UInt8 := dkwX0_back_1 ++ dktX0_back_2
def dkwX0_back_0 : List UInt8 := [27, 133, 9, 10, 184, 0, 5, 154, 0, 9, 42, 2, 182, 0, 93, 172, 42, 180, 0, 30, 27, 50]
abbrev dktX0_back_0 : List UInt8 := dkwX0_back_0 ++ dktX0_back_1
theorem dksX0_back_0 : cX0_back.data.toList.drop 0 = dktX0_back_0 := by decide +kernel
theorem dksX0_back_1 : cX0_back.data.toList.drop 22 = dktX0_back_1 := dk_seg dksX0_back_0 22 rfl rfl
theorem dksX0_back_2 : cX0_back.data.toList.drop 46 = dktX0_back_2 := dk_seg dksX0_back_1 24 rfl rfl
theorem dX0_back_0 : decode cX0_back 0 = .ok (.iload_n 1, 1) := dk_27 (dk_at dksX0_back_0 0 rfl rfl)
theorem dX0_back_1 : decode cX0_back 1 = .ok (.i2l, 1) := dk_133 (dk_at dksX0_back_0 1 rfl rfl)
theorem dX0_back_2 : decode cX0_back 2 = .ok (.lconst 0, 1) := dk_9 (dk_at dksX0_back_0 2 rfl rfl)
theorem dX0_back_3 : decode cX0_back 3 = .ok (.lconst 1, 1) := dk_10 (dk_at dksX0_back_0 3 rfl rfl)
theorem dX0_back_4 : decode cX0_back 4 = .ok (.invokestatic 5, 3) := dk_184 0 5 (dk_at dksX0_back_0 4 rfl rfl)
theorem dX0_back_7 : decode cX0_back 7 = .ok (.ifCond .ne 9, 3) := dk_154 0 9 (dk_at dksX0_back_0 7 rfl rfl)
theorem dX0_back_10 : decode cX0_back 10 = .ok (.aload_n 0, 1) := dk_42 (dk_at dksX0_back_0 10 rfl rfl)
theorem dX0_back_11 : decode cX0_back 11 = .ok (.iconst (-1), 1) := dk_2 (dk_at dksX0_back_0 11 rfl rfl)
theorem dX0_back_12 : decode cX0_back 12 = .ok (.invokevirtual 93, 3) := dk_182 0 93 (dk_at dksX0_back_0 12 rfl rfl)
theorem dX0_back_15 : decode cX0_back 15 = .ok (.ireturn, 1) := dk_172 (dk_at dksX0_back_0 15 rfl rfl)
theorem dX0_back_16 : decode cX0_back 16 = .ok (.aload_n 0, 1) := dk_42 (dk_at dksX0_back_0 16 rfl rfl)
theorem dX0_back_17 : decode cX0_back 17 = .ok (.getfield 30, 3) := dk_180 0 30 (dk_at dksX0_back_0 17 rfl rfl)
theorem dX0_back_20 : decode cX0_back 20 = .ok (.iload_n 1, 1) := dk_27 (dk_at dksX0_back_0 20 rfl rfl)
theorem dX0_back_21 : decode cX0_back 21 = .ok (.aaload, 1) := dk_50 (dk_at dksX0_back_0 21 rfl rfl)
theorem dX0_back_22 : decode cX0_back 22 = .ok (.ifnonnull 10, 3) := dk_199 0 10 (dk_at dksX0_back_1 0 rfl rfl)
theorem dX0_back_25 : decode cX0_back 25 = .ok (.aload_n 0, 1) := dk_42 (dk_at dksX0_back_1 3 rfl rfl)
theorem dX0_back_26 : decode cX0_back 26 = .ok (.bipush (-2), 2) := dk_16 254 (dk_at dksX0_back_1 4 rfl rfl)
theorem dX0_back_28 : decode cX0_back 28 = .ok (.invokevirtual 93, 3) := dk_182 0 93 (dk_at dksX0_back_1 6 rfl rfl)
theorem dX0_back_31 : decode cX0_back 31 = .ok (.ireturn, 1) := dk_172 (dk_at dksX0_back_1 9 rfl rfl)
theorem dX0_back_32 : decode cX0_back 32 = .ok (.aload_n 0, 1) := dk_42 (dk_at dksX0_back_1 10 rfl rfl)
theorem dX0_back_33 : decode cX0_back 33 = .ok (.getfield 26, 3) := dk_180 0 26 (dk_at dksX0_back_1 11 rfl rfl)
theorem dX0_back_36 : decode cX0_back 36 = .ok (.aload_n 0, 1) := dk_42 (dk_at dksX0_back_1 14 rfl rfl)
theorem dX0_back_37 : decode cX0_back 37 = .ok (.getfield 30, 3) := dk_180 0 30 (dk_at dksX0_back_1 15 rfl rfl)
theorem dX0_back_40 : decode cX0_back 40 = .ok (.iload_n 1, 1) := dk_27 (dk_at dksX0_back_1 18 rfl rfl)
theorem dX0_back_41 : decode cX0_back 41 = .ok (.aaload, 1) := dk_50 (dk_at dksX0_back_1 19 rfl rfl)
theorem dX0_back_42 : decode cX0_back 42 = .ok (.invokevirtual 428, 3) := dk_182 1 172 (dk_at dksX0_back_1 20 rfl rfl)
theorem dX0_back_45 : decode cX0_back 45 = .ok (.aload_n 0, 1) := dk_42 (dk_at dksX0_back_1 23 rfl rfl)
theorem dX0_back_46 : decode cX0_back 46 = .ok (.iconst 0, 1) := dk_3 (dk_at dksX0_back_2 0 rfl rfl)
theorem dX0_back_47 : decode cX0_back 47 = .ok (.invokevirtual 106, 3) := dk_182 0 106 (dk_at dksX0_back_2 1 rfl rfl)
theorem dX0_back_50 : decode cX0_back 50 = .ok (.ireturn, 1) := dk_172 (dk_at dksX0_back_2 4 rfl rfl)
abbrev cX0_count : ByteArray := prog_1_method_79_code
def yX0_count : MethodName := ⟨RX0, "count", "(I)I"⟩
def dkwX0_count_6 : List UInt8 := [172, 2, 172]
abbrev dktX0_count_6 : List UInt8 := dkwX0_count_6 ++ []
def dkwX0_count_5 : List UInt8 := [5, 46, 172, 42, 180, 0, 34, 6, 46, 172, 42, 180, 0, 34, 8, 46, 172, 42, 180, 0, 34, 16, 6, 46]
abbrev dktX0_count_5 : List UInt8 := dkwX0_count_5 ++ dktX0_count_6
def dkwX0_count_4 : List UInt8 := [42, 180, 0, 26, 180, 1, 147, 172, 42, 180, 0, 254, 172, 42, 180, 0, 34, 4, 46, 172, 42, 180, 0, 34]
abbrev dktX0_count_4 : List UInt8 := dkwX0_count_4 ++ dktX0_count_5
def dkwX0_count_3 : List UInt8 := [42, 180, 0, 26, 180, 0, 83, 172, 42, 180, 0, 26, 180, 0, 86, 172, 42, 180, 0, 26, 180, 0, 80, 172]
abbrev dktX0_count_3 : List UInt8 := dkwX0_count_3 ++ dktX0_count_4
def dkwX0_count_2 : List UInt8 := [42, 180, 0, 26, 180, 0, 150, 172, 42, 180, 0, 26, 180, 0, 74, 172, 42, 180, 0, 26, 180, 0, 77, 172]
abbrev dktX0_count_2 : List UInt8 := dkwX0_count_2 ++ dktX0_count_3
def dkwX0_count_1 : List UInt8 := [170, 0, 0, 0, 0, 0, 164, 0, 0, 0, 0, 0, 0, 0, 12, 0, 0, 0, 67, 0, 0, 0, 75, 0, 0, 0, 83, 0, 0, 0, 91, 0, 0, 0, 99, 0, 0, 0, 107, 0, 0, 0, 115, 0, 0, 0, 123, 0, 0, 0, 128, 0, 0, 0, 135, 0, 0, 0, 142, 0, 0, 0, 149, 0, 0, 0, 156]
abbrev dktX0_count_1 : List UInt8 := dkwX0_count_1 ++ dktX0_count_2
def dkwX0_count_0 : List UInt8 := [27]
abbrev dktX0_count_0 : List UInt8 := dkwX0_count_0 ++ dktX0_count_1
theorem dksX0_count_0 : cX0_count.data.toList.drop 0 = dktX0_count_0 := by decide +kernel
theorem dksX0_count_1 : cX0_count.data.toList.drop 1 = dktX0_count_1 := dk_seg dksX0_count_0 1 rfl rfl
theorem dksX0_count_2 : cX0_count.data.toList.drop 68 = dktX0_count_2 := dk_seg dksX0_count_1 67 rfl rfl
theorem dksX0_count_3 : cX0_count.data.toList.drop 92 = dktX0_count_3 := dk_seg dksX0_count_2 24 rfl rfl
theorem dksX0_count_4 : cX0_count.data.toList.drop 116 = dktX0_count_4 := dk_seg dksX0_count_3 24 rfl rfl
theorem dksX0_count_5 : cX0_count.data.toList.drop 140 = dktX0_count_5 := dk_seg dksX0_count_4 24 rfl rfl
theorem dksX0_count_6 : cX0_count.data.toList.drop 164 = dktX0_count_6 := dk_seg dksX0_count_5 24 rfl rfl
theorem dX0_count_0 : decode cX0_count 0 = .ok (.iload_n 1, 1) := dk_27 (dk_at dksX0_count_0 0 rfl rfl)
theorem dX0_count_1 : decode cX0_count 1 = .ok (.tableswitch 164 0 12 #[67, 75, 83, 91, 99, 107, 115, 123, 128, 135, 142, 149, 156], 67) := by decide +kernel
theorem dX0_count_68 : decode cX0_count 68 = .ok (.aload_n 0, 1) := dk_42 (dk_at dksX0_count_2 0 rfl rfl)
theorem dX0_count_69 : decode cX0_count 69 = .ok (.getfield 26, 3) := dk_180 0 26 (dk_at dksX0_count_2 1 rfl rfl)
theorem dX0_count_72 : decode cX0_count 72 = .ok (.getfield 150, 3) := dk_180 0 150 (dk_at dksX0_count_2 4 rfl rfl)
theorem dX0_count_75 : decode cX0_count 75 = .ok (.ireturn, 1) := dk_172 (dk_at dksX0_count_2 7 rfl rfl)
theorem dX0_count_76 : decode cX0_count 76 = .ok (.aload_n 0, 1) := dk_42 (dk_at dksX0_count_2 8 rfl rfl)
theorem dX0_count_77 : decode cX0_count 77 = .ok (.getfield 26, 3) := dk_180 0 26 (dk_at dksX0_count_2 9 rfl rfl)
theorem dX0_count_80 : decode cX0_count 80 = .ok (.getfield 74, 3) := dk_180 0 74 (dk_at dksX0_count_2 12 rfl rfl)
theorem dX0_count_83 : decode cX0_count 83 = .ok (.ireturn, 1) := dk_172 (dk_at dksX0_count_2 15 rfl rfl)
theorem dX0_count_84 : decode cX0_count 84 = .ok (.aload_n 0, 1) := dk_42 (dk_at dksX0_count_2 16 rfl rfl)
theorem dX0_count_85 : decode cX0_count 85 = .ok (.getfield 26, 3) := dk_180 0 26 (dk_at dksX0_count_2 17 rfl rfl)
theorem dX0_count_88 : decode cX0_count 88 = .ok (.getfield 77, 3) := dk_180 0 77 (dk_at dksX0_count_2 20 rfl rfl)
theorem dX0_count_91 : decode cX0_count 91 = .ok (.ireturn, 1) := dk_172 (dk_at dksX0_count_2 23 rfl rfl)
theorem dX0_count_92 : decode cX0_count 92 = .ok (.aload_n 0, 1) := dk_42 (dk_at dksX0_count_3 0 rfl rfl)
theorem dX0_count_93 : decode cX0_count 93 = .ok (.getfield 26, 3) := dk_180 0 26 (dk_at dksX0_count_3 1 rfl rfl)
theorem dX0_count_96 : decode cX0_count 96 = .ok (.getfield 83, 3) := dk_180 0 83 (dk_at dksX0_count_3 4 rfl rfl)
theorem dX0_count_99 : decode cX0_count 99 = .ok (.ireturn, 1) := dk_172 (dk_at dksX0_count_3 7 rfl rfl)
theorem dX0_count_100 : decode cX0_count 100 = .ok (.aload_n 0, 1) := dk_42 (dk_at dksX0_count_3 8 rfl rfl)
theorem dX0_count_101 : decode cX0_count 101 = .ok (.getfield 26, 3) := dk_180 0 26 (dk_at dksX0_count_3 9 rfl rfl)
theorem dX0_count_104 : decode cX0_count 104 = .ok (.getfield 86, 3) := dk_180 0 86 (dk_at dksX0_count_3 12 rfl rfl)
theorem dX0_count_107 : decode cX0_count 107 = .ok (.ireturn, 1) := dk_172 (dk_at dksX0_count_3 15 rfl rfl)
theorem dX0_count_108 : decode cX0_count 108 = .ok (.aload_n 0, 1) := dk_42 (dk_at dksX0_count_3 16 rfl rfl)
theorem dX0_count_109 : decode cX0_count 109 = .ok (.getfield 26, 3) := dk_180 0 26 (dk_at dksX0_count_3 17 rfl rfl)
theorem dX0_count_112 : decode cX0_count 112 = .ok (.getfield 80, 3) := dk_180 0 80 (dk_at dksX0_count_3 20 rfl rfl)
theorem dX0_count_115 : decode cX0_count 115 = .ok (.ireturn, 1) := dk_172 (dk_at dksX0_count_3 23 rfl rfl)
theorem dX0_count_116 : decode cX0_count 116 = .ok (.aload_n 0, 1) := dk_42 (dk_at dksX0_count_4 0 rfl rfl)
theorem dX0_count_117 : decode cX0_count 117 = .ok (.getfield 26, 3) := dk_180 0 26 (dk_at dksX0_count_4 1 rfl rfl)
theorem dX0_count_120 : decode cX0_count 120 = .ok (.getfield 403, 3) := dk_180 1 147 (dk_at dksX0_count_4 4 rfl rfl)
theorem dX0_count_123 : decode cX0_count 123 = .ok (.ireturn, 1) := dk_172 (dk_at dksX0_count_4 7 rfl rfl)
theorem dX0_count_124 : decode cX0_count 124 = .ok (.aload_n 0, 1) := dk_42 (dk_at dksX0_count_4 8 rfl rfl)
theorem dX0_count_125 : decode cX0_count 125 = .ok (.getfield 254, 3) := dk_180 0 254 (dk_at dksX0_count_4 9 rfl rfl)
theorem dX0_count_128 : decode cX0_count 128 = .ok (.ireturn, 1) := dk_172 (dk_at dksX0_count_4 12 rfl rfl)
theorem dX0_count_129 : decode cX0_count 129 = .ok (.aload_n 0, 1) := dk_42 (dk_at dksX0_count_4 13 rfl rfl)
theorem dX0_count_130 : decode cX0_count 130 = .ok (.getfield 34, 3) := dk_180 0 34 (dk_at dksX0_count_4 14 rfl rfl)
theorem dX0_count_133 : decode cX0_count 133 = .ok (.iconst 1, 1) := dk_4 (dk_at dksX0_count_4 17 rfl rfl)
theorem dX0_count_134 : decode cX0_count 134 = .ok (.iaload, 1) := dk_46 (dk_at dksX0_count_4 18 rfl rfl)
theorem dX0_count_135 : decode cX0_count 135 = .ok (.ireturn, 1) := dk_172 (dk_at dksX0_count_4 19 rfl rfl)
theorem dX0_count_136 : decode cX0_count 136 = .ok (.aload_n 0, 1) := dk_42 (dk_at dksX0_count_4 20 rfl rfl)
theorem dX0_count_137 : decode cX0_count 137 = .ok (.getfield 34, 3) := dk_180 0 34 (dk_at dksX0_count_4 21 rfl rfl)
theorem dX0_count_140 : decode cX0_count 140 = .ok (.iconst 2, 1) := dk_5 (dk_at dksX0_count_5 0 rfl rfl)
theorem dX0_count_141 : decode cX0_count 141 = .ok (.iaload, 1) := dk_46 (dk_at dksX0_count_5 1 rfl rfl)
theorem dX0_count_142 : decode cX0_count 142 = .ok (.ireturn, 1) := dk_172 (dk_at dksX0_count_5 2 rfl rfl)
theorem dX0_count_143 : decode cX0_count 143 = .ok (.aload_n 0, 1) := dk_42 (dk_at dksX0_count_5 3 rfl rfl)
theorem dX0_count_144 : decode cX0_count 144 = .ok (.getfield 34, 3) := dk_180 0 34 (dk_at dksX0_count_5 4 rfl rfl)
theorem dX0_count_147 : decode cX0_count 147 = .ok (.iconst 3, 1) := dk_6 (dk_at dksX0_count_5 7 rfl rfl)
theorem dX0_count_148 : decode cX0_count 148 = .ok (.iaload, 1) := dk_46 (dk_at dksX0_count_5 8 rfl rfl)
theorem dX0_count_149 : decode cX0_count 149 = .ok (.ireturn, 1) := dk_172 (dk_at dksX0_count_5 9 rfl rfl)
theorem dX0_count_150 : decode cX0_count 150 = .ok (.aload_n 0, 1) := dk_42 (dk_at dksX0_count_5 10 rfl rfl)
theorem dX0_count_151 : decode cX0_count 151 = .ok (.getfield 34, 3) := dk_180 0 34 (dk_at dksX0_count_5 11 rfl rfl)
theorem dX0_count_154 : decode cX0_count 154 = .ok (.iconst 5, 1) := dk_8 (dk_at dksX0_count_5 14 rfl rfl)
theorem dX0_count_155 : decode cX0_count 155 = .ok (.iaload, 1) := dk_46 (dk_at dksX0_count_5 15 rfl rfl)
theorem dX0_count_156 : decode cX0_count 156 = .ok (.ireturn, 1) := dk_172 (dk_at dksX0_count_5 16 rfl rfl)
theorem dX0_count_157 : decode cX0_count 157 = .ok (.aload_n 0, 1) := dk_42 (dk_at dksX0_count_5 17 rfl rfl)
theorem dX0_count_158 : decode cX0_count 158 = .ok (.getfield 34, 3) := dk_180 0 34 (dk_at dksX0_count_5 18 rfl rfl)
theorem dX0_count_161 : decode cX0_count 161 = .ok (.bipush 6, 2) := dk_16 6 (dk_at dksX0_count_5 21 rfl rfl)
theorem dX0_count_163 : decode cX0_count 163 = .ok (.iaload, 1) := dk_46 (dk_at dksX0_count_5 23 rfl rfl)
theorem dX0_count_164 : decode cX0_count 164 = .ok (.ireturn, 1) := dk_172 (dk_at dksX0_count_6 0 rfl rfl)
theorem dX0_count_165 : decode cX0_count 165 = .ok (.iconst (-1), 1) := dk_2 (dk_at dksX0_count_6 1 rfl rfl)
theorem dX0_count_166 : decode cX0_count 166 = .ok (.ireturn, 1) := dk_172 (dk_at dksX0_count_6 2 rfl rfl)
abbrev cX0_status : ByteArray := prog_1_method_80_code
def yX0_status : MethodName := ⟨RX0, "status", "()I"⟩
theorem dX0_status_0 : decode cX0_status 0 = .ok (.aload_n 0, 1) := by decide +kernel
theorem dX0_status_1 : decode cX0_status 1 = .ok (.getfield 71, 3) := by decide +kernel
theorem dX0_status_4 : decode cX0_status 4 = .ok (.ireturn, 1) := by decide +kernel
theorem q105 : (Jvm.Cond.initialized "BrothFlasks") ∈ lw_all := lw_g (lw_at lw_m1 1 rfl) rfl
theorem q138 : (Jvm.Cond.instantiable "BrothFlasks" (13 : Nat)) ∈ lw_all := lw_g (lw_at lw_m1 34 rfl) rfl
theorem q140 : (Jvm.Cond.instanceMethod ({ cls := "BrothFlasks", name := "<init>", desc := "()V" } : Jvm.MethodName)) ∈ lw_all := lw_g (lw_at lw_m1 36 rfl) rfl
theorem q141 : (Jvm.Cond.code ({ cls := "BrothFlasks", name := "<init>", desc := "()V" } : Jvm.MethodName) prog_1_method_3_code (1 : Nat) (Option.none : Option Jvm.ClassFile.FieldType)) ∈ lw_all := lw_g (lw_at lw_m1 37 rfl) rfl
theorem q142 : (Jvm.Cond.methodLink "BrothFlasks" (17 : Nat) ({ cls := "java/lang/Object", name := "<init>", desc := "()V" } : Jvm.MethodName)) ∈ lw_all := lw_g (lw_at lw_m1 38 rfl) rfl
theorem q145 : (Jvm.Cond.classLink "BrothFlasks" (23 : Nat) "BrothFlasks$Bench") ∈ lw_all := lw_g (lw_at lw_m1 41 rfl) rfl
theorem q147 : (Jvm.Cond.methodLinkNest "BrothFlasks" (25 : Nat) ({ cls := "BrothFlasks$Bench", name := "<init>", desc := "()V" } : Jvm.MethodName) "BrothFlasks") ∈ lw_tbl := lw_at lw_m1 43 rfl
theorem q162 : (Jvm.Cond.fieldLinkNest "BrothFlasks" (150 : Nat) "BrothFlasks$Bench" "now" "I" "BrothFlasks") ∈ lw_tbl := lw_at lw_m1 58 rfl
theorem q164 : (Jvm.Cond.fieldLinkNest "BrothFlasks" (74 : Nat) "BrothFlasks$Bench" "kindMany" "I" "BrothFlasks") ∈ lw_tbl := lw_at lw_m1 60 rfl
theorem q166 : (Jvm.Cond.fieldLinkNest "BrothFlasks" (77 : Nat) "BrothFlasks$Bench" "flaskMany" "I" "BrothFlasks") ∈ lw_tbl := lw_at lw_m1 62 rfl
theorem q168 : (Jvm.Cond.fieldLinkNest "BrothFlasks" (83 : Nat) "BrothFlasks$Bench" "lookMany" "I" "BrothFlasks") ∈ lw_tbl := lw_at lw_m1 64 rfl
theorem q170 : (Jvm.Cond.fieldLinkNest "BrothFlasks" (86 : Nat) "BrothFlasks$Bench" "trialMany" "I" "BrothFlasks") ∈ lw_tbl := lw_at lw_m1 66 rfl
theorem q172 : (Jvm.Cond.fieldLinkNest "BrothFlasks" (80 : Nat) "BrothFlasks$Bench" "textMany" "I" "BrothFlasks") ∈ lw_tbl := lw_at lw_m1 68 rfl
theorem q174 : (Jvm.Cond.fieldLinkNest "BrothFlasks" (403 : Nat) "BrothFlasks$Bench" "ruleMany" "I" "BrothFlasks") ∈ lw_tbl := lw_at lw_m1 70 rfl
theorem q176 : (Jvm.Cond.fieldLinkNest "BrothFlasks" (143 : Nat) "BrothFlasks$Bench" "state" "J" "BrothFlasks") ∈ lw_tbl := lw_at lw_m1 72 rfl
theorem q178 : (Jvm.Cond.fieldLinkNest "BrothFlasks" (97 : Nat) "BrothFlasks$Bench" "kinds" "[LBrothFlasks$Kind;" "BrothFlasks") ∈ lw_tbl := lw_at lw_m1 74 rfl
theorem q180 : (Jvm.Cond.fieldLinkNest "BrothFlasks" (153 : Nat) "BrothFlasks$Bench" "flasks" "[LBrothFlasks$Flask;" "BrothFlasks") ∈ lw_tbl := lw_at lw_m1 76 rfl
theorem q182 : (Jvm.Cond.fieldLinkNest "BrothFlasks" (237 : Nat) "BrothFlasks$Bench" "looks" "[LBrothFlasks$Look;" "BrothFlasks") ∈ lw_tbl := lw_at lw_m1 78 rfl
theorem q184 : (Jvm.Cond.fieldLinkNest "BrothFlasks" (242 : Nat) "BrothFlasks$Bench" "trials" "[LBrothFlasks$Case;" "BrothFlasks") ∈ lw_tbl := lw_at lw_m1 80 rfl
theorem q186 : (Jvm.Cond.fieldLinkNest "BrothFlasks" (276 : Nat) "BrothFlasks$Bench" "texts" "[LBrothFlasks$Text;" "BrothFlasks") ∈ lw_tbl := lw_at lw_m1 82 rfl
theorem q188 : (Jvm.Cond.fieldLinkNest "BrothFlasks" (406 : Nat) "BrothFlasks$Bench" "ruleTrials" "[I" "BrothFlasks") ∈ lw_tbl := lw_at lw_m1 84 rfl
theorem q190 : (Jvm.Cond.fieldLinkNest "BrothFlasks" (409 : Nat) "BrothFlasks$Bench" "ruleMost" "[I" "BrothFlasks") ∈ lw_tbl := lw_at lw_m1 86 rfl
theorem q192 : (Jvm.Cond.fieldLinkNest "BrothFlasks" (109 : Nat) "BrothFlasks$Bench" "genesis" "[I" "BrothFlasks") ∈ lw_tbl := lw_at lw_m1 88 rfl
theorem q194 : (Jvm.Cond.fieldLinkNest "BrothFlasks" (112 : Nat) "BrothFlasks$Bench" "spoils" "[I" "BrothFlasks") ∈ lw_tbl := lw_at lw_m1 90 rfl
theorem q196 : (Jvm.Cond.fieldLinkNest "BrothFlasks" (115 : Nat) "BrothFlasks$Bench" "needs" "[I" "BrothFlasks") ∈ lw_tbl := lw_at lw_m1 92 rfl
theorem q198 : (Jvm.Cond.fieldLinkNest "BrothFlasks" (120 : Nat) "BrothFlasks$Bench" "lets" "[I" "BrothFlasks") ∈ lw_tbl := lw_at lw_m1 94 rfl
theorem q200 : (Jvm.Cond.fieldLinkNest "BrothFlasks" (123 : Nat) "BrothFlasks$Bench" "slips" "[I" "BrothFlasks") ∈ lw_tbl := lw_at lw_m1 96 rfl
theorem q202 : (Jvm.Cond.fieldLinkNest "BrothFlasks" (126 : Nat) "BrothFlasks$Bench" "dust" "[I" "BrothFlasks") ∈ lw_tbl := lw_at lw_m1 98 rfl
theorem q204 : (Jvm.Cond.fieldLinkNest "BrothFlasks" (138 : Nat) "BrothFlasks$Bench" "weights" "[I" "BrothFlasks") ∈ lw_tbl := lw_at lw_m1 100 rfl
theorem q252 : (Jvm.Cond.classLink "BrothFlasks" (38 : Nat) "BrothFlasks$Case") ∈ lw_all := lw_g (lw_at lw_m1 148 rfl) rfl
theorem q254 : (Jvm.Cond.methodLinkNest "BrothFlasks" (40 : Nat) ({ cls := "BrothFlasks$Case", name := "<init>", desc := "()V" } : Jvm.MethodName) "BrothFlasks") ∈ lw_tbl := lw_at lw_m1 150 rfl
theorem q262 : (Jvm.Cond.fieldLink "BrothFlasks" (226 : Nat) "BrothFlasks$Case" "numbers" "[I") ∈ lw_all := lw_g (lw_at lw_m1 158 rfl) rfl
theorem q263 : (Jvm.Cond.fieldLink "BrothFlasks" (266 : Nat) "BrothFlasks$Look" "numbers" "[I") ∈ lw_all := lw_g (lw_at lw_m1 159 rfl) rfl
theorem q276 : (Jvm.Cond.classLink "BrothFlasks" (49 : Nat) "BrothFlasks$Reader") ∈ lw_all := lw_g (lw_at lw_m1 172 rfl) rfl
theorem q278 : (Jvm.Cond.methodLinkNest "BrothFlasks" (51 : Nat) ({ cls := "BrothFlasks$Reader", name := "<init>", desc := "(LBrothFlasks;)V" } : Jvm.MethodName) "BrothFlasks") ∈ lw_tbl := lw_at lw_m1 174 rfl
theorem q339 : (Jvm.Cond.fieldLink "BrothFlasks" (26 : Nat) "BrothFlasks" "bench" "LBrothFlasks$Bench;") ∈ lw_all := lw_g (lw_at lw_m1 235 rfl) rfl
theorem q340 : (Jvm.Cond.fieldLink "BrothFlasks" (30 : Nat) "BrothFlasks" "images" "[LBrothFlasks$Bench;") ∈ lw_all := lw_g (lw_at lw_m1 236 rfl) rfl
theorem q341 : (Jvm.Cond.fieldLink "BrothFlasks" (34 : Nat) "BrothFlasks" "refusals" "[I") ∈ lw_all := lw_g (lw_at lw_m1 237 rfl) rfl
theorem q342 : (Jvm.Cond.fieldLink "BrothFlasks" (71 : Nat) "BrothFlasks" "status" "I") ∈ lw_all := lw_g (lw_at lw_m1 238 rfl) rfl
theorem q343 : (Jvm.Cond.fieldLink "BrothFlasks" (41 : Nat) "BrothFlasks" "shown" "LBrothFlasks$Case;") ∈ lw_all := lw_g (lw_at lw_m1 239 rfl) rfl
theorem q345 : (Jvm.Cond.fieldLink "BrothFlasks" (45 : Nat) "BrothFlasks" "tape" "[B") ∈ lw_all := lw_g (lw_at lw_m2 1 rfl) rfl
theorem q347 : (Jvm.Cond.fieldLink "BrothFlasks" (254 : Nat) "BrothFlasks" "taped" "I") ∈ lw_all := lw_g (lw_at lw_m2 3 rfl) rfl
theorem q348 : (Jvm.Cond.fieldLink "BrothFlasks" (54 : Nat) "BrothFlasks" "reader" "LBrothFlasks$Reader;") ∈ lw_all := lw_g (lw_at lw_m2 4 rfl) rfl
theorem q349 : (Jvm.Cond.fieldLink "BrothFlasks" (58 : Nat) "BrothFlasks" "fault" "I") ∈ lw_all := lw_g (lw_at lw_m2 5 rfl) rfl
theorem q350 : (Jvm.Cond.fieldLink "BrothFlasks" (62 : Nat) "BrothFlasks" "turnedBy" "[I") ∈ lw_all := lw_g (lw_at lw_m2 6 rfl) rfl
theorem q351 : (Jvm.Cond.fieldLink "BrothFlasks" (65 : Nat) "BrothFlasks" "fewest" "[I") ∈ lw_all := lw_g (lw_at lw_m2 7 rfl) rfl
theorem q352 : (Jvm.Cond.fieldLink "BrothFlasks" (68 : Nat) "BrothFlasks" "changed" "LBrothFlasks$Case;") ∈ lw_all := lw_g (lw_at lw_m2 8 rfl) rfl
theorem q353 : (Jvm.Cond.fieldLink "BrothFlasks" (412 : Nat) "BrothFlasks" "lower" "J") ∈ lw_all := lw_g (lw_at lw_m2 9 rfl) rfl
theorem q354 : (Jvm.Cond.laysFinal "BrothFlasks" "BrothFlasks" "bench" "LBrothFlasks$Bench;") ∈ lw_all := lw_g (lw_at lw_m2 10 rfl) rfl
theorem q355 : (Jvm.Cond.soleField "BrothFlasks" "bench") ∈ lw_all := lw_g (lw_at lw_m2 11 rfl) rfl
theorem q356 : (Jvm.Cond.laysFinal "BrothFlasks" "BrothFlasks" "images" "[LBrothFlasks$Bench;") ∈ lw_all := lw_g (lw_at lw_m2 12 rfl) rfl
theorem q357 : (Jvm.Cond.soleField "BrothFlasks" "images") ∈ lw_all := lw_g (lw_at lw_m2 13 rfl) rfl
theorem q358 : (Jvm.Cond.laysFinal "BrothFlasks" "BrothFlasks" "refusals" "[I") ∈ lw_all := lw_g (lw_at lw_m2 14 rfl) rfl
theorem q359 : (Jvm.Cond.soleField "BrothFlasks" "refusals") ∈ lw_all := lw_g (lw_at lw_m2 15 rfl) rfl
theorem q360 : (Jvm.Cond.lays "BrothFlasks" "BrothFlasks" "status" "I") ∈ lw_all := lw_g (lw_at lw_m2 16 rfl) rfl
theorem q361 : (Jvm.Cond.soleField "BrothFlasks" "status") ∈ lw_all := lw_g (lw_at lw_m2 17 rfl) rfl
theorem q362 : (Jvm.Cond.laysFinal "BrothFlasks" "BrothFlasks" "shown" "LBrothFlasks$Case;") ∈ lw_all := lw_g (lw_at lw_m2 18 rfl) rfl
theorem q363 : (Jvm.Cond.soleField "BrothFlasks" "shown") ∈ lw_all := lw_g (lw_at lw_m2 19 rfl) rfl
theorem q364 : (Jvm.Cond.laysFinal "BrothFlasks" "BrothFlasks" "tape" "[B") ∈ lw_all := lw_g (lw_at lw_m2 20 rfl) rfl
theorem q365 : (Jvm.Cond.soleField "BrothFlasks" "tape") ∈ lw_all := lw_g (lw_at lw_m2 21 rfl) rfl
theorem q366 : (Jvm.Cond.lays "BrothFlasks" "BrothFlasks" "taped" "I") ∈ lw_all := lw_g (lw_at lw_m2 22 rfl) rfl
theorem q367 : (Jvm.Cond.soleField "BrothFlasks" "taped") ∈ lw_all := lw_g (lw_at lw_m2 23 rfl) rfl
theorem q368 : (Jvm.Cond.laysFinal "BrothFlasks" "BrothFlasks" "reader" "LBrothFlasks$Reader;") ∈ lw_all := lw_g (lw_at lw_m2 24 rfl) rfl
theorem q369 : (Jvm.Cond.soleField "BrothFlasks" "reader") ∈ lw_all := lw_g (lw_at lw_m2 25 rfl) rfl
theorem q370 : (Jvm.Cond.lays "BrothFlasks" "BrothFlasks" "fault" "I") ∈ lw_all := lw_g (lw_at lw_m2 26 rfl) rfl
theorem q371 : (Jvm.Cond.soleField "BrothFlasks" "fault") ∈ lw_all := lw_g (lw_at lw_m2 27 rfl) rfl
theorem q372 : (Jvm.Cond.laysFinal "BrothFlasks" "BrothFlasks" "turnedBy" "[I") ∈ lw_all := lw_g (lw_at lw_m2 28 rfl) rfl
theorem q373 : (Jvm.Cond.soleField "BrothFlasks" "turnedBy") ∈ lw_all := lw_g (lw_at lw_m2 29 rfl) rfl
theorem q374 : (Jvm.Cond.laysFinal "BrothFlasks" "BrothFlasks" "fewest" "[I") ∈ lw_all := lw_g (lw_at lw_m2 30 rfl) rfl
theorem q375 : (Jvm.Cond.soleField "BrothFlasks" "fewest") ∈ lw_all := lw_g (lw_at lw_m2 31 rfl) rfl
theorem q376 : (Jvm.Cond.laysFinal "BrothFlasks" "BrothFlasks" "changed" "LBrothFlasks$Case;") ∈ lw_all := lw_g (lw_at lw_m2 32 rfl) rfl
theorem q377 : (Jvm.Cond.soleField "BrothFlasks" "changed") ∈ lw_all := lw_g (lw_at lw_m2 33 rfl) rfl
theorem q378 : (Jvm.Cond.lays "BrothFlasks" "BrothFlasks" "lower" "J") ∈ lw_all := lw_g (lw_at lw_m2 34 rfl) rfl
theorem q379 : (Jvm.Cond.soleField "BrothFlasks" "lower") ∈ lw_all := lw_g (lw_at lw_m2 35 rfl) rfl
theorem q380 : (Jvm.Cond.superclass "BrothFlasks" "java/lang/Object") ∈ lw_all := lw_g (lw_at lw_m2 36 rfl) rfl
theorem q382 : (Jvm.Cond.instanceMethod ({ cls := "BrothFlasks", name := "kind", desc := "(IIIIII)I" } : Jvm.MethodName)) ∈ lw_all := lw_g (lw_at lw_m2 38 rfl) rfl
theorem q383 : (Jvm.Cond.selects "BrothFlasks" ({ cls := "BrothFlasks", name := "kind", desc := "(IIIIII)I" } : Jvm.MethodName) ({ cls := "BrothFlasks", name := "kind", desc := "(IIIIII)I" } : Jvm.MethodName)) ∈ lw_all := lw_g (lw_at lw_m2 39 rfl) rfl
theorem q384 : (Jvm.Cond.code ({ cls := "BrothFlasks", name := "kind", desc := "(IIIIII)I" } : Jvm.MethodName) prog_1_method_13_code (7 : Nat) (Option.some Jvm.ClassFile.FieldType.int)) ∈ lw_all := lw_g (lw_at lw_m2 40 rfl) rfl
theorem q385 : (Jvm.Cond.constantLong "BrothFlasks" (9 : Nat) (7 : Int64)) ∈ lw_all := lw_g (lw_at lw_m2 41 rfl) rfl
theorem q386 : (Jvm.Cond.methodLink "BrothFlasks" (5 : Nat) ({ cls := "BrothFlasks", name := "in", desc := "(JJJ)Z" } : Jvm.MethodName)) ∈ lw_all := lw_g (lw_at lw_m2 42 rfl) rfl
theorem q387 : (Jvm.Cond.static ({ cls := "BrothFlasks", name := "in", desc := "(JJJ)Z" } : Jvm.MethodName)) ∈ lw_all := lw_g (lw_at lw_m2 43 rfl) rfl
theorem q388 : (Jvm.Cond.code ({ cls := "BrothFlasks", name := "in", desc := "(JJJ)Z" } : Jvm.MethodName) prog_1_method_1_code (6 : Nat) (Option.some Jvm.ClassFile.FieldType.boolean)) ∈ lw_all := lw_g (lw_at lw_m2 44 rfl) rfl
theorem q389 : (Jvm.Cond.constantLong "BrothFlasks" (15 : Nat) (255 : Int64)) ∈ lw_all := lw_g (lw_at lw_m2 45 rfl) rfl
theorem q390 : (Jvm.Cond.constantLong "BrothFlasks" (89 : Nat) (63 : Int64)) ∈ lw_all := lw_g (lw_at lw_m2 46 rfl) rfl
theorem q391 : (Jvm.Cond.constantLong "BrothFlasks" (91 : Nat) (100 : Int64)) ∈ lw_all := lw_g (lw_at lw_m2 47 rfl) rfl
theorem q392 : (Jvm.Cond.constantLong "BrothFlasks" (13 : Nat) (3 : Int64)) ∈ lw_all := lw_g (lw_at lw_m2 48 rfl) rfl
theorem q393 : (Jvm.Cond.methodLink "BrothFlasks" (93 : Nat) ({ cls := "BrothFlasks", name := "refuse", desc := "(I)I" } : Jvm.MethodName)) ∈ lw_all := lw_g (lw_at lw_m2 49 rfl) rfl
theorem q394 : (Jvm.Cond.privateMethod ({ cls := "BrothFlasks", name := "refuse", desc := "(I)I" } : Jvm.MethodName)) ∈ lw_tbl := lw_at lw_m2 50 rfl
theorem q395 : (Jvm.Cond.instanceMethod ({ cls := "BrothFlasks", name := "refuse", desc := "(I)I" } : Jvm.MethodName)) ∈ lw_all := lw_g (lw_at lw_m2 51 rfl) rfl
theorem q396 : (Jvm.Cond.code ({ cls := "BrothFlasks", name := "refuse", desc := "(I)I" } : Jvm.MethodName) prog_1_method_4_code (2 : Nat) (Option.some Jvm.ClassFile.FieldType.int)) ∈ lw_all := lw_g (lw_at lw_m2 52 rfl) rfl
theorem q397 : (Jvm.Cond.classLink "BrothFlasks" (101 : Nat) "BrothFlasks$Kind") ∈ lw_all := lw_g (lw_at lw_m2 53 rfl) rfl
theorem q399 : (Jvm.Cond.methodLink "BrothFlasks" (103 : Nat) ({ cls := "BrothFlasks$Kind", name := "<init>", desc := "(IIIIZI)V" } : Jvm.MethodName)) ∈ lw_all := lw_g (lw_at lw_m2 55 rfl) rfl
theorem q409 : (Jvm.Cond.fieldLinkNest "BrothFlasks" (425 : Nat) "BrothFlasks$Kind" "shape" "I" "BrothFlasks") ∈ lw_tbl := lw_at lw_m2 65 rfl
theorem q425 : (Jvm.Cond.methodLink "BrothFlasks" (106 : Nat) ({ cls := "BrothFlasks", name := "done", desc := "(I)I" } : Jvm.MethodName)) ∈ lw_all := lw_g (lw_at lw_m2 81 rfl) rfl
theorem q426 : (Jvm.Cond.privateMethod ({ cls := "BrothFlasks", name := "done", desc := "(I)I" } : Jvm.MethodName)) ∈ lw_tbl := lw_at lw_m2 82 rfl
theorem q427 : (Jvm.Cond.instanceMethod ({ cls := "BrothFlasks", name := "done", desc := "(I)I" } : Jvm.MethodName)) ∈ lw_all := lw_g (lw_at lw_m2 83 rfl) rfl
theorem q428 : (Jvm.Cond.code ({ cls := "BrothFlasks", name := "done", desc := "(I)I" } : Jvm.MethodName) prog_1_method_5_code (2 : Nat) (Option.some Jvm.ClassFile.FieldType.int)) ∈ lw_all := lw_g (lw_at lw_m2 84 rfl) rfl
theorem q430 : (Jvm.Cond.instanceMethod ({ cls := "BrothFlasks", name := "broth", desc := "(IIII)I" } : Jvm.MethodName)) ∈ lw_all := lw_g (lw_at lw_m2 86 rfl) rfl
theorem q431 : (Jvm.Cond.selects "BrothFlasks" ({ cls := "BrothFlasks", name := "broth", desc := "(IIII)I" } : Jvm.MethodName) ({ cls := "BrothFlasks", name := "broth", desc := "(IIII)I" } : Jvm.MethodName)) ∈ lw_all := lw_g (lw_at lw_m2 87 rfl) rfl
theorem q432 : (Jvm.Cond.code ({ cls := "BrothFlasks", name := "broth", desc := "(IIII)I" } : Jvm.MethodName) prog_1_method_14_code (5 : Nat) (Option.some Jvm.ClassFile.FieldType.int)) ∈ lw_all := lw_g (lw_at lw_m2 88 rfl) rfl
theorem q433 : (Jvm.Cond.constantLong "BrothFlasks" (3 : Nat) (5 : Int64)) ∈ lw_all := lw_g (lw_at lw_m2 89 rfl) rfl
theorem q435 : (Jvm.Cond.instanceMethod ({ cls := "BrothFlasks", name := "lets", desc := "(III)I" } : Jvm.MethodName)) ∈ lw_all := lw_g (lw_at lw_m2 91 rfl) rfl
theorem q436 : (Jvm.Cond.selects "BrothFlasks" ({ cls := "BrothFlasks", name := "lets", desc := "(III)I" } : Jvm.MethodName) ({ cls := "BrothFlasks", name := "lets", desc := "(III)I" } : Jvm.MethodName)) ∈ lw_all := lw_g (lw_at lw_m2 92 rfl) rfl
theorem q437 : (Jvm.Cond.code ({ cls := "BrothFlasks", name := "lets", desc := "(III)I" } : Jvm.MethodName) prog_1_method_15_code (6 : Nat) (Option.some Jvm.ClassFile.FieldType.int)) ∈ lw_all := lw_g (lw_at lw_m2 93 rfl) rfl
theorem q438 : (Jvm.Cond.constantLong "BrothFlasks" (118 : Nat) (2 : Int64)) ∈ lw_all := lw_g (lw_at lw_m2 94 rfl) rfl
theorem q439 : (Jvm.Cond.constantLong "BrothFlasks" (11 : Nat) (11 : Int64)) ∈ lw_all := lw_g (lw_at lw_m2 95 rfl) rfl
theorem q441 : (Jvm.Cond.instanceMethod ({ cls := "BrothFlasks", name := "weigh", desc := "(III)I" } : Jvm.MethodName)) ∈ lw_all := lw_g (lw_at lw_m2 97 rfl) rfl
theorem q442 : (Jvm.Cond.selects "BrothFlasks" ({ cls := "BrothFlasks", name := "weigh", desc := "(III)I" } : Jvm.MethodName) ({ cls := "BrothFlasks", name := "weigh", desc := "(III)I" } : Jvm.MethodName)) ∈ lw_all := lw_g (lw_at lw_m2 98 rfl) rfl
theorem q443 : (Jvm.Cond.code ({ cls := "BrothFlasks", name := "weigh", desc := "(III)I" } : Jvm.MethodName) prog_1_method_16_code (5 : Nat) (Option.some Jvm.ClassFile.FieldType.int)) ∈ lw_all := lw_g (lw_at lw_m2 99 rfl) rfl
theorem q444 : (Jvm.Cond.methodLink "BrothFlasks" (129 : Nat) ({ cls := "BrothFlasks", name := "isPlace", desc := "(I)Z" } : Jvm.MethodName)) ∈ lw_all := lw_g (lw_at lw_m2 100 rfl) rfl
theorem q445 : (Jvm.Cond.static ({ cls := "BrothFlasks", name := "isPlace", desc := "(I)Z" } : Jvm.MethodName)) ∈ lw_all := lw_g (lw_at lw_m2 101 rfl) rfl
theorem q446 : (Jvm.Cond.code ({ cls := "BrothFlasks", name := "isPlace", desc := "(I)Z" } : Jvm.MethodName) prog_1_method_11_code (1 : Nat) (Option.some Jvm.ClassFile.FieldType.boolean)) ∈ lw_all := lw_g (lw_at lw_m2 102 rfl) rfl
theorem q447 : (Jvm.Cond.constantLong "BrothFlasks" (133 : Nat) (1000 : Int64)) ∈ lw_all := lw_g (lw_at lw_m2 103 rfl) rfl
theorem q448 : (Jvm.Cond.methodLink "BrothFlasks" (135 : Nat) ({ cls := "BrothFlasks", name := "isKind", desc := "(I)Z" } : Jvm.MethodName)) ∈ lw_all := lw_g (lw_at lw_m2 104 rfl) rfl
theorem q449 : (Jvm.Cond.privateMethod ({ cls := "BrothFlasks", name := "isKind", desc := "(I)Z" } : Jvm.MethodName)) ∈ lw_tbl := lw_at lw_m2 105 rfl
theorem q450 : (Jvm.Cond.instanceMethod ({ cls := "BrothFlasks", name := "isKind", desc := "(I)Z" } : Jvm.MethodName)) ∈ lw_all := lw_g (lw_at lw_m2 106 rfl) rfl
theorem q451 : (Jvm.Cond.code ({ cls := "BrothFlasks", name := "isKind", desc := "(I)Z" } : Jvm.MethodName) prog_1_method_6_code (2 : Nat) (Option.some Jvm.ClassFile.FieldType.boolean)) ∈ lw_all := lw_g (lw_at lw_m2 107 rfl) rfl
theorem q453 : (Jvm.Cond.instanceMethod ({ cls := "BrothFlasks", name := "seed", desc := "(I)I" } : Jvm.MethodName)) ∈ lw_all := lw_g (lw_at lw_m2 109 rfl) rfl
theorem q454 : (Jvm.Cond.selects "BrothFlasks" ({ cls := "BrothFlasks", name := "seed", desc := "(I)I" } : Jvm.MethodName) ({ cls := "BrothFlasks", name := "seed", desc := "(I)I" } : Jvm.MethodName)) ∈ lw_all := lw_g (lw_at lw_m2 110 rfl) rfl
theorem q455 : (Jvm.Cond.code ({ cls := "BrothFlasks", name := "seed", desc := "(I)I" } : Jvm.MethodName) prog_1_method_17_code (2 : Nat) (Option.some Jvm.ClassFile.FieldType.int)) ∈ lw_all := lw_g (lw_at lw_m2 111 rfl) rfl
theorem q456 : (Jvm.Cond.constantLong "BrothFlasks" (141 : Nat) (1000000 : Int64)) ∈ lw_all := lw_g (lw_at lw_m2 112 rfl) rfl
theorem q458 : (Jvm.Cond.instanceMethod ({ cls := "BrothFlasks", name := "flask", desc := "(IIII)I" } : Jvm.MethodName)) ∈ lw_all := lw_g (lw_at lw_m2 114 rfl) rfl
theorem q459 : (Jvm.Cond.selects "BrothFlasks" ({ cls := "BrothFlasks", name := "flask", desc := "(IIII)I" } : Jvm.MethodName) ({ cls := "BrothFlasks", name := "flask", desc := "(IIII)I" } : Jvm.MethodName)) ∈ lw_all := lw_g (lw_at lw_m2 115 rfl) rfl
theorem q460 : (Jvm.Cond.code ({ cls := "BrothFlasks", name := "flask", desc := "(IIII)I" } : Jvm.MethodName) prog_1_method_18_code (6 : Nat) (Option.some Jvm.ClassFile.FieldType.int)) ∈ lw_all := lw_g (lw_at lw_m2 116 rfl) rfl
theorem q461 : (Jvm.Cond.methodLink "BrothFlasks" (147 : Nat) ({ cls := "BrothFlasks", name := "isHand", desc := "(I)Z" } : Jvm.MethodName)) ∈ lw_all := lw_g (lw_at lw_m2 117 rfl) rfl
theorem q462 : (Jvm.Cond.static ({ cls := "BrothFlasks", name := "isHand", desc := "(I)Z" } : Jvm.MethodName)) ∈ lw_all := lw_g (lw_at lw_m2 118 rfl) rfl
theorem q463 : (Jvm.Cond.code ({ cls := "BrothFlasks", name := "isHand", desc := "(I)Z" } : Jvm.MethodName) prog_1_method_12_code (1 : Nat) (Option.some Jvm.ClassFile.FieldType.boolean)) ∈ lw_all := lw_g (lw_at lw_m2 119 rfl) rfl
theorem q464 : (Jvm.Cond.classLink "BrothFlasks" (157 : Nat) "BrothFlasks$Swan") ∈ lw_all := lw_g (lw_at lw_m2 120 rfl) rfl
theorem q466 : (Jvm.Cond.methodLink "BrothFlasks" (159 : Nat) ({ cls := "BrothFlasks$Swan", name := "<init>", desc := "(IIII)V" } : Jvm.MethodName)) ∈ lw_all := lw_g (lw_at lw_m2 122 rfl) rfl
theorem q490 : (Jvm.Cond.fieldLink "BrothFlasks" (185 : Nat) "BrothFlasks$Flask" "sort" "I") ∈ lw_all := lw_g (lw_at lw_m2 146 rfl) rfl
theorem q506 : (Jvm.Cond.fieldLink "BrothFlasks" (217 : Nat) "BrothFlasks$Flask" "made" "I") ∈ lw_all := lw_g (lw_at lw_m2 162 rfl) rfl
theorem q515 : (Jvm.Cond.fieldLink "BrothFlasks" (182 : Nat) "BrothFlasks$Flask" "place" "I") ∈ lw_all := lw_g (lw_at lw_m2 171 rfl) rfl
theorem q521 : (Jvm.Cond.fieldLink "BrothFlasks" (188 : Nat) "BrothFlasks$Flask" "openTo" "I") ∈ lw_all := lw_g (lw_at lw_m2 177 rfl) rfl
theorem q528 : (Jvm.Cond.fieldLink "BrothFlasks" (195 : Nat) "BrothFlasks$Flask" "tippedOn" "I") ∈ lw_all := lw_g (lw_at lw_m2 184 rfl) rfl
theorem q531 : (Jvm.Cond.fieldLink "BrothFlasks" (214 : Nat) "BrothFlasks$Flask" "by" "I") ∈ lw_all := lw_g (lw_at lw_m2 187 rfl) rfl
theorem q534 : (Jvm.Cond.fieldLink "BrothFlasks" (223 : Nat) "BrothFlasks$Flask" "turnedOn" "I") ∈ lw_all := lw_g (lw_at lw_m2 190 rfl) rfl
theorem q537 : (Jvm.Cond.fieldLink "BrothFlasks" (179 : Nat) "BrothFlasks$Flask" "many" "I") ∈ lw_all := lw_g (lw_at lw_m2 193 rfl) rfl
theorem q539 : (Jvm.Cond.fieldLink "BrothFlasks" (198 : Nat) "BrothFlasks$Flask" "isTipped" "Z") ∈ lw_all := lw_g (lw_at lw_m2 195 rfl) rfl
theorem q542 : (Jvm.Cond.fieldLink "BrothFlasks" (211 : Nat) "BrothFlasks$Flask" "isTurned" "Z") ∈ lw_all := lw_g (lw_at lw_m2 198 rfl) rfl
theorem q586 : (Jvm.Cond.classLink "BrothFlasks" (162 : Nat) "BrothFlasks$Airy") ∈ lw_all := lw_g (lw_at lw_m3 2 rfl) rfl
theorem q588 : (Jvm.Cond.methodLink "BrothFlasks" (164 : Nat) ({ cls := "BrothFlasks$Airy", name := "<init>", desc := "(IIIII)V" } : Jvm.MethodName)) ∈ lw_all := lw_g (lw_at lw_m3 4 rfl) rfl
theorem q609 : (Jvm.Cond.classLink "BrothFlasks" (167 : Nat) "BrothFlasks$Shut") ∈ lw_all := lw_g (lw_at lw_m3 25 rfl) rfl
theorem q611 : (Jvm.Cond.methodLink "BrothFlasks" (169 : Nat) ({ cls := "BrothFlasks$Shut", name := "<init>", desc := "(IIIII)V" } : Jvm.MethodName)) ∈ lw_all := lw_g (lw_at lw_m3 27 rfl) rfl
theorem q636 : (Jvm.Cond.instanceMethod ({ cls := "BrothFlasks", name := "heat", desc := "(III)I" } : Jvm.MethodName)) ∈ lw_all := lw_g (lw_at lw_m3 52 rfl) rfl
theorem q637 : (Jvm.Cond.selects "BrothFlasks" ({ cls := "BrothFlasks", name := "heat", desc := "(III)I" } : Jvm.MethodName) ({ cls := "BrothFlasks", name := "heat", desc := "(III)I" } : Jvm.MethodName)) ∈ lw_all := lw_g (lw_at lw_m3 53 rfl) rfl
theorem q638 : (Jvm.Cond.code ({ cls := "BrothFlasks", name := "heat", desc := "(III)I" } : Jvm.MethodName) prog_1_method_19_code (4 : Nat) (Option.some Jvm.ClassFile.FieldType.int)) ∈ lw_all := lw_g (lw_at lw_m3 54 rfl) rfl
theorem q639 : (Jvm.Cond.methodLink "BrothFlasks" (170 : Nat) ({ cls := "BrothFlasks", name := "isFlask", desc := "(I)Z" } : Jvm.MethodName)) ∈ lw_all := lw_g (lw_at lw_m3 55 rfl) rfl
theorem q640 : (Jvm.Cond.privateMethod ({ cls := "BrothFlasks", name := "isFlask", desc := "(I)Z" } : Jvm.MethodName)) ∈ lw_tbl := lw_at lw_m3 56 rfl
theorem q641 : (Jvm.Cond.instanceMethod ({ cls := "BrothFlasks", name := "isFlask", desc := "(I)Z" } : Jvm.MethodName)) ∈ lw_all := lw_g (lw_at lw_m3 57 rfl) rfl
theorem q642 : (Jvm.Cond.code ({ cls := "BrothFlasks", name := "isFlask", desc := "(I)Z" } : Jvm.MethodName) prog_1_method_7_code (2 : Nat) (Option.some Jvm.ClassFile.FieldType.boolean)) ∈ lw_all := lw_g (lw_at lw_m3 58 rfl) rfl
theorem q643 : (Jvm.Cond.methodLink "BrothFlasks" (173 : Nat) ({ cls := "BrothFlasks$Flask", name := "heat", desc := "(III[LBrothFlasks$Kind;)V" } : Jvm.MethodName)) ∈ lw_all := lw_g (lw_at lw_m3 59 rfl) rfl
theorem q655 : (Jvm.Cond.instanceMethod ({ cls := "BrothFlasks", name := "move", desc := "(II)I" } : Jvm.MethodName)) ∈ lw_all := lw_g (lw_at lw_m3 71 rfl) rfl
theorem q656 : (Jvm.Cond.selects "BrothFlasks" ({ cls := "BrothFlasks", name := "move", desc := "(II)I" } : Jvm.MethodName) ({ cls := "BrothFlasks", name := "move", desc := "(II)I" } : Jvm.MethodName)) ∈ lw_all := lw_g (lw_at lw_m3 72 rfl) rfl
theorem q657 : (Jvm.Cond.code ({ cls := "BrothFlasks", name := "move", desc := "(II)I" } : Jvm.MethodName) prog_1_method_20_code (3 : Nat) (Option.some Jvm.ClassFile.FieldType.int)) ∈ lw_all := lw_g (lw_at lw_m3 73 rfl) rfl
theorem q659 : (Jvm.Cond.instanceMethod ({ cls := "BrothFlasks", name := "open", desc := "(II)I" } : Jvm.MethodName)) ∈ lw_all := lw_g (lw_at lw_m3 75 rfl) rfl
theorem q660 : (Jvm.Cond.selects "BrothFlasks" ({ cls := "BrothFlasks", name := "open", desc := "(II)I" } : Jvm.MethodName) ({ cls := "BrothFlasks", name := "open", desc := "(II)I" } : Jvm.MethodName)) ∈ lw_all := lw_g (lw_at lw_m3 76 rfl) rfl
theorem q661 : (Jvm.Cond.code ({ cls := "BrothFlasks", name := "open", desc := "(II)I" } : Jvm.MethodName) prog_1_method_21_code (3 : Nat) (Option.some Jvm.ClassFile.FieldType.int)) ∈ lw_all := lw_g (lw_at lw_m3 77 rfl) rfl
theorem q663 : (Jvm.Cond.instanceMethod ({ cls := "BrothFlasks", name := "tip", desc := "(I)I" } : Jvm.MethodName)) ∈ lw_all := lw_g (lw_at lw_m3 79 rfl) rfl
theorem q664 : (Jvm.Cond.selects "BrothFlasks" ({ cls := "BrothFlasks", name := "tip", desc := "(I)I" } : Jvm.MethodName) ({ cls := "BrothFlasks", name := "tip", desc := "(I)I" } : Jvm.MethodName)) ∈ lw_all := lw_g (lw_at lw_m3 80 rfl) rfl
theorem q665 : (Jvm.Cond.code ({ cls := "BrothFlasks", name := "tip", desc := "(I)I" } : Jvm.MethodName) prog_1_method_22_code (2 : Nat) (Option.some Jvm.ClassFile.FieldType.int)) ∈ lw_all := lw_g (lw_at lw_m3 81 rfl) rfl
theorem q666 : (Jvm.Cond.methodLink "BrothFlasks" (191 : Nat) ({ cls := "BrothFlasks$Flask", name := "mayTip", desc := "()Z" } : Jvm.MethodName)) ∈ lw_all := lw_g (lw_at lw_m3 82 rfl) rfl
theorem q676 : (Jvm.Cond.instanceMethod ({ cls := "BrothFlasks", name := "go", desc := "(I)I" } : Jvm.MethodName)) ∈ lw_all := lw_g (lw_at lw_m3 92 rfl) rfl
theorem q677 : (Jvm.Cond.selects "BrothFlasks" ({ cls := "BrothFlasks", name := "go", desc := "(I)I" } : Jvm.MethodName) ({ cls := "BrothFlasks", name := "go", desc := "(I)I" } : Jvm.MethodName)) ∈ lw_all := lw_g (lw_at lw_m3 93 rfl) rfl
theorem q678 : (Jvm.Cond.code ({ cls := "BrothFlasks", name := "go", desc := "(I)I" } : Jvm.MethodName) prog_1_method_23_code (3 : Nat) (Option.some Jvm.ClassFile.FieldType.int)) ∈ lw_all := lw_g (lw_at lw_m3 94 rfl) rfl
theorem q679 : (Jvm.Cond.methodLink "BrothFlasks" (202 : Nat) ({ cls := "BrothFlasks$Bench", name := "day", desc := "()V" } : Jvm.MethodName)) ∈ lw_all := lw_g (lw_at lw_m3 95 rfl) rfl
theorem q727 : (Jvm.Cond.instanceMethod ({ cls := "BrothFlasks", name := "tells", desc := "(II)I" } : Jvm.MethodName)) ∈ lw_all := lw_g (lw_at lw_m3 143 rfl) rfl
theorem q728 : (Jvm.Cond.selects "BrothFlasks" ({ cls := "BrothFlasks", name := "tells", desc := "(II)I" } : Jvm.MethodName) ({ cls := "BrothFlasks", name := "tells", desc := "(II)I" } : Jvm.MethodName)) ∈ lw_all := lw_g (lw_at lw_m3 144 rfl) rfl
theorem q729 : (Jvm.Cond.code ({ cls := "BrothFlasks", name := "tells", desc := "(II)I" } : Jvm.MethodName) prog_1_method_24_code (4 : Nat) (Option.some Jvm.ClassFile.FieldType.int)) ∈ lw_all := lw_g (lw_at lw_m3 145 rfl) rfl
theorem q730 : (Jvm.Cond.constantLong "BrothFlasks" (205 : Nat) (14 : Int64)) ∈ lw_all := lw_g (lw_at lw_m3 146 rfl) rfl
theorem q731 : (Jvm.Cond.methodLink "BrothFlasks" (207 : Nat) ({ cls := "BrothFlasks$Flask", name := "fill", desc := "(LBrothFlasks$Case;I)V" } : Jvm.MethodName)) ∈ lw_all := lw_g (lw_at lw_m3 147 rfl) rfl
theorem q739 : (Jvm.Cond.methodLink "BrothFlasks" (220 : Nat) ({ cls := "BrothFlasks$Flask", name := "hasAir", desc := "()Z" } : Jvm.MethodName)) ∈ lw_all := lw_g (lw_at lw_m3 155 rfl) rfl
theorem q741 : (Jvm.Cond.instanceMethod ({ cls := "BrothFlasks", name := "look", desc := "(I)I" } : Jvm.MethodName)) ∈ lw_all := lw_g (lw_at lw_m3 157 rfl) rfl
theorem q742 : (Jvm.Cond.selects "BrothFlasks" ({ cls := "BrothFlasks", name := "look", desc := "(I)I" } : Jvm.MethodName) ({ cls := "BrothFlasks", name := "look", desc := "(I)I" } : Jvm.MethodName)) ∈ lw_all := lw_g (lw_at lw_m3 158 rfl) rfl
theorem q743 : (Jvm.Cond.code ({ cls := "BrothFlasks", name := "look", desc := "(I)I" } : Jvm.MethodName) prog_1_method_27_code (2 : Nat) (Option.some Jvm.ClassFile.FieldType.int)) ∈ lw_all := lw_g (lw_at lw_m3 159 rfl) rfl
theorem q744 : (Jvm.Cond.methodLink "BrothFlasks" (246 : Nat) ({ cls := "BrothFlasks", name := "addLook", desc := "(LBrothFlasks$Case;Z)I" } : Jvm.MethodName)) ∈ lw_all := lw_g (lw_at lw_m3 160 rfl) rfl
theorem q745 : (Jvm.Cond.privateMethod ({ cls := "BrothFlasks", name := "addLook", desc := "(LBrothFlasks$Case;Z)I" } : Jvm.MethodName)) ∈ lw_tbl := lw_at lw_m3 161 rfl
theorem q746 : (Jvm.Cond.instanceMethod ({ cls := "BrothFlasks", name := "addLook", desc := "(LBrothFlasks$Case;Z)I" } : Jvm.MethodName)) ∈ lw_all := lw_g (lw_at lw_m3 162 rfl) rfl
theorem q747 : (Jvm.Cond.code ({ cls := "BrothFlasks", name := "addLook", desc := "(LBrothFlasks$Case;Z)I" } : Jvm.MethodName) prog_1_method_25_code (4 : Nat) (Option.some Jvm.ClassFile.FieldType.int)) ∈ lw_all := lw_g (lw_at lw_m3 163 rfl) rfl
theorem q748 : (Jvm.Cond.classLink "BrothFlasks" (229 : Nat) "BrothFlasks$Look") ∈ lw_all := lw_g (lw_at lw_m3 164 rfl) rfl
theorem q750 : (Jvm.Cond.methodLinkNest "BrothFlasks" (231 : Nat) ({ cls := "BrothFlasks$Look", name := "<init>", desc := "()V" } : Jvm.MethodName) "BrothFlasks") ∈ lw_tbl := lw_at lw_m3 166 rfl
theorem q755 : (Jvm.Cond.fieldLinkNest "BrothFlasks" (236 : Nat) "BrothFlasks$Look" "isTurned" "Z" "BrothFlasks") ∈ lw_tbl := lw_at lw_m3 171 rfl
theorem q761 : (Jvm.Cond.methodLink "BrothFlasks" (232 : Nat) ({ cls := "BrothFlasks$Look", name := "take", desc := "(LBrothFlasks$Case;)V" } : Jvm.MethodName)) ∈ lw_all := lw_g (lw_at lw_m3 177 rfl) rfl
theorem q771 : (Jvm.Cond.instanceMethod ({ cls := "BrothFlasks", name := "trial", desc := "(I)I" } : Jvm.MethodName)) ∈ lw_all := lw_g (lw_at lw_m3 187 rfl) rfl
theorem q772 : (Jvm.Cond.selects "BrothFlasks" ({ cls := "BrothFlasks", name := "trial", desc := "(I)I" } : Jvm.MethodName) ({ cls := "BrothFlasks", name := "trial", desc := "(I)I" } : Jvm.MethodName)) ∈ lw_all := lw_g (lw_at lw_m3 188 rfl) rfl
theorem q773 : (Jvm.Cond.code ({ cls := "BrothFlasks", name := "trial", desc := "(I)I" } : Jvm.MethodName) prog_1_method_28_code (2 : Nat) (Option.some Jvm.ClassFile.FieldType.int)) ∈ lw_all := lw_g (lw_at lw_m3 189 rfl) rfl
theorem q774 : (Jvm.Cond.methodLink "BrothFlasks" (250 : Nat) ({ cls := "BrothFlasks", name := "addTrial", desc := "(LBrothFlasks$Case;)I" } : Jvm.MethodName)) ∈ lw_all := lw_g (lw_at lw_m3 190 rfl) rfl
theorem q775 : (Jvm.Cond.privateMethod ({ cls := "BrothFlasks", name := "addTrial", desc := "(LBrothFlasks$Case;)I" } : Jvm.MethodName)) ∈ lw_tbl := lw_at lw_m3 191 rfl
theorem q776 : (Jvm.Cond.instanceMethod ({ cls := "BrothFlasks", name := "addTrial", desc := "(LBrothFlasks$Case;)I" } : Jvm.MethodName)) ∈ lw_all := lw_g (lw_at lw_m3 192 rfl) rfl
theorem q777 : (Jvm.Cond.code ({ cls := "BrothFlasks", name := "addTrial", desc := "(LBrothFlasks$Case;)I" } : Jvm.MethodName) prog_1_method_26_code (3 : Nat) (Option.some Jvm.ClassFile.FieldType.int)) ∈ lw_all := lw_g (lw_at lw_m3 193 rfl) rfl
theorem q778 : (Jvm.Cond.methodLink "BrothFlasks" (241 : Nat) ({ cls := "BrothFlasks$Case", name := "take", desc := "(LBrothFlasks$Case;)V" } : Jvm.MethodName)) ∈ lw_all := lw_g (lw_at lw_m3 194 rfl) rfl
theorem q780 : (Jvm.Cond.instanceMethod ({ cls := "BrothFlasks", name := "row", desc := "(I)I" } : Jvm.MethodName)) ∈ lw_all := lw_g (lw_at lw_m3 196 rfl) rfl
theorem q781 : (Jvm.Cond.selects "BrothFlasks" ({ cls := "BrothFlasks", name := "row", desc := "(I)I" } : Jvm.MethodName) ({ cls := "BrothFlasks", name := "row", desc := "(I)I" } : Jvm.MethodName)) ∈ lw_all := lw_g (lw_at lw_m3 197 rfl) rfl
theorem q782 : (Jvm.Cond.code ({ cls := "BrothFlasks", name := "row", desc := "(I)I" } : Jvm.MethodName) prog_1_method_29_code (8 : Nat) (Option.some Jvm.ClassFile.FieldType.int)) ∈ lw_all := lw_g (lw_at lw_m3 198 rfl) rfl
theorem q783 : (Jvm.Cond.methodLink "BrothFlasks" (257 : Nat) ({ cls := "BrothFlasks", name := "isCaseNumber", desc := "(II)Z" } : Jvm.MethodName)) ∈ lw_all := lw_g (lw_at lw_m3 199 rfl) rfl
theorem q784 : (Jvm.Cond.static ({ cls := "BrothFlasks", name := "isCaseNumber", desc := "(II)Z" } : Jvm.MethodName)) ∈ lw_all := lw_g (lw_at lw_m3 200 rfl) rfl
theorem q785 : (Jvm.Cond.code ({ cls := "BrothFlasks", name := "isCaseNumber", desc := "(II)Z" } : Jvm.MethodName) prog_1_method_2_code (2 : Nat) (Option.some Jvm.ClassFile.FieldType.boolean)) ∈ lw_all := lw_g (lw_at lw_m3 201 rfl) rfl
theorem q787 : (Jvm.Cond.instanceMethod ({ cls := "BrothFlasks", name := "of", desc := "(III)I" } : Jvm.MethodName)) ∈ lw_all := lw_g (lw_at lw_m3 203 rfl) rfl
theorem q788 : (Jvm.Cond.selects "BrothFlasks" ({ cls := "BrothFlasks", name := "of", desc := "(III)I" } : Jvm.MethodName) ({ cls := "BrothFlasks", name := "of", desc := "(III)I" } : Jvm.MethodName)) ∈ lw_all := lw_g (lw_at lw_m3 204 rfl) rfl
theorem q789 : (Jvm.Cond.code ({ cls := "BrothFlasks", name := "of", desc := "(III)I" } : Jvm.MethodName) prog_1_method_30_code (4 : Nat) (Option.some Jvm.ClassFile.FieldType.int)) ∈ lw_all := lw_g (lw_at lw_m3 205 rfl) rfl
theorem q790 : (Jvm.Cond.methodLink "BrothFlasks" (261 : Nat) ({ cls := "BrothFlasks", name := "isLook", desc := "(I)Z" } : Jvm.MethodName)) ∈ lw_all := lw_g (lw_at lw_m3 206 rfl) rfl
theorem q791 : (Jvm.Cond.privateMethod ({ cls := "BrothFlasks", name := "isLook", desc := "(I)Z" } : Jvm.MethodName)) ∈ lw_tbl := lw_at lw_m3 207 rfl
theorem q792 : (Jvm.Cond.instanceMethod ({ cls := "BrothFlasks", name := "isLook", desc := "(I)Z" } : Jvm.MethodName)) ∈ lw_all := lw_g (lw_at lw_m3 208 rfl) rfl
theorem q793 : (Jvm.Cond.code ({ cls := "BrothFlasks", name := "isLook", desc := "(I)Z" } : Jvm.MethodName) prog_1_method_9_code (2 : Nat) (Option.some Jvm.ClassFile.FieldType.boolean)) ∈ lw_all := lw_g (lw_at lw_m3 209 rfl) rfl
theorem q794 : (Jvm.Cond.constantLong "BrothFlasks" (264 : Nat) (9 : Int64)) ∈ lw_all := lw_g (lw_at lw_m3 210 rfl) rfl
theorem q795 : (Jvm.Cond.methodLink "BrothFlasks" (267 : Nat) ({ cls := "BrothFlasks", name := "isTrial", desc := "(I)Z" } : Jvm.MethodName)) ∈ lw_all := lw_g (lw_at lw_m3 211 rfl) rfl
theorem q796 : (Jvm.Cond.privateMethod ({ cls := "BrothFlasks", name := "isTrial", desc := "(I)Z" } : Jvm.MethodName)) ∈ lw_tbl := lw_at lw_m3 212 rfl
theorem q797 : (Jvm.Cond.instanceMethod ({ cls := "BrothFlasks", name := "isTrial", desc := "(I)Z" } : Jvm.MethodName)) ∈ lw_all := lw_g (lw_at lw_m3 213 rfl) rfl
theorem q798 : (Jvm.Cond.code ({ cls := "BrothFlasks", name := "isTrial", desc := "(I)Z" } : Jvm.MethodName) prog_1_method_10_code (2 : Nat) (Option.some Jvm.ClassFile.FieldType.boolean)) ∈ lw_all := lw_g (lw_at lw_m3 214 rfl) rfl
theorem q799 : (Jvm.Cond.constantLong "BrothFlasks" (270 : Nat) (8 : Int64)) ∈ lw_all := lw_g (lw_at lw_m3 215 rfl) rfl
theorem q801 : (Jvm.Cond.instanceMethod ({ cls := "BrothFlasks", name := "feed", desc := "(IIIII)I" } : Jvm.MethodName)) ∈ lw_all := lw_g (lw_at lw_m3 217 rfl) rfl
theorem q802 : (Jvm.Cond.selects "BrothFlasks" ({ cls := "BrothFlasks", name := "feed", desc := "(IIIII)I" } : Jvm.MethodName) ({ cls := "BrothFlasks", name := "feed", desc := "(IIIII)I" } : Jvm.MethodName)) ∈ lw_all := lw_g (lw_at lw_m3 218 rfl) rfl
theorem q803 : (Jvm.Cond.code ({ cls := "BrothFlasks", name := "feed", desc := "(IIIII)I" } : Jvm.MethodName) prog_1_method_32_code (6 : Nat) (Option.some Jvm.ClassFile.FieldType.int)) ∈ lw_all := lw_g (lw_at lw_m3 219 rfl) rfl
theorem q804 : (Jvm.Cond.methodLink "BrothFlasks" (272 : Nat) ({ cls := "BrothFlasks", name := "four", desc := "(I)V" } : Jvm.MethodName)) ∈ lw_all := lw_g (lw_at lw_m3 220 rfl) rfl
theorem q805 : (Jvm.Cond.privateMethod ({ cls := "BrothFlasks", name := "four", desc := "(I)V" } : Jvm.MethodName)) ∈ lw_tbl := lw_at lw_m3 221 rfl
theorem q806 : (Jvm.Cond.instanceMethod ({ cls := "BrothFlasks", name := "four", desc := "(I)V" } : Jvm.MethodName)) ∈ lw_all := lw_g (lw_at lw_m3 222 rfl) rfl
theorem q807 : (Jvm.Cond.code ({ cls := "BrothFlasks", name := "four", desc := "(I)V" } : Jvm.MethodName) prog_1_method_31_code (3 : Nat) (Option.none : Option Jvm.ClassFile.FieldType)) ∈ lw_all := lw_g (lw_at lw_m3 223 rfl) rfl
theorem q809 : (Jvm.Cond.instanceMethod ({ cls := "BrothFlasks", name := "end", desc := "(I)I" } : Jvm.MethodName)) ∈ lw_all := lw_g (lw_at lw_m3 225 rfl) rfl
theorem q810 : (Jvm.Cond.selects "BrothFlasks" ({ cls := "BrothFlasks", name := "end", desc := "(I)I" } : Jvm.MethodName) ({ cls := "BrothFlasks", name := "end", desc := "(I)I" } : Jvm.MethodName)) ∈ lw_all := lw_g (lw_at lw_m3 226 rfl) rfl
theorem q811 : (Jvm.Cond.code ({ cls := "BrothFlasks", name := "end", desc := "(I)I" } : Jvm.MethodName) prog_1_method_33_code (2 : Nat) (Option.some Jvm.ClassFile.FieldType.int)) ∈ lw_all := lw_g (lw_at lw_m3 227 rfl) rfl
theorem q813 : (Jvm.Cond.instanceMethod ({ cls := "BrothFlasks", name := "text", desc := "()I" } : Jvm.MethodName)) ∈ lw_all := lw_g (lw_at lw_m3 229 rfl) rfl
theorem q814 : (Jvm.Cond.selects "BrothFlasks" ({ cls := "BrothFlasks", name := "text", desc := "()I" } : Jvm.MethodName) ({ cls := "BrothFlasks", name := "text", desc := "()I" } : Jvm.MethodName)) ∈ lw_all := lw_g (lw_at lw_m3 230 rfl) rfl
theorem q815 : (Jvm.Cond.codeWith ({ cls := "BrothFlasks", name := "text", desc := "()I" } : Jvm.MethodName) prog_1_method_36_code (2 : Nat) (Option.some Jvm.ClassFile.FieldType.int) [((29 : Nat), (64 : Nat), (67 : Nat), (284 : Nat))]) ∈ lw_all := lw_g (lw_at lw_m3 231 rfl) rfl
theorem q816 : (Jvm.Cond.classLink "BrothFlasks" (284 : Nat) "BrothFlasks$Wrong") ∈ lw_all := lw_g (lw_at lw_m3 232 rfl) rfl
theorem q817 : (Jvm.Cond.methodLink "BrothFlasks" (280 : Nat) ({ cls := "BrothFlasks$Reader", name := "read", desc := "()LBrothFlasks$Text;" } : Jvm.MethodName)) ∈ lw_all := lw_g (lw_at lw_m3 233 rfl) rfl
theorem q828 : (Jvm.Cond.static ({ cls := "BrothFlasks", name := "isLetter", desc := "(I)Z" } : Jvm.MethodName)) ∈ lw_all := lw_g (lw_at lw_m4 4 rfl) rfl
theorem q829 : (Jvm.Cond.code ({ cls := "BrothFlasks", name := "isLetter", desc := "(I)Z" } : Jvm.MethodName) prog_1_method_34_code (1 : Nat) (Option.some Jvm.ClassFile.FieldType.boolean)) ∈ lw_all := lw_g (lw_at lw_m4 5 rfl) rfl
theorem q831 : (Jvm.Cond.static ({ cls := "BrothFlasks", name := "isDigit", desc := "(I)Z" } : Jvm.MethodName)) ∈ lw_all := lw_g (lw_at lw_m4 7 rfl) rfl
theorem q832 : (Jvm.Cond.code ({ cls := "BrothFlasks", name := "isDigit", desc := "(I)Z" } : Jvm.MethodName) prog_1_method_35_code (1 : Nat) (Option.some Jvm.ClassFile.FieldType.boolean)) ∈ lw_all := lw_g (lw_at lw_m4 8 rfl) rfl
theorem q884 : (Jvm.Cond.fieldLinkNest "BrothFlasks" (286 : Nat) "BrothFlasks$Wrong" "place" "I" "BrothFlasks") ∈ lw_tbl := lw_at lw_m4 60 rfl
theorem q1127 : (Jvm.Cond.fieldLinkNest "BrothFlasks" (331 : Nat) "BrothFlasks$Clause" "head" "I" "BrothFlasks") ∈ lw_tbl := lw_at lw_m5 63 rfl
theorem q1149 : (Jvm.Cond.fieldLinkNest "BrothFlasks" (327 : Nat) "BrothFlasks$Text" "clauses" "[LBrothFlasks$Clause;" "BrothFlasks") ∈ lw_tbl := lw_at lw_m5 85 rfl
theorem q1154 : (Jvm.Cond.instanceMethod ({ cls := "BrothFlasks", name := "fault", desc := "()I" } : Jvm.MethodName)) ∈ lw_all := lw_g (lw_at lw_m5 90 rfl) rfl
theorem q1155 : (Jvm.Cond.selects "BrothFlasks" ({ cls := "BrothFlasks", name := "fault", desc := "()I" } : Jvm.MethodName) ({ cls := "BrothFlasks", name := "fault", desc := "()I" } : Jvm.MethodName)) ∈ lw_all := lw_g (lw_at lw_m5 91 rfl) rfl
theorem q1156 : (Jvm.Cond.code ({ cls := "BrothFlasks", name := "fault", desc := "()I" } : Jvm.MethodName) prog_1_method_37_code (1 : Nat) (Option.some Jvm.ClassFile.FieldType.int)) ∈ lw_all := lw_g (lw_at lw_m5 92 rfl) rfl
theorem q1158 : (Jvm.Cond.instanceMethod ({ cls := "BrothFlasks", name := "odds", desc := "(III)I" } : Jvm.MethodName)) ∈ lw_all := lw_g (lw_at lw_m5 94 rfl) rfl
theorem q1159 : (Jvm.Cond.selects "BrothFlasks" ({ cls := "BrothFlasks", name := "odds", desc := "(III)I" } : Jvm.MethodName) ({ cls := "BrothFlasks", name := "odds", desc := "(III)I" } : Jvm.MethodName)) ∈ lw_all := lw_g (lw_at lw_m5 95 rfl) rfl
theorem q1160 : (Jvm.Cond.code ({ cls := "BrothFlasks", name := "odds", desc := "(III)I" } : Jvm.MethodName) prog_1_method_38_code (4 : Nat) (Option.some Jvm.ClassFile.FieldType.int)) ∈ lw_all := lw_g (lw_at lw_m5 96 rfl) rfl
theorem q1161 : (Jvm.Cond.methodLink "BrothFlasks" (287 : Nat) ({ cls := "BrothFlasks", name := "isText", desc := "(I)Z" } : Jvm.MethodName)) ∈ lw_all := lw_g (lw_at lw_m5 97 rfl) rfl
theorem q1162 : (Jvm.Cond.privateMethod ({ cls := "BrothFlasks", name := "isText", desc := "(I)Z" } : Jvm.MethodName)) ∈ lw_tbl := lw_at lw_m5 98 rfl
theorem q1163 : (Jvm.Cond.instanceMethod ({ cls := "BrothFlasks", name := "isText", desc := "(I)Z" } : Jvm.MethodName)) ∈ lw_all := lw_g (lw_at lw_m5 99 rfl) rfl
theorem q1164 : (Jvm.Cond.code ({ cls := "BrothFlasks", name := "isText", desc := "(I)Z" } : Jvm.MethodName) prog_1_method_8_code (2 : Nat) (Option.some Jvm.ClassFile.FieldType.boolean)) ∈ lw_all := lw_g (lw_at lw_m5 100 rfl) rfl
theorem q1165 : (Jvm.Cond.methodLink "BrothFlasks" (290 : Nat) ({ cls := "BrothFlasks$Text", name := "oddsOf", desc := "(LBrothFlasks$Look;)I" } : Jvm.MethodName)) ∈ lw_all := lw_g (lw_at lw_m5 101 rfl) rfl
theorem q1229 : (Jvm.Cond.methodLink "BrothFlasks" (296 : Nat) ({ cls := "BrothFlasks$Text", name := "odds", desc := "(LBrothFlasks$Case;)I" } : Jvm.MethodName)) ∈ lw_all := lw_g (lw_at lw_m5 165 rfl) rfl
theorem q1231 : (Jvm.Cond.instanceMethod ({ cls := "BrothFlasks", name := "fair", desc := "(II)I" } : Jvm.MethodName)) ∈ lw_all := lw_g (lw_at lw_m5 167 rfl) rfl
theorem q1232 : (Jvm.Cond.selects "BrothFlasks" ({ cls := "BrothFlasks", name := "fair", desc := "(II)I" } : Jvm.MethodName) ({ cls := "BrothFlasks", name := "fair", desc := "(II)I" } : Jvm.MethodName)) ∈ lw_all := lw_g (lw_at lw_m5 168 rfl) rfl
theorem q1233 : (Jvm.Cond.code ({ cls := "BrothFlasks", name := "fair", desc := "(II)I" } : Jvm.MethodName) prog_1_method_39_code (3 : Nat) (Option.some Jvm.ClassFile.FieldType.int)) ∈ lw_all := lw_g (lw_at lw_m5 169 rfl) rfl
theorem q1234 : (Jvm.Cond.methodLink "BrothFlasks" (299 : Nat) ({ cls := "BrothFlasks$Text", name := "isFair", desc := "(LBrothFlasks$Case;)Z" } : Jvm.MethodName)) ∈ lw_all := lw_g (lw_at lw_m5 170 rfl) rfl
theorem q1239 : (Jvm.Cond.instanceMethod ({ cls := "BrothFlasks", name := "outBy", desc := "(II)I" } : Jvm.MethodName)) ∈ lw_all := lw_g (lw_at lw_m5 175 rfl) rfl
theorem q1240 : (Jvm.Cond.selects "BrothFlasks" ({ cls := "BrothFlasks", name := "outBy", desc := "(II)I" } : Jvm.MethodName) ({ cls := "BrothFlasks", name := "outBy", desc := "(II)I" } : Jvm.MethodName)) ∈ lw_all := lw_g (lw_at lw_m5 176 rfl) rfl
theorem q1241 : (Jvm.Cond.code ({ cls := "BrothFlasks", name := "outBy", desc := "(II)I" } : Jvm.MethodName) prog_1_method_40_code (5 : Nat) (Option.some Jvm.ClassFile.FieldType.int)) ∈ lw_all := lw_g (lw_at lw_m5 177 rfl) rfl
theorem q1243 : (Jvm.Cond.instanceMethod ({ cls := "BrothFlasks", name := "worth", desc := "(IIII)J" } : Jvm.MethodName)) ∈ lw_all := lw_g (lw_at lw_m5 179 rfl) rfl
theorem q1244 : (Jvm.Cond.selects "BrothFlasks" ({ cls := "BrothFlasks", name := "worth", desc := "(IIII)J" } : Jvm.MethodName) ({ cls := "BrothFlasks", name := "worth", desc := "(IIII)J" } : Jvm.MethodName)) ∈ lw_all := lw_g (lw_at lw_m5 180 rfl) rfl
theorem q1245 : (Jvm.Cond.code ({ cls := "BrothFlasks", name := "worth", desc := "(IIII)J" } : Jvm.MethodName) prog_1_method_44_code (10 : Nat) (Option.some Jvm.ClassFile.FieldType.long)) ∈ lw_all := lw_g (lw_at lw_m5 181 rfl) rfl
theorem q1246 : (Jvm.Cond.methodLink "BrothFlasks" (307 : Nat) ({ cls := "BrothFlasks", name := "isPart", desc := "(I)Z" } : Jvm.MethodName)) ∈ lw_all := lw_g (lw_at lw_m5 182 rfl) rfl
theorem q1247 : (Jvm.Cond.static ({ cls := "BrothFlasks", name := "isPart", desc := "(I)Z" } : Jvm.MethodName)) ∈ lw_all := lw_g (lw_at lw_m5 183 rfl) rfl
theorem q1248 : (Jvm.Cond.code ({ cls := "BrothFlasks", name := "isPart", desc := "(I)Z" } : Jvm.MethodName) prog_1_method_43_code (1 : Nat) (Option.some Jvm.ClassFile.FieldType.boolean)) ∈ lw_all := lw_g (lw_at lw_m5 184 rfl) rfl
theorem q1249 : (Jvm.Cond.constantLong "BrothFlasks" (310 : Nat) (-1 : Int64)) ∈ lw_all := lw_g (lw_at lw_m5 185 rfl) rfl
theorem q1250 : (Jvm.Cond.methodLink "BrothFlasks" (312 : Nat) ({ cls := "BrothFlasks", name := "lowest", desc := "(JJI)J" } : Jvm.MethodName)) ∈ lw_all := lw_g (lw_at lw_m5 186 rfl) rfl
theorem q1251 : (Jvm.Cond.static ({ cls := "BrothFlasks", name := "lowest", desc := "(JJI)J" } : Jvm.MethodName)) ∈ lw_all := lw_g (lw_at lw_m5 187 rfl) rfl
theorem q1252 : (Jvm.Cond.code ({ cls := "BrothFlasks", name := "lowest", desc := "(JJI)J" } : Jvm.MethodName) prog_1_method_42_code (7 : Nat) (Option.some Jvm.ClassFile.FieldType.long)) ∈ lw_all := lw_g (lw_at lw_m5 188 rfl) rfl
theorem q1253 : (Jvm.Cond.methodLink "BrothFlasks" (303 : Nat) ({ cls := "BrothFlasks", name := "common", desc := "(JJ)J" } : Jvm.MethodName)) ∈ lw_all := lw_g (lw_at lw_m5 189 rfl) rfl
theorem q1254 : (Jvm.Cond.static ({ cls := "BrothFlasks", name := "common", desc := "(JJ)J" } : Jvm.MethodName)) ∈ lw_all := lw_g (lw_at lw_m5 190 rfl) rfl
theorem q1255 : (Jvm.Cond.code ({ cls := "BrothFlasks", name := "common", desc := "(JJ)J" } : Jvm.MethodName) prog_1_method_41_code (10 : Nat) (Option.some Jvm.ClassFile.FieldType.long)) ∈ lw_all := lw_g (lw_at lw_m5 191 rfl) rfl
theorem q1257 : (Jvm.Cond.instanceMethod ({ cls := "BrothFlasks", name := "answer", desc := "(II)I" } : Jvm.MethodName)) ∈ lw_all := lw_g (lw_at lw_m5 193 rfl) rfl
theorem q1258 : (Jvm.Cond.selects "BrothFlasks" ({ cls := "BrothFlasks", name := "answer", desc := "(II)I" } : Jvm.MethodName) ({ cls := "BrothFlasks", name := "answer", desc := "(II)I" } : Jvm.MethodName)) ∈ lw_all := lw_g (lw_at lw_m5 194 rfl) rfl
theorem q1259 : (Jvm.Cond.code ({ cls := "BrothFlasks", name := "answer", desc := "(II)I" } : Jvm.MethodName) prog_1_method_45_code (4 : Nat) (Option.some Jvm.ClassFile.FieldType.int)) ∈ lw_all := lw_g (lw_at lw_m5 195 rfl) rfl
theorem q1260 : (Jvm.Cond.methodLink "BrothFlasks" (316 : Nat) ({ cls := "BrothFlasks$Text", name := "mustAnswer", desc := "(LBrothFlasks$Look;)Z" } : Jvm.MethodName)) ∈ lw_all := lw_g (lw_at lw_m5 196 rfl) rfl
theorem q1265 : (Jvm.Cond.methodLink "BrothFlasks" (320 : Nat) ({ cls := "BrothFlasks$Text", name := "price", desc := "(LBrothFlasks$Look;)I" } : Jvm.MethodName)) ∈ lw_all := lw_g (lw_at lw_m5 201 rfl) rfl
theorem q1272 : (Jvm.Cond.instanceMethod ({ cls := "BrothFlasks", name := "saves", desc := "(I)I" } : Jvm.MethodName)) ∈ lw_all := lw_g (lw_at lw_m5 208 rfl) rfl
theorem q1273 : (Jvm.Cond.selects "BrothFlasks" ({ cls := "BrothFlasks", name := "saves", desc := "(I)I" } : Jvm.MethodName) ({ cls := "BrothFlasks", name := "saves", desc := "(I)I" } : Jvm.MethodName)) ∈ lw_all := lw_g (lw_at lw_m5 209 rfl) rfl
theorem q1274 : (Jvm.Cond.code ({ cls := "BrothFlasks", name := "saves", desc := "(I)I" } : Jvm.MethodName) prog_1_method_46_code (5 : Nat) (Option.some Jvm.ClassFile.FieldType.int)) ∈ lw_all := lw_g (lw_at lw_m5 210 rfl) rfl
theorem q1275 : (Jvm.Cond.methodLink "BrothFlasks" (323 : Nat) ({ cls := "BrothFlasks", name := "answer", desc := "(II)I" } : Jvm.MethodName)) ∈ lw_all := lw_g (lw_at lw_m5 211 rfl) rfl
theorem q1277 : (Jvm.Cond.instanceMethod ({ cls := "BrothFlasks", name := "all", desc := "(I)I" } : Jvm.MethodName)) ∈ lw_all := lw_g (lw_at lw_m5 213 rfl) rfl
theorem q1278 : (Jvm.Cond.selects "BrothFlasks" ({ cls := "BrothFlasks", name := "all", desc := "(I)I" } : Jvm.MethodName) ({ cls := "BrothFlasks", name := "all", desc := "(I)I" } : Jvm.MethodName)) ∈ lw_all := lw_g (lw_at lw_m5 214 rfl) rfl
theorem q1279 : (Jvm.Cond.code ({ cls := "BrothFlasks", name := "all", desc := "(I)I" } : Jvm.MethodName) prog_1_method_47_code (7 : Nat) (Option.some Jvm.ClassFile.FieldType.int)) ∈ lw_all := lw_g (lw_at lw_m5 215 rfl) rfl
theorem q1280 : (Jvm.Cond.methodLink "BrothFlasks" (336 : Nat) ({ cls := "BrothFlasks$Clause", name := "holds", desc := "(LBrothFlasks$Case;)Z" } : Jvm.MethodName)) ∈ lw_all := lw_g (lw_at lw_m5 216 rfl) rfl
theorem q1282 : (Jvm.Cond.instanceMethod ({ cls := "BrothFlasks", name := "parting", desc := "(II)I" } : Jvm.MethodName)) ∈ lw_all := lw_g (lw_at lw_m5 218 rfl) rfl
theorem q1283 : (Jvm.Cond.selects "BrothFlasks" ({ cls := "BrothFlasks", name := "parting", desc := "(II)I" } : Jvm.MethodName) ({ cls := "BrothFlasks", name := "parting", desc := "(II)I" } : Jvm.MethodName)) ∈ lw_all := lw_g (lw_at lw_m5 219 rfl) rfl
theorem q1284 : (Jvm.Cond.code ({ cls := "BrothFlasks", name := "parting", desc := "(II)I" } : Jvm.MethodName) prog_1_method_51_code (3 : Nat) (Option.some Jvm.ClassFile.FieldType.int)) ∈ lw_all := lw_g (lw_at lw_m5 220 rfl) rfl
theorem q1285 : (Jvm.Cond.methodLink "BrothFlasks" (344 : Nat) ({ cls := "BrothFlasks", name := "areTexts", desc := "(I)Z" } : Jvm.MethodName)) ∈ lw_all := lw_g (lw_at lw_m5 221 rfl) rfl
theorem q1286 : (Jvm.Cond.privateMethod ({ cls := "BrothFlasks", name := "areTexts", desc := "(I)Z" } : Jvm.MethodName)) ∈ lw_tbl := lw_at lw_m5 222 rfl
theorem q1287 : (Jvm.Cond.instanceMethod ({ cls := "BrothFlasks", name := "areTexts", desc := "(I)Z" } : Jvm.MethodName)) ∈ lw_all := lw_g (lw_at lw_m5 223 rfl) rfl
theorem q1288 : (Jvm.Cond.code ({ cls := "BrothFlasks", name := "areTexts", desc := "(I)Z" } : Jvm.MethodName) prog_1_method_48_code (2 : Nat) (Option.some Jvm.ClassFile.FieldType.boolean)) ∈ lw_all := lw_g (lw_at lw_m5 224 rfl) rfl
theorem q1289 : (Jvm.Cond.methodLink "BrothFlasks" (347 : Nat) ({ cls := "BrothFlasks", name := "partingBy", desc := "(ILBrothFlasks$Case;)I" } : Jvm.MethodName)) ∈ lw_all := lw_g (lw_at lw_m5 225 rfl) rfl
theorem q1290 : (Jvm.Cond.privateMethod ({ cls := "BrothFlasks", name := "partingBy", desc := "(ILBrothFlasks$Case;)I" } : Jvm.MethodName)) ∈ lw_tbl := lw_at lw_m5 226 rfl
theorem q1291 : (Jvm.Cond.instanceMethod ({ cls := "BrothFlasks", name := "partingBy", desc := "(ILBrothFlasks$Case;)I" } : Jvm.MethodName)) ∈ lw_all := lw_g (lw_at lw_m5 227 rfl) rfl
theorem q1292 : (Jvm.Cond.code ({ cls := "BrothFlasks", name := "partingBy", desc := "(ILBrothFlasks$Case;)I" } : Jvm.MethodName) prog_1_method_49_code (6 : Nat) (Option.some Jvm.ClassFile.FieldType.int)) ∈ lw_all := lw_g (lw_at lw_m5 228 rfl) rfl
theorem q1293 : (Jvm.Cond.methodLink "BrothFlasks" (339 : Nat) ({ cls := "java/lang/Math", name := "abs", desc := "(I)I" } : Jvm.MethodName)) ∈ lw_all := lw_g (lw_at lw_m5 229 rfl) rfl
theorem q1297 : (Jvm.Cond.instanceMethod ({ cls := "BrothFlasks", name := "next", desc := "(I)I" } : Jvm.MethodName)) ∈ lw_all := lw_g (lw_at lw_m5 233 rfl) rfl
theorem q1298 : (Jvm.Cond.selects "BrothFlasks" ({ cls := "BrothFlasks", name := "next", desc := "(I)I" } : Jvm.MethodName) ({ cls := "BrothFlasks", name := "next", desc := "(I)I" } : Jvm.MethodName)) ∈ lw_all := lw_g (lw_at lw_m5 234 rfl) rfl
theorem q1299 : (Jvm.Cond.code ({ cls := "BrothFlasks", name := "next", desc := "(I)I" } : Jvm.MethodName) prog_1_method_52_code (6 : Nat) (Option.some Jvm.ClassFile.FieldType.int)) ∈ lw_all := lw_g (lw_at lw_m5 235 rfl) rfl
theorem q1300 : (Jvm.Cond.methodLink "BrothFlasks" (351 : Nat) ({ cls := "BrothFlasks", name := "isFairToAll", desc := "(ILBrothFlasks$Case;)Z" } : Jvm.MethodName)) ∈ lw_all := lw_g (lw_at lw_m5 236 rfl) rfl
theorem q1301 : (Jvm.Cond.privateMethod ({ cls := "BrothFlasks", name := "isFairToAll", desc := "(ILBrothFlasks$Case;)Z" } : Jvm.MethodName)) ∈ lw_tbl := lw_at lw_m5 237 rfl
theorem q1302 : (Jvm.Cond.instanceMethod ({ cls := "BrothFlasks", name := "isFairToAll", desc := "(ILBrothFlasks$Case;)Z" } : Jvm.MethodName)) ∈ lw_all := lw_g (lw_at lw_m5 238 rfl) rfl
theorem q1303 : (Jvm.Cond.code ({ cls := "BrothFlasks", name := "isFairToAll", desc := "(ILBrothFlasks$Case;)Z" } : Jvm.MethodName) prog_1_method_50_code (4 : Nat) (Option.some Jvm.ClassFile.FieldType.boolean)) ∈ lw_all := lw_g (lw_at lw_m5 239 rfl) rfl
theorem q1305 : (Jvm.Cond.instanceMethod ({ cls := "BrothFlasks", name := "telling", desc := "(II)I" } : Jvm.MethodName)) ∈ lw_all := lw_g (lw_at lw_m6 1 rfl) rfl
theorem q1306 : (Jvm.Cond.selects "BrothFlasks" ({ cls := "BrothFlasks", name := "telling", desc := "(II)I" } : Jvm.MethodName) ({ cls := "BrothFlasks", name := "telling", desc := "(II)I" } : Jvm.MethodName)) ∈ lw_all := lw_g (lw_at lw_m6 2 rfl) rfl
theorem q1307 : (Jvm.Cond.code ({ cls := "BrothFlasks", name := "telling", desc := "(II)I" } : Jvm.MethodName) prog_1_method_55_code (8 : Nat) (Option.some Jvm.ClassFile.FieldType.int)) ∈ lw_all := lw_g (lw_at lw_m6 3 rfl) rfl
theorem q1308 : (Jvm.Cond.methodLink "BrothFlasks" (358 : Nat) ({ cls := "BrothFlasks", name := "findPlain", desc := "(I)V" } : Jvm.MethodName)) ∈ lw_all := lw_g (lw_at lw_m6 4 rfl) rfl
theorem q1309 : (Jvm.Cond.privateMethod ({ cls := "BrothFlasks", name := "findPlain", desc := "(I)V" } : Jvm.MethodName)) ∈ lw_tbl := lw_at lw_m6 5 rfl
theorem q1310 : (Jvm.Cond.instanceMethod ({ cls := "BrothFlasks", name := "findPlain", desc := "(I)V" } : Jvm.MethodName)) ∈ lw_all := lw_g (lw_at lw_m6 6 rfl) rfl
theorem q1311 : (Jvm.Cond.code ({ cls := "BrothFlasks", name := "findPlain", desc := "(I)V" } : Jvm.MethodName) prog_1_method_53_code (7 : Nat) (Option.none : Option Jvm.ClassFile.FieldType)) ∈ lw_all := lw_g (lw_at lw_m6 7 rfl) rfl
theorem q1312 : (Jvm.Cond.methodLink "BrothFlasks" (361 : Nat) ({ cls := "BrothFlasks", name := "by", desc := "(II)I" } : Jvm.MethodName)) ∈ lw_all := lw_g (lw_at lw_m6 8 rfl) rfl
theorem q1313 : (Jvm.Cond.privateMethod ({ cls := "BrothFlasks", name := "by", desc := "(II)I" } : Jvm.MethodName)) ∈ lw_tbl := lw_at lw_m6 9 rfl
theorem q1314 : (Jvm.Cond.instanceMethod ({ cls := "BrothFlasks", name := "by", desc := "(II)I" } : Jvm.MethodName)) ∈ lw_all := lw_g (lw_at lw_m6 10 rfl) rfl
theorem q1315 : (Jvm.Cond.code ({ cls := "BrothFlasks", name := "by", desc := "(II)I" } : Jvm.MethodName) prog_1_method_54_code (4 : Nat) (Option.some Jvm.ClassFile.FieldType.int)) ∈ lw_all := lw_g (lw_at lw_m6 11 rfl) rfl
theorem q1316 : (Jvm.Cond.methodLink "BrothFlasks" (355 : Nat) ({ cls := "java/lang/Math", name := "max", desc := "(II)I" } : Jvm.MethodName)) ∈ lw_all := lw_g (lw_at lw_m6 12 rfl) rfl
theorem q1320 : (Jvm.Cond.instanceMethod ({ cls := "BrothFlasks", name := "span", desc := "(III)I" } : Jvm.MethodName)) ∈ lw_all := lw_g (lw_at lw_m6 16 rfl) rfl
theorem q1321 : (Jvm.Cond.selects "BrothFlasks" ({ cls := "BrothFlasks", name := "span", desc := "(III)I" } : Jvm.MethodName) ({ cls := "BrothFlasks", name := "span", desc := "(III)I" } : Jvm.MethodName)) ∈ lw_all := lw_g (lw_at lw_m6 17 rfl) rfl
theorem q1322 : (Jvm.Cond.code ({ cls := "BrothFlasks", name := "span", desc := "(III)I" } : Jvm.MethodName) prog_1_method_59_code (6 : Nat) (Option.some Jvm.ClassFile.FieldType.int)) ∈ lw_all := lw_g (lw_at lw_m6 18 rfl) rfl
theorem q1323 : (Jvm.Cond.constantLong "BrothFlasks" (377 : Nat) (18 : Int64)) ∈ lw_all := lw_g (lw_at lw_m6 19 rfl) rfl
theorem q1324 : (Jvm.Cond.methodLink "BrothFlasks" (379 : Nat) ({ cls := "BrothFlasks", name := "mayBe", desc := "(III)Z" } : Jvm.MethodName)) ∈ lw_all := lw_g (lw_at lw_m6 20 rfl) rfl
theorem q1325 : (Jvm.Cond.static ({ cls := "BrothFlasks", name := "mayBe", desc := "(III)Z" } : Jvm.MethodName)) ∈ lw_all := lw_g (lw_at lw_m6 21 rfl) rfl
theorem q1326 : (Jvm.Cond.code ({ cls := "BrothFlasks", name := "mayBe", desc := "(III)Z" } : Jvm.MethodName) prog_1_method_58_code (12 : Nat) (Option.some Jvm.ClassFile.FieldType.boolean)) ∈ lw_all := lw_g (lw_at lw_m6 22 rfl) rfl
theorem q1327 : (Jvm.Cond.constantLong "BrothFlasks" (363 : Nat) (10 : Int64)) ∈ lw_all := lw_g (lw_at lw_m6 23 rfl) rfl
theorem q1328 : (Jvm.Cond.methodLink "BrothFlasks" (365 : Nat) ({ cls := "BrothFlasks", name := "power", desc := "(JI)J" } : Jvm.MethodName)) ∈ lw_all := lw_g (lw_at lw_m6 24 rfl) rfl
theorem q1329 : (Jvm.Cond.static ({ cls := "BrothFlasks", name := "power", desc := "(JI)J" } : Jvm.MethodName)) ∈ lw_all := lw_g (lw_at lw_m6 25 rfl) rfl
theorem q1330 : (Jvm.Cond.code ({ cls := "BrothFlasks", name := "power", desc := "(JI)J" } : Jvm.MethodName) prog_1_method_56_code (6 : Nat) (Option.some Jvm.ClassFile.FieldType.long)) ∈ lw_all := lw_g (lw_at lw_m6 26 rfl) rfl
theorem q1331 : (Jvm.Cond.constantLong "BrothFlasks" (369 : Nat) (19 : Int64)) ∈ lw_all := lw_g (lw_at lw_m6 27 rfl) rfl
theorem q1332 : (Jvm.Cond.constantLong "BrothFlasks" (371 : Nat) (20 : Int64)) ∈ lw_all := lw_g (lw_at lw_m6 28 rfl) rfl
theorem q1333 : (Jvm.Cond.methodLink "BrothFlasks" (373 : Nat) ({ cls := "BrothFlasks", name := "choose", desc := "(II)J" } : Jvm.MethodName)) ∈ lw_all := lw_g (lw_at lw_m6 29 rfl) rfl
theorem q1334 : (Jvm.Cond.static ({ cls := "BrothFlasks", name := "choose", desc := "(II)J" } : Jvm.MethodName)) ∈ lw_all := lw_g (lw_at lw_m6 30 rfl) rfl
theorem q1335 : (Jvm.Cond.code ({ cls := "BrothFlasks", name := "choose", desc := "(II)J" } : Jvm.MethodName) prog_1_method_57_code (5 : Nat) (Option.some Jvm.ClassFile.FieldType.long)) ∈ lw_all := lw_g (lw_at lw_m6 31 rfl) rfl
theorem q1337 : (Jvm.Cond.instanceMethod ({ cls := "BrothFlasks", name := "need", desc := "(II)I" } : Jvm.MethodName)) ∈ lw_all := lw_g (lw_at lw_m6 33 rfl) rfl
theorem q1338 : (Jvm.Cond.selects "BrothFlasks" ({ cls := "BrothFlasks", name := "need", desc := "(II)I" } : Jvm.MethodName) ({ cls := "BrothFlasks", name := "need", desc := "(II)I" } : Jvm.MethodName)) ∈ lw_all := lw_g (lw_at lw_m6 34 rfl) rfl
theorem q1339 : (Jvm.Cond.code ({ cls := "BrothFlasks", name := "need", desc := "(II)I" } : Jvm.MethodName) prog_1_method_60_code (4 : Nat) (Option.some Jvm.ClassFile.FieldType.int)) ∈ lw_all := lw_g (lw_at lw_m6 35 rfl) rfl
theorem q1340 : (Jvm.Cond.constantLong "BrothFlasks" (383 : Nat) (99 : Int64)) ∈ lw_all := lw_g (lw_at lw_m6 36 rfl) rfl
theorem q1342 : (Jvm.Cond.instanceMethod ({ cls := "BrothFlasks", name := "bound", desc := "(I)I" } : Jvm.MethodName)) ∈ lw_all := lw_g (lw_at lw_m6 38 rfl) rfl
theorem q1343 : (Jvm.Cond.selects "BrothFlasks" ({ cls := "BrothFlasks", name := "bound", desc := "(I)I" } : Jvm.MethodName) ({ cls := "BrothFlasks", name := "bound", desc := "(I)I" } : Jvm.MethodName)) ∈ lw_all := lw_g (lw_at lw_m6 39 rfl) rfl
theorem q1344 : (Jvm.Cond.code ({ cls := "BrothFlasks", name := "bound", desc := "(I)I" } : Jvm.MethodName) prog_1_method_61_code (4 : Nat) (Option.some Jvm.ClassFile.FieldType.int)) ∈ lw_all := lw_g (lw_at lw_m6 40 rfl) rfl
theorem q1346 : (Jvm.Cond.instanceMethod ({ cls := "BrothFlasks", name := "outlive", desc := "(III)I" } : Jvm.MethodName)) ∈ lw_all := lw_g (lw_at lw_m6 42 rfl) rfl
theorem q1347 : (Jvm.Cond.selects "BrothFlasks" ({ cls := "BrothFlasks", name := "outlive", desc := "(III)I" } : Jvm.MethodName) ({ cls := "BrothFlasks", name := "outlive", desc := "(III)I" } : Jvm.MethodName)) ∈ lw_all := lw_g (lw_at lw_m6 43 rfl) rfl
theorem q1348 : (Jvm.Cond.code ({ cls := "BrothFlasks", name := "outlive", desc := "(III)I" } : Jvm.MethodName) prog_1_method_62_code (8 : Nat) (Option.some Jvm.ClassFile.FieldType.int)) ∈ lw_all := lw_g (lw_at lw_m6 44 rfl) rfl
theorem q1349 : (Jvm.Cond.methodLink "BrothFlasks" (385 : Nat) ({ cls := "BrothFlasks", name := "fits", desc := "(III)Z" } : Jvm.MethodName)) ∈ lw_all := lw_g (lw_at lw_m6 45 rfl) rfl
theorem q1350 : (Jvm.Cond.privateMethod ({ cls := "BrothFlasks", name := "fits", desc := "(III)Z" } : Jvm.MethodName)) ∈ lw_tbl := lw_at lw_m6 46 rfl
theorem q1351 : (Jvm.Cond.instanceMethod ({ cls := "BrothFlasks", name := "fits", desc := "(III)Z" } : Jvm.MethodName)) ∈ lw_all := lw_g (lw_at lw_m6 47 rfl) rfl
theorem q1352 : (Jvm.Cond.code ({ cls := "BrothFlasks", name := "fits", desc := "(III)Z" } : Jvm.MethodName) prog_1_method_63_code (8 : Nat) (Option.some Jvm.ClassFile.FieldType.boolean)) ∈ lw_all := lw_g (lw_at lw_m6 48 rfl) rfl
theorem q1353 : (Jvm.Cond.methodLink "BrothFlasks" (388 : Nat) ({ cls := "BrothFlasks$Kind", name := "growsIn", desc := "(I)Z" } : Jvm.MethodName)) ∈ lw_all := lw_g (lw_at lw_m6 49 rfl) rfl
theorem q1354 : (Jvm.Cond.methodLink "BrothFlasks" (391 : Nat) ({ cls := "BrothFlasks$Look", name := "heatedTo", desc := "(II)I" } : Jvm.MethodName)) ∈ lw_all := lw_g (lw_at lw_m6 50 rfl) rfl
theorem q1361 : (Jvm.Cond.instanceMethod ({ cls := "BrothFlasks", name := "right", desc := "(II)I" } : Jvm.MethodName)) ∈ lw_all := lw_g (lw_at lw_m6 57 rfl) rfl
theorem q1362 : (Jvm.Cond.selects "BrothFlasks" ({ cls := "BrothFlasks", name := "right", desc := "(II)I" } : Jvm.MethodName) ({ cls := "BrothFlasks", name := "right", desc := "(II)I" } : Jvm.MethodName)) ∈ lw_all := lw_g (lw_at lw_m6 58 rfl) rfl
theorem q1363 : (Jvm.Cond.code ({ cls := "BrothFlasks", name := "right", desc := "(II)I" } : Jvm.MethodName) prog_1_method_64_code (8 : Nat) (Option.some Jvm.ClassFile.FieldType.int)) ∈ lw_all := lw_g (lw_at lw_m6 59 rfl) rfl
theorem q1365 : (Jvm.Cond.instanceMethod ({ cls := "BrothFlasks", name := "how", desc := "(III)I" } : Jvm.MethodName)) ∈ lw_all := lw_g (lw_at lw_m6 61 rfl) rfl
theorem q1366 : (Jvm.Cond.selects "BrothFlasks" ({ cls := "BrothFlasks", name := "how", desc := "(III)I" } : Jvm.MethodName) ({ cls := "BrothFlasks", name := "how", desc := "(III)I" } : Jvm.MethodName)) ∈ lw_all := lw_g (lw_at lw_m6 62 rfl) rfl
theorem q1367 : (Jvm.Cond.code ({ cls := "BrothFlasks", name := "how", desc := "(III)I" } : Jvm.MethodName) prog_1_method_65_code (7 : Nat) (Option.some Jvm.ClassFile.FieldType.int)) ∈ lw_all := lw_g (lw_at lw_m6 63 rfl) rfl
theorem q1369 : (Jvm.Cond.instanceMethod ({ cls := "BrothFlasks", name := "ways", desc := "(III)I" } : Jvm.MethodName)) ∈ lw_all := lw_g (lw_at lw_m6 65 rfl) rfl
theorem q1370 : (Jvm.Cond.selects "BrothFlasks" ({ cls := "BrothFlasks", name := "ways", desc := "(III)I" } : Jvm.MethodName) ({ cls := "BrothFlasks", name := "ways", desc := "(III)I" } : Jvm.MethodName)) ∈ lw_all := lw_g (lw_at lw_m6 66 rfl) rfl
theorem q1371 : (Jvm.Cond.code ({ cls := "BrothFlasks", name := "ways", desc := "(III)I" } : Jvm.MethodName) prog_1_method_66_code (7 : Nat) (Option.some Jvm.ClassFile.FieldType.int)) ∈ lw_all := lw_g (lw_at lw_m6 67 rfl) rfl
theorem q1373 : (Jvm.Cond.instanceMethod ({ cls := "BrothFlasks", name := "spoilt", desc := "(I)I" } : Jvm.MethodName)) ∈ lw_all := lw_g (lw_at lw_m6 69 rfl) rfl
theorem q1374 : (Jvm.Cond.selects "BrothFlasks" ({ cls := "BrothFlasks", name := "spoilt", desc := "(I)I" } : Jvm.MethodName) ({ cls := "BrothFlasks", name := "spoilt", desc := "(I)I" } : Jvm.MethodName)) ∈ lw_all := lw_g (lw_at lw_m6 70 rfl) rfl
theorem q1375 : (Jvm.Cond.code ({ cls := "BrothFlasks", name := "spoilt", desc := "(I)I" } : Jvm.MethodName) prog_1_method_68_code (2 : Nat) (Option.some Jvm.ClassFile.FieldType.int)) ∈ lw_all := lw_g (lw_at lw_m6 71 rfl) rfl
theorem q1376 : (Jvm.Cond.methodLink "BrothFlasks" (395 : Nat) ({ cls := "BrothFlasks", name := "spoiltOf", desc := "(LBrothFlasks$Case;)I" } : Jvm.MethodName)) ∈ lw_all := lw_g (lw_at lw_m6 72 rfl) rfl
theorem q1377 : (Jvm.Cond.privateMethod ({ cls := "BrothFlasks", name := "spoiltOf", desc := "(LBrothFlasks$Case;)I" } : Jvm.MethodName)) ∈ lw_tbl := lw_at lw_m6 73 rfl
theorem q1378 : (Jvm.Cond.instanceMethod ({ cls := "BrothFlasks", name := "spoiltOf", desc := "(LBrothFlasks$Case;)I" } : Jvm.MethodName)) ∈ lw_all := lw_g (lw_at lw_m6 74 rfl) rfl
theorem q1379 : (Jvm.Cond.code ({ cls := "BrothFlasks", name := "spoiltOf", desc := "(LBrothFlasks$Case;)I" } : Jvm.MethodName) prog_1_method_67_code (3 : Nat) (Option.some Jvm.ClassFile.FieldType.int)) ∈ lw_all := lw_g (lw_at lw_m6 75 rfl) rfl
theorem q1380 : (Jvm.Cond.methodLink "BrothFlasks" (394 : Nat) ({ cls := "BrothFlasks$Case", name := "hasAir", desc := "()Z" } : Jvm.MethodName)) ∈ lw_all := lw_g (lw_at lw_m6 76 rfl) rfl
theorem q1382 : (Jvm.Cond.instanceMethod ({ cls := "BrothFlasks", name := "whole", desc := "(I)I" } : Jvm.MethodName)) ∈ lw_all := lw_g (lw_at lw_m6 78 rfl) rfl
theorem q1383 : (Jvm.Cond.selects "BrothFlasks" ({ cls := "BrothFlasks", name := "whole", desc := "(I)I" } : Jvm.MethodName) ({ cls := "BrothFlasks", name := "whole", desc := "(I)I" } : Jvm.MethodName)) ∈ lw_all := lw_g (lw_at lw_m6 79 rfl) rfl
theorem q1384 : (Jvm.Cond.code ({ cls := "BrothFlasks", name := "whole", desc := "(I)I" } : Jvm.MethodName) prog_1_method_69_code (3 : Nat) (Option.some Jvm.ClassFile.FieldType.int)) ∈ lw_all := lw_g (lw_at lw_m6 80 rfl) rfl
theorem q1386 : (Jvm.Cond.instanceMethod ({ cls := "BrothFlasks", name := "commission", desc := "(II)I" } : Jvm.MethodName)) ∈ lw_all := lw_g (lw_at lw_m6 82 rfl) rfl
theorem q1387 : (Jvm.Cond.selects "BrothFlasks" ({ cls := "BrothFlasks", name := "commission", desc := "(II)I" } : Jvm.MethodName) ({ cls := "BrothFlasks", name := "commission", desc := "(II)I" } : Jvm.MethodName)) ∈ lw_all := lw_g (lw_at lw_m6 83 rfl) rfl
theorem q1388 : (Jvm.Cond.code ({ cls := "BrothFlasks", name := "commission", desc := "(II)I" } : Jvm.MethodName) prog_1_method_70_code (4 : Nat) (Option.some Jvm.ClassFile.FieldType.int)) ∈ lw_all := lw_g (lw_at lw_m6 84 rfl) rfl
theorem q1389 : (Jvm.Cond.methodLink "BrothFlasks" (398 : Nat) ({ cls := "java/lang/Integer", name := "bitCount", desc := "(I)I" } : Jvm.MethodName)) ∈ lw_all := lw_g (lw_at lw_m6 85 rfl) rfl
theorem q1396 : (Jvm.Cond.instanceMethod ({ cls := "BrothFlasks", name := "judged", desc := "(III)J" } : Jvm.MethodName)) ∈ lw_all := lw_g (lw_at lw_m6 92 rfl) rfl
theorem q1397 : (Jvm.Cond.selects "BrothFlasks" ({ cls := "BrothFlasks", name := "judged", desc := "(III)J" } : Jvm.MethodName) ({ cls := "BrothFlasks", name := "judged", desc := "(III)J" } : Jvm.MethodName)) ∈ lw_all := lw_g (lw_at lw_m6 93 rfl) rfl
theorem q1398 : (Jvm.Cond.code ({ cls := "BrothFlasks", name := "judged", desc := "(III)J" } : Jvm.MethodName) prog_1_method_73_code (6 : Nat) (Option.some Jvm.ClassFile.FieldType.long)) ∈ lw_all := lw_g (lw_at lw_m6 94 rfl) rfl
theorem q1399 : (Jvm.Cond.methodLink "BrothFlasks" (415 : Nat) ({ cls := "BrothFlasks", name := "isCommission", desc := "(I)Z" } : Jvm.MethodName)) ∈ lw_all := lw_g (lw_at lw_m6 95 rfl) rfl
theorem q1400 : (Jvm.Cond.privateMethod ({ cls := "BrothFlasks", name := "isCommission", desc := "(I)Z" } : Jvm.MethodName)) ∈ lw_tbl := lw_at lw_m6 96 rfl
theorem q1401 : (Jvm.Cond.instanceMethod ({ cls := "BrothFlasks", name := "isCommission", desc := "(I)Z" } : Jvm.MethodName)) ∈ lw_all := lw_g (lw_at lw_m6 97 rfl) rfl
theorem q1402 : (Jvm.Cond.code ({ cls := "BrothFlasks", name := "isCommission", desc := "(I)Z" } : Jvm.MethodName) prog_1_method_72_code (2 : Nat) (Option.some Jvm.ClassFile.FieldType.boolean)) ∈ lw_all := lw_g (lw_at lw_m6 98 rfl) rfl
theorem q1403 : (Jvm.Cond.methodLink "BrothFlasks" (418 : Nat) ({ cls := "BrothFlasks", name := "verdicts", desc := "(ILBrothFlasks$Text;)J" } : Jvm.MethodName)) ∈ lw_all := lw_g (lw_at lw_m6 99 rfl) rfl
theorem q1404 : (Jvm.Cond.privateMethod ({ cls := "BrothFlasks", name := "verdicts", desc := "(ILBrothFlasks$Text;)J" } : Jvm.MethodName)) ∈ lw_tbl := lw_at lw_m6 100 rfl
theorem q1405 : (Jvm.Cond.instanceMethod ({ cls := "BrothFlasks", name := "verdicts", desc := "(ILBrothFlasks$Text;)J" } : Jvm.MethodName)) ∈ lw_all := lw_g (lw_at lw_m6 101 rfl) rfl
theorem q1406 : (Jvm.Cond.code ({ cls := "BrothFlasks", name := "verdicts", desc := "(ILBrothFlasks$Text;)J" } : Jvm.MethodName) prog_1_method_71_code (8 : Nat) (Option.some Jvm.ClassFile.FieldType.long)) ∈ lw_all := lw_g (lw_at lw_m6 102 rfl) rfl
theorem q1409 : (Jvm.Cond.instanceMethod ({ cls := "BrothFlasks", name := "leans", desc := "(III)I" } : Jvm.MethodName)) ∈ lw_all := lw_g (lw_at lw_m6 105 rfl) rfl
theorem q1410 : (Jvm.Cond.selects "BrothFlasks" ({ cls := "BrothFlasks", name := "leans", desc := "(III)I" } : Jvm.MethodName) ({ cls := "BrothFlasks", name := "leans", desc := "(III)I" } : Jvm.MethodName)) ∈ lw_all := lw_g (lw_at lw_m6 106 rfl) rfl
theorem q1411 : (Jvm.Cond.code ({ cls := "BrothFlasks", name := "leans", desc := "(III)I" } : Jvm.MethodName) prog_1_method_75_code (6 : Nat) (Option.some Jvm.ClassFile.FieldType.int)) ∈ lw_all := lw_g (lw_at lw_m6 107 rfl) rfl
theorem q1412 : (Jvm.Cond.methodLink "BrothFlasks" (422 : Nat) ({ cls := "BrothFlasks", name := "saysTurned", desc := "(II)Z" } : Jvm.MethodName)) ∈ lw_all := lw_g (lw_at lw_m6 108 rfl) rfl
theorem q1413 : (Jvm.Cond.privateMethod ({ cls := "BrothFlasks", name := "saysTurned", desc := "(II)Z" } : Jvm.MethodName)) ∈ lw_tbl := lw_at lw_m6 109 rfl
theorem q1414 : (Jvm.Cond.instanceMethod ({ cls := "BrothFlasks", name := "saysTurned", desc := "(II)Z" } : Jvm.MethodName)) ∈ lw_all := lw_g (lw_at lw_m6 110 rfl) rfl
theorem q1415 : (Jvm.Cond.code ({ cls := "BrothFlasks", name := "saysTurned", desc := "(II)Z" } : Jvm.MethodName) prog_1_method_74_code (3 : Nat) (Option.some Jvm.ClassFile.FieldType.boolean)) ∈ lw_all := lw_g (lw_at lw_m6 111 rfl) rfl
theorem q1417 : (Jvm.Cond.instanceMethod ({ cls := "BrothFlasks", name := "shape", desc := "(IIII)I" } : Jvm.MethodName)) ∈ lw_all := lw_g (lw_at lw_m6 113 rfl) rfl
theorem q1418 : (Jvm.Cond.selects "BrothFlasks" ({ cls := "BrothFlasks", name := "shape", desc := "(IIII)I" } : Jvm.MethodName) ({ cls := "BrothFlasks", name := "shape", desc := "(IIII)I" } : Jvm.MethodName)) ∈ lw_all := lw_g (lw_at lw_m6 114 rfl) rfl
theorem q1419 : (Jvm.Cond.code ({ cls := "BrothFlasks", name := "shape", desc := "(IIII)I" } : Jvm.MethodName) prog_1_method_76_code (7 : Nat) (Option.some Jvm.ClassFile.FieldType.int)) ∈ lw_all := lw_g (lw_at lw_m6 115 rfl) rfl
theorem q1421 : (Jvm.Cond.instanceMethod ({ cls := "BrothFlasks", name := "image", desc := "(I)I" } : Jvm.MethodName)) ∈ lw_all := lw_g (lw_at lw_m6 117 rfl) rfl
theorem q1422 : (Jvm.Cond.selects "BrothFlasks" ({ cls := "BrothFlasks", name := "image", desc := "(I)I" } : Jvm.MethodName) ({ cls := "BrothFlasks", name := "image", desc := "(I)I" } : Jvm.MethodName)) ∈ lw_all := lw_g (lw_at lw_m6 118 rfl) rfl
theorem q1423 : (Jvm.Cond.code ({ cls := "BrothFlasks", name := "image", desc := "(I)I" } : Jvm.MethodName) prog_1_method_77_code (2 : Nat) (Option.some Jvm.ClassFile.FieldType.int)) ∈ lw_all := lw_g (lw_at lw_m6 119 rfl) rfl
theorem q1424 : (Jvm.Cond.methodLink "BrothFlasks" (428 : Nat) ({ cls := "BrothFlasks$Bench", name := "take", desc := "(LBrothFlasks$Bench;)V" } : Jvm.MethodName)) ∈ lw_all := lw_g (lw_at lw_m6 120 rfl) rfl
theorem q1456 : (Jvm.Cond.instanceMethod ({ cls := "BrothFlasks", name := "back", desc := "(I)I" } : Jvm.MethodName)) ∈ lw_all := lw_g (lw_at lw_m6 152 rfl) rfl
theorem q1457 : (Jvm.Cond.selects "BrothFlasks" ({ cls := "BrothFlasks", name := "back", desc := "(I)I" } : Jvm.MethodName) ({ cls := "BrothFlasks", name := "back", desc := "(I)I" } : Jvm.MethodName)) ∈ lw_all := lw_g (lw_at lw_m6 153 rfl) rfl
theorem q1458 : (Jvm.Cond.code ({ cls := "BrothFlasks", name := "back", desc := "(I)I" } : Jvm.MethodName) prog_1_method_78_code (2 : Nat) (Option.some Jvm.ClassFile.FieldType.int)) ∈ lw_all := lw_g (lw_at lw_m6 154 rfl) rfl
theorem q1460 : (Jvm.Cond.instanceMethod ({ cls := "BrothFlasks", name := "count", desc := "(I)I" } : Jvm.MethodName)) ∈ lw_all := lw_g (lw_at lw_m6 156 rfl) rfl
theorem q1461 : (Jvm.Cond.selects "BrothFlasks" ({ cls := "BrothFlasks", name := "count", desc := "(I)I" } : Jvm.MethodName) ({ cls := "BrothFlasks", name := "count", desc := "(I)I" } : Jvm.MethodName)) ∈ lw_all := lw_g (lw_at lw_m6 157 rfl) rfl
theorem q1462 : (Jvm.Cond.code ({ cls := "BrothFlasks", name := "count", desc := "(I)I" } : Jvm.MethodName) prog_1_method_79_code (2 : Nat) (Option.some Jvm.ClassFile.FieldType.int)) ∈ lw_all := lw_g (lw_at lw_m6 158 rfl) rfl
theorem q1464 : (Jvm.Cond.instanceMethod ({ cls := "BrothFlasks", name := "status", desc := "()I" } : Jvm.MethodName)) ∈ lw_all := lw_g (lw_at lw_m6 160 rfl) rfl
theorem q1465 : (Jvm.Cond.selects "BrothFlasks" ({ cls := "BrothFlasks", name := "status", desc := "()I" } : Jvm.MethodName) ({ cls := "BrothFlasks", name := "status", desc := "()I" } : Jvm.MethodName)) ∈ lw_all := lw_g (lw_at lw_m6 161 rfl) rfl
theorem q1466 : (Jvm.Cond.code ({ cls := "BrothFlasks", name := "status", desc := "()I" } : Jvm.MethodName) prog_1_method_80_code (1 : Nat) (Option.some Jvm.ClassFile.FieldType.int)) ∈ lw_all := lw_g (lw_at lw_m6 162 rfl) rfl
theorem in_X0 : ∀ w ∈ wsX00, w ∈ lw_all := lw_in wsX00 [354, 356, 358, 360, 362, 364, 366, 368, 370, 372, 374, 376, 378] (by decide +kernel) (by decide +kernel)
