/-! BrothFlasks$Kind -/
set_option maxRecDepth 100000
def RX5 : String := "BrothFlasks$Kind"
def TX5 : u_T := fun k => match k with
  | 0 => ("BrothFlasks$Kind", "tough", "I", true)
  | 1 => ("BrothFlasks$Kind", "lasts", "I", true)
  | 2 => ("BrothFlasks$Kind", "broths", "I", true)
  | 3 => ("BrothFlasks$Kind", "slow", "I", true)
  | 4 => ("BrothFlasks$Kind", "shape", "I", true)
  | _ => ("BrothFlasks$Kind", "needsAir", "Z", true)
def tyX5 : Nat → FieldType := fun k => match k with
  | 0 => .int
  | 1 => .int
  | 2 => .int
  | 3 => .int
  | 4 => .int
  | _ => .boolean
abbrev wsX50 : List Cond := u_ws RX5 TX5 6
theorem nmX5 : ∀ a, a < 6 → ∀ b, b < 6 → a ≠ b → (TX5 a).2.1 ≠ (TX5 b).2.1 := by decide +kernel
theorem tyX5_ok : ∀ k, k < 6 → parseFieldDescriptor (TX5 k).2.2.1 = some (tyX5 k) := by decide +kernel
abbrev cX5_init : ByteArray := prog_11_method_1_code
def yX5_init : MethodName := ⟨RX5, "<init>", "(IIIIZI)V"⟩
def dkwX5_init_1 : List UInt8 := [181, 0, 19, 42, 21, 5, 181, 0, 22, 42, 21, 6, 181, 0, 26, 177]
abbrev dktX5_init_1 : List UInt8 := dkwX5_init_1 ++ []
def dkwX5_init_0 : List UInt8 := [42, 183, 0, 1, 42, 27, 181, 0, 7, 42, 28, 181, 0, 13, 42, 29, 181, 0, 16, 42, 21, 4]
abbrev dktX5_init_0 : List UInt8 := dkwX5_init_0 ++ dktX5_init_1
theorem dksX5_init_0 : cX5_init.data.toList.drop 0 = dktX5_init_0 := by decide +kernel
theorem dksX5_init_1 : cX5_init.data.toList.drop 22 = dktX5_init_1 := dk_seg dksX5_init_0 22 rfl rfl
theorem dX5_init_0 : decode cX5_init 0 = .ok (.aload_n 0, 1) := dk_42 (dk_at dksX5_init_0 0 rfl rfl)
theorem dX5_init_1 : decode cX5_init 1 = .ok (.invokespecial 1, 3) := dk_183 0 1 (dk_at dksX5_init_0 1 rfl rfl)
theorem dX5_init_4 : decode cX5_init 4 = .ok (.aload_n 0, 1) := dk_42 (dk_at dksX5_init_0 4 rfl rfl)
theorem dX5_init_5 : decode cX5_init 5 = .ok (.iload_n 1, 1) := dk_27 (dk_at dksX5_init_0 5 rfl rfl)
theorem dX5_init_6 : decode cX5_init 6 = .ok (.putfield 7, 3) := dk_181 0 7 (dk_at dksX5_init_0 6 rfl rfl)
theorem dX5_init_9 : decode cX5_init 9 = .ok (.aload_n 0, 1) := dk_42 (dk_at dksX5_init_0 9 rfl rfl)
theorem dX5_init_10 : decode cX5_init 10 = .ok (.iload_n 2, 1) := dk_28 (dk_at dksX5_init_0 10 rfl rfl)
theorem dX5_init_11 : decode cX5_init 11 = .ok (.putfield 13, 3) := dk_181 0 13 (dk_at dksX5_init_0 11 rfl rfl)
theorem dX5_init_14 : decode cX5_init 14 = .ok (.aload_n 0, 1) := dk_42 (dk_at dksX5_init_0 14 rfl rfl)
theorem dX5_init_15 : decode cX5_init 15 = .ok (.iload_n 3, 1) := dk_29 (dk_at dksX5_init_0 15 rfl rfl)
theorem dX5_init_16 : decode cX5_init 16 = .ok (.putfield 16, 3) := dk_181 0 16 (dk_at dksX5_init_0 16 rfl rfl)
theorem dX5_init_19 : decode cX5_init 19 = .ok (.aload_n 0, 1) := dk_42 (dk_at dksX5_init_0 19 rfl rfl)
theorem dX5_init_20 : decode cX5_init 20 = .ok (.iload 4, 2) := dk_21 4 (dk_at dksX5_init_0 20 rfl rfl)
theorem dX5_init_22 : decode cX5_init 22 = .ok (.putfield 19, 3) := dk_181 0 19 (dk_at dksX5_init_1 0 rfl rfl)
theorem dX5_init_25 : decode cX5_init 25 = .ok (.aload_n 0, 1) := dk_42 (dk_at dksX5_init_1 3 rfl rfl)
theorem dX5_init_26 : decode cX5_init 26 = .ok (.iload 5, 2) := dk_21 5 (dk_at dksX5_init_1 4 rfl rfl)
theorem dX5_init_28 : decode cX5_init 28 = .ok (.putfield 22, 3) := dk_181 0 22 (dk_at dksX5_init_1 6 rfl rfl)
theorem dX5_init_31 : decode cX5_init 31 = .ok (.aload_n 0, 1) := dk_42 (dk_at dksX5_init_1 9 rfl rfl)
theorem dX5_init_32 : decode cX5_init 32 = .ok (.iload 6, 2) := dk_21 6 (dk_at dksX5_init_1 10 rfl rfl)
theorem dX5_init_34 : decode cX5_init 34 = .ok (.putfield 26, 3) := dk_181 0 26 (dk_at dksX5_init_1 12 rfl rfl)
theorem dX5_init_37 : decode cX5_init 37 = .ok (.return_, 1) := dk_177 (dk_at dksX5_init_1 15 rfl rfl)
abbrev cX5_outlives : ByteArray := prog_11_method_2_code
def yX5_outlives : MethodName := ⟨RX5, "outlives", "(II)Z"⟩
def dkwX5_outlives_1 : List UInt8 := [4, 167, 0, 4, 3, 172]
abbrev dktX5_outlives_1 : List UInt8 := dkwX5_outlives_1 ++ []
def dkwX5_outlives_0 : List UInt8 := [27, 42, 180, 0, 7, 161, 0, 19, 27, 42, 180, 0, 7, 160, 0, 15, 28, 42, 180, 0, 13, 162, 0, 7]
abbrev dktX5_outlives_0 : List UInt8 := dkwX5_outlives_0 ++ dktX5_outlives_1
theorem dksX5_outlives_0 : cX5_outlives.data.toList.drop 0 = dktX5_outlives_0 := by decide +kernel
theorem dksX5_outlives_1 : cX5_outlives.data.toList.drop 24 = dktX5_outlives_1 := dk_seg dksX5_outlives_0 24 rfl rfl
theorem dX5_outlives_0 : decode cX5_outlives 0 = .ok (.iload_n 1, 1) := dk_27 (dk_at dksX5_outlives_0 0 rfl rfl)
theorem dX5_outlives_1 : decode cX5_outlives 1 = .ok (.aload_n 0, 1) := dk_42 (dk_at dksX5_outlives_0 1 rfl rfl)
theorem dX5_outlives_2 : decode cX5_outlives 2 = .ok (.getfield 7, 3) := dk_180 0 7 (dk_at dksX5_outlives_0 2 rfl rfl)
theorem dX5_outlives_5 : decode cX5_outlives 5 = .ok (.if_icmp .lt 19, 3) := dk_161 0 19 (dk_at dksX5_outlives_0 5 rfl rfl)
theorem dX5_outlives_8 : decode cX5_outlives 8 = .ok (.iload_n 1, 1) := dk_27 (dk_at dksX5_outlives_0 8 rfl rfl)
theorem dX5_outlives_9 : decode cX5_outlives 9 = .ok (.aload_n 0, 1) := dk_42 (dk_at dksX5_outlives_0 9 rfl rfl)
theorem dX5_outlives_10 : decode cX5_outlives 10 = .ok (.getfield 7, 3) := dk_180 0 7 (dk_at dksX5_outlives_0 10 rfl rfl)
theorem dX5_outlives_13 : decode cX5_outlives 13 = .ok (.if_icmp .ne 15, 3) := dk_160 0 15 (dk_at dksX5_outlives_0 13 rfl rfl)
theorem dX5_outlives_16 : decode cX5_outlives 16 = .ok (.iload_n 2, 1) := dk_28 (dk_at dksX5_outlives_0 16 rfl rfl)
theorem dX5_outlives_17 : decode cX5_outlives 17 = .ok (.aload_n 0, 1) := dk_42 (dk_at dksX5_outlives_0 17 rfl rfl)
theorem dX5_outlives_18 : decode cX5_outlives 18 = .ok (.getfield 13, 3) := dk_180 0 13 (dk_at dksX5_outlives_0 18 rfl rfl)
theorem dX5_outlives_21 : decode cX5_outlives 21 = .ok (.if_icmp .ge 7, 3) := dk_162 0 7 (dk_at dksX5_outlives_0 21 rfl rfl)
theorem dX5_outlives_24 : decode cX5_outlives 24 = .ok (.iconst 1, 1) := dk_4 (dk_at dksX5_outlives_1 0 rfl rfl)
theorem dX5_outlives_25 : decode cX5_outlives 25 = .ok (.goto 4, 3) := dk_167 0 4 (dk_at dksX5_outlives_1 1 rfl rfl)
theorem dX5_outlives_28 : decode cX5_outlives 28 = .ok (.iconst 0, 1) := dk_3 (dk_at dksX5_outlives_1 4 rfl rfl)
theorem dX5_outlives_29 : decode cX5_outlives 29 = .ok (.ireturn, 1) := dk_172 (dk_at dksX5_outlives_1 5 rfl rfl)
abbrev cX5_growsIn : ByteArray := prog_11_method_3_code
def yX5_growsIn : MethodName := ⟨RX5, "growsIn", "(I)Z"⟩
def dkwX5_growsIn_0 : List UInt8 := [42, 180, 0, 16, 27, 122, 4, 126, 4, 160, 0, 7, 4, 167, 0, 4, 3, 172]
abbrev dktX5_growsIn_0 : List UInt8 := dkwX5_growsIn_0 ++ []
theorem dksX5_growsIn_0 : cX5_growsIn.data.toList.drop 0 = dktX5_growsIn_0 := by decide +kernel
theorem dX5_growsIn_0 : decode cX5_growsIn 0 = .ok (.aload_n 0, 1) := dk_42 (dk_at dksX5_growsIn_0 0 rfl rfl)
theorem dX5_growsIn_1 : decode cX5_growsIn 1 = .ok (.getfield 16, 3) := dk_180 0 16 (dk_at dksX5_growsIn_0 1 rfl rfl)
theorem dX5_growsIn_4 : decode cX5_growsIn 4 = .ok (.iload_n 1, 1) := dk_27 (dk_at dksX5_growsIn_0 4 rfl rfl)
theorem dX5_growsIn_5 : decode cX5_growsIn 5 = .ok (.ishr, 1) := dk_122 (dk_at dksX5_growsIn_0 5 rfl rfl)
theorem dX5_growsIn_6 : decode cX5_growsIn 6 = .ok (.iconst 1, 1) := dk_4 (dk_at dksX5_growsIn_0 6 rfl rfl)
theorem dX5_growsIn_7 : decode cX5_growsIn 7 = .ok (.iand, 1) := dk_126 (dk_at dksX5_growsIn_0 7 rfl rfl)
theorem dX5_growsIn_8 : decode cX5_growsIn 8 = .ok (.iconst 1, 1) := dk_4 (dk_at dksX5_growsIn_0 8 rfl rfl)
theorem dX5_growsIn_9 : decode cX5_growsIn 9 = .ok (.if_icmp .ne 7, 3) := dk_160 0 7 (dk_at dksX5_growsIn_0 9 rfl rfl)
theorem dX5_growsIn_12 : decode cX5_growsIn 12 = .ok (.iconst 1, 1) := dk_4 (dk_at dksX5_growsIn_0 12 rfl rfl)
theorem dX5_growsIn_13 : decode cX5_growsIn 13 = .ok (.goto 4, 3) := dk_167 0 4 (dk_at dksX5_growsIn_0 13 rfl rfl)
theorem dX5_growsIn_16 : decode cX5_growsIn 16 = .ok (.iconst 0, 1) := dk_3 (dk_at dksX5_growsIn_0 16 rfl rfl)
theorem dX5_growsIn_17 : decode cX5_growsIn 17 = .ok (.ireturn, 1) := dk_172 (dk_at dksX5_growsIn_0 17 rfl rfl)
theorem q110 : (Jvm.Cond.initialized "BrothFlasks$Kind") ∈ lw_all := lw_g (lw_at lw_m1 6 rfl) rfl
theorem q398 : (Jvm.Cond.instantiable "BrothFlasks$Kind" (6 : Nat)) ∈ lw_all := lw_g (lw_at lw_m2 54 rfl) rfl
theorem q400 : (Jvm.Cond.instanceMethod ({ cls := "BrothFlasks$Kind", name := "<init>", desc := "(IIIIZI)V" } : Jvm.MethodName)) ∈ lw_all := lw_g (lw_at lw_m2 56 rfl) rfl
theorem q401 : (Jvm.Cond.code ({ cls := "BrothFlasks$Kind", name := "<init>", desc := "(IIIIZI)V" } : Jvm.MethodName) prog_11_method_1_code (7 : Nat) (Option.none : Option Jvm.ClassFile.FieldType)) ∈ lw_all := lw_g (lw_at lw_m2 57 rfl) rfl
theorem q402 : (Jvm.Cond.methodLink "BrothFlasks$Kind" (1 : Nat) ({ cls := "java/lang/Object", name := "<init>", desc := "()V" } : Jvm.MethodName)) ∈ lw_all := lw_g (lw_at lw_m2 58 rfl) rfl
theorem q403 : (Jvm.Cond.fieldLink "BrothFlasks$Kind" (7 : Nat) "BrothFlasks$Kind" "tough" "I") ∈ lw_all := lw_g (lw_at lw_m2 59 rfl) rfl
theorem q404 : (Jvm.Cond.fieldLink "BrothFlasks$Kind" (13 : Nat) "BrothFlasks$Kind" "lasts" "I") ∈ lw_all := lw_g (lw_at lw_m2 60 rfl) rfl
theorem q405 : (Jvm.Cond.fieldLink "BrothFlasks$Kind" (16 : Nat) "BrothFlasks$Kind" "broths" "I") ∈ lw_all := lw_g (lw_at lw_m2 61 rfl) rfl
theorem q406 : (Jvm.Cond.fieldLink "BrothFlasks$Kind" (19 : Nat) "BrothFlasks$Kind" "slow" "I") ∈ lw_all := lw_g (lw_at lw_m2 62 rfl) rfl
theorem q408 : (Jvm.Cond.fieldLink "BrothFlasks$Kind" (26 : Nat) "BrothFlasks$Kind" "shape" "I") ∈ lw_all := lw_g (lw_at lw_m2 64 rfl) rfl
theorem q410 : (Jvm.Cond.fieldLink "BrothFlasks$Kind" (22 : Nat) "BrothFlasks$Kind" "needsAir" "Z") ∈ lw_all := lw_g (lw_at lw_m2 66 rfl) rfl
theorem q412 : (Jvm.Cond.laysFinal "BrothFlasks$Kind" "BrothFlasks$Kind" "tough" "I") ∈ lw_all := lw_g (lw_at lw_m2 68 rfl) rfl
theorem q413 : (Jvm.Cond.soleField "BrothFlasks$Kind" "tough") ∈ lw_all := lw_g (lw_at lw_m2 69 rfl) rfl
theorem q414 : (Jvm.Cond.laysFinal "BrothFlasks$Kind" "BrothFlasks$Kind" "lasts" "I") ∈ lw_all := lw_g (lw_at lw_m2 70 rfl) rfl
theorem q415 : (Jvm.Cond.soleField "BrothFlasks$Kind" "lasts") ∈ lw_all := lw_g (lw_at lw_m2 71 rfl) rfl
theorem q416 : (Jvm.Cond.laysFinal "BrothFlasks$Kind" "BrothFlasks$Kind" "broths" "I") ∈ lw_all := lw_g (lw_at lw_m2 72 rfl) rfl
theorem q417 : (Jvm.Cond.soleField "BrothFlasks$Kind" "broths") ∈ lw_all := lw_g (lw_at lw_m2 73 rfl) rfl
theorem q418 : (Jvm.Cond.laysFinal "BrothFlasks$Kind" "BrothFlasks$Kind" "slow" "I") ∈ lw_all := lw_g (lw_at lw_m2 74 rfl) rfl
theorem q419 : (Jvm.Cond.soleField "BrothFlasks$Kind" "slow") ∈ lw_all := lw_g (lw_at lw_m2 75 rfl) rfl
theorem q420 : (Jvm.Cond.laysFinal "BrothFlasks$Kind" "BrothFlasks$Kind" "shape" "I") ∈ lw_all := lw_g (lw_at lw_m2 76 rfl) rfl
theorem q421 : (Jvm.Cond.soleField "BrothFlasks$Kind" "shape") ∈ lw_all := lw_g (lw_at lw_m2 77 rfl) rfl
theorem q422 : (Jvm.Cond.laysFinal "BrothFlasks$Kind" "BrothFlasks$Kind" "needsAir" "Z") ∈ lw_all := lw_g (lw_at lw_m2 78 rfl) rfl
theorem q423 : (Jvm.Cond.soleField "BrothFlasks$Kind" "needsAir") ∈ lw_all := lw_g (lw_at lw_m2 79 rfl) rfl
theorem q424 : (Jvm.Cond.superclass "BrothFlasks$Kind" "java/lang/Object") ∈ lw_all := lw_g (lw_at lw_m2 80 rfl) rfl
theorem q651 : (Jvm.Cond.instanceMethod ({ cls := "BrothFlasks$Kind", name := "outlives", desc := "(II)Z" } : Jvm.MethodName)) ∈ lw_all := lw_g (lw_at lw_m3 67 rfl) rfl
theorem q652 : (Jvm.Cond.selects "BrothFlasks$Kind" ({ cls := "BrothFlasks$Kind", name := "outlives", desc := "(II)Z" } : Jvm.MethodName) ({ cls := "BrothFlasks$Kind", name := "outlives", desc := "(II)Z" } : Jvm.MethodName)) ∈ lw_all := lw_g (lw_at lw_m3 68 rfl) rfl
theorem q653 : (Jvm.Cond.code ({ cls := "BrothFlasks$Kind", name := "outlives", desc := "(II)Z" } : Jvm.MethodName) prog_11_method_2_code (3 : Nat) (Option.some Jvm.ClassFile.FieldType.boolean)) ∈ lw_all := lw_g (lw_at lw_m3 69 rfl) rfl
theorem q723 : (Jvm.Cond.instanceMethod ({ cls := "BrothFlasks$Kind", name := "growsIn", desc := "(I)Z" } : Jvm.MethodName)) ∈ lw_all := lw_g (lw_at lw_m3 139 rfl) rfl
theorem q724 : (Jvm.Cond.selects "BrothFlasks$Kind" ({ cls := "BrothFlasks$Kind", name := "growsIn", desc := "(I)Z" } : Jvm.MethodName) ({ cls := "BrothFlasks$Kind", name := "growsIn", desc := "(I)Z" } : Jvm.MethodName)) ∈ lw_all := lw_g (lw_at lw_m3 140 rfl) rfl
theorem q725 : (Jvm.Cond.code ({ cls := "BrothFlasks$Kind", name := "growsIn", desc := "(I)Z" } : Jvm.MethodName) prog_11_method_3_code (2 : Nat) (Option.some Jvm.ClassFile.FieldType.boolean)) ∈ lw_all := lw_g (lw_at lw_m3 141 rfl) rfl
theorem in_X5 : ∀ w ∈ wsX50, w ∈ lw_all := lw_in wsX50 [412, 414, 416, 418, 420, 422] (by decide +kernel) (by decide +kernel)
/-! BrothFlasks$Flask -/
set_option maxRecDepth 100000
def RX6 : String := "BrothFlasks$Flask"
abbrev cX6_init : ByteArray := prog_9_method_1_code
def yX6_init : MethodName := ⟨RX6, "<init>", "(IIIII)V"⟩
def dkwX6_init_2 : List UInt8 := [42, 29, 181, 0, 37, 42, 21, 4, 181, 0, 40, 42, 21, 5, 181, 0, 43, 42, 21, 5, 181, 0, 46, 177]
abbrev dktX6_init_2 : List UInt8 := dkwX6_init_2 ++ []
def dkwX6_init_1 : List UInt8 := [42, 7, 188, 10, 181, 0, 24, 42, 7, 188, 10, 181, 0, 28, 42, 27, 181, 0, 31, 42, 28, 181, 0, 34]
abbrev dktX6_init_1 : List UInt8 := dkwX6_init_1 ++ dktX6_init_2
def dkwX6_init_0 : List UInt8 := [42, 183, 0, 3, 42, 2, 181, 0, 9, 42, 2, 181, 0, 15, 42, 2, 181, 0, 18, 42, 2, 181, 0, 21]
abbrev dktX6_init_0 : List UInt8 := dkwX6_init_0 ++ dktX6_init_1
theorem dksX6_init_0 : cX6_init.data.toList.drop 0 = dktX6_init_0 := by decide +kernel
theorem dksX6_init_1 : cX6_init.data.toList.drop 24 = dktX6_init_1 := dk_seg dksX6_init_0 24 rfl rfl
theorem dksX6_init_2 : cX6_init.data.toList.drop 48 = dktX6_init_2 := dk_seg dksX6_init_1 24 rfl rfl
theorem dX6_init_0 : decode cX6_init 0 = .ok (.aload_n 0, 1) := dk_42 (dk_at dksX6_init_0 0 rfl rfl)
theorem dX6_init_1 : decode cX6_init 1 = .ok (.invokespecial 3, 3) := dk_183 0 3 (dk_at dksX6_init_0 1 rfl rfl)
theorem dX6_init_4 : decode cX6_init 4 = .ok (.aload_n 0, 1) := dk_42 (dk_at dksX6_init_0 4 rfl rfl)
theorem dX6_init_5 : decode cX6_init 5 = .ok (.iconst (-1), 1) := dk_2 (dk_at dksX6_init_0 5 rfl rfl)
theorem dX6_init_6 : decode cX6_init 6 = .ok (.putfield 9, 3) := dk_181 0 9 (dk_at dksX6_init_0 6 rfl rfl)
theorem dX6_init_9 : decode cX6_init 9 = .ok (.aload_n 0, 1) := dk_42 (dk_at dksX6_init_0 9 rfl rfl)
theorem dX6_init_10 : decode cX6_init 10 = .ok (.iconst (-1), 1) := dk_2 (dk_at dksX6_init_0 10 rfl rfl)
theorem dX6_init_11 : decode cX6_init 11 = .ok (.putfield 15, 3) := dk_181 0 15 (dk_at dksX6_init_0 11 rfl rfl)
theorem dX6_init_14 : decode cX6_init 14 = .ok (.aload_n 0, 1) := dk_42 (dk_at dksX6_init_0 14 rfl rfl)
theorem dX6_init_15 : decode cX6_init 15 = .ok (.iconst (-1), 1) := dk_2 (dk_at dksX6_init_0 15 rfl rfl)
theorem dX6_init_16 : decode cX6_init 16 = .ok (.putfield 18, 3) := dk_181 0 18 (dk_at dksX6_init_0 16 rfl rfl)
theorem dX6_init_19 : decode cX6_init 19 = .ok (.aload_n 0, 1) := dk_42 (dk_at dksX6_init_0 19 rfl rfl)
theorem dX6_init_20 : decode cX6_init 20 = .ok (.iconst (-1), 1) := dk_2 (dk_at dksX6_init_0 20 rfl rfl)
theorem dX6_init_21 : decode cX6_init 21 = .ok (.putfield 21, 3) := dk_181 0 21 (dk_at dksX6_init_0 21 rfl rfl)
theorem dX6_init_24 : decode cX6_init 24 = .ok (.aload_n 0, 1) := dk_42 (dk_at dksX6_init_1 0 rfl rfl)
theorem dX6_init_25 : decode cX6_init 25 = .ok (.iconst 4, 1) := dk_7 (dk_at dksX6_init_1 1 rfl rfl)
theorem dX6_init_26 : decode cX6_init 26 = .ok (.newarray .int, 2) := dk_188_10 (dk_at dksX6_init_1 2 rfl rfl)
theorem dX6_init_28 : decode cX6_init 28 = .ok (.putfield 24, 3) := dk_181 0 24 (dk_at dksX6_init_1 4 rfl rfl)
theorem dX6_init_31 : decode cX6_init 31 = .ok (.aload_n 0, 1) := dk_42 (dk_at dksX6_init_1 7 rfl rfl)
theorem dX6_init_32 : decode cX6_init 32 = .ok (.iconst 4, 1) := dk_7 (dk_at dksX6_init_1 8 rfl rfl)
theorem dX6_init_33 : decode cX6_init 33 = .ok (.newarray .int, 2) := dk_188_10 (dk_at dksX6_init_1 9 rfl rfl)
theorem dX6_init_35 : decode cX6_init 35 = .ok (.putfield 28, 3) := dk_181 0 28 (dk_at dksX6_init_1 11 rfl rfl)
theorem dX6_init_38 : decode cX6_init 38 = .ok (.aload_n 0, 1) := dk_42 (dk_at dksX6_init_1 14 rfl rfl)
theorem dX6_init_39 : decode cX6_init 39 = .ok (.iload_n 1, 1) := dk_27 (dk_at dksX6_init_1 15 rfl rfl)
theorem dX6_init_40 : decode cX6_init 40 = .ok (.putfield 31, 3) := dk_181 0 31 (dk_at dksX6_init_1 16 rfl rfl)
theorem dX6_init_43 : decode cX6_init 43 = .ok (.aload_n 0, 1) := dk_42 (dk_at dksX6_init_1 19 rfl rfl)
theorem dX6_init_44 : decode cX6_init 44 = .ok (.iload_n 2, 1) := dk_28 (dk_at dksX6_init_1 20 rfl rfl)
theorem dX6_init_45 : decode cX6_init 45 = .ok (.putfield 34, 3) := dk_181 0 34 (dk_at dksX6_init_1 21 rfl rfl)
theorem dX6_init_48 : decode cX6_init 48 = .ok (.aload_n 0, 1) := dk_42 (dk_at dksX6_init_2 0 rfl rfl)
theorem dX6_init_49 : decode cX6_init 49 = .ok (.iload_n 3, 1) := dk_29 (dk_at dksX6_init_2 1 rfl rfl)
theorem dX6_init_50 : decode cX6_init 50 = .ok (.putfield 37, 3) := dk_181 0 37 (dk_at dksX6_init_2 2 rfl rfl)
theorem dX6_init_53 : decode cX6_init 53 = .ok (.aload_n 0, 1) := dk_42 (dk_at dksX6_init_2 5 rfl rfl)
theorem dX6_init_54 : decode cX6_init 54 = .ok (.iload 4, 2) := dk_21 4 (dk_at dksX6_init_2 6 rfl rfl)
theorem dX6_init_56 : decode cX6_init 56 = .ok (.putfield 40, 3) := dk_181 0 40 (dk_at dksX6_init_2 8 rfl rfl)
theorem dX6_init_59 : decode cX6_init 59 = .ok (.aload_n 0, 1) := dk_42 (dk_at dksX6_init_2 11 rfl rfl)
theorem dX6_init_60 : decode cX6_init 60 = .ok (.iload 5, 2) := dk_21 5 (dk_at dksX6_init_2 12 rfl rfl)
theorem dX6_init_62 : decode cX6_init 62 = .ok (.putfield 43, 3) := dk_181 0 43 (dk_at dksX6_init_2 14 rfl rfl)
theorem dX6_init_65 : decode cX6_init 65 = .ok (.aload_n 0, 1) := dk_42 (dk_at dksX6_init_2 17 rfl rfl)
theorem dX6_init_66 : decode cX6_init 66 = .ok (.iload 5, 2) := dk_21 5 (dk_at dksX6_init_2 18 rfl rfl)
theorem dX6_init_68 : decode cX6_init 68 = .ok (.putfield 46, 3) := dk_181 0 46 (dk_at dksX6_init_2 20 rfl rfl)
theorem dX6_init_71 : decode cX6_init 71 = .ok (.return_, 1) := dk_177 (dk_at dksX6_init_2 23 rfl rfl)
abbrev cX6_heat : ByteArray := prog_9_method_7_code
def yX6_heat : MethodName := ⟨RX6, "heat", "(III[LBrothFlasks$Kind;)V"⟩
def dkwX6_heat_4 : List UInt8 := [3, 181, 0, 62, 42, 3, 181, 0, 68, 177]
abbrev dktX6_heat_4 : List UInt8 := dkwX6_heat_4 ++ []
def dkwX6_heat_3 : List UInt8 := [181, 0, 65, 42, 28, 181, 0, 53, 42, 29, 181, 0, 56, 42, 27, 181, 0, 46, 42, 3, 181, 0, 59, 42]
abbrev dktX6_heat_3 : List UInt8 := dkwX6_heat_3 ++ dktX6_heat_4
def dkwX6_heat_2 : List UInt8 := [46, 79, 42, 180, 0, 28, 21, 5, 27, 79, 132, 5, 1, 132, 6, 1, 167, 255, 198, 42, 21, 5]
abbrev dktX6_heat_2 : List UInt8 := dkwX6_heat_2 ++ dktX6_heat_3
def dkwX6_heat_1 : List UInt8 := [50, 28, 29, 182, 0, 85, 154, 0, 6, 167, 0, 28, 42, 180, 0, 24, 21, 5, 42, 180, 0, 24, 21, 6]
abbrev dktX6_heat_1 : List UInt8 := dkwX6_heat_1 ++ dktX6_heat_2
def dkwX6_heat_0 : List UInt8 := [3, 54, 5, 3, 54, 6, 21, 6, 42, 180, 0, 65, 162, 0, 55, 25, 4, 42, 180, 0, 24, 21, 6, 46]
abbrev dktX6_heat_0 : List UInt8 := dkwX6_heat_0 ++ dktX6_heat_1
theorem dksX6_heat_0 : cX6_heat.data.toList.drop 0 = dktX6_heat_0 := by decide +kernel
theorem dksX6_heat_1 : cX6_heat.data.toList.drop 24 = dktX6_heat_1 := dk_seg dksX6_heat_0 24 rfl rfl
theorem dksX6_heat_2 : cX6_heat.data.toList.drop 48 = dktX6_heat_2 := dk_seg dksX6_heat_1 24 rfl rfl
theorem dksX6_heat_3 : cX6_heat.data.toList.drop 70 = dktX6_heat_3 := dk_seg dksX6_heat_2 22 rfl rfl
theorem dksX6_heat_4 : cX6_heat.data.toList.drop 94 = dktX6_heat_4 := dk_seg dksX6_heat_3 24 rfl rfl
theorem dX6_heat_0 : decode cX6_heat 0 = .ok (.iconst 0, 1) := dk_3 (dk_at dksX6_heat_0 0 rfl rfl)
theorem dX6_heat_1 : decode cX6_heat 1 = .ok (.istore 5, 2) := dk_54 5 (dk_at dksX6_heat_0 1 rfl rfl)
theorem dX6_heat_3 : decode cX6_heat 3 = .ok (.iconst 0, 1) := dk_3 (dk_at dksX6_heat_0 3 rfl rfl)
theorem dX6_heat_4 : decode cX6_heat 4 = .ok (.istore 6, 2) := dk_54 6 (dk_at dksX6_heat_0 4 rfl rfl)
theorem dX6_heat_6 : decode cX6_heat 6 = .ok (.iload 6, 2) := dk_21 6 (dk_at dksX6_heat_0 6 rfl rfl)
theorem dX6_heat_8 : decode cX6_heat 8 = .ok (.aload_n 0, 1) := dk_42 (dk_at dksX6_heat_0 8 rfl rfl)
theorem dX6_heat_9 : decode cX6_heat 9 = .ok (.getfield 65, 3) := dk_180 0 65 (dk_at dksX6_heat_0 9 rfl rfl)
theorem dX6_heat_12 : decode cX6_heat 12 = .ok (.if_icmp .ge 55, 3) := dk_162 0 55 (dk_at dksX6_heat_0 12 rfl rfl)
theorem dX6_heat_15 : decode cX6_heat 15 = .ok (.aload 4, 2) := dk_25 4 (dk_at dksX6_heat_0 15 rfl rfl)
theorem dX6_heat_17 : decode cX6_heat 17 = .ok (.aload_n 0, 1) := dk_42 (dk_at dksX6_heat_0 17 rfl rfl)
theorem dX6_heat_18 : decode cX6_heat 18 = .ok (.getfield 24, 3) := dk_180 0 24 (dk_at dksX6_heat_0 18 rfl rfl)
theorem dX6_heat_21 : decode cX6_heat 21 = .ok (.iload 6, 2) := dk_21 6 (dk_at dksX6_heat_0 21 rfl rfl)
theorem dX6_heat_23 : decode cX6_heat 23 = .ok (.iaload, 1) := dk_46 (dk_at dksX6_heat_0 23 rfl rfl)
theorem dX6_heat_24 : decode cX6_heat 24 = .ok (.aaload, 1) := dk_50 (dk_at dksX6_heat_1 0 rfl rfl)
theorem dX6_heat_25 : decode cX6_heat 25 = .ok (.iload_n 2, 1) := dk_28 (dk_at dksX6_heat_1 1 rfl rfl)
theorem dX6_heat_26 : decode cX6_heat 26 = .ok (.iload_n 3, 1) := dk_29 (dk_at dksX6_heat_1 2 rfl rfl)
theorem dX6_heat_27 : decode cX6_heat 27 = .ok (.invokevirtual 85, 3) := dk_182 0 85 (dk_at dksX6_heat_1 3 rfl rfl)
theorem dX6_heat_30 : decode cX6_heat 30 = .ok (.ifCond .ne 6, 3) := dk_154 0 6 (dk_at dksX6_heat_1 6 rfl rfl)
theorem dX6_heat_33 : decode cX6_heat 33 = .ok (.goto 28, 3) := dk_167 0 28 (dk_at dksX6_heat_1 9 rfl rfl)
theorem dX6_heat_36 : decode cX6_heat 36 = .ok (.aload_n 0, 1) := dk_42 (dk_at dksX6_heat_1 12 rfl rfl)
theorem dX6_heat_37 : decode cX6_heat 37 = .ok (.getfield 24, 3) := dk_180 0 24 (dk_at dksX6_heat_1 13 rfl rfl)
theorem dX6_heat_40 : decode cX6_heat 40 = .ok (.iload 5, 2) := dk_21 5 (dk_at dksX6_heat_1 16 rfl rfl)
theorem dX6_heat_42 : decode cX6_heat 42 = .ok (.aload_n 0, 1) := dk_42 (dk_at dksX6_heat_1 18 rfl rfl)
theorem dX6_heat_43 : decode cX6_heat 43 = .ok (.getfield 24, 3) := dk_180 0 24 (dk_at dksX6_heat_1 19 rfl rfl)
theorem dX6_heat_46 : decode cX6_heat 46 = .ok (.iload 6, 2) := dk_21 6 (dk_at dksX6_heat_1 22 rfl rfl)
theorem dX6_heat_48 : decode cX6_heat 48 = .ok (.iaload, 1) := dk_46 (dk_at dksX6_heat_2 0 rfl rfl)
theorem dX6_heat_49 : decode cX6_heat 49 = .ok (.iastore, 1) := dk_79 (dk_at dksX6_heat_2 1 rfl rfl)
theorem dX6_heat_50 : decode cX6_heat 50 = .ok (.aload_n 0, 1) := dk_42 (dk_at dksX6_heat_2 2 rfl rfl)
theorem dX6_heat_51 : decode cX6_heat 51 = .ok (.getfield 28, 3) := dk_180 0 28 (dk_at dksX6_heat_2 3 rfl rfl)
theorem dX6_heat_54 : decode cX6_heat 54 = .ok (.iload 5, 2) := dk_21 5 (dk_at dksX6_heat_2 6 rfl rfl)
theorem dX6_heat_56 : decode cX6_heat 56 = .ok (.iload_n 1, 1) := dk_27 (dk_at dksX6_heat_2 8 rfl rfl)
theorem dX6_heat_57 : decode cX6_heat 57 = .ok (.iastore, 1) := dk_79 (dk_at dksX6_heat_2 9 rfl rfl)
theorem dX6_heat_58 : decode cX6_heat 58 = .ok (.iinc 5 1, 3) := dk_132 5 1 (dk_at dksX6_heat_2 10 rfl rfl)
theorem dX6_heat_61 : decode cX6_heat 61 = .ok (.iinc 6 1, 3) := dk_132 6 1 (dk_at dksX6_heat_2 13 rfl rfl)
theorem dX6_heat_64 : decode cX6_heat 64 = .ok (.goto (-58), 3) := dk_167 255 198 (dk_at dksX6_heat_2 16 rfl rfl)
theorem dX6_heat_67 : decode cX6_heat 67 = .ok (.aload_n 0, 1) := dk_42 (dk_at dksX6_heat_2 19 rfl rfl)
theorem dX6_heat_68 : decode cX6_heat 68 = .ok (.iload 5, 2) := dk_21 5 (dk_at dksX6_heat_2 20 rfl rfl)
theorem dX6_heat_70 : decode cX6_heat 70 = .ok (.putfield 65, 3) := dk_181 0 65 (dk_at dksX6_heat_3 0 rfl rfl)
theorem dX6_heat_73 : decode cX6_heat 73 = .ok (.aload_n 0, 1) := dk_42 (dk_at dksX6_heat_3 3 rfl rfl)
theorem dX6_heat_74 : decode cX6_heat 74 = .ok (.iload_n 2, 1) := dk_28 (dk_at dksX6_heat_3 4 rfl rfl)
theorem dX6_heat_75 : decode cX6_heat 75 = .ok (.putfield 53, 3) := dk_181 0 53 (dk_at dksX6_heat_3 5 rfl rfl)
theorem dX6_heat_78 : decode cX6_heat 78 = .ok (.aload_n 0, 1) := dk_42 (dk_at dksX6_heat_3 8 rfl rfl)
theorem dX6_heat_79 : decode cX6_heat 79 = .ok (.iload_n 3, 1) := dk_29 (dk_at dksX6_heat_3 9 rfl rfl)
theorem dX6_heat_80 : decode cX6_heat 80 = .ok (.putfield 56, 3) := dk_181 0 56 (dk_at dksX6_heat_3 10 rfl rfl)
theorem dX6_heat_83 : decode cX6_heat 83 = .ok (.aload_n 0, 1) := dk_42 (dk_at dksX6_heat_3 13 rfl rfl)
theorem dX6_heat_84 : decode cX6_heat 84 = .ok (.iload_n 1, 1) := dk_27 (dk_at dksX6_heat_3 14 rfl rfl)
theorem dX6_heat_85 : decode cX6_heat 85 = .ok (.putfield 46, 3) := dk_181 0 46 (dk_at dksX6_heat_3 15 rfl rfl)
theorem dX6_heat_88 : decode cX6_heat 88 = .ok (.aload_n 0, 1) := dk_42 (dk_at dksX6_heat_3 18 rfl rfl)
theorem dX6_heat_89 : decode cX6_heat 89 = .ok (.iconst 0, 1) := dk_3 (dk_at dksX6_heat_3 19 rfl rfl)
theorem dX6_heat_90 : decode cX6_heat 90 = .ok (.putfield 59, 3) := dk_181 0 59 (dk_at dksX6_heat_3 20 rfl rfl)
theorem dX6_heat_93 : decode cX6_heat 93 = .ok (.aload_n 0, 1) := dk_42 (dk_at dksX6_heat_3 23 rfl rfl)
theorem dX6_heat_94 : decode cX6_heat 94 = .ok (.iconst 0, 1) := dk_3 (dk_at dksX6_heat_4 0 rfl rfl)
theorem dX6_heat_95 : decode cX6_heat 95 = .ok (.putfield 62, 3) := dk_181 0 62 (dk_at dksX6_heat_4 1 rfl rfl)
theorem dX6_heat_98 : decode cX6_heat 98 = .ok (.aload_n 0, 1) := dk_42 (dk_at dksX6_heat_4 4 rfl rfl)
theorem dX6_heat_99 : decode cX6_heat 99 = .ok (.iconst 0, 1) := dk_3 (dk_at dksX6_heat_4 5 rfl rfl)
theorem dX6_heat_100 : decode cX6_heat 100 = .ok (.putfield 68, 3) := dk_181 0 68 (dk_at dksX6_heat_4 6 rfl rfl)
theorem dX6_heat_103 : decode cX6_heat 103 = .ok (.return_, 1) := dk_177 (dk_at dksX6_heat_4 9 rfl rfl)
abbrev cX6_mayTip : ByteArray := prog_9_method_4_code
def yX6_mayTip : MethodName := ⟨RX6, "mayTip", "()Z"⟩
theorem dX6_mayTip_0 : decode cX6_mayTip 0 = .ok (.iconst 0, 1) := by decide +kernel
theorem dX6_mayTip_1 : decode cX6_mayTip 1 = .ok (.ireturn, 1) := by decide +kernel
abbrev cX6_hasAir : ByteArray := prog_9_method_6_code
def yX6_hasAir : MethodName := ⟨RX6, "hasAir", "()Z"⟩
def dkwX6_hasAir_0 : List UInt8 := [42, 182, 0, 81, 154, 0, 10, 42, 180, 0, 59, 158, 0, 7, 4, 167, 0, 4, 3, 172]
abbrev dktX6_hasAir_0 : List UInt8 := dkwX6_hasAir_0 ++ []
theorem dksX6_hasAir_0 : cX6_hasAir.data.toList.drop 0 = dktX6_hasAir_0 := by decide +kernel
theorem dX6_hasAir_0 : decode cX6_hasAir 0 = .ok (.aload_n 0, 1) := dk_42 (dk_at dksX6_hasAir_0 0 rfl rfl)
theorem dX6_hasAir_1 : decode cX6_hasAir 1 = .ok (.invokevirtual 81, 3) := dk_182 0 81 (dk_at dksX6_hasAir_0 1 rfl rfl)
theorem dX6_hasAir_4 : decode cX6_hasAir 4 = .ok (.ifCond .ne 10, 3) := dk_154 0 10 (dk_at dksX6_hasAir_0 4 rfl rfl)
theorem dX6_hasAir_7 : decode cX6_hasAir 7 = .ok (.aload_n 0, 1) := dk_42 (dk_at dksX6_hasAir_0 7 rfl rfl)
theorem dX6_hasAir_8 : decode cX6_hasAir 8 = .ok (.getfield 59, 3) := dk_180 0 59 (dk_at dksX6_hasAir_0 8 rfl rfl)
theorem dX6_hasAir_11 : decode cX6_hasAir 11 = .ok (.ifCond .le 7, 3) := dk_158 0 7 (dk_at dksX6_hasAir_0 11 rfl rfl)
theorem dX6_hasAir_14 : decode cX6_hasAir 14 = .ok (.iconst 1, 1) := dk_4 (dk_at dksX6_hasAir_0 14 rfl rfl)
theorem dX6_hasAir_15 : decode cX6_hasAir 15 = .ok (.goto 4, 3) := dk_167 0 4 (dk_at dksX6_hasAir_0 15 rfl rfl)
theorem dX6_hasAir_18 : decode cX6_hasAir 18 = .ok (.iconst 0, 1) := dk_3 (dk_at dksX6_hasAir_0 18 rfl rfl)
theorem dX6_hasAir_19 : decode cX6_hasAir 19 = .ok (.ireturn, 1) := dk_172 (dk_at dksX6_hasAir_0 19 rfl rfl)
abbrev cX6_fill : ByteArray := prog_9_method_8_code
def yX6_fill : MethodName := ⟨RX6, "fill", "(LBrothFlasks$Case;I)V"⟩
def dkwX6_fill_4 : List UInt8 := [79, 177]
abbrev dktX6_fill_4 : List UInt8 := dkwX6_fill_4 ++ []
def dkwX6_fill_3 : List UInt8 := [79, 45, 16, 7, 42, 180, 0, 68, 153, 0, 7, 4, 167, 0, 4, 3, 79, 45, 16, 8, 42, 180, 0, 40]
abbrev dktX6_fill_3 : List UInt8 := dkwX6_fill_3 ++ dktX6_fill_4
def dkwX6_fill_2 : List UInt8 := [184, 0, 96, 79, 45, 8, 42, 180, 0, 37, 79, 45, 16, 6, 17, 0, 255, 42, 180, 0, 59, 184, 0, 96]
abbrev dktX6_fill_2 : List UInt8 := dkwX6_fill_2 ++ dktX6_fill_3
def dkwX6_fill_1 : List UInt8 := [180, 0, 53, 79, 45, 6, 42, 180, 0, 56, 79, 45, 7, 17, 0, 255, 28, 42, 180, 0, 46, 100]
abbrev dktX6_fill_1 : List UInt8 := dkwX6_fill_1 ++ dktX6_fill_2
def dkwX6_fill_0 : List UInt8 := [43, 180, 0, 91, 78, 45, 3, 42, 180, 0, 31, 79, 45, 4, 42, 180, 0, 34, 79, 45, 5, 42]
abbrev dktX6_fill_0 : List UInt8 := dkwX6_fill_0 ++ dktX6_fill_1
theorem dksX6_fill_0 : cX6_fill.data.toList.drop 0 = dktX6_fill_0 := by decide +kernel
theorem dksX6_fill_1 : cX6_fill.data.toList.drop 22 = dktX6_fill_1 := dk_seg dksX6_fill_0 22 rfl rfl
theorem dksX6_fill_2 : cX6_fill.data.toList.drop 44 = dktX6_fill_2 := dk_seg dksX6_fill_1 22 rfl rfl
theorem dksX6_fill_3 : cX6_fill.data.toList.drop 68 = dktX6_fill_3 := dk_seg dksX6_fill_2 24 rfl rfl
theorem dksX6_fill_4 : cX6_fill.data.toList.drop 92 = dktX6_fill_4 := dk_seg dksX6_fill_3 24 rfl rfl
theorem dX6_fill_0 : decode cX6_fill 0 = .ok (.aload_n 1, 1) := dk_43 (dk_at dksX6_fill_0 0 rfl rfl)
theorem dX6_fill_1 : decode cX6_fill 1 = .ok (.getfield 91, 3) := dk_180 0 91 (dk_at dksX6_fill_0 1 rfl rfl)
theorem dX6_fill_4 : decode cX6_fill 4 = .ok (.astore_n 3, 1) := dk_78 (dk_at dksX6_fill_0 4 rfl rfl)
theorem dX6_fill_5 : decode cX6_fill 5 = .ok (.aload_n 3, 1) := dk_45 (dk_at dksX6_fill_0 5 rfl rfl)
theorem dX6_fill_6 : decode cX6_fill 6 = .ok (.iconst 0, 1) := dk_3 (dk_at dksX6_fill_0 6 rfl rfl)
theorem dX6_fill_7 : decode cX6_fill 7 = .ok (.aload_n 0, 1) := dk_42 (dk_at dksX6_fill_0 7 rfl rfl)
theorem dX6_fill_8 : decode cX6_fill 8 = .ok (.getfield 31, 3) := dk_180 0 31 (dk_at dksX6_fill_0 8 rfl rfl)
theorem dX6_fill_11 : decode cX6_fill 11 = .ok (.iastore, 1) := dk_79 (dk_at dksX6_fill_0 11 rfl rfl)
theorem dX6_fill_12 : decode cX6_fill 12 = .ok (.aload_n 3, 1) := dk_45 (dk_at dksX6_fill_0 12 rfl rfl)
theorem dX6_fill_13 : decode cX6_fill 13 = .ok (.iconst 1, 1) := dk_4 (dk_at dksX6_fill_0 13 rfl rfl)
theorem dX6_fill_14 : decode cX6_fill 14 = .ok (.aload_n 0, 1) := dk_42 (dk_at dksX6_fill_0 14 rfl rfl)
theorem dX6_fill_15 : decode cX6_fill 15 = .ok (.getfield 34, 3) := dk_180 0 34 (dk_at dksX6_fill_0 15 rfl rfl)
theorem dX6_fill_18 : decode cX6_fill 18 = .ok (.iastore, 1) := dk_79 (dk_at dksX6_fill_0 18 rfl rfl)
theorem dX6_fill_19 : decode cX6_fill 19 = .ok (.aload_n 3, 1) := dk_45 (dk_at dksX6_fill_0 19 rfl rfl)
theorem dX6_fill_20 : decode cX6_fill 20 = .ok (.iconst 2, 1) := dk_5 (dk_at dksX6_fill_0 20 rfl rfl)
theorem dX6_fill_21 : decode cX6_fill 21 = .ok (.aload_n 0, 1) := dk_42 (dk_at dksX6_fill_0 21 rfl rfl)
theorem dX6_fill_22 : decode cX6_fill 22 = .ok (.getfield 53, 3) := dk_180 0 53 (dk_at dksX6_fill_1 0 rfl rfl)
theorem dX6_fill_25 : decode cX6_fill 25 = .ok (.iastore, 1) := dk_79 (dk_at dksX6_fill_1 3 rfl rfl)
theorem dX6_fill_26 : decode cX6_fill 26 = .ok (.aload_n 3, 1) := dk_45 (dk_at dksX6_fill_1 4 rfl rfl)
theorem dX6_fill_27 : decode cX6_fill 27 = .ok (.iconst 3, 1) := dk_6 (dk_at dksX6_fill_1 5 rfl rfl)
theorem dX6_fill_28 : decode cX6_fill 28 = .ok (.aload_n 0, 1) := dk_42 (dk_at dksX6_fill_1 6 rfl rfl)
theorem dX6_fill_29 : decode cX6_fill 29 = .ok (.getfield 56, 3) := dk_180 0 56 (dk_at dksX6_fill_1 7 rfl rfl)
theorem dX6_fill_32 : decode cX6_fill 32 = .ok (.iastore, 1) := dk_79 (dk_at dksX6_fill_1 10 rfl rfl)
theorem dX6_fill_33 : decode cX6_fill 33 = .ok (.aload_n 3, 1) := dk_45 (dk_at dksX6_fill_1 11 rfl rfl)
theorem dX6_fill_34 : decode cX6_fill 34 = .ok (.iconst 4, 1) := dk_7 (dk_at dksX6_fill_1 12 rfl rfl)
theorem dX6_fill_35 : decode cX6_fill 35 = .ok (.sipush 255, 3) := dk_17 0 255 (dk_at dksX6_fill_1 13 rfl rfl)
theorem dX6_fill_38 : decode cX6_fill 38 = .ok (.iload_n 2, 1) := dk_28 (dk_at dksX6_fill_1 16 rfl rfl)
theorem dX6_fill_39 : decode cX6_fill 39 = .ok (.aload_n 0, 1) := dk_42 (dk_at dksX6_fill_1 17 rfl rfl)
theorem dX6_fill_40 : decode cX6_fill 40 = .ok (.getfield 46, 3) := dk_180 0 46 (dk_at dksX6_fill_1 18 rfl rfl)
theorem dX6_fill_43 : decode cX6_fill 43 = .ok (.isub, 1) := dk_100 (dk_at dksX6_fill_1 21 rfl rfl)
theorem dX6_fill_44 : decode cX6_fill 44 = .ok (.invokestatic 96, 3) := dk_184 0 96 (dk_at dksX6_fill_2 0 rfl rfl)
theorem dX6_fill_47 : decode cX6_fill 47 = .ok (.iastore, 1) := dk_79 (dk_at dksX6_fill_2 3 rfl rfl)
theorem dX6_fill_48 : decode cX6_fill 48 = .ok (.aload_n 3, 1) := dk_45 (dk_at dksX6_fill_2 4 rfl rfl)
theorem dX6_fill_49 : decode cX6_fill 49 = .ok (.iconst 5, 1) := dk_8 (dk_at dksX6_fill_2 5 rfl rfl)
theorem dX6_fill_50 : decode cX6_fill 50 = .ok (.aload_n 0, 1) := dk_42 (dk_at dksX6_fill_2 6 rfl rfl)
theorem dX6_fill_51 : decode cX6_fill 51 = .ok (.getfield 37, 3) := dk_180 0 37 (dk_at dksX6_fill_2 7 rfl rfl)
theorem dX6_fill_54 : decode cX6_fill 54 = .ok (.iastore, 1) := dk_79 (dk_at dksX6_fill_2 10 rfl rfl)
theorem dX6_fill_55 : decode cX6_fill 55 = .ok (.aload_n 3, 1) := dk_45 (dk_at dksX6_fill_2 11 rfl rfl)
theorem dX6_fill_56 : decode cX6_fill 56 = .ok (.bipush 6, 2) := dk_16 6 (dk_at dksX6_fill_2 12 rfl rfl)
theorem dX6_fill_58 : decode cX6_fill 58 = .ok (.sipush 255, 3) := dk_17 0 255 (dk_at dksX6_fill_2 14 rfl rfl)
theorem dX6_fill_61 : decode cX6_fill 61 = .ok (.aload_n 0, 1) := dk_42 (dk_at dksX6_fill_2 17 rfl rfl)
theorem dX6_fill_62 : decode cX6_fill 62 = .ok (.getfield 59, 3) := dk_180 0 59 (dk_at dksX6_fill_2 18 rfl rfl)
theorem dX6_fill_65 : decode cX6_fill 65 = .ok (.invokestatic 96, 3) := dk_184 0 96 (dk_at dksX6_fill_2 21 rfl rfl)
theorem dX6_fill_68 : decode cX6_fill 68 = .ok (.iastore, 1) := dk_79 (dk_at dksX6_fill_3 0 rfl rfl)
theorem dX6_fill_69 : decode cX6_fill 69 = .ok (.aload_n 3, 1) := dk_45 (dk_at dksX6_fill_3 1 rfl rfl)
theorem dX6_fill_70 : decode cX6_fill 70 = .ok (.bipush 7, 2) := dk_16 7 (dk_at dksX6_fill_3 2 rfl rfl)
theorem dX6_fill_72 : decode cX6_fill 72 = .ok (.aload_n 0, 1) := dk_42 (dk_at dksX6_fill_3 4 rfl rfl)
theorem dX6_fill_73 : decode cX6_fill 73 = .ok (.getfield 68, 3) := dk_180 0 68 (dk_at dksX6_fill_3 5 rfl rfl)
theorem dX6_fill_76 : decode cX6_fill 76 = .ok (.ifCond .eq 7, 3) := dk_153 0 7 (dk_at dksX6_fill_3 8 rfl rfl)
theorem dX6_fill_79 : decode cX6_fill 79 = .ok (.iconst 1, 1) := dk_4 (dk_at dksX6_fill_3 11 rfl rfl)
theorem dX6_fill_80 : decode cX6_fill 80 = .ok (.goto 4, 3) := dk_167 0 4 (dk_at dksX6_fill_3 12 rfl rfl)
theorem dX6_fill_83 : decode cX6_fill 83 = .ok (.iconst 0, 1) := dk_3 (dk_at dksX6_fill_3 15 rfl rfl)
theorem dX6_fill_84 : decode cX6_fill 84 = .ok (.iastore, 1) := dk_79 (dk_at dksX6_fill_3 16 rfl rfl)
theorem dX6_fill_85 : decode cX6_fill 85 = .ok (.aload_n 3, 1) := dk_45 (dk_at dksX6_fill_3 17 rfl rfl)
theorem dX6_fill_86 : decode cX6_fill 86 = .ok (.bipush 8, 2) := dk_16 8 (dk_at dksX6_fill_3 18 rfl rfl)
theorem dX6_fill_88 : decode cX6_fill 88 = .ok (.aload_n 0, 1) := dk_42 (dk_at dksX6_fill_3 20 rfl rfl)
theorem dX6_fill_89 : decode cX6_fill 89 = .ok (.getfield 40, 3) := dk_180 0 40 (dk_at dksX6_fill_3 21 rfl rfl)
theorem dX6_fill_92 : decode cX6_fill 92 = .ok (.iastore, 1) := dk_79 (dk_at dksX6_fill_4 0 rfl rfl)
theorem dX6_fill_93 : decode cX6_fill 93 = .ok (.return_, 1) := dk_177 (dk_at dksX6_fill_4 1 rfl rfl)
abbrev cX6_copy : ByteArray := prog_9_method_5_code
def yX6_copy : MethodName := ⟨RX6, "copy", "()LBrothFlasks$Flask;"⟩
def dkwX6_copy_5 : List UInt8 := [3, 43, 180, 0, 28, 3, 7, 184, 0, 75, 43, 176]
abbrev dktX6_copy_5 : List UInt8 := dkwX6_copy_5 ++ []
def dkwX6_copy_4 : List UInt8 := [180, 0, 72, 181, 0, 72, 42, 180, 0, 24, 3, 43, 180, 0, 24, 3, 7, 184, 0, 75, 42, 180, 0, 28]
abbrev dktX6_copy_4 : List UInt8 := dkwX6_copy_4 ++ dktX6_copy_5
def dkwX6_copy_3 : List UInt8 := [180, 0, 21, 181, 0, 21, 43, 42, 180, 0, 65, 181, 0, 65, 43, 42, 180, 0, 68, 181, 0, 68, 43, 42]
abbrev dktX6_copy_3 : List UInt8 := dkwX6_copy_3 ++ dktX6_copy_4
def dkwX6_copy_2 : List UInt8 := [180, 0, 62, 181, 0, 62, 43, 42, 180, 0, 15, 181, 0, 15, 43, 42, 180, 0, 18, 181, 0, 18, 43, 42]
abbrev dktX6_copy_2 : List UInt8 := dkwX6_copy_2 ++ dktX6_copy_3
def dkwX6_copy_1 : List UInt8 := [180, 0, 46, 181, 0, 46, 43, 42, 180, 0, 9, 181, 0, 9, 43, 42, 180, 0, 59, 181, 0, 59, 43, 42]
abbrev dktX6_copy_1 : List UInt8 := dkwX6_copy_1 ++ dktX6_copy_2
def dkwX6_copy_0 : List UInt8 := [42, 182, 0, 49, 76, 43, 42, 180, 0, 53, 181, 0, 53, 43, 42, 180, 0, 56, 181, 0, 56, 43, 42]
abbrev dktX6_copy_0 : List UInt8 := dkwX6_copy_0 ++ dktX6_copy_1
theorem dksX6_copy_0 : cX6_copy.data.toList.drop 0 = dktX6_copy_0 := by decide +kernel
theorem dksX6_copy_1 : cX6_copy.data.toList.drop 23 = dktX6_copy_1 := dk_seg dksX6_copy_0 23 rfl rfl
theorem dksX6_copy_2 : cX6_copy.data.toList.drop 47 = dktX6_copy_2 := dk_seg dksX6_copy_1 24 rfl rfl
theorem dksX6_copy_3 : cX6_copy.data.toList.drop 71 = dktX6_copy_3 := dk_seg dksX6_copy_2 24 rfl rfl
theorem dksX6_copy_4 : cX6_copy.data.toList.drop 95 = dktX6_copy_4 := dk_seg dksX6_copy_3 24 rfl rfl
theorem dksX6_copy_5 : cX6_copy.data.toList.drop 119 = dktX6_copy_5 := dk_seg dksX6_copy_4 24 rfl rfl
theorem dX6_copy_0 : decode cX6_copy 0 = .ok (.aload_n 0, 1) := dk_42 (dk_at dksX6_copy_0 0 rfl rfl)
theorem dX6_copy_1 : decode cX6_copy 1 = .ok (.invokevirtual 49, 3) := dk_182 0 49 (dk_at dksX6_copy_0 1 rfl rfl)
theorem dX6_copy_4 : decode cX6_copy 4 = .ok (.astore_n 1, 1) := dk_76 (dk_at dksX6_copy_0 4 rfl rfl)
theorem dX6_copy_5 : decode cX6_copy 5 = .ok (.aload_n 1, 1) := dk_43 (dk_at dksX6_copy_0 5 rfl rfl)
theorem dX6_copy_6 : decode cX6_copy 6 = .ok (.aload_n 0, 1) := dk_42 (dk_at dksX6_copy_0 6 rfl rfl)
theorem dX6_copy_7 : decode cX6_copy 7 = .ok (.getfield 53, 3) := dk_180 0 53 (dk_at dksX6_copy_0 7 rfl rfl)
theorem dX6_copy_10 : decode cX6_copy 10 = .ok (.putfield 53, 3) := dk_181 0 53 (dk_at dksX6_copy_0 10 rfl rfl)
theorem dX6_copy_13 : decode cX6_copy 13 = .ok (.aload_n 1, 1) := dk_43 (dk_at dksX6_copy_0 13 rfl rfl)
theorem dX6_copy_14 : decode cX6_copy 14 = .ok (.aload_n 0, 1) := dk_42 (dk_at dksX6_copy_0 14 rfl rfl)
theorem dX6_copy_15 : decode cX6_copy 15 = .ok (.getfield 56, 3) := dk_180 0 56 (dk_at dksX6_copy_0 15 rfl rfl)
theorem dX6_copy_18 : decode cX6_copy 18 = .ok (.putfield 56, 3) := dk_181 0 56 (dk_at dksX6_copy_0 18 rfl rfl)
theorem dX6_copy_21 : decode cX6_copy 21 = .ok (.aload_n 1, 1) := dk_43 (dk_at dksX6_copy_0 21 rfl rfl)
theorem dX6_copy_22 : decode cX6_copy 22 = .ok (.aload_n 0, 1) := dk_42 (dk_at dksX6_copy_0 22 rfl rfl)
theorem dX6_copy_23 : decode cX6_copy 23 = .ok (.getfield 46, 3) := dk_180 0 46 (dk_at dksX6_copy_1 0 rfl rfl)
theorem dX6_copy_26 : decode cX6_copy 26 = .ok (.putfield 46, 3) := dk_181 0 46 (dk_at dksX6_copy_1 3 rfl rfl)
theorem dX6_copy_29 : decode cX6_copy 29 = .ok (.aload_n 1, 1) := dk_43 (dk_at dksX6_copy_1 6 rfl rfl)
theorem dX6_copy_30 : decode cX6_copy 30 = .ok (.aload_n 0, 1) := dk_42 (dk_at dksX6_copy_1 7 rfl rfl)
theorem dX6_copy_31 : decode cX6_copy 31 = .ok (.getfield 9, 3) := dk_180 0 9 (dk_at dksX6_copy_1 8 rfl rfl)
theorem dX6_copy_34 : decode cX6_copy 34 = .ok (.putfield 9, 3) := dk_181 0 9 (dk_at dksX6_copy_1 11 rfl rfl)
theorem dX6_copy_37 : decode cX6_copy 37 = .ok (.aload_n 1, 1) := dk_43 (dk_at dksX6_copy_1 14 rfl rfl)
theorem dX6_copy_38 : decode cX6_copy 38 = .ok (.aload_n 0, 1) := dk_42 (dk_at dksX6_copy_1 15 rfl rfl)
theorem dX6_copy_39 : decode cX6_copy 39 = .ok (.getfield 59, 3) := dk_180 0 59 (dk_at dksX6_copy_1 16 rfl rfl)
theorem dX6_copy_42 : decode cX6_copy 42 = .ok (.putfield 59, 3) := dk_181 0 59 (dk_at dksX6_copy_1 19 rfl rfl)
theorem dX6_copy_45 : decode cX6_copy 45 = .ok (.aload_n 1, 1) := dk_43 (dk_at dksX6_copy_1 22 rfl rfl)
theorem dX6_copy_46 : decode cX6_copy 46 = .ok (.aload_n 0, 1) := dk_42 (dk_at dksX6_copy_1 23 rfl rfl)
theorem dX6_copy_47 : decode cX6_copy 47 = .ok (.getfield 62, 3) := dk_180 0 62 (dk_at dksX6_copy_2 0 rfl rfl)
theorem dX6_copy_50 : decode cX6_copy 50 = .ok (.putfield 62, 3) := dk_181 0 62 (dk_at dksX6_copy_2 3 rfl rfl)
theorem dX6_copy_53 : decode cX6_copy 53 = .ok (.aload_n 1, 1) := dk_43 (dk_at dksX6_copy_2 6 rfl rfl)
theorem dX6_copy_54 : decode cX6_copy 54 = .ok (.aload_n 0, 1) := dk_42 (dk_at dksX6_copy_2 7 rfl rfl)
theorem dX6_copy_55 : decode cX6_copy 55 = .ok (.getfield 15, 3) := dk_180 0 15 (dk_at dksX6_copy_2 8 rfl rfl)
theorem dX6_copy_58 : decode cX6_copy 58 = .ok (.putfield 15, 3) := dk_181 0 15 (dk_at dksX6_copy_2 11 rfl rfl)
theorem dX6_copy_61 : decode cX6_copy 61 = .ok (.aload_n 1, 1) := dk_43 (dk_at dksX6_copy_2 14 rfl rfl)
theorem dX6_copy_62 : decode cX6_copy 62 = .ok (.aload_n 0, 1) := dk_42 (dk_at dksX6_copy_2 15 rfl rfl)
theorem dX6_copy_63 : decode cX6_copy 63 = .ok (.getfield 18, 3) := dk_180 0 18 (dk_at dksX6_copy_2 16 rfl rfl)
theorem dX6_copy_66 : decode cX6_copy 66 = .ok (.putfield 18, 3) := dk_181 0 18 (dk_at dksX6_copy_2 19 rfl rfl)
theorem dX6_copy_69 : decode cX6_copy 69 = .ok (.aload_n 1, 1) := dk_43 (dk_at dksX6_copy_2 22 rfl rfl)
theorem dX6_copy_70 : decode cX6_copy 70 = .ok (.aload_n 0, 1) := dk_42 (dk_at dksX6_copy_2 23 rfl rfl)
theorem dX6_copy_71 : decode cX6_copy 71 = .ok (.getfield 21, 3) := dk_180 0 21 (dk_at dksX6_copy_3 0 rfl rfl)
theorem dX6_copy_74 : decode cX6_copy 74 = .ok (.putfield 21, 3) := dk_181 0 21 (dk_at dksX6_copy_3 3 rfl rfl)
theorem dX6_copy_77 : decode cX6_copy 77 = .ok (.aload_n 1, 1) := dk_43 (dk_at dksX6_copy_3 6 rfl rfl)
theorem dX6_copy_78 : decode cX6_copy 78 = .ok (.aload_n 0, 1) := dk_42 (dk_at dksX6_copy_3 7 rfl rfl)
theorem dX6_copy_79 : decode cX6_copy 79 = .ok (.getfield 65, 3) := dk_180 0 65 (dk_at dksX6_copy_3 8 rfl rfl)
theorem dX6_copy_82 : decode cX6_copy 82 = .ok (.putfield 65, 3) := dk_181 0 65 (dk_at dksX6_copy_3 11 rfl rfl)
theorem dX6_copy_85 : decode cX6_copy 85 = .ok (.aload_n 1, 1) := dk_43 (dk_at dksX6_copy_3 14 rfl rfl)
theorem dX6_copy_86 : decode cX6_copy 86 = .ok (.aload_n 0, 1) := dk_42 (dk_at dksX6_copy_3 15 rfl rfl)
theorem dX6_copy_87 : decode cX6_copy 87 = .ok (.getfield 68, 3) := dk_180 0 68 (dk_at dksX6_copy_3 16 rfl rfl)
theorem dX6_copy_90 : decode cX6_copy 90 = .ok (.putfield 68, 3) := dk_181 0 68 (dk_at dksX6_copy_3 19 rfl rfl)
theorem dX6_copy_93 : decode cX6_copy 93 = .ok (.aload_n 1, 1) := dk_43 (dk_at dksX6_copy_3 22 rfl rfl)
theorem dX6_copy_94 : decode cX6_copy 94 = .ok (.aload_n 0, 1) := dk_42 (dk_at dksX6_copy_3 23 rfl rfl)
theorem dX6_copy_95 : decode cX6_copy 95 = .ok (.getfield 72, 3) := dk_180 0 72 (dk_at dksX6_copy_4 0 rfl rfl)
theorem dX6_copy_98 : decode cX6_copy 98 = .ok (.putfield 72, 3) := dk_181 0 72 (dk_at dksX6_copy_4 3 rfl rfl)
theorem dX6_copy_101 : decode cX6_copy 101 = .ok (.aload_n 0, 1) := dk_42 (dk_at dksX6_copy_4 6 rfl rfl)
theorem dX6_copy_102 : decode cX6_copy 102 = .ok (.getfield 24, 3) := dk_180 0 24 (dk_at dksX6_copy_4 7 rfl rfl)
theorem dX6_copy_105 : decode cX6_copy 105 = .ok (.iconst 0, 1) := dk_3 (dk_at dksX6_copy_4 10 rfl rfl)
theorem dX6_copy_106 : decode cX6_copy 106 = .ok (.aload_n 1, 1) := dk_43 (dk_at dksX6_copy_4 11 rfl rfl)
theorem dX6_copy_107 : decode cX6_copy 107 = .ok (.getfield 24, 3) := dk_180 0 24 (dk_at dksX6_copy_4 12 rfl rfl)
theorem dX6_copy_110 : decode cX6_copy 110 = .ok (.iconst 0, 1) := dk_3 (dk_at dksX6_copy_4 15 rfl rfl)
theorem dX6_copy_111 : decode cX6_copy 111 = .ok (.iconst 4, 1) := dk_7 (dk_at dksX6_copy_4 16 rfl rfl)
theorem dX6_copy_112 : decode cX6_copy 112 = .ok (.invokestatic 75, 3) := dk_184 0 75 (dk_at dksX6_copy_4 17 rfl rfl)
theorem dX6_copy_115 : decode cX6_copy 115 = .ok (.aload_n 0, 1) := dk_42 (dk_at dksX6_copy_4 20 rfl rfl)
theorem dX6_copy_116 : decode cX6_copy 116 = .ok (.getfield 28, 3) := dk_180 0 28 (dk_at dksX6_copy_4 21 rfl rfl)
theorem dX6_copy_119 : decode cX6_copy 119 = .ok (.iconst 0, 1) := dk_3 (dk_at dksX6_copy_5 0 rfl rfl)
theorem dX6_copy_120 : decode cX6_copy 120 = .ok (.aload_n 1, 1) := dk_43 (dk_at dksX6_copy_5 1 rfl rfl)
theorem dX6_copy_121 : decode cX6_copy 121 = .ok (.getfield 28, 3) := dk_180 0 28 (dk_at dksX6_copy_5 2 rfl rfl)
theorem dX6_copy_124 : decode cX6_copy 124 = .ok (.iconst 0, 1) := dk_3 (dk_at dksX6_copy_5 5 rfl rfl)
theorem dX6_copy_125 : decode cX6_copy 125 = .ok (.iconst 4, 1) := dk_7 (dk_at dksX6_copy_5 6 rfl rfl)
theorem dX6_copy_126 : decode cX6_copy 126 = .ok (.invokestatic 75, 3) := dk_184 0 75 (dk_at dksX6_copy_5 7 rfl rfl)
theorem dX6_copy_129 : decode cX6_copy 129 = .ok (.aload_n 1, 1) := dk_43 (dk_at dksX6_copy_5 10 rfl rfl)
theorem dX6_copy_130 : decode cX6_copy 130 = .ok (.areturn, 1) := dk_176 (dk_at dksX6_copy_5 11 rfl rfl)
theorem q111 : (Jvm.Cond.initialized "BrothFlasks$Flask") ∈ lw_all := lw_g (lw_at lw_m1 7 rfl) rfl
theorem q261 : (Jvm.Cond.fieldLink "BrothFlasks$Flask" (91 : Nat) "BrothFlasks$Case" "numbers" "[I") ∈ lw_all := lw_g (lw_at lw_m1 157 rfl) rfl
theorem q473 : (Jvm.Cond.instanceMethod ({ cls := "BrothFlasks$Flask", name := "<init>", desc := "(IIIII)V" } : Jvm.MethodName)) ∈ lw_all := lw_g (lw_at lw_m2 129 rfl) rfl
theorem q474 : (Jvm.Cond.code ({ cls := "BrothFlasks$Flask", name := "<init>", desc := "(IIIII)V" } : Jvm.MethodName) prog_9_method_1_code (6 : Nat) (Option.none : Option Jvm.ClassFile.FieldType)) ∈ lw_all := lw_g (lw_at lw_m2 130 rfl) rfl
theorem q475 : (Jvm.Cond.methodLink "BrothFlasks$Flask" (3 : Nat) ({ cls := "java/lang/Object", name := "<init>", desc := "()V" } : Jvm.MethodName)) ∈ lw_all := lw_g (lw_at lw_m2 131 rfl) rfl
theorem q476 : (Jvm.Cond.fieldLink "BrothFlasks$Flask" (31 : Nat) "BrothFlasks$Flask" "broth" "I") ∈ lw_all := lw_g (lw_at lw_m2 132 rfl) rfl
theorem q484 : (Jvm.Cond.fieldLink "BrothFlasks$Flask" (34 : Nat) "BrothFlasks$Flask" "sort" "I") ∈ lw_all := lw_g (lw_at lw_m2 140 rfl) rfl
theorem q491 : (Jvm.Cond.fieldLink "BrothFlasks$Flask" (40 : Nat) "BrothFlasks$Flask" "hand" "I") ∈ lw_all := lw_g (lw_at lw_m2 147 rfl) rfl
theorem q499 : (Jvm.Cond.fieldLink "BrothFlasks$Flask" (43 : Nat) "BrothFlasks$Flask" "made" "I") ∈ lw_all := lw_g (lw_at lw_m2 155 rfl) rfl
theorem q507 : (Jvm.Cond.fieldLink "BrothFlasks$Flask" (37 : Nat) "BrothFlasks$Flask" "place" "I") ∈ lw_all := lw_g (lw_at lw_m2 163 rfl) rfl
theorem q516 : (Jvm.Cond.fieldLink "BrothFlasks$Flask" (53 : Nat) "BrothFlasks$Flask" "heat" "I") ∈ lw_all := lw_g (lw_at lw_m2 172 rfl) rfl
theorem q517 : (Jvm.Cond.fieldLink "BrothFlasks$Flask" (56 : Nat) "BrothFlasks$Flask" "minutes" "I") ∈ lw_all := lw_g (lw_at lw_m2 173 rfl) rfl
theorem q518 : (Jvm.Cond.fieldLink "BrothFlasks$Flask" (46 : Nat) "BrothFlasks$Flask" "begun" "I") ∈ lw_all := lw_g (lw_at lw_m2 174 rfl) rfl
theorem q519 : (Jvm.Cond.fieldLink "BrothFlasks$Flask" (9 : Nat) "BrothFlasks$Flask" "openTo" "I") ∈ lw_all := lw_g (lw_at lw_m2 175 rfl) rfl
theorem q522 : (Jvm.Cond.fieldLink "BrothFlasks$Flask" (59 : Nat) "BrothFlasks$Flask" "opened" "I") ∈ lw_all := lw_g (lw_at lw_m2 178 rfl) rfl
theorem q524 : (Jvm.Cond.fieldLink "BrothFlasks$Flask" (62 : Nat) "BrothFlasks$Flask" "airy" "I") ∈ lw_all := lw_g (lw_at lw_m2 180 rfl) rfl
theorem q526 : (Jvm.Cond.fieldLink "BrothFlasks$Flask" (15 : Nat) "BrothFlasks$Flask" "tippedOn" "I") ∈ lw_all := lw_g (lw_at lw_m2 182 rfl) rfl
theorem q529 : (Jvm.Cond.fieldLink "BrothFlasks$Flask" (18 : Nat) "BrothFlasks$Flask" "by" "I") ∈ lw_all := lw_g (lw_at lw_m2 185 rfl) rfl
theorem q532 : (Jvm.Cond.fieldLink "BrothFlasks$Flask" (21 : Nat) "BrothFlasks$Flask" "turnedOn" "I") ∈ lw_all := lw_g (lw_at lw_m2 188 rfl) rfl
theorem q536 : (Jvm.Cond.fieldLink "BrothFlasks$Flask" (65 : Nat) "BrothFlasks$Flask" "many" "I") ∈ lw_all := lw_g (lw_at lw_m2 192 rfl) rfl
theorem q538 : (Jvm.Cond.fieldLink "BrothFlasks$Flask" (68 : Nat) "BrothFlasks$Flask" "isTipped" "Z") ∈ lw_all := lw_g (lw_at lw_m2 194 rfl) rfl
theorem q540 : (Jvm.Cond.fieldLink "BrothFlasks$Flask" (72 : Nat) "BrothFlasks$Flask" "isTurned" "Z") ∈ lw_all := lw_g (lw_at lw_m2 196 rfl) rfl
theorem q543 : (Jvm.Cond.fieldLink "BrothFlasks$Flask" (24 : Nat) "BrothFlasks$Flask" "grains" "[I") ∈ lw_all := lw_g (lw_at lw_m2 199 rfl) rfl
theorem q545 : (Jvm.Cond.fieldLink "BrothFlasks$Flask" (28 : Nat) "BrothFlasks$Flask" "fell" "[I") ∈ lw_all := lw_g (lw_at lw_m2 201 rfl) rfl
theorem q548 : (Jvm.Cond.soleField "BrothFlasks$Flask" "broth") ∈ lw_all := lw_g (lw_at lw_m2 204 rfl) rfl
theorem q550 : (Jvm.Cond.soleField "BrothFlasks$Flask" "sort") ∈ lw_all := lw_g (lw_at lw_m2 206 rfl) rfl
theorem q552 : (Jvm.Cond.soleField "BrothFlasks$Flask" "hand") ∈ lw_all := lw_g (lw_at lw_m2 208 rfl) rfl
theorem q554 : (Jvm.Cond.soleField "BrothFlasks$Flask" "made") ∈ lw_all := lw_g (lw_at lw_m2 210 rfl) rfl
theorem q556 : (Jvm.Cond.soleField "BrothFlasks$Flask" "place") ∈ lw_all := lw_g (lw_at lw_m2 212 rfl) rfl
theorem q558 : (Jvm.Cond.soleField "BrothFlasks$Flask" "heat") ∈ lw_all := lw_g (lw_at lw_m2 214 rfl) rfl
theorem q560 : (Jvm.Cond.soleField "BrothFlasks$Flask" "minutes") ∈ lw_all := lw_g (lw_at lw_m2 216 rfl) rfl
theorem q562 : (Jvm.Cond.soleField "BrothFlasks$Flask" "begun") ∈ lw_all := lw_g (lw_at lw_m2 218 rfl) rfl
theorem q564 : (Jvm.Cond.soleField "BrothFlasks$Flask" "openTo") ∈ lw_all := lw_g (lw_at lw_m2 220 rfl) rfl
theorem q566 : (Jvm.Cond.soleField "BrothFlasks$Flask" "opened") ∈ lw_all := lw_g (lw_at lw_m2 222 rfl) rfl
theorem q568 : (Jvm.Cond.soleField "BrothFlasks$Flask" "airy") ∈ lw_all := lw_g (lw_at lw_m2 224 rfl) rfl
theorem q570 : (Jvm.Cond.soleField "BrothFlasks$Flask" "tippedOn") ∈ lw_all := lw_g (lw_at lw_m2 226 rfl) rfl
theorem q572 : (Jvm.Cond.soleField "BrothFlasks$Flask" "by") ∈ lw_all := lw_g (lw_at lw_m2 228 rfl) rfl
theorem q574 : (Jvm.Cond.soleField "BrothFlasks$Flask" "turnedOn") ∈ lw_all := lw_g (lw_at lw_m2 230 rfl) rfl
theorem q576 : (Jvm.Cond.soleField "BrothFlasks$Flask" "many") ∈ lw_all := lw_g (lw_at lw_m2 232 rfl) rfl
theorem q578 : (Jvm.Cond.soleField "BrothFlasks$Flask" "isTipped") ∈ lw_all := lw_g (lw_at lw_m2 234 rfl) rfl
theorem q580 : (Jvm.Cond.soleField "BrothFlasks$Flask" "isTurned") ∈ lw_all := lw_g (lw_at lw_m2 236 rfl) rfl
theorem q582 : (Jvm.Cond.soleField "BrothFlasks$Flask" "grains") ∈ lw_all := lw_g (lw_at lw_m2 238 rfl) rfl
theorem q584 : (Jvm.Cond.soleField "BrothFlasks$Flask" "fell") ∈ lw_all := lw_g (lw_at lw_m3 0 rfl) rfl
theorem q644 : (Jvm.Cond.instanceMethod ({ cls := "BrothFlasks$Flask", name := "heat", desc := "(III[LBrothFlasks$Kind;)V" } : Jvm.MethodName)) ∈ lw_all := lw_g (lw_at lw_m3 60 rfl) rfl
theorem q645 : (Jvm.Cond.sameMethod "BrothFlasks$Flask" "BrothFlasks$Flask" "heat" "(III[LBrothFlasks$Kind;)V") ∈ lw_all := lw_g (lw_at lw_m3 61 rfl) rfl
theorem q649 : (Jvm.Cond.code ({ cls := "BrothFlasks$Flask", name := "heat", desc := "(III[LBrothFlasks$Kind;)V" } : Jvm.MethodName) prog_9_method_7_code (7 : Nat) (Option.none : Option Jvm.ClassFile.FieldType)) ∈ lw_all := lw_g (lw_at lw_m3 65 rfl) rfl
theorem q650 : (Jvm.Cond.methodLink "BrothFlasks$Flask" (85 : Nat) ({ cls := "BrothFlasks$Kind", name := "outlives", desc := "(II)Z" } : Jvm.MethodName)) ∈ lw_all := lw_g (lw_at lw_m3 66 rfl) rfl
theorem q667 : (Jvm.Cond.instanceMethod ({ cls := "BrothFlasks$Flask", name := "mayTip", desc := "()Z" } : Jvm.MethodName)) ∈ lw_all := lw_g (lw_at lw_m3 83 rfl) rfl
theorem q668 : (Jvm.Cond.sameMethod "BrothFlasks$Flask" "BrothFlasks$Flask" "mayTip" "()Z") ∈ lw_all := lw_g (lw_at lw_m3 84 rfl) rfl
theorem q674 : (Jvm.Cond.code ({ cls := "BrothFlasks$Flask", name := "mayTip", desc := "()Z" } : Jvm.MethodName) prog_9_method_4_code (1 : Nat) (Option.some Jvm.ClassFile.FieldType.boolean)) ∈ lw_all := lw_g (lw_at lw_m3 90 rfl) rfl
theorem q702 : (Jvm.Cond.instanceMethod ({ cls := "BrothFlasks$Flask", name := "hasAir", desc := "()Z" } : Jvm.MethodName)) ∈ lw_all := lw_g (lw_at lw_m3 118 rfl) rfl
theorem q703 : (Jvm.Cond.sameMethod "BrothFlasks$Flask" "BrothFlasks$Flask" "hasAir" "()Z") ∈ lw_all := lw_g (lw_at lw_m3 119 rfl) rfl
theorem q707 : (Jvm.Cond.code ({ cls := "BrothFlasks$Flask", name := "hasAir", desc := "()Z" } : Jvm.MethodName) prog_9_method_6_code (1 : Nat) (Option.some Jvm.ClassFile.FieldType.boolean)) ∈ lw_all := lw_g (lw_at lw_m3 123 rfl) rfl
theorem q708 : (Jvm.Cond.methodLink "BrothFlasks$Flask" (81 : Nat) ({ cls := "BrothFlasks$Flask", name := "breathes", desc := "()Z" } : Jvm.MethodName)) ∈ lw_all := lw_g (lw_at lw_m3 124 rfl) rfl
theorem q709 : (Jvm.Cond.declares ({ cls := "BrothFlasks$Flask", name := "breathes", desc := "()Z" } : Jvm.MethodName)) ∈ lw_tbl := lw_at lw_m3 125 rfl
theorem q710 : (Jvm.Cond.sameMethod "BrothFlasks$Flask" "BrothFlasks$Flask" "breathes" "()Z") ∈ lw_all := lw_g (lw_at lw_m3 126 rfl) rfl
theorem q732 : (Jvm.Cond.instanceMethod ({ cls := "BrothFlasks$Flask", name := "fill", desc := "(LBrothFlasks$Case;I)V" } : Jvm.MethodName)) ∈ lw_all := lw_g (lw_at lw_m3 148 rfl) rfl
theorem q733 : (Jvm.Cond.sameMethod "BrothFlasks$Flask" "BrothFlasks$Flask" "fill" "(LBrothFlasks$Case;I)V") ∈ lw_all := lw_g (lw_at lw_m3 149 rfl) rfl
theorem q737 : (Jvm.Cond.code ({ cls := "BrothFlasks$Flask", name := "fill", desc := "(LBrothFlasks$Case;I)V" } : Jvm.MethodName) prog_9_method_8_code (4 : Nat) (Option.none : Option Jvm.ClassFile.FieldType)) ∈ lw_all := lw_g (lw_at lw_m3 153 rfl) rfl
theorem q738 : (Jvm.Cond.methodLink "BrothFlasks$Flask" (96 : Nat) ({ cls := "java/lang/Math", name := "min", desc := "(II)I" } : Jvm.MethodName)) ∈ lw_all := lw_g (lw_at lw_m3 154 rfl) rfl
theorem q1430 : (Jvm.Cond.instanceMethod ({ cls := "BrothFlasks$Flask", name := "copy", desc := "()LBrothFlasks$Flask;" } : Jvm.MethodName)) ∈ lw_all := lw_g (lw_at lw_m6 126 rfl) rfl
theorem q1431 : (Jvm.Cond.sameMethod "BrothFlasks$Flask" "BrothFlasks$Flask" "copy" "()LBrothFlasks$Flask;") ∈ lw_all := lw_g (lw_at lw_m6 127 rfl) rfl
theorem q1435 : (Jvm.Cond.code ({ cls := "BrothFlasks$Flask", name := "copy", desc := "()LBrothFlasks$Flask;" } : Jvm.MethodName) prog_9_method_5_code (2 : Nat) (Option.some (Jvm.ClassFile.FieldType.object "BrothFlasks$Flask"))) ∈ lw_all := lw_g (lw_at lw_m6 131 rfl) rfl
theorem q1436 : (Jvm.Cond.methodLink "BrothFlasks$Flask" (49 : Nat) ({ cls := "BrothFlasks$Flask", name := "fresh", desc := "()LBrothFlasks$Flask;" } : Jvm.MethodName)) ∈ lw_all := lw_g (lw_at lw_m6 132 rfl) rfl
theorem q1437 : (Jvm.Cond.declares ({ cls := "BrothFlasks$Flask", name := "fresh", desc := "()LBrothFlasks$Flask;" } : Jvm.MethodName)) ∈ lw_tbl := lw_at lw_m6 133 rfl
theorem q1438 : (Jvm.Cond.sameMethod "BrothFlasks$Flask" "BrothFlasks$Flask" "fresh" "()LBrothFlasks$Flask;") ∈ lw_all := lw_g (lw_at lw_m6 134 rfl) rfl
theorem q1454 : (Jvm.Cond.methodLink "BrothFlasks$Flask" (75 : Nat) ({ cls := "java/lang/System", name := "arraycopy", desc := "(Ljava/lang/Object;ILjava/lang/Object;II)V" } : Jvm.MethodName)) ∈ lw_all := lw_g (lw_at lw_m6 150 rfl) rfl
/-! BrothFlasks$Airy -/
set_option maxRecDepth 100000
def RX7 : String := "BrothFlasks$Airy"
def TX7 : u_T := fun k => match k with
  | 0 => ("BrothFlasks$Flask", "broth", "I", true)
  | 1 => ("BrothFlasks$Flask", "sort", "I", true)
  | 2 => ("BrothFlasks$Flask", "hand", "I", true)
  | 3 => ("BrothFlasks$Flask", "made", "I", true)
  | 4 => ("BrothFlasks$Flask", "place", "I", false)
  | 5 => ("BrothFlasks$Flask", "heat", "I", false)
  | 6 => ("BrothFlasks$Flask", "minutes", "I", false)
  | 7 => ("BrothFlasks$Flask", "begun", "I", false)
  | 8 => ("BrothFlasks$Flask", "openTo", "I", false)
  | 9 => ("BrothFlasks$Flask", "opened", "I", false)
  | 10 => ("BrothFlasks$Flask", "airy", "I", false)
  | 11 => ("BrothFlasks$Flask", "tippedOn", "I", false)
  | 12 => ("BrothFlasks$Flask", "by", "I", false)
  | 13 => ("BrothFlasks$Flask", "turnedOn", "I", false)
  | 14 => ("BrothFlasks$Flask", "many", "I", false)
  | 15 => ("BrothFlasks$Flask", "isTipped", "Z", false)
  | 16 => ("BrothFlasks$Flask", "isTurned", "Z", false)
  | 17 => ("BrothFlasks$Flask", "grains", "[I", true)
  | _ => ("BrothFlasks$Flask", "fell", "[I", true)
def tyX7 : Nat → FieldType := fun k => match k with
  | 0 => .int
  | 1 => .int
  | 2 => .int
  | 3 => .int
  | 4 => .int
  | 5 => .int
  | 6 => .int
  | 7 => .int
  | 8 => .int
  | 9 => .int
  | 10 => .int
  | 11 => .int
  | 12 => .int
  | 13 => .int
  | 14 => .int
  | 15 => .boolean
  | 16 => .boolean
  | 17 => .array .int
  | _ => .array .int
abbrev wsX70 : List Cond := u_ws RX7 TX7 19
set_option maxRecDepth 100000 in
theorem nmX7 : ∀ a, a < 19 → ∀ b, b < 19 → a ≠ b → (TX7 a).2.1 ≠ (TX7 b).2.1 := by decide +kernel
set_option maxRecDepth 100000 in
theorem tyX7_ok : ∀ k, k < 19 → parseFieldDescriptor (TX7 k).2.2.1 = some (tyX7 k) := by decide +kernel
abbrev cX7_init : ByteArray := prog_2_method_1_code
def yX7_init : MethodName := ⟨RX7, "<init>", "(IIIII)V"⟩
def dkwX7_init_0 : List UInt8 := [42, 27, 28, 29, 21, 4, 21, 5, 183, 0, 1, 177]
abbrev dktX7_init_0 : List UInt8 := dkwX7_init_0 ++ []
theorem dksX7_init_0 : cX7_init.data.toList.drop 0 = dktX7_init_0 := by decide +kernel
theorem dX7_init_0 : decode cX7_init 0 = .ok (.aload_n 0, 1) := dk_42 (dk_at dksX7_init_0 0 rfl rfl)
theorem dX7_init_1 : decode cX7_init 1 = .ok (.iload_n 1, 1) := dk_27 (dk_at dksX7_init_0 1 rfl rfl)
theorem dX7_init_2 : decode cX7_init 2 = .ok (.iload_n 2, 1) := dk_28 (dk_at dksX7_init_0 2 rfl rfl)
theorem dX7_init_3 : decode cX7_init 3 = .ok (.iload_n 3, 1) := dk_29 (dk_at dksX7_init_0 3 rfl rfl)
theorem dX7_init_4 : decode cX7_init 4 = .ok (.iload 4, 2) := dk_21 4 (dk_at dksX7_init_0 4 rfl rfl)
theorem dX7_init_6 : decode cX7_init 6 = .ok (.iload 5, 2) := dk_21 5 (dk_at dksX7_init_0 6 rfl rfl)
theorem dX7_init_8 : decode cX7_init 8 = .ok (.invokespecial 1, 3) := dk_183 0 1 (dk_at dksX7_init_0 8 rfl rfl)
theorem dX7_init_11 : decode cX7_init 11 = .ok (.return_, 1) := dk_177 (dk_at dksX7_init_0 11 rfl rfl)
abbrev cX7_breathes : ByteArray := prog_2_method_2_code
def yX7_breathes : MethodName := ⟨RX7, "breathes", "()Z"⟩
theorem dX7_breathes_0 : decode cX7_breathes 0 = .ok (.iconst 1, 1) := by decide +kernel
theorem dX7_breathes_1 : decode cX7_breathes 1 = .ok (.ireturn, 1) := by decide +kernel
abbrev cX7_fresh : ByteArray := prog_2_method_3_code
def yX7_fresh : MethodName := ⟨RX7, "fresh", "()LBrothFlasks$Flask;"⟩
def dkwX7_fresh_1 : List UInt8 := [183, 0, 25, 176]
abbrev dktX7_fresh_1 : List UInt8 := dkwX7_fresh_1 ++ []
def dkwX7_fresh_0 : List UInt8 := [187, 0, 7, 89, 42, 180, 0, 9, 42, 180, 0, 13, 42, 180, 0, 16, 42, 180, 0, 19, 42, 180, 0, 22]
abbrev dktX7_fresh_0 : List UInt8 := dkwX7_fresh_0 ++ dktX7_fresh_1
theorem dksX7_fresh_0 : cX7_fresh.data.toList.drop 0 = dktX7_fresh_0 := by decide +kernel
theorem dksX7_fresh_1 : cX7_fresh.data.toList.drop 24 = dktX7_fresh_1 := dk_seg dksX7_fresh_0 24 rfl rfl
theorem dX7_fresh_0 : decode cX7_fresh 0 = .ok (.new 7, 3) := dk_187 0 7 (dk_at dksX7_fresh_0 0 rfl rfl)
theorem dX7_fresh_3 : decode cX7_fresh 3 = .ok (.dup, 1) := dk_89 (dk_at dksX7_fresh_0 3 rfl rfl)
theorem dX7_fresh_4 : decode cX7_fresh 4 = .ok (.aload_n 0, 1) := dk_42 (dk_at dksX7_fresh_0 4 rfl rfl)
theorem dX7_fresh_5 : decode cX7_fresh 5 = .ok (.getfield 9, 3) := dk_180 0 9 (dk_at dksX7_fresh_0 5 rfl rfl)
theorem dX7_fresh_8 : decode cX7_fresh 8 = .ok (.aload_n 0, 1) := dk_42 (dk_at dksX7_fresh_0 8 rfl rfl)
theorem dX7_fresh_9 : decode cX7_fresh 9 = .ok (.getfield 13, 3) := dk_180 0 13 (dk_at dksX7_fresh_0 9 rfl rfl)
theorem dX7_fresh_12 : decode cX7_fresh 12 = .ok (.aload_n 0, 1) := dk_42 (dk_at dksX7_fresh_0 12 rfl rfl)
theorem dX7_fresh_13 : decode cX7_fresh 13 = .ok (.getfield 16, 3) := dk_180 0 16 (dk_at dksX7_fresh_0 13 rfl rfl)
theorem dX7_fresh_16 : decode cX7_fresh 16 = .ok (.aload_n 0, 1) := dk_42 (dk_at dksX7_fresh_0 16 rfl rfl)
theorem dX7_fresh_17 : decode cX7_fresh 17 = .ok (.getfield 19, 3) := dk_180 0 19 (dk_at dksX7_fresh_0 17 rfl rfl)
theorem dX7_fresh_20 : decode cX7_fresh 20 = .ok (.aload_n 0, 1) := dk_42 (dk_at dksX7_fresh_0 20 rfl rfl)
theorem dX7_fresh_21 : decode cX7_fresh 21 = .ok (.getfield 22, 3) := dk_180 0 22 (dk_at dksX7_fresh_0 21 rfl rfl)
theorem dX7_fresh_24 : decode cX7_fresh 24 = .ok (.invokespecial 25, 3) := dk_183 0 25 (dk_at dksX7_fresh_1 0 rfl rfl)
theorem dX7_fresh_27 : decode cX7_fresh 27 = .ok (.areturn, 1) := dk_176 (dk_at dksX7_fresh_1 3 rfl rfl)
theorem q112 : (Jvm.Cond.initialized "BrothFlasks$Airy") ∈ lw_all := lw_g (lw_at lw_m1 8 rfl) rfl
theorem q470 : (Jvm.Cond.instanceMethod ({ cls := "BrothFlasks$Airy", name := "<init>", desc := "(IIIII)V" } : Jvm.MethodName)) ∈ lw_all := lw_g (lw_at lw_m2 126 rfl) rfl
theorem q471 : (Jvm.Cond.code ({ cls := "BrothFlasks$Airy", name := "<init>", desc := "(IIIII)V" } : Jvm.MethodName) prog_2_method_1_code (6 : Nat) (Option.none : Option Jvm.ClassFile.FieldType)) ∈ lw_all := lw_g (lw_at lw_m2 127 rfl) rfl
theorem q472 : (Jvm.Cond.methodLink "BrothFlasks$Airy" (1 : Nat) ({ cls := "BrothFlasks$Flask", name := "<init>", desc := "(IIIII)V" } : Jvm.MethodName)) ∈ lw_all := lw_g (lw_at lw_m2 128 rfl) rfl
theorem q477 : (Jvm.Cond.fieldLink "BrothFlasks$Airy" (9 : Nat) "BrothFlasks$Airy" "broth" "I") ∈ lw_all := lw_g (lw_at lw_m2 133 rfl) rfl
theorem q478 : (Jvm.Cond.sameField "BrothFlasks$Airy" "BrothFlasks$Flask" "broth" "I") ∈ lw_all := lw_g (lw_at lw_m2 134 rfl) rfl
theorem q485 : (Jvm.Cond.fieldLink "BrothFlasks$Airy" (13 : Nat) "BrothFlasks$Airy" "sort" "I") ∈ lw_all := lw_g (lw_at lw_m2 141 rfl) rfl
theorem q486 : (Jvm.Cond.sameField "BrothFlasks$Airy" "BrothFlasks$Flask" "sort" "I") ∈ lw_all := lw_g (lw_at lw_m2 142 rfl) rfl
theorem q494 : (Jvm.Cond.fieldLink "BrothFlasks$Airy" (19 : Nat) "BrothFlasks$Airy" "hand" "I") ∈ lw_all := lw_g (lw_at lw_m2 150 rfl) rfl
theorem q495 : (Jvm.Cond.sameField "BrothFlasks$Airy" "BrothFlasks$Flask" "hand" "I") ∈ lw_all := lw_g (lw_at lw_m2 151 rfl) rfl
theorem q502 : (Jvm.Cond.fieldLink "BrothFlasks$Airy" (22 : Nat) "BrothFlasks$Airy" "made" "I") ∈ lw_all := lw_g (lw_at lw_m2 158 rfl) rfl
theorem q503 : (Jvm.Cond.sameField "BrothFlasks$Airy" "BrothFlasks$Flask" "made" "I") ∈ lw_all := lw_g (lw_at lw_m2 159 rfl) rfl
theorem q510 : (Jvm.Cond.fieldLink "BrothFlasks$Airy" (16 : Nat) "BrothFlasks$Airy" "place" "I") ∈ lw_all := lw_g (lw_at lw_m2 166 rfl) rfl
theorem q511 : (Jvm.Cond.sameField "BrothFlasks$Airy" "BrothFlasks$Flask" "place" "I") ∈ lw_all := lw_g (lw_at lw_m2 167 rfl) rfl
theorem q587 : (Jvm.Cond.instantiable "BrothFlasks$Airy" (19 : Nat)) ∈ lw_all := lw_g (lw_at lw_m3 3 rfl) rfl
theorem q589 : (Jvm.Cond.laysFinal "BrothFlasks$Airy" "BrothFlasks$Flask" "broth" "I") ∈ lw_all := lw_g (lw_at lw_m3 5 rfl) rfl
theorem q590 : (Jvm.Cond.laysFinal "BrothFlasks$Airy" "BrothFlasks$Flask" "sort" "I") ∈ lw_all := lw_g (lw_at lw_m3 6 rfl) rfl
theorem q591 : (Jvm.Cond.laysFinal "BrothFlasks$Airy" "BrothFlasks$Flask" "hand" "I") ∈ lw_all := lw_g (lw_at lw_m3 7 rfl) rfl
theorem q592 : (Jvm.Cond.laysFinal "BrothFlasks$Airy" "BrothFlasks$Flask" "made" "I") ∈ lw_all := lw_g (lw_at lw_m3 8 rfl) rfl
theorem q593 : (Jvm.Cond.lays "BrothFlasks$Airy" "BrothFlasks$Flask" "place" "I") ∈ lw_all := lw_g (lw_at lw_m3 9 rfl) rfl
theorem q594 : (Jvm.Cond.lays "BrothFlasks$Airy" "BrothFlasks$Flask" "heat" "I") ∈ lw_all := lw_g (lw_at lw_m3 10 rfl) rfl
theorem q595 : (Jvm.Cond.lays "BrothFlasks$Airy" "BrothFlasks$Flask" "minutes" "I") ∈ lw_all := lw_g (lw_at lw_m3 11 rfl) rfl
theorem q596 : (Jvm.Cond.lays "BrothFlasks$Airy" "BrothFlasks$Flask" "begun" "I") ∈ lw_all := lw_g (lw_at lw_m3 12 rfl) rfl
theorem q597 : (Jvm.Cond.lays "BrothFlasks$Airy" "BrothFlasks$Flask" "openTo" "I") ∈ lw_all := lw_g (lw_at lw_m3 13 rfl) rfl
theorem q598 : (Jvm.Cond.lays "BrothFlasks$Airy" "BrothFlasks$Flask" "opened" "I") ∈ lw_all := lw_g (lw_at lw_m3 14 rfl) rfl
theorem q599 : (Jvm.Cond.lays "BrothFlasks$Airy" "BrothFlasks$Flask" "airy" "I") ∈ lw_all := lw_g (lw_at lw_m3 15 rfl) rfl
theorem q600 : (Jvm.Cond.lays "BrothFlasks$Airy" "BrothFlasks$Flask" "tippedOn" "I") ∈ lw_all := lw_g (lw_at lw_m3 16 rfl) rfl
theorem q601 : (Jvm.Cond.lays "BrothFlasks$Airy" "BrothFlasks$Flask" "by" "I") ∈ lw_all := lw_g (lw_at lw_m3 17 rfl) rfl
theorem q602 : (Jvm.Cond.lays "BrothFlasks$Airy" "BrothFlasks$Flask" "turnedOn" "I") ∈ lw_all := lw_g (lw_at lw_m3 18 rfl) rfl
theorem q603 : (Jvm.Cond.lays "BrothFlasks$Airy" "BrothFlasks$Flask" "many" "I") ∈ lw_all := lw_g (lw_at lw_m3 19 rfl) rfl
theorem q604 : (Jvm.Cond.lays "BrothFlasks$Airy" "BrothFlasks$Flask" "isTipped" "Z") ∈ lw_all := lw_g (lw_at lw_m3 20 rfl) rfl
theorem q605 : (Jvm.Cond.lays "BrothFlasks$Airy" "BrothFlasks$Flask" "isTurned" "Z") ∈ lw_all := lw_g (lw_at lw_m3 21 rfl) rfl
theorem q606 : (Jvm.Cond.laysFinal "BrothFlasks$Airy" "BrothFlasks$Flask" "grains" "[I") ∈ lw_all := lw_g (lw_at lw_m3 22 rfl) rfl
theorem q607 : (Jvm.Cond.laysFinal "BrothFlasks$Airy" "BrothFlasks$Flask" "fell" "[I") ∈ lw_all := lw_g (lw_at lw_m3 23 rfl) rfl
theorem q608 : (Jvm.Cond.superclass "BrothFlasks$Airy" "BrothFlasks$Flask") ∈ lw_all := lw_g (lw_at lw_m3 24 rfl) rfl
theorem q646 : (Jvm.Cond.selects "BrothFlasks$Airy" ({ cls := "BrothFlasks$Flask", name := "heat", desc := "(III[LBrothFlasks$Kind;)V" } : Jvm.MethodName) ({ cls := "BrothFlasks$Flask", name := "heat", desc := "(III[LBrothFlasks$Kind;)V" } : Jvm.MethodName)) ∈ lw_all := lw_g (lw_at lw_m3 62 rfl) rfl
theorem q669 : (Jvm.Cond.selects "BrothFlasks$Airy" ({ cls := "BrothFlasks$Flask", name := "mayTip", desc := "()Z" } : Jvm.MethodName) ({ cls := "BrothFlasks$Flask", name := "mayTip", desc := "()Z" } : Jvm.MethodName)) ∈ lw_all := lw_g (lw_at lw_m3 85 rfl) rfl
theorem q704 : (Jvm.Cond.selects "BrothFlasks$Airy" ({ cls := "BrothFlasks$Flask", name := "hasAir", desc := "()Z" } : Jvm.MethodName) ({ cls := "BrothFlasks$Flask", name := "hasAir", desc := "()Z" } : Jvm.MethodName)) ∈ lw_all := lw_g (lw_at lw_m3 120 rfl) rfl
theorem q711 : (Jvm.Cond.selects "BrothFlasks$Airy" ({ cls := "BrothFlasks$Flask", name := "breathes", desc := "()Z" } : Jvm.MethodName) ({ cls := "BrothFlasks$Airy", name := "breathes", desc := "()Z" } : Jvm.MethodName)) ∈ lw_all := lw_g (lw_at lw_m3 127 rfl) rfl
theorem q712 : (Jvm.Cond.instanceMethod ({ cls := "BrothFlasks$Airy", name := "breathes", desc := "()Z" } : Jvm.MethodName)) ∈ lw_all := lw_g (lw_at lw_m3 128 rfl) rfl
theorem q713 : (Jvm.Cond.code ({ cls := "BrothFlasks$Airy", name := "breathes", desc := "()Z" } : Jvm.MethodName) prog_2_method_2_code (1 : Nat) (Option.some Jvm.ClassFile.FieldType.boolean)) ∈ lw_all := lw_g (lw_at lw_m3 129 rfl) rfl
theorem q734 : (Jvm.Cond.selects "BrothFlasks$Airy" ({ cls := "BrothFlasks$Flask", name := "fill", desc := "(LBrothFlasks$Case;I)V" } : Jvm.MethodName) ({ cls := "BrothFlasks$Flask", name := "fill", desc := "(LBrothFlasks$Case;I)V" } : Jvm.MethodName)) ∈ lw_all := lw_g (lw_at lw_m3 150 rfl) rfl
theorem q1432 : (Jvm.Cond.selects "BrothFlasks$Airy" ({ cls := "BrothFlasks$Flask", name := "copy", desc := "()LBrothFlasks$Flask;" } : Jvm.MethodName) ({ cls := "BrothFlasks$Flask", name := "copy", desc := "()LBrothFlasks$Flask;" } : Jvm.MethodName)) ∈ lw_all := lw_g (lw_at lw_m6 128 rfl) rfl
theorem q1439 : (Jvm.Cond.selects "BrothFlasks$Airy" ({ cls := "BrothFlasks$Flask", name := "fresh", desc := "()LBrothFlasks$Flask;" } : Jvm.MethodName) ({ cls := "BrothFlasks$Airy", name := "fresh", desc := "()LBrothFlasks$Flask;" } : Jvm.MethodName)) ∈ lw_all := lw_g (lw_at lw_m6 135 rfl) rfl
theorem q1440 : (Jvm.Cond.instanceMethod ({ cls := "BrothFlasks$Airy", name := "fresh", desc := "()LBrothFlasks$Flask;" } : Jvm.MethodName)) ∈ lw_all := lw_g (lw_at lw_m6 136 rfl) rfl
theorem q1441 : (Jvm.Cond.code ({ cls := "BrothFlasks$Airy", name := "fresh", desc := "()LBrothFlasks$Flask;" } : Jvm.MethodName) prog_2_method_3_code (1 : Nat) (Option.some (Jvm.ClassFile.FieldType.object "BrothFlasks$Flask"))) ∈ lw_all := lw_g (lw_at lw_m6 137 rfl) rfl
theorem q1442 : (Jvm.Cond.classLink "BrothFlasks$Airy" (7 : Nat) "BrothFlasks$Airy") ∈ lw_all := lw_g (lw_at lw_m6 138 rfl) rfl
theorem q1443 : (Jvm.Cond.methodLink "BrothFlasks$Airy" (25 : Nat) ({ cls := "BrothFlasks$Airy", name := "<init>", desc := "(IIIII)V" } : Jvm.MethodName)) ∈ lw_all := lw_g (lw_at lw_m6 139 rfl) rfl
theorem q2060 : (Jvm.Cond.castable "BrothFlasks$Airy" "BrothFlasks$Flask") ∈ lw_tbl := lw_at lw_m9 36 rfl
theorem in_X7 : ∀ w ∈ wsX70, w ∈ lw_all := lw_in wsX70 [589, 590, 591, 592, 593, 594, 595, 596, 597, 598, 599, 600, 601, 602, 603, 604, 605, 606, 607] (by decide +kernel) (by decide +kernel)
/-! BrothFlasks$Swan -/
set_option maxRecDepth 100000
def RX8 : String := "BrothFlasks$Swan"
def TX8 : u_T := fun k => match k with
  | 0 => ("BrothFlasks$Flask", "broth", "I", true)
  | 1 => ("BrothFlasks$Flask", "sort", "I", true)
  | 2 => ("BrothFlasks$Flask", "hand", "I", true)
  | 3 => ("BrothFlasks$Flask", "made", "I", true)
  | 4 => ("BrothFlasks$Flask", "place", "I", false)
  | 5 => ("BrothFlasks$Flask", "heat", "I", false)
  | 6 => ("BrothFlasks$Flask", "minutes", "I", false)
  | 7 => ("BrothFlasks$Flask", "begun", "I", false)
  | 8 => ("BrothFlasks$Flask", "openTo", "I", false)
  | 9 => ("BrothFlasks$Flask", "opened", "I", false)
  | 10 => ("BrothFlasks$Flask", "airy", "I", false)
  | 11 => ("BrothFlasks$Flask", "tippedOn", "I", false)
  | 12 => ("BrothFlasks$Flask", "by", "I", false)
  | 13 => ("BrothFlasks$Flask", "turnedOn", "I", false)
  | 14 => ("BrothFlasks$Flask", "many", "I", false)
  | 15 => ("BrothFlasks$Flask", "isTipped", "Z", false)
  | 16 => ("BrothFlasks$Flask", "isTurned", "Z", false)
  | 17 => ("BrothFlasks$Flask", "grains", "[I", true)
  | _ => ("BrothFlasks$Flask", "fell", "[I", true)
def tyX8 : Nat → FieldType := fun k => match k with
  | 0 => .int
  | 1 => .int
  | 2 => .int
  | 3 => .int
  | 4 => .int
  | 5 => .int
  | 6 => .int
  | 7 => .int
  | 8 => .int
  | 9 => .int
  | 10 => .int
  | 11 => .int
  | 12 => .int
  | 13 => .int
  | 14 => .int
  | 15 => .boolean
  | 16 => .boolean
  | 17 => .array .int
  | _ => .array .int
abbrev wsX80 : List Cond := u_ws RX8 TX8 19
set_option maxRecDepth 100000 in
theorem nmX8 : ∀ a, a < 19 → ∀ b, b < 19 → a ≠ b → (TX8 a).2.1 ≠ (TX8 b).2.1 := by decide +kernel
set_option maxRecDepth 100000 in
theorem tyX8_ok : ∀ k, k < 19 → parseFieldDescriptor (TX8 k).2.2.1 = some (tyX8 k) := by decide +kernel
abbrev cX8_init : ByteArray := prog_19_method_1_code
def yX8_init : MethodName := ⟨RX8, "<init>", "(IIII)V"⟩
def dkwX8_init_0 : List UInt8 := [42, 27, 4, 28, 29, 21, 4, 183, 0, 3, 177]
abbrev dktX8_init_0 : List UInt8 := dkwX8_init_0 ++ []
theorem dksX8_init_0 : cX8_init.data.toList.drop 0 = dktX8_init_0 := by decide +kernel
theorem dX8_init_0 : decode cX8_init 0 = .ok (.aload_n 0, 1) := dk_42 (dk_at dksX8_init_0 0 rfl rfl)
theorem dX8_init_1 : decode cX8_init 1 = .ok (.iload_n 1, 1) := dk_27 (dk_at dksX8_init_0 1 rfl rfl)
theorem dX8_init_2 : decode cX8_init 2 = .ok (.iconst 1, 1) := dk_4 (dk_at dksX8_init_0 2 rfl rfl)
theorem dX8_init_3 : decode cX8_init 3 = .ok (.iload_n 2, 1) := dk_28 (dk_at dksX8_init_0 3 rfl rfl)
theorem dX8_init_4 : decode cX8_init 4 = .ok (.iload_n 3, 1) := dk_29 (dk_at dksX8_init_0 4 rfl rfl)
theorem dX8_init_5 : decode cX8_init 5 = .ok (.iload 4, 2) := dk_21 4 (dk_at dksX8_init_0 5 rfl rfl)
theorem dX8_init_7 : decode cX8_init 7 = .ok (.invokespecial 3, 3) := dk_183 0 3 (dk_at dksX8_init_0 7 rfl rfl)
theorem dX8_init_10 : decode cX8_init 10 = .ok (.return_, 1) := dk_177 (dk_at dksX8_init_0 10 rfl rfl)
abbrev cX8_mayTip : ByteArray := prog_19_method_2_code
def yX8_mayTip : MethodName := ⟨RX8, "mayTip", "()Z"⟩
theorem dX8_mayTip_0 : decode cX8_mayTip 0 = .ok (.iconst 1, 1) := by decide +kernel
theorem dX8_mayTip_1 : decode cX8_mayTip 1 = .ok (.ireturn, 1) := by decide +kernel
abbrev cX8_fresh : ByteArray := prog_19_method_3_code
def yX8_fresh : MethodName := ⟨RX8, "fresh", "()LBrothFlasks$Flask;"⟩
def dkwX8_fresh_0 : List UInt8 := [187, 0, 9, 89, 42, 180, 0, 11, 42, 180, 0, 15, 42, 180, 0, 18, 42, 180, 0, 21, 183, 0, 24, 176]
abbrev dktX8_fresh_0 : List UInt8 := dkwX8_fresh_0 ++ []
theorem dksX8_fresh_0 : cX8_fresh.data.toList.drop 0 = dktX8_fresh_0 := by decide +kernel
theorem dX8_fresh_0 : decode cX8_fresh 0 = .ok (.new 9, 3) := dk_187 0 9 (dk_at dksX8_fresh_0 0 rfl rfl)
theorem dX8_fresh_3 : decode cX8_fresh 3 = .ok (.dup, 1) := dk_89 (dk_at dksX8_fresh_0 3 rfl rfl)
theorem dX8_fresh_4 : decode cX8_fresh 4 = .ok (.aload_n 0, 1) := dk_42 (dk_at dksX8_fresh_0 4 rfl rfl)
theorem dX8_fresh_5 : decode cX8_fresh 5 = .ok (.getfield 11, 3) := dk_180 0 11 (dk_at dksX8_fresh_0 5 rfl rfl)
theorem dX8_fresh_8 : decode cX8_fresh 8 = .ok (.aload_n 0, 1) := dk_42 (dk_at dksX8_fresh_0 8 rfl rfl)
theorem dX8_fresh_9 : decode cX8_fresh 9 = .ok (.getfield 15, 3) := dk_180 0 15 (dk_at dksX8_fresh_0 9 rfl rfl)
theorem dX8_fresh_12 : decode cX8_fresh 12 = .ok (.aload_n 0, 1) := dk_42 (dk_at dksX8_fresh_0 12 rfl rfl)
theorem dX8_fresh_13 : decode cX8_fresh 13 = .ok (.getfield 18, 3) := dk_180 0 18 (dk_at dksX8_fresh_0 13 rfl rfl)
theorem dX8_fresh_16 : decode cX8_fresh 16 = .ok (.aload_n 0, 1) := dk_42 (dk_at dksX8_fresh_0 16 rfl rfl)
theorem dX8_fresh_17 : decode cX8_fresh 17 = .ok (.getfield 21, 3) := dk_180 0 21 (dk_at dksX8_fresh_0 17 rfl rfl)
theorem dX8_fresh_20 : decode cX8_fresh 20 = .ok (.invokespecial 24, 3) := dk_183 0 24 (dk_at dksX8_fresh_0 20 rfl rfl)
theorem dX8_fresh_23 : decode cX8_fresh 23 = .ok (.areturn, 1) := dk_176 (dk_at dksX8_fresh_0 23 rfl rfl)
theorem q113 : (Jvm.Cond.initialized "BrothFlasks$Swan") ∈ lw_all := lw_g (lw_at lw_m1 9 rfl) rfl
theorem q465 : (Jvm.Cond.instantiable "BrothFlasks$Swan" (19 : Nat)) ∈ lw_all := lw_g (lw_at lw_m2 121 rfl) rfl
theorem q467 : (Jvm.Cond.instanceMethod ({ cls := "BrothFlasks$Swan", name := "<init>", desc := "(IIII)V" } : Jvm.MethodName)) ∈ lw_all := lw_g (lw_at lw_m2 123 rfl) rfl
theorem q468 : (Jvm.Cond.code ({ cls := "BrothFlasks$Swan", name := "<init>", desc := "(IIII)V" } : Jvm.MethodName) prog_19_method_1_code (5 : Nat) (Option.none : Option Jvm.ClassFile.FieldType)) ∈ lw_all := lw_g (lw_at lw_m2 124 rfl) rfl
theorem q469 : (Jvm.Cond.methodLink "BrothFlasks$Swan" (3 : Nat) ({ cls := "BrothFlasks$Airy", name := "<init>", desc := "(IIIII)V" } : Jvm.MethodName)) ∈ lw_all := lw_g (lw_at lw_m2 125 rfl) rfl
theorem q481 : (Jvm.Cond.fieldLink "BrothFlasks$Swan" (11 : Nat) "BrothFlasks$Swan" "broth" "I") ∈ lw_all := lw_g (lw_at lw_m2 137 rfl) rfl
theorem q482 : (Jvm.Cond.sameField "BrothFlasks$Swan" "BrothFlasks$Flask" "broth" "I") ∈ lw_all := lw_g (lw_at lw_m2 138 rfl) rfl
theorem q492 : (Jvm.Cond.fieldLink "BrothFlasks$Swan" (18 : Nat) "BrothFlasks$Swan" "hand" "I") ∈ lw_all := lw_g (lw_at lw_m2 148 rfl) rfl
theorem q493 : (Jvm.Cond.sameField "BrothFlasks$Swan" "BrothFlasks$Flask" "hand" "I") ∈ lw_all := lw_g (lw_at lw_m2 149 rfl) rfl
theorem q500 : (Jvm.Cond.fieldLink "BrothFlasks$Swan" (21 : Nat) "BrothFlasks$Swan" "made" "I") ∈ lw_all := lw_g (lw_at lw_m2 156 rfl) rfl
theorem q501 : (Jvm.Cond.sameField "BrothFlasks$Swan" "BrothFlasks$Flask" "made" "I") ∈ lw_all := lw_g (lw_at lw_m2 157 rfl) rfl
theorem q508 : (Jvm.Cond.fieldLink "BrothFlasks$Swan" (15 : Nat) "BrothFlasks$Swan" "place" "I") ∈ lw_all := lw_g (lw_at lw_m2 164 rfl) rfl
theorem q509 : (Jvm.Cond.sameField "BrothFlasks$Swan" "BrothFlasks$Flask" "place" "I") ∈ lw_all := lw_g (lw_at lw_m2 165 rfl) rfl
theorem q547 : (Jvm.Cond.laysFinal "BrothFlasks$Swan" "BrothFlasks$Flask" "broth" "I") ∈ lw_all := lw_g (lw_at lw_m2 203 rfl) rfl
theorem q549 : (Jvm.Cond.laysFinal "BrothFlasks$Swan" "BrothFlasks$Flask" "sort" "I") ∈ lw_all := lw_g (lw_at lw_m2 205 rfl) rfl
theorem q551 : (Jvm.Cond.laysFinal "BrothFlasks$Swan" "BrothFlasks$Flask" "hand" "I") ∈ lw_all := lw_g (lw_at lw_m2 207 rfl) rfl
theorem q553 : (Jvm.Cond.laysFinal "BrothFlasks$Swan" "BrothFlasks$Flask" "made" "I") ∈ lw_all := lw_g (lw_at lw_m2 209 rfl) rfl
theorem q555 : (Jvm.Cond.lays "BrothFlasks$Swan" "BrothFlasks$Flask" "place" "I") ∈ lw_all := lw_g (lw_at lw_m2 211 rfl) rfl
theorem q557 : (Jvm.Cond.lays "BrothFlasks$Swan" "BrothFlasks$Flask" "heat" "I") ∈ lw_all := lw_g (lw_at lw_m2 213 rfl) rfl
theorem q559 : (Jvm.Cond.lays "BrothFlasks$Swan" "BrothFlasks$Flask" "minutes" "I") ∈ lw_all := lw_g (lw_at lw_m2 215 rfl) rfl
theorem q561 : (Jvm.Cond.lays "BrothFlasks$Swan" "BrothFlasks$Flask" "begun" "I") ∈ lw_all := lw_g (lw_at lw_m2 217 rfl) rfl
theorem q563 : (Jvm.Cond.lays "BrothFlasks$Swan" "BrothFlasks$Flask" "openTo" "I") ∈ lw_all := lw_g (lw_at lw_m2 219 rfl) rfl
theorem q565 : (Jvm.Cond.lays "BrothFlasks$Swan" "BrothFlasks$Flask" "opened" "I") ∈ lw_all := lw_g (lw_at lw_m2 221 rfl) rfl
theorem q567 : (Jvm.Cond.lays "BrothFlasks$Swan" "BrothFlasks$Flask" "airy" "I") ∈ lw_all := lw_g (lw_at lw_m2 223 rfl) rfl
theorem q569 : (Jvm.Cond.lays "BrothFlasks$Swan" "BrothFlasks$Flask" "tippedOn" "I") ∈ lw_all := lw_g (lw_at lw_m2 225 rfl) rfl
theorem q571 : (Jvm.Cond.lays "BrothFlasks$Swan" "BrothFlasks$Flask" "by" "I") ∈ lw_all := lw_g (lw_at lw_m2 227 rfl) rfl
theorem q573 : (Jvm.Cond.lays "BrothFlasks$Swan" "BrothFlasks$Flask" "turnedOn" "I") ∈ lw_all := lw_g (lw_at lw_m2 229 rfl) rfl
theorem q575 : (Jvm.Cond.lays "BrothFlasks$Swan" "BrothFlasks$Flask" "many" "I") ∈ lw_all := lw_g (lw_at lw_m2 231 rfl) rfl
theorem q577 : (Jvm.Cond.lays "BrothFlasks$Swan" "BrothFlasks$Flask" "isTipped" "Z") ∈ lw_all := lw_g (lw_at lw_m2 233 rfl) rfl
theorem q579 : (Jvm.Cond.lays "BrothFlasks$Swan" "BrothFlasks$Flask" "isTurned" "Z") ∈ lw_all := lw_g (lw_at lw_m2 235 rfl) rfl
theorem q581 : (Jvm.Cond.laysFinal "BrothFlasks$Swan" "BrothFlasks$Flask" "grains" "[I") ∈ lw_all := lw_g (lw_at lw_m2 237 rfl) rfl
theorem q583 : (Jvm.Cond.laysFinal "BrothFlasks$Swan" "BrothFlasks$Flask" "fell" "[I") ∈ lw_all := lw_g (lw_at lw_m2 239 rfl) rfl
theorem q585 : (Jvm.Cond.superclass "BrothFlasks$Swan" "BrothFlasks$Airy") ∈ lw_all := lw_g (lw_at lw_m3 1 rfl) rfl
theorem q648 : (Jvm.Cond.selects "BrothFlasks$Swan" ({ cls := "BrothFlasks$Flask", name := "heat", desc := "(III[LBrothFlasks$Kind;)V" } : Jvm.MethodName) ({ cls := "BrothFlasks$Flask", name := "heat", desc := "(III[LBrothFlasks$Kind;)V" } : Jvm.MethodName)) ∈ lw_all := lw_g (lw_at lw_m3 64 rfl) rfl
theorem q671 : (Jvm.Cond.selects "BrothFlasks$Swan" ({ cls := "BrothFlasks$Flask", name := "mayTip", desc := "()Z" } : Jvm.MethodName) ({ cls := "BrothFlasks$Swan", name := "mayTip", desc := "()Z" } : Jvm.MethodName)) ∈ lw_all := lw_g (lw_at lw_m3 87 rfl) rfl
theorem q672 : (Jvm.Cond.instanceMethod ({ cls := "BrothFlasks$Swan", name := "mayTip", desc := "()Z" } : Jvm.MethodName)) ∈ lw_all := lw_g (lw_at lw_m3 88 rfl) rfl
theorem q673 : (Jvm.Cond.code ({ cls := "BrothFlasks$Swan", name := "mayTip", desc := "()Z" } : Jvm.MethodName) prog_19_method_2_code (1 : Nat) (Option.some Jvm.ClassFile.FieldType.boolean)) ∈ lw_all := lw_g (lw_at lw_m3 89 rfl) rfl
theorem q706 : (Jvm.Cond.selects "BrothFlasks$Swan" ({ cls := "BrothFlasks$Flask", name := "hasAir", desc := "()Z" } : Jvm.MethodName) ({ cls := "BrothFlasks$Flask", name := "hasAir", desc := "()Z" } : Jvm.MethodName)) ∈ lw_all := lw_g (lw_at lw_m3 122 rfl) rfl
theorem q717 : (Jvm.Cond.selects "BrothFlasks$Swan" ({ cls := "BrothFlasks$Flask", name := "breathes", desc := "()Z" } : Jvm.MethodName) ({ cls := "BrothFlasks$Airy", name := "breathes", desc := "()Z" } : Jvm.MethodName)) ∈ lw_all := lw_g (lw_at lw_m3 133 rfl) rfl
theorem q736 : (Jvm.Cond.selects "BrothFlasks$Swan" ({ cls := "BrothFlasks$Flask", name := "fill", desc := "(LBrothFlasks$Case;I)V" } : Jvm.MethodName) ({ cls := "BrothFlasks$Flask", name := "fill", desc := "(LBrothFlasks$Case;I)V" } : Jvm.MethodName)) ∈ lw_all := lw_g (lw_at lw_m3 152 rfl) rfl
theorem q1434 : (Jvm.Cond.selects "BrothFlasks$Swan" ({ cls := "BrothFlasks$Flask", name := "copy", desc := "()LBrothFlasks$Flask;" } : Jvm.MethodName) ({ cls := "BrothFlasks$Flask", name := "copy", desc := "()LBrothFlasks$Flask;" } : Jvm.MethodName)) ∈ lw_all := lw_g (lw_at lw_m6 130 rfl) rfl
theorem q1449 : (Jvm.Cond.selects "BrothFlasks$Swan" ({ cls := "BrothFlasks$Flask", name := "fresh", desc := "()LBrothFlasks$Flask;" } : Jvm.MethodName) ({ cls := "BrothFlasks$Swan", name := "fresh", desc := "()LBrothFlasks$Flask;" } : Jvm.MethodName)) ∈ lw_all := lw_g (lw_at lw_m6 145 rfl) rfl
theorem q1450 : (Jvm.Cond.instanceMethod ({ cls := "BrothFlasks$Swan", name := "fresh", desc := "()LBrothFlasks$Flask;" } : Jvm.MethodName)) ∈ lw_all := lw_g (lw_at lw_m6 146 rfl) rfl
theorem q1451 : (Jvm.Cond.code ({ cls := "BrothFlasks$Swan", name := "fresh", desc := "()LBrothFlasks$Flask;" } : Jvm.MethodName) prog_19_method_3_code (1 : Nat) (Option.some (Jvm.ClassFile.FieldType.object "BrothFlasks$Flask"))) ∈ lw_all := lw_g (lw_at lw_m6 147 rfl) rfl
theorem q1452 : (Jvm.Cond.classLink "BrothFlasks$Swan" (9 : Nat) "BrothFlasks$Swan") ∈ lw_all := lw_g (lw_at lw_m6 148 rfl) rfl
theorem q1453 : (Jvm.Cond.methodLink "BrothFlasks$Swan" (24 : Nat) ({ cls := "BrothFlasks$Swan", name := "<init>", desc := "(IIII)V" } : Jvm.MethodName)) ∈ lw_all := lw_g (lw_at lw_m6 149 rfl) rfl
theorem q2059 : (Jvm.Cond.castable "BrothFlasks$Swan" "BrothFlasks$Flask") ∈ lw_tbl := lw_at lw_m9 35 rfl
theorem in_X8 : ∀ w ∈ wsX80, w ∈ lw_all := lw_in wsX80 [547, 549, 551, 553, 555, 557, 559, 561, 563, 565, 567, 569, 571, 573, 575, 577, 579, 581, 583] (by decide +kernel) (by decide +kernel)
/-! BrothFlasks$Shut -/
set_option maxRecDepth 100000
def RX9 : String := "BrothFlasks$Shut"
def TX9 : u_T := fun k => match k with
  | 0 => ("BrothFlasks$Flask", "broth", "I", true)
  | 1 => ("BrothFlasks$Flask", "sort", "I", true)
  | 2 => ("BrothFlasks$Flask", "hand", "I", true)
  | 3 => ("BrothFlasks$Flask", "made", "I", true)
  | 4 => ("BrothFlasks$Flask", "place", "I", false)
  | 5 => ("BrothFlasks$Flask", "heat", "I", false)
  | 6 => ("BrothFlasks$Flask", "minutes", "I", false)
  | 7 => ("BrothFlasks$Flask", "begun", "I", false)
  | 8 => ("BrothFlasks$Flask", "openTo", "I", false)
  | 9 => ("BrothFlasks$Flask", "opened", "I", false)
  | 10 => ("BrothFlasks$Flask", "airy", "I", false)
  | 11 => ("BrothFlasks$Flask", "tippedOn", "I", false)
  | 12 => ("BrothFlasks$Flask", "by", "I", false)
  | 13 => ("BrothFlasks$Flask", "turnedOn", "I", false)
  | 14 => ("BrothFlasks$Flask", "many", "I", false)
  | 15 => ("BrothFlasks$Flask", "isTipped", "Z", false)
  | 16 => ("BrothFlasks$Flask", "isTurned", "Z", false)
  | 17 => ("BrothFlasks$Flask", "grains", "[I", true)
  | _ => ("BrothFlasks$Flask", "fell", "[I", true)
def tyX9 : Nat → FieldType := fun k => match k with
  | 0 => .int
  | 1 => .int
  | 2 => .int
  | 3 => .int
  | 4 => .int
  | 5 => .int
  | 6 => .int
  | 7 => .int
  | 8 => .int
  | 9 => .int
  | 10 => .int
  | 11 => .int
  | 12 => .int
  | 13 => .int
  | 14 => .int
  | 15 => .boolean
  | 16 => .boolean
  | 17 => .array .int
  | _ => .array .int
abbrev wsX90 : List Cond := u_ws RX9 TX9 19
set_option maxRecDepth 100000 in
theorem nmX9 : ∀ a, a < 19 → ∀ b, b < 19 → a ≠ b → (TX9 a).2.1 ≠ (TX9 b).2.1 := by decide +kernel
set_option maxRecDepth 100000 in
theorem tyX9_ok : ∀ k, k < 19 → parseFieldDescriptor (TX9 k).2.2.1 = some (tyX9 k) := by decide +kernel
abbrev cX9_init : ByteArray := prog_17_method_1_code
def yX9_init : MethodName := ⟨RX9, "<init>", "(IIIII)V"⟩
def dkwX9_init_0 : List UInt8 := [42, 27, 28, 29, 21, 4, 21, 5, 183, 0, 1, 177]
abbrev dktX9_init_0 : List UInt8 := dkwX9_init_0 ++ []
theorem dksX9_init_0 : cX9_init.data.toList.drop 0 = dktX9_init_0 := by decide +kernel
theorem dX9_init_0 : decode cX9_init 0 = .ok (.aload_n 0, 1) := dk_42 (dk_at dksX9_init_0 0 rfl rfl)
theorem dX9_init_1 : decode cX9_init 1 = .ok (.iload_n 1, 1) := dk_27 (dk_at dksX9_init_0 1 rfl rfl)
theorem dX9_init_2 : decode cX9_init 2 = .ok (.iload_n 2, 1) := dk_28 (dk_at dksX9_init_0 2 rfl rfl)
theorem dX9_init_3 : decode cX9_init 3 = .ok (.iload_n 3, 1) := dk_29 (dk_at dksX9_init_0 3 rfl rfl)
theorem dX9_init_4 : decode cX9_init 4 = .ok (.iload 4, 2) := dk_21 4 (dk_at dksX9_init_0 4 rfl rfl)
theorem dX9_init_6 : decode cX9_init 6 = .ok (.iload 5, 2) := dk_21 5 (dk_at dksX9_init_0 6 rfl rfl)
theorem dX9_init_8 : decode cX9_init 8 = .ok (.invokespecial 1, 3) := dk_183 0 1 (dk_at dksX9_init_0 8 rfl rfl)
theorem dX9_init_11 : decode cX9_init 11 = .ok (.return_, 1) := dk_177 (dk_at dksX9_init_0 11 rfl rfl)
abbrev cX9_breathes : ByteArray := prog_17_method_2_code
def yX9_breathes : MethodName := ⟨RX9, "breathes", "()Z"⟩
theorem dX9_breathes_0 : decode cX9_breathes 0 = .ok (.iconst 0, 1) := by decide +kernel
theorem dX9_breathes_1 : decode cX9_breathes 1 = .ok (.ireturn, 1) := by decide +kernel
abbrev cX9_fresh : ByteArray := prog_17_method_3_code
def yX9_fresh : MethodName := ⟨RX9, "fresh", "()LBrothFlasks$Flask;"⟩
def dkwX9_fresh_1 : List UInt8 := [183, 0, 25, 176]
abbrev dktX9_fresh_1 : List UInt8 := dkwX9_fresh_1 ++ []
def dkwX9_fresh_0 : List UInt8 := [187, 0, 7, 89, 42, 180, 0, 9, 42, 180, 0, 13, 42, 180, 0, 16, 42, 180, 0, 19, 42, 180, 0, 22]
abbrev dktX9_fresh_0 : List UInt8 := dkwX9_fresh_0 ++ dktX9_fresh_1
theorem dksX9_fresh_0 : cX9_fresh.data.toList.drop 0 = dktX9_fresh_0 := by decide +kernel
theorem dksX9_fresh_1 : cX9_fresh.data.toList.drop 24 = dktX9_fresh_1 := dk_seg dksX9_fresh_0 24 rfl rfl
theorem dX9_fresh_0 : decode cX9_fresh 0 = .ok (.new 7, 3) := dk_187 0 7 (dk_at dksX9_fresh_0 0 rfl rfl)
theorem dX9_fresh_3 : decode cX9_fresh 3 = .ok (.dup, 1) := dk_89 (dk_at dksX9_fresh_0 3 rfl rfl)
theorem dX9_fresh_4 : decode cX9_fresh 4 = .ok (.aload_n 0, 1) := dk_42 (dk_at dksX9_fresh_0 4 rfl rfl)
theorem dX9_fresh_5 : decode cX9_fresh 5 = .ok (.getfield 9, 3) := dk_180 0 9 (dk_at dksX9_fresh_0 5 rfl rfl)
theorem dX9_fresh_8 : decode cX9_fresh 8 = .ok (.aload_n 0, 1) := dk_42 (dk_at dksX9_fresh_0 8 rfl rfl)
theorem dX9_fresh_9 : decode cX9_fresh 9 = .ok (.getfield 13, 3) := dk_180 0 13 (dk_at dksX9_fresh_0 9 rfl rfl)
theorem dX9_fresh_12 : decode cX9_fresh 12 = .ok (.aload_n 0, 1) := dk_42 (dk_at dksX9_fresh_0 12 rfl rfl)
theorem dX9_fresh_13 : decode cX9_fresh 13 = .ok (.getfield 16, 3) := dk_180 0 16 (dk_at dksX9_fresh_0 13 rfl rfl)
theorem dX9_fresh_16 : decode cX9_fresh 16 = .ok (.aload_n 0, 1) := dk_42 (dk_at dksX9_fresh_0 16 rfl rfl)
theorem dX9_fresh_17 : decode cX9_fresh 17 = .ok (.getfield 19, 3) := dk_180 0 19 (dk_at dksX9_fresh_0 17 rfl rfl)
theorem dX9_fresh_20 : decode cX9_fresh 20 = .ok (.aload_n 0, 1) := dk_42 (dk_at dksX9_fresh_0 20 rfl rfl)
theorem dX9_fresh_21 : decode cX9_fresh 21 = .ok (.getfield 22, 3) := dk_180 0 22 (dk_at dksX9_fresh_0 21 rfl rfl)
theorem dX9_fresh_24 : decode cX9_fresh 24 = .ok (.invokespecial 25, 3) := dk_183 0 25 (dk_at dksX9_fresh_1 0 rfl rfl)
theorem dX9_fresh_27 : decode cX9_fresh 27 = .ok (.areturn, 1) := dk_176 (dk_at dksX9_fresh_1 3 rfl rfl)
theorem q114 : (Jvm.Cond.initialized "BrothFlasks$Shut") ∈ lw_all := lw_g (lw_at lw_m1 10 rfl) rfl
theorem q479 : (Jvm.Cond.fieldLink "BrothFlasks$Shut" (9 : Nat) "BrothFlasks$Shut" "broth" "I") ∈ lw_all := lw_g (lw_at lw_m2 135 rfl) rfl
theorem q480 : (Jvm.Cond.sameField "BrothFlasks$Shut" "BrothFlasks$Flask" "broth" "I") ∈ lw_all := lw_g (lw_at lw_m2 136 rfl) rfl
theorem q487 : (Jvm.Cond.fieldLink "BrothFlasks$Shut" (13 : Nat) "BrothFlasks$Shut" "sort" "I") ∈ lw_all := lw_g (lw_at lw_m2 143 rfl) rfl
theorem q488 : (Jvm.Cond.sameField "BrothFlasks$Shut" "BrothFlasks$Flask" "sort" "I") ∈ lw_all := lw_g (lw_at lw_m2 144 rfl) rfl
theorem q496 : (Jvm.Cond.fieldLink "BrothFlasks$Shut" (19 : Nat) "BrothFlasks$Shut" "hand" "I") ∈ lw_all := lw_g (lw_at lw_m2 152 rfl) rfl
theorem q497 : (Jvm.Cond.sameField "BrothFlasks$Shut" "BrothFlasks$Flask" "hand" "I") ∈ lw_all := lw_g (lw_at lw_m2 153 rfl) rfl
theorem q504 : (Jvm.Cond.fieldLink "BrothFlasks$Shut" (22 : Nat) "BrothFlasks$Shut" "made" "I") ∈ lw_all := lw_g (lw_at lw_m2 160 rfl) rfl
theorem q505 : (Jvm.Cond.sameField "BrothFlasks$Shut" "BrothFlasks$Flask" "made" "I") ∈ lw_all := lw_g (lw_at lw_m2 161 rfl) rfl
theorem q512 : (Jvm.Cond.fieldLink "BrothFlasks$Shut" (16 : Nat) "BrothFlasks$Shut" "place" "I") ∈ lw_all := lw_g (lw_at lw_m2 168 rfl) rfl
theorem q513 : (Jvm.Cond.sameField "BrothFlasks$Shut" "BrothFlasks$Flask" "place" "I") ∈ lw_all := lw_g (lw_at lw_m2 169 rfl) rfl
theorem q610 : (Jvm.Cond.instantiable "BrothFlasks$Shut" (19 : Nat)) ∈ lw_all := lw_g (lw_at lw_m3 26 rfl) rfl
theorem q612 : (Jvm.Cond.instanceMethod ({ cls := "BrothFlasks$Shut", name := "<init>", desc := "(IIIII)V" } : Jvm.MethodName)) ∈ lw_all := lw_g (lw_at lw_m3 28 rfl) rfl
theorem q613 : (Jvm.Cond.code ({ cls := "BrothFlasks$Shut", name := "<init>", desc := "(IIIII)V" } : Jvm.MethodName) prog_17_method_1_code (6 : Nat) (Option.none : Option Jvm.ClassFile.FieldType)) ∈ lw_all := lw_g (lw_at lw_m3 29 rfl) rfl
theorem q614 : (Jvm.Cond.methodLink "BrothFlasks$Shut" (1 : Nat) ({ cls := "BrothFlasks$Flask", name := "<init>", desc := "(IIIII)V" } : Jvm.MethodName)) ∈ lw_all := lw_g (lw_at lw_m3 30 rfl) rfl
theorem q615 : (Jvm.Cond.laysFinal "BrothFlasks$Shut" "BrothFlasks$Flask" "broth" "I") ∈ lw_all := lw_g (lw_at lw_m3 31 rfl) rfl
theorem q616 : (Jvm.Cond.laysFinal "BrothFlasks$Shut" "BrothFlasks$Flask" "sort" "I") ∈ lw_all := lw_g (lw_at lw_m3 32 rfl) rfl
theorem q617 : (Jvm.Cond.laysFinal "BrothFlasks$Shut" "BrothFlasks$Flask" "hand" "I") ∈ lw_all := lw_g (lw_at lw_m3 33 rfl) rfl
theorem q618 : (Jvm.Cond.laysFinal "BrothFlasks$Shut" "BrothFlasks$Flask" "made" "I") ∈ lw_all := lw_g (lw_at lw_m3 34 rfl) rfl
theorem q619 : (Jvm.Cond.lays "BrothFlasks$Shut" "BrothFlasks$Flask" "place" "I") ∈ lw_all := lw_g (lw_at lw_m3 35 rfl) rfl
theorem q620 : (Jvm.Cond.lays "BrothFlasks$Shut" "BrothFlasks$Flask" "heat" "I") ∈ lw_all := lw_g (lw_at lw_m3 36 rfl) rfl
theorem q621 : (Jvm.Cond.lays "BrothFlasks$Shut" "BrothFlasks$Flask" "minutes" "I") ∈ lw_all := lw_g (lw_at lw_m3 37 rfl) rfl
theorem q622 : (Jvm.Cond.lays "BrothFlasks$Shut" "BrothFlasks$Flask" "begun" "I") ∈ lw_all := lw_g (lw_at lw_m3 38 rfl) rfl
theorem q623 : (Jvm.Cond.lays "BrothFlasks$Shut" "BrothFlasks$Flask" "openTo" "I") ∈ lw_all := lw_g (lw_at lw_m3 39 rfl) rfl
theorem q624 : (Jvm.Cond.lays "BrothFlasks$Shut" "BrothFlasks$Flask" "opened" "I") ∈ lw_all := lw_g (lw_at lw_m3 40 rfl) rfl
theorem q625 : (Jvm.Cond.lays "BrothFlasks$Shut" "BrothFlasks$Flask" "airy" "I") ∈ lw_all := lw_g (lw_at lw_m3 41 rfl) rfl
theorem q626 : (Jvm.Cond.lays "BrothFlasks$Shut" "BrothFlasks$Flask" "tippedOn" "I") ∈ lw_all := lw_g (lw_at lw_m3 42 rfl) rfl
theorem q627 : (Jvm.Cond.lays "BrothFlasks$Shut" "BrothFlasks$Flask" "by" "I") ∈ lw_all := lw_g (lw_at lw_m3 43 rfl) rfl
theorem q628 : (Jvm.Cond.lays "BrothFlasks$Shut" "BrothFlasks$Flask" "turnedOn" "I") ∈ lw_all := lw_g (lw_at lw_m3 44 rfl) rfl
theorem q629 : (Jvm.Cond.lays "BrothFlasks$Shut" "BrothFlasks$Flask" "many" "I") ∈ lw_all := lw_g (lw_at lw_m3 45 rfl) rfl
theorem q630 : (Jvm.Cond.lays "BrothFlasks$Shut" "BrothFlasks$Flask" "isTipped" "Z") ∈ lw_all := lw_g (lw_at lw_m3 46 rfl) rfl
theorem q631 : (Jvm.Cond.lays "BrothFlasks$Shut" "BrothFlasks$Flask" "isTurned" "Z") ∈ lw_all := lw_g (lw_at lw_m3 47 rfl) rfl
theorem q632 : (Jvm.Cond.laysFinal "BrothFlasks$Shut" "BrothFlasks$Flask" "grains" "[I") ∈ lw_all := lw_g (lw_at lw_m3 48 rfl) rfl
theorem q633 : (Jvm.Cond.laysFinal "BrothFlasks$Shut" "BrothFlasks$Flask" "fell" "[I") ∈ lw_all := lw_g (lw_at lw_m3 49 rfl) rfl
theorem q634 : (Jvm.Cond.superclass "BrothFlasks$Shut" "BrothFlasks$Flask") ∈ lw_all := lw_g (lw_at lw_m3 50 rfl) rfl
theorem q647 : (Jvm.Cond.selects "BrothFlasks$Shut" ({ cls := "BrothFlasks$Flask", name := "heat", desc := "(III[LBrothFlasks$Kind;)V" } : Jvm.MethodName) ({ cls := "BrothFlasks$Flask", name := "heat", desc := "(III[LBrothFlasks$Kind;)V" } : Jvm.MethodName)) ∈ lw_all := lw_g (lw_at lw_m3 63 rfl) rfl
theorem q670 : (Jvm.Cond.selects "BrothFlasks$Shut" ({ cls := "BrothFlasks$Flask", name := "mayTip", desc := "()Z" } : Jvm.MethodName) ({ cls := "BrothFlasks$Flask", name := "mayTip", desc := "()Z" } : Jvm.MethodName)) ∈ lw_all := lw_g (lw_at lw_m3 86 rfl) rfl
theorem q705 : (Jvm.Cond.selects "BrothFlasks$Shut" ({ cls := "BrothFlasks$Flask", name := "hasAir", desc := "()Z" } : Jvm.MethodName) ({ cls := "BrothFlasks$Flask", name := "hasAir", desc := "()Z" } : Jvm.MethodName)) ∈ lw_all := lw_g (lw_at lw_m3 121 rfl) rfl
theorem q714 : (Jvm.Cond.selects "BrothFlasks$Shut" ({ cls := "BrothFlasks$Flask", name := "breathes", desc := "()Z" } : Jvm.MethodName) ({ cls := "BrothFlasks$Shut", name := "breathes", desc := "()Z" } : Jvm.MethodName)) ∈ lw_all := lw_g (lw_at lw_m3 130 rfl) rfl
theorem q715 : (Jvm.Cond.instanceMethod ({ cls := "BrothFlasks$Shut", name := "breathes", desc := "()Z" } : Jvm.MethodName)) ∈ lw_all := lw_g (lw_at lw_m3 131 rfl) rfl
theorem q716 : (Jvm.Cond.code ({ cls := "BrothFlasks$Shut", name := "breathes", desc := "()Z" } : Jvm.MethodName) prog_17_method_2_code (1 : Nat) (Option.some Jvm.ClassFile.FieldType.boolean)) ∈ lw_all := lw_g (lw_at lw_m3 132 rfl) rfl
theorem q735 : (Jvm.Cond.selects "BrothFlasks$Shut" ({ cls := "BrothFlasks$Flask", name := "fill", desc := "(LBrothFlasks$Case;I)V" } : Jvm.MethodName) ({ cls := "BrothFlasks$Flask", name := "fill", desc := "(LBrothFlasks$Case;I)V" } : Jvm.MethodName)) ∈ lw_all := lw_g (lw_at lw_m3 151 rfl) rfl
theorem q1433 : (Jvm.Cond.selects "BrothFlasks$Shut" ({ cls := "BrothFlasks$Flask", name := "copy", desc := "()LBrothFlasks$Flask;" } : Jvm.MethodName) ({ cls := "BrothFlasks$Flask", name := "copy", desc := "()LBrothFlasks$Flask;" } : Jvm.MethodName)) ∈ lw_all := lw_g (lw_at lw_m6 129 rfl) rfl
theorem q1444 : (Jvm.Cond.selects "BrothFlasks$Shut" ({ cls := "BrothFlasks$Flask", name := "fresh", desc := "()LBrothFlasks$Flask;" } : Jvm.MethodName) ({ cls := "BrothFlasks$Shut", name := "fresh", desc := "()LBrothFlasks$Flask;" } : Jvm.MethodName)) ∈ lw_all := lw_g (lw_at lw_m6 140 rfl) rfl
theorem q1445 : (Jvm.Cond.instanceMethod ({ cls := "BrothFlasks$Shut", name := "fresh", desc := "()LBrothFlasks$Flask;" } : Jvm.MethodName)) ∈ lw_all := lw_g (lw_at lw_m6 141 rfl) rfl
theorem q1446 : (Jvm.Cond.code ({ cls := "BrothFlasks$Shut", name := "fresh", desc := "()LBrothFlasks$Flask;" } : Jvm.MethodName) prog_17_method_3_code (1 : Nat) (Option.some (Jvm.ClassFile.FieldType.object "BrothFlasks$Flask"))) ∈ lw_all := lw_g (lw_at lw_m6 142 rfl) rfl
theorem q1447 : (Jvm.Cond.classLink "BrothFlasks$Shut" (7 : Nat) "BrothFlasks$Shut") ∈ lw_all := lw_g (lw_at lw_m6 143 rfl) rfl
theorem q1448 : (Jvm.Cond.methodLink "BrothFlasks$Shut" (25 : Nat) ({ cls := "BrothFlasks$Shut", name := "<init>", desc := "(IIIII)V" } : Jvm.MethodName)) ∈ lw_all := lw_g (lw_at lw_m6 144 rfl) rfl
theorem q2061 : (Jvm.Cond.castable "BrothFlasks$Shut" "BrothFlasks$Flask") ∈ lw_tbl := lw_at lw_m9 37 rfl
theorem in_X9 : ∀ w ∈ wsX90, w ∈ lw_all := lw_in wsX90 [615, 616, 617, 618, 619, 620, 621, 622, 623, 624, 625, 626, 627, 628, 629, 630, 631, 632, 633] (by decide +kernel) (by decide +kernel)
/-! BrothFlasks$Look -/
set_option maxRecDepth 100000
def RX10 : String := "BrothFlasks$Look"
def TX10 : u_T := fun k => match k with
  | 0 => ("BrothFlasks$Case", "numbers", "[I", true)
  | 1 => ("BrothFlasks$Case", "isBroken", "Z", false)
  | _ => ("BrothFlasks$Look", "isTurned", "Z", false)
def tyX10 : Nat → FieldType := fun k => match k with
  | 0 => .array .int
  | 1 => .boolean
  | _ => .boolean
abbrev wsX100 : List Cond := u_ws RX10 TX10 3
theorem nmX10 : ∀ a, a < 3 → ∀ b, b < 3 → a ≠ b → (TX10 a).2.1 ≠ (TX10 b).2.1 := by decide +kernel
theorem tyX10_ok : ∀ k, k < 3 → parseFieldDescriptor (TX10 k).2.2.1 = some (tyX10 k) := by decide +kernel
abbrev cX10_init : ByteArray := prog_12_method_1_code
def yX10_init : MethodName := ⟨RX10, "<init>", "()V"⟩
theorem dX10_init_0 : decode cX10_init 0 = .ok (.aload_n 0, 1) := by decide +kernel
theorem dX10_init_1 : decode cX10_init 1 = .ok (.invokespecial 1, 3) := by decide +kernel
theorem dX10_init_4 : decode cX10_init 4 = .ok (.return_, 1) := by decide +kernel
theorem q116 : (Jvm.Cond.initialized "BrothFlasks$Look") ∈ lw_all := lw_g (lw_at lw_m1 12 rfl) rfl
theorem q264 : (Jvm.Cond.sameField "BrothFlasks$Look" "BrothFlasks$Case" "numbers" "[I") ∈ lw_all := lw_g (lw_at lw_m1 160 rfl) rfl
theorem q749 : (Jvm.Cond.instantiable "BrothFlasks$Look" (3 : Nat)) ∈ lw_all := lw_g (lw_at lw_m3 165 rfl) rfl
theorem q751 : (Jvm.Cond.instanceMethod ({ cls := "BrothFlasks$Look", name := "<init>", desc := "()V" } : Jvm.MethodName)) ∈ lw_all := lw_g (lw_at lw_m3 167 rfl) rfl
theorem q752 : (Jvm.Cond.code ({ cls := "BrothFlasks$Look", name := "<init>", desc := "()V" } : Jvm.MethodName) prog_12_method_1_code (1 : Nat) (Option.none : Option Jvm.ClassFile.FieldType)) ∈ lw_all := lw_g (lw_at lw_m3 168 rfl) rfl
theorem q753 : (Jvm.Cond.methodLinkNest "BrothFlasks$Look" (1 : Nat) ({ cls := "BrothFlasks$Case", name := "<init>", desc := "()V" } : Jvm.MethodName) "BrothFlasks") ∈ lw_tbl := lw_at lw_m3 169 rfl
theorem q756 : (Jvm.Cond.lays "BrothFlasks$Look" "BrothFlasks$Look" "isTurned" "Z") ∈ lw_all := lw_g (lw_at lw_m3 172 rfl) rfl
theorem q757 : (Jvm.Cond.soleField "BrothFlasks$Look" "isTurned") ∈ lw_all := lw_g (lw_at lw_m3 173 rfl) rfl
theorem q758 : (Jvm.Cond.laysFinal "BrothFlasks$Look" "BrothFlasks$Case" "numbers" "[I") ∈ lw_all := lw_g (lw_at lw_m3 174 rfl) rfl
theorem q759 : (Jvm.Cond.lays "BrothFlasks$Look" "BrothFlasks$Case" "isBroken" "Z") ∈ lw_all := lw_g (lw_at lw_m3 175 rfl) rfl
theorem q760 : (Jvm.Cond.superclass "BrothFlasks$Look" "BrothFlasks$Case") ∈ lw_all := lw_g (lw_at lw_m3 176 rfl) rfl
theorem q762 : (Jvm.Cond.sameMethod "BrothFlasks$Look" "BrothFlasks$Case" "take" "(LBrothFlasks$Case;)V") ∈ lw_all := lw_g (lw_at lw_m3 178 rfl) rfl
theorem q764 : (Jvm.Cond.selects "BrothFlasks$Look" ({ cls := "BrothFlasks$Look", name := "take", desc := "(LBrothFlasks$Case;)V" } : Jvm.MethodName) ({ cls := "BrothFlasks$Case", name := "take", desc := "(LBrothFlasks$Case;)V" } : Jvm.MethodName)) ∈ lw_all := lw_g (lw_at lw_m3 180 rfl) rfl
theorem q1199 : (Jvm.Cond.selects "BrothFlasks$Look" ({ cls := "BrothFlasks$Case", name := "within", desc := "(J)J" } : Jvm.MethodName) ({ cls := "BrothFlasks$Case", name := "within", desc := "(J)J" } : Jvm.MethodName)) ∈ lw_all := lw_g (lw_at lw_m5 135 rfl) rfl
theorem q1211 : (Jvm.Cond.selects "BrothFlasks$Look" ({ cls := "BrothFlasks$Case", name := "hasAir", desc := "()Z" } : Jvm.MethodName) ({ cls := "BrothFlasks$Case", name := "hasAir", desc := "()Z" } : Jvm.MethodName)) ∈ lw_all := lw_g (lw_at lw_m5 147 rfl) rfl
theorem q1355 : (Jvm.Cond.sameMethod "BrothFlasks$Look" "BrothFlasks$Case" "heatedTo" "(II)I") ∈ lw_all := lw_g (lw_at lw_m6 51 rfl) rfl
theorem q1357 : (Jvm.Cond.selects "BrothFlasks$Look" ({ cls := "BrothFlasks$Look", name := "heatedTo", desc := "(II)I" } : Jvm.MethodName) ({ cls := "BrothFlasks$Case", name := "heatedTo", desc := "(II)I" } : Jvm.MethodName)) ∈ lw_all := lw_g (lw_at lw_m6 53 rfl) rfl
theorem q2057 : (Jvm.Cond.selects "BrothFlasks$Look" ({ cls := "BrothFlasks$Case", name := "take", desc := "(LBrothFlasks$Case;)V" } : Jvm.MethodName) ({ cls := "BrothFlasks$Case", name := "take", desc := "(LBrothFlasks$Case;)V" } : Jvm.MethodName)) ∈ lw_all := lw_g (lw_at lw_m9 33 rfl) rfl
theorem q2062 : (Jvm.Cond.castable "BrothFlasks$Look" "BrothFlasks$Case") ∈ lw_tbl := lw_at lw_m9 38 rfl
theorem in_X10 : ∀ w ∈ wsX100, w ∈ lw_all := lw_in wsX100 [758, 759, 756] (by decide +kernel) (by decide +kernel)
/-! BrothFlasks$Wrong -/
set_option maxRecDepth 100000
def RX11 : String := "BrothFlasks$Wrong"
def TX11 : u_T := fun k => match k with
  | 0 => ("java/lang/Throwable", "cause", "Ljava/lang/Throwable;", false)
  | 1 => ("java/lang/Throwable", "stackTrace", "[Ljava/lang/StackTraceElement;", false)
  | 2 => ("java/lang/Throwable", "suppressedExceptions", "Ljava/util/List;", false)
  | 3 => ("java/lang/Throwable", "detailMessage", "Ljava/lang/String;", false)
  | 4 => ("java/lang/Throwable", "backtrace", "Ljava/lang/Object;", false)
  | 5 => ("java/lang/Throwable", "depth", "I", false)
  | _ => ("BrothFlasks$Wrong", "place", "I", true)
def tyX11 : Nat → FieldType := fun k => match k with
  | 0 => .object "java/lang/Throwable"
  | 1 => .array (.object "java/lang/StackTraceElement")
  | 2 => .object "java/util/List"
  | 3 => .object "java/lang/String"
  | 4 => .object "java/lang/Object"
  | 5 => .int
  | _ => .int
abbrev wsX110 : List Cond := u_ws RX11 TX11 7
theorem nmX11 : ∀ a, a < 7 → ∀ b, b < 7 → a ≠ b → (TX11 a).2.1 ≠ (TX11 b).2.1 := by decide +kernel
theorem tyX11_ok : ∀ k, k < 7 → parseFieldDescriptor (TX11 k).2.2.1 = some (tyX11 k) := by decide +kernel
abbrev cX11_init : ByteArray := prog_22_method_1_code
def yX11_init : MethodName := ⟨RX11, "<init>", "(I)V"⟩
def dkwX11_init_0 : List UInt8 := [42, 1, 1, 3, 3, 183, 0, 1, 42, 27, 181, 0, 7, 177]
abbrev dktX11_init_0 : List UInt8 := dkwX11_init_0 ++ []
theorem dksX11_init_0 : cX11_init.data.toList.drop 0 = dktX11_init_0 := by decide +kernel
theorem dX11_init_0 : decode cX11_init 0 = .ok (.aload_n 0, 1) := dk_42 (dk_at dksX11_init_0 0 rfl rfl)
theorem dX11_init_1 : decode cX11_init 1 = .ok (.aconst_null, 1) := dk_1 (dk_at dksX11_init_0 1 rfl rfl)
theorem dX11_init_2 : decode cX11_init 2 = .ok (.aconst_null, 1) := dk_1 (dk_at dksX11_init_0 2 rfl rfl)
theorem dX11_init_3 : decode cX11_init 3 = .ok (.iconst 0, 1) := dk_3 (dk_at dksX11_init_0 3 rfl rfl)
theorem dX11_init_4 : decode cX11_init 4 = .ok (.iconst 0, 1) := dk_3 (dk_at dksX11_init_0 4 rfl rfl)
theorem dX11_init_5 : decode cX11_init 5 = .ok (.invokespecial 1, 3) := dk_183 0 1 (dk_at dksX11_init_0 5 rfl rfl)
theorem dX11_init_8 : decode cX11_init 8 = .ok (.aload_n 0, 1) := dk_42 (dk_at dksX11_init_0 8 rfl rfl)
theorem dX11_init_9 : decode cX11_init 9 = .ok (.iload_n 1, 1) := dk_27 (dk_at dksX11_init_0 9 rfl rfl)
theorem dX11_init_10 : decode cX11_init 10 = .ok (.putfield 7, 3) := dk_181 0 7 (dk_at dksX11_init_0 10 rfl rfl)
theorem dX11_init_13 : decode cX11_init 13 = .ok (.return_, 1) := dk_177 (dk_at dksX11_init_0 13 rfl rfl)
theorem q120 : (Jvm.Cond.initialized "BrothFlasks$Wrong") ∈ lw_all := lw_g (lw_at lw_m1 16 rfl) rfl
theorem q838 : (Jvm.Cond.instantiable "BrothFlasks$Wrong" (7 : Nat)) ∈ lw_all := lw_g (lw_at lw_m4 14 rfl) rfl
theorem q839 : (Jvm.Cond.castable "BrothFlasks$Wrong" "BrothFlasks$Wrong") ∈ lw_tbl := lw_at lw_m4 15 rfl
theorem q844 : (Jvm.Cond.selects "BrothFlasks$Wrong" ({ cls := "java/lang/Throwable", name := "fillInStackTrace", desc := "(I)Ljava/lang/Throwable;" } : Jvm.MethodName) ({ cls := "java/lang/Throwable", name := "fillInStackTrace", desc := "(I)Ljava/lang/Throwable;" } : Jvm.MethodName)) ∈ lw_all := lw_g (lw_at lw_m4 20 rfl) rfl
theorem q845 : (Jvm.Cond.selects "BrothFlasks$Wrong" ({ cls := "java/lang/Throwable", name := "fillInStackTrace", desc := "()Ljava/lang/Throwable;" } : Jvm.MethodName) ({ cls := "java/lang/Throwable", name := "fillInStackTrace", desc := "()Ljava/lang/Throwable;" } : Jvm.MethodName)) ∈ lw_all := lw_g (lw_at lw_m4 21 rfl) rfl
theorem q846 : (Jvm.Cond.lays "BrothFlasks$Wrong" "java/lang/Throwable" "cause" "Ljava/lang/Throwable;") ∈ lw_all := lw_g (lw_at lw_m4 22 rfl) rfl
theorem q848 : (Jvm.Cond.lays "BrothFlasks$Wrong" "java/lang/Throwable" "stackTrace" "[Ljava/lang/StackTraceElement;") ∈ lw_all := lw_g (lw_at lw_m4 24 rfl) rfl
theorem q850 : (Jvm.Cond.lays "BrothFlasks$Wrong" "java/lang/Throwable" "suppressedExceptions" "Ljava/util/List;") ∈ lw_all := lw_g (lw_at lw_m4 26 rfl) rfl
theorem q852 : (Jvm.Cond.lays "BrothFlasks$Wrong" "java/lang/Throwable" "detailMessage" "Ljava/lang/String;") ∈ lw_all := lw_g (lw_at lw_m4 28 rfl) rfl
theorem q854 : (Jvm.Cond.lays "BrothFlasks$Wrong" "java/lang/Throwable" "backtrace" "Ljava/lang/Object;") ∈ lw_all := lw_g (lw_at lw_m4 30 rfl) rfl
theorem q875 : (Jvm.Cond.instanceMethod ({ cls := "BrothFlasks$Wrong", name := "<init>", desc := "(I)V" } : Jvm.MethodName)) ∈ lw_all := lw_g (lw_at lw_m4 51 rfl) rfl
theorem q876 : (Jvm.Cond.code ({ cls := "BrothFlasks$Wrong", name := "<init>", desc := "(I)V" } : Jvm.MethodName) prog_22_method_1_code (2 : Nat) (Option.none : Option Jvm.ClassFile.FieldType)) ∈ lw_all := lw_g (lw_at lw_m4 52 rfl) rfl
theorem q877 : (Jvm.Cond.methodLink "BrothFlasks$Wrong" (1 : Nat) ({ cls := "java/lang/Exception", name := "<init>", desc := "(Ljava/lang/String;Ljava/lang/Throwable;ZZ)V" } : Jvm.MethodName)) ∈ lw_all := lw_g (lw_at lw_m4 53 rfl) rfl
theorem q883 : (Jvm.Cond.fieldLink "BrothFlasks$Wrong" (7 : Nat) "BrothFlasks$Wrong" "place" "I") ∈ lw_all := lw_g (lw_at lw_m4 59 rfl) rfl
theorem q890 : (Jvm.Cond.laysFinal "BrothFlasks$Wrong" "BrothFlasks$Wrong" "place" "I") ∈ lw_all := lw_g (lw_at lw_m4 66 rfl) rfl
theorem q891 : (Jvm.Cond.soleField "BrothFlasks$Wrong" "place") ∈ lw_all := lw_g (lw_at lw_m4 67 rfl) rfl
theorem q896 : (Jvm.Cond.lays "BrothFlasks$Wrong" "java/lang/Throwable" "depth" "I") ∈ lw_all := lw_g (lw_at lw_m4 72 rfl) rfl
theorem q899 : (Jvm.Cond.superclass "BrothFlasks$Wrong" "java/lang/Exception") ∈ lw_all := lw_g (lw_at lw_m4 75 rfl) rfl
theorem in_X11 : ∀ w ∈ wsX110, w ∈ lw_all := lw_in wsX110 [846, 848, 850, 852, 854, 896, 890] (by decide +kernel) (by decide +kernel)
/-! BrothFlasks$Sum -/
set_option maxRecDepth 100000
def RX12 : String := "BrothFlasks$Sum"
abbrev cX12_init : ByteArray := prog_18_method_1_code
def yX12_init : MethodName := ⟨RX12, "<init>", "()V"⟩
theorem dX12_init_0 : decode cX12_init 0 = .ok (.aload_n 0, 1) := by decide +kernel
theorem dX12_init_1 : decode cX12_init 1 = .ok (.invokespecial 1, 3) := by decide +kernel
theorem dX12_init_4 : decode cX12_init 4 = .ok (.return_, 1) := by decide +kernel
theorem q125 : (Jvm.Cond.initialized "BrothFlasks$Sum") ∈ lw_all := lw_g (lw_at lw_m1 21 rfl) rfl
theorem q1001 : (Jvm.Cond.instanceMethod ({ cls := "BrothFlasks$Sum", name := "<init>", desc := "()V" } : Jvm.MethodName)) ∈ lw_all := lw_g (lw_at lw_m4 177 rfl) rfl
theorem q1002 : (Jvm.Cond.code ({ cls := "BrothFlasks$Sum", name := "<init>", desc := "()V" } : Jvm.MethodName) prog_18_method_1_code (1 : Nat) (Option.none : Option Jvm.ClassFile.FieldType)) ∈ lw_all := lw_g (lw_at lw_m4 178 rfl) rfl
theorem q1003 : (Jvm.Cond.methodLink "BrothFlasks$Sum" (1 : Nat) ({ cls := "java/lang/Object", name := "<init>", desc := "()V" } : Jvm.MethodName)) ∈ lw_all := lw_g (lw_at lw_m4 179 rfl) rfl
theorem q1184 : (Jvm.Cond.declares ({ cls := "BrothFlasks$Sum", name := "of", desc := "(LBrothFlasks$Case;)J" } : Jvm.MethodName)) ∈ lw_tbl := lw_at lw_m5 120 rfl
theorem q1185 : (Jvm.Cond.sameMethod "BrothFlasks$Sum" "BrothFlasks$Sum" "of" "(LBrothFlasks$Case;)J") ∈ lw_all := lw_g (lw_at lw_m5 121 rfl) rfl
/-! BrothFlasks$Amount -/
set_option maxRecDepth 100000
def RX13 : String := "BrothFlasks$Amount"
def TX13 : u_T := fun k => match k with
  | _ => ("BrothFlasks$Amount", "number", "I", true)
def tyX13 : Nat → FieldType := fun k => match k with
  | _ => .int
abbrev wsX130 : List Cond := u_ws RX13 TX13 1
theorem nmX13 : ∀ a, a < 1 → ∀ b, b < 1 → a ≠ b → (TX13 a).2.1 ≠ (TX13 b).2.1 := by decide +kernel
theorem tyX13_ok : ∀ k, k < 1 → parseFieldDescriptor (TX13 k).2.2.1 = some (tyX13 k) := by decide +kernel
abbrev cX13_init : ByteArray := prog_3_method_1_code
def yX13_init : MethodName := ⟨RX13, "<init>", "(I)V"⟩
def dkwX13_init_0 : List UInt8 := [42, 183, 0, 1, 42, 27, 181, 0, 7, 177]
abbrev dktX13_init_0 : List UInt8 := dkwX13_init_0 ++ []
theorem dksX13_init_0 : cX13_init.data.toList.drop 0 = dktX13_init_0 := by decide +kernel
theorem dX13_init_0 : decode cX13_init 0 = .ok (.aload_n 0, 1) := dk_42 (dk_at dksX13_init_0 0 rfl rfl)
theorem dX13_init_1 : decode cX13_init 1 = .ok (.invokespecial 1, 3) := dk_183 0 1 (dk_at dksX13_init_0 1 rfl rfl)
theorem dX13_init_4 : decode cX13_init 4 = .ok (.aload_n 0, 1) := dk_42 (dk_at dksX13_init_0 4 rfl rfl)
theorem dX13_init_5 : decode cX13_init 5 = .ok (.iload_n 1, 1) := dk_27 (dk_at dksX13_init_0 5 rfl rfl)
theorem dX13_init_6 : decode cX13_init 6 = .ok (.putfield 7, 3) := dk_181 0 7 (dk_at dksX13_init_0 6 rfl rfl)
theorem dX13_init_9 : decode cX13_init 9 = .ok (.return_, 1) := dk_177 (dk_at dksX13_init_0 9 rfl rfl)
abbrev cX13_of : ByteArray := prog_3_method_2_code
def yX13_of : MethodName := ⟨RX13, "of", "(LBrothFlasks$Case;)J"⟩
def dkwX13_of_0 : List UInt8 := [42, 180, 0, 7, 133, 173]
abbrev dktX13_of_0 : List UInt8 := dkwX13_of_0 ++ []
theorem dksX13_of_0 : cX13_of.data.toList.drop 0 = dktX13_of_0 := by decide +kernel
theorem dX13_of_0 : decode cX13_of 0 = .ok (.aload_n 0, 1) := dk_42 (dk_at dksX13_of_0 0 rfl rfl)
theorem dX13_of_1 : decode cX13_of 1 = .ok (.getfield 7, 3) := dk_180 0 7 (dk_at dksX13_of_0 1 rfl rfl)
theorem dX13_of_4 : decode cX13_of 4 = .ok (.i2l, 1) := dk_133 (dk_at dksX13_of_0 4 rfl rfl)
theorem dX13_of_5 : decode cX13_of 5 = .ok (.lreturn, 1) := dk_173 (dk_at dksX13_of_0 5 rfl rfl)
theorem q126 : (Jvm.Cond.initialized "BrothFlasks$Amount") ∈ lw_all := lw_g (lw_at lw_m1 22 rfl) rfl
theorem q991 : (Jvm.Cond.instantiable "BrothFlasks$Amount" (1 : Nat)) ∈ lw_all := lw_g (lw_at lw_m4 167 rfl) rfl
theorem q998 : (Jvm.Cond.instanceMethod ({ cls := "BrothFlasks$Amount", name := "<init>", desc := "(I)V" } : Jvm.MethodName)) ∈ lw_all := lw_g (lw_at lw_m4 174 rfl) rfl
theorem q999 : (Jvm.Cond.code ({ cls := "BrothFlasks$Amount", name := "<init>", desc := "(I)V" } : Jvm.MethodName) prog_3_method_1_code (2 : Nat) (Option.none : Option Jvm.ClassFile.FieldType)) ∈ lw_all := lw_g (lw_at lw_m4 175 rfl) rfl
theorem q1000 : (Jvm.Cond.methodLinkNest "BrothFlasks$Amount" (1 : Nat) ({ cls := "BrothFlasks$Sum", name := "<init>", desc := "()V" } : Jvm.MethodName) "BrothFlasks") ∈ lw_tbl := lw_at lw_m4 176 rfl
theorem q1004 : (Jvm.Cond.fieldLink "BrothFlasks$Amount" (7 : Nat) "BrothFlasks$Amount" "number" "I") ∈ lw_all := lw_g (lw_at lw_m4 180 rfl) rfl
theorem q1005 : (Jvm.Cond.laysFinal "BrothFlasks$Amount" "BrothFlasks$Amount" "number" "I") ∈ lw_all := lw_g (lw_at lw_m4 181 rfl) rfl
theorem q1006 : (Jvm.Cond.soleField "BrothFlasks$Amount" "number") ∈ lw_all := lw_g (lw_at lw_m4 182 rfl) rfl
theorem q1007 : (Jvm.Cond.superclass "BrothFlasks$Amount" "BrothFlasks$Sum") ∈ lw_all := lw_g (lw_at lw_m4 183 rfl) rfl
theorem q1186 : (Jvm.Cond.selects "BrothFlasks$Amount" ({ cls := "BrothFlasks$Sum", name := "of", desc := "(LBrothFlasks$Case;)J" } : Jvm.MethodName) ({ cls := "BrothFlasks$Amount", name := "of", desc := "(LBrothFlasks$Case;)J" } : Jvm.MethodName)) ∈ lw_all := lw_g (lw_at lw_m5 122 rfl) rfl
theorem q1187 : (Jvm.Cond.instanceMethod ({ cls := "BrothFlasks$Amount", name := "of", desc := "(LBrothFlasks$Case;)J" } : Jvm.MethodName)) ∈ lw_all := lw_g (lw_at lw_m5 123 rfl) rfl
theorem q1188 : (Jvm.Cond.code ({ cls := "BrothFlasks$Amount", name := "of", desc := "(LBrothFlasks$Case;)J" } : Jvm.MethodName) prog_3_method_2_code (2 : Nat) (Option.some Jvm.ClassFile.FieldType.long)) ∈ lw_all := lw_g (lw_at lw_m5 124 rfl) rfl
theorem in_X13 : ∀ w ∈ wsX130, w ∈ lw_all := lw_in wsX130 [1005] (by decide +kernel) (by decide +kernel)
/-! BrothFlasks$Part -/
set_option maxRecDepth 100000
def RX14 : String := "BrothFlasks$Part"
def TX14 : u_T := fun k => match k with
  | _ => ("BrothFlasks$Part", "what", "I", true)
def tyX14 : Nat → FieldType := fun k => match k with
  | _ => .int
abbrev wsX140 : List Cond := u_ws RX14 TX14 1
theorem nmX14 : ∀ a, a < 1 → ∀ b, b < 1 → a ≠ b → (TX14 a).2.1 ≠ (TX14 b).2.1 := by decide +kernel
theorem tyX14_ok : ∀ k, k < 1 → parseFieldDescriptor (TX14 k).2.2.1 = some (tyX14 k) := by decide +kernel
abbrev cX14_init : ByteArray := prog_14_method_1_code
def yX14_init : MethodName := ⟨RX14, "<init>", "(I)V"⟩
def dkwX14_init_0 : List UInt8 := [42, 183, 0, 1, 42, 27, 181, 0, 7, 177]
abbrev dktX14_init_0 : List UInt8 := dkwX14_init_0 ++ []
theorem dksX14_init_0 : cX14_init.data.toList.drop 0 = dktX14_init_0 := by decide +kernel
theorem dX14_init_0 : decode cX14_init 0 = .ok (.aload_n 0, 1) := dk_42 (dk_at dksX14_init_0 0 rfl rfl)
theorem dX14_init_1 : decode cX14_init 1 = .ok (.invokespecial 1, 3) := dk_183 0 1 (dk_at dksX14_init_0 1 rfl rfl)
theorem dX14_init_4 : decode cX14_init 4 = .ok (.aload_n 0, 1) := dk_42 (dk_at dksX14_init_0 4 rfl rfl)
theorem dX14_init_5 : decode cX14_init 5 = .ok (.iload_n 1, 1) := dk_27 (dk_at dksX14_init_0 5 rfl rfl)
theorem dX14_init_6 : decode cX14_init 6 = .ok (.putfield 7, 3) := dk_181 0 7 (dk_at dksX14_init_0 6 rfl rfl)
theorem dX14_init_9 : decode cX14_init 9 = .ok (.return_, 1) := dk_177 (dk_at dksX14_init_0 9 rfl rfl)
abbrev cX14_of : ByteArray := prog_14_method_2_code
def yX14_of : MethodName := ⟨RX14, "of", "(LBrothFlasks$Case;)J"⟩
def dkwX14_of_0 : List UInt8 := [43, 180, 0, 13, 42, 180, 0, 7, 46, 133, 173]
abbrev dktX14_of_0 : List UInt8 := dkwX14_of_0 ++ []
theorem dksX14_of_0 : cX14_of.data.toList.drop 0 = dktX14_of_0 := by decide +kernel
theorem dX14_of_0 : decode cX14_of 0 = .ok (.aload_n 1, 1) := dk_43 (dk_at dksX14_of_0 0 rfl rfl)
theorem dX14_of_1 : decode cX14_of 1 = .ok (.getfield 13, 3) := dk_180 0 13 (dk_at dksX14_of_0 1 rfl rfl)
theorem dX14_of_4 : decode cX14_of 4 = .ok (.aload_n 0, 1) := dk_42 (dk_at dksX14_of_0 4 rfl rfl)
theorem dX14_of_5 : decode cX14_of 5 = .ok (.getfield 7, 3) := dk_180 0 7 (dk_at dksX14_of_0 5 rfl rfl)
theorem dX14_of_8 : decode cX14_of 8 = .ok (.iaload, 1) := dk_46 (dk_at dksX14_of_0 8 rfl rfl)
theorem dX14_of_9 : decode cX14_of 9 = .ok (.i2l, 1) := dk_133 (dk_at dksX14_of_0 9 rfl rfl)
theorem dX14_of_10 : decode cX14_of 10 = .ok (.lreturn, 1) := dk_173 (dk_at dksX14_of_0 10 rfl rfl)
theorem q127 : (Jvm.Cond.initialized "BrothFlasks$Part") ∈ lw_all := lw_g (lw_at lw_m1 23 rfl) rfl
theorem q259 : (Jvm.Cond.fieldLink "BrothFlasks$Part" (13 : Nat) "BrothFlasks$Case" "numbers" "[I") ∈ lw_all := lw_g (lw_at lw_m1 155 rfl) rfl
theorem q1009 : (Jvm.Cond.instantiable "BrothFlasks$Part" (1 : Nat)) ∈ lw_all := lw_g (lw_at lw_m4 185 rfl) rfl
theorem q1011 : (Jvm.Cond.instanceMethod ({ cls := "BrothFlasks$Part", name := "<init>", desc := "(I)V" } : Jvm.MethodName)) ∈ lw_all := lw_g (lw_at lw_m4 187 rfl) rfl
theorem q1012 : (Jvm.Cond.code ({ cls := "BrothFlasks$Part", name := "<init>", desc := "(I)V" } : Jvm.MethodName) prog_14_method_1_code (2 : Nat) (Option.none : Option Jvm.ClassFile.FieldType)) ∈ lw_all := lw_g (lw_at lw_m4 188 rfl) rfl
theorem q1013 : (Jvm.Cond.methodLinkNest "BrothFlasks$Part" (1 : Nat) ({ cls := "BrothFlasks$Sum", name := "<init>", desc := "()V" } : Jvm.MethodName) "BrothFlasks") ∈ lw_tbl := lw_at lw_m4 189 rfl
theorem q1014 : (Jvm.Cond.fieldLink "BrothFlasks$Part" (7 : Nat) "BrothFlasks$Part" "what" "I") ∈ lw_all := lw_g (lw_at lw_m4 190 rfl) rfl
theorem q1015 : (Jvm.Cond.laysFinal "BrothFlasks$Part" "BrothFlasks$Part" "what" "I") ∈ lw_all := lw_g (lw_at lw_m4 191 rfl) rfl
theorem q1016 : (Jvm.Cond.soleField "BrothFlasks$Part" "what") ∈ lw_all := lw_g (lw_at lw_m4 192 rfl) rfl
theorem q1017 : (Jvm.Cond.superclass "BrothFlasks$Part" "BrothFlasks$Sum") ∈ lw_all := lw_g (lw_at lw_m4 193 rfl) rfl
theorem q1193 : (Jvm.Cond.instanceMethod ({ cls := "BrothFlasks$Part", name := "of", desc := "(LBrothFlasks$Case;)J" } : Jvm.MethodName)) ∈ lw_all := lw_g (lw_at lw_m5 129 rfl) rfl
theorem q1194 : (Jvm.Cond.code ({ cls := "BrothFlasks$Part", name := "of", desc := "(LBrothFlasks$Case;)J" } : Jvm.MethodName) prog_14_method_2_code (2 : Nat) (Option.some Jvm.ClassFile.FieldType.long)) ∈ lw_all := lw_g (lw_at lw_m5 130 rfl) rfl
theorem q1203 : (Jvm.Cond.selects "BrothFlasks$Part" ({ cls := "BrothFlasks$Sum", name := "of", desc := "(LBrothFlasks$Case;)J" } : Jvm.MethodName) ({ cls := "BrothFlasks$Part", name := "of", desc := "(LBrothFlasks$Case;)J" } : Jvm.MethodName)) ∈ lw_all := lw_g (lw_at lw_m5 139 rfl) rfl
theorem in_X14 : ∀ w ∈ wsX140, w ∈ lw_all := lw_in wsX140 [1015] (by decide +kernel) (by decide +kernel)
/-! BrothFlasks$Joined -/
set_option maxRecDepth 100000
def RX15 : String := "BrothFlasks$Joined"
def TX15 : u_T := fun k => match k with
  | 0 => ("BrothFlasks$Joined", "one", "LBrothFlasks$Sum;", true)
  | 1 => ("BrothFlasks$Joined", "other", "LBrothFlasks$Sum;", true)
  | _ => ("BrothFlasks$Joined", "sign", "I", true)
def tyX15 : Nat → FieldType := fun k => match k with
  | 0 => .object "BrothFlasks$Sum"
  | 1 => .object "BrothFlasks$Sum"
  | _ => .int
abbrev wsX150 : List Cond := u_ws RX15 TX15 3
theorem nmX15 : ∀ a, a < 3 → ∀ b, b < 3 → a ≠ b → (TX15 a).2.1 ≠ (TX15 b).2.1 := by decide +kernel
theorem tyX15_ok : ∀ k, k < 3 → parseFieldDescriptor (TX15 k).2.2.1 = some (tyX15 k) := by decide +kernel
abbrev cX15_init : ByteArray := prog_10_method_1_code
def yX15_init : MethodName := ⟨RX15, "<init>", "(LBrothFlasks$Sum;ILBrothFlasks$Sum;)V"⟩
def dkwX15_init_0 : List UInt8 := [42, 183, 0, 1, 42, 43, 181, 0, 7, 42, 28, 181, 0, 13, 42, 45, 181, 0, 17, 177]
abbrev dktX15_init_0 : List UInt8 := dkwX15_init_0 ++ []
theorem dksX15_init_0 : cX15_init.data.toList.drop 0 = dktX15_init_0 := by decide +kernel
theorem dX15_init_0 : decode cX15_init 0 = .ok (.aload_n 0, 1) := dk_42 (dk_at dksX15_init_0 0 rfl rfl)
theorem dX15_init_1 : decode cX15_init 1 = .ok (.invokespecial 1, 3) := dk_183 0 1 (dk_at dksX15_init_0 1 rfl rfl)
theorem dX15_init_4 : decode cX15_init 4 = .ok (.aload_n 0, 1) := dk_42 (dk_at dksX15_init_0 4 rfl rfl)
theorem dX15_init_5 : decode cX15_init 5 = .ok (.aload_n 1, 1) := dk_43 (dk_at dksX15_init_0 5 rfl rfl)
theorem dX15_init_6 : decode cX15_init 6 = .ok (.putfield 7, 3) := dk_181 0 7 (dk_at dksX15_init_0 6 rfl rfl)
theorem dX15_init_9 : decode cX15_init 9 = .ok (.aload_n 0, 1) := dk_42 (dk_at dksX15_init_0 9 rfl rfl)
theorem dX15_init_10 : decode cX15_init 10 = .ok (.iload_n 2, 1) := dk_28 (dk_at dksX15_init_0 10 rfl rfl)
theorem dX15_init_11 : decode cX15_init 11 = .ok (.putfield 13, 3) := dk_181 0 13 (dk_at dksX15_init_0 11 rfl rfl)
theorem dX15_init_14 : decode cX15_init 14 = .ok (.aload_n 0, 1) := dk_42 (dk_at dksX15_init_0 14 rfl rfl)
theorem dX15_init_15 : decode cX15_init 15 = .ok (.aload_n 3, 1) := dk_45 (dk_at dksX15_init_0 15 rfl rfl)
theorem dX15_init_16 : decode cX15_init 16 = .ok (.putfield 17, 3) := dk_181 0 17 (dk_at dksX15_init_0 16 rfl rfl)
theorem dX15_init_19 : decode cX15_init 19 = .ok (.return_, 1) := dk_177 (dk_at dksX15_init_0 19 rfl rfl)
abbrev cX15_of : ByteArray := prog_10_method_2_code
def yX15_of : MethodName := ⟨RX15, "of", "(LBrothFlasks$Case;)J"⟩
def dkwX15_of_5 : List UInt8 := [182, 0, 30, 173]
abbrev dktX15_of_5 : List UInt8 := dkwX15_of_5 ++ []
def dkwX15_of_4 : List UInt8 := [167, 0, 23, 42, 180, 0, 13, 16, 45, 160, 0, 10, 32, 22, 4, 101, 167, 0, 7, 32, 22, 4, 105]
abbrev dktX15_of_4 : List UInt8 := dkwX15_of_4 ++ dktX15_of_5
def dkwX15_of_3 : List UInt8 := [167, 0, 7, 32, 22, 4, 109, 173, 43, 42, 180, 0, 13, 16, 43, 160, 0, 10, 32, 22, 4, 97]
abbrev dktX15_of_3 : List UInt8 := dkwX15_of_3 ++ dktX15_of_4
def dkwX15_of_2 : List UInt8 := [43, 22, 4, 9, 148, 154, 0, 7, 4, 167, 0, 4, 3, 181, 0, 24, 22, 4, 9, 148, 154, 0, 7, 9]
abbrev dktX15_of_2 : List UInt8 := dkwX15_of_2 ++ dktX15_of_3
def dkwX15_of_1 : List UInt8 := [43, 182, 0, 20, 55, 4, 43, 180, 0, 24, 153, 0, 5, 9, 173, 42, 180, 0, 13, 16, 47, 160, 0, 35]
abbrev dktX15_of_1 : List UInt8 := dkwX15_of_1 ++ dktX15_of_2
def dkwX15_of_0 : List UInt8 := [42, 180, 0, 7, 43, 182, 0, 20, 65, 43, 180, 0, 24, 153, 0, 7, 9, 167, 0, 11, 42, 180, 0, 17]
abbrev dktX15_of_0 : List UInt8 := dkwX15_of_0 ++ dktX15_of_1
theorem dksX15_of_0 : cX15_of.data.toList.drop 0 = dktX15_of_0 := by decide +kernel
theorem dksX15_of_1 : cX15_of.data.toList.drop 24 = dktX15_of_1 := dk_seg dksX15_of_0 24 rfl rfl
theorem dksX15_of_2 : cX15_of.data.toList.drop 48 = dktX15_of_2 := dk_seg dksX15_of_1 24 rfl rfl
theorem dksX15_of_3 : cX15_of.data.toList.drop 72 = dktX15_of_3 := dk_seg dksX15_of_2 24 rfl rfl
theorem dksX15_of_4 : cX15_of.data.toList.drop 94 = dktX15_of_4 := dk_seg dksX15_of_3 22 rfl rfl
theorem dksX15_of_5 : cX15_of.data.toList.drop 117 = dktX15_of_5 := dk_seg dksX15_of_4 23 rfl rfl
theorem dX15_of_0 : decode cX15_of 0 = .ok (.aload_n 0, 1) := dk_42 (dk_at dksX15_of_0 0 rfl rfl)
theorem dX15_of_1 : decode cX15_of 1 = .ok (.getfield 7, 3) := dk_180 0 7 (dk_at dksX15_of_0 1 rfl rfl)
theorem dX15_of_4 : decode cX15_of 4 = .ok (.aload_n 1, 1) := dk_43 (dk_at dksX15_of_0 4 rfl rfl)
theorem dX15_of_5 : decode cX15_of 5 = .ok (.invokevirtual 20, 3) := dk_182 0 20 (dk_at dksX15_of_0 5 rfl rfl)
theorem dX15_of_8 : decode cX15_of 8 = .ok (.lstore_n 2, 1) := dk_65 (dk_at dksX15_of_0 8 rfl rfl)
theorem dX15_of_9 : decode cX15_of 9 = .ok (.aload_n 1, 1) := dk_43 (dk_at dksX15_of_0 9 rfl rfl)
theorem dX15_of_10 : decode cX15_of 10 = .ok (.getfield 24, 3) := dk_180 0 24 (dk_at dksX15_of_0 10 rfl rfl)
theorem dX15_of_13 : decode cX15_of 13 = .ok (.ifCond .eq 7, 3) := dk_153 0 7 (dk_at dksX15_of_0 13 rfl rfl)
theorem dX15_of_16 : decode cX15_of 16 = .ok (.lconst 0, 1) := dk_9 (dk_at dksX15_of_0 16 rfl rfl)
theorem dX15_of_17 : decode cX15_of 17 = .ok (.goto 11, 3) := dk_167 0 11 (dk_at dksX15_of_0 17 rfl rfl)
theorem dX15_of_20 : decode cX15_of 20 = .ok (.aload_n 0, 1) := dk_42 (dk_at dksX15_of_0 20 rfl rfl)
theorem dX15_of_21 : decode cX15_of 21 = .ok (.getfield 17, 3) := dk_180 0 17 (dk_at dksX15_of_0 21 rfl rfl)
theorem dX15_of_24 : decode cX15_of 24 = .ok (.aload_n 1, 1) := dk_43 (dk_at dksX15_of_1 0 rfl rfl)
theorem dX15_of_25 : decode cX15_of 25 = .ok (.invokevirtual 20, 3) := dk_182 0 20 (dk_at dksX15_of_1 1 rfl rfl)
theorem dX15_of_28 : decode cX15_of 28 = .ok (.lstore 4, 2) := dk_55 4 (dk_at dksX15_of_1 4 rfl rfl)
theorem dX15_of_30 : decode cX15_of 30 = .ok (.aload_n 1, 1) := dk_43 (dk_at dksX15_of_1 6 rfl rfl)
theorem dX15_of_31 : decode cX15_of 31 = .ok (.getfield 24, 3) := dk_180 0 24 (dk_at dksX15_of_1 7 rfl rfl)
theorem dX15_of_34 : decode cX15_of 34 = .ok (.ifCond .eq 5, 3) := dk_153 0 5 (dk_at dksX15_of_1 10 rfl rfl)
theorem dX15_of_37 : decode cX15_of 37 = .ok (.lconst 0, 1) := dk_9 (dk_at dksX15_of_1 13 rfl rfl)
theorem dX15_of_38 : decode cX15_of 38 = .ok (.lreturn, 1) := dk_173 (dk_at dksX15_of_1 14 rfl rfl)
theorem dX15_of_39 : decode cX15_of 39 = .ok (.aload_n 0, 1) := dk_42 (dk_at dksX15_of_1 15 rfl rfl)
theorem dX15_of_40 : decode cX15_of 40 = .ok (.getfield 13, 3) := dk_180 0 13 (dk_at dksX15_of_1 16 rfl rfl)
theorem dX15_of_43 : decode cX15_of 43 = .ok (.bipush 47, 2) := dk_16 47 (dk_at dksX15_of_1 19 rfl rfl)
theorem dX15_of_45 : decode cX15_of 45 = .ok (.if_icmp .ne 35, 3) := dk_160 0 35 (dk_at dksX15_of_1 21 rfl rfl)
theorem dX15_of_48 : decode cX15_of 48 = .ok (.aload_n 1, 1) := dk_43 (dk_at dksX15_of_2 0 rfl rfl)
theorem dX15_of_49 : decode cX15_of 49 = .ok (.lload 4, 2) := dk_22 4 (dk_at dksX15_of_2 1 rfl rfl)
theorem dX15_of_51 : decode cX15_of 51 = .ok (.lconst 0, 1) := dk_9 (dk_at dksX15_of_2 3 rfl rfl)
theorem dX15_of_52 : decode cX15_of 52 = .ok (.lcmp, 1) := dk_148 (dk_at dksX15_of_2 4 rfl rfl)
theorem dX15_of_53 : decode cX15_of 53 = .ok (.ifCond .ne 7, 3) := dk_154 0 7 (dk_at dksX15_of_2 5 rfl rfl)
theorem dX15_of_56 : decode cX15_of 56 = .ok (.iconst 1, 1) := dk_4 (dk_at dksX15_of_2 8 rfl rfl)
theorem dX15_of_57 : decode cX15_of 57 = .ok (.goto 4, 3) := dk_167 0 4 (dk_at dksX15_of_2 9 rfl rfl)
theorem dX15_of_60 : decode cX15_of 60 = .ok (.iconst 0, 1) := dk_3 (dk_at dksX15_of_2 12 rfl rfl)
theorem dX15_of_61 : decode cX15_of 61 = .ok (.putfield 24, 3) := dk_181 0 24 (dk_at dksX15_of_2 13 rfl rfl)
theorem dX15_of_64 : decode cX15_of 64 = .ok (.lload 4, 2) := dk_22 4 (dk_at dksX15_of_2 16 rfl rfl)
theorem dX15_of_66 : decode cX15_of 66 = .ok (.lconst 0, 1) := dk_9 (dk_at dksX15_of_2 18 rfl rfl)
theorem dX15_of_67 : decode cX15_of 67 = .ok (.lcmp, 1) := dk_148 (dk_at dksX15_of_2 19 rfl rfl)
theorem dX15_of_68 : decode cX15_of 68 = .ok (.ifCond .ne 7, 3) := dk_154 0 7 (dk_at dksX15_of_2 20 rfl rfl)
theorem dX15_of_71 : decode cX15_of 71 = .ok (.lconst 0, 1) := dk_9 (dk_at dksX15_of_2 23 rfl rfl)
theorem dX15_of_72 : decode cX15_of 72 = .ok (.goto 7, 3) := dk_167 0 7 (dk_at dksX15_of_3 0 rfl rfl)
theorem dX15_of_75 : decode cX15_of 75 = .ok (.lload_n 2, 1) := dk_32 (dk_at dksX15_of_3 3 rfl rfl)
theorem dX15_of_76 : decode cX15_of 76 = .ok (.lload 4, 2) := dk_22 4 (dk_at dksX15_of_3 4 rfl rfl)
theorem dX15_of_78 : decode cX15_of 78 = .ok (.ldiv, 1) := dk_109 (dk_at dksX15_of_3 6 rfl rfl)
theorem dX15_of_79 : decode cX15_of 79 = .ok (.lreturn, 1) := dk_173 (dk_at dksX15_of_3 7 rfl rfl)
theorem dX15_of_80 : decode cX15_of 80 = .ok (.aload_n 1, 1) := dk_43 (dk_at dksX15_of_3 8 rfl rfl)
theorem dX15_of_81 : decode cX15_of 81 = .ok (.aload_n 0, 1) := dk_42 (dk_at dksX15_of_3 9 rfl rfl)
theorem dX15_of_82 : decode cX15_of 82 = .ok (.getfield 13, 3) := dk_180 0 13 (dk_at dksX15_of_3 10 rfl rfl)
theorem dX15_of_85 : decode cX15_of 85 = .ok (.bipush 43, 2) := dk_16 43 (dk_at dksX15_of_3 13 rfl rfl)
theorem dX15_of_87 : decode cX15_of 87 = .ok (.if_icmp .ne 10, 3) := dk_160 0 10 (dk_at dksX15_of_3 15 rfl rfl)
theorem dX15_of_90 : decode cX15_of 90 = .ok (.lload_n 2, 1) := dk_32 (dk_at dksX15_of_3 18 rfl rfl)
theorem dX15_of_91 : decode cX15_of 91 = .ok (.lload 4, 2) := dk_22 4 (dk_at dksX15_of_3 19 rfl rfl)
theorem dX15_of_93 : decode cX15_of 93 = .ok (.ladd, 1) := dk_97 (dk_at dksX15_of_3 21 rfl rfl)
theorem dX15_of_94 : decode cX15_of 94 = .ok (.goto 23, 3) := dk_167 0 23 (dk_at dksX15_of_4 0 rfl rfl)
theorem dX15_of_97 : decode cX15_of 97 = .ok (.aload_n 0, 1) := dk_42 (dk_at dksX15_of_4 3 rfl rfl)
theorem dX15_of_98 : decode cX15_of 98 = .ok (.getfield 13, 3) := dk_180 0 13 (dk_at dksX15_of_4 4 rfl rfl)
theorem dX15_of_101 : decode cX15_of 101 = .ok (.bipush 45, 2) := dk_16 45 (dk_at dksX15_of_4 7 rfl rfl)
theorem dX15_of_103 : decode cX15_of 103 = .ok (.if_icmp .ne 10, 3) := dk_160 0 10 (dk_at dksX15_of_4 9 rfl rfl)
theorem dX15_of_106 : decode cX15_of 106 = .ok (.lload_n 2, 1) := dk_32 (dk_at dksX15_of_4 12 rfl rfl)
theorem dX15_of_107 : decode cX15_of 107 = .ok (.lload 4, 2) := dk_22 4 (dk_at dksX15_of_4 13 rfl rfl)
theorem dX15_of_109 : decode cX15_of 109 = .ok (.lsub, 1) := dk_101 (dk_at dksX15_of_4 15 rfl rfl)
theorem dX15_of_110 : decode cX15_of 110 = .ok (.goto 7, 3) := dk_167 0 7 (dk_at dksX15_of_4 16 rfl rfl)
theorem dX15_of_113 : decode cX15_of 113 = .ok (.lload_n 2, 1) := dk_32 (dk_at dksX15_of_4 19 rfl rfl)
theorem dX15_of_114 : decode cX15_of 114 = .ok (.lload 4, 2) := dk_22 4 (dk_at dksX15_of_4 20 rfl rfl)
theorem dX15_of_116 : decode cX15_of 116 = .ok (.lmul, 1) := dk_105 (dk_at dksX15_of_4 22 rfl rfl)
theorem dX15_of_117 : decode cX15_of 117 = .ok (.invokevirtual 30, 3) := dk_182 0 30 (dk_at dksX15_of_5 0 rfl rfl)
theorem dX15_of_120 : decode cX15_of 120 = .ok (.lreturn, 1) := dk_173 (dk_at dksX15_of_5 3 rfl rfl)
theorem q128 : (Jvm.Cond.initialized "BrothFlasks$Joined") ∈ lw_all := lw_g (lw_at lw_m1 24 rfl) rfl
theorem q266 : (Jvm.Cond.fieldLink "BrothFlasks$Joined" (24 : Nat) "BrothFlasks$Case" "isBroken" "Z") ∈ lw_all := lw_g (lw_at lw_m1 162 rfl) rfl
theorem q1021 : (Jvm.Cond.instantiable "BrothFlasks$Joined" (3 : Nat)) ∈ lw_all := lw_g (lw_at lw_m4 197 rfl) rfl
theorem q1023 : (Jvm.Cond.instanceMethod ({ cls := "BrothFlasks$Joined", name := "<init>", desc := "(LBrothFlasks$Sum;ILBrothFlasks$Sum;)V" } : Jvm.MethodName)) ∈ lw_all := lw_g (lw_at lw_m4 199 rfl) rfl
theorem q1024 : (Jvm.Cond.code ({ cls := "BrothFlasks$Joined", name := "<init>", desc := "(LBrothFlasks$Sum;ILBrothFlasks$Sum;)V" } : Jvm.MethodName) prog_10_method_1_code (4 : Nat) (Option.none : Option Jvm.ClassFile.FieldType)) ∈ lw_all := lw_g (lw_at lw_m4 200 rfl) rfl
theorem q1025 : (Jvm.Cond.methodLinkNest "BrothFlasks$Joined" (1 : Nat) ({ cls := "BrothFlasks$Sum", name := "<init>", desc := "()V" } : Jvm.MethodName) "BrothFlasks") ∈ lw_tbl := lw_at lw_m4 201 rfl
theorem q1026 : (Jvm.Cond.fieldLink "BrothFlasks$Joined" (7 : Nat) "BrothFlasks$Joined" "one" "LBrothFlasks$Sum;") ∈ lw_all := lw_g (lw_at lw_m4 202 rfl) rfl
theorem q1027 : (Jvm.Cond.fieldLink "BrothFlasks$Joined" (17 : Nat) "BrothFlasks$Joined" "other" "LBrothFlasks$Sum;") ∈ lw_all := lw_g (lw_at lw_m4 203 rfl) rfl
theorem q1028 : (Jvm.Cond.fieldLink "BrothFlasks$Joined" (13 : Nat) "BrothFlasks$Joined" "sign" "I") ∈ lw_all := lw_g (lw_at lw_m4 204 rfl) rfl
theorem q1029 : (Jvm.Cond.laysFinal "BrothFlasks$Joined" "BrothFlasks$Joined" "one" "LBrothFlasks$Sum;") ∈ lw_all := lw_g (lw_at lw_m4 205 rfl) rfl
theorem q1030 : (Jvm.Cond.soleField "BrothFlasks$Joined" "one") ∈ lw_all := lw_g (lw_at lw_m4 206 rfl) rfl
theorem q1031 : (Jvm.Cond.laysFinal "BrothFlasks$Joined" "BrothFlasks$Joined" "other" "LBrothFlasks$Sum;") ∈ lw_all := lw_g (lw_at lw_m4 207 rfl) rfl
theorem q1032 : (Jvm.Cond.soleField "BrothFlasks$Joined" "other") ∈ lw_all := lw_g (lw_at lw_m4 208 rfl) rfl
theorem q1033 : (Jvm.Cond.laysFinal "BrothFlasks$Joined" "BrothFlasks$Joined" "sign" "I") ∈ lw_all := lw_g (lw_at lw_m4 209 rfl) rfl
theorem q1034 : (Jvm.Cond.soleField "BrothFlasks$Joined" "sign") ∈ lw_all := lw_g (lw_at lw_m4 210 rfl) rfl
theorem q1035 : (Jvm.Cond.superclass "BrothFlasks$Joined" "BrothFlasks$Sum") ∈ lw_all := lw_g (lw_at lw_m4 211 rfl) rfl
theorem q1189 : (Jvm.Cond.selects "BrothFlasks$Joined" ({ cls := "BrothFlasks$Sum", name := "of", desc := "(LBrothFlasks$Case;)J" } : Jvm.MethodName) ({ cls := "BrothFlasks$Joined", name := "of", desc := "(LBrothFlasks$Case;)J" } : Jvm.MethodName)) ∈ lw_all := lw_g (lw_at lw_m5 125 rfl) rfl
theorem q1190 : (Jvm.Cond.instanceMethod ({ cls := "BrothFlasks$Joined", name := "of", desc := "(LBrothFlasks$Case;)J" } : Jvm.MethodName)) ∈ lw_all := lw_g (lw_at lw_m5 126 rfl) rfl
theorem q1191 : (Jvm.Cond.code ({ cls := "BrothFlasks$Joined", name := "of", desc := "(LBrothFlasks$Case;)J" } : Jvm.MethodName) prog_10_method_2_code (6 : Nat) (Option.some Jvm.ClassFile.FieldType.long)) ∈ lw_all := lw_g (lw_at lw_m5 127 rfl) rfl
theorem q1192 : (Jvm.Cond.methodLink "BrothFlasks$Joined" (20 : Nat) ({ cls := "BrothFlasks$Sum", name := "of", desc := "(LBrothFlasks$Case;)J" } : Jvm.MethodName)) ∈ lw_all := lw_g (lw_at lw_m5 128 rfl) rfl
theorem q1195 : (Jvm.Cond.methodLink "BrothFlasks$Joined" (30 : Nat) ({ cls := "BrothFlasks$Case", name := "within", desc := "(J)J" } : Jvm.MethodName)) ∈ lw_all := lw_g (lw_at lw_m5 131 rfl) rfl
theorem in_X15 : ∀ w ∈ wsX150, w ∈ lw_all := lw_in wsX150 [1029, 1031, 1033] (by decide +kernel) (by decide +kernel)
/-! BrothFlasks$Test -/
set_option maxRecDepth 100000
def RX16 : String := "BrothFlasks$Test"
abbrev cX16_init : ByteArray := prog_20_method_1_code
def yX16_init : MethodName := ⟨RX16, "<init>", "()V"⟩
theorem dX16_init_0 : decode cX16_init 0 = .ok (.aload_n 0, 1) := by decide +kernel
theorem dX16_init_1 : decode cX16_init 1 = .ok (.invokespecial 1, 3) := by decide +kernel
theorem dX16_init_4 : decode cX16_init 4 = .ok (.return_, 1) := by decide +kernel
theorem q129 : (Jvm.Cond.initialized "BrothFlasks$Test") ∈ lw_all := lw_g (lw_at lw_m1 25 rfl) rfl
theorem q1060 : (Jvm.Cond.instanceMethod ({ cls := "BrothFlasks$Test", name := "<init>", desc := "()V" } : Jvm.MethodName)) ∈ lw_all := lw_g (lw_at lw_m4 236 rfl) rfl
theorem q1061 : (Jvm.Cond.code ({ cls := "BrothFlasks$Test", name := "<init>", desc := "()V" } : Jvm.MethodName) prog_20_method_1_code (1 : Nat) (Option.none : Option Jvm.ClassFile.FieldType)) ∈ lw_all := lw_g (lw_at lw_m4 237 rfl) rfl
theorem q1062 : (Jvm.Cond.methodLink "BrothFlasks$Test" (1 : Nat) ({ cls := "java/lang/Object", name := "<init>", desc := "()V" } : Jvm.MethodName)) ∈ lw_all := lw_g (lw_at lw_m4 238 rfl) rfl
theorem q1178 : (Jvm.Cond.declares ({ cls := "BrothFlasks$Test", name := "of", desc := "(LBrothFlasks$Case;)Z" } : Jvm.MethodName)) ∈ lw_tbl := lw_at lw_m5 114 rfl
theorem q1179 : (Jvm.Cond.sameMethod "BrothFlasks$Test" "BrothFlasks$Test" "of" "(LBrothFlasks$Case;)Z") ∈ lw_all := lw_g (lw_at lw_m5 115 rfl) rfl
/-! BrothFlasks$Fact -/
set_option maxRecDepth 100000
def RX17 : String := "BrothFlasks$Fact"
def TX17 : u_T := fun k => match k with
  | _ => ("BrothFlasks$Fact", "what", "I", true)
def tyX17 : Nat → FieldType := fun k => match k with
  | _ => .int
abbrev wsX170 : List Cond := u_ws RX17 TX17 1
theorem nmX17 : ∀ a, a < 1 → ∀ b, b < 1 → a ≠ b → (TX17 a).2.1 ≠ (TX17 b).2.1 := by decide +kernel
theorem tyX17_ok : ∀ k, k < 1 → parseFieldDescriptor (TX17 k).2.2.1 = some (tyX17 k) := by decide +kernel
abbrev cX17_init : ByteArray := prog_8_method_1_code
def yX17_init : MethodName := ⟨RX17, "<init>", "(I)V"⟩
def dkwX17_init_0 : List UInt8 := [42, 183, 0, 3, 42, 27, 181, 0, 9, 177]
abbrev dktX17_init_0 : List UInt8 := dkwX17_init_0 ++ []
theorem dksX17_init_0 : cX17_init.data.toList.drop 0 = dktX17_init_0 := by decide +kernel
theorem dX17_init_0 : decode cX17_init 0 = .ok (.aload_n 0, 1) := dk_42 (dk_at dksX17_init_0 0 rfl rfl)
theorem dX17_init_1 : decode cX17_init 1 = .ok (.invokespecial 3, 3) := dk_183 0 3 (dk_at dksX17_init_0 1 rfl rfl)
theorem dX17_init_4 : decode cX17_init 4 = .ok (.aload_n 0, 1) := dk_42 (dk_at dksX17_init_0 4 rfl rfl)
theorem dX17_init_5 : decode cX17_init 5 = .ok (.iload_n 1, 1) := dk_27 (dk_at dksX17_init_0 5 rfl rfl)
theorem dX17_init_6 : decode cX17_init 6 = .ok (.putfield 9, 3) := dk_181 0 9 (dk_at dksX17_init_0 6 rfl rfl)
theorem dX17_init_9 : decode cX17_init 9 = .ok (.return_, 1) := dk_177 (dk_at dksX17_init_0 9 rfl rfl)
abbrev cX17_of : ByteArray := prog_8_method_2_code
def yX17_of : MethodName := ⟨RX17, "of", "(LBrothFlasks$Case;)Z"⟩
def dkwX17_of_2 : List UInt8 := [160, 0, 7, 4, 167, 0, 11, 3, 167, 0, 7, 43, 182, 0, 21, 172]
abbrev dktX17_of_2 : List UInt8 := dkwX17_of_2 ++ []
def dkwX17_of_1 : List UInt8 := [167, 0, 38, 3, 167, 0, 34, 42, 180, 0, 9, 8, 160, 0, 22, 43, 180, 0, 15, 16, 7, 46, 4]
abbrev dktX17_of_1 : List UInt8 := dkwX17_of_1 ++ dktX17_of_2
def dkwX17_of_0 : List UInt8 := [42, 180, 0, 9, 8, 162, 0, 26, 43, 180, 0, 15, 4, 46, 42, 180, 0, 9, 4, 96, 160, 0, 7, 4]
abbrev dktX17_of_0 : List UInt8 := dkwX17_of_0 ++ dktX17_of_1
theorem dksX17_of_0 : cX17_of.data.toList.drop 0 = dktX17_of_0 := by decide +kernel
theorem dksX17_of_1 : cX17_of.data.toList.drop 24 = dktX17_of_1 := dk_seg dksX17_of_0 24 rfl rfl
theorem dksX17_of_2 : cX17_of.data.toList.drop 47 = dktX17_of_2 := dk_seg dksX17_of_1 23 rfl rfl
theorem dX17_of_0 : decode cX17_of 0 = .ok (.aload_n 0, 1) := dk_42 (dk_at dksX17_of_0 0 rfl rfl)
theorem dX17_of_1 : decode cX17_of 1 = .ok (.getfield 9, 3) := dk_180 0 9 (dk_at dksX17_of_0 1 rfl rfl)
theorem dX17_of_4 : decode cX17_of 4 = .ok (.iconst 5, 1) := dk_8 (dk_at dksX17_of_0 4 rfl rfl)
theorem dX17_of_5 : decode cX17_of 5 = .ok (.if_icmp .ge 26, 3) := dk_162 0 26 (dk_at dksX17_of_0 5 rfl rfl)
theorem dX17_of_8 : decode cX17_of 8 = .ok (.aload_n 1, 1) := dk_43 (dk_at dksX17_of_0 8 rfl rfl)
theorem dX17_of_9 : decode cX17_of 9 = .ok (.getfield 15, 3) := dk_180 0 15 (dk_at dksX17_of_0 9 rfl rfl)
theorem dX17_of_12 : decode cX17_of 12 = .ok (.iconst 1, 1) := dk_4 (dk_at dksX17_of_0 12 rfl rfl)
theorem dX17_of_13 : decode cX17_of 13 = .ok (.iaload, 1) := dk_46 (dk_at dksX17_of_0 13 rfl rfl)
theorem dX17_of_14 : decode cX17_of 14 = .ok (.aload_n 0, 1) := dk_42 (dk_at dksX17_of_0 14 rfl rfl)
theorem dX17_of_15 : decode cX17_of 15 = .ok (.getfield 9, 3) := dk_180 0 9 (dk_at dksX17_of_0 15 rfl rfl)
theorem dX17_of_18 : decode cX17_of 18 = .ok (.iconst 1, 1) := dk_4 (dk_at dksX17_of_0 18 rfl rfl)
theorem dX17_of_19 : decode cX17_of 19 = .ok (.iadd, 1) := dk_96 (dk_at dksX17_of_0 19 rfl rfl)
theorem dX17_of_20 : decode cX17_of 20 = .ok (.if_icmp .ne 7, 3) := dk_160 0 7 (dk_at dksX17_of_0 20 rfl rfl)
theorem dX17_of_23 : decode cX17_of 23 = .ok (.iconst 1, 1) := dk_4 (dk_at dksX17_of_0 23 rfl rfl)
theorem dX17_of_24 : decode cX17_of 24 = .ok (.goto 38, 3) := dk_167 0 38 (dk_at dksX17_of_1 0 rfl rfl)
theorem dX17_of_27 : decode cX17_of 27 = .ok (.iconst 0, 1) := dk_3 (dk_at dksX17_of_1 3 rfl rfl)
theorem dX17_of_28 : decode cX17_of 28 = .ok (.goto 34, 3) := dk_167 0 34 (dk_at dksX17_of_1 4 rfl rfl)
theorem dX17_of_31 : decode cX17_of 31 = .ok (.aload_n 0, 1) := dk_42 (dk_at dksX17_of_1 7 rfl rfl)
theorem dX17_of_32 : decode cX17_of 32 = .ok (.getfield 9, 3) := dk_180 0 9 (dk_at dksX17_of_1 8 rfl rfl)
theorem dX17_of_35 : decode cX17_of 35 = .ok (.iconst 5, 1) := dk_8 (dk_at dksX17_of_1 11 rfl rfl)
theorem dX17_of_36 : decode cX17_of 36 = .ok (.if_icmp .ne 22, 3) := dk_160 0 22 (dk_at dksX17_of_1 12 rfl rfl)
theorem dX17_of_39 : decode cX17_of 39 = .ok (.aload_n 1, 1) := dk_43 (dk_at dksX17_of_1 15 rfl rfl)
theorem dX17_of_40 : decode cX17_of 40 = .ok (.getfield 15, 3) := dk_180 0 15 (dk_at dksX17_of_1 16 rfl rfl)
theorem dX17_of_43 : decode cX17_of 43 = .ok (.bipush 7, 2) := dk_16 7 (dk_at dksX17_of_1 19 rfl rfl)
theorem dX17_of_45 : decode cX17_of 45 = .ok (.iaload, 1) := dk_46 (dk_at dksX17_of_1 21 rfl rfl)
theorem dX17_of_46 : decode cX17_of 46 = .ok (.iconst 1, 1) := dk_4 (dk_at dksX17_of_1 22 rfl rfl)
theorem dX17_of_47 : decode cX17_of 47 = .ok (.if_icmp .ne 7, 3) := dk_160 0 7 (dk_at dksX17_of_2 0 rfl rfl)
theorem dX17_of_50 : decode cX17_of 50 = .ok (.iconst 1, 1) := dk_4 (dk_at dksX17_of_2 3 rfl rfl)
theorem dX17_of_51 : decode cX17_of 51 = .ok (.goto 11, 3) := dk_167 0 11 (dk_at dksX17_of_2 4 rfl rfl)
theorem dX17_of_54 : decode cX17_of 54 = .ok (.iconst 0, 1) := dk_3 (dk_at dksX17_of_2 7 rfl rfl)
theorem dX17_of_55 : decode cX17_of 55 = .ok (.goto 7, 3) := dk_167 0 7 (dk_at dksX17_of_2 8 rfl rfl)
theorem dX17_of_58 : decode cX17_of 58 = .ok (.aload_n 1, 1) := dk_43 (dk_at dksX17_of_2 11 rfl rfl)
theorem dX17_of_59 : decode cX17_of 59 = .ok (.invokevirtual 21, 3) := dk_182 0 21 (dk_at dksX17_of_2 12 rfl rfl)
theorem dX17_of_62 : decode cX17_of 62 = .ok (.ireturn, 1) := dk_172 (dk_at dksX17_of_2 15 rfl rfl)
theorem q130 : (Jvm.Cond.initialized "BrothFlasks$Fact") ∈ lw_all := lw_g (lw_at lw_m1 26 rfl) rfl
theorem q260 : (Jvm.Cond.fieldLink "BrothFlasks$Fact" (15 : Nat) "BrothFlasks$Case" "numbers" "[I") ∈ lw_all := lw_g (lw_at lw_m1 156 rfl) rfl
theorem q1055 : (Jvm.Cond.instantiable "BrothFlasks$Fact" (1 : Nat)) ∈ lw_all := lw_g (lw_at lw_m4 231 rfl) rfl
theorem q1057 : (Jvm.Cond.instanceMethod ({ cls := "BrothFlasks$Fact", name := "<init>", desc := "(I)V" } : Jvm.MethodName)) ∈ lw_all := lw_g (lw_at lw_m4 233 rfl) rfl
theorem q1058 : (Jvm.Cond.code ({ cls := "BrothFlasks$Fact", name := "<init>", desc := "(I)V" } : Jvm.MethodName) prog_8_method_1_code (2 : Nat) (Option.none : Option Jvm.ClassFile.FieldType)) ∈ lw_all := lw_g (lw_at lw_m4 234 rfl) rfl
theorem q1059 : (Jvm.Cond.methodLinkNest "BrothFlasks$Fact" (3 : Nat) ({ cls := "BrothFlasks$Test", name := "<init>", desc := "()V" } : Jvm.MethodName) "BrothFlasks") ∈ lw_tbl := lw_at lw_m4 235 rfl
theorem q1063 : (Jvm.Cond.fieldLink "BrothFlasks$Fact" (9 : Nat) "BrothFlasks$Fact" "what" "I") ∈ lw_all := lw_g (lw_at lw_m4 239 rfl) rfl
theorem q1064 : (Jvm.Cond.laysFinal "BrothFlasks$Fact" "BrothFlasks$Fact" "what" "I") ∈ lw_all := lw_g (lw_at lw_m5 0 rfl) rfl
theorem q1065 : (Jvm.Cond.soleField "BrothFlasks$Fact" "what") ∈ lw_all := lw_g (lw_at lw_m5 1 rfl) rfl
theorem q1066 : (Jvm.Cond.superclass "BrothFlasks$Fact" "BrothFlasks$Test") ∈ lw_all := lw_g (lw_at lw_m5 2 rfl) rfl
theorem q1204 : (Jvm.Cond.selects "BrothFlasks$Fact" ({ cls := "BrothFlasks$Test", name := "of", desc := "(LBrothFlasks$Case;)Z" } : Jvm.MethodName) ({ cls := "BrothFlasks$Fact", name := "of", desc := "(LBrothFlasks$Case;)Z" } : Jvm.MethodName)) ∈ lw_all := lw_g (lw_at lw_m5 140 rfl) rfl
theorem q1205 : (Jvm.Cond.instanceMethod ({ cls := "BrothFlasks$Fact", name := "of", desc := "(LBrothFlasks$Case;)Z" } : Jvm.MethodName)) ∈ lw_all := lw_g (lw_at lw_m5 141 rfl) rfl
theorem q1206 : (Jvm.Cond.code ({ cls := "BrothFlasks$Fact", name := "of", desc := "(LBrothFlasks$Case;)Z" } : Jvm.MethodName) prog_8_method_2_code (2 : Nat) (Option.some Jvm.ClassFile.FieldType.boolean)) ∈ lw_all := lw_g (lw_at lw_m5 142 rfl) rfl
theorem q1207 : (Jvm.Cond.methodLink "BrothFlasks$Fact" (21 : Nat) ({ cls := "BrothFlasks$Case", name := "hasAir", desc := "()Z" } : Jvm.MethodName)) ∈ lw_all := lw_g (lw_at lw_m5 143 rfl) rfl
theorem q2063 : (Jvm.Cond.castable "BrothFlasks$Fact" "BrothFlasks$Test") ∈ lw_tbl := lw_at lw_m9 39 rfl
theorem in_X17 : ∀ w ∈ wsX170, w ∈ lw_all := lw_in wsX170 [1064] (by decide +kernel) (by decide +kernel)
/-! BrothFlasks$Compared -/
set_option maxRecDepth 100000
def RX18 : String := "BrothFlasks$Compared"
def TX18 : u_T := fun k => match k with
  | 0 => ("BrothFlasks$Compared", "one", "LBrothFlasks$Sum;", true)
  | 1 => ("BrothFlasks$Compared", "other", "LBrothFlasks$Sum;", true)
  | _ => ("BrothFlasks$Compared", "sign", "I", true)
def tyX18 : Nat → FieldType := fun k => match k with
  | 0 => .object "BrothFlasks$Sum"
  | 1 => .object "BrothFlasks$Sum"
  | _ => .int
abbrev wsX180 : List Cond := u_ws RX18 TX18 3
theorem nmX18 : ∀ a, a < 3 → ∀ b, b < 3 → a ≠ b → (TX18 a).2.1 ≠ (TX18 b).2.1 := by decide +kernel
theorem tyX18_ok : ∀ k, k < 3 → parseFieldDescriptor (TX18 k).2.2.1 = some (tyX18 k) := by decide +kernel
abbrev cX18_init : ByteArray := prog_7_method_1_code
def yX18_init : MethodName := ⟨RX18, "<init>", "(LBrothFlasks$Sum;ILBrothFlasks$Sum;)V"⟩
def dkwX18_init_0 : List UInt8 := [42, 183, 0, 1, 42, 43, 181, 0, 7, 42, 28, 181, 0, 13, 42, 45, 181, 0, 17, 177]
abbrev dktX18_init_0 : List UInt8 := dkwX18_init_0 ++ []
theorem dksX18_init_0 : cX18_init.data.toList.drop 0 = dktX18_init_0 := by decide +kernel
theorem dX18_init_0 : decode cX18_init 0 = .ok (.aload_n 0, 1) := dk_42 (dk_at dksX18_init_0 0 rfl rfl)
theorem dX18_init_1 : decode cX18_init 1 = .ok (.invokespecial 1, 3) := dk_183 0 1 (dk_at dksX18_init_0 1 rfl rfl)
theorem dX18_init_4 : decode cX18_init 4 = .ok (.aload_n 0, 1) := dk_42 (dk_at dksX18_init_0 4 rfl rfl)
theorem dX18_init_5 : decode cX18_init 5 = .ok (.aload_n 1, 1) := dk_43 (dk_at dksX18_init_0 5 rfl rfl)
theorem dX18_init_6 : decode cX18_init 6 = .ok (.putfield 7, 3) := dk_181 0 7 (dk_at dksX18_init_0 6 rfl rfl)
theorem dX18_init_9 : decode cX18_init 9 = .ok (.aload_n 0, 1) := dk_42 (dk_at dksX18_init_0 9 rfl rfl)
theorem dX18_init_10 : decode cX18_init 10 = .ok (.iload_n 2, 1) := dk_28 (dk_at dksX18_init_0 10 rfl rfl)
theorem dX18_init_11 : decode cX18_init 11 = .ok (.putfield 13, 3) := dk_181 0 13 (dk_at dksX18_init_0 11 rfl rfl)
theorem dX18_init_14 : decode cX18_init 14 = .ok (.aload_n 0, 1) := dk_42 (dk_at dksX18_init_0 14 rfl rfl)
theorem dX18_init_15 : decode cX18_init 15 = .ok (.aload_n 3, 1) := dk_45 (dk_at dksX18_init_0 15 rfl rfl)
theorem dX18_init_16 : decode cX18_init 16 = .ok (.putfield 17, 3) := dk_181 0 17 (dk_at dksX18_init_0 16 rfl rfl)
theorem dX18_init_19 : decode cX18_init 19 = .ok (.return_, 1) := dk_177 (dk_at dksX18_init_0 19 rfl rfl)
abbrev cX18_of : ByteArray := prog_7_method_2_code
def yX18_of : MethodName := ⟨RX18, "of", "(LBrothFlasks$Case;)Z"⟩
def dkwX18_of_3 : List UInt8 := [158, 0, 17, 167, 0, 10, 32, 22, 4, 148, 154, 0, 7, 4, 167, 0, 4, 3, 172]
abbrev dktX18_of_3 : List UInt8 := dkwX18_of_3 ++ []
def dkwX18_of_2 : List UInt8 := [22, 4, 148, 156, 0, 36, 167, 0, 29, 42, 180, 0, 13, 16, 62, 160, 0, 13, 32, 22, 4, 148]
abbrev dktX18_of_2 : List UInt8 := dkwX18_of_2 ++ dktX18_of_3
def dkwX18_of_1 : List UInt8 := [43, 182, 0, 20, 55, 4, 43, 180, 0, 26, 154, 0, 52, 42, 180, 0, 13, 16, 60, 160, 0, 13, 32]
abbrev dktX18_of_1 : List UInt8 := dkwX18_of_1 ++ dktX18_of_2
def dkwX18_of_0 : List UInt8 := [42, 180, 0, 7, 43, 182, 0, 20, 65, 43, 180, 0, 26, 153, 0, 7, 9, 167, 0, 11, 42, 180, 0, 17]
abbrev dktX18_of_0 : List UInt8 := dkwX18_of_0 ++ dktX18_of_1
theorem dksX18_of_0 : cX18_of.data.toList.drop 0 = dktX18_of_0 := by decide +kernel
theorem dksX18_of_1 : cX18_of.data.toList.drop 24 = dktX18_of_1 := dk_seg dksX18_of_0 24 rfl rfl
theorem dksX18_of_2 : cX18_of.data.toList.drop 47 = dktX18_of_2 := dk_seg dksX18_of_1 23 rfl rfl
theorem dksX18_of_3 : cX18_of.data.toList.drop 69 = dktX18_of_3 := dk_seg dksX18_of_2 22 rfl rfl
theorem dX18_of_0 : decode cX18_of 0 = .ok (.aload_n 0, 1) := dk_42 (dk_at dksX18_of_0 0 rfl rfl)
theorem dX18_of_1 : decode cX18_of 1 = .ok (.getfield 7, 3) := dk_180 0 7 (dk_at dksX18_of_0 1 rfl rfl)
theorem dX18_of_4 : decode cX18_of 4 = .ok (.aload_n 1, 1) := dk_43 (dk_at dksX18_of_0 4 rfl rfl)
theorem dX18_of_5 : decode cX18_of 5 = .ok (.invokevirtual 20, 3) := dk_182 0 20 (dk_at dksX18_of_0 5 rfl rfl)
theorem dX18_of_8 : decode cX18_of 8 = .ok (.lstore_n 2, 1) := dk_65 (dk_at dksX18_of_0 8 rfl rfl)
theorem dX18_of_9 : decode cX18_of 9 = .ok (.aload_n 1, 1) := dk_43 (dk_at dksX18_of_0 9 rfl rfl)
theorem dX18_of_10 : decode cX18_of 10 = .ok (.getfield 26, 3) := dk_180 0 26 (dk_at dksX18_of_0 10 rfl rfl)
theorem dX18_of_13 : decode cX18_of 13 = .ok (.ifCond .eq 7, 3) := dk_153 0 7 (dk_at dksX18_of_0 13 rfl rfl)
theorem dX18_of_16 : decode cX18_of 16 = .ok (.lconst 0, 1) := dk_9 (dk_at dksX18_of_0 16 rfl rfl)
theorem dX18_of_17 : decode cX18_of 17 = .ok (.goto 11, 3) := dk_167 0 11 (dk_at dksX18_of_0 17 rfl rfl)
theorem dX18_of_20 : decode cX18_of 20 = .ok (.aload_n 0, 1) := dk_42 (dk_at dksX18_of_0 20 rfl rfl)
theorem dX18_of_21 : decode cX18_of 21 = .ok (.getfield 17, 3) := dk_180 0 17 (dk_at dksX18_of_0 21 rfl rfl)
theorem dX18_of_24 : decode cX18_of 24 = .ok (.aload_n 1, 1) := dk_43 (dk_at dksX18_of_1 0 rfl rfl)
theorem dX18_of_25 : decode cX18_of 25 = .ok (.invokevirtual 20, 3) := dk_182 0 20 (dk_at dksX18_of_1 1 rfl rfl)
theorem dX18_of_28 : decode cX18_of 28 = .ok (.lstore 4, 2) := dk_55 4 (dk_at dksX18_of_1 4 rfl rfl)
theorem dX18_of_30 : decode cX18_of 30 = .ok (.aload_n 1, 1) := dk_43 (dk_at dksX18_of_1 6 rfl rfl)
theorem dX18_of_31 : decode cX18_of 31 = .ok (.getfield 26, 3) := dk_180 0 26 (dk_at dksX18_of_1 7 rfl rfl)
theorem dX18_of_34 : decode cX18_of 34 = .ok (.ifCond .ne 52, 3) := dk_154 0 52 (dk_at dksX18_of_1 10 rfl rfl)
theorem dX18_of_37 : decode cX18_of 37 = .ok (.aload_n 0, 1) := dk_42 (dk_at dksX18_of_1 13 rfl rfl)
theorem dX18_of_38 : decode cX18_of 38 = .ok (.getfield 13, 3) := dk_180 0 13 (dk_at dksX18_of_1 14 rfl rfl)
theorem dX18_of_41 : decode cX18_of 41 = .ok (.bipush 60, 2) := dk_16 60 (dk_at dksX18_of_1 17 rfl rfl)
theorem dX18_of_43 : decode cX18_of 43 = .ok (.if_icmp .ne 13, 3) := dk_160 0 13 (dk_at dksX18_of_1 19 rfl rfl)
theorem dX18_of_46 : decode cX18_of 46 = .ok (.lload_n 2, 1) := dk_32 (dk_at dksX18_of_1 22 rfl rfl)
theorem dX18_of_47 : decode cX18_of 47 = .ok (.lload 4, 2) := dk_22 4 (dk_at dksX18_of_2 0 rfl rfl)
theorem dX18_of_49 : decode cX18_of 49 = .ok (.lcmp, 1) := dk_148 (dk_at dksX18_of_2 2 rfl rfl)
theorem dX18_of_50 : decode cX18_of 50 = .ok (.ifCond .ge 36, 3) := dk_156 0 36 (dk_at dksX18_of_2 3 rfl rfl)
theorem dX18_of_53 : decode cX18_of 53 = .ok (.goto 29, 3) := dk_167 0 29 (dk_at dksX18_of_2 6 rfl rfl)
theorem dX18_of_56 : decode cX18_of 56 = .ok (.aload_n 0, 1) := dk_42 (dk_at dksX18_of_2 9 rfl rfl)
theorem dX18_of_57 : decode cX18_of 57 = .ok (.getfield 13, 3) := dk_180 0 13 (dk_at dksX18_of_2 10 rfl rfl)
theorem dX18_of_60 : decode cX18_of 60 = .ok (.bipush 62, 2) := dk_16 62 (dk_at dksX18_of_2 13 rfl rfl)
theorem dX18_of_62 : decode cX18_of 62 = .ok (.if_icmp .ne 13, 3) := dk_160 0 13 (dk_at dksX18_of_2 15 rfl rfl)
theorem dX18_of_65 : decode cX18_of 65 = .ok (.lload_n 2, 1) := dk_32 (dk_at dksX18_of_2 18 rfl rfl)
theorem dX18_of_66 : decode cX18_of 66 = .ok (.lload 4, 2) := dk_22 4 (dk_at dksX18_of_2 19 rfl rfl)
theorem dX18_of_68 : decode cX18_of 68 = .ok (.lcmp, 1) := dk_148 (dk_at dksX18_of_2 21 rfl rfl)
theorem dX18_of_69 : decode cX18_of 69 = .ok (.ifCond .le 17, 3) := dk_158 0 17 (dk_at dksX18_of_3 0 rfl rfl)
theorem dX18_of_72 : decode cX18_of 72 = .ok (.goto 10, 3) := dk_167 0 10 (dk_at dksX18_of_3 3 rfl rfl)
theorem dX18_of_75 : decode cX18_of 75 = .ok (.lload_n 2, 1) := dk_32 (dk_at dksX18_of_3 6 rfl rfl)
theorem dX18_of_76 : decode cX18_of 76 = .ok (.lload 4, 2) := dk_22 4 (dk_at dksX18_of_3 7 rfl rfl)
theorem dX18_of_78 : decode cX18_of 78 = .ok (.lcmp, 1) := dk_148 (dk_at dksX18_of_3 9 rfl rfl)
theorem dX18_of_79 : decode cX18_of 79 = .ok (.ifCond .ne 7, 3) := dk_154 0 7 (dk_at dksX18_of_3 10 rfl rfl)
theorem dX18_of_82 : decode cX18_of 82 = .ok (.iconst 1, 1) := dk_4 (dk_at dksX18_of_3 13 rfl rfl)
theorem dX18_of_83 : decode cX18_of 83 = .ok (.goto 4, 3) := dk_167 0 4 (dk_at dksX18_of_3 14 rfl rfl)
theorem dX18_of_86 : decode cX18_of 86 = .ok (.iconst 0, 1) := dk_3 (dk_at dksX18_of_3 17 rfl rfl)
theorem dX18_of_87 : decode cX18_of 87 = .ok (.ireturn, 1) := dk_172 (dk_at dksX18_of_3 18 rfl rfl)
theorem q131 : (Jvm.Cond.initialized "BrothFlasks$Compared") ∈ lw_all := lw_g (lw_at lw_m1 27 rfl) rfl
theorem q267 : (Jvm.Cond.fieldLink "BrothFlasks$Compared" (26 : Nat) "BrothFlasks$Case" "isBroken" "Z") ∈ lw_all := lw_g (lw_at lw_m1 163 rfl) rfl
theorem q1071 : (Jvm.Cond.instantiable "BrothFlasks$Compared" (3 : Nat)) ∈ lw_all := lw_g (lw_at lw_m5 7 rfl) rfl
theorem q1073 : (Jvm.Cond.instanceMethod ({ cls := "BrothFlasks$Compared", name := "<init>", desc := "(LBrothFlasks$Sum;ILBrothFlasks$Sum;)V" } : Jvm.MethodName)) ∈ lw_all := lw_g (lw_at lw_m5 9 rfl) rfl
theorem q1074 : (Jvm.Cond.code ({ cls := "BrothFlasks$Compared", name := "<init>", desc := "(LBrothFlasks$Sum;ILBrothFlasks$Sum;)V" } : Jvm.MethodName) prog_7_method_1_code (4 : Nat) (Option.none : Option Jvm.ClassFile.FieldType)) ∈ lw_all := lw_g (lw_at lw_m5 10 rfl) rfl
theorem q1075 : (Jvm.Cond.methodLinkNest "BrothFlasks$Compared" (1 : Nat) ({ cls := "BrothFlasks$Test", name := "<init>", desc := "()V" } : Jvm.MethodName) "BrothFlasks") ∈ lw_tbl := lw_at lw_m5 11 rfl
theorem q1076 : (Jvm.Cond.fieldLink "BrothFlasks$Compared" (7 : Nat) "BrothFlasks$Compared" "one" "LBrothFlasks$Sum;") ∈ lw_all := lw_g (lw_at lw_m5 12 rfl) rfl
theorem q1077 : (Jvm.Cond.fieldLink "BrothFlasks$Compared" (17 : Nat) "BrothFlasks$Compared" "other" "LBrothFlasks$Sum;") ∈ lw_all := lw_g (lw_at lw_m5 13 rfl) rfl
theorem q1078 : (Jvm.Cond.fieldLink "BrothFlasks$Compared" (13 : Nat) "BrothFlasks$Compared" "sign" "I") ∈ lw_all := lw_g (lw_at lw_m5 14 rfl) rfl
theorem q1079 : (Jvm.Cond.laysFinal "BrothFlasks$Compared" "BrothFlasks$Compared" "one" "LBrothFlasks$Sum;") ∈ lw_all := lw_g (lw_at lw_m5 15 rfl) rfl
theorem q1080 : (Jvm.Cond.soleField "BrothFlasks$Compared" "one") ∈ lw_all := lw_g (lw_at lw_m5 16 rfl) rfl
theorem q1081 : (Jvm.Cond.laysFinal "BrothFlasks$Compared" "BrothFlasks$Compared" "other" "LBrothFlasks$Sum;") ∈ lw_all := lw_g (lw_at lw_m5 17 rfl) rfl
theorem q1082 : (Jvm.Cond.soleField "BrothFlasks$Compared" "other") ∈ lw_all := lw_g (lw_at lw_m5 18 rfl) rfl
theorem q1083 : (Jvm.Cond.laysFinal "BrothFlasks$Compared" "BrothFlasks$Compared" "sign" "I") ∈ lw_all := lw_g (lw_at lw_m5 19 rfl) rfl
theorem q1084 : (Jvm.Cond.soleField "BrothFlasks$Compared" "sign") ∈ lw_all := lw_g (lw_at lw_m5 20 rfl) rfl
theorem q1085 : (Jvm.Cond.superclass "BrothFlasks$Compared" "BrothFlasks$Test") ∈ lw_all := lw_g (lw_at lw_m5 21 rfl) rfl
theorem q1180 : (Jvm.Cond.selects "BrothFlasks$Compared" ({ cls := "BrothFlasks$Test", name := "of", desc := "(LBrothFlasks$Case;)Z" } : Jvm.MethodName) ({ cls := "BrothFlasks$Compared", name := "of", desc := "(LBrothFlasks$Case;)Z" } : Jvm.MethodName)) ∈ lw_all := lw_g (lw_at lw_m5 116 rfl) rfl
theorem q1181 : (Jvm.Cond.instanceMethod ({ cls := "BrothFlasks$Compared", name := "of", desc := "(LBrothFlasks$Case;)Z" } : Jvm.MethodName)) ∈ lw_all := lw_g (lw_at lw_m5 117 rfl) rfl
theorem q1182 : (Jvm.Cond.code ({ cls := "BrothFlasks$Compared", name := "of", desc := "(LBrothFlasks$Case;)Z" } : Jvm.MethodName) prog_7_method_2_code (6 : Nat) (Option.some Jvm.ClassFile.FieldType.boolean)) ∈ lw_all := lw_g (lw_at lw_m5 118 rfl) rfl
theorem q1183 : (Jvm.Cond.methodLink "BrothFlasks$Compared" (20 : Nat) ({ cls := "BrothFlasks$Sum", name := "of", desc := "(LBrothFlasks$Case;)J" } : Jvm.MethodName)) ∈ lw_all := lw_g (lw_at lw_m5 119 rfl) rfl
theorem q2064 : (Jvm.Cond.castable "BrothFlasks$Compared" "BrothFlasks$Test") ∈ lw_tbl := lw_at lw_m9 40 rfl
theorem in_X18 : ∀ w ∈ wsX180, w ∈ lw_all := lw_in wsX180 [1079, 1081, 1083] (by decide +kernel) (by decide +kernel)
/-! BrothFlasks$Not -/
set_option maxRecDepth 100000
def RX19 : String := "BrothFlasks$Not"
def TX19 : u_T := fun k => match k with
  | _ => ("BrothFlasks$Not", "test", "LBrothFlasks$Test;", true)
def tyX19 : Nat → FieldType := fun k => match k with
  | _ => .object "BrothFlasks$Test"
abbrev wsX190 : List Cond := u_ws RX19 TX19 1
theorem nmX19 : ∀ a, a < 1 → ∀ b, b < 1 → a ≠ b → (TX19 a).2.1 ≠ (TX19 b).2.1 := by decide +kernel
theorem tyX19_ok : ∀ k, k < 1 → parseFieldDescriptor (TX19 k).2.2.1 = some (tyX19 k) := by decide +kernel
abbrev cX19_init : ByteArray := prog_13_method_1_code
def yX19_init : MethodName := ⟨RX19, "<init>", "(LBrothFlasks$Test;)V"⟩
def dkwX19_init_0 : List UInt8 := [42, 183, 0, 1, 42, 43, 181, 0, 7, 177]
abbrev dktX19_init_0 : List UInt8 := dkwX19_init_0 ++ []
theorem dksX19_init_0 : cX19_init.data.toList.drop 0 = dktX19_init_0 := by decide +kernel
theorem dX19_init_0 : decode cX19_init 0 = .ok (.aload_n 0, 1) := dk_42 (dk_at dksX19_init_0 0 rfl rfl)
theorem dX19_init_1 : decode cX19_init 1 = .ok (.invokespecial 1, 3) := dk_183 0 1 (dk_at dksX19_init_0 1 rfl rfl)
theorem dX19_init_4 : decode cX19_init 4 = .ok (.aload_n 0, 1) := dk_42 (dk_at dksX19_init_0 4 rfl rfl)
theorem dX19_init_5 : decode cX19_init 5 = .ok (.aload_n 1, 1) := dk_43 (dk_at dksX19_init_0 5 rfl rfl)
theorem dX19_init_6 : decode cX19_init 6 = .ok (.putfield 7, 3) := dk_181 0 7 (dk_at dksX19_init_0 6 rfl rfl)
theorem dX19_init_9 : decode cX19_init 9 = .ok (.return_, 1) := dk_177 (dk_at dksX19_init_0 9 rfl rfl)
abbrev cX19_of : ByteArray := prog_13_method_2_code
def yX19_of : MethodName := ⟨RX19, "of", "(LBrothFlasks$Case;)Z"⟩
def dkwX19_of_0 : List UInt8 := [42, 180, 0, 7, 43, 182, 0, 13, 154, 0, 14, 43, 180, 0, 17, 154, 0, 7, 4, 167, 0, 4, 3, 172]
abbrev dktX19_of_0 : List UInt8 := dkwX19_of_0 ++ []
theorem dksX19_of_0 : cX19_of.data.toList.drop 0 = dktX19_of_0 := by decide +kernel
theorem dX19_of_0 : decode cX19_of 0 = .ok (.aload_n 0, 1) := dk_42 (dk_at dksX19_of_0 0 rfl rfl)
theorem dX19_of_1 : decode cX19_of 1 = .ok (.getfield 7, 3) := dk_180 0 7 (dk_at dksX19_of_0 1 rfl rfl)
theorem dX19_of_4 : decode cX19_of 4 = .ok (.aload_n 1, 1) := dk_43 (dk_at dksX19_of_0 4 rfl rfl)
theorem dX19_of_5 : decode cX19_of 5 = .ok (.invokevirtual 13, 3) := dk_182 0 13 (dk_at dksX19_of_0 5 rfl rfl)
theorem dX19_of_8 : decode cX19_of 8 = .ok (.ifCond .ne 14, 3) := dk_154 0 14 (dk_at dksX19_of_0 8 rfl rfl)
theorem dX19_of_11 : decode cX19_of 11 = .ok (.aload_n 1, 1) := dk_43 (dk_at dksX19_of_0 11 rfl rfl)
theorem dX19_of_12 : decode cX19_of 12 = .ok (.getfield 17, 3) := dk_180 0 17 (dk_at dksX19_of_0 12 rfl rfl)
theorem dX19_of_15 : decode cX19_of 15 = .ok (.ifCond .ne 7, 3) := dk_154 0 7 (dk_at dksX19_of_0 15 rfl rfl)
theorem dX19_of_18 : decode cX19_of 18 = .ok (.iconst 1, 1) := dk_4 (dk_at dksX19_of_0 18 rfl rfl)
theorem dX19_of_19 : decode cX19_of 19 = .ok (.goto 4, 3) := dk_167 0 4 (dk_at dksX19_of_0 19 rfl rfl)
theorem dX19_of_22 : decode cX19_of 22 = .ok (.iconst 0, 1) := dk_3 (dk_at dksX19_of_0 22 rfl rfl)
theorem dX19_of_23 : decode cX19_of 23 = .ok (.ireturn, 1) := dk_172 (dk_at dksX19_of_0 23 rfl rfl)
theorem q132 : (Jvm.Cond.initialized "BrothFlasks$Not") ∈ lw_all := lw_g (lw_at lw_m1 28 rfl) rfl
theorem q268 : (Jvm.Cond.fieldLink "BrothFlasks$Not" (17 : Nat) "BrothFlasks$Case" "isBroken" "Z") ∈ lw_all := lw_g (lw_at lw_m1 164 rfl) rfl
theorem q1087 : (Jvm.Cond.instantiable "BrothFlasks$Not" (1 : Nat)) ∈ lw_all := lw_g (lw_at lw_m5 23 rfl) rfl
theorem q1089 : (Jvm.Cond.instanceMethod ({ cls := "BrothFlasks$Not", name := "<init>", desc := "(LBrothFlasks$Test;)V" } : Jvm.MethodName)) ∈ lw_all := lw_g (lw_at lw_m5 25 rfl) rfl
theorem q1090 : (Jvm.Cond.code ({ cls := "BrothFlasks$Not", name := "<init>", desc := "(LBrothFlasks$Test;)V" } : Jvm.MethodName) prog_13_method_1_code (2 : Nat) (Option.none : Option Jvm.ClassFile.FieldType)) ∈ lw_all := lw_g (lw_at lw_m5 26 rfl) rfl
theorem q1091 : (Jvm.Cond.methodLinkNest "BrothFlasks$Not" (1 : Nat) ({ cls := "BrothFlasks$Test", name := "<init>", desc := "()V" } : Jvm.MethodName) "BrothFlasks") ∈ lw_tbl := lw_at lw_m5 27 rfl
theorem q1092 : (Jvm.Cond.fieldLink "BrothFlasks$Not" (7 : Nat) "BrothFlasks$Not" "test" "LBrothFlasks$Test;") ∈ lw_all := lw_g (lw_at lw_m5 28 rfl) rfl
theorem q1093 : (Jvm.Cond.laysFinal "BrothFlasks$Not" "BrothFlasks$Not" "test" "LBrothFlasks$Test;") ∈ lw_all := lw_g (lw_at lw_m5 29 rfl) rfl
theorem q1094 : (Jvm.Cond.soleField "BrothFlasks$Not" "test") ∈ lw_all := lw_g (lw_at lw_m5 30 rfl) rfl
theorem q1095 : (Jvm.Cond.superclass "BrothFlasks$Not" "BrothFlasks$Test") ∈ lw_all := lw_g (lw_at lw_m5 31 rfl) rfl
theorem q1213 : (Jvm.Cond.selects "BrothFlasks$Not" ({ cls := "BrothFlasks$Test", name := "of", desc := "(LBrothFlasks$Case;)Z" } : Jvm.MethodName) ({ cls := "BrothFlasks$Not", name := "of", desc := "(LBrothFlasks$Case;)Z" } : Jvm.MethodName)) ∈ lw_all := lw_g (lw_at lw_m5 149 rfl) rfl
theorem q1214 : (Jvm.Cond.instanceMethod ({ cls := "BrothFlasks$Not", name := "of", desc := "(LBrothFlasks$Case;)Z" } : Jvm.MethodName)) ∈ lw_all := lw_g (lw_at lw_m5 150 rfl) rfl
theorem q1215 : (Jvm.Cond.code ({ cls := "BrothFlasks$Not", name := "of", desc := "(LBrothFlasks$Case;)Z" } : Jvm.MethodName) prog_13_method_2_code (2 : Nat) (Option.some Jvm.ClassFile.FieldType.boolean)) ∈ lw_all := lw_g (lw_at lw_m5 151 rfl) rfl
theorem q1216 : (Jvm.Cond.methodLink "BrothFlasks$Not" (13 : Nat) ({ cls := "BrothFlasks$Test", name := "of", desc := "(LBrothFlasks$Case;)Z" } : Jvm.MethodName)) ∈ lw_all := lw_g (lw_at lw_m5 152 rfl) rfl
theorem q2065 : (Jvm.Cond.castable "BrothFlasks$Not" "BrothFlasks$Test") ∈ lw_tbl := lw_at lw_m9 41 rfl
theorem in_X19 : ∀ w ∈ wsX190, w ∈ lw_all := lw_in wsX190 [1093] (by decide +kernel) (by decide +kernel)
/-! BrothFlasks$Row -/
set_option maxRecDepth 100000
def RX20 : String := "BrothFlasks$Row"
def TX20 : u_T := fun k => match k with
  | 0 => ("BrothFlasks$Row", "all", "Z", true)
  | _ => ("BrothFlasks$Row", "tests", "[LBrothFlasks$Test;", true)
def tyX20 : Nat → FieldType := fun k => match k with
  | 0 => .boolean
  | _ => .array (.object "BrothFlasks$Test")
abbrev wsX200 : List Cond := u_ws RX20 TX20 2
theorem nmX20 : ∀ a, a < 2 → ∀ b, b < 2 → a ≠ b → (TX20 a).2.1 ≠ (TX20 b).2.1 := by decide +kernel
theorem tyX20_ok : ∀ k, k < 2 → parseFieldDescriptor (TX20 k).2.2.1 = some (tyX20 k) := by decide +kernel
abbrev cX20_init : ByteArray := prog_16_method_1_code
def yX20_init : MethodName := ⟨RX20, "<init>", "(Z[LBrothFlasks$Test;)V"⟩
def dkwX20_init_0 : List UInt8 := [42, 183, 0, 1, 42, 27, 181, 0, 7, 42, 44, 181, 0, 13, 177]
abbrev dktX20_init_0 : List UInt8 := dkwX20_init_0 ++ []
theorem dksX20_init_0 : cX20_init.data.toList.drop 0 = dktX20_init_0 := by decide +kernel
theorem dX20_init_0 : decode cX20_init 0 = .ok (.aload_n 0, 1) := dk_42 (dk_at dksX20_init_0 0 rfl rfl)
theorem dX20_init_1 : decode cX20_init 1 = .ok (.invokespecial 1, 3) := dk_183 0 1 (dk_at dksX20_init_0 1 rfl rfl)
theorem dX20_init_4 : decode cX20_init 4 = .ok (.aload_n 0, 1) := dk_42 (dk_at dksX20_init_0 4 rfl rfl)
theorem dX20_init_5 : decode cX20_init 5 = .ok (.iload_n 1, 1) := dk_27 (dk_at dksX20_init_0 5 rfl rfl)
theorem dX20_init_6 : decode cX20_init 6 = .ok (.putfield 7, 3) := dk_181 0 7 (dk_at dksX20_init_0 6 rfl rfl)
theorem dX20_init_9 : decode cX20_init 9 = .ok (.aload_n 0, 1) := dk_42 (dk_at dksX20_init_0 9 rfl rfl)
theorem dX20_init_10 : decode cX20_init 10 = .ok (.aload_n 2, 1) := dk_44 (dk_at dksX20_init_0 10 rfl rfl)
theorem dX20_init_11 : decode cX20_init 11 = .ok (.putfield 13, 3) := dk_181 0 13 (dk_at dksX20_init_0 11 rfl rfl)
theorem dX20_init_14 : decode cX20_init 14 = .ok (.return_, 1) := dk_177 (dk_at dksX20_init_0 14 rfl rfl)
abbrev cX20_of : ByteArray := prog_16_method_2_code
def yX20_of : MethodName := ⟨RX20, "of", "(LBrothFlasks$Case;)Z"⟩
def dkwX20_of_3 : List UInt8 := [180, 0, 7, 172]
abbrev dktX20_of_3 : List UInt8 := dkwX20_of_3 ++ []
def dkwX20_of_2 : List UInt8 := [159, 0, 16, 42, 180, 0, 7, 154, 0, 7, 4, 167, 0, 4, 3, 172, 132, 4, 1, 167, 255, 202, 42]
abbrev dktX20_of_2 : List UInt8 := dkwX20_of_2 ++ dktX20_of_3
def dkwX20_of_1 : List UInt8 := [25, 5, 43, 182, 0, 17, 54, 6, 43, 180, 0, 21, 153, 0, 5, 3, 172, 21, 6, 42, 180, 0, 7]
abbrev dktX20_of_1 : List UInt8 := dkwX20_of_1 ++ dktX20_of_2
def dkwX20_of_0 : List UInt8 := [42, 180, 0, 13, 77, 44, 190, 62, 3, 54, 4, 21, 4, 29, 162, 0, 54, 44, 21, 4, 50, 58, 5]
abbrev dktX20_of_0 : List UInt8 := dkwX20_of_0 ++ dktX20_of_1
theorem dksX20_of_0 : cX20_of.data.toList.drop 0 = dktX20_of_0 := by decide +kernel
theorem dksX20_of_1 : cX20_of.data.toList.drop 23 = dktX20_of_1 := dk_seg dksX20_of_0 23 rfl rfl
theorem dksX20_of_2 : cX20_of.data.toList.drop 46 = dktX20_of_2 := dk_seg dksX20_of_1 23 rfl rfl
theorem dksX20_of_3 : cX20_of.data.toList.drop 69 = dktX20_of_3 := dk_seg dksX20_of_2 23 rfl rfl
theorem dX20_of_0 : decode cX20_of 0 = .ok (.aload_n 0, 1) := dk_42 (dk_at dksX20_of_0 0 rfl rfl)
theorem dX20_of_1 : decode cX20_of 1 = .ok (.getfield 13, 3) := dk_180 0 13 (dk_at dksX20_of_0 1 rfl rfl)
theorem dX20_of_4 : decode cX20_of 4 = .ok (.astore_n 2, 1) := dk_77 (dk_at dksX20_of_0 4 rfl rfl)
theorem dX20_of_5 : decode cX20_of 5 = .ok (.aload_n 2, 1) := dk_44 (dk_at dksX20_of_0 5 rfl rfl)
theorem dX20_of_6 : decode cX20_of 6 = .ok (.arraylength, 1) := dk_190 (dk_at dksX20_of_0 6 rfl rfl)
theorem dX20_of_7 : decode cX20_of 7 = .ok (.istore_n 3, 1) := dk_62 (dk_at dksX20_of_0 7 rfl rfl)
theorem dX20_of_8 : decode cX20_of 8 = .ok (.iconst 0, 1) := dk_3 (dk_at dksX20_of_0 8 rfl rfl)
theorem dX20_of_9 : decode cX20_of 9 = .ok (.istore 4, 2) := dk_54 4 (dk_at dksX20_of_0 9 rfl rfl)
theorem dX20_of_11 : decode cX20_of 11 = .ok (.iload 4, 2) := dk_21 4 (dk_at dksX20_of_0 11 rfl rfl)
theorem dX20_of_13 : decode cX20_of 13 = .ok (.iload_n 3, 1) := dk_29 (dk_at dksX20_of_0 13 rfl rfl)
theorem dX20_of_14 : decode cX20_of 14 = .ok (.if_icmp .ge 54, 3) := dk_162 0 54 (dk_at dksX20_of_0 14 rfl rfl)
theorem dX20_of_17 : decode cX20_of 17 = .ok (.aload_n 2, 1) := dk_44 (dk_at dksX20_of_0 17 rfl rfl)
theorem dX20_of_18 : decode cX20_of 18 = .ok (.iload 4, 2) := dk_21 4 (dk_at dksX20_of_0 18 rfl rfl)
theorem dX20_of_20 : decode cX20_of 20 = .ok (.aaload, 1) := dk_50 (dk_at dksX20_of_0 20 rfl rfl)
theorem dX20_of_21 : decode cX20_of 21 = .ok (.astore 5, 2) := dk_58 5 (dk_at dksX20_of_0 21 rfl rfl)
theorem dX20_of_23 : decode cX20_of 23 = .ok (.aload 5, 2) := dk_25 5 (dk_at dksX20_of_1 0 rfl rfl)
theorem dX20_of_25 : decode cX20_of 25 = .ok (.aload_n 1, 1) := dk_43 (dk_at dksX20_of_1 2 rfl rfl)
theorem dX20_of_26 : decode cX20_of 26 = .ok (.invokevirtual 17, 3) := dk_182 0 17 (dk_at dksX20_of_1 3 rfl rfl)
theorem dX20_of_29 : decode cX20_of 29 = .ok (.istore 6, 2) := dk_54 6 (dk_at dksX20_of_1 6 rfl rfl)
theorem dX20_of_31 : decode cX20_of 31 = .ok (.aload_n 1, 1) := dk_43 (dk_at dksX20_of_1 8 rfl rfl)
theorem dX20_of_32 : decode cX20_of 32 = .ok (.getfield 21, 3) := dk_180 0 21 (dk_at dksX20_of_1 9 rfl rfl)
theorem dX20_of_35 : decode cX20_of 35 = .ok (.ifCond .eq 5, 3) := dk_153 0 5 (dk_at dksX20_of_1 12 rfl rfl)
theorem dX20_of_38 : decode cX20_of 38 = .ok (.iconst 0, 1) := dk_3 (dk_at dksX20_of_1 15 rfl rfl)
theorem dX20_of_39 : decode cX20_of 39 = .ok (.ireturn, 1) := dk_172 (dk_at dksX20_of_1 16 rfl rfl)
theorem dX20_of_40 : decode cX20_of 40 = .ok (.iload 6, 2) := dk_21 6 (dk_at dksX20_of_1 17 rfl rfl)
theorem dX20_of_42 : decode cX20_of 42 = .ok (.aload_n 0, 1) := dk_42 (dk_at dksX20_of_1 19 rfl rfl)
theorem dX20_of_43 : decode cX20_of 43 = .ok (.getfield 7, 3) := dk_180 0 7 (dk_at dksX20_of_1 20 rfl rfl)
theorem dX20_of_46 : decode cX20_of 46 = .ok (.if_icmp .eq 16, 3) := dk_159 0 16 (dk_at dksX20_of_2 0 rfl rfl)
theorem dX20_of_49 : decode cX20_of 49 = .ok (.aload_n 0, 1) := dk_42 (dk_at dksX20_of_2 3 rfl rfl)
theorem dX20_of_50 : decode cX20_of 50 = .ok (.getfield 7, 3) := dk_180 0 7 (dk_at dksX20_of_2 4 rfl rfl)
theorem dX20_of_53 : decode cX20_of 53 = .ok (.ifCond .ne 7, 3) := dk_154 0 7 (dk_at dksX20_of_2 7 rfl rfl)
theorem dX20_of_56 : decode cX20_of 56 = .ok (.iconst 1, 1) := dk_4 (dk_at dksX20_of_2 10 rfl rfl)
theorem dX20_of_57 : decode cX20_of 57 = .ok (.goto 4, 3) := dk_167 0 4 (dk_at dksX20_of_2 11 rfl rfl)
theorem dX20_of_60 : decode cX20_of 60 = .ok (.iconst 0, 1) := dk_3 (dk_at dksX20_of_2 14 rfl rfl)
theorem dX20_of_61 : decode cX20_of 61 = .ok (.ireturn, 1) := dk_172 (dk_at dksX20_of_2 15 rfl rfl)
theorem dX20_of_62 : decode cX20_of 62 = .ok (.iinc 4 1, 3) := dk_132 4 1 (dk_at dksX20_of_2 16 rfl rfl)
theorem dX20_of_65 : decode cX20_of 65 = .ok (.goto (-54), 3) := dk_167 255 202 (dk_at dksX20_of_2 19 rfl rfl)
theorem dX20_of_68 : decode cX20_of 68 = .ok (.aload_n 0, 1) := dk_42 (dk_at dksX20_of_2 22 rfl rfl)
theorem dX20_of_69 : decode cX20_of 69 = .ok (.getfield 7, 3) := dk_180 0 7 (dk_at dksX20_of_3 0 rfl rfl)
theorem dX20_of_72 : decode cX20_of 72 = .ok (.ireturn, 1) := dk_172 (dk_at dksX20_of_3 3 rfl rfl)
theorem q133 : (Jvm.Cond.initialized "BrothFlasks$Row") ∈ lw_all := lw_g (lw_at lw_m1 29 rfl) rfl
theorem q269 : (Jvm.Cond.fieldLink "BrothFlasks$Row" (21 : Nat) "BrothFlasks$Case" "isBroken" "Z") ∈ lw_all := lw_g (lw_at lw_m1 165 rfl) rfl
theorem q1107 : (Jvm.Cond.instantiable "BrothFlasks$Row" (2 : Nat)) ∈ lw_all := lw_g (lw_at lw_m5 43 rfl) rfl
theorem q1109 : (Jvm.Cond.instanceMethod ({ cls := "BrothFlasks$Row", name := "<init>", desc := "(Z[LBrothFlasks$Test;)V" } : Jvm.MethodName)) ∈ lw_all := lw_g (lw_at lw_m5 45 rfl) rfl
theorem q1110 : (Jvm.Cond.code ({ cls := "BrothFlasks$Row", name := "<init>", desc := "(Z[LBrothFlasks$Test;)V" } : Jvm.MethodName) prog_16_method_1_code (3 : Nat) (Option.none : Option Jvm.ClassFile.FieldType)) ∈ lw_all := lw_g (lw_at lw_m5 46 rfl) rfl
theorem q1111 : (Jvm.Cond.methodLinkNest "BrothFlasks$Row" (1 : Nat) ({ cls := "BrothFlasks$Test", name := "<init>", desc := "()V" } : Jvm.MethodName) "BrothFlasks") ∈ lw_tbl := lw_at lw_m5 47 rfl
theorem q1112 : (Jvm.Cond.fieldLink "BrothFlasks$Row" (7 : Nat) "BrothFlasks$Row" "all" "Z") ∈ lw_all := lw_g (lw_at lw_m5 48 rfl) rfl
theorem q1113 : (Jvm.Cond.fieldLink "BrothFlasks$Row" (13 : Nat) "BrothFlasks$Row" "tests" "[LBrothFlasks$Test;") ∈ lw_all := lw_g (lw_at lw_m5 49 rfl) rfl
theorem q1114 : (Jvm.Cond.laysFinal "BrothFlasks$Row" "BrothFlasks$Row" "all" "Z") ∈ lw_all := lw_g (lw_at lw_m5 50 rfl) rfl
theorem q1115 : (Jvm.Cond.soleField "BrothFlasks$Row" "all") ∈ lw_all := lw_g (lw_at lw_m5 51 rfl) rfl
theorem q1116 : (Jvm.Cond.laysFinal "BrothFlasks$Row" "BrothFlasks$Row" "tests" "[LBrothFlasks$Test;") ∈ lw_all := lw_g (lw_at lw_m5 52 rfl) rfl
theorem q1117 : (Jvm.Cond.soleField "BrothFlasks$Row" "tests") ∈ lw_all := lw_g (lw_at lw_m5 53 rfl) rfl
theorem q1118 : (Jvm.Cond.superclass "BrothFlasks$Row" "BrothFlasks$Test") ∈ lw_all := lw_g (lw_at lw_m5 54 rfl) rfl
theorem q1217 : (Jvm.Cond.instanceMethod ({ cls := "BrothFlasks$Row", name := "of", desc := "(LBrothFlasks$Case;)Z" } : Jvm.MethodName)) ∈ lw_all := lw_g (lw_at lw_m5 153 rfl) rfl
theorem q1218 : (Jvm.Cond.code ({ cls := "BrothFlasks$Row", name := "of", desc := "(LBrothFlasks$Case;)Z" } : Jvm.MethodName) prog_16_method_2_code (7 : Nat) (Option.some Jvm.ClassFile.FieldType.boolean)) ∈ lw_all := lw_g (lw_at lw_m5 154 rfl) rfl
theorem q1219 : (Jvm.Cond.methodLink "BrothFlasks$Row" (17 : Nat) ({ cls := "BrothFlasks$Test", name := "of", desc := "(LBrothFlasks$Case;)Z" } : Jvm.MethodName)) ∈ lw_all := lw_g (lw_at lw_m5 155 rfl) rfl
theorem q1220 : (Jvm.Cond.selects "BrothFlasks$Row" ({ cls := "BrothFlasks$Test", name := "of", desc := "(LBrothFlasks$Case;)Z" } : Jvm.MethodName) ({ cls := "BrothFlasks$Row", name := "of", desc := "(LBrothFlasks$Case;)Z" } : Jvm.MethodName)) ∈ lw_all := lw_g (lw_at lw_m5 156 rfl) rfl
theorem q2066 : (Jvm.Cond.castable "BrothFlasks$Row" "BrothFlasks$Test") ∈ lw_tbl := lw_at lw_m9 42 rfl
theorem in_X20 : ∀ w ∈ wsX200, w ∈ lw_all := lw_in wsX200 [1114, 1116] (by decide +kernel) (by decide +kernel)
/-! BrothFlasks$Clause -/
set_option maxRecDepth 100000
def RX21 : String := "BrothFlasks$Clause"
def TX21 : u_T := fun k => match k with
  | 0 => ("BrothFlasks$Clause", "head", "I", true)
  | 1 => ("BrothFlasks$Clause", "sum", "LBrothFlasks$Sum;", true)
  | 2 => ("BrothFlasks$Clause", "test", "LBrothFlasks$Test;", true)
  | _ => ("BrothFlasks$Clause", "told", "J", false)
def tyX21 : Nat → FieldType := fun k => match k with
  | 0 => .int
  | 1 => .object "BrothFlasks$Sum"
  | 2 => .object "BrothFlasks$Test"
  | _ => .long
abbrev wsX210 : List Cond := u_ws RX21 TX21 4
theorem nmX21 : ∀ a, a < 4 → ∀ b, b < 4 → a ≠ b → (TX21 a).2.1 ≠ (TX21 b).2.1 := by decide +kernel
theorem tyX21_ok : ∀ k, k < 4 → parseFieldDescriptor (TX21 k).2.2.1 = some (tyX21 k) := by decide +kernel
abbrev cX21_init : ByteArray := prog_6_method_1_code
def yX21_init : MethodName := ⟨RX21, "<init>", "(ILBrothFlasks$Sum;LBrothFlasks$Test;)V"⟩
def dkwX21_init_0 : List UInt8 := [42, 183, 0, 1, 42, 27, 181, 0, 7, 42, 44, 181, 0, 13, 42, 45, 181, 0, 17, 177]
abbrev dktX21_init_0 : List UInt8 := dkwX21_init_0 ++ []
theorem dksX21_init_0 : cX21_init.data.toList.drop 0 = dktX21_init_0 := by decide +kernel
theorem dX21_init_0 : decode cX21_init 0 = .ok (.aload_n 0, 1) := dk_42 (dk_at dksX21_init_0 0 rfl rfl)
theorem dX21_init_1 : decode cX21_init 1 = .ok (.invokespecial 1, 3) := dk_183 0 1 (dk_at dksX21_init_0 1 rfl rfl)
theorem dX21_init_4 : decode cX21_init 4 = .ok (.aload_n 0, 1) := dk_42 (dk_at dksX21_init_0 4 rfl rfl)
theorem dX21_init_5 : decode cX21_init 5 = .ok (.iload_n 1, 1) := dk_27 (dk_at dksX21_init_0 5 rfl rfl)
theorem dX21_init_6 : decode cX21_init 6 = .ok (.putfield 7, 3) := dk_181 0 7 (dk_at dksX21_init_0 6 rfl rfl)
theorem dX21_init_9 : decode cX21_init 9 = .ok (.aload_n 0, 1) := dk_42 (dk_at dksX21_init_0 9 rfl rfl)
theorem dX21_init_10 : decode cX21_init 10 = .ok (.aload_n 2, 1) := dk_44 (dk_at dksX21_init_0 10 rfl rfl)
theorem dX21_init_11 : decode cX21_init 11 = .ok (.putfield 13, 3) := dk_181 0 13 (dk_at dksX21_init_0 11 rfl rfl)
theorem dX21_init_14 : decode cX21_init 14 = .ok (.aload_n 0, 1) := dk_42 (dk_at dksX21_init_0 14 rfl rfl)
theorem dX21_init_15 : decode cX21_init 15 = .ok (.aload_n 3, 1) := dk_45 (dk_at dksX21_init_0 15 rfl rfl)
theorem dX21_init_16 : decode cX21_init 16 = .ok (.putfield 17, 3) := dk_181 0 17 (dk_at dksX21_init_0 16 rfl rfl)
theorem dX21_init_19 : decode cX21_init 19 = .ok (.return_, 1) := dk_177 (dk_at dksX21_init_0 19 rfl rfl)
abbrev cX21_holds : ByteArray := prog_6_method_2_code
def yX21_holds : MethodName := ⟨RX21, "holds", "(LBrothFlasks$Case;)Z"⟩
def dkwX21_holds_2 : List UInt8 := [43, 182, 0, 33, 181, 0, 38, 43, 180, 0, 21, 154, 0, 7, 4, 167, 0, 4, 3, 172]
abbrev dktX21_holds_2 : List UInt8 := dkwX21_holds_2 ++ []
def dkwX21_holds_1 : List UInt8 := [180, 0, 21, 153, 0, 5, 3, 172, 42, 42, 180, 0, 13, 199, 0, 7, 9, 167, 0, 11, 42, 180, 0, 13]
abbrev dktX21_holds_1 : List UInt8 := dkwX21_holds_1 ++ dktX21_holds_2
def dkwX21_holds_0 : List UInt8 := [43, 3, 181, 0, 21, 42, 180, 0, 17, 198, 0, 14, 42, 180, 0, 17, 43, 182, 0, 27, 153, 0, 10, 43]
abbrev dktX21_holds_0 : List UInt8 := dkwX21_holds_0 ++ dktX21_holds_1
theorem dksX21_holds_0 : cX21_holds.data.toList.drop 0 = dktX21_holds_0 := by decide +kernel
theorem dksX21_holds_1 : cX21_holds.data.toList.drop 24 = dktX21_holds_1 := dk_seg dksX21_holds_0 24 rfl rfl
theorem dksX21_holds_2 : cX21_holds.data.toList.drop 48 = dktX21_holds_2 := dk_seg dksX21_holds_1 24 rfl rfl
theorem dX21_holds_0 : decode cX21_holds 0 = .ok (.aload_n 1, 1) := dk_43 (dk_at dksX21_holds_0 0 rfl rfl)
theorem dX21_holds_1 : decode cX21_holds 1 = .ok (.iconst 0, 1) := dk_3 (dk_at dksX21_holds_0 1 rfl rfl)
theorem dX21_holds_2 : decode cX21_holds 2 = .ok (.putfield 21, 3) := dk_181 0 21 (dk_at dksX21_holds_0 2 rfl rfl)
theorem dX21_holds_5 : decode cX21_holds 5 = .ok (.aload_n 0, 1) := dk_42 (dk_at dksX21_holds_0 5 rfl rfl)
theorem dX21_holds_6 : decode cX21_holds 6 = .ok (.getfield 17, 3) := dk_180 0 17 (dk_at dksX21_holds_0 6 rfl rfl)
theorem dX21_holds_9 : decode cX21_holds 9 = .ok (.ifnull 14, 3) := dk_198 0 14 (dk_at dksX21_holds_0 9 rfl rfl)
theorem dX21_holds_12 : decode cX21_holds 12 = .ok (.aload_n 0, 1) := dk_42 (dk_at dksX21_holds_0 12 rfl rfl)
theorem dX21_holds_13 : decode cX21_holds 13 = .ok (.getfield 17, 3) := dk_180 0 17 (dk_at dksX21_holds_0 13 rfl rfl)
theorem dX21_holds_16 : decode cX21_holds 16 = .ok (.aload_n 1, 1) := dk_43 (dk_at dksX21_holds_0 16 rfl rfl)
theorem dX21_holds_17 : decode cX21_holds 17 = .ok (.invokevirtual 27, 3) := dk_182 0 27 (dk_at dksX21_holds_0 17 rfl rfl)
theorem dX21_holds_20 : decode cX21_holds 20 = .ok (.ifCond .eq 10, 3) := dk_153 0 10 (dk_at dksX21_holds_0 20 rfl rfl)
theorem dX21_holds_23 : decode cX21_holds 23 = .ok (.aload_n 1, 1) := dk_43 (dk_at dksX21_holds_0 23 rfl rfl)
theorem dX21_holds_24 : decode cX21_holds 24 = .ok (.getfield 21, 3) := dk_180 0 21 (dk_at dksX21_holds_1 0 rfl rfl)
theorem dX21_holds_27 : decode cX21_holds 27 = .ok (.ifCond .eq 5, 3) := dk_153 0 5 (dk_at dksX21_holds_1 3 rfl rfl)
theorem dX21_holds_30 : decode cX21_holds 30 = .ok (.iconst 0, 1) := dk_3 (dk_at dksX21_holds_1 6 rfl rfl)
theorem dX21_holds_31 : decode cX21_holds 31 = .ok (.ireturn, 1) := dk_172 (dk_at dksX21_holds_1 7 rfl rfl)
theorem dX21_holds_32 : decode cX21_holds 32 = .ok (.aload_n 0, 1) := dk_42 (dk_at dksX21_holds_1 8 rfl rfl)
theorem dX21_holds_33 : decode cX21_holds 33 = .ok (.aload_n 0, 1) := dk_42 (dk_at dksX21_holds_1 9 rfl rfl)
theorem dX21_holds_34 : decode cX21_holds 34 = .ok (.getfield 13, 3) := dk_180 0 13 (dk_at dksX21_holds_1 10 rfl rfl)
theorem dX21_holds_37 : decode cX21_holds 37 = .ok (.ifnonnull 7, 3) := dk_199 0 7 (dk_at dksX21_holds_1 13 rfl rfl)
theorem dX21_holds_40 : decode cX21_holds 40 = .ok (.lconst 0, 1) := dk_9 (dk_at dksX21_holds_1 16 rfl rfl)
theorem dX21_holds_41 : decode cX21_holds 41 = .ok (.goto 11, 3) := dk_167 0 11 (dk_at dksX21_holds_1 17 rfl rfl)
theorem dX21_holds_44 : decode cX21_holds 44 = .ok (.aload_n 0, 1) := dk_42 (dk_at dksX21_holds_1 20 rfl rfl)
theorem dX21_holds_45 : decode cX21_holds 45 = .ok (.getfield 13, 3) := dk_180 0 13 (dk_at dksX21_holds_1 21 rfl rfl)
theorem dX21_holds_48 : decode cX21_holds 48 = .ok (.aload_n 1, 1) := dk_43 (dk_at dksX21_holds_2 0 rfl rfl)
theorem dX21_holds_49 : decode cX21_holds 49 = .ok (.invokevirtual 33, 3) := dk_182 0 33 (dk_at dksX21_holds_2 1 rfl rfl)
theorem dX21_holds_52 : decode cX21_holds 52 = .ok (.putfield 38, 3) := dk_181 0 38 (dk_at dksX21_holds_2 4 rfl rfl)
theorem dX21_holds_55 : decode cX21_holds 55 = .ok (.aload_n 1, 1) := dk_43 (dk_at dksX21_holds_2 7 rfl rfl)
theorem dX21_holds_56 : decode cX21_holds 56 = .ok (.getfield 21, 3) := dk_180 0 21 (dk_at dksX21_holds_2 8 rfl rfl)
theorem dX21_holds_59 : decode cX21_holds 59 = .ok (.ifCond .ne 7, 3) := dk_154 0 7 (dk_at dksX21_holds_2 11 rfl rfl)
theorem dX21_holds_62 : decode cX21_holds 62 = .ok (.iconst 1, 1) := dk_4 (dk_at dksX21_holds_2 14 rfl rfl)
theorem dX21_holds_63 : decode cX21_holds 63 = .ok (.goto 4, 3) := dk_167 0 4 (dk_at dksX21_holds_2 15 rfl rfl)
theorem dX21_holds_66 : decode cX21_holds 66 = .ok (.iconst 0, 1) := dk_3 (dk_at dksX21_holds_2 18 rfl rfl)
theorem dX21_holds_67 : decode cX21_holds 67 = .ok (.ireturn, 1) := dk_172 (dk_at dksX21_holds_2 19 rfl rfl)
theorem q134 : (Jvm.Cond.initialized "BrothFlasks$Clause") ∈ lw_all := lw_g (lw_at lw_m1 30 rfl) rfl
theorem q265 : (Jvm.Cond.fieldLink "BrothFlasks$Clause" (21 : Nat) "BrothFlasks$Case" "isBroken" "Z") ∈ lw_all := lw_g (lw_at lw_m1 161 rfl) rfl
theorem q1120 : (Jvm.Cond.instantiable "BrothFlasks$Clause" (4 : Nat)) ∈ lw_all := lw_g (lw_at lw_m5 56 rfl) rfl
theorem q1122 : (Jvm.Cond.instanceMethod ({ cls := "BrothFlasks$Clause", name := "<init>", desc := "(ILBrothFlasks$Sum;LBrothFlasks$Test;)V" } : Jvm.MethodName)) ∈ lw_all := lw_g (lw_at lw_m5 58 rfl) rfl
theorem q1123 : (Jvm.Cond.code ({ cls := "BrothFlasks$Clause", name := "<init>", desc := "(ILBrothFlasks$Sum;LBrothFlasks$Test;)V" } : Jvm.MethodName) prog_6_method_1_code (4 : Nat) (Option.none : Option Jvm.ClassFile.FieldType)) ∈ lw_all := lw_g (lw_at lw_m5 59 rfl) rfl
theorem q1124 : (Jvm.Cond.methodLink "BrothFlasks$Clause" (1 : Nat) ({ cls := "java/lang/Object", name := "<init>", desc := "()V" } : Jvm.MethodName)) ∈ lw_all := lw_g (lw_at lw_m5 60 rfl) rfl
theorem q1125 : (Jvm.Cond.fieldLink "BrothFlasks$Clause" (7 : Nat) "BrothFlasks$Clause" "head" "I") ∈ lw_all := lw_g (lw_at lw_m5 61 rfl) rfl
theorem q1128 : (Jvm.Cond.fieldLink "BrothFlasks$Clause" (13 : Nat) "BrothFlasks$Clause" "sum" "LBrothFlasks$Sum;") ∈ lw_all := lw_g (lw_at lw_m5 64 rfl) rfl
theorem q1129 : (Jvm.Cond.fieldLink "BrothFlasks$Clause" (17 : Nat) "BrothFlasks$Clause" "test" "LBrothFlasks$Test;") ∈ lw_all := lw_g (lw_at lw_m5 65 rfl) rfl
theorem q1130 : (Jvm.Cond.fieldLink "BrothFlasks$Clause" (38 : Nat) "BrothFlasks$Clause" "told" "J") ∈ lw_all := lw_g (lw_at lw_m5 66 rfl) rfl
theorem q1132 : (Jvm.Cond.laysFinal "BrothFlasks$Clause" "BrothFlasks$Clause" "head" "I") ∈ lw_all := lw_g (lw_at lw_m5 68 rfl) rfl
theorem q1133 : (Jvm.Cond.soleField "BrothFlasks$Clause" "head") ∈ lw_all := lw_g (lw_at lw_m5 69 rfl) rfl
theorem q1134 : (Jvm.Cond.laysFinal "BrothFlasks$Clause" "BrothFlasks$Clause" "sum" "LBrothFlasks$Sum;") ∈ lw_all := lw_g (lw_at lw_m5 70 rfl) rfl
theorem q1135 : (Jvm.Cond.soleField "BrothFlasks$Clause" "sum") ∈ lw_all := lw_g (lw_at lw_m5 71 rfl) rfl
theorem q1136 : (Jvm.Cond.laysFinal "BrothFlasks$Clause" "BrothFlasks$Clause" "test" "LBrothFlasks$Test;") ∈ lw_all := lw_g (lw_at lw_m5 72 rfl) rfl
theorem q1137 : (Jvm.Cond.soleField "BrothFlasks$Clause" "test") ∈ lw_all := lw_g (lw_at lw_m5 73 rfl) rfl
theorem q1138 : (Jvm.Cond.lays "BrothFlasks$Clause" "BrothFlasks$Clause" "told" "J") ∈ lw_all := lw_g (lw_at lw_m5 74 rfl) rfl
theorem q1139 : (Jvm.Cond.soleField "BrothFlasks$Clause" "told") ∈ lw_all := lw_g (lw_at lw_m5 75 rfl) rfl
theorem q1140 : (Jvm.Cond.superclass "BrothFlasks$Clause" "java/lang/Object") ∈ lw_all := lw_g (lw_at lw_m5 76 rfl) rfl
theorem q1174 : (Jvm.Cond.instanceMethod ({ cls := "BrothFlasks$Clause", name := "holds", desc := "(LBrothFlasks$Case;)Z" } : Jvm.MethodName)) ∈ lw_all := lw_g (lw_at lw_m5 110 rfl) rfl
theorem q1175 : (Jvm.Cond.selects "BrothFlasks$Clause" ({ cls := "BrothFlasks$Clause", name := "holds", desc := "(LBrothFlasks$Case;)Z" } : Jvm.MethodName) ({ cls := "BrothFlasks$Clause", name := "holds", desc := "(LBrothFlasks$Case;)Z" } : Jvm.MethodName)) ∈ lw_all := lw_g (lw_at lw_m5 111 rfl) rfl
theorem q1176 : (Jvm.Cond.code ({ cls := "BrothFlasks$Clause", name := "holds", desc := "(LBrothFlasks$Case;)Z" } : Jvm.MethodName) prog_6_method_2_code (2 : Nat) (Option.some Jvm.ClassFile.FieldType.boolean)) ∈ lw_all := lw_g (lw_at lw_m5 112 rfl) rfl
theorem q1177 : (Jvm.Cond.methodLink "BrothFlasks$Clause" (27 : Nat) ({ cls := "BrothFlasks$Test", name := "of", desc := "(LBrothFlasks$Case;)Z" } : Jvm.MethodName)) ∈ lw_all := lw_g (lw_at lw_m5 113 rfl) rfl
theorem q1221 : (Jvm.Cond.methodLink "BrothFlasks$Clause" (33 : Nat) ({ cls := "BrothFlasks$Sum", name := "of", desc := "(LBrothFlasks$Case;)J" } : Jvm.MethodName)) ∈ lw_all := lw_g (lw_at lw_m5 157 rfl) rfl
theorem in_X21 : ∀ w ∈ wsX210, w ∈ lw_all := lw_in wsX210 [1132, 1134, 1136, 1138] (by decide +kernel) (by decide +kernel)
/-! BrothFlasks$Text -/
set_option maxRecDepth 100000
def RX22 : String := "BrothFlasks$Text"
def TX22 : u_T := fun k => match k with
  | _ => ("BrothFlasks$Text", "clauses", "[LBrothFlasks$Clause;", true)
def tyX22 : Nat → FieldType := fun k => match k with
  | _ => .array (.object "BrothFlasks$Clause")
abbrev wsX220 : List Cond := u_ws RX22 TX22 1
theorem nmX22 : ∀ a, a < 1 → ∀ b, b < 1 → a ≠ b → (TX22 a).2.1 ≠ (TX22 b).2.1 := by decide +kernel
theorem tyX22_ok : ∀ k, k < 1 → parseFieldDescriptor (TX22 k).2.2.1 = some (tyX22 k) := by decide +kernel
abbrev cX22_init : ByteArray := prog_21_method_1_code
def yX22_init : MethodName := ⟨RX22, "<init>", "([LBrothFlasks$Clause;)V"⟩
def dkwX22_init_0 : List UInt8 := [42, 183, 0, 3, 42, 43, 181, 0, 9, 177]
abbrev dktX22_init_0 : List UInt8 := dkwX22_init_0 ++ []
theorem dksX22_init_0 : cX22_init.data.toList.drop 0 = dktX22_init_0 := by decide +kernel
theorem dX22_init_0 : decode cX22_init 0 = .ok (.aload_n 0, 1) := dk_42 (dk_at dksX22_init_0 0 rfl rfl)
theorem dX22_init_1 : decode cX22_init 1 = .ok (.invokespecial 3, 3) := dk_183 0 3 (dk_at dksX22_init_0 1 rfl rfl)
theorem dX22_init_4 : decode cX22_init 4 = .ok (.aload_n 0, 1) := dk_42 (dk_at dksX22_init_0 4 rfl rfl)
theorem dX22_init_5 : decode cX22_init 5 = .ok (.aload_n 1, 1) := dk_43 (dk_at dksX22_init_0 5 rfl rfl)
theorem dX22_init_6 : decode cX22_init 6 = .ok (.putfield 9, 3) := dk_181 0 9 (dk_at dksX22_init_0 6 rfl rfl)
theorem dX22_init_9 : decode cX22_init 9 = .ok (.return_, 1) := dk_177 (dk_at dksX22_init_0 9 rfl rfl)
abbrev cX22_oddsOf : ByteArray := prog_21_method_3_code
def yX22_oddsOf : MethodName := ⟨RX22, "oddsOf", "(LBrothFlasks$Look;)I"⟩
def dkwX22_oddsOf_0 : List UInt8 := [43, 180, 0, 40, 153, 0, 11, 42, 43, 182, 0, 46, 167, 0, 11, 16, 100, 42, 43, 182, 0, 46, 100, 172]
abbrev dktX22_oddsOf_0 : List UInt8 := dkwX22_oddsOf_0 ++ []
theorem dksX22_oddsOf_0 : cX22_oddsOf.data.toList.drop 0 = dktX22_oddsOf_0 := by decide +kernel
theorem dX22_oddsOf_0 : decode cX22_oddsOf 0 = .ok (.aload_n 1, 1) := dk_43 (dk_at dksX22_oddsOf_0 0 rfl rfl)
theorem dX22_oddsOf_1 : decode cX22_oddsOf 1 = .ok (.getfield 40, 3) := dk_180 0 40 (dk_at dksX22_oddsOf_0 1 rfl rfl)
theorem dX22_oddsOf_4 : decode cX22_oddsOf 4 = .ok (.ifCond .eq 11, 3) := dk_153 0 11 (dk_at dksX22_oddsOf_0 4 rfl rfl)
theorem dX22_oddsOf_7 : decode cX22_oddsOf 7 = .ok (.aload_n 0, 1) := dk_42 (dk_at dksX22_oddsOf_0 7 rfl rfl)
theorem dX22_oddsOf_8 : decode cX22_oddsOf 8 = .ok (.aload_n 1, 1) := dk_43 (dk_at dksX22_oddsOf_0 8 rfl rfl)
theorem dX22_oddsOf_9 : decode cX22_oddsOf 9 = .ok (.invokevirtual 46, 3) := dk_182 0 46 (dk_at dksX22_oddsOf_0 9 rfl rfl)
theorem dX22_oddsOf_12 : decode cX22_oddsOf 12 = .ok (.goto 11, 3) := dk_167 0 11 (dk_at dksX22_oddsOf_0 12 rfl rfl)
theorem dX22_oddsOf_15 : decode cX22_oddsOf 15 = .ok (.bipush 100, 2) := dk_16 100 (dk_at dksX22_oddsOf_0 15 rfl rfl)
theorem dX22_oddsOf_17 : decode cX22_oddsOf 17 = .ok (.aload_n 0, 1) := dk_42 (dk_at dksX22_oddsOf_0 17 rfl rfl)
theorem dX22_oddsOf_18 : decode cX22_oddsOf 18 = .ok (.aload_n 1, 1) := dk_43 (dk_at dksX22_oddsOf_0 18 rfl rfl)
theorem dX22_oddsOf_19 : decode cX22_oddsOf 19 = .ok (.invokevirtual 46, 3) := dk_182 0 46 (dk_at dksX22_oddsOf_0 19 rfl rfl)
theorem dX22_oddsOf_22 : decode cX22_oddsOf 22 = .ok (.isub, 1) := dk_100 (dk_at dksX22_oddsOf_0 22 rfl rfl)
theorem dX22_oddsOf_23 : decode cX22_oddsOf 23 = .ok (.ireturn, 1) := dk_172 (dk_at dksX22_oddsOf_0 23 rfl rfl)
abbrev cX22_odds : ByteArray := prog_21_method_2_code
def yX22_odds : MethodName := ⟨RX22, "odds", "(LBrothFlasks$Case;)I"⟩
def dkwX22_odds_4 : List UInt8 := [184, 0, 31, 184, 0, 37, 136, 172]
abbrev dktX22_odds_4 : List UInt8 := dkwX22_odds_4 ++ []
def dkwX22_odds_3 : List UInt8 := [20, 0, 25, 167, 0, 8, 25, 7, 180, 0, 27, 65, 132, 6, 1, 167, 255, 188, 9, 20, 0, 25, 32]
abbrev dktX22_odds_3 : List UInt8 := dkwX22_odds_3 ++ dktX22_odds_4
def dkwX22_odds_2 : List UInt8 := [153, 0, 36, 25, 7, 180, 0, 15, 154, 0, 7, 9, 167, 0, 23, 25, 7, 180, 0, 15, 4, 160, 0, 9]
abbrev dktX22_odds_2 : List UInt8 := dkwX22_odds_2 ++ dktX22_odds_3
def dkwX22_odds_1 : List UInt8 := [25, 4, 21, 6, 50, 58, 7, 25, 7, 180, 0, 15, 5, 163, 0, 45, 25, 7, 43, 182, 0, 21]
abbrev dktX22_odds_1 : List UInt8 := dkwX22_odds_1 ++ dktX22_odds_2
def dkwX22_odds_0 : List UInt8 := [9, 65, 42, 180, 0, 9, 58, 4, 25, 4, 190, 54, 5, 3, 54, 6, 21, 6, 21, 5, 162, 0, 67]
abbrev dktX22_odds_0 : List UInt8 := dkwX22_odds_0 ++ dktX22_odds_1
theorem dksX22_odds_0 : cX22_odds.data.toList.drop 0 = dktX22_odds_0 := by decide +kernel
theorem dksX22_odds_1 : cX22_odds.data.toList.drop 23 = dktX22_odds_1 := dk_seg dksX22_odds_0 23 rfl rfl
theorem dksX22_odds_2 : cX22_odds.data.toList.drop 45 = dktX22_odds_2 := dk_seg dksX22_odds_1 22 rfl rfl
theorem dksX22_odds_3 : cX22_odds.data.toList.drop 69 = dktX22_odds_3 := dk_seg dksX22_odds_2 24 rfl rfl
theorem dksX22_odds_4 : cX22_odds.data.toList.drop 92 = dktX22_odds_4 := dk_seg dksX22_odds_3 23 rfl rfl
theorem dX22_odds_0 : decode cX22_odds 0 = .ok (.lconst 0, 1) := dk_9 (dk_at dksX22_odds_0 0 rfl rfl)
theorem dX22_odds_1 : decode cX22_odds 1 = .ok (.lstore_n 2, 1) := dk_65 (dk_at dksX22_odds_0 1 rfl rfl)
theorem dX22_odds_2 : decode cX22_odds 2 = .ok (.aload_n 0, 1) := dk_42 (dk_at dksX22_odds_0 2 rfl rfl)
theorem dX22_odds_3 : decode cX22_odds 3 = .ok (.getfield 9, 3) := dk_180 0 9 (dk_at dksX22_odds_0 3 rfl rfl)
theorem dX22_odds_6 : decode cX22_odds 6 = .ok (.astore 4, 2) := dk_58 4 (dk_at dksX22_odds_0 6 rfl rfl)
theorem dX22_odds_8 : decode cX22_odds 8 = .ok (.aload 4, 2) := dk_25 4 (dk_at dksX22_odds_0 8 rfl rfl)
theorem dX22_odds_10 : decode cX22_odds 10 = .ok (.arraylength, 1) := dk_190 (dk_at dksX22_odds_0 10 rfl rfl)
theorem dX22_odds_11 : decode cX22_odds 11 = .ok (.istore 5, 2) := dk_54 5 (dk_at dksX22_odds_0 11 rfl rfl)
theorem dX22_odds_13 : decode cX22_odds 13 = .ok (.iconst 0, 1) := dk_3 (dk_at dksX22_odds_0 13 rfl rfl)
theorem dX22_odds_14 : decode cX22_odds 14 = .ok (.istore 6, 2) := dk_54 6 (dk_at dksX22_odds_0 14 rfl rfl)
theorem dX22_odds_16 : decode cX22_odds 16 = .ok (.iload 6, 2) := dk_21 6 (dk_at dksX22_odds_0 16 rfl rfl)
theorem dX22_odds_18 : decode cX22_odds 18 = .ok (.iload 5, 2) := dk_21 5 (dk_at dksX22_odds_0 18 rfl rfl)
theorem dX22_odds_20 : decode cX22_odds 20 = .ok (.if_icmp .ge 67, 3) := dk_162 0 67 (dk_at dksX22_odds_0 20 rfl rfl)
theorem dX22_odds_23 : decode cX22_odds 23 = .ok (.aload 4, 2) := dk_25 4 (dk_at dksX22_odds_1 0 rfl rfl)
theorem dX22_odds_25 : decode cX22_odds 25 = .ok (.iload 6, 2) := dk_21 6 (dk_at dksX22_odds_1 2 rfl rfl)
theorem dX22_odds_27 : decode cX22_odds 27 = .ok (.aaload, 1) := dk_50 (dk_at dksX22_odds_1 4 rfl rfl)
theorem dX22_odds_28 : decode cX22_odds 28 = .ok (.astore 7, 2) := dk_58 7 (dk_at dksX22_odds_1 5 rfl rfl)
theorem dX22_odds_30 : decode cX22_odds 30 = .ok (.aload 7, 2) := dk_25 7 (dk_at dksX22_odds_1 7 rfl rfl)
theorem dX22_odds_32 : decode cX22_odds 32 = .ok (.getfield 15, 3) := dk_180 0 15 (dk_at dksX22_odds_1 9 rfl rfl)
theorem dX22_odds_35 : decode cX22_odds 35 = .ok (.iconst 2, 1) := dk_5 (dk_at dksX22_odds_1 12 rfl rfl)
theorem dX22_odds_36 : decode cX22_odds 36 = .ok (.if_icmp .gt 45, 3) := dk_163 0 45 (dk_at dksX22_odds_1 13 rfl rfl)
theorem dX22_odds_39 : decode cX22_odds 39 = .ok (.aload 7, 2) := dk_25 7 (dk_at dksX22_odds_1 16 rfl rfl)
theorem dX22_odds_41 : decode cX22_odds 41 = .ok (.aload_n 1, 1) := dk_43 (dk_at dksX22_odds_1 18 rfl rfl)
theorem dX22_odds_42 : decode cX22_odds 42 = .ok (.invokevirtual 21, 3) := dk_182 0 21 (dk_at dksX22_odds_1 19 rfl rfl)
theorem dX22_odds_45 : decode cX22_odds 45 = .ok (.ifCond .eq 36, 3) := dk_153 0 36 (dk_at dksX22_odds_2 0 rfl rfl)
theorem dX22_odds_48 : decode cX22_odds 48 = .ok (.aload 7, 2) := dk_25 7 (dk_at dksX22_odds_2 3 rfl rfl)
theorem dX22_odds_50 : decode cX22_odds 50 = .ok (.getfield 15, 3) := dk_180 0 15 (dk_at dksX22_odds_2 5 rfl rfl)
theorem dX22_odds_53 : decode cX22_odds 53 = .ok (.ifCond .ne 7, 3) := dk_154 0 7 (dk_at dksX22_odds_2 8 rfl rfl)
theorem dX22_odds_56 : decode cX22_odds 56 = .ok (.lconst 0, 1) := dk_9 (dk_at dksX22_odds_2 11 rfl rfl)
theorem dX22_odds_57 : decode cX22_odds 57 = .ok (.goto 23, 3) := dk_167 0 23 (dk_at dksX22_odds_2 12 rfl rfl)
theorem dX22_odds_60 : decode cX22_odds 60 = .ok (.aload 7, 2) := dk_25 7 (dk_at dksX22_odds_2 15 rfl rfl)
theorem dX22_odds_62 : decode cX22_odds 62 = .ok (.getfield 15, 3) := dk_180 0 15 (dk_at dksX22_odds_2 17 rfl rfl)
theorem dX22_odds_65 : decode cX22_odds 65 = .ok (.iconst 1, 1) := dk_4 (dk_at dksX22_odds_2 20 rfl rfl)
theorem dX22_odds_66 : decode cX22_odds 66 = .ok (.if_icmp .ne 9, 3) := dk_160 0 9 (dk_at dksX22_odds_2 21 rfl rfl)
theorem dX22_odds_69 : decode cX22_odds 69 = .ok (.ldc2_w 25, 3) := dk_20 0 25 (dk_at dksX22_odds_3 0 rfl rfl)
theorem dX22_odds_72 : decode cX22_odds 72 = .ok (.goto 8, 3) := dk_167 0 8 (dk_at dksX22_odds_3 3 rfl rfl)
theorem dX22_odds_75 : decode cX22_odds 75 = .ok (.aload 7, 2) := dk_25 7 (dk_at dksX22_odds_3 6 rfl rfl)
theorem dX22_odds_77 : decode cX22_odds 77 = .ok (.getfield 27, 3) := dk_180 0 27 (dk_at dksX22_odds_3 8 rfl rfl)
theorem dX22_odds_80 : decode cX22_odds 80 = .ok (.lstore_n 2, 1) := dk_65 (dk_at dksX22_odds_3 11 rfl rfl)
theorem dX22_odds_81 : decode cX22_odds 81 = .ok (.iinc 6 1, 3) := dk_132 6 1 (dk_at dksX22_odds_3 12 rfl rfl)
theorem dX22_odds_84 : decode cX22_odds 84 = .ok (.goto (-68), 3) := dk_167 255 188 (dk_at dksX22_odds_3 15 rfl rfl)
theorem dX22_odds_87 : decode cX22_odds 87 = .ok (.lconst 0, 1) := dk_9 (dk_at dksX22_odds_3 18 rfl rfl)
theorem dX22_odds_88 : decode cX22_odds 88 = .ok (.ldc2_w 25, 3) := dk_20 0 25 (dk_at dksX22_odds_3 19 rfl rfl)
theorem dX22_odds_91 : decode cX22_odds 91 = .ok (.lload_n 2, 1) := dk_32 (dk_at dksX22_odds_3 22 rfl rfl)
theorem dX22_odds_92 : decode cX22_odds 92 = .ok (.invokestatic 31, 3) := dk_184 0 31 (dk_at dksX22_odds_4 0 rfl rfl)
theorem dX22_odds_95 : decode cX22_odds 95 = .ok (.invokestatic 37, 3) := dk_184 0 37 (dk_at dksX22_odds_4 3 rfl rfl)
theorem dX22_odds_98 : decode cX22_odds 98 = .ok (.l2i, 1) := dk_136 (dk_at dksX22_odds_4 6 rfl rfl)
theorem dX22_odds_99 : decode cX22_odds 99 = .ok (.ireturn, 1) := dk_172 (dk_at dksX22_odds_4 7 rfl rfl)
abbrev cX22_isFair : ByteArray := prog_21_method_4_code
def yX22_isFair : MethodName := ⟨RX22, "isFair", "(LBrothFlasks$Case;)Z"⟩
def dkwX22_isFair_2 : List UInt8 := [153, 0, 5, 4, 172, 132, 5, 1, 167, 255, 215, 28, 154, 0, 7, 4, 167, 0, 4, 3, 172]
abbrev dktX22_isFair_2 : List UInt8 := dkwX22_isFair_2 ++ []
def dkwX22_isFair_1 : List UInt8 := [50, 58, 6, 25, 6, 180, 0, 15, 7, 159, 0, 6, 167, 0, 16, 4, 61, 25, 6, 43, 182, 0, 21]
abbrev dktX22_isFair_1 : List UInt8 := dkwX22_isFair_1 ++ dktX22_isFair_2
def dkwX22_isFair_0 : List UInt8 := [3, 61, 42, 180, 0, 9, 78, 45, 190, 54, 4, 3, 54, 5, 21, 5, 21, 4, 162, 0, 40, 45, 21, 5]
abbrev dktX22_isFair_0 : List UInt8 := dkwX22_isFair_0 ++ dktX22_isFair_1
theorem dksX22_isFair_0 : cX22_isFair.data.toList.drop 0 = dktX22_isFair_0 := by decide +kernel
theorem dksX22_isFair_1 : cX22_isFair.data.toList.drop 24 = dktX22_isFair_1 := dk_seg dksX22_isFair_0 24 rfl rfl
theorem dksX22_isFair_2 : cX22_isFair.data.toList.drop 47 = dktX22_isFair_2 := dk_seg dksX22_isFair_1 23 rfl rfl
theorem dX22_isFair_0 : decode cX22_isFair 0 = .ok (.iconst 0, 1) := dk_3 (dk_at dksX22_isFair_0 0 rfl rfl)
theorem dX22_isFair_1 : decode cX22_isFair 1 = .ok (.istore_n 2, 1) := dk_61 (dk_at dksX22_isFair_0 1 rfl rfl)
theorem dX22_isFair_2 : decode cX22_isFair 2 = .ok (.aload_n 0, 1) := dk_42 (dk_at dksX22_isFair_0 2 rfl rfl)
theorem dX22_isFair_3 : decode cX22_isFair 3 = .ok (.getfield 9, 3) := dk_180 0 9 (dk_at dksX22_isFair_0 3 rfl rfl)
theorem dX22_isFair_6 : decode cX22_isFair 6 = .ok (.astore_n 3, 1) := dk_78 (dk_at dksX22_isFair_0 6 rfl rfl)
theorem dX22_isFair_7 : decode cX22_isFair 7 = .ok (.aload_n 3, 1) := dk_45 (dk_at dksX22_isFair_0 7 rfl rfl)
theorem dX22_isFair_8 : decode cX22_isFair 8 = .ok (.arraylength, 1) := dk_190 (dk_at dksX22_isFair_0 8 rfl rfl)
theorem dX22_isFair_9 : decode cX22_isFair 9 = .ok (.istore 4, 2) := dk_54 4 (dk_at dksX22_isFair_0 9 rfl rfl)
theorem dX22_isFair_11 : decode cX22_isFair 11 = .ok (.iconst 0, 1) := dk_3 (dk_at dksX22_isFair_0 11 rfl rfl)
theorem dX22_isFair_12 : decode cX22_isFair 12 = .ok (.istore 5, 2) := dk_54 5 (dk_at dksX22_isFair_0 12 rfl rfl)
theorem dX22_isFair_14 : decode cX22_isFair 14 = .ok (.iload 5, 2) := dk_21 5 (dk_at dksX22_isFair_0 14 rfl rfl)
theorem dX22_isFair_16 : decode cX22_isFair 16 = .ok (.iload 4, 2) := dk_21 4 (dk_at dksX22_isFair_0 16 rfl rfl)
theorem dX22_isFair_18 : decode cX22_isFair 18 = .ok (.if_icmp .ge 40, 3) := dk_162 0 40 (dk_at dksX22_isFair_0 18 rfl rfl)
theorem dX22_isFair_21 : decode cX22_isFair 21 = .ok (.aload_n 3, 1) := dk_45 (dk_at dksX22_isFair_0 21 rfl rfl)
theorem dX22_isFair_22 : decode cX22_isFair 22 = .ok (.iload 5, 2) := dk_21 5 (dk_at dksX22_isFair_0 22 rfl rfl)
theorem dX22_isFair_24 : decode cX22_isFair 24 = .ok (.aaload, 1) := dk_50 (dk_at dksX22_isFair_1 0 rfl rfl)
theorem dX22_isFair_25 : decode cX22_isFair 25 = .ok (.astore 6, 2) := dk_58 6 (dk_at dksX22_isFair_1 1 rfl rfl)
theorem dX22_isFair_27 : decode cX22_isFair 27 = .ok (.aload 6, 2) := dk_25 6 (dk_at dksX22_isFair_1 3 rfl rfl)
theorem dX22_isFair_29 : decode cX22_isFair 29 = .ok (.getfield 15, 3) := dk_180 0 15 (dk_at dksX22_isFair_1 5 rfl rfl)
theorem dX22_isFair_32 : decode cX22_isFair 32 = .ok (.iconst 4, 1) := dk_7 (dk_at dksX22_isFair_1 8 rfl rfl)
theorem dX22_isFair_33 : decode cX22_isFair 33 = .ok (.if_icmp .eq 6, 3) := dk_159 0 6 (dk_at dksX22_isFair_1 9 rfl rfl)
theorem dX22_isFair_36 : decode cX22_isFair 36 = .ok (.goto 16, 3) := dk_167 0 16 (dk_at dksX22_isFair_1 12 rfl rfl)
theorem dX22_isFair_39 : decode cX22_isFair 39 = .ok (.iconst 1, 1) := dk_4 (dk_at dksX22_isFair_1 15 rfl rfl)
theorem dX22_isFair_40 : decode cX22_isFair 40 = .ok (.istore_n 2, 1) := dk_61 (dk_at dksX22_isFair_1 16 rfl rfl)
theorem dX22_isFair_41 : decode cX22_isFair 41 = .ok (.aload 6, 2) := dk_25 6 (dk_at dksX22_isFair_1 17 rfl rfl)
theorem dX22_isFair_43 : decode cX22_isFair 43 = .ok (.aload_n 1, 1) := dk_43 (dk_at dksX22_isFair_1 19 rfl rfl)
theorem dX22_isFair_44 : decode cX22_isFair 44 = .ok (.invokevirtual 21, 3) := dk_182 0 21 (dk_at dksX22_isFair_1 20 rfl rfl)
theorem dX22_isFair_47 : decode cX22_isFair 47 = .ok (.ifCond .eq 5, 3) := dk_153 0 5 (dk_at dksX22_isFair_2 0 rfl rfl)
theorem dX22_isFair_50 : decode cX22_isFair 50 = .ok (.iconst 1, 1) := dk_4 (dk_at dksX22_isFair_2 3 rfl rfl)
theorem dX22_isFair_51 : decode cX22_isFair 51 = .ok (.ireturn, 1) := dk_172 (dk_at dksX22_isFair_2 4 rfl rfl)
theorem dX22_isFair_52 : decode cX22_isFair 52 = .ok (.iinc 5 1, 3) := dk_132 5 1 (dk_at dksX22_isFair_2 5 rfl rfl)
theorem dX22_isFair_55 : decode cX22_isFair 55 = .ok (.goto (-41), 3) := dk_167 255 215 (dk_at dksX22_isFair_2 8 rfl rfl)
theorem dX22_isFair_58 : decode cX22_isFair 58 = .ok (.iload_n 2, 1) := dk_28 (dk_at dksX22_isFair_2 11 rfl rfl)
theorem dX22_isFair_59 : decode cX22_isFair 59 = .ok (.ifCond .ne 7, 3) := dk_154 0 7 (dk_at dksX22_isFair_2 12 rfl rfl)
theorem dX22_isFair_62 : decode cX22_isFair 62 = .ok (.iconst 1, 1) := dk_4 (dk_at dksX22_isFair_2 15 rfl rfl)
theorem dX22_isFair_63 : decode cX22_isFair 63 = .ok (.goto 4, 3) := dk_167 0 4 (dk_at dksX22_isFair_2 16 rfl rfl)
theorem dX22_isFair_66 : decode cX22_isFair 66 = .ok (.iconst 0, 1) := dk_3 (dk_at dksX22_isFair_2 19 rfl rfl)
theorem dX22_isFair_67 : decode cX22_isFair 67 = .ok (.ireturn, 1) := dk_172 (dk_at dksX22_isFair_2 20 rfl rfl)
abbrev cX22_mustAnswer : ByteArray := prog_21_method_5_code
def yX22_mustAnswer : MethodName := ⟨RX22, "mustAnswer", "(LBrothFlasks$Look;)Z"⟩
def dkwX22_mustAnswer_0 : List UInt8 := [42, 43, 182, 0, 50, 16, 10, 162, 0, 7, 4, 167, 0, 4, 3, 172]
abbrev dktX22_mustAnswer_0 : List UInt8 := dkwX22_mustAnswer_0 ++ []
theorem dksX22_mustAnswer_0 : cX22_mustAnswer.data.toList.drop 0 = dktX22_mustAnswer_0 := by decide +kernel
theorem dX22_mustAnswer_0 : decode cX22_mustAnswer 0 = .ok (.aload_n 0, 1) := dk_42 (dk_at dksX22_mustAnswer_0 0 rfl rfl)
theorem dX22_mustAnswer_1 : decode cX22_mustAnswer 1 = .ok (.aload_n 1, 1) := dk_43 (dk_at dksX22_mustAnswer_0 1 rfl rfl)
theorem dX22_mustAnswer_2 : decode cX22_mustAnswer 2 = .ok (.invokevirtual 50, 3) := dk_182 0 50 (dk_at dksX22_mustAnswer_0 2 rfl rfl)
theorem dX22_mustAnswer_5 : decode cX22_mustAnswer 5 = .ok (.bipush 10, 2) := dk_16 10 (dk_at dksX22_mustAnswer_0 5 rfl rfl)
theorem dX22_mustAnswer_7 : decode cX22_mustAnswer 7 = .ok (.if_icmp .ge 7, 3) := dk_162 0 7 (dk_at dksX22_mustAnswer_0 7 rfl rfl)
theorem dX22_mustAnswer_10 : decode cX22_mustAnswer 10 = .ok (.iconst 1, 1) := dk_4 (dk_at dksX22_mustAnswer_0 10 rfl rfl)
theorem dX22_mustAnswer_11 : decode cX22_mustAnswer 11 = .ok (.goto 4, 3) := dk_167 0 4 (dk_at dksX22_mustAnswer_0 11 rfl rfl)
theorem dX22_mustAnswer_14 : decode cX22_mustAnswer 14 = .ok (.iconst 0, 1) := dk_3 (dk_at dksX22_mustAnswer_0 14 rfl rfl)
theorem dX22_mustAnswer_15 : decode cX22_mustAnswer 15 = .ok (.ireturn, 1) := dk_172 (dk_at dksX22_mustAnswer_0 15 rfl rfl)
abbrev cX22_price : ByteArray := prog_21_method_6_code
def yX22_price : MethodName := ⟨RX22, "price", "(LBrothFlasks$Look;)I"⟩
def dkwX22_price_3 : List UInt8 := [21, 7, 167, 0, 9, 28, 21, 7, 184, 0, 56, 61, 132, 5, 1, 167, 255, 184, 28, 172]
abbrev dktX22_price_3 : List UInt8 := dkwX22_price_3 ++ []
def dkwX22_price_2 : List UInt8 := [9, 20, 0, 54, 25, 6, 180, 0, 27, 184, 0, 31, 184, 0, 37, 136, 54, 7, 28, 2, 160, 0, 8]
abbrev dktX22_price_2 : List UInt8 := dkwX22_price_2 ++ dktX22_price_3
def dkwX22_price_1 : List UInt8 := [50, 58, 6, 25, 6, 180, 0, 15, 6, 160, 0, 50, 25, 6, 43, 182, 0, 21, 154, 0, 6, 167, 0, 38]
abbrev dktX22_price_1 : List UInt8 := dkwX22_price_1 ++ dktX22_price_2
def dkwX22_price_0 : List UInt8 := [2, 61, 42, 180, 0, 9, 78, 45, 190, 54, 4, 3, 54, 5, 21, 5, 21, 4, 162, 0, 71, 45, 21, 5]
abbrev dktX22_price_0 : List UInt8 := dkwX22_price_0 ++ dktX22_price_1
theorem dksX22_price_0 : cX22_price.data.toList.drop 0 = dktX22_price_0 := by decide +kernel
theorem dksX22_price_1 : cX22_price.data.toList.drop 24 = dktX22_price_1 := dk_seg dksX22_price_0 24 rfl rfl
theorem dksX22_price_2 : cX22_price.data.toList.drop 48 = dktX22_price_2 := dk_seg dksX22_price_1 24 rfl rfl
theorem dksX22_price_3 : cX22_price.data.toList.drop 71 = dktX22_price_3 := dk_seg dksX22_price_2 23 rfl rfl
theorem dX22_price_0 : decode cX22_price 0 = .ok (.iconst (-1), 1) := dk_2 (dk_at dksX22_price_0 0 rfl rfl)
theorem dX22_price_1 : decode cX22_price 1 = .ok (.istore_n 2, 1) := dk_61 (dk_at dksX22_price_0 1 rfl rfl)
theorem dX22_price_2 : decode cX22_price 2 = .ok (.aload_n 0, 1) := dk_42 (dk_at dksX22_price_0 2 rfl rfl)
theorem dX22_price_3 : decode cX22_price 3 = .ok (.getfield 9, 3) := dk_180 0 9 (dk_at dksX22_price_0 3 rfl rfl)
theorem dX22_price_6 : decode cX22_price 6 = .ok (.astore_n 3, 1) := dk_78 (dk_at dksX22_price_0 6 rfl rfl)
theorem dX22_price_7 : decode cX22_price 7 = .ok (.aload_n 3, 1) := dk_45 (dk_at dksX22_price_0 7 rfl rfl)
theorem dX22_price_8 : decode cX22_price 8 = .ok (.arraylength, 1) := dk_190 (dk_at dksX22_price_0 8 rfl rfl)
theorem dX22_price_9 : decode cX22_price 9 = .ok (.istore 4, 2) := dk_54 4 (dk_at dksX22_price_0 9 rfl rfl)
theorem dX22_price_11 : decode cX22_price 11 = .ok (.iconst 0, 1) := dk_3 (dk_at dksX22_price_0 11 rfl rfl)
theorem dX22_price_12 : decode cX22_price 12 = .ok (.istore 5, 2) := dk_54 5 (dk_at dksX22_price_0 12 rfl rfl)
theorem dX22_price_14 : decode cX22_price 14 = .ok (.iload 5, 2) := dk_21 5 (dk_at dksX22_price_0 14 rfl rfl)
theorem dX22_price_16 : decode cX22_price 16 = .ok (.iload 4, 2) := dk_21 4 (dk_at dksX22_price_0 16 rfl rfl)
theorem dX22_price_18 : decode cX22_price 18 = .ok (.if_icmp .ge 71, 3) := dk_162 0 71 (dk_at dksX22_price_0 18 rfl rfl)
theorem dX22_price_21 : decode cX22_price 21 = .ok (.aload_n 3, 1) := dk_45 (dk_at dksX22_price_0 21 rfl rfl)
theorem dX22_price_22 : decode cX22_price 22 = .ok (.iload 5, 2) := dk_21 5 (dk_at dksX22_price_0 22 rfl rfl)
theorem dX22_price_24 : decode cX22_price 24 = .ok (.aaload, 1) := dk_50 (dk_at dksX22_price_1 0 rfl rfl)
theorem dX22_price_25 : decode cX22_price 25 = .ok (.astore 6, 2) := dk_58 6 (dk_at dksX22_price_1 1 rfl rfl)
theorem dX22_price_27 : decode cX22_price 27 = .ok (.aload 6, 2) := dk_25 6 (dk_at dksX22_price_1 3 rfl rfl)
theorem dX22_price_29 : decode cX22_price 29 = .ok (.getfield 15, 3) := dk_180 0 15 (dk_at dksX22_price_1 5 rfl rfl)
theorem dX22_price_32 : decode cX22_price 32 = .ok (.iconst 3, 1) := dk_6 (dk_at dksX22_price_1 8 rfl rfl)
theorem dX22_price_33 : decode cX22_price 33 = .ok (.if_icmp .ne 50, 3) := dk_160 0 50 (dk_at dksX22_price_1 9 rfl rfl)
theorem dX22_price_36 : decode cX22_price 36 = .ok (.aload 6, 2) := dk_25 6 (dk_at dksX22_price_1 12 rfl rfl)
theorem dX22_price_38 : decode cX22_price 38 = .ok (.aload_n 1, 1) := dk_43 (dk_at dksX22_price_1 14 rfl rfl)
theorem dX22_price_39 : decode cX22_price 39 = .ok (.invokevirtual 21, 3) := dk_182 0 21 (dk_at dksX22_price_1 15 rfl rfl)
theorem dX22_price_42 : decode cX22_price 42 = .ok (.ifCond .ne 6, 3) := dk_154 0 6 (dk_at dksX22_price_1 18 rfl rfl)
theorem dX22_price_45 : decode cX22_price 45 = .ok (.goto 38, 3) := dk_167 0 38 (dk_at dksX22_price_1 21 rfl rfl)
theorem dX22_price_48 : decode cX22_price 48 = .ok (.lconst 0, 1) := dk_9 (dk_at dksX22_price_2 0 rfl rfl)
theorem dX22_price_49 : decode cX22_price 49 = .ok (.ldc2_w 54, 3) := dk_20 0 54 (dk_at dksX22_price_2 1 rfl rfl)
theorem dX22_price_52 : decode cX22_price 52 = .ok (.aload 6, 2) := dk_25 6 (dk_at dksX22_price_2 4 rfl rfl)
theorem dX22_price_54 : decode cX22_price 54 = .ok (.getfield 27, 3) := dk_180 0 27 (dk_at dksX22_price_2 6 rfl rfl)
theorem dX22_price_57 : decode cX22_price 57 = .ok (.invokestatic 31, 3) := dk_184 0 31 (dk_at dksX22_price_2 9 rfl rfl)
theorem dX22_price_60 : decode cX22_price 60 = .ok (.invokestatic 37, 3) := dk_184 0 37 (dk_at dksX22_price_2 12 rfl rfl)
theorem dX22_price_63 : decode cX22_price 63 = .ok (.l2i, 1) := dk_136 (dk_at dksX22_price_2 15 rfl rfl)
theorem dX22_price_64 : decode cX22_price 64 = .ok (.istore 7, 2) := dk_54 7 (dk_at dksX22_price_2 16 rfl rfl)
theorem dX22_price_66 : decode cX22_price 66 = .ok (.iload_n 2, 1) := dk_28 (dk_at dksX22_price_2 18 rfl rfl)
theorem dX22_price_67 : decode cX22_price 67 = .ok (.iconst (-1), 1) := dk_2 (dk_at dksX22_price_2 19 rfl rfl)
theorem dX22_price_68 : decode cX22_price 68 = .ok (.if_icmp .ne 8, 3) := dk_160 0 8 (dk_at dksX22_price_2 20 rfl rfl)
theorem dX22_price_71 : decode cX22_price 71 = .ok (.iload 7, 2) := dk_21 7 (dk_at dksX22_price_3 0 rfl rfl)
theorem dX22_price_73 : decode cX22_price 73 = .ok (.goto 9, 3) := dk_167 0 9 (dk_at dksX22_price_3 2 rfl rfl)
theorem dX22_price_76 : decode cX22_price 76 = .ok (.iload_n 2, 1) := dk_28 (dk_at dksX22_price_3 5 rfl rfl)
theorem dX22_price_77 : decode cX22_price 77 = .ok (.iload 7, 2) := dk_21 7 (dk_at dksX22_price_3 6 rfl rfl)
theorem dX22_price_79 : decode cX22_price 79 = .ok (.invokestatic 56, 3) := dk_184 0 56 (dk_at dksX22_price_3 8 rfl rfl)
theorem dX22_price_82 : decode cX22_price 82 = .ok (.istore_n 2, 1) := dk_61 (dk_at dksX22_price_3 11 rfl rfl)
theorem dX22_price_83 : decode cX22_price 83 = .ok (.iinc 5 1, 3) := dk_132 5 1 (dk_at dksX22_price_3 12 rfl rfl)
theorem dX22_price_86 : decode cX22_price 86 = .ok (.goto (-72), 3) := dk_167 255 184 (dk_at dksX22_price_3 15 rfl rfl)
theorem dX22_price_89 : decode cX22_price 89 = .ok (.iload_n 2, 1) := dk_28 (dk_at dksX22_price_3 18 rfl rfl)
theorem dX22_price_90 : decode cX22_price 90 = .ok (.ireturn, 1) := dk_172 (dk_at dksX22_price_3 19 rfl rfl)
theorem q135 : (Jvm.Cond.initialized "BrothFlasks$Text") ∈ lw_all := lw_g (lw_at lw_m1 31 rfl) rfl
theorem q754 : (Jvm.Cond.fieldLinkNest "BrothFlasks$Text" (40 : Nat) "BrothFlasks$Look" "isTurned" "Z" "BrothFlasks") ∈ lw_tbl := lw_at lw_m3 170 rfl
theorem q1126 : (Jvm.Cond.fieldLinkNest "BrothFlasks$Text" (15 : Nat) "BrothFlasks$Clause" "head" "I" "BrothFlasks") ∈ lw_tbl := lw_at lw_m5 62 rfl
theorem q1131 : (Jvm.Cond.fieldLinkNest "BrothFlasks$Text" (27 : Nat) "BrothFlasks$Clause" "told" "J" "BrothFlasks") ∈ lw_tbl := lw_at lw_m5 67 rfl
theorem q1143 : (Jvm.Cond.instantiable "BrothFlasks$Text" (1 : Nat)) ∈ lw_all := lw_g (lw_at lw_m5 79 rfl) rfl
theorem q1145 : (Jvm.Cond.instanceMethod ({ cls := "BrothFlasks$Text", name := "<init>", desc := "([LBrothFlasks$Clause;)V" } : Jvm.MethodName)) ∈ lw_all := lw_g (lw_at lw_m5 81 rfl) rfl
theorem q1146 : (Jvm.Cond.code ({ cls := "BrothFlasks$Text", name := "<init>", desc := "([LBrothFlasks$Clause;)V" } : Jvm.MethodName) prog_21_method_1_code (2 : Nat) (Option.none : Option Jvm.ClassFile.FieldType)) ∈ lw_all := lw_g (lw_at lw_m5 82 rfl) rfl
theorem q1147 : (Jvm.Cond.methodLink "BrothFlasks$Text" (3 : Nat) ({ cls := "java/lang/Object", name := "<init>", desc := "()V" } : Jvm.MethodName)) ∈ lw_all := lw_g (lw_at lw_m5 83 rfl) rfl
theorem q1148 : (Jvm.Cond.fieldLink "BrothFlasks$Text" (9 : Nat) "BrothFlasks$Text" "clauses" "[LBrothFlasks$Clause;") ∈ lw_all := lw_g (lw_at lw_m5 84 rfl) rfl
theorem q1150 : (Jvm.Cond.laysFinal "BrothFlasks$Text" "BrothFlasks$Text" "clauses" "[LBrothFlasks$Clause;") ∈ lw_all := lw_g (lw_at lw_m5 86 rfl) rfl
theorem q1151 : (Jvm.Cond.soleField "BrothFlasks$Text" "clauses") ∈ lw_all := lw_g (lw_at lw_m5 87 rfl) rfl
theorem q1152 : (Jvm.Cond.superclass "BrothFlasks$Text" "java/lang/Object") ∈ lw_all := lw_g (lw_at lw_m5 88 rfl) rfl
theorem q1166 : (Jvm.Cond.instanceMethod ({ cls := "BrothFlasks$Text", name := "oddsOf", desc := "(LBrothFlasks$Look;)I" } : Jvm.MethodName)) ∈ lw_all := lw_g (lw_at lw_m5 102 rfl) rfl
theorem q1167 : (Jvm.Cond.selects "BrothFlasks$Text" ({ cls := "BrothFlasks$Text", name := "oddsOf", desc := "(LBrothFlasks$Look;)I" } : Jvm.MethodName) ({ cls := "BrothFlasks$Text", name := "oddsOf", desc := "(LBrothFlasks$Look;)I" } : Jvm.MethodName)) ∈ lw_all := lw_g (lw_at lw_m5 103 rfl) rfl
theorem q1168 : (Jvm.Cond.code ({ cls := "BrothFlasks$Text", name := "oddsOf", desc := "(LBrothFlasks$Look;)I" } : Jvm.MethodName) prog_21_method_3_code (2 : Nat) (Option.some Jvm.ClassFile.FieldType.int)) ∈ lw_all := lw_g (lw_at lw_m5 104 rfl) rfl
theorem q1169 : (Jvm.Cond.methodLink "BrothFlasks$Text" (46 : Nat) ({ cls := "BrothFlasks$Text", name := "odds", desc := "(LBrothFlasks$Case;)I" } : Jvm.MethodName)) ∈ lw_all := lw_g (lw_at lw_m5 105 rfl) rfl
theorem q1170 : (Jvm.Cond.instanceMethod ({ cls := "BrothFlasks$Text", name := "odds", desc := "(LBrothFlasks$Case;)I" } : Jvm.MethodName)) ∈ lw_all := lw_g (lw_at lw_m5 106 rfl) rfl
theorem q1171 : (Jvm.Cond.selects "BrothFlasks$Text" ({ cls := "BrothFlasks$Text", name := "odds", desc := "(LBrothFlasks$Case;)I" } : Jvm.MethodName) ({ cls := "BrothFlasks$Text", name := "odds", desc := "(LBrothFlasks$Case;)I" } : Jvm.MethodName)) ∈ lw_all := lw_g (lw_at lw_m5 107 rfl) rfl
theorem q1172 : (Jvm.Cond.code ({ cls := "BrothFlasks$Text", name := "odds", desc := "(LBrothFlasks$Case;)I" } : Jvm.MethodName) prog_21_method_2_code (8 : Nat) (Option.some Jvm.ClassFile.FieldType.int)) ∈ lw_all := lw_g (lw_at lw_m5 108 rfl) rfl
theorem q1173 : (Jvm.Cond.methodLink "BrothFlasks$Text" (21 : Nat) ({ cls := "BrothFlasks$Clause", name := "holds", desc := "(LBrothFlasks$Case;)Z" } : Jvm.MethodName)) ∈ lw_all := lw_g (lw_at lw_m5 109 rfl) rfl
theorem q1222 : (Jvm.Cond.constantLong "BrothFlasks$Text" (25 : Nat) (100 : Int64)) ∈ lw_all := lw_g (lw_at lw_m5 158 rfl) rfl
theorem q1223 : (Jvm.Cond.methodLink "BrothFlasks$Text" (31 : Nat) ({ cls := "java/lang/Math", name := "min", desc := "(JJ)J" } : Jvm.MethodName)) ∈ lw_all := lw_g (lw_at lw_m5 159 rfl) rfl
theorem q1226 : (Jvm.Cond.methodLink "BrothFlasks$Text" (37 : Nat) ({ cls := "java/lang/Math", name := "max", desc := "(JJ)J" } : Jvm.MethodName)) ∈ lw_all := lw_g (lw_at lw_m5 162 rfl) rfl
theorem q1235 : (Jvm.Cond.instanceMethod ({ cls := "BrothFlasks$Text", name := "isFair", desc := "(LBrothFlasks$Case;)Z" } : Jvm.MethodName)) ∈ lw_all := lw_g (lw_at lw_m5 171 rfl) rfl
theorem q1236 : (Jvm.Cond.selects "BrothFlasks$Text" ({ cls := "BrothFlasks$Text", name := "isFair", desc := "(LBrothFlasks$Case;)Z" } : Jvm.MethodName) ({ cls := "BrothFlasks$Text", name := "isFair", desc := "(LBrothFlasks$Case;)Z" } : Jvm.MethodName)) ∈ lw_all := lw_g (lw_at lw_m5 172 rfl) rfl
theorem q1237 : (Jvm.Cond.code ({ cls := "BrothFlasks$Text", name := "isFair", desc := "(LBrothFlasks$Case;)Z" } : Jvm.MethodName) prog_21_method_4_code (7 : Nat) (Option.some Jvm.ClassFile.FieldType.boolean)) ∈ lw_all := lw_g (lw_at lw_m5 173 rfl) rfl
theorem q1261 : (Jvm.Cond.instanceMethod ({ cls := "BrothFlasks$Text", name := "mustAnswer", desc := "(LBrothFlasks$Look;)Z" } : Jvm.MethodName)) ∈ lw_all := lw_g (lw_at lw_m5 197 rfl) rfl
theorem q1262 : (Jvm.Cond.selects "BrothFlasks$Text" ({ cls := "BrothFlasks$Text", name := "mustAnswer", desc := "(LBrothFlasks$Look;)Z" } : Jvm.MethodName) ({ cls := "BrothFlasks$Text", name := "mustAnswer", desc := "(LBrothFlasks$Look;)Z" } : Jvm.MethodName)) ∈ lw_all := lw_g (lw_at lw_m5 198 rfl) rfl
theorem q1263 : (Jvm.Cond.code ({ cls := "BrothFlasks$Text", name := "mustAnswer", desc := "(LBrothFlasks$Look;)Z" } : Jvm.MethodName) prog_21_method_5_code (2 : Nat) (Option.some Jvm.ClassFile.FieldType.boolean)) ∈ lw_all := lw_g (lw_at lw_m5 199 rfl) rfl
theorem q1264 : (Jvm.Cond.methodLink "BrothFlasks$Text" (50 : Nat) ({ cls := "BrothFlasks$Text", name := "oddsOf", desc := "(LBrothFlasks$Look;)I" } : Jvm.MethodName)) ∈ lw_all := lw_g (lw_at lw_m5 200 rfl) rfl
theorem q1266 : (Jvm.Cond.instanceMethod ({ cls := "BrothFlasks$Text", name := "price", desc := "(LBrothFlasks$Look;)I" } : Jvm.MethodName)) ∈ lw_all := lw_g (lw_at lw_m5 202 rfl) rfl
theorem q1267 : (Jvm.Cond.selects "BrothFlasks$Text" ({ cls := "BrothFlasks$Text", name := "price", desc := "(LBrothFlasks$Look;)I" } : Jvm.MethodName) ({ cls := "BrothFlasks$Text", name := "price", desc := "(LBrothFlasks$Look;)I" } : Jvm.MethodName)) ∈ lw_all := lw_g (lw_at lw_m5 203 rfl) rfl
theorem q1268 : (Jvm.Cond.code ({ cls := "BrothFlasks$Text", name := "price", desc := "(LBrothFlasks$Look;)I" } : Jvm.MethodName) prog_21_method_6_code (8 : Nat) (Option.some Jvm.ClassFile.FieldType.int)) ∈ lw_all := lw_g (lw_at lw_m5 204 rfl) rfl
theorem q1269 : (Jvm.Cond.constantLong "BrothFlasks$Text" (54 : Nat) (1000 : Int64)) ∈ lw_all := lw_g (lw_at lw_m5 205 rfl) rfl
theorem q1270 : (Jvm.Cond.methodLink "BrothFlasks$Text" (56 : Nat) ({ cls := "java/lang/Math", name := "min", desc := "(II)I" } : Jvm.MethodName)) ∈ lw_all := lw_g (lw_at lw_m5 206 rfl) rfl
theorem in_X22 : ∀ w ∈ wsX220, w ∈ lw_all := lw_in wsX220 [1150] (by decide +kernel) (by decide +kernel)
theorem q104 : (Jvm.Cond.initialized "BrothFlasksLaw") ∈ lw_all := lw_g (lw_at lw_m1 0 rfl) rfl
set_option maxRecDepth 100000
theorem q137 : (Jvm.Cond.classLink "BrothFlasksLaw" (7 : Nat) "BrothFlasks") ∈ lw_all := lw_g (lw_at lw_m1 33 rfl) rfl
theorem q139 : (Jvm.Cond.methodLink "BrothFlasksLaw" (9 : Nat) ({ cls := "BrothFlasks", name := "<init>", desc := "()V" } : Jvm.MethodName)) ∈ lw_all := lw_g (lw_at lw_m1 35 rfl) rfl
theorem q381 : (Jvm.Cond.methodLink "BrothFlasksLaw" (13 : Nat) ({ cls := "BrothFlasks", name := "kind", desc := "(IIIIII)I" } : Jvm.MethodName)) ∈ lw_all := lw_g (lw_at lw_m2 37 rfl) rfl
theorem q429 : (Jvm.Cond.methodLink "BrothFlasksLaw" (18 : Nat) ({ cls := "BrothFlasks", name := "broth", desc := "(IIII)I" } : Jvm.MethodName)) ∈ lw_all := lw_g (lw_at lw_m2 85 rfl) rfl
theorem q434 : (Jvm.Cond.methodLink "BrothFlasksLaw" (23 : Nat) ({ cls := "BrothFlasks", name := "lets", desc := "(III)I" } : Jvm.MethodName)) ∈ lw_all := lw_g (lw_at lw_m2 90 rfl) rfl
theorem q440 : (Jvm.Cond.methodLink "BrothFlasksLaw" (28 : Nat) ({ cls := "BrothFlasks", name := "weigh", desc := "(III)I" } : Jvm.MethodName)) ∈ lw_all := lw_g (lw_at lw_m2 96 rfl) rfl
theorem q452 : (Jvm.Cond.methodLink "BrothFlasksLaw" (32 : Nat) ({ cls := "BrothFlasks", name := "seed", desc := "(I)I" } : Jvm.MethodName)) ∈ lw_all := lw_g (lw_at lw_m2 108 rfl) rfl
theorem q457 : (Jvm.Cond.methodLink "BrothFlasksLaw" (37 : Nat) ({ cls := "BrothFlasks", name := "flask", desc := "(IIII)I" } : Jvm.MethodName)) ∈ lw_all := lw_g (lw_at lw_m2 113 rfl) rfl
theorem q635 : (Jvm.Cond.methodLink "BrothFlasksLaw" (41 : Nat) ({ cls := "BrothFlasks", name := "heat", desc := "(III)I" } : Jvm.MethodName)) ∈ lw_all := lw_g (lw_at lw_m3 51 rfl) rfl
theorem q654 : (Jvm.Cond.methodLink "BrothFlasksLaw" (45 : Nat) ({ cls := "BrothFlasks", name := "move", desc := "(II)I" } : Jvm.MethodName)) ∈ lw_all := lw_g (lw_at lw_m3 70 rfl) rfl
theorem q658 : (Jvm.Cond.methodLink "BrothFlasksLaw" (50 : Nat) ({ cls := "BrothFlasks", name := "open", desc := "(II)I" } : Jvm.MethodName)) ∈ lw_all := lw_g (lw_at lw_m3 74 rfl) rfl
theorem q662 : (Jvm.Cond.methodLink "BrothFlasksLaw" (54 : Nat) ({ cls := "BrothFlasks", name := "tip", desc := "(I)I" } : Jvm.MethodName)) ∈ lw_all := lw_g (lw_at lw_m3 78 rfl) rfl
theorem q675 : (Jvm.Cond.methodLink "BrothFlasksLaw" (58 : Nat) ({ cls := "BrothFlasks", name := "go", desc := "(I)I" } : Jvm.MethodName)) ∈ lw_all := lw_g (lw_at lw_m3 91 rfl) rfl
theorem q726 : (Jvm.Cond.methodLink "BrothFlasksLaw" (62 : Nat) ({ cls := "BrothFlasks", name := "tells", desc := "(II)I" } : Jvm.MethodName)) ∈ lw_all := lw_g (lw_at lw_m3 142 rfl) rfl
theorem q740 : (Jvm.Cond.methodLink "BrothFlasksLaw" (66 : Nat) ({ cls := "BrothFlasks", name := "look", desc := "(I)I" } : Jvm.MethodName)) ∈ lw_all := lw_g (lw_at lw_m3 156 rfl) rfl
theorem q770 : (Jvm.Cond.methodLink "BrothFlasksLaw" (70 : Nat) ({ cls := "BrothFlasks", name := "trial", desc := "(I)I" } : Jvm.MethodName)) ∈ lw_all := lw_g (lw_at lw_m3 186 rfl) rfl
theorem q779 : (Jvm.Cond.methodLink "BrothFlasksLaw" (83 : Nat) ({ cls := "BrothFlasks", name := "row", desc := "(I)I" } : Jvm.MethodName)) ∈ lw_all := lw_g (lw_at lw_m3 195 rfl) rfl
theorem q786 : (Jvm.Cond.methodLink "BrothFlasksLaw" (87 : Nat) ({ cls := "BrothFlasks", name := "of", desc := "(III)I" } : Jvm.MethodName)) ∈ lw_all := lw_g (lw_at lw_m3 202 rfl) rfl
theorem q800 : (Jvm.Cond.methodLink "BrothFlasksLaw" (74 : Nat) ({ cls := "BrothFlasks", name := "feed", desc := "(IIIII)I" } : Jvm.MethodName)) ∈ lw_all := lw_g (lw_at lw_m3 216 rfl) rfl
theorem q808 : (Jvm.Cond.methodLink "BrothFlasksLaw" (79 : Nat) ({ cls := "BrothFlasks", name := "end", desc := "(I)I" } : Jvm.MethodName)) ∈ lw_all := lw_g (lw_at lw_m3 224 rfl) rfl
theorem q812 : (Jvm.Cond.methodLink "BrothFlasksLaw" (91 : Nat) ({ cls := "BrothFlasks", name := "text", desc := "()I" } : Jvm.MethodName)) ∈ lw_all := lw_g (lw_at lw_m3 228 rfl) rfl
theorem q1153 : (Jvm.Cond.methodLink "BrothFlasksLaw" (96 : Nat) ({ cls := "BrothFlasks", name := "fault", desc := "()I" } : Jvm.MethodName)) ∈ lw_all := lw_g (lw_at lw_m5 89 rfl) rfl
theorem q1157 : (Jvm.Cond.methodLink "BrothFlasksLaw" (100 : Nat) ({ cls := "BrothFlasks", name := "odds", desc := "(III)I" } : Jvm.MethodName)) ∈ lw_all := lw_g (lw_at lw_m5 93 rfl) rfl
theorem q1230 : (Jvm.Cond.methodLink "BrothFlasksLaw" (104 : Nat) ({ cls := "BrothFlasks", name := "fair", desc := "(II)I" } : Jvm.MethodName)) ∈ lw_all := lw_g (lw_at lw_m5 166 rfl) rfl
theorem q1238 : (Jvm.Cond.methodLink "BrothFlasksLaw" (108 : Nat) ({ cls := "BrothFlasks", name := "outBy", desc := "(II)I" } : Jvm.MethodName)) ∈ lw_all := lw_g (lw_at lw_m5 174 rfl) rfl
theorem q1242 : (Jvm.Cond.methodLink "BrothFlasksLaw" (112 : Nat) ({ cls := "BrothFlasks", name := "worth", desc := "(IIII)J" } : Jvm.MethodName)) ∈ lw_all := lw_g (lw_at lw_m5 178 rfl) rfl
theorem q1256 : (Jvm.Cond.methodLink "BrothFlasksLaw" (117 : Nat) ({ cls := "BrothFlasks", name := "answer", desc := "(II)I" } : Jvm.MethodName)) ∈ lw_all := lw_g (lw_at lw_m5 192 rfl) rfl
theorem q1271 : (Jvm.Cond.methodLink "BrothFlasksLaw" (121 : Nat) ({ cls := "BrothFlasks", name := "saves", desc := "(I)I" } : Jvm.MethodName)) ∈ lw_all := lw_g (lw_at lw_m5 207 rfl) rfl
theorem q1276 : (Jvm.Cond.methodLink "BrothFlasksLaw" (125 : Nat) ({ cls := "BrothFlasks", name := "all", desc := "(I)I" } : Jvm.MethodName)) ∈ lw_all := lw_g (lw_at lw_m5 212 rfl) rfl
theorem q1281 : (Jvm.Cond.methodLink "BrothFlasksLaw" (129 : Nat) ({ cls := "BrothFlasks", name := "parting", desc := "(II)I" } : Jvm.MethodName)) ∈ lw_all := lw_g (lw_at lw_m5 217 rfl) rfl
theorem q1296 : (Jvm.Cond.methodLink "BrothFlasksLaw" (133 : Nat) ({ cls := "BrothFlasks", name := "next", desc := "(I)I" } : Jvm.MethodName)) ∈ lw_all := lw_g (lw_at lw_m5 232 rfl) rfl
theorem q1304 : (Jvm.Cond.methodLink "BrothFlasksLaw" (137 : Nat) ({ cls := "BrothFlasks", name := "telling", desc := "(II)I" } : Jvm.MethodName)) ∈ lw_all := lw_g (lw_at lw_m6 0 rfl) rfl
theorem q1319 : (Jvm.Cond.methodLink "BrothFlasksLaw" (141 : Nat) ({ cls := "BrothFlasks", name := "span", desc := "(III)I" } : Jvm.MethodName)) ∈ lw_all := lw_g (lw_at lw_m6 15 rfl) rfl
theorem q1336 : (Jvm.Cond.methodLink "BrothFlasksLaw" (145 : Nat) ({ cls := "BrothFlasks", name := "need", desc := "(II)I" } : Jvm.MethodName)) ∈ lw_all := lw_g (lw_at lw_m6 32 rfl) rfl
theorem q1341 : (Jvm.Cond.methodLink "BrothFlasksLaw" (149 : Nat) ({ cls := "BrothFlasks", name := "bound", desc := "(I)I" } : Jvm.MethodName)) ∈ lw_all := lw_g (lw_at lw_m6 37 rfl) rfl
theorem q1345 : (Jvm.Cond.methodLink "BrothFlasksLaw" (153 : Nat) ({ cls := "BrothFlasks", name := "outlive", desc := "(III)I" } : Jvm.MethodName)) ∈ lw_all := lw_g (lw_at lw_m6 41 rfl) rfl
theorem q1360 : (Jvm.Cond.methodLink "BrothFlasksLaw" (157 : Nat) ({ cls := "BrothFlasks", name := "right", desc := "(II)I" } : Jvm.MethodName)) ∈ lw_all := lw_g (lw_at lw_m6 56 rfl) rfl
theorem q1364 : (Jvm.Cond.methodLink "BrothFlasksLaw" (161 : Nat) ({ cls := "BrothFlasks", name := "how", desc := "(III)I" } : Jvm.MethodName)) ∈ lw_all := lw_g (lw_at lw_m6 60 rfl) rfl
theorem q1368 : (Jvm.Cond.methodLink "BrothFlasksLaw" (165 : Nat) ({ cls := "BrothFlasks", name := "ways", desc := "(III)I" } : Jvm.MethodName)) ∈ lw_all := lw_g (lw_at lw_m6 64 rfl) rfl
theorem q1372 : (Jvm.Cond.methodLink "BrothFlasksLaw" (169 : Nat) ({ cls := "BrothFlasks", name := "spoilt", desc := "(I)I" } : Jvm.MethodName)) ∈ lw_all := lw_g (lw_at lw_m6 68 rfl) rfl
theorem q1381 : (Jvm.Cond.methodLink "BrothFlasksLaw" (173 : Nat) ({ cls := "BrothFlasks", name := "whole", desc := "(I)I" } : Jvm.MethodName)) ∈ lw_all := lw_g (lw_at lw_m6 77 rfl) rfl
theorem q1385 : (Jvm.Cond.methodLink "BrothFlasksLaw" (177 : Nat) ({ cls := "BrothFlasks", name := "commission", desc := "(II)I" } : Jvm.MethodName)) ∈ lw_all := lw_g (lw_at lw_m6 81 rfl) rfl
theorem q1395 : (Jvm.Cond.methodLink "BrothFlasksLaw" (181 : Nat) ({ cls := "BrothFlasks", name := "judged", desc := "(III)J" } : Jvm.MethodName)) ∈ lw_all := lw_g (lw_at lw_m6 91 rfl) rfl
theorem q1408 : (Jvm.Cond.methodLink "BrothFlasksLaw" (186 : Nat) ({ cls := "BrothFlasks", name := "leans", desc := "(III)I" } : Jvm.MethodName)) ∈ lw_all := lw_g (lw_at lw_m6 104 rfl) rfl
theorem q1416 : (Jvm.Cond.methodLink "BrothFlasksLaw" (190 : Nat) ({ cls := "BrothFlasks", name := "shape", desc := "(IIII)I" } : Jvm.MethodName)) ∈ lw_all := lw_g (lw_at lw_m6 112 rfl) rfl
theorem q1420 : (Jvm.Cond.methodLink "BrothFlasksLaw" (194 : Nat) ({ cls := "BrothFlasks", name := "image", desc := "(I)I" } : Jvm.MethodName)) ∈ lw_all := lw_g (lw_at lw_m6 116 rfl) rfl
theorem q1455 : (Jvm.Cond.methodLink "BrothFlasksLaw" (198 : Nat) ({ cls := "BrothFlasks", name := "back", desc := "(I)I" } : Jvm.MethodName)) ∈ lw_all := lw_g (lw_at lw_m6 151 rfl) rfl
theorem q1459 : (Jvm.Cond.methodLink "BrothFlasksLaw" (202 : Nat) ({ cls := "BrothFlasks", name := "count", desc := "(I)I" } : Jvm.MethodName)) ∈ lw_all := lw_g (lw_at lw_m6 155 rfl) rfl
theorem q1463 : (Jvm.Cond.methodLink "BrothFlasksLaw" (206 : Nat) ({ cls := "BrothFlasks", name := "status", desc := "()I" } : Jvm.MethodName)) ∈ lw_all := lw_g (lw_at lw_m6 159 rfl) rfl
theorem q1467 : (Jvm.Cond.classLink "BrothFlasksLaw" (10 : Nat) "BrothFlasksModel") ∈ lw_all := lw_g (lw_at lw_m6 163 rfl) rfl
theorem q1469 : (Jvm.Cond.methodLink "BrothFlasksLaw" (12 : Nat) ({ cls := "BrothFlasksModel", name := "<init>", desc := "()V" } : Jvm.MethodName)) ∈ lw_all := lw_g (lw_at lw_m6 165 rfl) rfl
theorem q1565 : (Jvm.Cond.methodLink "BrothFlasksLaw" (197 : Nat) ({ cls := "BrothFlasksModel", name := "image", desc := "(I)I" } : Jvm.MethodName)) ∈ lw_all := lw_g (lw_at lw_m7 21 rfl) rfl
theorem q1580 : (Jvm.Cond.methodLink "BrothFlasksLaw" (201 : Nat) ({ cls := "BrothFlasksModel", name := "back", desc := "(I)I" } : Jvm.MethodName)) ∈ lw_all := lw_g (lw_at lw_m7 36 rfl) rfl
theorem q1584 : (Jvm.Cond.methodLink "BrothFlasksLaw" (17 : Nat) ({ cls := "BrothFlasksModel", name := "kind", desc := "(IIIIII)I" } : Jvm.MethodName)) ∈ lw_all := lw_g (lw_at lw_m7 40 rfl) rfl
theorem q1588 : (Jvm.Cond.methodLink "BrothFlasksLaw" (22 : Nat) ({ cls := "BrothFlasksModel", name := "broth", desc := "(IIII)I" } : Jvm.MethodName)) ∈ lw_all := lw_g (lw_at lw_m7 44 rfl) rfl
theorem q1592 : (Jvm.Cond.methodLink "BrothFlasksLaw" (27 : Nat) ({ cls := "BrothFlasksModel", name := "lets", desc := "(III)I" } : Jvm.MethodName)) ∈ lw_all := lw_g (lw_at lw_m7 48 rfl) rfl
theorem q1596 : (Jvm.Cond.methodLink "BrothFlasksLaw" (31 : Nat) ({ cls := "BrothFlasksModel", name := "weigh", desc := "(III)I" } : Jvm.MethodName)) ∈ lw_all := lw_g (lw_at lw_m7 52 rfl) rfl
theorem q1604 : (Jvm.Cond.methodLink "BrothFlasksLaw" (36 : Nat) ({ cls := "BrothFlasksModel", name := "seed", desc := "(I)I" } : Jvm.MethodName)) ∈ lw_all := lw_g (lw_at lw_m7 60 rfl) rfl
theorem q1609 : (Jvm.Cond.methodLink "BrothFlasksLaw" (40 : Nat) ({ cls := "BrothFlasksModel", name := "flask", desc := "(IIII)I" } : Jvm.MethodName)) ∈ lw_all := lw_g (lw_at lw_m7 65 rfl) rfl
theorem q1617 : (Jvm.Cond.methodLink "BrothFlasksLaw" (44 : Nat) ({ cls := "BrothFlasksModel", name := "heat", desc := "(III)I" } : Jvm.MethodName)) ∈ lw_all := lw_g (lw_at lw_m7 73 rfl) rfl
theorem q1633 : (Jvm.Cond.methodLink "BrothFlasksLaw" (49 : Nat) ({ cls := "BrothFlasksModel", name := "move", desc := "(II)I" } : Jvm.MethodName)) ∈ lw_all := lw_g (lw_at lw_m7 89 rfl) rfl
theorem q1637 : (Jvm.Cond.methodLink "BrothFlasksLaw" (53 : Nat) ({ cls := "BrothFlasksModel", name := "open", desc := "(II)I" } : Jvm.MethodName)) ∈ lw_all := lw_g (lw_at lw_m7 93 rfl) rfl
theorem q1641 : (Jvm.Cond.methodLink "BrothFlasksLaw" (57 : Nat) ({ cls := "BrothFlasksModel", name := "tip", desc := "(I)I" } : Jvm.MethodName)) ∈ lw_all := lw_g (lw_at lw_m7 97 rfl) rfl
theorem q1645 : (Jvm.Cond.methodLink "BrothFlasksLaw" (61 : Nat) ({ cls := "BrothFlasksModel", name := "go", desc := "(I)I" } : Jvm.MethodName)) ∈ lw_all := lw_g (lw_at lw_m7 101 rfl) rfl
theorem q1667 : (Jvm.Cond.methodLink "BrothFlasksLaw" (65 : Nat) ({ cls := "BrothFlasksModel", name := "tells", desc := "(II)I" } : Jvm.MethodName)) ∈ lw_all := lw_g (lw_at lw_m7 123 rfl) rfl
theorem q1678 : (Jvm.Cond.methodLink "BrothFlasksLaw" (69 : Nat) ({ cls := "BrothFlasksModel", name := "look", desc := "(I)I" } : Jvm.MethodName)) ∈ lw_all := lw_g (lw_at lw_m7 134 rfl) rfl
theorem q1686 : (Jvm.Cond.methodLink "BrothFlasksLaw" (73 : Nat) ({ cls := "BrothFlasksModel", name := "trial", desc := "(I)I" } : Jvm.MethodName)) ∈ lw_all := lw_g (lw_at lw_m7 142 rfl) rfl
theorem q1694 : (Jvm.Cond.methodLink "BrothFlasksLaw" (86 : Nat) ({ cls := "BrothFlasksModel", name := "row", desc := "(I)I" } : Jvm.MethodName)) ∈ lw_all := lw_g (lw_at lw_m7 150 rfl) rfl
theorem q1701 : (Jvm.Cond.methodLink "BrothFlasksLaw" (90 : Nat) ({ cls := "BrothFlasksModel", name := "of", desc := "(III)I" } : Jvm.MethodName)) ∈ lw_all := lw_g (lw_at lw_m7 157 rfl) rfl
theorem q1713 : (Jvm.Cond.methodLink "BrothFlasksLaw" (78 : Nat) ({ cls := "BrothFlasksModel", name := "feed", desc := "(IIIII)I" } : Jvm.MethodName)) ∈ lw_all := lw_g (lw_at lw_m7 169 rfl) rfl
theorem q1717 : (Jvm.Cond.methodLink "BrothFlasksLaw" (82 : Nat) ({ cls := "BrothFlasksModel", name := "end", desc := "(I)I" } : Jvm.MethodName)) ∈ lw_all := lw_g (lw_at lw_m7 173 rfl) rfl
theorem q1721 : (Jvm.Cond.methodLink "BrothFlasksLaw" (95 : Nat) ({ cls := "BrothFlasksModel", name := "text", desc := "()I" } : Jvm.MethodName)) ∈ lw_all := lw_g (lw_at lw_m7 177 rfl) rfl
theorem q1795 : (Jvm.Cond.methodLink "BrothFlasksLaw" (99 : Nat) ({ cls := "BrothFlasksModel", name := "fault", desc := "()I" } : Jvm.MethodName)) ∈ lw_all := lw_g (lw_at lw_m8 11 rfl) rfl
theorem q1799 : (Jvm.Cond.methodLink "BrothFlasksLaw" (103 : Nat) ({ cls := "BrothFlasksModel", name := "odds", desc := "(III)I" } : Jvm.MethodName)) ∈ lw_all := lw_g (lw_at lw_m8 15 rfl) rfl
theorem q1880 : (Jvm.Cond.methodLink "BrothFlasksLaw" (107 : Nat) ({ cls := "BrothFlasksModel", name := "fair", desc := "(II)I" } : Jvm.MethodName)) ∈ lw_all := lw_g (lw_at lw_m8 96 rfl) rfl
theorem q1888 : (Jvm.Cond.methodLink "BrothFlasksLaw" (111 : Nat) ({ cls := "BrothFlasksModel", name := "outBy", desc := "(II)I" } : Jvm.MethodName)) ∈ lw_all := lw_g (lw_at lw_m8 104 rfl) rfl
theorem q1892 : (Jvm.Cond.methodLink "BrothFlasksLaw" (116 : Nat) ({ cls := "BrothFlasksModel", name := "worth", desc := "(IIII)J" } : Jvm.MethodName)) ∈ lw_all := lw_g (lw_at lw_m8 108 rfl) rfl
theorem q1904 : (Jvm.Cond.methodLink "BrothFlasksLaw" (120 : Nat) ({ cls := "BrothFlasksModel", name := "answer", desc := "(II)I" } : Jvm.MethodName)) ∈ lw_all := lw_g (lw_at lw_m8 120 rfl) rfl
theorem q1912 : (Jvm.Cond.methodLink "BrothFlasksLaw" (124 : Nat) ({ cls := "BrothFlasksModel", name := "saves", desc := "(I)I" } : Jvm.MethodName)) ∈ lw_all := lw_g (lw_at lw_m8 128 rfl) rfl
theorem q1917 : (Jvm.Cond.methodLink "BrothFlasksLaw" (128 : Nat) ({ cls := "BrothFlasksModel", name := "all", desc := "(I)I" } : Jvm.MethodName)) ∈ lw_all := lw_g (lw_at lw_m8 133 rfl) rfl
theorem q1921 : (Jvm.Cond.methodLink "BrothFlasksLaw" (132 : Nat) ({ cls := "BrothFlasksModel", name := "parting", desc := "(II)I" } : Jvm.MethodName)) ∈ lw_all := lw_g (lw_at lw_m8 137 rfl) rfl
theorem q1933 : (Jvm.Cond.methodLink "BrothFlasksLaw" (136 : Nat) ({ cls := "BrothFlasksModel", name := "next", desc := "(I)I" } : Jvm.MethodName)) ∈ lw_all := lw_g (lw_at lw_m8 149 rfl) rfl
theorem q1941 : (Jvm.Cond.methodLink "BrothFlasksLaw" (140 : Nat) ({ cls := "BrothFlasksModel", name := "telling", desc := "(II)I" } : Jvm.MethodName)) ∈ lw_all := lw_g (lw_at lw_m8 157 rfl) rfl
theorem q1953 : (Jvm.Cond.methodLink "BrothFlasksLaw" (144 : Nat) ({ cls := "BrothFlasksModel", name := "span", desc := "(III)I" } : Jvm.MethodName)) ∈ lw_all := lw_g (lw_at lw_m8 169 rfl) rfl
theorem q1971 : (Jvm.Cond.methodLink "BrothFlasksLaw" (148 : Nat) ({ cls := "BrothFlasksModel", name := "need", desc := "(II)I" } : Jvm.MethodName)) ∈ lw_all := lw_g (lw_at lw_m8 187 rfl) rfl
theorem q1975 : (Jvm.Cond.methodLink "BrothFlasksLaw" (152 : Nat) ({ cls := "BrothFlasksModel", name := "bound", desc := "(I)I" } : Jvm.MethodName)) ∈ lw_all := lw_g (lw_at lw_m8 191 rfl) rfl
theorem q1979 : (Jvm.Cond.methodLink "BrothFlasksLaw" (156 : Nat) ({ cls := "BrothFlasksModel", name := "outlive", desc := "(III)I" } : Jvm.MethodName)) ∈ lw_all := lw_g (lw_at lw_m8 195 rfl) rfl
theorem q1991 : (Jvm.Cond.methodLink "BrothFlasksLaw" (160 : Nat) ({ cls := "BrothFlasksModel", name := "right", desc := "(II)I" } : Jvm.MethodName)) ∈ lw_all := lw_g (lw_at lw_m8 207 rfl) rfl
theorem q1995 : (Jvm.Cond.methodLink "BrothFlasksLaw" (164 : Nat) ({ cls := "BrothFlasksModel", name := "how", desc := "(III)I" } : Jvm.MethodName)) ∈ lw_all := lw_g (lw_at lw_m8 211 rfl) rfl
theorem q1999 : (Jvm.Cond.methodLink "BrothFlasksLaw" (168 : Nat) ({ cls := "BrothFlasksModel", name := "ways", desc := "(III)I" } : Jvm.MethodName)) ∈ lw_all := lw_g (lw_at lw_m8 215 rfl) rfl
theorem q2003 : (Jvm.Cond.methodLink "BrothFlasksLaw" (172 : Nat) ({ cls := "BrothFlasksModel", name := "spoilt", desc := "(I)I" } : Jvm.MethodName)) ∈ lw_all := lw_g (lw_at lw_m8 219 rfl) rfl
theorem q2011 : (Jvm.Cond.methodLink "BrothFlasksLaw" (176 : Nat) ({ cls := "BrothFlasksModel", name := "whole", desc := "(I)I" } : Jvm.MethodName)) ∈ lw_all := lw_g (lw_at lw_m8 227 rfl) rfl
theorem q2015 : (Jvm.Cond.methodLink "BrothFlasksLaw" (180 : Nat) ({ cls := "BrothFlasksModel", name := "commission", desc := "(II)I" } : Jvm.MethodName)) ∈ lw_all := lw_g (lw_at lw_m8 231 rfl) rfl
theorem q2022 : (Jvm.Cond.methodLink "BrothFlasksLaw" (185 : Nat) ({ cls := "BrothFlasksModel", name := "judged", desc := "(III)J" } : Jvm.MethodName)) ∈ lw_all := lw_g (lw_at lw_m8 238 rfl) rfl
theorem q2038 : (Jvm.Cond.methodLink "BrothFlasksLaw" (189 : Nat) ({ cls := "BrothFlasksModel", name := "leans", desc := "(III)I" } : Jvm.MethodName)) ∈ lw_all := lw_g (lw_at lw_m9 14 rfl) rfl
theorem q2043 : (Jvm.Cond.methodLink "BrothFlasksLaw" (193 : Nat) ({ cls := "BrothFlasksModel", name := "shape", desc := "(IIII)I" } : Jvm.MethodName)) ∈ lw_all := lw_g (lw_at lw_m9 19 rfl) rfl
theorem q2047 : (Jvm.Cond.methodLink "BrothFlasksLaw" (205 : Nat) ({ cls := "BrothFlasksModel", name := "count", desc := "(I)I" } : Jvm.MethodName)) ∈ lw_all := lw_g (lw_at lw_m9 23 rfl) rfl
theorem q2051 : (Jvm.Cond.methodLink "BrothFlasksLaw" (209 : Nat) ({ cls := "BrothFlasksModel", name := "status", desc := "()I" } : Jvm.MethodName)) ∈ lw_all := lw_g (lw_at lw_m9 27 rfl) rfl
theorem q117 : (Jvm.Cond.initialized "java/lang/System") ∈ lw_all := lw_g (lw_at lw_m1 13 rfl) rfl
set_option maxRecDepth 100000
theorem q768 : (Jvm.Cond.static ({ cls := "java/lang/System", name := "arraycopy", desc := "(Ljava/lang/Object;ILjava/lang/Object;II)V" } : Jvm.MethodName)) ∈ lw_all := lw_g (lw_at lw_m3 184 rfl) rfl
theorem q769 : (Jvm.Cond.native ({ cls := "java/lang/System", name := "arraycopy", desc := "(Ljava/lang/Object;ILjava/lang/Object;II)V" } : Jvm.MethodName)) ∈ lw_all := lw_g (lw_at lw_m3 185 rfl) rfl
theorem q152 : (Jvm.Cond.arrayOver (Jvm.ClassFile.FieldType.object "BrothFlasks$Kind")) ∈ lw_tbl := lw_at lw_m1 48 rfl
set_option maxRecDepth 100000
theorem q154 : (Jvm.Cond.arrayOver (Jvm.ClassFile.FieldType.object "BrothFlasks$Flask")) ∈ lw_tbl := lw_at lw_m1 50 rfl
theorem q156 : (Jvm.Cond.arrayOver (Jvm.ClassFile.FieldType.object "BrothFlasks$Look")) ∈ lw_tbl := lw_at lw_m1 52 rfl
theorem q158 : (Jvm.Cond.arrayOver (Jvm.ClassFile.FieldType.object "BrothFlasks$Case")) ∈ lw_tbl := lw_at lw_m1 54 rfl
theorem q160 : (Jvm.Cond.arrayOver (Jvm.ClassFile.FieldType.object "BrothFlasks$Text")) ∈ lw_tbl := lw_at lw_m1 56 rfl
theorem q250 : (Jvm.Cond.arrayClass Jvm.ClassFile.FieldType.int) ∈ lw_all := lw_g (lw_at lw_m1 146 rfl) rfl
theorem q251 : (Jvm.Cond.arrayOver (Jvm.ClassFile.FieldType.object "BrothFlasks$Bench")) ∈ lw_tbl := lw_at lw_m1 147 rfl
theorem q283 : (Jvm.Cond.arrayOver (Jvm.ClassFile.FieldType.object "BrothFlasks$Test")) ∈ lw_tbl := lw_at lw_m1 179 rfl
theorem q285 : (Jvm.Cond.arrayOver (Jvm.ClassFile.FieldType.object "java/lang/String")) ∈ lw_tbl := lw_at lw_m1 181 rfl
theorem q338 : (Jvm.Cond.arrayClass Jvm.ClassFile.FieldType.byte) ∈ lw_all := lw_g (lw_at lw_m1 234 rfl) rfl
theorem q822 : (Jvm.Cond.arrayOver (Jvm.ClassFile.FieldType.object "BrothFlasks$Clause")) ∈ lw_tbl := lw_at lw_m3 238 rfl
theorem q1407 : (Jvm.Cond.arrayClass Jvm.ClassFile.FieldType.long) ∈ lw_all := lw_g (lw_at lw_m6 103 rfl) rfl
theorem q1564 : (Jvm.Cond.arrayClass Jvm.ClassFile.FieldType.boolean) ∈ lw_all := lw_g (lw_at lw_m7 20 rfl) rfl
