/-! BrothFlasksModel -/
set_option maxRecDepth 100000
def RX4 : String := "BrothFlasksModel"
def TX4 : u_T := fun k => match k with
  | 0 => ("BrothFlasksModel", "status", "I", false)
  | 1 => ("BrothFlasksModel", "refused", "[I", true)
  | 2 => ("BrothFlasksModel", "kept", "[I", true)
  | 3 => ("BrothFlasksModel", "images", "[I", true)
  | 4 => ("BrothFlasksModel", "hasImage", "[Z", true)
  | 5 => ("BrothFlasksModel", "now", "[I", true)
  | 6 => ("BrothFlasksModel", "words", "[B", true)
  | 7 => ("BrothFlasksModel", "tape", "[B", true)
  | 8 => ("BrothFlasksModel", "five", "[I", true)
  | 9 => ("BrothFlasksModel", "taped", "I", false)
  | 10 => ("BrothFlasksModel", "fault", "I", false)
  | 11 => ("BrothFlasksModel", "code", "[I", true)
  | 12 => ("BrothFlasksModel", "value", "[I", true)
  | 13 => ("BrothFlasksModel", "placed", "[I", true)
  | 14 => ("BrothFlasksModel", "tokens", "I", false)
  | 15 => ("BrothFlasksModel", "token", "I", false)
  | 16 => ("BrothFlasksModel", "leaves", "I", false)
  | 17 => ("BrothFlasksModel", "bad", "I", false)
  | 18 => ("BrothFlasksModel", "go", "I", false)
  | 19 => ("BrothFlasksModel", "goEnd", "I", false)
  | 20 => ("BrothFlasksModel", "broken", "Z", false)
  | 21 => ("BrothFlasksModel", "clauses", "I", false)
  | 22 => ("BrothFlasksModel", "head", "[I", true)
  | 23 => ("BrothFlasksModel", "holds", "[Z", true)
  | 24 => ("BrothFlasksModel", "says", "[J", true)
  | 25 => ("BrothFlasksModel", "by", "[I", true)
  | 26 => ("BrothFlasksModel", "fewest", "[I", true)
  | 27 => ("BrothFlasksModel", "saysTurned", "[I", true)
  | 28 => ("BrothFlasksModel", "first", "I", false)
  | _ => ("BrothFlasksModel", "chances", "[J", true)
def tyX4 : Nat → FieldType := fun k => match k with
  | 0 => .int
  | 1 => .array .int
  | 2 => .array .int
  | 3 => .array .int
  | 4 => .array .boolean
  | 5 => .array .int
  | 6 => .array .byte
  | 7 => .array .byte
  | 8 => .array .int
  | 9 => .int
  | 10 => .int
  | 11 => .array .int
  | 12 => .array .int
  | 13 => .array .int
  | 14 => .int
  | 15 => .int
  | 16 => .int
  | 17 => .int
  | 18 => .int
  | 19 => .int
  | 20 => .boolean
  | 21 => .int
  | 22 => .array .int
  | 23 => .array .boolean
  | 24 => .array .long
  | 25 => .array .int
  | 26 => .array .int
  | 27 => .array .int
  | 28 => .int
  | _ => .array .long
abbrev wsX40 : List Cond := u_ws RX4 TX4 30
set_option maxRecDepth 100000 in
theorem nmX4 : ∀ a, a < 30 → ∀ b, b < 30 → a ≠ b → (TX4 a).2.1 ≠ (TX4 b).2.1 := by decide +kernel
set_option maxRecDepth 100000 in
theorem tyX4_ok : ∀ k, k < 30 → parseFieldDescriptor (TX4 k).2.2.1 = some (tyX4 k) := by decide +kernel
abbrev cX4_init : ByteArray := prog_24_method_4_code
def yX4_init : MethodName := ⟨RX4, "<init>", "()V"⟩
def dkwX4_init_42 : List UInt8 := [42, 180, 0, 17, 16, 22, 16, 20, 79, 177]
abbrev dktX4_init_42 : List UInt8 := dkwX4_init_42 ++ []
def dkwX4_init_41 : List UInt8 := [6, 27, 104, 96, 4, 96, 16, 7, 79, 132, 1, 1, 167, 255, 233, 42, 180, 0, 17, 16, 18, 16, 100, 79]
abbrev dktX4_init_41 : List UInt8 := dkwX4_init_41 ++ dktX4_init_42
def dkwX4_init_40 : List UInt8 := [181, 0, 68, 42, 16, 11, 188, 11, 181, 0, 71, 3, 60, 27, 16, 6, 162, 0, 23, 42, 180, 0, 17, 3]
abbrev dktX4_init_40 : List UInt8 := dkwX4_init_40 ++ dktX4_init_41
def dkwX4_init_39 : List UInt8 := [17, 0, 144, 188, 10, 181, 0, 62, 42, 17, 16, 0, 188, 10, 181, 0, 65, 42, 16, 12, 188, 10]
abbrev dktX4_init_39 : List UInt8 := dkwX4_init_39 ++ dktX4_init_40
def dkwX4_init_38 : List UInt8 := [188, 10, 181, 0, 52, 42, 16, 12, 188, 4, 181, 0, 55, 42, 16, 12, 188, 11, 181, 0, 58, 42]
abbrev dktX4_init_38 : List UInt8 := dkwX4_init_38 ++ dktX4_init_39
def dkwX4_init_37 : List UInt8 := [181, 0, 43, 42, 17, 1, 145, 188, 10, 181, 0, 46, 42, 17, 1, 145, 188, 10, 181, 0, 49, 42, 16, 12]
abbrev dktX4_init_37 : List UInt8 := dkwX4_init_37 ++ dktX4_init_38
def dkwX4_init_36 : List UInt8 := [188, 8, 181, 0, 34, 42, 8, 188, 10, 181, 0, 37, 42, 2, 181, 0, 40, 42, 17, 1, 145, 188, 10]
abbrev dktX4_init_36 : List UInt8 := dkwX4_init_36 ++ dktX4_init_37
def dkwX4_init_35 : List UInt8 := [16, 110, 84, 89, 17, 0, 132, 16, 100, 84, 89, 17, 0, 133, 16, 32, 84, 181, 0, 30, 42, 17, 1, 144]
abbrev dktX4_init_35 : List UInt8 := dkwX4_init_35 ++ dktX4_init_36
def dkwX4_init_34 : List UInt8 := [17, 0, 128, 16, 32, 84, 89, 17, 0, 129, 16, 104, 84, 89, 17, 0, 130, 16, 97, 84, 89, 17, 0, 131]
abbrev dktX4_init_34 : List UInt8 := dkwX4_init_34 ++ dktX4_init_35
def dkwX4_init_33 : List UInt8 := [16, 124, 16, 111, 84, 89, 16, 125, 16, 112, 84, 89, 16, 126, 16, 101, 84, 89, 16, 127, 16, 110, 84, 89]
abbrev dktX4_init_33 : List UInt8 := dkwX4_init_33 ++ dktX4_init_34
def dkwX4_init_32 : List UInt8 := [16, 120, 16, 97, 84, 89, 16, 121, 16, 99, 84, 89, 16, 122, 16, 101, 84, 89, 16, 123, 16, 32, 84, 89]
abbrev dktX4_init_32 : List UInt8 := dkwX4_init_32 ++ dktX4_init_33
def dkwX4_init_31 : List UInt8 := [16, 116, 16, 101, 84, 89, 16, 117, 16, 32, 84, 89, 16, 118, 16, 112, 84, 89, 16, 119, 16, 108, 84, 89]
abbrev dktX4_init_31 : List UInt8 := dkwX4_init_31 ++ dktX4_init_32
def dkwX4_init_30 : List UInt8 := [16, 112, 16, 115, 84, 89, 16, 113, 16, 105, 84, 89, 16, 114, 16, 110, 84, 89, 16, 115, 16, 99, 84, 89]
abbrev dktX4_init_30 : List UInt8 := dkwX4_init_30 ++ dktX4_init_31
def dkwX4_init_29 : List UInt8 := [16, 108, 16, 116, 84, 89, 16, 109, 16, 101, 84, 89, 16, 110, 16, 115, 84, 89, 16, 111, 16, 32, 84, 89]
abbrev dktX4_init_29 : List UInt8 := dkwX4_init_29 ++ dktX4_init_30
def dkwX4_init_28 : List UInt8 := [16, 104, 16, 109, 84, 89, 16, 105, 16, 105, 84, 89, 16, 106, 16, 110, 84, 89, 16, 107, 16, 117, 84, 89]
abbrev dktX4_init_28 : List UInt8 := dkwX4_init_28 ++ dktX4_init_29
def dkwX4_init_27 : List UInt8 := [16, 100, 16, 101, 84, 89, 16, 101, 16, 97, 84, 89, 16, 102, 16, 116, 84, 89, 16, 103, 16, 32, 84, 89]
abbrev dktX4_init_27 : List UInt8 := dkwX4_init_27 ++ dktX4_init_28
def dkwX4_init_26 : List UInt8 := [16, 96, 16, 114, 84, 89, 16, 97, 16, 116, 84, 89, 16, 98, 16, 32, 84, 89, 16, 99, 16, 104, 84, 89]
abbrev dktX4_init_26 : List UInt8 := dkwX4_init_26 ++ dktX4_init_27
def dkwX4_init_25 : List UInt8 := [16, 92, 16, 104, 84, 89, 16, 93, 16, 32, 84, 89, 16, 94, 16, 115, 84, 89, 16, 95, 16, 111, 84, 89]
abbrev dktX4_init_25 : List UInt8 := dkwX4_init_25 ++ dktX4_init_26
def dkwX4_init_24 : List UInt8 := [16, 88, 16, 98, 84, 89, 16, 89, 16, 114, 84, 89, 16, 90, 16, 111, 84, 89, 16, 91, 16, 116, 84, 89]
abbrev dktX4_init_24 : List UInt8 := dkwX4_init_24 ++ dktX4_init_25
def dkwX4_init_23 : List UInt8 := [16, 84, 16, 97, 84, 89, 16, 85, 16, 105, 84, 89, 16, 86, 16, 114, 84, 89, 16, 87, 16, 32, 84, 89]
abbrev dktX4_init_23 : List UInt8 := dkwX4_init_23 ++ dktX4_init_24
def dkwX4_init_22 : List UInt8 := [16, 80, 16, 112, 84, 89, 16, 81, 16, 101, 84, 89, 16, 82, 16, 100, 84, 89, 16, 83, 16, 32, 84, 89]
abbrev dktX4_init_22 : List UInt8 := dkwX4_init_22 ++ dktX4_init_23
def dkwX4_init_21 : List UInt8 := [16, 76, 16, 32, 84, 89, 16, 77, 16, 116, 84, 89, 16, 78, 16, 105, 84, 89, 16, 79, 16, 112, 84, 89]
abbrev dktX4_init_21 : List UInt8 := dkwX4_init_21 ++ dktX4_init_22
def dkwX4_init_20 : List UInt8 := [16, 72, 16, 118, 84, 89, 16, 73, 16, 105, 84, 89, 16, 74, 16, 110, 84, 89, 16, 75, 16, 103, 84, 89]
abbrev dktX4_init_20 : List UInt8 := dkwX4_init_20 ++ dktX4_init_21
def dkwX4_init_19 : List UInt8 := [16, 68, 16, 121, 84, 89, 16, 69, 16, 32, 84, 89, 16, 70, 16, 108, 84, 89, 16, 71, 16, 105, 84, 89]
abbrev dktX4_init_19 : List UInt8 := dkwX4_init_19 ++ dktX4_init_20
def dkwX4_init_18 : List UInt8 := [16, 64, 16, 114, 84, 89, 16, 65, 16, 99, 84, 89, 16, 66, 16, 117, 84, 89, 16, 67, 16, 114, 84, 89]
abbrev dktX4_init_18 : List UInt8 := dkwX4_init_18 ++ dktX4_init_19
def dkwX4_init_17 : List UInt8 := [16, 60, 16, 100, 84, 89, 16, 61, 16, 32, 84, 89, 16, 62, 16, 109, 84, 89, 16, 63, 16, 101, 84, 89]
abbrev dktX4_init_17 : List UInt8 := dkwX4_init_17 ++ dktX4_init_18
def dkwX4_init_16 : List UInt8 := [16, 56, 16, 117, 84, 89, 16, 57, 16, 103, 84, 89, 16, 58, 16, 103, 84, 89, 16, 59, 16, 101, 84, 89]
abbrev dktX4_init_16 : List UInt8 := dkwX4_init_16 ++ dktX4_init_17
def dkwX4_init_15 : List UInt8 := [16, 52, 16, 100, 84, 89, 16, 53, 16, 32, 84, 89, 16, 54, 16, 112, 84, 89, 16, 55, 16, 108, 84, 89]
abbrev dktX4_init_15 : List UInt8 := dkwX4_init_15 ++ dktX4_init_16
def dkwX4_init_14 : List UInt8 := [16, 48, 16, 101, 84, 89, 16, 49, 16, 97, 84, 89, 16, 50, 16, 108, 84, 89, 16, 51, 16, 101, 84, 89]
abbrev dktX4_init_14 : List UInt8 := dkwX4_init_14 ++ dktX4_init_15
def dkwX4_init_13 : List UInt8 := [16, 44, 16, 97, 84, 89, 16, 45, 16, 110, 84, 89, 16, 46, 16, 32, 84, 89, 16, 47, 16, 115, 84, 89]
abbrev dktX4_init_13 : List UInt8 := dkwX4_init_13 ++ dktX4_init_14
def dkwX4_init_12 : List UInt8 := [16, 40, 16, 116, 84, 89, 16, 41, 16, 32, 84, 89, 16, 42, 16, 115, 84, 89, 16, 43, 16, 119, 84, 89]
abbrev dktX4_init_12 : List UInt8 := dkwX4_init_12 ++ dktX4_init_13
def dkwX4_init_11 : List UInt8 := [16, 36, 16, 100, 84, 89, 16, 37, 16, 32, 84, 89, 16, 38, 16, 110, 84, 89, 16, 39, 16, 111, 84, 89]
abbrev dktX4_init_11 : List UInt8 := dkwX4_init_11 ++ dktX4_init_12
def dkwX4_init_10 : List UInt8 := [16, 32, 16, 114, 84, 89, 16, 33, 16, 32, 84, 89, 16, 34, 16, 97, 84, 89, 16, 35, 16, 110, 84, 89]
abbrev dktX4_init_10 : List UInt8 := dkwX4_init_10 ++ dktX4_init_11
def dkwX4_init_9 : List UInt8 := [16, 28, 16, 105, 84, 89, 16, 29, 16, 102, 84, 89, 16, 30, 16, 32, 84, 89, 16, 31, 16, 111, 84, 89]
abbrev dktX4_init_9 : List UInt8 := dkwX4_init_9 ++ dktX4_init_10
def dkwX4_init_8 : List UInt8 := [16, 24, 16, 97, 84, 89, 16, 25, 16, 105, 84, 89, 16, 26, 16, 114, 84, 89, 16, 27, 16, 32, 84, 89]
abbrev dktX4_init_8 : List UInt8 := dkwX4_init_8 ++ dktX4_init_9
def dkwX4_init_7 : List UInt8 := [16, 20, 16, 118, 84, 89, 16, 21, 16, 101, 84, 89, 16, 22, 16, 32, 84, 89, 16, 23, 16, 102, 84, 89]
abbrev dktX4_init_7 : List UInt8 := dkwX4_init_7 ++ dktX4_init_8
def dkwX4_init_6 : List UInt8 := [16, 16, 16, 115, 84, 89, 16, 17, 16, 32, 84, 89, 16, 18, 16, 115, 84, 89, 16, 19, 16, 97, 84, 89]
abbrev dktX4_init_6 : List UInt8 := dkwX4_init_6 ++ dktX4_init_7
def dkwX4_init_5 : List UInt8 := [16, 12, 16, 32, 84, 89, 16, 13, 16, 111, 84, 89, 16, 14, 16, 100, 84, 89, 16, 15, 16, 100, 84, 89]
abbrev dktX4_init_5 : List UInt8 := dkwX4_init_5 ++ dktX4_init_6
def dkwX4_init_4 : List UInt8 := [16, 8, 16, 114, 84, 89, 16, 9, 16, 110, 84, 89, 16, 10, 16, 101, 84, 89, 16, 11, 16, 100, 84, 89]
abbrev dktX4_init_4 : List UInt8 := dkwX4_init_4 ++ dktX4_init_5
def dkwX4_init_3 : List UInt8 := [84, 89, 7, 16, 114, 84, 89, 8, 16, 32, 84, 89, 16, 6, 16, 116, 84, 89, 16, 7, 16, 117, 84, 89]
abbrev dktX4_init_3 : List UInt8 := dkwX4_init_3 ++ dktX4_init_4
def dkwX4_init_2 : List UInt8 := [17, 0, 134, 188, 8, 89, 3, 16, 99, 84, 89, 4, 16, 108, 84, 89, 5, 16, 101, 84, 89, 6, 16, 97]
abbrev dktX4_init_2 : List UInt8 := dkwX4_init_2 ++ dktX4_init_3
def dkwX4_init_1 : List UInt8 := [17, 88, 212, 188, 10, 181, 0, 20, 42, 5, 188, 4, 181, 0, 23, 42, 16, 9, 188, 10, 181, 0, 27, 42]
abbrev dktX4_init_1 : List UInt8 := dkwX4_init_1 ++ dktX4_init_2
def dkwX4_init_0 : List UInt8 := [42, 183, 0, 11, 42, 16, 7, 188, 10, 181, 0, 7, 42, 17, 44, 106, 188, 10, 181, 0, 17, 42]
abbrev dktX4_init_0 : List UInt8 := dkwX4_init_0 ++ dktX4_init_1
theorem dksX4_init_0 : cX4_init.data.toList.drop 0 = dktX4_init_0 := by decide +kernel
theorem dksX4_init_1 : cX4_init.data.toList.drop 22 = dktX4_init_1 := dk_seg dksX4_init_0 22 rfl rfl
theorem dksX4_init_2 : cX4_init.data.toList.drop 46 = dktX4_init_2 := dk_seg dksX4_init_1 24 rfl rfl
theorem dksX4_init_3 : cX4_init.data.toList.drop 70 = dktX4_init_3 := dk_seg dksX4_init_2 24 rfl rfl
theorem dksX4_init_4 : cX4_init.data.toList.drop 94 = dktX4_init_4 := dk_seg dksX4_init_3 24 rfl rfl
theorem dksX4_init_5 : cX4_init.data.toList.drop 118 = dktX4_init_5 := dk_seg dksX4_init_4 24 rfl rfl
theorem dksX4_init_6 : cX4_init.data.toList.drop 142 = dktX4_init_6 := dk_seg dksX4_init_5 24 rfl rfl
theorem dksX4_init_7 : cX4_init.data.toList.drop 166 = dktX4_init_7 := dk_seg dksX4_init_6 24 rfl rfl
theorem dksX4_init_8 : cX4_init.data.toList.drop 190 = dktX4_init_8 := dk_seg dksX4_init_7 24 rfl rfl
theorem dksX4_init_9 : cX4_init.data.toList.drop 214 = dktX4_init_9 := dk_seg dksX4_init_8 24 rfl rfl
theorem dksX4_init_10 : cX4_init.data.toList.drop 238 = dktX4_init_10 := dk_seg dksX4_init_9 24 rfl rfl
theorem dksX4_init_11 : cX4_init.data.toList.drop 262 = dktX4_init_11 := dk_seg dksX4_init_10 24 rfl rfl
theorem dksX4_init_12 : cX4_init.data.toList.drop 286 = dktX4_init_12 := dk_seg dksX4_init_11 24 rfl rfl
theorem dksX4_init_13 : cX4_init.data.toList.drop 310 = dktX4_init_13 := dk_seg dksX4_init_12 24 rfl rfl
theorem dksX4_init_14 : cX4_init.data.toList.drop 334 = dktX4_init_14 := dk_seg dksX4_init_13 24 rfl rfl
theorem dksX4_init_15 : cX4_init.data.toList.drop 358 = dktX4_init_15 := dk_seg dksX4_init_14 24 rfl rfl
theorem dksX4_init_16 : cX4_init.data.toList.drop 382 = dktX4_init_16 := dk_seg dksX4_init_15 24 rfl rfl
theorem dksX4_init_17 : cX4_init.data.toList.drop 406 = dktX4_init_17 := dk_seg dksX4_init_16 24 rfl rfl
theorem dksX4_init_18 : cX4_init.data.toList.drop 430 = dktX4_init_18 := dk_seg dksX4_init_17 24 rfl rfl
theorem dksX4_init_19 : cX4_init.data.toList.drop 454 = dktX4_init_19 := dk_seg dksX4_init_18 24 rfl rfl
theorem dksX4_init_20 : cX4_init.data.toList.drop 478 = dktX4_init_20 := dk_seg dksX4_init_19 24 rfl rfl
theorem dksX4_init_21 : cX4_init.data.toList.drop 502 = dktX4_init_21 := dk_seg dksX4_init_20 24 rfl rfl
theorem dksX4_init_22 : cX4_init.data.toList.drop 526 = dktX4_init_22 := dk_seg dksX4_init_21 24 rfl rfl
theorem dksX4_init_23 : cX4_init.data.toList.drop 550 = dktX4_init_23 := dk_seg dksX4_init_22 24 rfl rfl
theorem dksX4_init_24 : cX4_init.data.toList.drop 574 = dktX4_init_24 := dk_seg dksX4_init_23 24 rfl rfl
theorem dksX4_init_25 : cX4_init.data.toList.drop 598 = dktX4_init_25 := dk_seg dksX4_init_24 24 rfl rfl
theorem dksX4_init_26 : cX4_init.data.toList.drop 622 = dktX4_init_26 := dk_seg dksX4_init_25 24 rfl rfl
theorem dksX4_init_27 : cX4_init.data.toList.drop 646 = dktX4_init_27 := dk_seg dksX4_init_26 24 rfl rfl
theorem dksX4_init_28 : cX4_init.data.toList.drop 670 = dktX4_init_28 := dk_seg dksX4_init_27 24 rfl rfl
theorem dksX4_init_29 : cX4_init.data.toList.drop 694 = dktX4_init_29 := dk_seg dksX4_init_28 24 rfl rfl
theorem dksX4_init_30 : cX4_init.data.toList.drop 718 = dktX4_init_30 := dk_seg dksX4_init_29 24 rfl rfl
theorem dksX4_init_31 : cX4_init.data.toList.drop 742 = dktX4_init_31 := dk_seg dksX4_init_30 24 rfl rfl
theorem dksX4_init_32 : cX4_init.data.toList.drop 766 = dktX4_init_32 := dk_seg dksX4_init_31 24 rfl rfl
theorem dksX4_init_33 : cX4_init.data.toList.drop 790 = dktX4_init_33 := dk_seg dksX4_init_32 24 rfl rfl
theorem dksX4_init_34 : cX4_init.data.toList.drop 814 = dktX4_init_34 := dk_seg dksX4_init_33 24 rfl rfl
theorem dksX4_init_35 : cX4_init.data.toList.drop 838 = dktX4_init_35 := dk_seg dksX4_init_34 24 rfl rfl
theorem dksX4_init_36 : cX4_init.data.toList.drop 862 = dktX4_init_36 := dk_seg dksX4_init_35 24 rfl rfl
theorem dksX4_init_37 : cX4_init.data.toList.drop 885 = dktX4_init_37 := dk_seg dksX4_init_36 23 rfl rfl
theorem dksX4_init_38 : cX4_init.data.toList.drop 909 = dktX4_init_38 := dk_seg dksX4_init_37 24 rfl rfl
theorem dksX4_init_39 : cX4_init.data.toList.drop 931 = dktX4_init_39 := dk_seg dksX4_init_38 22 rfl rfl
theorem dksX4_init_40 : cX4_init.data.toList.drop 953 = dktX4_init_40 := dk_seg dksX4_init_39 22 rfl rfl
theorem dksX4_init_41 : cX4_init.data.toList.drop 977 = dktX4_init_41 := dk_seg dksX4_init_40 24 rfl rfl
theorem dksX4_init_42 : cX4_init.data.toList.drop 1001 = dktX4_init_42 := dk_seg dksX4_init_41 24 rfl rfl
theorem dX4_init_0 : decode cX4_init 0 = .ok (.aload_n 0, 1) := dk_42 (dk_at dksX4_init_0 0 rfl rfl)
theorem dX4_init_1 : decode cX4_init 1 = .ok (.invokespecial 11, 3) := dk_183 0 11 (dk_at dksX4_init_0 1 rfl rfl)
theorem dX4_init_4 : decode cX4_init 4 = .ok (.aload_n 0, 1) := dk_42 (dk_at dksX4_init_0 4 rfl rfl)
theorem dX4_init_5 : decode cX4_init 5 = .ok (.bipush 7, 2) := dk_16 7 (dk_at dksX4_init_0 5 rfl rfl)
theorem dX4_init_7 : decode cX4_init 7 = .ok (.newarray .int, 2) := dk_188_10 (dk_at dksX4_init_0 7 rfl rfl)
theorem dX4_init_9 : decode cX4_init 9 = .ok (.putfield 7, 3) := dk_181 0 7 (dk_at dksX4_init_0 9 rfl rfl)
theorem dX4_init_12 : decode cX4_init 12 = .ok (.aload_n 0, 1) := dk_42 (dk_at dksX4_init_0 12 rfl rfl)
theorem dX4_init_13 : decode cX4_init 13 = .ok (.sipush 11370, 3) := dk_17 44 106 (dk_at dksX4_init_0 13 rfl rfl)
theorem dX4_init_16 : decode cX4_init 16 = .ok (.newarray .int, 2) := dk_188_10 (dk_at dksX4_init_0 16 rfl rfl)
theorem dX4_init_18 : decode cX4_init 18 = .ok (.putfield 17, 3) := dk_181 0 17 (dk_at dksX4_init_0 18 rfl rfl)
theorem dX4_init_21 : decode cX4_init 21 = .ok (.aload_n 0, 1) := dk_42 (dk_at dksX4_init_0 21 rfl rfl)
theorem dX4_init_22 : decode cX4_init 22 = .ok (.sipush 22740, 3) := dk_17 88 212 (dk_at dksX4_init_1 0 rfl rfl)
theorem dX4_init_25 : decode cX4_init 25 = .ok (.newarray .int, 2) := dk_188_10 (dk_at dksX4_init_1 3 rfl rfl)
theorem dX4_init_27 : decode cX4_init 27 = .ok (.putfield 20, 3) := dk_181 0 20 (dk_at dksX4_init_1 5 rfl rfl)
theorem dX4_init_30 : decode cX4_init 30 = .ok (.aload_n 0, 1) := dk_42 (dk_at dksX4_init_1 8 rfl rfl)
theorem dX4_init_31 : decode cX4_init 31 = .ok (.iconst 2, 1) := dk_5 (dk_at dksX4_init_1 9 rfl rfl)
theorem dX4_init_32 : decode cX4_init 32 = .ok (.newarray .boolean, 2) := dk_188_4 (dk_at dksX4_init_1 10 rfl rfl)
theorem dX4_init_34 : decode cX4_init 34 = .ok (.putfield 23, 3) := dk_181 0 23 (dk_at dksX4_init_1 12 rfl rfl)
theorem dX4_init_37 : decode cX4_init 37 = .ok (.aload_n 0, 1) := dk_42 (dk_at dksX4_init_1 15 rfl rfl)
theorem dX4_init_38 : decode cX4_init 38 = .ok (.bipush 9, 2) := dk_16 9 (dk_at dksX4_init_1 16 rfl rfl)
theorem dX4_init_40 : decode cX4_init 40 = .ok (.newarray .int, 2) := dk_188_10 (dk_at dksX4_init_1 18 rfl rfl)
theorem dX4_init_42 : decode cX4_init 42 = .ok (.putfield 27, 3) := dk_181 0 27 (dk_at dksX4_init_1 20 rfl rfl)
theorem dX4_init_45 : decode cX4_init 45 = .ok (.aload_n 0, 1) := dk_42 (dk_at dksX4_init_1 23 rfl rfl)
theorem dX4_init_46 : decode cX4_init 46 = .ok (.sipush 134, 3) := dk_17 0 134 (dk_at dksX4_init_2 0 rfl rfl)
theorem dX4_init_49 : decode cX4_init 49 = .ok (.newarray .byte, 2) := dk_188_8 (dk_at dksX4_init_2 3 rfl rfl)
theorem dX4_init_51 : decode cX4_init 51 = .ok (.dup, 1) := dk_89 (dk_at dksX4_init_2 5 rfl rfl)
theorem dX4_init_52 : decode cX4_init 52 = .ok (.iconst 0, 1) := dk_3 (dk_at dksX4_init_2 6 rfl rfl)
theorem dX4_init_53 : decode cX4_init 53 = .ok (.bipush 99, 2) := dk_16 99 (dk_at dksX4_init_2 7 rfl rfl)
theorem dX4_init_55 : decode cX4_init 55 = .ok (.bastore, 1) := dk_84 (dk_at dksX4_init_2 9 rfl rfl)
theorem dX4_init_56 : decode cX4_init 56 = .ok (.dup, 1) := dk_89 (dk_at dksX4_init_2 10 rfl rfl)
theorem dX4_init_57 : decode cX4_init 57 = .ok (.iconst 1, 1) := dk_4 (dk_at dksX4_init_2 11 rfl rfl)
theorem dX4_init_58 : decode cX4_init 58 = .ok (.bipush 108, 2) := dk_16 108 (dk_at dksX4_init_2 12 rfl rfl)
theorem dX4_init_60 : decode cX4_init 60 = .ok (.bastore, 1) := dk_84 (dk_at dksX4_init_2 14 rfl rfl)
theorem dX4_init_61 : decode cX4_init 61 = .ok (.dup, 1) := dk_89 (dk_at dksX4_init_2 15 rfl rfl)
theorem dX4_init_62 : decode cX4_init 62 = .ok (.iconst 2, 1) := dk_5 (dk_at dksX4_init_2 16 rfl rfl)
theorem dX4_init_63 : decode cX4_init 63 = .ok (.bipush 101, 2) := dk_16 101 (dk_at dksX4_init_2 17 rfl rfl)
theorem dX4_init_65 : decode cX4_init 65 = .ok (.bastore, 1) := dk_84 (dk_at dksX4_init_2 19 rfl rfl)
theorem dX4_init_66 : decode cX4_init 66 = .ok (.dup, 1) := dk_89 (dk_at dksX4_init_2 20 rfl rfl)
theorem dX4_init_67 : decode cX4_init 67 = .ok (.iconst 3, 1) := dk_6 (dk_at dksX4_init_2 21 rfl rfl)
theorem dX4_init_68 : decode cX4_init 68 = .ok (.bipush 97, 2) := dk_16 97 (dk_at dksX4_init_2 22 rfl rfl)
theorem dX4_init_70 : decode cX4_init 70 = .ok (.bastore, 1) := dk_84 (dk_at dksX4_init_3 0 rfl rfl)
theorem dX4_init_71 : decode cX4_init 71 = .ok (.dup, 1) := dk_89 (dk_at dksX4_init_3 1 rfl rfl)
theorem dX4_init_72 : decode cX4_init 72 = .ok (.iconst 4, 1) := dk_7 (dk_at dksX4_init_3 2 rfl rfl)
theorem dX4_init_73 : decode cX4_init 73 = .ok (.bipush 114, 2) := dk_16 114 (dk_at dksX4_init_3 3 rfl rfl)
theorem dX4_init_75 : decode cX4_init 75 = .ok (.bastore, 1) := dk_84 (dk_at dksX4_init_3 5 rfl rfl)
theorem dX4_init_76 : decode cX4_init 76 = .ok (.dup, 1) := dk_89 (dk_at dksX4_init_3 6 rfl rfl)
theorem dX4_init_77 : decode cX4_init 77 = .ok (.iconst 5, 1) := dk_8 (dk_at dksX4_init_3 7 rfl rfl)
theorem dX4_init_78 : decode cX4_init 78 = .ok (.bipush 32, 2) := dk_16 32 (dk_at dksX4_init_3 8 rfl rfl)
theorem dX4_init_80 : decode cX4_init 80 = .ok (.bastore, 1) := dk_84 (dk_at dksX4_init_3 10 rfl rfl)
theorem dX4_init_81 : decode cX4_init 81 = .ok (.dup, 1) := dk_89 (dk_at dksX4_init_3 11 rfl rfl)
theorem dX4_init_82 : decode cX4_init 82 = .ok (.bipush 6, 2) := dk_16 6 (dk_at dksX4_init_3 12 rfl rfl)
theorem dX4_init_84 : decode cX4_init 84 = .ok (.bipush 116, 2) := dk_16 116 (dk_at dksX4_init_3 14 rfl rfl)
theorem dX4_init_86 : decode cX4_init 86 = .ok (.bastore, 1) := dk_84 (dk_at dksX4_init_3 16 rfl rfl)
theorem dX4_init_87 : decode cX4_init 87 = .ok (.dup, 1) := dk_89 (dk_at dksX4_init_3 17 rfl rfl)
theorem dX4_init_88 : decode cX4_init 88 = .ok (.bipush 7, 2) := dk_16 7 (dk_at dksX4_init_3 18 rfl rfl)
theorem dX4_init_90 : decode cX4_init 90 = .ok (.bipush 117, 2) := dk_16 117 (dk_at dksX4_init_3 20 rfl rfl)
theorem dX4_init_92 : decode cX4_init 92 = .ok (.bastore, 1) := dk_84 (dk_at dksX4_init_3 22 rfl rfl)
theorem dX4_init_93 : decode cX4_init 93 = .ok (.dup, 1) := dk_89 (dk_at dksX4_init_3 23 rfl rfl)
theorem dX4_init_94 : decode cX4_init 94 = .ok (.bipush 8, 2) := dk_16 8 (dk_at dksX4_init_4 0 rfl rfl)
theorem dX4_init_96 : decode cX4_init 96 = .ok (.bipush 114, 2) := dk_16 114 (dk_at dksX4_init_4 2 rfl rfl)
theorem dX4_init_98 : decode cX4_init 98 = .ok (.bastore, 1) := dk_84 (dk_at dksX4_init_4 4 rfl rfl)
theorem dX4_init_99 : decode cX4_init 99 = .ok (.dup, 1) := dk_89 (dk_at dksX4_init_4 5 rfl rfl)
theorem dX4_init_100 : decode cX4_init 100 = .ok (.bipush 9, 2) := dk_16 9 (dk_at dksX4_init_4 6 rfl rfl)
theorem dX4_init_102 : decode cX4_init 102 = .ok (.bipush 110, 2) := dk_16 110 (dk_at dksX4_init_4 8 rfl rfl)
theorem dX4_init_104 : decode cX4_init 104 = .ok (.bastore, 1) := dk_84 (dk_at dksX4_init_4 10 rfl rfl)
theorem dX4_init_105 : decode cX4_init 105 = .ok (.dup, 1) := dk_89 (dk_at dksX4_init_4 11 rfl rfl)
theorem dX4_init_106 : decode cX4_init 106 = .ok (.bipush 10, 2) := dk_16 10 (dk_at dksX4_init_4 12 rfl rfl)
theorem dX4_init_108 : decode cX4_init 108 = .ok (.bipush 101, 2) := dk_16 101 (dk_at dksX4_init_4 14 rfl rfl)
theorem dX4_init_110 : decode cX4_init 110 = .ok (.bastore, 1) := dk_84 (dk_at dksX4_init_4 16 rfl rfl)
theorem dX4_init_111 : decode cX4_init 111 = .ok (.dup, 1) := dk_89 (dk_at dksX4_init_4 17 rfl rfl)
theorem dX4_init_112 : decode cX4_init 112 = .ok (.bipush 11, 2) := dk_16 11 (dk_at dksX4_init_4 18 rfl rfl)
theorem dX4_init_114 : decode cX4_init 114 = .ok (.bipush 100, 2) := dk_16 100 (dk_at dksX4_init_4 20 rfl rfl)
theorem dX4_init_116 : decode cX4_init 116 = .ok (.bastore, 1) := dk_84 (dk_at dksX4_init_4 22 rfl rfl)
theorem dX4_init_117 : decode cX4_init 117 = .ok (.dup, 1) := dk_89 (dk_at dksX4_init_4 23 rfl rfl)
theorem dX4_init_118 : decode cX4_init 118 = .ok (.bipush 12, 2) := dk_16 12 (dk_at dksX4_init_5 0 rfl rfl)
theorem dX4_init_120 : decode cX4_init 120 = .ok (.bipush 32, 2) := dk_16 32 (dk_at dksX4_init_5 2 rfl rfl)
theorem dX4_init_122 : decode cX4_init 122 = .ok (.bastore, 1) := dk_84 (dk_at dksX4_init_5 4 rfl rfl)
theorem dX4_init_123 : decode cX4_init 123 = .ok (.dup, 1) := dk_89 (dk_at dksX4_init_5 5 rfl rfl)
theorem dX4_init_124 : decode cX4_init 124 = .ok (.bipush 13, 2) := dk_16 13 (dk_at dksX4_init_5 6 rfl rfl)
theorem dX4_init_126 : decode cX4_init 126 = .ok (.bipush 111, 2) := dk_16 111 (dk_at dksX4_init_5 8 rfl rfl)
theorem dX4_init_128 : decode cX4_init 128 = .ok (.bastore, 1) := dk_84 (dk_at dksX4_init_5 10 rfl rfl)
theorem dX4_init_129 : decode cX4_init 129 = .ok (.dup, 1) := dk_89 (dk_at dksX4_init_5 11 rfl rfl)
theorem dX4_init_130 : decode cX4_init 130 = .ok (.bipush 14, 2) := dk_16 14 (dk_at dksX4_init_5 12 rfl rfl)
theorem dX4_init_132 : decode cX4_init 132 = .ok (.bipush 100, 2) := dk_16 100 (dk_at dksX4_init_5 14 rfl rfl)
theorem dX4_init_134 : decode cX4_init 134 = .ok (.bastore, 1) := dk_84 (dk_at dksX4_init_5 16 rfl rfl)
theorem dX4_init_135 : decode cX4_init 135 = .ok (.dup, 1) := dk_89 (dk_at dksX4_init_5 17 rfl rfl)
theorem dX4_init_136 : decode cX4_init 136 = .ok (.bipush 15, 2) := dk_16 15 (dk_at dksX4_init_5 18 rfl rfl)
theorem dX4_init_138 : decode cX4_init 138 = .ok (.bipush 100, 2) := dk_16 100 (dk_at dksX4_init_5 20 rfl rfl)
theorem dX4_init_140 : decode cX4_init 140 = .ok (.bastore, 1) := dk_84 (dk_at dksX4_init_5 22 rfl rfl)
theorem dX4_init_141 : decode cX4_init 141 = .ok (.dup, 1) := dk_89 (dk_at dksX4_init_5 23 rfl rfl)
theorem dX4_init_142 : decode cX4_init 142 = .ok (.bipush 16, 2) := dk_16 16 (dk_at dksX4_init_6 0 rfl rfl)
theorem dX4_init_144 : decode cX4_init 144 = .ok (.bipush 115, 2) := dk_16 115 (dk_at dksX4_init_6 2 rfl rfl)
theorem dX4_init_146 : decode cX4_init 146 = .ok (.bastore, 1) := dk_84 (dk_at dksX4_init_6 4 rfl rfl)
theorem dX4_init_147 : decode cX4_init 147 = .ok (.dup, 1) := dk_89 (dk_at dksX4_init_6 5 rfl rfl)
theorem dX4_init_148 : decode cX4_init 148 = .ok (.bipush 17, 2) := dk_16 17 (dk_at dksX4_init_6 6 rfl rfl)
theorem dX4_init_150 : decode cX4_init 150 = .ok (.bipush 32, 2) := dk_16 32 (dk_at dksX4_init_6 8 rfl rfl)
theorem dX4_init_152 : decode cX4_init 152 = .ok (.bastore, 1) := dk_84 (dk_at dksX4_init_6 10 rfl rfl)
theorem dX4_init_153 : decode cX4_init 153 = .ok (.dup, 1) := dk_89 (dk_at dksX4_init_6 11 rfl rfl)
theorem dX4_init_154 : decode cX4_init 154 = .ok (.bipush 18, 2) := dk_16 18 (dk_at dksX4_init_6 12 rfl rfl)
theorem dX4_init_156 : decode cX4_init 156 = .ok (.bipush 115, 2) := dk_16 115 (dk_at dksX4_init_6 14 rfl rfl)
theorem dX4_init_158 : decode cX4_init 158 = .ok (.bastore, 1) := dk_84 (dk_at dksX4_init_6 16 rfl rfl)
theorem dX4_init_159 : decode cX4_init 159 = .ok (.dup, 1) := dk_89 (dk_at dksX4_init_6 17 rfl rfl)
theorem dX4_init_160 : decode cX4_init 160 = .ok (.bipush 19, 2) := dk_16 19 (dk_at dksX4_init_6 18 rfl rfl)
theorem dX4_init_162 : decode cX4_init 162 = .ok (.bipush 97, 2) := dk_16 97 (dk_at dksX4_init_6 20 rfl rfl)
theorem dX4_init_164 : decode cX4_init 164 = .ok (.bastore, 1) := dk_84 (dk_at dksX4_init_6 22 rfl rfl)
theorem dX4_init_165 : decode cX4_init 165 = .ok (.dup, 1) := dk_89 (dk_at dksX4_init_6 23 rfl rfl)
theorem dX4_init_166 : decode cX4_init 166 = .ok (.bipush 20, 2) := dk_16 20 (dk_at dksX4_init_7 0 rfl rfl)
theorem dX4_init_168 : decode cX4_init 168 = .ok (.bipush 118, 2) := dk_16 118 (dk_at dksX4_init_7 2 rfl rfl)
theorem dX4_init_170 : decode cX4_init 170 = .ok (.bastore, 1) := dk_84 (dk_at dksX4_init_7 4 rfl rfl)
theorem dX4_init_171 : decode cX4_init 171 = .ok (.dup, 1) := dk_89 (dk_at dksX4_init_7 5 rfl rfl)
theorem dX4_init_172 : decode cX4_init 172 = .ok (.bipush 21, 2) := dk_16 21 (dk_at dksX4_init_7 6 rfl rfl)
theorem dX4_init_174 : decode cX4_init 174 = .ok (.bipush 101, 2) := dk_16 101 (dk_at dksX4_init_7 8 rfl rfl)
theorem dX4_init_176 : decode cX4_init 176 = .ok (.bastore, 1) := dk_84 (dk_at dksX4_init_7 10 rfl rfl)
theorem dX4_init_177 : decode cX4_init 177 = .ok (.dup, 1) := dk_89 (dk_at dksX4_init_7 11 rfl rfl)
theorem dX4_init_178 : decode cX4_init 178 = .ok (.bipush 22, 2) := dk_16 22 (dk_at dksX4_init_7 12 rfl rfl)
theorem dX4_init_180 : decode cX4_init 180 = .ok (.bipush 32, 2) := dk_16 32 (dk_at dksX4_init_7 14 rfl rfl)
theorem dX4_init_182 : decode cX4_init 182 = .ok (.bastore, 1) := dk_84 (dk_at dksX4_init_7 16 rfl rfl)
theorem dX4_init_183 : decode cX4_init 183 = .ok (.dup, 1) := dk_89 (dk_at dksX4_init_7 17 rfl rfl)
theorem dX4_init_184 : decode cX4_init 184 = .ok (.bipush 23, 2) := dk_16 23 (dk_at dksX4_init_7 18 rfl rfl)
theorem dX4_init_186 : decode cX4_init 186 = .ok (.bipush 102, 2) := dk_16 102 (dk_at dksX4_init_7 20 rfl rfl)
theorem dX4_init_188 : decode cX4_init 188 = .ok (.bastore, 1) := dk_84 (dk_at dksX4_init_7 22 rfl rfl)
theorem dX4_init_189 : decode cX4_init 189 = .ok (.dup, 1) := dk_89 (dk_at dksX4_init_7 23 rfl rfl)
theorem dX4_init_190 : decode cX4_init 190 = .ok (.bipush 24, 2) := dk_16 24 (dk_at dksX4_init_8 0 rfl rfl)
theorem dX4_init_192 : decode cX4_init 192 = .ok (.bipush 97, 2) := dk_16 97 (dk_at dksX4_init_8 2 rfl rfl)
theorem dX4_init_194 : decode cX4_init 194 = .ok (.bastore, 1) := dk_84 (dk_at dksX4_init_8 4 rfl rfl)
theorem dX4_init_195 : decode cX4_init 195 = .ok (.dup, 1) := dk_89 (dk_at dksX4_init_8 5 rfl rfl)
theorem dX4_init_196 : decode cX4_init 196 = .ok (.bipush 25, 2) := dk_16 25 (dk_at dksX4_init_8 6 rfl rfl)
theorem dX4_init_198 : decode cX4_init 198 = .ok (.bipush 105, 2) := dk_16 105 (dk_at dksX4_init_8 8 rfl rfl)
theorem dX4_init_200 : decode cX4_init 200 = .ok (.bastore, 1) := dk_84 (dk_at dksX4_init_8 10 rfl rfl)
theorem dX4_init_201 : decode cX4_init 201 = .ok (.dup, 1) := dk_89 (dk_at dksX4_init_8 11 rfl rfl)
theorem dX4_init_202 : decode cX4_init 202 = .ok (.bipush 26, 2) := dk_16 26 (dk_at dksX4_init_8 12 rfl rfl)
theorem dX4_init_204 : decode cX4_init 204 = .ok (.bipush 114, 2) := dk_16 114 (dk_at dksX4_init_8 14 rfl rfl)
theorem dX4_init_206 : decode cX4_init 206 = .ok (.bastore, 1) := dk_84 (dk_at dksX4_init_8 16 rfl rfl)
theorem dX4_init_207 : decode cX4_init 207 = .ok (.dup, 1) := dk_89 (dk_at dksX4_init_8 17 rfl rfl)
theorem dX4_init_208 : decode cX4_init 208 = .ok (.bipush 27, 2) := dk_16 27 (dk_at dksX4_init_8 18 rfl rfl)
theorem dX4_init_210 : decode cX4_init 210 = .ok (.bipush 32, 2) := dk_16 32 (dk_at dksX4_init_8 20 rfl rfl)
theorem dX4_init_212 : decode cX4_init 212 = .ok (.bastore, 1) := dk_84 (dk_at dksX4_init_8 22 rfl rfl)
theorem dX4_init_213 : decode cX4_init 213 = .ok (.dup, 1) := dk_89 (dk_at dksX4_init_8 23 rfl rfl)
theorem dX4_init_214 : decode cX4_init 214 = .ok (.bipush 28, 2) := dk_16 28 (dk_at dksX4_init_9 0 rfl rfl)
theorem dX4_init_216 : decode cX4_init 216 = .ok (.bipush 105, 2) := dk_16 105 (dk_at dksX4_init_9 2 rfl rfl)
theorem dX4_init_218 : decode cX4_init 218 = .ok (.bastore, 1) := dk_84 (dk_at dksX4_init_9 4 rfl rfl)
theorem dX4_init_219 : decode cX4_init 219 = .ok (.dup, 1) := dk_89 (dk_at dksX4_init_9 5 rfl rfl)
theorem dX4_init_220 : decode cX4_init 220 = .ok (.bipush 29, 2) := dk_16 29 (dk_at dksX4_init_9 6 rfl rfl)
theorem dX4_init_222 : decode cX4_init 222 = .ok (.bipush 102, 2) := dk_16 102 (dk_at dksX4_init_9 8 rfl rfl)
theorem dX4_init_224 : decode cX4_init 224 = .ok (.bastore, 1) := dk_84 (dk_at dksX4_init_9 10 rfl rfl)
theorem dX4_init_225 : decode cX4_init 225 = .ok (.dup, 1) := dk_89 (dk_at dksX4_init_9 11 rfl rfl)
theorem dX4_init_226 : decode cX4_init 226 = .ok (.bipush 30, 2) := dk_16 30 (dk_at dksX4_init_9 12 rfl rfl)
theorem dX4_init_228 : decode cX4_init 228 = .ok (.bipush 32, 2) := dk_16 32 (dk_at dksX4_init_9 14 rfl rfl)
theorem dX4_init_230 : decode cX4_init 230 = .ok (.bastore, 1) := dk_84 (dk_at dksX4_init_9 16 rfl rfl)
theorem dX4_init_231 : decode cX4_init 231 = .ok (.dup, 1) := dk_89 (dk_at dksX4_init_9 17 rfl rfl)
theorem dX4_init_232 : decode cX4_init 232 = .ok (.bipush 31, 2) := dk_16 31 (dk_at dksX4_init_9 18 rfl rfl)
theorem dX4_init_234 : decode cX4_init 234 = .ok (.bipush 111, 2) := dk_16 111 (dk_at dksX4_init_9 20 rfl rfl)
theorem dX4_init_236 : decode cX4_init 236 = .ok (.bastore, 1) := dk_84 (dk_at dksX4_init_9 22 rfl rfl)
theorem dX4_init_237 : decode cX4_init 237 = .ok (.dup, 1) := dk_89 (dk_at dksX4_init_9 23 rfl rfl)
theorem dX4_init_238 : decode cX4_init 238 = .ok (.bipush 32, 2) := dk_16 32 (dk_at dksX4_init_10 0 rfl rfl)
theorem dX4_init_240 : decode cX4_init 240 = .ok (.bipush 114, 2) := dk_16 114 (dk_at dksX4_init_10 2 rfl rfl)
theorem dX4_init_242 : decode cX4_init 242 = .ok (.bastore, 1) := dk_84 (dk_at dksX4_init_10 4 rfl rfl)
theorem dX4_init_243 : decode cX4_init 243 = .ok (.dup, 1) := dk_89 (dk_at dksX4_init_10 5 rfl rfl)
theorem dX4_init_244 : decode cX4_init 244 = .ok (.bipush 33, 2) := dk_16 33 (dk_at dksX4_init_10 6 rfl rfl)
theorem dX4_init_246 : decode cX4_init 246 = .ok (.bipush 32, 2) := dk_16 32 (dk_at dksX4_init_10 8 rfl rfl)
theorem dX4_init_248 : decode cX4_init 248 = .ok (.bastore, 1) := dk_84 (dk_at dksX4_init_10 10 rfl rfl)
theorem dX4_init_249 : decode cX4_init 249 = .ok (.dup, 1) := dk_89 (dk_at dksX4_init_10 11 rfl rfl)
theorem dX4_init_250 : decode cX4_init 250 = .ok (.bipush 34, 2) := dk_16 34 (dk_at dksX4_init_10 12 rfl rfl)
theorem dX4_init_252 : decode cX4_init 252 = .ok (.bipush 97, 2) := dk_16 97 (dk_at dksX4_init_10 14 rfl rfl)
theorem dX4_init_254 : decode cX4_init 254 = .ok (.bastore, 1) := dk_84 (dk_at dksX4_init_10 16 rfl rfl)
theorem dX4_init_255 : decode cX4_init 255 = .ok (.dup, 1) := dk_89 (dk_at dksX4_init_10 17 rfl rfl)
theorem dX4_init_256 : decode cX4_init 256 = .ok (.bipush 35, 2) := dk_16 35 (dk_at dksX4_init_10 18 rfl rfl)
theorem dX4_init_258 : decode cX4_init 258 = .ok (.bipush 110, 2) := dk_16 110 (dk_at dksX4_init_10 20 rfl rfl)
theorem dX4_init_260 : decode cX4_init 260 = .ok (.bastore, 1) := dk_84 (dk_at dksX4_init_10 22 rfl rfl)
theorem dX4_init_261 : decode cX4_init 261 = .ok (.dup, 1) := dk_89 (dk_at dksX4_init_10 23 rfl rfl)
theorem dX4_init_262 : decode cX4_init 262 = .ok (.bipush 36, 2) := dk_16 36 (dk_at dksX4_init_11 0 rfl rfl)
theorem dX4_init_264 : decode cX4_init 264 = .ok (.bipush 100, 2) := dk_16 100 (dk_at dksX4_init_11 2 rfl rfl)
theorem dX4_init_266 : decode cX4_init 266 = .ok (.bastore, 1) := dk_84 (dk_at dksX4_init_11 4 rfl rfl)
theorem dX4_init_267 : decode cX4_init 267 = .ok (.dup, 1) := dk_89 (dk_at dksX4_init_11 5 rfl rfl)
theorem dX4_init_268 : decode cX4_init 268 = .ok (.bipush 37, 2) := dk_16 37 (dk_at dksX4_init_11 6 rfl rfl)
theorem dX4_init_270 : decode cX4_init 270 = .ok (.bipush 32, 2) := dk_16 32 (dk_at dksX4_init_11 8 rfl rfl)
theorem dX4_init_272 : decode cX4_init 272 = .ok (.bastore, 1) := dk_84 (dk_at dksX4_init_11 10 rfl rfl)
theorem dX4_init_273 : decode cX4_init 273 = .ok (.dup, 1) := dk_89 (dk_at dksX4_init_11 11 rfl rfl)
theorem dX4_init_274 : decode cX4_init 274 = .ok (.bipush 38, 2) := dk_16 38 (dk_at dksX4_init_11 12 rfl rfl)
theorem dX4_init_276 : decode cX4_init 276 = .ok (.bipush 110, 2) := dk_16 110 (dk_at dksX4_init_11 14 rfl rfl)
theorem dX4_init_278 : decode cX4_init 278 = .ok (.bastore, 1) := dk_84 (dk_at dksX4_init_11 16 rfl rfl)
theorem dX4_init_279 : decode cX4_init 279 = .ok (.dup, 1) := dk_89 (dk_at dksX4_init_11 17 rfl rfl)
theorem dX4_init_280 : decode cX4_init 280 = .ok (.bipush 39, 2) := dk_16 39 (dk_at dksX4_init_11 18 rfl rfl)
theorem dX4_init_282 : decode cX4_init 282 = .ok (.bipush 111, 2) := dk_16 111 (dk_at dksX4_init_11 20 rfl rfl)
theorem dX4_init_284 : decode cX4_init 284 = .ok (.bastore, 1) := dk_84 (dk_at dksX4_init_11 22 rfl rfl)
theorem dX4_init_285 : decode cX4_init 285 = .ok (.dup, 1) := dk_89 (dk_at dksX4_init_11 23 rfl rfl)
theorem dX4_init_286 : decode cX4_init 286 = .ok (.bipush 40, 2) := dk_16 40 (dk_at dksX4_init_12 0 rfl rfl)
theorem dX4_init_288 : decode cX4_init 288 = .ok (.bipush 116, 2) := dk_16 116 (dk_at dksX4_init_12 2 rfl rfl)
theorem dX4_init_290 : decode cX4_init 290 = .ok (.bastore, 1) := dk_84 (dk_at dksX4_init_12 4 rfl rfl)
theorem dX4_init_291 : decode cX4_init 291 = .ok (.dup, 1) := dk_89 (dk_at dksX4_init_12 5 rfl rfl)
theorem dX4_init_292 : decode cX4_init 292 = .ok (.bipush 41, 2) := dk_16 41 (dk_at dksX4_init_12 6 rfl rfl)
theorem dX4_init_294 : decode cX4_init 294 = .ok (.bipush 32, 2) := dk_16 32 (dk_at dksX4_init_12 8 rfl rfl)
theorem dX4_init_296 : decode cX4_init 296 = .ok (.bastore, 1) := dk_84 (dk_at dksX4_init_12 10 rfl rfl)
theorem dX4_init_297 : decode cX4_init 297 = .ok (.dup, 1) := dk_89 (dk_at dksX4_init_12 11 rfl rfl)
theorem dX4_init_298 : decode cX4_init 298 = .ok (.bipush 42, 2) := dk_16 42 (dk_at dksX4_init_12 12 rfl rfl)
theorem dX4_init_300 : decode cX4_init 300 = .ok (.bipush 115, 2) := dk_16 115 (dk_at dksX4_init_12 14 rfl rfl)
theorem dX4_init_302 : decode cX4_init 302 = .ok (.bastore, 1) := dk_84 (dk_at dksX4_init_12 16 rfl rfl)
theorem dX4_init_303 : decode cX4_init 303 = .ok (.dup, 1) := dk_89 (dk_at dksX4_init_12 17 rfl rfl)
theorem dX4_init_304 : decode cX4_init 304 = .ok (.bipush 43, 2) := dk_16 43 (dk_at dksX4_init_12 18 rfl rfl)
theorem dX4_init_306 : decode cX4_init 306 = .ok (.bipush 119, 2) := dk_16 119 (dk_at dksX4_init_12 20 rfl rfl)
theorem dX4_init_308 : decode cX4_init 308 = .ok (.bastore, 1) := dk_84 (dk_at dksX4_init_12 22 rfl rfl)
theorem dX4_init_309 : decode cX4_init 309 = .ok (.dup, 1) := dk_89 (dk_at dksX4_init_12 23 rfl rfl)
theorem dX4_init_310 : decode cX4_init 310 = .ok (.bipush 44, 2) := dk_16 44 (dk_at dksX4_init_13 0 rfl rfl)
theorem dX4_init_312 : decode cX4_init 312 = .ok (.bipush 97, 2) := dk_16 97 (dk_at dksX4_init_13 2 rfl rfl)
theorem dX4_init_314 : decode cX4_init 314 = .ok (.bastore, 1) := dk_84 (dk_at dksX4_init_13 4 rfl rfl)
theorem dX4_init_315 : decode cX4_init 315 = .ok (.dup, 1) := dk_89 (dk_at dksX4_init_13 5 rfl rfl)
theorem dX4_init_316 : decode cX4_init 316 = .ok (.bipush 45, 2) := dk_16 45 (dk_at dksX4_init_13 6 rfl rfl)
theorem dX4_init_318 : decode cX4_init 318 = .ok (.bipush 110, 2) := dk_16 110 (dk_at dksX4_init_13 8 rfl rfl)
theorem dX4_init_320 : decode cX4_init 320 = .ok (.bastore, 1) := dk_84 (dk_at dksX4_init_13 10 rfl rfl)
theorem dX4_init_321 : decode cX4_init 321 = .ok (.dup, 1) := dk_89 (dk_at dksX4_init_13 11 rfl rfl)
theorem dX4_init_322 : decode cX4_init 322 = .ok (.bipush 46, 2) := dk_16 46 (dk_at dksX4_init_13 12 rfl rfl)
theorem dX4_init_324 : decode cX4_init 324 = .ok (.bipush 32, 2) := dk_16 32 (dk_at dksX4_init_13 14 rfl rfl)
theorem dX4_init_326 : decode cX4_init 326 = .ok (.bastore, 1) := dk_84 (dk_at dksX4_init_13 16 rfl rfl)
theorem dX4_init_327 : decode cX4_init 327 = .ok (.dup, 1) := dk_89 (dk_at dksX4_init_13 17 rfl rfl)
theorem dX4_init_328 : decode cX4_init 328 = .ok (.bipush 47, 2) := dk_16 47 (dk_at dksX4_init_13 18 rfl rfl)
theorem dX4_init_330 : decode cX4_init 330 = .ok (.bipush 115, 2) := dk_16 115 (dk_at dksX4_init_13 20 rfl rfl)
theorem dX4_init_332 : decode cX4_init 332 = .ok (.bastore, 1) := dk_84 (dk_at dksX4_init_13 22 rfl rfl)
theorem dX4_init_333 : decode cX4_init 333 = .ok (.dup, 1) := dk_89 (dk_at dksX4_init_13 23 rfl rfl)
theorem dX4_init_334 : decode cX4_init 334 = .ok (.bipush 48, 2) := dk_16 48 (dk_at dksX4_init_14 0 rfl rfl)
theorem dX4_init_336 : decode cX4_init 336 = .ok (.bipush 101, 2) := dk_16 101 (dk_at dksX4_init_14 2 rfl rfl)
theorem dX4_init_338 : decode cX4_init 338 = .ok (.bastore, 1) := dk_84 (dk_at dksX4_init_14 4 rfl rfl)
theorem dX4_init_339 : decode cX4_init 339 = .ok (.dup, 1) := dk_89 (dk_at dksX4_init_14 5 rfl rfl)
theorem dX4_init_340 : decode cX4_init 340 = .ok (.bipush 49, 2) := dk_16 49 (dk_at dksX4_init_14 6 rfl rfl)
theorem dX4_init_342 : decode cX4_init 342 = .ok (.bipush 97, 2) := dk_16 97 (dk_at dksX4_init_14 8 rfl rfl)
theorem dX4_init_344 : decode cX4_init 344 = .ok (.bastore, 1) := dk_84 (dk_at dksX4_init_14 10 rfl rfl)
theorem dX4_init_345 : decode cX4_init 345 = .ok (.dup, 1) := dk_89 (dk_at dksX4_init_14 11 rfl rfl)
theorem dX4_init_346 : decode cX4_init 346 = .ok (.bipush 50, 2) := dk_16 50 (dk_at dksX4_init_14 12 rfl rfl)
theorem dX4_init_348 : decode cX4_init 348 = .ok (.bipush 108, 2) := dk_16 108 (dk_at dksX4_init_14 14 rfl rfl)
theorem dX4_init_350 : decode cX4_init 350 = .ok (.bastore, 1) := dk_84 (dk_at dksX4_init_14 16 rfl rfl)
theorem dX4_init_351 : decode cX4_init 351 = .ok (.dup, 1) := dk_89 (dk_at dksX4_init_14 17 rfl rfl)
theorem dX4_init_352 : decode cX4_init 352 = .ok (.bipush 51, 2) := dk_16 51 (dk_at dksX4_init_14 18 rfl rfl)
theorem dX4_init_354 : decode cX4_init 354 = .ok (.bipush 101, 2) := dk_16 101 (dk_at dksX4_init_14 20 rfl rfl)
theorem dX4_init_356 : decode cX4_init 356 = .ok (.bastore, 1) := dk_84 (dk_at dksX4_init_14 22 rfl rfl)
theorem dX4_init_357 : decode cX4_init 357 = .ok (.dup, 1) := dk_89 (dk_at dksX4_init_14 23 rfl rfl)
theorem dX4_init_358 : decode cX4_init 358 = .ok (.bipush 52, 2) := dk_16 52 (dk_at dksX4_init_15 0 rfl rfl)
theorem dX4_init_360 : decode cX4_init 360 = .ok (.bipush 100, 2) := dk_16 100 (dk_at dksX4_init_15 2 rfl rfl)
theorem dX4_init_362 : decode cX4_init 362 = .ok (.bastore, 1) := dk_84 (dk_at dksX4_init_15 4 rfl rfl)
theorem dX4_init_363 : decode cX4_init 363 = .ok (.dup, 1) := dk_89 (dk_at dksX4_init_15 5 rfl rfl)
theorem dX4_init_364 : decode cX4_init 364 = .ok (.bipush 53, 2) := dk_16 53 (dk_at dksX4_init_15 6 rfl rfl)
theorem dX4_init_366 : decode cX4_init 366 = .ok (.bipush 32, 2) := dk_16 32 (dk_at dksX4_init_15 8 rfl rfl)
theorem dX4_init_368 : decode cX4_init 368 = .ok (.bastore, 1) := dk_84 (dk_at dksX4_init_15 10 rfl rfl)
theorem dX4_init_369 : decode cX4_init 369 = .ok (.dup, 1) := dk_89 (dk_at dksX4_init_15 11 rfl rfl)
theorem dX4_init_370 : decode cX4_init 370 = .ok (.bipush 54, 2) := dk_16 54 (dk_at dksX4_init_15 12 rfl rfl)
theorem dX4_init_372 : decode cX4_init 372 = .ok (.bipush 112, 2) := dk_16 112 (dk_at dksX4_init_15 14 rfl rfl)
theorem dX4_init_374 : decode cX4_init 374 = .ok (.bastore, 1) := dk_84 (dk_at dksX4_init_15 16 rfl rfl)
theorem dX4_init_375 : decode cX4_init 375 = .ok (.dup, 1) := dk_89 (dk_at dksX4_init_15 17 rfl rfl)
theorem dX4_init_376 : decode cX4_init 376 = .ok (.bipush 55, 2) := dk_16 55 (dk_at dksX4_init_15 18 rfl rfl)
theorem dX4_init_378 : decode cX4_init 378 = .ok (.bipush 108, 2) := dk_16 108 (dk_at dksX4_init_15 20 rfl rfl)
theorem dX4_init_380 : decode cX4_init 380 = .ok (.bastore, 1) := dk_84 (dk_at dksX4_init_15 22 rfl rfl)
theorem dX4_init_381 : decode cX4_init 381 = .ok (.dup, 1) := dk_89 (dk_at dksX4_init_15 23 rfl rfl)
theorem dX4_init_382 : decode cX4_init 382 = .ok (.bipush 56, 2) := dk_16 56 (dk_at dksX4_init_16 0 rfl rfl)
theorem dX4_init_384 : decode cX4_init 384 = .ok (.bipush 117, 2) := dk_16 117 (dk_at dksX4_init_16 2 rfl rfl)
theorem dX4_init_386 : decode cX4_init 386 = .ok (.bastore, 1) := dk_84 (dk_at dksX4_init_16 4 rfl rfl)
theorem dX4_init_387 : decode cX4_init 387 = .ok (.dup, 1) := dk_89 (dk_at dksX4_init_16 5 rfl rfl)
theorem dX4_init_388 : decode cX4_init 388 = .ok (.bipush 57, 2) := dk_16 57 (dk_at dksX4_init_16 6 rfl rfl)
theorem dX4_init_390 : decode cX4_init 390 = .ok (.bipush 103, 2) := dk_16 103 (dk_at dksX4_init_16 8 rfl rfl)
theorem dX4_init_392 : decode cX4_init 392 = .ok (.bastore, 1) := dk_84 (dk_at dksX4_init_16 10 rfl rfl)
theorem dX4_init_393 : decode cX4_init 393 = .ok (.dup, 1) := dk_89 (dk_at dksX4_init_16 11 rfl rfl)
theorem dX4_init_394 : decode cX4_init 394 = .ok (.bipush 58, 2) := dk_16 58 (dk_at dksX4_init_16 12 rfl rfl)
theorem dX4_init_396 : decode cX4_init 396 = .ok (.bipush 103, 2) := dk_16 103 (dk_at dksX4_init_16 14 rfl rfl)
theorem dX4_init_398 : decode cX4_init 398 = .ok (.bastore, 1) := dk_84 (dk_at dksX4_init_16 16 rfl rfl)
theorem dX4_init_399 : decode cX4_init 399 = .ok (.dup, 1) := dk_89 (dk_at dksX4_init_16 17 rfl rfl)
theorem dX4_init_400 : decode cX4_init 400 = .ok (.bipush 59, 2) := dk_16 59 (dk_at dksX4_init_16 18 rfl rfl)
theorem dX4_init_402 : decode cX4_init 402 = .ok (.bipush 101, 2) := dk_16 101 (dk_at dksX4_init_16 20 rfl rfl)
theorem dX4_init_404 : decode cX4_init 404 = .ok (.bastore, 1) := dk_84 (dk_at dksX4_init_16 22 rfl rfl)
theorem dX4_init_405 : decode cX4_init 405 = .ok (.dup, 1) := dk_89 (dk_at dksX4_init_16 23 rfl rfl)
theorem dX4_init_406 : decode cX4_init 406 = .ok (.bipush 60, 2) := dk_16 60 (dk_at dksX4_init_17 0 rfl rfl)
theorem dX4_init_408 : decode cX4_init 408 = .ok (.bipush 100, 2) := dk_16 100 (dk_at dksX4_init_17 2 rfl rfl)
theorem dX4_init_410 : decode cX4_init 410 = .ok (.bastore, 1) := dk_84 (dk_at dksX4_init_17 4 rfl rfl)
theorem dX4_init_411 : decode cX4_init 411 = .ok (.dup, 1) := dk_89 (dk_at dksX4_init_17 5 rfl rfl)
theorem dX4_init_412 : decode cX4_init 412 = .ok (.bipush 61, 2) := dk_16 61 (dk_at dksX4_init_17 6 rfl rfl)
theorem dX4_init_414 : decode cX4_init 414 = .ok (.bipush 32, 2) := dk_16 32 (dk_at dksX4_init_17 8 rfl rfl)
theorem dX4_init_416 : decode cX4_init 416 = .ok (.bastore, 1) := dk_84 (dk_at dksX4_init_17 10 rfl rfl)
theorem dX4_init_417 : decode cX4_init 417 = .ok (.dup, 1) := dk_89 (dk_at dksX4_init_17 11 rfl rfl)
theorem dX4_init_418 : decode cX4_init 418 = .ok (.bipush 62, 2) := dk_16 62 (dk_at dksX4_init_17 12 rfl rfl)
theorem dX4_init_420 : decode cX4_init 420 = .ok (.bipush 109, 2) := dk_16 109 (dk_at dksX4_init_17 14 rfl rfl)
theorem dX4_init_422 : decode cX4_init 422 = .ok (.bastore, 1) := dk_84 (dk_at dksX4_init_17 16 rfl rfl)
theorem dX4_init_423 : decode cX4_init 423 = .ok (.dup, 1) := dk_89 (dk_at dksX4_init_17 17 rfl rfl)
theorem dX4_init_424 : decode cX4_init 424 = .ok (.bipush 63, 2) := dk_16 63 (dk_at dksX4_init_17 18 rfl rfl)
theorem dX4_init_426 : decode cX4_init 426 = .ok (.bipush 101, 2) := dk_16 101 (dk_at dksX4_init_17 20 rfl rfl)
theorem dX4_init_428 : decode cX4_init 428 = .ok (.bastore, 1) := dk_84 (dk_at dksX4_init_17 22 rfl rfl)
theorem dX4_init_429 : decode cX4_init 429 = .ok (.dup, 1) := dk_89 (dk_at dksX4_init_17 23 rfl rfl)
theorem dX4_init_430 : decode cX4_init 430 = .ok (.bipush 64, 2) := dk_16 64 (dk_at dksX4_init_18 0 rfl rfl)
theorem dX4_init_432 : decode cX4_init 432 = .ok (.bipush 114, 2) := dk_16 114 (dk_at dksX4_init_18 2 rfl rfl)
theorem dX4_init_434 : decode cX4_init 434 = .ok (.bastore, 1) := dk_84 (dk_at dksX4_init_18 4 rfl rfl)
theorem dX4_init_435 : decode cX4_init 435 = .ok (.dup, 1) := dk_89 (dk_at dksX4_init_18 5 rfl rfl)
theorem dX4_init_436 : decode cX4_init 436 = .ok (.bipush 65, 2) := dk_16 65 (dk_at dksX4_init_18 6 rfl rfl)
theorem dX4_init_438 : decode cX4_init 438 = .ok (.bipush 99, 2) := dk_16 99 (dk_at dksX4_init_18 8 rfl rfl)
theorem dX4_init_440 : decode cX4_init 440 = .ok (.bastore, 1) := dk_84 (dk_at dksX4_init_18 10 rfl rfl)
theorem dX4_init_441 : decode cX4_init 441 = .ok (.dup, 1) := dk_89 (dk_at dksX4_init_18 11 rfl rfl)
theorem dX4_init_442 : decode cX4_init 442 = .ok (.bipush 66, 2) := dk_16 66 (dk_at dksX4_init_18 12 rfl rfl)
theorem dX4_init_444 : decode cX4_init 444 = .ok (.bipush 117, 2) := dk_16 117 (dk_at dksX4_init_18 14 rfl rfl)
theorem dX4_init_446 : decode cX4_init 446 = .ok (.bastore, 1) := dk_84 (dk_at dksX4_init_18 16 rfl rfl)
theorem dX4_init_447 : decode cX4_init 447 = .ok (.dup, 1) := dk_89 (dk_at dksX4_init_18 17 rfl rfl)
theorem dX4_init_448 : decode cX4_init 448 = .ok (.bipush 67, 2) := dk_16 67 (dk_at dksX4_init_18 18 rfl rfl)
theorem dX4_init_450 : decode cX4_init 450 = .ok (.bipush 114, 2) := dk_16 114 (dk_at dksX4_init_18 20 rfl rfl)
theorem dX4_init_452 : decode cX4_init 452 = .ok (.bastore, 1) := dk_84 (dk_at dksX4_init_18 22 rfl rfl)
theorem dX4_init_453 : decode cX4_init 453 = .ok (.dup, 1) := dk_89 (dk_at dksX4_init_18 23 rfl rfl)
theorem dX4_init_454 : decode cX4_init 454 = .ok (.bipush 68, 2) := dk_16 68 (dk_at dksX4_init_19 0 rfl rfl)
theorem dX4_init_456 : decode cX4_init 456 = .ok (.bipush 121, 2) := dk_16 121 (dk_at dksX4_init_19 2 rfl rfl)
theorem dX4_init_458 : decode cX4_init 458 = .ok (.bastore, 1) := dk_84 (dk_at dksX4_init_19 4 rfl rfl)
theorem dX4_init_459 : decode cX4_init 459 = .ok (.dup, 1) := dk_89 (dk_at dksX4_init_19 5 rfl rfl)
theorem dX4_init_460 : decode cX4_init 460 = .ok (.bipush 69, 2) := dk_16 69 (dk_at dksX4_init_19 6 rfl rfl)
theorem dX4_init_462 : decode cX4_init 462 = .ok (.bipush 32, 2) := dk_16 32 (dk_at dksX4_init_19 8 rfl rfl)
theorem dX4_init_464 : decode cX4_init 464 = .ok (.bastore, 1) := dk_84 (dk_at dksX4_init_19 10 rfl rfl)
theorem dX4_init_465 : decode cX4_init 465 = .ok (.dup, 1) := dk_89 (dk_at dksX4_init_19 11 rfl rfl)
theorem dX4_init_466 : decode cX4_init 466 = .ok (.bipush 70, 2) := dk_16 70 (dk_at dksX4_init_19 12 rfl rfl)
theorem dX4_init_468 : decode cX4_init 468 = .ok (.bipush 108, 2) := dk_16 108 (dk_at dksX4_init_19 14 rfl rfl)
theorem dX4_init_470 : decode cX4_init 470 = .ok (.bastore, 1) := dk_84 (dk_at dksX4_init_19 16 rfl rfl)
theorem dX4_init_471 : decode cX4_init 471 = .ok (.dup, 1) := dk_89 (dk_at dksX4_init_19 17 rfl rfl)
theorem dX4_init_472 : decode cX4_init 472 = .ok (.bipush 71, 2) := dk_16 71 (dk_at dksX4_init_19 18 rfl rfl)
theorem dX4_init_474 : decode cX4_init 474 = .ok (.bipush 105, 2) := dk_16 105 (dk_at dksX4_init_19 20 rfl rfl)
theorem dX4_init_476 : decode cX4_init 476 = .ok (.bastore, 1) := dk_84 (dk_at dksX4_init_19 22 rfl rfl)
theorem dX4_init_477 : decode cX4_init 477 = .ok (.dup, 1) := dk_89 (dk_at dksX4_init_19 23 rfl rfl)
theorem dX4_init_478 : decode cX4_init 478 = .ok (.bipush 72, 2) := dk_16 72 (dk_at dksX4_init_20 0 rfl rfl)
theorem dX4_init_480 : decode cX4_init 480 = .ok (.bipush 118, 2) := dk_16 118 (dk_at dksX4_init_20 2 rfl rfl)
theorem dX4_init_482 : decode cX4_init 482 = .ok (.bastore, 1) := dk_84 (dk_at dksX4_init_20 4 rfl rfl)
theorem dX4_init_483 : decode cX4_init 483 = .ok (.dup, 1) := dk_89 (dk_at dksX4_init_20 5 rfl rfl)
theorem dX4_init_484 : decode cX4_init 484 = .ok (.bipush 73, 2) := dk_16 73 (dk_at dksX4_init_20 6 rfl rfl)
theorem dX4_init_486 : decode cX4_init 486 = .ok (.bipush 105, 2) := dk_16 105 (dk_at dksX4_init_20 8 rfl rfl)
theorem dX4_init_488 : decode cX4_init 488 = .ok (.bastore, 1) := dk_84 (dk_at dksX4_init_20 10 rfl rfl)
theorem dX4_init_489 : decode cX4_init 489 = .ok (.dup, 1) := dk_89 (dk_at dksX4_init_20 11 rfl rfl)
theorem dX4_init_490 : decode cX4_init 490 = .ok (.bipush 74, 2) := dk_16 74 (dk_at dksX4_init_20 12 rfl rfl)
theorem dX4_init_492 : decode cX4_init 492 = .ok (.bipush 110, 2) := dk_16 110 (dk_at dksX4_init_20 14 rfl rfl)
theorem dX4_init_494 : decode cX4_init 494 = .ok (.bastore, 1) := dk_84 (dk_at dksX4_init_20 16 rfl rfl)
theorem dX4_init_495 : decode cX4_init 495 = .ok (.dup, 1) := dk_89 (dk_at dksX4_init_20 17 rfl rfl)
theorem dX4_init_496 : decode cX4_init 496 = .ok (.bipush 75, 2) := dk_16 75 (dk_at dksX4_init_20 18 rfl rfl)
theorem dX4_init_498 : decode cX4_init 498 = .ok (.bipush 103, 2) := dk_16 103 (dk_at dksX4_init_20 20 rfl rfl)
theorem dX4_init_500 : decode cX4_init 500 = .ok (.bastore, 1) := dk_84 (dk_at dksX4_init_20 22 rfl rfl)
theorem dX4_init_501 : decode cX4_init 501 = .ok (.dup, 1) := dk_89 (dk_at dksX4_init_20 23 rfl rfl)
theorem dX4_init_502 : decode cX4_init 502 = .ok (.bipush 76, 2) := dk_16 76 (dk_at dksX4_init_21 0 rfl rfl)
theorem dX4_init_504 : decode cX4_init 504 = .ok (.bipush 32, 2) := dk_16 32 (dk_at dksX4_init_21 2 rfl rfl)
theorem dX4_init_506 : decode cX4_init 506 = .ok (.bastore, 1) := dk_84 (dk_at dksX4_init_21 4 rfl rfl)
theorem dX4_init_507 : decode cX4_init 507 = .ok (.dup, 1) := dk_89 (dk_at dksX4_init_21 5 rfl rfl)
theorem dX4_init_508 : decode cX4_init 508 = .ok (.bipush 77, 2) := dk_16 77 (dk_at dksX4_init_21 6 rfl rfl)
theorem dX4_init_510 : decode cX4_init 510 = .ok (.bipush 116, 2) := dk_16 116 (dk_at dksX4_init_21 8 rfl rfl)
theorem dX4_init_512 : decode cX4_init 512 = .ok (.bastore, 1) := dk_84 (dk_at dksX4_init_21 10 rfl rfl)
theorem dX4_init_513 : decode cX4_init 513 = .ok (.dup, 1) := dk_89 (dk_at dksX4_init_21 11 rfl rfl)
theorem dX4_init_514 : decode cX4_init 514 = .ok (.bipush 78, 2) := dk_16 78 (dk_at dksX4_init_21 12 rfl rfl)
theorem dX4_init_516 : decode cX4_init 516 = .ok (.bipush 105, 2) := dk_16 105 (dk_at dksX4_init_21 14 rfl rfl)
theorem dX4_init_518 : decode cX4_init 518 = .ok (.bastore, 1) := dk_84 (dk_at dksX4_init_21 16 rfl rfl)
theorem dX4_init_519 : decode cX4_init 519 = .ok (.dup, 1) := dk_89 (dk_at dksX4_init_21 17 rfl rfl)
theorem dX4_init_520 : decode cX4_init 520 = .ok (.bipush 79, 2) := dk_16 79 (dk_at dksX4_init_21 18 rfl rfl)
theorem dX4_init_522 : decode cX4_init 522 = .ok (.bipush 112, 2) := dk_16 112 (dk_at dksX4_init_21 20 rfl rfl)
theorem dX4_init_524 : decode cX4_init 524 = .ok (.bastore, 1) := dk_84 (dk_at dksX4_init_21 22 rfl rfl)
theorem dX4_init_525 : decode cX4_init 525 = .ok (.dup, 1) := dk_89 (dk_at dksX4_init_21 23 rfl rfl)
theorem dX4_init_526 : decode cX4_init 526 = .ok (.bipush 80, 2) := dk_16 80 (dk_at dksX4_init_22 0 rfl rfl)
theorem dX4_init_528 : decode cX4_init 528 = .ok (.bipush 112, 2) := dk_16 112 (dk_at dksX4_init_22 2 rfl rfl)
theorem dX4_init_530 : decode cX4_init 530 = .ok (.bastore, 1) := dk_84 (dk_at dksX4_init_22 4 rfl rfl)
theorem dX4_init_531 : decode cX4_init 531 = .ok (.dup, 1) := dk_89 (dk_at dksX4_init_22 5 rfl rfl)
theorem dX4_init_532 : decode cX4_init 532 = .ok (.bipush 81, 2) := dk_16 81 (dk_at dksX4_init_22 6 rfl rfl)
theorem dX4_init_534 : decode cX4_init 534 = .ok (.bipush 101, 2) := dk_16 101 (dk_at dksX4_init_22 8 rfl rfl)
theorem dX4_init_536 : decode cX4_init 536 = .ok (.bastore, 1) := dk_84 (dk_at dksX4_init_22 10 rfl rfl)
theorem dX4_init_537 : decode cX4_init 537 = .ok (.dup, 1) := dk_89 (dk_at dksX4_init_22 11 rfl rfl)
theorem dX4_init_538 : decode cX4_init 538 = .ok (.bipush 82, 2) := dk_16 82 (dk_at dksX4_init_22 12 rfl rfl)
theorem dX4_init_540 : decode cX4_init 540 = .ok (.bipush 100, 2) := dk_16 100 (dk_at dksX4_init_22 14 rfl rfl)
theorem dX4_init_542 : decode cX4_init 542 = .ok (.bastore, 1) := dk_84 (dk_at dksX4_init_22 16 rfl rfl)
theorem dX4_init_543 : decode cX4_init 543 = .ok (.dup, 1) := dk_89 (dk_at dksX4_init_22 17 rfl rfl)
theorem dX4_init_544 : decode cX4_init 544 = .ok (.bipush 83, 2) := dk_16 83 (dk_at dksX4_init_22 18 rfl rfl)
theorem dX4_init_546 : decode cX4_init 546 = .ok (.bipush 32, 2) := dk_16 32 (dk_at dksX4_init_22 20 rfl rfl)
theorem dX4_init_548 : decode cX4_init 548 = .ok (.bastore, 1) := dk_84 (dk_at dksX4_init_22 22 rfl rfl)
theorem dX4_init_549 : decode cX4_init 549 = .ok (.dup, 1) := dk_89 (dk_at dksX4_init_22 23 rfl rfl)
theorem dX4_init_550 : decode cX4_init 550 = .ok (.bipush 84, 2) := dk_16 84 (dk_at dksX4_init_23 0 rfl rfl)
theorem dX4_init_552 : decode cX4_init 552 = .ok (.bipush 97, 2) := dk_16 97 (dk_at dksX4_init_23 2 rfl rfl)
theorem dX4_init_554 : decode cX4_init 554 = .ok (.bastore, 1) := dk_84 (dk_at dksX4_init_23 4 rfl rfl)
theorem dX4_init_555 : decode cX4_init 555 = .ok (.dup, 1) := dk_89 (dk_at dksX4_init_23 5 rfl rfl)
theorem dX4_init_556 : decode cX4_init 556 = .ok (.bipush 85, 2) := dk_16 85 (dk_at dksX4_init_23 6 rfl rfl)
theorem dX4_init_558 : decode cX4_init 558 = .ok (.bipush 105, 2) := dk_16 105 (dk_at dksX4_init_23 8 rfl rfl)
theorem dX4_init_560 : decode cX4_init 560 = .ok (.bastore, 1) := dk_84 (dk_at dksX4_init_23 10 rfl rfl)
theorem dX4_init_561 : decode cX4_init 561 = .ok (.dup, 1) := dk_89 (dk_at dksX4_init_23 11 rfl rfl)
theorem dX4_init_562 : decode cX4_init 562 = .ok (.bipush 86, 2) := dk_16 86 (dk_at dksX4_init_23 12 rfl rfl)
theorem dX4_init_564 : decode cX4_init 564 = .ok (.bipush 114, 2) := dk_16 114 (dk_at dksX4_init_23 14 rfl rfl)
theorem dX4_init_566 : decode cX4_init 566 = .ok (.bastore, 1) := dk_84 (dk_at dksX4_init_23 16 rfl rfl)
theorem dX4_init_567 : decode cX4_init 567 = .ok (.dup, 1) := dk_89 (dk_at dksX4_init_23 17 rfl rfl)
theorem dX4_init_568 : decode cX4_init 568 = .ok (.bipush 87, 2) := dk_16 87 (dk_at dksX4_init_23 18 rfl rfl)
theorem dX4_init_570 : decode cX4_init 570 = .ok (.bipush 32, 2) := dk_16 32 (dk_at dksX4_init_23 20 rfl rfl)
theorem dX4_init_572 : decode cX4_init 572 = .ok (.bastore, 1) := dk_84 (dk_at dksX4_init_23 22 rfl rfl)
theorem dX4_init_573 : decode cX4_init 573 = .ok (.dup, 1) := dk_89 (dk_at dksX4_init_23 23 rfl rfl)
theorem dX4_init_574 : decode cX4_init 574 = .ok (.bipush 88, 2) := dk_16 88 (dk_at dksX4_init_24 0 rfl rfl)
theorem dX4_init_576 : decode cX4_init 576 = .ok (.bipush 98, 2) := dk_16 98 (dk_at dksX4_init_24 2 rfl rfl)
theorem dX4_init_578 : decode cX4_init 578 = .ok (.bastore, 1) := dk_84 (dk_at dksX4_init_24 4 rfl rfl)
theorem dX4_init_579 : decode cX4_init 579 = .ok (.dup, 1) := dk_89 (dk_at dksX4_init_24 5 rfl rfl)
theorem dX4_init_580 : decode cX4_init 580 = .ok (.bipush 89, 2) := dk_16 89 (dk_at dksX4_init_24 6 rfl rfl)
theorem dX4_init_582 : decode cX4_init 582 = .ok (.bipush 114, 2) := dk_16 114 (dk_at dksX4_init_24 8 rfl rfl)
theorem dX4_init_584 : decode cX4_init 584 = .ok (.bastore, 1) := dk_84 (dk_at dksX4_init_24 10 rfl rfl)
theorem dX4_init_585 : decode cX4_init 585 = .ok (.dup, 1) := dk_89 (dk_at dksX4_init_24 11 rfl rfl)
theorem dX4_init_586 : decode cX4_init 586 = .ok (.bipush 90, 2) := dk_16 90 (dk_at dksX4_init_24 12 rfl rfl)
theorem dX4_init_588 : decode cX4_init 588 = .ok (.bipush 111, 2) := dk_16 111 (dk_at dksX4_init_24 14 rfl rfl)
theorem dX4_init_590 : decode cX4_init 590 = .ok (.bastore, 1) := dk_84 (dk_at dksX4_init_24 16 rfl rfl)
theorem dX4_init_591 : decode cX4_init 591 = .ok (.dup, 1) := dk_89 (dk_at dksX4_init_24 17 rfl rfl)
theorem dX4_init_592 : decode cX4_init 592 = .ok (.bipush 91, 2) := dk_16 91 (dk_at dksX4_init_24 18 rfl rfl)
theorem dX4_init_594 : decode cX4_init 594 = .ok (.bipush 116, 2) := dk_16 116 (dk_at dksX4_init_24 20 rfl rfl)
theorem dX4_init_596 : decode cX4_init 596 = .ok (.bastore, 1) := dk_84 (dk_at dksX4_init_24 22 rfl rfl)
theorem dX4_init_597 : decode cX4_init 597 = .ok (.dup, 1) := dk_89 (dk_at dksX4_init_24 23 rfl rfl)
theorem dX4_init_598 : decode cX4_init 598 = .ok (.bipush 92, 2) := dk_16 92 (dk_at dksX4_init_25 0 rfl rfl)
theorem dX4_init_600 : decode cX4_init 600 = .ok (.bipush 104, 2) := dk_16 104 (dk_at dksX4_init_25 2 rfl rfl)
theorem dX4_init_602 : decode cX4_init 602 = .ok (.bastore, 1) := dk_84 (dk_at dksX4_init_25 4 rfl rfl)
theorem dX4_init_603 : decode cX4_init 603 = .ok (.dup, 1) := dk_89 (dk_at dksX4_init_25 5 rfl rfl)
theorem dX4_init_604 : decode cX4_init 604 = .ok (.bipush 93, 2) := dk_16 93 (dk_at dksX4_init_25 6 rfl rfl)
theorem dX4_init_606 : decode cX4_init 606 = .ok (.bipush 32, 2) := dk_16 32 (dk_at dksX4_init_25 8 rfl rfl)
theorem dX4_init_608 : decode cX4_init 608 = .ok (.bastore, 1) := dk_84 (dk_at dksX4_init_25 10 rfl rfl)
theorem dX4_init_609 : decode cX4_init 609 = .ok (.dup, 1) := dk_89 (dk_at dksX4_init_25 11 rfl rfl)
theorem dX4_init_610 : decode cX4_init 610 = .ok (.bipush 94, 2) := dk_16 94 (dk_at dksX4_init_25 12 rfl rfl)
theorem dX4_init_612 : decode cX4_init 612 = .ok (.bipush 115, 2) := dk_16 115 (dk_at dksX4_init_25 14 rfl rfl)
theorem dX4_init_614 : decode cX4_init 614 = .ok (.bastore, 1) := dk_84 (dk_at dksX4_init_25 16 rfl rfl)
theorem dX4_init_615 : decode cX4_init 615 = .ok (.dup, 1) := dk_89 (dk_at dksX4_init_25 17 rfl rfl)
theorem dX4_init_616 : decode cX4_init 616 = .ok (.bipush 95, 2) := dk_16 95 (dk_at dksX4_init_25 18 rfl rfl)
theorem dX4_init_618 : decode cX4_init 618 = .ok (.bipush 111, 2) := dk_16 111 (dk_at dksX4_init_25 20 rfl rfl)
theorem dX4_init_620 : decode cX4_init 620 = .ok (.bastore, 1) := dk_84 (dk_at dksX4_init_25 22 rfl rfl)
theorem dX4_init_621 : decode cX4_init 621 = .ok (.dup, 1) := dk_89 (dk_at dksX4_init_25 23 rfl rfl)
theorem dX4_init_622 : decode cX4_init 622 = .ok (.bipush 96, 2) := dk_16 96 (dk_at dksX4_init_26 0 rfl rfl)
theorem dX4_init_624 : decode cX4_init 624 = .ok (.bipush 114, 2) := dk_16 114 (dk_at dksX4_init_26 2 rfl rfl)
theorem dX4_init_626 : decode cX4_init 626 = .ok (.bastore, 1) := dk_84 (dk_at dksX4_init_26 4 rfl rfl)
theorem dX4_init_627 : decode cX4_init 627 = .ok (.dup, 1) := dk_89 (dk_at dksX4_init_26 5 rfl rfl)
theorem dX4_init_628 : decode cX4_init 628 = .ok (.bipush 97, 2) := dk_16 97 (dk_at dksX4_init_26 6 rfl rfl)
theorem dX4_init_630 : decode cX4_init 630 = .ok (.bipush 116, 2) := dk_16 116 (dk_at dksX4_init_26 8 rfl rfl)
theorem dX4_init_632 : decode cX4_init 632 = .ok (.bastore, 1) := dk_84 (dk_at dksX4_init_26 10 rfl rfl)
theorem dX4_init_633 : decode cX4_init 633 = .ok (.dup, 1) := dk_89 (dk_at dksX4_init_26 11 rfl rfl)
theorem dX4_init_634 : decode cX4_init 634 = .ok (.bipush 98, 2) := dk_16 98 (dk_at dksX4_init_26 12 rfl rfl)
theorem dX4_init_636 : decode cX4_init 636 = .ok (.bipush 32, 2) := dk_16 32 (dk_at dksX4_init_26 14 rfl rfl)
theorem dX4_init_638 : decode cX4_init 638 = .ok (.bastore, 1) := dk_84 (dk_at dksX4_init_26 16 rfl rfl)
theorem dX4_init_639 : decode cX4_init 639 = .ok (.dup, 1) := dk_89 (dk_at dksX4_init_26 17 rfl rfl)
theorem dX4_init_640 : decode cX4_init 640 = .ok (.bipush 99, 2) := dk_16 99 (dk_at dksX4_init_26 18 rfl rfl)
theorem dX4_init_642 : decode cX4_init 642 = .ok (.bipush 104, 2) := dk_16 104 (dk_at dksX4_init_26 20 rfl rfl)
theorem dX4_init_644 : decode cX4_init 644 = .ok (.bastore, 1) := dk_84 (dk_at dksX4_init_26 22 rfl rfl)
theorem dX4_init_645 : decode cX4_init 645 = .ok (.dup, 1) := dk_89 (dk_at dksX4_init_26 23 rfl rfl)
theorem dX4_init_646 : decode cX4_init 646 = .ok (.bipush 100, 2) := dk_16 100 (dk_at dksX4_init_27 0 rfl rfl)
theorem dX4_init_648 : decode cX4_init 648 = .ok (.bipush 101, 2) := dk_16 101 (dk_at dksX4_init_27 2 rfl rfl)
theorem dX4_init_650 : decode cX4_init 650 = .ok (.bastore, 1) := dk_84 (dk_at dksX4_init_27 4 rfl rfl)
theorem dX4_init_651 : decode cX4_init 651 = .ok (.dup, 1) := dk_89 (dk_at dksX4_init_27 5 rfl rfl)
theorem dX4_init_652 : decode cX4_init 652 = .ok (.bipush 101, 2) := dk_16 101 (dk_at dksX4_init_27 6 rfl rfl)
theorem dX4_init_654 : decode cX4_init 654 = .ok (.bipush 97, 2) := dk_16 97 (dk_at dksX4_init_27 8 rfl rfl)
theorem dX4_init_656 : decode cX4_init 656 = .ok (.bastore, 1) := dk_84 (dk_at dksX4_init_27 10 rfl rfl)
theorem dX4_init_657 : decode cX4_init 657 = .ok (.dup, 1) := dk_89 (dk_at dksX4_init_27 11 rfl rfl)
theorem dX4_init_658 : decode cX4_init 658 = .ok (.bipush 102, 2) := dk_16 102 (dk_at dksX4_init_27 12 rfl rfl)
theorem dX4_init_660 : decode cX4_init 660 = .ok (.bipush 116, 2) := dk_16 116 (dk_at dksX4_init_27 14 rfl rfl)
theorem dX4_init_662 : decode cX4_init 662 = .ok (.bastore, 1) := dk_84 (dk_at dksX4_init_27 16 rfl rfl)
theorem dX4_init_663 : decode cX4_init 663 = .ok (.dup, 1) := dk_89 (dk_at dksX4_init_27 17 rfl rfl)
theorem dX4_init_664 : decode cX4_init 664 = .ok (.bipush 103, 2) := dk_16 103 (dk_at dksX4_init_27 18 rfl rfl)
theorem dX4_init_666 : decode cX4_init 666 = .ok (.bipush 32, 2) := dk_16 32 (dk_at dksX4_init_27 20 rfl rfl)
theorem dX4_init_668 : decode cX4_init 668 = .ok (.bastore, 1) := dk_84 (dk_at dksX4_init_27 22 rfl rfl)
theorem dX4_init_669 : decode cX4_init 669 = .ok (.dup, 1) := dk_89 (dk_at dksX4_init_27 23 rfl rfl)
theorem dX4_init_670 : decode cX4_init 670 = .ok (.bipush 104, 2) := dk_16 104 (dk_at dksX4_init_28 0 rfl rfl)
theorem dX4_init_672 : decode cX4_init 672 = .ok (.bipush 109, 2) := dk_16 109 (dk_at dksX4_init_28 2 rfl rfl)
theorem dX4_init_674 : decode cX4_init 674 = .ok (.bastore, 1) := dk_84 (dk_at dksX4_init_28 4 rfl rfl)
theorem dX4_init_675 : decode cX4_init 675 = .ok (.dup, 1) := dk_89 (dk_at dksX4_init_28 5 rfl rfl)
theorem dX4_init_676 : decode cX4_init 676 = .ok (.bipush 105, 2) := dk_16 105 (dk_at dksX4_init_28 6 rfl rfl)
theorem dX4_init_678 : decode cX4_init 678 = .ok (.bipush 105, 2) := dk_16 105 (dk_at dksX4_init_28 8 rfl rfl)
theorem dX4_init_680 : decode cX4_init 680 = .ok (.bastore, 1) := dk_84 (dk_at dksX4_init_28 10 rfl rfl)
theorem dX4_init_681 : decode cX4_init 681 = .ok (.dup, 1) := dk_89 (dk_at dksX4_init_28 11 rfl rfl)
theorem dX4_init_682 : decode cX4_init 682 = .ok (.bipush 106, 2) := dk_16 106 (dk_at dksX4_init_28 12 rfl rfl)
theorem dX4_init_684 : decode cX4_init 684 = .ok (.bipush 110, 2) := dk_16 110 (dk_at dksX4_init_28 14 rfl rfl)
theorem dX4_init_686 : decode cX4_init 686 = .ok (.bastore, 1) := dk_84 (dk_at dksX4_init_28 16 rfl rfl)
theorem dX4_init_687 : decode cX4_init 687 = .ok (.dup, 1) := dk_89 (dk_at dksX4_init_28 17 rfl rfl)
theorem dX4_init_688 : decode cX4_init 688 = .ok (.bipush 107, 2) := dk_16 107 (dk_at dksX4_init_28 18 rfl rfl)
theorem dX4_init_690 : decode cX4_init 690 = .ok (.bipush 117, 2) := dk_16 117 (dk_at dksX4_init_28 20 rfl rfl)
theorem dX4_init_692 : decode cX4_init 692 = .ok (.bastore, 1) := dk_84 (dk_at dksX4_init_28 22 rfl rfl)
theorem dX4_init_693 : decode cX4_init 693 = .ok (.dup, 1) := dk_89 (dk_at dksX4_init_28 23 rfl rfl)
theorem dX4_init_694 : decode cX4_init 694 = .ok (.bipush 108, 2) := dk_16 108 (dk_at dksX4_init_29 0 rfl rfl)
theorem dX4_init_696 : decode cX4_init 696 = .ok (.bipush 116, 2) := dk_16 116 (dk_at dksX4_init_29 2 rfl rfl)
theorem dX4_init_698 : decode cX4_init 698 = .ok (.bastore, 1) := dk_84 (dk_at dksX4_init_29 4 rfl rfl)
theorem dX4_init_699 : decode cX4_init 699 = .ok (.dup, 1) := dk_89 (dk_at dksX4_init_29 5 rfl rfl)
theorem dX4_init_700 : decode cX4_init 700 = .ok (.bipush 109, 2) := dk_16 109 (dk_at dksX4_init_29 6 rfl rfl)
theorem dX4_init_702 : decode cX4_init 702 = .ok (.bipush 101, 2) := dk_16 101 (dk_at dksX4_init_29 8 rfl rfl)
theorem dX4_init_704 : decode cX4_init 704 = .ok (.bastore, 1) := dk_84 (dk_at dksX4_init_29 10 rfl rfl)
theorem dX4_init_705 : decode cX4_init 705 = .ok (.dup, 1) := dk_89 (dk_at dksX4_init_29 11 rfl rfl)
theorem dX4_init_706 : decode cX4_init 706 = .ok (.bipush 110, 2) := dk_16 110 (dk_at dksX4_init_29 12 rfl rfl)
theorem dX4_init_708 : decode cX4_init 708 = .ok (.bipush 115, 2) := dk_16 115 (dk_at dksX4_init_29 14 rfl rfl)
theorem dX4_init_710 : decode cX4_init 710 = .ok (.bastore, 1) := dk_84 (dk_at dksX4_init_29 16 rfl rfl)
theorem dX4_init_711 : decode cX4_init 711 = .ok (.dup, 1) := dk_89 (dk_at dksX4_init_29 17 rfl rfl)
theorem dX4_init_712 : decode cX4_init 712 = .ok (.bipush 111, 2) := dk_16 111 (dk_at dksX4_init_29 18 rfl rfl)
theorem dX4_init_714 : decode cX4_init 714 = .ok (.bipush 32, 2) := dk_16 32 (dk_at dksX4_init_29 20 rfl rfl)
theorem dX4_init_716 : decode cX4_init 716 = .ok (.bastore, 1) := dk_84 (dk_at dksX4_init_29 22 rfl rfl)
theorem dX4_init_717 : decode cX4_init 717 = .ok (.dup, 1) := dk_89 (dk_at dksX4_init_29 23 rfl rfl)
theorem dX4_init_718 : decode cX4_init 718 = .ok (.bipush 112, 2) := dk_16 112 (dk_at dksX4_init_30 0 rfl rfl)
theorem dX4_init_720 : decode cX4_init 720 = .ok (.bipush 115, 2) := dk_16 115 (dk_at dksX4_init_30 2 rfl rfl)
theorem dX4_init_722 : decode cX4_init 722 = .ok (.bastore, 1) := dk_84 (dk_at dksX4_init_30 4 rfl rfl)
theorem dX4_init_723 : decode cX4_init 723 = .ok (.dup, 1) := dk_89 (dk_at dksX4_init_30 5 rfl rfl)
theorem dX4_init_724 : decode cX4_init 724 = .ok (.bipush 113, 2) := dk_16 113 (dk_at dksX4_init_30 6 rfl rfl)
theorem dX4_init_726 : decode cX4_init 726 = .ok (.bipush 105, 2) := dk_16 105 (dk_at dksX4_init_30 8 rfl rfl)
theorem dX4_init_728 : decode cX4_init 728 = .ok (.bastore, 1) := dk_84 (dk_at dksX4_init_30 10 rfl rfl)
theorem dX4_init_729 : decode cX4_init 729 = .ok (.dup, 1) := dk_89 (dk_at dksX4_init_30 11 rfl rfl)
theorem dX4_init_730 : decode cX4_init 730 = .ok (.bipush 114, 2) := dk_16 114 (dk_at dksX4_init_30 12 rfl rfl)
theorem dX4_init_732 : decode cX4_init 732 = .ok (.bipush 110, 2) := dk_16 110 (dk_at dksX4_init_30 14 rfl rfl)
theorem dX4_init_734 : decode cX4_init 734 = .ok (.bastore, 1) := dk_84 (dk_at dksX4_init_30 16 rfl rfl)
theorem dX4_init_735 : decode cX4_init 735 = .ok (.dup, 1) := dk_89 (dk_at dksX4_init_30 17 rfl rfl)
theorem dX4_init_736 : decode cX4_init 736 = .ok (.bipush 115, 2) := dk_16 115 (dk_at dksX4_init_30 18 rfl rfl)
theorem dX4_init_738 : decode cX4_init 738 = .ok (.bipush 99, 2) := dk_16 99 (dk_at dksX4_init_30 20 rfl rfl)
theorem dX4_init_740 : decode cX4_init 740 = .ok (.bastore, 1) := dk_84 (dk_at dksX4_init_30 22 rfl rfl)
theorem dX4_init_741 : decode cX4_init 741 = .ok (.dup, 1) := dk_89 (dk_at dksX4_init_30 23 rfl rfl)
theorem dX4_init_742 : decode cX4_init 742 = .ok (.bipush 116, 2) := dk_16 116 (dk_at dksX4_init_31 0 rfl rfl)
theorem dX4_init_744 : decode cX4_init 744 = .ok (.bipush 101, 2) := dk_16 101 (dk_at dksX4_init_31 2 rfl rfl)
theorem dX4_init_746 : decode cX4_init 746 = .ok (.bastore, 1) := dk_84 (dk_at dksX4_init_31 4 rfl rfl)
theorem dX4_init_747 : decode cX4_init 747 = .ok (.dup, 1) := dk_89 (dk_at dksX4_init_31 5 rfl rfl)
theorem dX4_init_748 : decode cX4_init 748 = .ok (.bipush 117, 2) := dk_16 117 (dk_at dksX4_init_31 6 rfl rfl)
theorem dX4_init_750 : decode cX4_init 750 = .ok (.bipush 32, 2) := dk_16 32 (dk_at dksX4_init_31 8 rfl rfl)
theorem dX4_init_752 : decode cX4_init 752 = .ok (.bastore, 1) := dk_84 (dk_at dksX4_init_31 10 rfl rfl)
theorem dX4_init_753 : decode cX4_init 753 = .ok (.dup, 1) := dk_89 (dk_at dksX4_init_31 11 rfl rfl)
theorem dX4_init_754 : decode cX4_init 754 = .ok (.bipush 118, 2) := dk_16 118 (dk_at dksX4_init_31 12 rfl rfl)
theorem dX4_init_756 : decode cX4_init 756 = .ok (.bipush 112, 2) := dk_16 112 (dk_at dksX4_init_31 14 rfl rfl)
theorem dX4_init_758 : decode cX4_init 758 = .ok (.bastore, 1) := dk_84 (dk_at dksX4_init_31 16 rfl rfl)
theorem dX4_init_759 : decode cX4_init 759 = .ok (.dup, 1) := dk_89 (dk_at dksX4_init_31 17 rfl rfl)
theorem dX4_init_760 : decode cX4_init 760 = .ok (.bipush 119, 2) := dk_16 119 (dk_at dksX4_init_31 18 rfl rfl)
theorem dX4_init_762 : decode cX4_init 762 = .ok (.bipush 108, 2) := dk_16 108 (dk_at dksX4_init_31 20 rfl rfl)
theorem dX4_init_764 : decode cX4_init 764 = .ok (.bastore, 1) := dk_84 (dk_at dksX4_init_31 22 rfl rfl)
theorem dX4_init_765 : decode cX4_init 765 = .ok (.dup, 1) := dk_89 (dk_at dksX4_init_31 23 rfl rfl)
theorem dX4_init_766 : decode cX4_init 766 = .ok (.bipush 120, 2) := dk_16 120 (dk_at dksX4_init_32 0 rfl rfl)
theorem dX4_init_768 : decode cX4_init 768 = .ok (.bipush 97, 2) := dk_16 97 (dk_at dksX4_init_32 2 rfl rfl)
theorem dX4_init_770 : decode cX4_init 770 = .ok (.bastore, 1) := dk_84 (dk_at dksX4_init_32 4 rfl rfl)
theorem dX4_init_771 : decode cX4_init 771 = .ok (.dup, 1) := dk_89 (dk_at dksX4_init_32 5 rfl rfl)
theorem dX4_init_772 : decode cX4_init 772 = .ok (.bipush 121, 2) := dk_16 121 (dk_at dksX4_init_32 6 rfl rfl)
theorem dX4_init_774 : decode cX4_init 774 = .ok (.bipush 99, 2) := dk_16 99 (dk_at dksX4_init_32 8 rfl rfl)
theorem dX4_init_776 : decode cX4_init 776 = .ok (.bastore, 1) := dk_84 (dk_at dksX4_init_32 10 rfl rfl)
theorem dX4_init_777 : decode cX4_init 777 = .ok (.dup, 1) := dk_89 (dk_at dksX4_init_32 11 rfl rfl)
theorem dX4_init_778 : decode cX4_init 778 = .ok (.bipush 122, 2) := dk_16 122 (dk_at dksX4_init_32 12 rfl rfl)
theorem dX4_init_780 : decode cX4_init 780 = .ok (.bipush 101, 2) := dk_16 101 (dk_at dksX4_init_32 14 rfl rfl)
theorem dX4_init_782 : decode cX4_init 782 = .ok (.bastore, 1) := dk_84 (dk_at dksX4_init_32 16 rfl rfl)
theorem dX4_init_783 : decode cX4_init 783 = .ok (.dup, 1) := dk_89 (dk_at dksX4_init_32 17 rfl rfl)
theorem dX4_init_784 : decode cX4_init 784 = .ok (.bipush 123, 2) := dk_16 123 (dk_at dksX4_init_32 18 rfl rfl)
theorem dX4_init_786 : decode cX4_init 786 = .ok (.bipush 32, 2) := dk_16 32 (dk_at dksX4_init_32 20 rfl rfl)
theorem dX4_init_788 : decode cX4_init 788 = .ok (.bastore, 1) := dk_84 (dk_at dksX4_init_32 22 rfl rfl)
theorem dX4_init_789 : decode cX4_init 789 = .ok (.dup, 1) := dk_89 (dk_at dksX4_init_32 23 rfl rfl)
theorem dX4_init_790 : decode cX4_init 790 = .ok (.bipush 124, 2) := dk_16 124 (dk_at dksX4_init_33 0 rfl rfl)
theorem dX4_init_792 : decode cX4_init 792 = .ok (.bipush 111, 2) := dk_16 111 (dk_at dksX4_init_33 2 rfl rfl)
theorem dX4_init_794 : decode cX4_init 794 = .ok (.bastore, 1) := dk_84 (dk_at dksX4_init_33 4 rfl rfl)
theorem dX4_init_795 : decode cX4_init 795 = .ok (.dup, 1) := dk_89 (dk_at dksX4_init_33 5 rfl rfl)
theorem dX4_init_796 : decode cX4_init 796 = .ok (.bipush 125, 2) := dk_16 125 (dk_at dksX4_init_33 6 rfl rfl)
theorem dX4_init_798 : decode cX4_init 798 = .ok (.bipush 112, 2) := dk_16 112 (dk_at dksX4_init_33 8 rfl rfl)
theorem dX4_init_800 : decode cX4_init 800 = .ok (.bastore, 1) := dk_84 (dk_at dksX4_init_33 10 rfl rfl)
theorem dX4_init_801 : decode cX4_init 801 = .ok (.dup, 1) := dk_89 (dk_at dksX4_init_33 11 rfl rfl)
theorem dX4_init_802 : decode cX4_init 802 = .ok (.bipush 126, 2) := dk_16 126 (dk_at dksX4_init_33 12 rfl rfl)
theorem dX4_init_804 : decode cX4_init 804 = .ok (.bipush 101, 2) := dk_16 101 (dk_at dksX4_init_33 14 rfl rfl)
theorem dX4_init_806 : decode cX4_init 806 = .ok (.bastore, 1) := dk_84 (dk_at dksX4_init_33 16 rfl rfl)
theorem dX4_init_807 : decode cX4_init 807 = .ok (.dup, 1) := dk_89 (dk_at dksX4_init_33 17 rfl rfl)
theorem dX4_init_808 : decode cX4_init 808 = .ok (.bipush 127, 2) := dk_16 127 (dk_at dksX4_init_33 18 rfl rfl)
theorem dX4_init_810 : decode cX4_init 810 = .ok (.bipush 110, 2) := dk_16 110 (dk_at dksX4_init_33 20 rfl rfl)
theorem dX4_init_812 : decode cX4_init 812 = .ok (.bastore, 1) := dk_84 (dk_at dksX4_init_33 22 rfl rfl)
theorem dX4_init_813 : decode cX4_init 813 = .ok (.dup, 1) := dk_89 (dk_at dksX4_init_33 23 rfl rfl)
theorem dX4_init_814 : decode cX4_init 814 = .ok (.sipush 128, 3) := dk_17 0 128 (dk_at dksX4_init_34 0 rfl rfl)
theorem dX4_init_817 : decode cX4_init 817 = .ok (.bipush 32, 2) := dk_16 32 (dk_at dksX4_init_34 3 rfl rfl)
theorem dX4_init_819 : decode cX4_init 819 = .ok (.bastore, 1) := dk_84 (dk_at dksX4_init_34 5 rfl rfl)
theorem dX4_init_820 : decode cX4_init 820 = .ok (.dup, 1) := dk_89 (dk_at dksX4_init_34 6 rfl rfl)
theorem dX4_init_821 : decode cX4_init 821 = .ok (.sipush 129, 3) := dk_17 0 129 (dk_at dksX4_init_34 7 rfl rfl)
theorem dX4_init_824 : decode cX4_init 824 = .ok (.bipush 104, 2) := dk_16 104 (dk_at dksX4_init_34 10 rfl rfl)
theorem dX4_init_826 : decode cX4_init 826 = .ok (.bastore, 1) := dk_84 (dk_at dksX4_init_34 12 rfl rfl)
theorem dX4_init_827 : decode cX4_init 827 = .ok (.dup, 1) := dk_89 (dk_at dksX4_init_34 13 rfl rfl)
theorem dX4_init_828 : decode cX4_init 828 = .ok (.sipush 130, 3) := dk_17 0 130 (dk_at dksX4_init_34 14 rfl rfl)
theorem dX4_init_831 : decode cX4_init 831 = .ok (.bipush 97, 2) := dk_16 97 (dk_at dksX4_init_34 17 rfl rfl)
theorem dX4_init_833 : decode cX4_init 833 = .ok (.bastore, 1) := dk_84 (dk_at dksX4_init_34 19 rfl rfl)
theorem dX4_init_834 : decode cX4_init 834 = .ok (.dup, 1) := dk_89 (dk_at dksX4_init_34 20 rfl rfl)
theorem dX4_init_835 : decode cX4_init 835 = .ok (.sipush 131, 3) := dk_17 0 131 (dk_at dksX4_init_34 21 rfl rfl)
theorem dX4_init_838 : decode cX4_init 838 = .ok (.bipush 110, 2) := dk_16 110 (dk_at dksX4_init_35 0 rfl rfl)
theorem dX4_init_840 : decode cX4_init 840 = .ok (.bastore, 1) := dk_84 (dk_at dksX4_init_35 2 rfl rfl)
theorem dX4_init_841 : decode cX4_init 841 = .ok (.dup, 1) := dk_89 (dk_at dksX4_init_35 3 rfl rfl)
theorem dX4_init_842 : decode cX4_init 842 = .ok (.sipush 132, 3) := dk_17 0 132 (dk_at dksX4_init_35 4 rfl rfl)
theorem dX4_init_845 : decode cX4_init 845 = .ok (.bipush 100, 2) := dk_16 100 (dk_at dksX4_init_35 7 rfl rfl)
theorem dX4_init_847 : decode cX4_init 847 = .ok (.bastore, 1) := dk_84 (dk_at dksX4_init_35 9 rfl rfl)
theorem dX4_init_848 : decode cX4_init 848 = .ok (.dup, 1) := dk_89 (dk_at dksX4_init_35 10 rfl rfl)
theorem dX4_init_849 : decode cX4_init 849 = .ok (.sipush 133, 3) := dk_17 0 133 (dk_at dksX4_init_35 11 rfl rfl)
theorem dX4_init_852 : decode cX4_init 852 = .ok (.bipush 32, 2) := dk_16 32 (dk_at dksX4_init_35 14 rfl rfl)
theorem dX4_init_854 : decode cX4_init 854 = .ok (.bastore, 1) := dk_84 (dk_at dksX4_init_35 16 rfl rfl)
theorem dX4_init_855 : decode cX4_init 855 = .ok (.putfield 30, 3) := dk_181 0 30 (dk_at dksX4_init_35 17 rfl rfl)
theorem dX4_init_858 : decode cX4_init 858 = .ok (.aload_n 0, 1) := dk_42 (dk_at dksX4_init_35 20 rfl rfl)
theorem dX4_init_859 : decode cX4_init 859 = .ok (.sipush 400, 3) := dk_17 1 144 (dk_at dksX4_init_35 21 rfl rfl)
theorem dX4_init_862 : decode cX4_init 862 = .ok (.newarray .byte, 2) := dk_188_8 (dk_at dksX4_init_36 0 rfl rfl)
theorem dX4_init_864 : decode cX4_init 864 = .ok (.putfield 34, 3) := dk_181 0 34 (dk_at dksX4_init_36 2 rfl rfl)
theorem dX4_init_867 : decode cX4_init 867 = .ok (.aload_n 0, 1) := dk_42 (dk_at dksX4_init_36 5 rfl rfl)
theorem dX4_init_868 : decode cX4_init 868 = .ok (.iconst 5, 1) := dk_8 (dk_at dksX4_init_36 6 rfl rfl)
theorem dX4_init_869 : decode cX4_init 869 = .ok (.newarray .int, 2) := dk_188_10 (dk_at dksX4_init_36 7 rfl rfl)
theorem dX4_init_871 : decode cX4_init 871 = .ok (.putfield 37, 3) := dk_181 0 37 (dk_at dksX4_init_36 9 rfl rfl)
theorem dX4_init_874 : decode cX4_init 874 = .ok (.aload_n 0, 1) := dk_42 (dk_at dksX4_init_36 12 rfl rfl)
theorem dX4_init_875 : decode cX4_init 875 = .ok (.iconst (-1), 1) := dk_2 (dk_at dksX4_init_36 13 rfl rfl)
theorem dX4_init_876 : decode cX4_init 876 = .ok (.putfield 40, 3) := dk_181 0 40 (dk_at dksX4_init_36 14 rfl rfl)
theorem dX4_init_879 : decode cX4_init 879 = .ok (.aload_n 0, 1) := dk_42 (dk_at dksX4_init_36 17 rfl rfl)
theorem dX4_init_880 : decode cX4_init 880 = .ok (.sipush 401, 3) := dk_17 1 145 (dk_at dksX4_init_36 18 rfl rfl)
theorem dX4_init_883 : decode cX4_init 883 = .ok (.newarray .int, 2) := dk_188_10 (dk_at dksX4_init_36 21 rfl rfl)
theorem dX4_init_885 : decode cX4_init 885 = .ok (.putfield 43, 3) := dk_181 0 43 (dk_at dksX4_init_37 0 rfl rfl)
theorem dX4_init_888 : decode cX4_init 888 = .ok (.aload_n 0, 1) := dk_42 (dk_at dksX4_init_37 3 rfl rfl)
theorem dX4_init_889 : decode cX4_init 889 = .ok (.sipush 401, 3) := dk_17 1 145 (dk_at dksX4_init_37 4 rfl rfl)
theorem dX4_init_892 : decode cX4_init 892 = .ok (.newarray .int, 2) := dk_188_10 (dk_at dksX4_init_37 7 rfl rfl)
theorem dX4_init_894 : decode cX4_init 894 = .ok (.putfield 46, 3) := dk_181 0 46 (dk_at dksX4_init_37 9 rfl rfl)
theorem dX4_init_897 : decode cX4_init 897 = .ok (.aload_n 0, 1) := dk_42 (dk_at dksX4_init_37 12 rfl rfl)
theorem dX4_init_898 : decode cX4_init 898 = .ok (.sipush 401, 3) := dk_17 1 145 (dk_at dksX4_init_37 13 rfl rfl)
theorem dX4_init_901 : decode cX4_init 901 = .ok (.newarray .int, 2) := dk_188_10 (dk_at dksX4_init_37 16 rfl rfl)
theorem dX4_init_903 : decode cX4_init 903 = .ok (.putfield 49, 3) := dk_181 0 49 (dk_at dksX4_init_37 18 rfl rfl)
theorem dX4_init_906 : decode cX4_init 906 = .ok (.aload_n 0, 1) := dk_42 (dk_at dksX4_init_37 21 rfl rfl)
theorem dX4_init_907 : decode cX4_init 907 = .ok (.bipush 12, 2) := dk_16 12 (dk_at dksX4_init_37 22 rfl rfl)
theorem dX4_init_909 : decode cX4_init 909 = .ok (.newarray .int, 2) := dk_188_10 (dk_at dksX4_init_38 0 rfl rfl)
theorem dX4_init_911 : decode cX4_init 911 = .ok (.putfield 52, 3) := dk_181 0 52 (dk_at dksX4_init_38 2 rfl rfl)
theorem dX4_init_914 : decode cX4_init 914 = .ok (.aload_n 0, 1) := dk_42 (dk_at dksX4_init_38 5 rfl rfl)
theorem dX4_init_915 : decode cX4_init 915 = .ok (.bipush 12, 2) := dk_16 12 (dk_at dksX4_init_38 6 rfl rfl)
theorem dX4_init_917 : decode cX4_init 917 = .ok (.newarray .boolean, 2) := dk_188_4 (dk_at dksX4_init_38 8 rfl rfl)
theorem dX4_init_919 : decode cX4_init 919 = .ok (.putfield 55, 3) := dk_181 0 55 (dk_at dksX4_init_38 10 rfl rfl)
theorem dX4_init_922 : decode cX4_init 922 = .ok (.aload_n 0, 1) := dk_42 (dk_at dksX4_init_38 13 rfl rfl)
theorem dX4_init_923 : decode cX4_init 923 = .ok (.bipush 12, 2) := dk_16 12 (dk_at dksX4_init_38 14 rfl rfl)
theorem dX4_init_925 : decode cX4_init 925 = .ok (.newarray .long, 2) := dk_188_11 (dk_at dksX4_init_38 16 rfl rfl)
theorem dX4_init_927 : decode cX4_init 927 = .ok (.putfield 58, 3) := dk_181 0 58 (dk_at dksX4_init_38 18 rfl rfl)
theorem dX4_init_930 : decode cX4_init 930 = .ok (.aload_n 0, 1) := dk_42 (dk_at dksX4_init_38 21 rfl rfl)
theorem dX4_init_931 : decode cX4_init 931 = .ok (.sipush 144, 3) := dk_17 0 144 (dk_at dksX4_init_39 0 rfl rfl)
theorem dX4_init_934 : decode cX4_init 934 = .ok (.newarray .int, 2) := dk_188_10 (dk_at dksX4_init_39 3 rfl rfl)
theorem dX4_init_936 : decode cX4_init 936 = .ok (.putfield 62, 3) := dk_181 0 62 (dk_at dksX4_init_39 5 rfl rfl)
theorem dX4_init_939 : decode cX4_init 939 = .ok (.aload_n 0, 1) := dk_42 (dk_at dksX4_init_39 8 rfl rfl)
theorem dX4_init_940 : decode cX4_init 940 = .ok (.sipush 4096, 3) := dk_17 16 0 (dk_at dksX4_init_39 9 rfl rfl)
theorem dX4_init_943 : decode cX4_init 943 = .ok (.newarray .int, 2) := dk_188_10 (dk_at dksX4_init_39 12 rfl rfl)
theorem dX4_init_945 : decode cX4_init 945 = .ok (.putfield 65, 3) := dk_181 0 65 (dk_at dksX4_init_39 14 rfl rfl)
theorem dX4_init_948 : decode cX4_init 948 = .ok (.aload_n 0, 1) := dk_42 (dk_at dksX4_init_39 17 rfl rfl)
theorem dX4_init_949 : decode cX4_init 949 = .ok (.bipush 12, 2) := dk_16 12 (dk_at dksX4_init_39 18 rfl rfl)
theorem dX4_init_951 : decode cX4_init 951 = .ok (.newarray .int, 2) := dk_188_10 (dk_at dksX4_init_39 20 rfl rfl)
theorem dX4_init_953 : decode cX4_init 953 = .ok (.putfield 68, 3) := dk_181 0 68 (dk_at dksX4_init_40 0 rfl rfl)
theorem dX4_init_956 : decode cX4_init 956 = .ok (.aload_n 0, 1) := dk_42 (dk_at dksX4_init_40 3 rfl rfl)
theorem dX4_init_957 : decode cX4_init 957 = .ok (.bipush 11, 2) := dk_16 11 (dk_at dksX4_init_40 4 rfl rfl)
theorem dX4_init_959 : decode cX4_init 959 = .ok (.newarray .long, 2) := dk_188_11 (dk_at dksX4_init_40 6 rfl rfl)
theorem dX4_init_961 : decode cX4_init 961 = .ok (.putfield 71, 3) := dk_181 0 71 (dk_at dksX4_init_40 8 rfl rfl)
theorem dX4_init_964 : decode cX4_init 964 = .ok (.iconst 0, 1) := dk_3 (dk_at dksX4_init_40 11 rfl rfl)
theorem dX4_init_965 : decode cX4_init 965 = .ok (.istore_n 1, 1) := dk_60 (dk_at dksX4_init_40 12 rfl rfl)
theorem dX4_init_966 : decode cX4_init 966 = .ok (.iload_n 1, 1) := dk_27 (dk_at dksX4_init_40 13 rfl rfl)
theorem dX4_init_967 : decode cX4_init 967 = .ok (.bipush 6, 2) := dk_16 6 (dk_at dksX4_init_40 14 rfl rfl)
theorem dX4_init_969 : decode cX4_init 969 = .ok (.if_icmp .ge 23, 3) := dk_162 0 23 (dk_at dksX4_init_40 16 rfl rfl)
theorem dX4_init_972 : decode cX4_init 972 = .ok (.aload_n 0, 1) := dk_42 (dk_at dksX4_init_40 19 rfl rfl)
theorem dX4_init_973 : decode cX4_init 973 = .ok (.getfield 17, 3) := dk_180 0 17 (dk_at dksX4_init_40 20 rfl rfl)
theorem dX4_init_976 : decode cX4_init 976 = .ok (.iconst 0, 1) := dk_3 (dk_at dksX4_init_40 23 rfl rfl)
theorem dX4_init_977 : decode cX4_init 977 = .ok (.iconst 3, 1) := dk_6 (dk_at dksX4_init_41 0 rfl rfl)
theorem dX4_init_978 : decode cX4_init 978 = .ok (.iload_n 1, 1) := dk_27 (dk_at dksX4_init_41 1 rfl rfl)
theorem dX4_init_979 : decode cX4_init 979 = .ok (.imul, 1) := dk_104 (dk_at dksX4_init_41 2 rfl rfl)
theorem dX4_init_980 : decode cX4_init 980 = .ok (.iadd, 1) := dk_96 (dk_at dksX4_init_41 3 rfl rfl)
theorem dX4_init_981 : decode cX4_init 981 = .ok (.iconst 1, 1) := dk_4 (dk_at dksX4_init_41 4 rfl rfl)
theorem dX4_init_982 : decode cX4_init 982 = .ok (.iadd, 1) := dk_96 (dk_at dksX4_init_41 5 rfl rfl)
theorem dX4_init_983 : decode cX4_init 983 = .ok (.bipush 7, 2) := dk_16 7 (dk_at dksX4_init_41 6 rfl rfl)
theorem dX4_init_985 : decode cX4_init 985 = .ok (.iastore, 1) := dk_79 (dk_at dksX4_init_41 8 rfl rfl)
theorem dX4_init_986 : decode cX4_init 986 = .ok (.iinc 1 1, 3) := dk_132 1 1 (dk_at dksX4_init_41 9 rfl rfl)
theorem dX4_init_989 : decode cX4_init 989 = .ok (.goto (-23), 3) := dk_167 255 233 (dk_at dksX4_init_41 12 rfl rfl)
theorem dX4_init_992 : decode cX4_init 992 = .ok (.aload_n 0, 1) := dk_42 (dk_at dksX4_init_41 15 rfl rfl)
theorem dX4_init_993 : decode cX4_init 993 = .ok (.getfield 17, 3) := dk_180 0 17 (dk_at dksX4_init_41 16 rfl rfl)
theorem dX4_init_996 : decode cX4_init 996 = .ok (.bipush 18, 2) := dk_16 18 (dk_at dksX4_init_41 19 rfl rfl)
theorem dX4_init_998 : decode cX4_init 998 = .ok (.bipush 100, 2) := dk_16 100 (dk_at dksX4_init_41 21 rfl rfl)
theorem dX4_init_1000 : decode cX4_init 1000 = .ok (.iastore, 1) := dk_79 (dk_at dksX4_init_41 23 rfl rfl)
theorem dX4_init_1001 : decode cX4_init 1001 = .ok (.aload_n 0, 1) := dk_42 (dk_at dksX4_init_42 0 rfl rfl)
theorem dX4_init_1002 : decode cX4_init 1002 = .ok (.getfield 17, 3) := dk_180 0 17 (dk_at dksX4_init_42 1 rfl rfl)
theorem dX4_init_1005 : decode cX4_init 1005 = .ok (.bipush 22, 2) := dk_16 22 (dk_at dksX4_init_42 4 rfl rfl)
theorem dX4_init_1007 : decode cX4_init 1007 = .ok (.bipush 20, 2) := dk_16 20 (dk_at dksX4_init_42 6 rfl rfl)
theorem dX4_init_1009 : decode cX4_init 1009 = .ok (.iastore, 1) := dk_79 (dk_at dksX4_init_42 8 rfl rfl)
theorem dX4_init_1010 : decode cX4_init 1010 = .ok (.return_, 1) := dk_177 (dk_at dksX4_init_42 9 rfl rfl)
abbrev cX4_image : ByteArray := prog_24_method_5_code
def yX4_image : MethodName := ⟨RX4, "image", "(I)I"⟩
def dkwX4_image_2 : List UInt8 := [42, 180, 0, 23, 27, 4, 84, 42, 3, 182, 0, 82, 172]
abbrev dktX4_image_2 : List UInt8 := dkwX4_image_2 ++ []
def dkwX4_image_1 : List UInt8 := [42, 180, 0, 20, 17, 44, 106, 27, 104, 28, 96, 42, 180, 0, 17, 28, 46, 79, 132, 2, 1, 167, 255, 228]
abbrev dktX4_image_1 : List UInt8 := dkwX4_image_1 ++ dktX4_image_2
def dkwX4_image_0 : List UInt8 := [27, 3, 4, 184, 0, 74, 154, 0, 9, 42, 2, 182, 0, 78, 172, 3, 61, 28, 17, 44, 106, 162, 0, 27]
abbrev dktX4_image_0 : List UInt8 := dkwX4_image_0 ++ dktX4_image_1
theorem dksX4_image_0 : cX4_image.data.toList.drop 0 = dktX4_image_0 := by decide +kernel
theorem dksX4_image_1 : cX4_image.data.toList.drop 24 = dktX4_image_1 := dk_seg dksX4_image_0 24 rfl rfl
theorem dksX4_image_2 : cX4_image.data.toList.drop 48 = dktX4_image_2 := dk_seg dksX4_image_1 24 rfl rfl
theorem dX4_image_0 : decode cX4_image 0 = .ok (.iload_n 1, 1) := dk_27 (dk_at dksX4_image_0 0 rfl rfl)
theorem dX4_image_1 : decode cX4_image 1 = .ok (.iconst 0, 1) := dk_3 (dk_at dksX4_image_0 1 rfl rfl)
theorem dX4_image_2 : decode cX4_image 2 = .ok (.iconst 1, 1) := dk_4 (dk_at dksX4_image_0 2 rfl rfl)
theorem dX4_image_3 : decode cX4_image 3 = .ok (.invokestatic 74, 3) := dk_184 0 74 (dk_at dksX4_image_0 3 rfl rfl)
theorem dX4_image_6 : decode cX4_image 6 = .ok (.ifCond .ne 9, 3) := dk_154 0 9 (dk_at dksX4_image_0 6 rfl rfl)
theorem dX4_image_9 : decode cX4_image 9 = .ok (.aload_n 0, 1) := dk_42 (dk_at dksX4_image_0 9 rfl rfl)
theorem dX4_image_10 : decode cX4_image 10 = .ok (.iconst (-1), 1) := dk_2 (dk_at dksX4_image_0 10 rfl rfl)
theorem dX4_image_11 : decode cX4_image 11 = .ok (.invokevirtual 78, 3) := dk_182 0 78 (dk_at dksX4_image_0 11 rfl rfl)
theorem dX4_image_14 : decode cX4_image 14 = .ok (.ireturn, 1) := dk_172 (dk_at dksX4_image_0 14 rfl rfl)
theorem dX4_image_15 : decode cX4_image 15 = .ok (.iconst 0, 1) := dk_3 (dk_at dksX4_image_0 15 rfl rfl)
theorem dX4_image_16 : decode cX4_image 16 = .ok (.istore_n 2, 1) := dk_61 (dk_at dksX4_image_0 16 rfl rfl)
theorem dX4_image_17 : decode cX4_image 17 = .ok (.iload_n 2, 1) := dk_28 (dk_at dksX4_image_0 17 rfl rfl)
theorem dX4_image_18 : decode cX4_image 18 = .ok (.sipush 11370, 3) := dk_17 44 106 (dk_at dksX4_image_0 18 rfl rfl)
theorem dX4_image_21 : decode cX4_image 21 = .ok (.if_icmp .ge 27, 3) := dk_162 0 27 (dk_at dksX4_image_0 21 rfl rfl)
theorem dX4_image_24 : decode cX4_image 24 = .ok (.aload_n 0, 1) := dk_42 (dk_at dksX4_image_1 0 rfl rfl)
theorem dX4_image_25 : decode cX4_image 25 = .ok (.getfield 20, 3) := dk_180 0 20 (dk_at dksX4_image_1 1 rfl rfl)
theorem dX4_image_28 : decode cX4_image 28 = .ok (.sipush 11370, 3) := dk_17 44 106 (dk_at dksX4_image_1 4 rfl rfl)
theorem dX4_image_31 : decode cX4_image 31 = .ok (.iload_n 1, 1) := dk_27 (dk_at dksX4_image_1 7 rfl rfl)
theorem dX4_image_32 : decode cX4_image 32 = .ok (.imul, 1) := dk_104 (dk_at dksX4_image_1 8 rfl rfl)
theorem dX4_image_33 : decode cX4_image 33 = .ok (.iload_n 2, 1) := dk_28 (dk_at dksX4_image_1 9 rfl rfl)
theorem dX4_image_34 : decode cX4_image 34 = .ok (.iadd, 1) := dk_96 (dk_at dksX4_image_1 10 rfl rfl)
theorem dX4_image_35 : decode cX4_image 35 = .ok (.aload_n 0, 1) := dk_42 (dk_at dksX4_image_1 11 rfl rfl)
theorem dX4_image_36 : decode cX4_image 36 = .ok (.getfield 17, 3) := dk_180 0 17 (dk_at dksX4_image_1 12 rfl rfl)
theorem dX4_image_39 : decode cX4_image 39 = .ok (.iload_n 2, 1) := dk_28 (dk_at dksX4_image_1 15 rfl rfl)
theorem dX4_image_40 : decode cX4_image 40 = .ok (.iaload, 1) := dk_46 (dk_at dksX4_image_1 16 rfl rfl)
theorem dX4_image_41 : decode cX4_image 41 = .ok (.iastore, 1) := dk_79 (dk_at dksX4_image_1 17 rfl rfl)
theorem dX4_image_42 : decode cX4_image 42 = .ok (.iinc 2 1, 3) := dk_132 2 1 (dk_at dksX4_image_1 18 rfl rfl)
theorem dX4_image_45 : decode cX4_image 45 = .ok (.goto (-28), 3) := dk_167 255 228 (dk_at dksX4_image_1 21 rfl rfl)
theorem dX4_image_48 : decode cX4_image 48 = .ok (.aload_n 0, 1) := dk_42 (dk_at dksX4_image_2 0 rfl rfl)
theorem dX4_image_49 : decode cX4_image 49 = .ok (.getfield 23, 3) := dk_180 0 23 (dk_at dksX4_image_2 1 rfl rfl)
theorem dX4_image_52 : decode cX4_image 52 = .ok (.iload_n 1, 1) := dk_27 (dk_at dksX4_image_2 4 rfl rfl)
theorem dX4_image_53 : decode cX4_image 53 = .ok (.iconst 1, 1) := dk_4 (dk_at dksX4_image_2 5 rfl rfl)
theorem dX4_image_54 : decode cX4_image 54 = .ok (.bastore, 1) := dk_84 (dk_at dksX4_image_2 6 rfl rfl)
theorem dX4_image_55 : decode cX4_image 55 = .ok (.aload_n 0, 1) := dk_42 (dk_at dksX4_image_2 7 rfl rfl)
theorem dX4_image_56 : decode cX4_image 56 = .ok (.iconst 0, 1) := dk_3 (dk_at dksX4_image_2 8 rfl rfl)
theorem dX4_image_57 : decode cX4_image 57 = .ok (.invokevirtual 82, 3) := dk_182 0 82 (dk_at dksX4_image_2 9 rfl rfl)
theorem dX4_image_60 : decode cX4_image 60 = .ok (.ireturn, 1) := dk_172 (dk_at dksX4_image_2 12 rfl rfl)
abbrev cX4_in : ByteArray := prog_24_method_1_code
def yX4_in : MethodName := ⟨RX4, "in", "(III)Z"⟩
def dkwX4_in_0 : List UInt8 := [26, 27, 161, 0, 12, 26, 28, 163, 0, 7, 4, 167, 0, 4, 3, 172]
abbrev dktX4_in_0 : List UInt8 := dkwX4_in_0 ++ []
theorem dksX4_in_0 : cX4_in.data.toList.drop 0 = dktX4_in_0 := by decide +kernel
theorem dX4_in_0 : decode cX4_in 0 = .ok (.iload_n 0, 1) := dk_26 (dk_at dksX4_in_0 0 rfl rfl)
theorem dX4_in_1 : decode cX4_in 1 = .ok (.iload_n 1, 1) := dk_27 (dk_at dksX4_in_0 1 rfl rfl)
theorem dX4_in_2 : decode cX4_in 2 = .ok (.if_icmp .lt 12, 3) := dk_161 0 12 (dk_at dksX4_in_0 2 rfl rfl)
theorem dX4_in_5 : decode cX4_in 5 = .ok (.iload_n 0, 1) := dk_26 (dk_at dksX4_in_0 5 rfl rfl)
theorem dX4_in_6 : decode cX4_in 6 = .ok (.iload_n 2, 1) := dk_28 (dk_at dksX4_in_0 6 rfl rfl)
theorem dX4_in_7 : decode cX4_in 7 = .ok (.if_icmp .gt 7, 3) := dk_163 0 7 (dk_at dksX4_in_0 7 rfl rfl)
theorem dX4_in_10 : decode cX4_in 10 = .ok (.iconst 1, 1) := dk_4 (dk_at dksX4_in_0 10 rfl rfl)
theorem dX4_in_11 : decode cX4_in 11 = .ok (.goto 4, 3) := dk_167 0 4 (dk_at dksX4_in_0 11 rfl rfl)
theorem dX4_in_14 : decode cX4_in 14 = .ok (.iconst 0, 1) := dk_3 (dk_at dksX4_in_0 14 rfl rfl)
theorem dX4_in_15 : decode cX4_in 15 = .ok (.ireturn, 1) := dk_172 (dk_at dksX4_in_0 15 rfl rfl)
abbrev cX4_refuses : ByteArray := prog_24_method_2_code
def yX4_refuses : MethodName := ⟨RX4, "refuses", "(I)I"⟩
def dkwX4_refuses_0 : List UInt8 := [42, 27, 181, 0, 3, 42, 180, 0, 7, 27, 116, 92, 46, 4, 96, 79, 27, 172]
abbrev dktX4_refuses_0 : List UInt8 := dkwX4_refuses_0 ++ []
theorem dksX4_refuses_0 : cX4_refuses.data.toList.drop 0 = dktX4_refuses_0 := by decide +kernel
theorem dX4_refuses_0 : decode cX4_refuses 0 = .ok (.aload_n 0, 1) := dk_42 (dk_at dksX4_refuses_0 0 rfl rfl)
theorem dX4_refuses_1 : decode cX4_refuses 1 = .ok (.iload_n 1, 1) := dk_27 (dk_at dksX4_refuses_0 1 rfl rfl)
theorem dX4_refuses_2 : decode cX4_refuses 2 = .ok (.putfield 3, 3) := dk_181 0 3 (dk_at dksX4_refuses_0 2 rfl rfl)
theorem dX4_refuses_5 : decode cX4_refuses 5 = .ok (.aload_n 0, 1) := dk_42 (dk_at dksX4_refuses_0 5 rfl rfl)
theorem dX4_refuses_6 : decode cX4_refuses 6 = .ok (.getfield 7, 3) := dk_180 0 7 (dk_at dksX4_refuses_0 6 rfl rfl)
theorem dX4_refuses_9 : decode cX4_refuses 9 = .ok (.iload_n 1, 1) := dk_27 (dk_at dksX4_refuses_0 9 rfl rfl)
theorem dX4_refuses_10 : decode cX4_refuses 10 = .ok (.ineg, 1) := dk_116 (dk_at dksX4_refuses_0 10 rfl rfl)
theorem dX4_refuses_11 : decode cX4_refuses 11 = .ok (.dup2, 1) := dk_92 (dk_at dksX4_refuses_0 11 rfl rfl)
theorem dX4_refuses_12 : decode cX4_refuses 12 = .ok (.iaload, 1) := dk_46 (dk_at dksX4_refuses_0 12 rfl rfl)
theorem dX4_refuses_13 : decode cX4_refuses 13 = .ok (.iconst 1, 1) := dk_4 (dk_at dksX4_refuses_0 13 rfl rfl)
theorem dX4_refuses_14 : decode cX4_refuses 14 = .ok (.iadd, 1) := dk_96 (dk_at dksX4_refuses_0 14 rfl rfl)
theorem dX4_refuses_15 : decode cX4_refuses 15 = .ok (.iastore, 1) := dk_79 (dk_at dksX4_refuses_0 15 rfl rfl)
theorem dX4_refuses_16 : decode cX4_refuses 16 = .ok (.iload_n 1, 1) := dk_27 (dk_at dksX4_refuses_0 16 rfl rfl)
theorem dX4_refuses_17 : decode cX4_refuses 17 = .ok (.ireturn, 1) := dk_172 (dk_at dksX4_refuses_0 17 rfl rfl)
abbrev cX4_good : ByteArray := prog_24_method_3_code
def yX4_good : MethodName := ⟨RX4, "good", "(I)I"⟩
def dkwX4_good_0 : List UInt8 := [42, 3, 181, 0, 3, 27, 172]
abbrev dktX4_good_0 : List UInt8 := dkwX4_good_0 ++ []
theorem dksX4_good_0 : cX4_good.data.toList.drop 0 = dktX4_good_0 := by decide +kernel
theorem dX4_good_0 : decode cX4_good 0 = .ok (.aload_n 0, 1) := dk_42 (dk_at dksX4_good_0 0 rfl rfl)
theorem dX4_good_1 : decode cX4_good 1 = .ok (.iconst 0, 1) := dk_3 (dk_at dksX4_good_0 1 rfl rfl)
theorem dX4_good_2 : decode cX4_good 2 = .ok (.putfield 3, 3) := dk_181 0 3 (dk_at dksX4_good_0 2 rfl rfl)
theorem dX4_good_5 : decode cX4_good 5 = .ok (.iload_n 1, 1) := dk_27 (dk_at dksX4_good_0 5 rfl rfl)
theorem dX4_good_6 : decode cX4_good 6 = .ok (.ireturn, 1) := dk_172 (dk_at dksX4_good_0 6 rfl rfl)
abbrev cX4_back : ByteArray := prog_24_method_6_code
def yX4_back : MethodName := ⟨RX4, "back", "(I)I"⟩
def dkwX4_back_2 : List UInt8 := [180, 0, 20, 17, 44, 106, 27, 104, 28, 96, 46, 79, 132, 2, 1, 167, 255, 228, 42, 3, 182, 0, 82, 172]
abbrev dktX4_back_2 : List UInt8 := dkwX4_back_2 ++ []
def dkwX4_back_1 : List UInt8 := [42, 16, 254, 182, 0, 78, 172, 3, 61, 28, 17, 44, 106, 162, 0, 27, 42, 180, 0, 17, 28, 42]
abbrev dktX4_back_1 : List UInt8 := dkwX4_back_1 ++ dktX4_back_2
def dkwX4_back_0 : List UInt8 := [27, 3, 4, 184, 0, 74, 154, 0, 9, 42, 2, 182, 0, 78, 172, 42, 180, 0, 23, 27, 51, 154, 0, 10]
abbrev dktX4_back_0 : List UInt8 := dkwX4_back_0 ++ dktX4_back_1
theorem dksX4_back_0 : cX4_back.data.toList.drop 0 = dktX4_back_0 := by decide +kernel
theorem dksX4_back_1 : cX4_back.data.toList.drop 24 = dktX4_back_1 := dk_seg dksX4_back_0 24 rfl rfl
theorem dksX4_back_2 : cX4_back.data.toList.drop 46 = dktX4_back_2 := dk_seg dksX4_back_1 22 rfl rfl
theorem dX4_back_0 : decode cX4_back 0 = .ok (.iload_n 1, 1) := dk_27 (dk_at dksX4_back_0 0 rfl rfl)
theorem dX4_back_1 : decode cX4_back 1 = .ok (.iconst 0, 1) := dk_3 (dk_at dksX4_back_0 1 rfl rfl)
theorem dX4_back_2 : decode cX4_back 2 = .ok (.iconst 1, 1) := dk_4 (dk_at dksX4_back_0 2 rfl rfl)
theorem dX4_back_3 : decode cX4_back 3 = .ok (.invokestatic 74, 3) := dk_184 0 74 (dk_at dksX4_back_0 3 rfl rfl)
theorem dX4_back_6 : decode cX4_back 6 = .ok (.ifCond .ne 9, 3) := dk_154 0 9 (dk_at dksX4_back_0 6 rfl rfl)
theorem dX4_back_9 : decode cX4_back 9 = .ok (.aload_n 0, 1) := dk_42 (dk_at dksX4_back_0 9 rfl rfl)
theorem dX4_back_10 : decode cX4_back 10 = .ok (.iconst (-1), 1) := dk_2 (dk_at dksX4_back_0 10 rfl rfl)
theorem dX4_back_11 : decode cX4_back 11 = .ok (.invokevirtual 78, 3) := dk_182 0 78 (dk_at dksX4_back_0 11 rfl rfl)
theorem dX4_back_14 : decode cX4_back 14 = .ok (.ireturn, 1) := dk_172 (dk_at dksX4_back_0 14 rfl rfl)
theorem dX4_back_15 : decode cX4_back 15 = .ok (.aload_n 0, 1) := dk_42 (dk_at dksX4_back_0 15 rfl rfl)
theorem dX4_back_16 : decode cX4_back 16 = .ok (.getfield 23, 3) := dk_180 0 23 (dk_at dksX4_back_0 16 rfl rfl)
theorem dX4_back_19 : decode cX4_back 19 = .ok (.iload_n 1, 1) := dk_27 (dk_at dksX4_back_0 19 rfl rfl)
theorem dX4_back_20 : decode cX4_back 20 = .ok (.baload, 1) := dk_51 (dk_at dksX4_back_0 20 rfl rfl)
theorem dX4_back_21 : decode cX4_back 21 = .ok (.ifCond .ne 10, 3) := dk_154 0 10 (dk_at dksX4_back_0 21 rfl rfl)
theorem dX4_back_24 : decode cX4_back 24 = .ok (.aload_n 0, 1) := dk_42 (dk_at dksX4_back_1 0 rfl rfl)
theorem dX4_back_25 : decode cX4_back 25 = .ok (.bipush (-2), 2) := dk_16 254 (dk_at dksX4_back_1 1 rfl rfl)
theorem dX4_back_27 : decode cX4_back 27 = .ok (.invokevirtual 78, 3) := dk_182 0 78 (dk_at dksX4_back_1 3 rfl rfl)
theorem dX4_back_30 : decode cX4_back 30 = .ok (.ireturn, 1) := dk_172 (dk_at dksX4_back_1 6 rfl rfl)
theorem dX4_back_31 : decode cX4_back 31 = .ok (.iconst 0, 1) := dk_3 (dk_at dksX4_back_1 7 rfl rfl)
theorem dX4_back_32 : decode cX4_back 32 = .ok (.istore_n 2, 1) := dk_61 (dk_at dksX4_back_1 8 rfl rfl)
theorem dX4_back_33 : decode cX4_back 33 = .ok (.iload_n 2, 1) := dk_28 (dk_at dksX4_back_1 9 rfl rfl)
theorem dX4_back_34 : decode cX4_back 34 = .ok (.sipush 11370, 3) := dk_17 44 106 (dk_at dksX4_back_1 10 rfl rfl)
theorem dX4_back_37 : decode cX4_back 37 = .ok (.if_icmp .ge 27, 3) := dk_162 0 27 (dk_at dksX4_back_1 13 rfl rfl)
theorem dX4_back_40 : decode cX4_back 40 = .ok (.aload_n 0, 1) := dk_42 (dk_at dksX4_back_1 16 rfl rfl)
theorem dX4_back_41 : decode cX4_back 41 = .ok (.getfield 17, 3) := dk_180 0 17 (dk_at dksX4_back_1 17 rfl rfl)
theorem dX4_back_44 : decode cX4_back 44 = .ok (.iload_n 2, 1) := dk_28 (dk_at dksX4_back_1 20 rfl rfl)
theorem dX4_back_45 : decode cX4_back 45 = .ok (.aload_n 0, 1) := dk_42 (dk_at dksX4_back_1 21 rfl rfl)
theorem dX4_back_46 : decode cX4_back 46 = .ok (.getfield 20, 3) := dk_180 0 20 (dk_at dksX4_back_2 0 rfl rfl)
theorem dX4_back_49 : decode cX4_back 49 = .ok (.sipush 11370, 3) := dk_17 44 106 (dk_at dksX4_back_2 3 rfl rfl)
theorem dX4_back_52 : decode cX4_back 52 = .ok (.iload_n 1, 1) := dk_27 (dk_at dksX4_back_2 6 rfl rfl)
theorem dX4_back_53 : decode cX4_back 53 = .ok (.imul, 1) := dk_104 (dk_at dksX4_back_2 7 rfl rfl)
theorem dX4_back_54 : decode cX4_back 54 = .ok (.iload_n 2, 1) := dk_28 (dk_at dksX4_back_2 8 rfl rfl)
theorem dX4_back_55 : decode cX4_back 55 = .ok (.iadd, 1) := dk_96 (dk_at dksX4_back_2 9 rfl rfl)
theorem dX4_back_56 : decode cX4_back 56 = .ok (.iaload, 1) := dk_46 (dk_at dksX4_back_2 10 rfl rfl)
theorem dX4_back_57 : decode cX4_back 57 = .ok (.iastore, 1) := dk_79 (dk_at dksX4_back_2 11 rfl rfl)
theorem dX4_back_58 : decode cX4_back 58 = .ok (.iinc 2 1, 3) := dk_132 2 1 (dk_at dksX4_back_2 12 rfl rfl)
theorem dX4_back_61 : decode cX4_back 61 = .ok (.goto (-28), 3) := dk_167 255 228 (dk_at dksX4_back_2 15 rfl rfl)
theorem dX4_back_64 : decode cX4_back 64 = .ok (.aload_n 0, 1) := dk_42 (dk_at dksX4_back_2 18 rfl rfl)
theorem dX4_back_65 : decode cX4_back 65 = .ok (.iconst 0, 1) := dk_3 (dk_at dksX4_back_2 19 rfl rfl)
theorem dX4_back_66 : decode cX4_back 66 = .ok (.invokevirtual 82, 3) := dk_182 0 82 (dk_at dksX4_back_2 20 rfl rfl)
theorem dX4_back_69 : decode cX4_back 69 = .ok (.ireturn, 1) := dk_172 (dk_at dksX4_back_2 23 rfl rfl)
abbrev cX4_kind : ByteArray := prog_24_method_15_code
def yX4_kind : MethodName := ⟨RX4, "kind", "(IIIIII)I"⟩
def dkwX4_kind_9 : List UInt8 := [21, 7, 182, 0, 82, 172]
abbrev dktX4_kind_9 : List UInt8 := dkwX4_kind_9 ++ []
def dkwX4_kind_8 : List UInt8 := [21, 7, 96, 3, 79, 132, 9, 1, 167, 255, 229, 42, 180, 0, 17, 17, 6, 216, 92, 46, 4, 96, 79, 42]
abbrev dktX4_kind_8 : List UInt8 := dkwX4_kind_8 ++ dktX4_kind_9
def dkwX4_kind_7 : List UInt8 := [79, 3, 54, 9, 21, 9, 16, 12, 162, 0, 26, 42, 180, 0, 17, 16, 40, 16, 8, 21, 9, 104, 96]
abbrev dktX4_kind_7 : List UInt8 := dkwX4_kind_7 ++ dktX4_kind_8
def dkwX4_kind_6 : List UInt8 := [21, 4, 79, 42, 180, 0, 17, 21, 8, 7, 96, 21, 5, 79, 42, 180, 0, 17, 21, 8, 8, 96, 21, 6]
abbrev dktX4_kind_6 : List UInt8 := dkwX4_kind_6 ++ dktX4_kind_7
def dkwX4_kind_5 : List UInt8 := [21, 8, 4, 96, 28, 79, 42, 180, 0, 17, 21, 8, 5, 96, 29, 79, 42, 180, 0, 17, 21, 8, 6, 96]
abbrev dktX4_kind_5 : List UInt8 := dkwX4_kind_5 ++ dktX4_kind_6
def dkwX4_kind_4 : List UInt8 := [17, 0, 136, 16, 6, 21, 7, 104, 96, 54, 8, 42, 180, 0, 17, 21, 8, 27, 79, 42, 180, 0, 17]
abbrev dktX4_kind_4 : List UInt8 := dkwX4_kind_4 ++ dktX4_kind_5
def dkwX4_kind_3 : List UInt8 := [180, 0, 17, 17, 6, 216, 46, 54, 7, 21, 7, 16, 8, 160, 0, 10, 42, 16, 251, 182, 0, 78, 172]
abbrev dktX4_kind_3 : List UInt8 := dkwX4_kind_3 ++ dktX4_kind_4
def dkwX4_kind_2 : List UInt8 := [184, 0, 74, 153, 0, 13, 21, 6, 3, 6, 184, 0, 74, 154, 0, 9, 42, 2, 182, 0, 78, 172, 42]
abbrev dktX4_kind_2 : List UInt8 := dkwX4_kind_2 ++ dktX4_kind_3
def dkwX4_kind_1 : List UInt8 := [16, 63, 184, 0, 74, 153, 0, 34, 21, 4, 4, 16, 100, 184, 0, 74, 153, 0, 23, 21, 5, 3, 4]
abbrev dktX4_kind_1 : List UInt8 := dkwX4_kind_1 ++ dktX4_kind_2
def dkwX4_kind_0 : List UInt8 := [27, 3, 16, 7, 184, 0, 74, 153, 0, 55, 28, 4, 17, 0, 255, 184, 0, 74, 153, 0, 44, 29, 3]
abbrev dktX4_kind_0 : List UInt8 := dkwX4_kind_0 ++ dktX4_kind_1
theorem dksX4_kind_0 : cX4_kind.data.toList.drop 0 = dktX4_kind_0 := by decide +kernel
theorem dksX4_kind_1 : cX4_kind.data.toList.drop 23 = dktX4_kind_1 := dk_seg dksX4_kind_0 23 rfl rfl
theorem dksX4_kind_2 : cX4_kind.data.toList.drop 46 = dktX4_kind_2 := dk_seg dksX4_kind_1 23 rfl rfl
theorem dksX4_kind_3 : cX4_kind.data.toList.drop 69 = dktX4_kind_3 := dk_seg dksX4_kind_2 23 rfl rfl
theorem dksX4_kind_4 : cX4_kind.data.toList.drop 92 = dktX4_kind_4 := dk_seg dksX4_kind_3 23 rfl rfl
theorem dksX4_kind_5 : cX4_kind.data.toList.drop 115 = dktX4_kind_5 := dk_seg dksX4_kind_4 23 rfl rfl
theorem dksX4_kind_6 : cX4_kind.data.toList.drop 139 = dktX4_kind_6 := dk_seg dksX4_kind_5 24 rfl rfl
theorem dksX4_kind_7 : cX4_kind.data.toList.drop 163 = dktX4_kind_7 := dk_seg dksX4_kind_6 24 rfl rfl
theorem dksX4_kind_8 : cX4_kind.data.toList.drop 186 = dktX4_kind_8 := dk_seg dksX4_kind_7 23 rfl rfl
theorem dksX4_kind_9 : cX4_kind.data.toList.drop 210 = dktX4_kind_9 := dk_seg dksX4_kind_8 24 rfl rfl
theorem dX4_kind_0 : decode cX4_kind 0 = .ok (.iload_n 1, 1) := dk_27 (dk_at dksX4_kind_0 0 rfl rfl)
theorem dX4_kind_1 : decode cX4_kind 1 = .ok (.iconst 0, 1) := dk_3 (dk_at dksX4_kind_0 1 rfl rfl)
theorem dX4_kind_2 : decode cX4_kind 2 = .ok (.bipush 7, 2) := dk_16 7 (dk_at dksX4_kind_0 2 rfl rfl)
theorem dX4_kind_4 : decode cX4_kind 4 = .ok (.invokestatic 74, 3) := dk_184 0 74 (dk_at dksX4_kind_0 4 rfl rfl)
theorem dX4_kind_7 : decode cX4_kind 7 = .ok (.ifCond .eq 55, 3) := dk_153 0 55 (dk_at dksX4_kind_0 7 rfl rfl)
theorem dX4_kind_10 : decode cX4_kind 10 = .ok (.iload_n 2, 1) := dk_28 (dk_at dksX4_kind_0 10 rfl rfl)
theorem dX4_kind_11 : decode cX4_kind 11 = .ok (.iconst 1, 1) := dk_4 (dk_at dksX4_kind_0 11 rfl rfl)
theorem dX4_kind_12 : decode cX4_kind 12 = .ok (.sipush 255, 3) := dk_17 0 255 (dk_at dksX4_kind_0 12 rfl rfl)
theorem dX4_kind_15 : decode cX4_kind 15 = .ok (.invokestatic 74, 3) := dk_184 0 74 (dk_at dksX4_kind_0 15 rfl rfl)
theorem dX4_kind_18 : decode cX4_kind 18 = .ok (.ifCond .eq 44, 3) := dk_153 0 44 (dk_at dksX4_kind_0 18 rfl rfl)
theorem dX4_kind_21 : decode cX4_kind 21 = .ok (.iload_n 3, 1) := dk_29 (dk_at dksX4_kind_0 21 rfl rfl)
theorem dX4_kind_22 : decode cX4_kind 22 = .ok (.iconst 0, 1) := dk_3 (dk_at dksX4_kind_0 22 rfl rfl)
theorem dX4_kind_23 : decode cX4_kind 23 = .ok (.bipush 63, 2) := dk_16 63 (dk_at dksX4_kind_1 0 rfl rfl)
theorem dX4_kind_25 : decode cX4_kind 25 = .ok (.invokestatic 74, 3) := dk_184 0 74 (dk_at dksX4_kind_1 2 rfl rfl)
theorem dX4_kind_28 : decode cX4_kind 28 = .ok (.ifCond .eq 34, 3) := dk_153 0 34 (dk_at dksX4_kind_1 5 rfl rfl)
theorem dX4_kind_31 : decode cX4_kind 31 = .ok (.iload 4, 2) := dk_21 4 (dk_at dksX4_kind_1 8 rfl rfl)
theorem dX4_kind_33 : decode cX4_kind 33 = .ok (.iconst 1, 1) := dk_4 (dk_at dksX4_kind_1 10 rfl rfl)
theorem dX4_kind_34 : decode cX4_kind 34 = .ok (.bipush 100, 2) := dk_16 100 (dk_at dksX4_kind_1 11 rfl rfl)
theorem dX4_kind_36 : decode cX4_kind 36 = .ok (.invokestatic 74, 3) := dk_184 0 74 (dk_at dksX4_kind_1 13 rfl rfl)
theorem dX4_kind_39 : decode cX4_kind 39 = .ok (.ifCond .eq 23, 3) := dk_153 0 23 (dk_at dksX4_kind_1 16 rfl rfl)
theorem dX4_kind_42 : decode cX4_kind 42 = .ok (.iload 5, 2) := dk_21 5 (dk_at dksX4_kind_1 19 rfl rfl)
theorem dX4_kind_44 : decode cX4_kind 44 = .ok (.iconst 0, 1) := dk_3 (dk_at dksX4_kind_1 21 rfl rfl)
theorem dX4_kind_45 : decode cX4_kind 45 = .ok (.iconst 1, 1) := dk_4 (dk_at dksX4_kind_1 22 rfl rfl)
theorem dX4_kind_46 : decode cX4_kind 46 = .ok (.invokestatic 74, 3) := dk_184 0 74 (dk_at dksX4_kind_2 0 rfl rfl)
theorem dX4_kind_49 : decode cX4_kind 49 = .ok (.ifCond .eq 13, 3) := dk_153 0 13 (dk_at dksX4_kind_2 3 rfl rfl)
theorem dX4_kind_52 : decode cX4_kind 52 = .ok (.iload 6, 2) := dk_21 6 (dk_at dksX4_kind_2 6 rfl rfl)
theorem dX4_kind_54 : decode cX4_kind 54 = .ok (.iconst 0, 1) := dk_3 (dk_at dksX4_kind_2 8 rfl rfl)
theorem dX4_kind_55 : decode cX4_kind 55 = .ok (.iconst 3, 1) := dk_6 (dk_at dksX4_kind_2 9 rfl rfl)
theorem dX4_kind_56 : decode cX4_kind 56 = .ok (.invokestatic 74, 3) := dk_184 0 74 (dk_at dksX4_kind_2 10 rfl rfl)
theorem dX4_kind_59 : decode cX4_kind 59 = .ok (.ifCond .ne 9, 3) := dk_154 0 9 (dk_at dksX4_kind_2 13 rfl rfl)
theorem dX4_kind_62 : decode cX4_kind 62 = .ok (.aload_n 0, 1) := dk_42 (dk_at dksX4_kind_2 16 rfl rfl)
theorem dX4_kind_63 : decode cX4_kind 63 = .ok (.iconst (-1), 1) := dk_2 (dk_at dksX4_kind_2 17 rfl rfl)
theorem dX4_kind_64 : decode cX4_kind 64 = .ok (.invokevirtual 78, 3) := dk_182 0 78 (dk_at dksX4_kind_2 18 rfl rfl)
theorem dX4_kind_67 : decode cX4_kind 67 = .ok (.ireturn, 1) := dk_172 (dk_at dksX4_kind_2 21 rfl rfl)
theorem dX4_kind_68 : decode cX4_kind 68 = .ok (.aload_n 0, 1) := dk_42 (dk_at dksX4_kind_2 22 rfl rfl)
theorem dX4_kind_69 : decode cX4_kind 69 = .ok (.getfield 17, 3) := dk_180 0 17 (dk_at dksX4_kind_3 0 rfl rfl)
theorem dX4_kind_72 : decode cX4_kind 72 = .ok (.sipush 1752, 3) := dk_17 6 216 (dk_at dksX4_kind_3 3 rfl rfl)
theorem dX4_kind_75 : decode cX4_kind 75 = .ok (.iaload, 1) := dk_46 (dk_at dksX4_kind_3 6 rfl rfl)
theorem dX4_kind_76 : decode cX4_kind 76 = .ok (.istore 7, 2) := dk_54 7 (dk_at dksX4_kind_3 7 rfl rfl)
theorem dX4_kind_78 : decode cX4_kind 78 = .ok (.iload 7, 2) := dk_21 7 (dk_at dksX4_kind_3 9 rfl rfl)
theorem dX4_kind_80 : decode cX4_kind 80 = .ok (.bipush 8, 2) := dk_16 8 (dk_at dksX4_kind_3 11 rfl rfl)
theorem dX4_kind_82 : decode cX4_kind 82 = .ok (.if_icmp .ne 10, 3) := dk_160 0 10 (dk_at dksX4_kind_3 13 rfl rfl)
theorem dX4_kind_85 : decode cX4_kind 85 = .ok (.aload_n 0, 1) := dk_42 (dk_at dksX4_kind_3 16 rfl rfl)
theorem dX4_kind_86 : decode cX4_kind 86 = .ok (.bipush (-5), 2) := dk_16 251 (dk_at dksX4_kind_3 17 rfl rfl)
theorem dX4_kind_88 : decode cX4_kind 88 = .ok (.invokevirtual 78, 3) := dk_182 0 78 (dk_at dksX4_kind_3 19 rfl rfl)
theorem dX4_kind_91 : decode cX4_kind 91 = .ok (.ireturn, 1) := dk_172 (dk_at dksX4_kind_3 22 rfl rfl)
theorem dX4_kind_92 : decode cX4_kind 92 = .ok (.sipush 136, 3) := dk_17 0 136 (dk_at dksX4_kind_4 0 rfl rfl)
theorem dX4_kind_95 : decode cX4_kind 95 = .ok (.bipush 6, 2) := dk_16 6 (dk_at dksX4_kind_4 3 rfl rfl)
theorem dX4_kind_97 : decode cX4_kind 97 = .ok (.iload 7, 2) := dk_21 7 (dk_at dksX4_kind_4 5 rfl rfl)
theorem dX4_kind_99 : decode cX4_kind 99 = .ok (.imul, 1) := dk_104 (dk_at dksX4_kind_4 7 rfl rfl)
theorem dX4_kind_100 : decode cX4_kind 100 = .ok (.iadd, 1) := dk_96 (dk_at dksX4_kind_4 8 rfl rfl)
theorem dX4_kind_101 : decode cX4_kind 101 = .ok (.istore 8, 2) := dk_54 8 (dk_at dksX4_kind_4 9 rfl rfl)
theorem dX4_kind_103 : decode cX4_kind 103 = .ok (.aload_n 0, 1) := dk_42 (dk_at dksX4_kind_4 11 rfl rfl)
theorem dX4_kind_104 : decode cX4_kind 104 = .ok (.getfield 17, 3) := dk_180 0 17 (dk_at dksX4_kind_4 12 rfl rfl)
theorem dX4_kind_107 : decode cX4_kind 107 = .ok (.iload 8, 2) := dk_21 8 (dk_at dksX4_kind_4 15 rfl rfl)
theorem dX4_kind_109 : decode cX4_kind 109 = .ok (.iload_n 1, 1) := dk_27 (dk_at dksX4_kind_4 17 rfl rfl)
theorem dX4_kind_110 : decode cX4_kind 110 = .ok (.iastore, 1) := dk_79 (dk_at dksX4_kind_4 18 rfl rfl)
theorem dX4_kind_111 : decode cX4_kind 111 = .ok (.aload_n 0, 1) := dk_42 (dk_at dksX4_kind_4 19 rfl rfl)
theorem dX4_kind_112 : decode cX4_kind 112 = .ok (.getfield 17, 3) := dk_180 0 17 (dk_at dksX4_kind_4 20 rfl rfl)
theorem dX4_kind_115 : decode cX4_kind 115 = .ok (.iload 8, 2) := dk_21 8 (dk_at dksX4_kind_5 0 rfl rfl)
theorem dX4_kind_117 : decode cX4_kind 117 = .ok (.iconst 1, 1) := dk_4 (dk_at dksX4_kind_5 2 rfl rfl)
theorem dX4_kind_118 : decode cX4_kind 118 = .ok (.iadd, 1) := dk_96 (dk_at dksX4_kind_5 3 rfl rfl)
theorem dX4_kind_119 : decode cX4_kind 119 = .ok (.iload_n 2, 1) := dk_28 (dk_at dksX4_kind_5 4 rfl rfl)
theorem dX4_kind_120 : decode cX4_kind 120 = .ok (.iastore, 1) := dk_79 (dk_at dksX4_kind_5 5 rfl rfl)
theorem dX4_kind_121 : decode cX4_kind 121 = .ok (.aload_n 0, 1) := dk_42 (dk_at dksX4_kind_5 6 rfl rfl)
theorem dX4_kind_122 : decode cX4_kind 122 = .ok (.getfield 17, 3) := dk_180 0 17 (dk_at dksX4_kind_5 7 rfl rfl)
theorem dX4_kind_125 : decode cX4_kind 125 = .ok (.iload 8, 2) := dk_21 8 (dk_at dksX4_kind_5 10 rfl rfl)
theorem dX4_kind_127 : decode cX4_kind 127 = .ok (.iconst 2, 1) := dk_5 (dk_at dksX4_kind_5 12 rfl rfl)
theorem dX4_kind_128 : decode cX4_kind 128 = .ok (.iadd, 1) := dk_96 (dk_at dksX4_kind_5 13 rfl rfl)
theorem dX4_kind_129 : decode cX4_kind 129 = .ok (.iload_n 3, 1) := dk_29 (dk_at dksX4_kind_5 14 rfl rfl)
theorem dX4_kind_130 : decode cX4_kind 130 = .ok (.iastore, 1) := dk_79 (dk_at dksX4_kind_5 15 rfl rfl)
theorem dX4_kind_131 : decode cX4_kind 131 = .ok (.aload_n 0, 1) := dk_42 (dk_at dksX4_kind_5 16 rfl rfl)
theorem dX4_kind_132 : decode cX4_kind 132 = .ok (.getfield 17, 3) := dk_180 0 17 (dk_at dksX4_kind_5 17 rfl rfl)
theorem dX4_kind_135 : decode cX4_kind 135 = .ok (.iload 8, 2) := dk_21 8 (dk_at dksX4_kind_5 20 rfl rfl)
theorem dX4_kind_137 : decode cX4_kind 137 = .ok (.iconst 3, 1) := dk_6 (dk_at dksX4_kind_5 22 rfl rfl)
theorem dX4_kind_138 : decode cX4_kind 138 = .ok (.iadd, 1) := dk_96 (dk_at dksX4_kind_5 23 rfl rfl)
theorem dX4_kind_139 : decode cX4_kind 139 = .ok (.iload 4, 2) := dk_21 4 (dk_at dksX4_kind_6 0 rfl rfl)
theorem dX4_kind_141 : decode cX4_kind 141 = .ok (.iastore, 1) := dk_79 (dk_at dksX4_kind_6 2 rfl rfl)
theorem dX4_kind_142 : decode cX4_kind 142 = .ok (.aload_n 0, 1) := dk_42 (dk_at dksX4_kind_6 3 rfl rfl)
theorem dX4_kind_143 : decode cX4_kind 143 = .ok (.getfield 17, 3) := dk_180 0 17 (dk_at dksX4_kind_6 4 rfl rfl)
theorem dX4_kind_146 : decode cX4_kind 146 = .ok (.iload 8, 2) := dk_21 8 (dk_at dksX4_kind_6 7 rfl rfl)
theorem dX4_kind_148 : decode cX4_kind 148 = .ok (.iconst 4, 1) := dk_7 (dk_at dksX4_kind_6 9 rfl rfl)
theorem dX4_kind_149 : decode cX4_kind 149 = .ok (.iadd, 1) := dk_96 (dk_at dksX4_kind_6 10 rfl rfl)
theorem dX4_kind_150 : decode cX4_kind 150 = .ok (.iload 5, 2) := dk_21 5 (dk_at dksX4_kind_6 11 rfl rfl)
theorem dX4_kind_152 : decode cX4_kind 152 = .ok (.iastore, 1) := dk_79 (dk_at dksX4_kind_6 13 rfl rfl)
theorem dX4_kind_153 : decode cX4_kind 153 = .ok (.aload_n 0, 1) := dk_42 (dk_at dksX4_kind_6 14 rfl rfl)
theorem dX4_kind_154 : decode cX4_kind 154 = .ok (.getfield 17, 3) := dk_180 0 17 (dk_at dksX4_kind_6 15 rfl rfl)
theorem dX4_kind_157 : decode cX4_kind 157 = .ok (.iload 8, 2) := dk_21 8 (dk_at dksX4_kind_6 18 rfl rfl)
theorem dX4_kind_159 : decode cX4_kind 159 = .ok (.iconst 5, 1) := dk_8 (dk_at dksX4_kind_6 20 rfl rfl)
theorem dX4_kind_160 : decode cX4_kind 160 = .ok (.iadd, 1) := dk_96 (dk_at dksX4_kind_6 21 rfl rfl)
theorem dX4_kind_161 : decode cX4_kind 161 = .ok (.iload 6, 2) := dk_21 6 (dk_at dksX4_kind_6 22 rfl rfl)
theorem dX4_kind_163 : decode cX4_kind 163 = .ok (.iastore, 1) := dk_79 (dk_at dksX4_kind_7 0 rfl rfl)
theorem dX4_kind_164 : decode cX4_kind 164 = .ok (.iconst 0, 1) := dk_3 (dk_at dksX4_kind_7 1 rfl rfl)
theorem dX4_kind_165 : decode cX4_kind 165 = .ok (.istore 9, 2) := dk_54 9 (dk_at dksX4_kind_7 2 rfl rfl)
theorem dX4_kind_167 : decode cX4_kind 167 = .ok (.iload 9, 2) := dk_21 9 (dk_at dksX4_kind_7 4 rfl rfl)
theorem dX4_kind_169 : decode cX4_kind 169 = .ok (.bipush 12, 2) := dk_16 12 (dk_at dksX4_kind_7 6 rfl rfl)
theorem dX4_kind_171 : decode cX4_kind 171 = .ok (.if_icmp .ge 26, 3) := dk_162 0 26 (dk_at dksX4_kind_7 8 rfl rfl)
theorem dX4_kind_174 : decode cX4_kind 174 = .ok (.aload_n 0, 1) := dk_42 (dk_at dksX4_kind_7 11 rfl rfl)
theorem dX4_kind_175 : decode cX4_kind 175 = .ok (.getfield 17, 3) := dk_180 0 17 (dk_at dksX4_kind_7 12 rfl rfl)
theorem dX4_kind_178 : decode cX4_kind 178 = .ok (.bipush 40, 2) := dk_16 40 (dk_at dksX4_kind_7 15 rfl rfl)
theorem dX4_kind_180 : decode cX4_kind 180 = .ok (.bipush 8, 2) := dk_16 8 (dk_at dksX4_kind_7 17 rfl rfl)
theorem dX4_kind_182 : decode cX4_kind 182 = .ok (.iload 9, 2) := dk_21 9 (dk_at dksX4_kind_7 19 rfl rfl)
theorem dX4_kind_184 : decode cX4_kind 184 = .ok (.imul, 1) := dk_104 (dk_at dksX4_kind_7 21 rfl rfl)
theorem dX4_kind_185 : decode cX4_kind 185 = .ok (.iadd, 1) := dk_96 (dk_at dksX4_kind_7 22 rfl rfl)
theorem dX4_kind_186 : decode cX4_kind 186 = .ok (.iload 7, 2) := dk_21 7 (dk_at dksX4_kind_8 0 rfl rfl)
theorem dX4_kind_188 : decode cX4_kind 188 = .ok (.iadd, 1) := dk_96 (dk_at dksX4_kind_8 2 rfl rfl)
theorem dX4_kind_189 : decode cX4_kind 189 = .ok (.iconst 0, 1) := dk_3 (dk_at dksX4_kind_8 3 rfl rfl)
theorem dX4_kind_190 : decode cX4_kind 190 = .ok (.iastore, 1) := dk_79 (dk_at dksX4_kind_8 4 rfl rfl)
theorem dX4_kind_191 : decode cX4_kind 191 = .ok (.iinc 9 1, 3) := dk_132 9 1 (dk_at dksX4_kind_8 5 rfl rfl)
theorem dX4_kind_194 : decode cX4_kind 194 = .ok (.goto (-27), 3) := dk_167 255 229 (dk_at dksX4_kind_8 8 rfl rfl)
theorem dX4_kind_197 : decode cX4_kind 197 = .ok (.aload_n 0, 1) := dk_42 (dk_at dksX4_kind_8 11 rfl rfl)
theorem dX4_kind_198 : decode cX4_kind 198 = .ok (.getfield 17, 3) := dk_180 0 17 (dk_at dksX4_kind_8 12 rfl rfl)
theorem dX4_kind_201 : decode cX4_kind 201 = .ok (.sipush 1752, 3) := dk_17 6 216 (dk_at dksX4_kind_8 15 rfl rfl)
theorem dX4_kind_204 : decode cX4_kind 204 = .ok (.dup2, 1) := dk_92 (dk_at dksX4_kind_8 18 rfl rfl)
theorem dX4_kind_205 : decode cX4_kind 205 = .ok (.iaload, 1) := dk_46 (dk_at dksX4_kind_8 19 rfl rfl)
theorem dX4_kind_206 : decode cX4_kind 206 = .ok (.iconst 1, 1) := dk_4 (dk_at dksX4_kind_8 20 rfl rfl)
theorem dX4_kind_207 : decode cX4_kind 207 = .ok (.iadd, 1) := dk_96 (dk_at dksX4_kind_8 21 rfl rfl)
theorem dX4_kind_208 : decode cX4_kind 208 = .ok (.iastore, 1) := dk_79 (dk_at dksX4_kind_8 22 rfl rfl)
theorem dX4_kind_209 : decode cX4_kind 209 = .ok (.aload_n 0, 1) := dk_42 (dk_at dksX4_kind_8 23 rfl rfl)
theorem dX4_kind_210 : decode cX4_kind 210 = .ok (.iload 7, 2) := dk_21 7 (dk_at dksX4_kind_9 0 rfl rfl)
theorem dX4_kind_212 : decode cX4_kind 212 = .ok (.invokevirtual 82, 3) := dk_182 0 82 (dk_at dksX4_kind_9 2 rfl rfl)
theorem dX4_kind_215 : decode cX4_kind 215 = .ok (.ireturn, 1) := dk_172 (dk_at dksX4_kind_9 5 rfl rfl)
abbrev cX4_broth : ByteArray := prog_24_method_16_code
def yX4_broth : MethodName := ⟨RX4, "broth", "(IIII)I"⟩
def dkwX4_broth_3 : List UInt8 := [180, 0, 17, 3, 6, 27, 104, 96, 5, 96, 21, 4, 79, 42, 3, 182, 0, 82, 172]
abbrev dktX4_broth_3 : List UInt8 := dkwX4_broth_3 ++ []
def dkwX4_broth_2 : List UInt8 := [180, 0, 17, 3, 6, 27, 104, 96, 28, 79, 42, 180, 0, 17, 3, 6, 27, 104, 96, 4, 96, 29, 79, 42]
abbrev dktX4_broth_2 : List UInt8 := dkwX4_broth_2 ++ dktX4_broth_3
def dkwX4_broth_1 : List UInt8 := [184, 0, 74, 153, 0, 13, 21, 4, 3, 4, 184, 0, 74, 154, 0, 9, 42, 2, 182, 0, 78, 172, 42]
abbrev dktX4_broth_1 : List UInt8 := dkwX4_broth_1 ++ dktX4_broth_2
def dkwX4_broth_0 : List UInt8 := [27, 3, 8, 184, 0, 74, 153, 0, 33, 28, 3, 16, 100, 184, 0, 74, 153, 0, 23, 29, 3, 16, 7]
abbrev dktX4_broth_0 : List UInt8 := dkwX4_broth_0 ++ dktX4_broth_1
theorem dksX4_broth_0 : cX4_broth.data.toList.drop 0 = dktX4_broth_0 := by decide +kernel
theorem dksX4_broth_1 : cX4_broth.data.toList.drop 23 = dktX4_broth_1 := dk_seg dksX4_broth_0 23 rfl rfl
theorem dksX4_broth_2 : cX4_broth.data.toList.drop 46 = dktX4_broth_2 := dk_seg dksX4_broth_1 23 rfl rfl
theorem dksX4_broth_3 : cX4_broth.data.toList.drop 70 = dktX4_broth_3 := dk_seg dksX4_broth_2 24 rfl rfl
theorem dX4_broth_0 : decode cX4_broth 0 = .ok (.iload_n 1, 1) := dk_27 (dk_at dksX4_broth_0 0 rfl rfl)
theorem dX4_broth_1 : decode cX4_broth 1 = .ok (.iconst 0, 1) := dk_3 (dk_at dksX4_broth_0 1 rfl rfl)
theorem dX4_broth_2 : decode cX4_broth 2 = .ok (.iconst 5, 1) := dk_8 (dk_at dksX4_broth_0 2 rfl rfl)
theorem dX4_broth_3 : decode cX4_broth 3 = .ok (.invokestatic 74, 3) := dk_184 0 74 (dk_at dksX4_broth_0 3 rfl rfl)
theorem dX4_broth_6 : decode cX4_broth 6 = .ok (.ifCond .eq 33, 3) := dk_153 0 33 (dk_at dksX4_broth_0 6 rfl rfl)
theorem dX4_broth_9 : decode cX4_broth 9 = .ok (.iload_n 2, 1) := dk_28 (dk_at dksX4_broth_0 9 rfl rfl)
theorem dX4_broth_10 : decode cX4_broth 10 = .ok (.iconst 0, 1) := dk_3 (dk_at dksX4_broth_0 10 rfl rfl)
theorem dX4_broth_11 : decode cX4_broth 11 = .ok (.bipush 100, 2) := dk_16 100 (dk_at dksX4_broth_0 11 rfl rfl)
theorem dX4_broth_13 : decode cX4_broth 13 = .ok (.invokestatic 74, 3) := dk_184 0 74 (dk_at dksX4_broth_0 13 rfl rfl)
theorem dX4_broth_16 : decode cX4_broth 16 = .ok (.ifCond .eq 23, 3) := dk_153 0 23 (dk_at dksX4_broth_0 16 rfl rfl)
theorem dX4_broth_19 : decode cX4_broth 19 = .ok (.iload_n 3, 1) := dk_29 (dk_at dksX4_broth_0 19 rfl rfl)
theorem dX4_broth_20 : decode cX4_broth 20 = .ok (.iconst 0, 1) := dk_3 (dk_at dksX4_broth_0 20 rfl rfl)
theorem dX4_broth_21 : decode cX4_broth 21 = .ok (.bipush 7, 2) := dk_16 7 (dk_at dksX4_broth_0 21 rfl rfl)
theorem dX4_broth_23 : decode cX4_broth 23 = .ok (.invokestatic 74, 3) := dk_184 0 74 (dk_at dksX4_broth_1 0 rfl rfl)
theorem dX4_broth_26 : decode cX4_broth 26 = .ok (.ifCond .eq 13, 3) := dk_153 0 13 (dk_at dksX4_broth_1 3 rfl rfl)
theorem dX4_broth_29 : decode cX4_broth 29 = .ok (.iload 4, 2) := dk_21 4 (dk_at dksX4_broth_1 6 rfl rfl)
theorem dX4_broth_31 : decode cX4_broth 31 = .ok (.iconst 0, 1) := dk_3 (dk_at dksX4_broth_1 8 rfl rfl)
theorem dX4_broth_32 : decode cX4_broth 32 = .ok (.iconst 1, 1) := dk_4 (dk_at dksX4_broth_1 9 rfl rfl)
theorem dX4_broth_33 : decode cX4_broth 33 = .ok (.invokestatic 74, 3) := dk_184 0 74 (dk_at dksX4_broth_1 10 rfl rfl)
theorem dX4_broth_36 : decode cX4_broth 36 = .ok (.ifCond .ne 9, 3) := dk_154 0 9 (dk_at dksX4_broth_1 13 rfl rfl)
theorem dX4_broth_39 : decode cX4_broth 39 = .ok (.aload_n 0, 1) := dk_42 (dk_at dksX4_broth_1 16 rfl rfl)
theorem dX4_broth_40 : decode cX4_broth 40 = .ok (.iconst (-1), 1) := dk_2 (dk_at dksX4_broth_1 17 rfl rfl)
theorem dX4_broth_41 : decode cX4_broth 41 = .ok (.invokevirtual 78, 3) := dk_182 0 78 (dk_at dksX4_broth_1 18 rfl rfl)
theorem dX4_broth_44 : decode cX4_broth 44 = .ok (.ireturn, 1) := dk_172 (dk_at dksX4_broth_1 21 rfl rfl)
theorem dX4_broth_45 : decode cX4_broth 45 = .ok (.aload_n 0, 1) := dk_42 (dk_at dksX4_broth_1 22 rfl rfl)
theorem dX4_broth_46 : decode cX4_broth 46 = .ok (.getfield 17, 3) := dk_180 0 17 (dk_at dksX4_broth_2 0 rfl rfl)
theorem dX4_broth_49 : decode cX4_broth 49 = .ok (.iconst 0, 1) := dk_3 (dk_at dksX4_broth_2 3 rfl rfl)
theorem dX4_broth_50 : decode cX4_broth 50 = .ok (.iconst 3, 1) := dk_6 (dk_at dksX4_broth_2 4 rfl rfl)
theorem dX4_broth_51 : decode cX4_broth 51 = .ok (.iload_n 1, 1) := dk_27 (dk_at dksX4_broth_2 5 rfl rfl)
theorem dX4_broth_52 : decode cX4_broth 52 = .ok (.imul, 1) := dk_104 (dk_at dksX4_broth_2 6 rfl rfl)
theorem dX4_broth_53 : decode cX4_broth 53 = .ok (.iadd, 1) := dk_96 (dk_at dksX4_broth_2 7 rfl rfl)
theorem dX4_broth_54 : decode cX4_broth 54 = .ok (.iload_n 2, 1) := dk_28 (dk_at dksX4_broth_2 8 rfl rfl)
theorem dX4_broth_55 : decode cX4_broth 55 = .ok (.iastore, 1) := dk_79 (dk_at dksX4_broth_2 9 rfl rfl)
theorem dX4_broth_56 : decode cX4_broth 56 = .ok (.aload_n 0, 1) := dk_42 (dk_at dksX4_broth_2 10 rfl rfl)
theorem dX4_broth_57 : decode cX4_broth 57 = .ok (.getfield 17, 3) := dk_180 0 17 (dk_at dksX4_broth_2 11 rfl rfl)
theorem dX4_broth_60 : decode cX4_broth 60 = .ok (.iconst 0, 1) := dk_3 (dk_at dksX4_broth_2 14 rfl rfl)
theorem dX4_broth_61 : decode cX4_broth 61 = .ok (.iconst 3, 1) := dk_6 (dk_at dksX4_broth_2 15 rfl rfl)
theorem dX4_broth_62 : decode cX4_broth 62 = .ok (.iload_n 1, 1) := dk_27 (dk_at dksX4_broth_2 16 rfl rfl)
theorem dX4_broth_63 : decode cX4_broth 63 = .ok (.imul, 1) := dk_104 (dk_at dksX4_broth_2 17 rfl rfl)
theorem dX4_broth_64 : decode cX4_broth 64 = .ok (.iadd, 1) := dk_96 (dk_at dksX4_broth_2 18 rfl rfl)
theorem dX4_broth_65 : decode cX4_broth 65 = .ok (.iconst 1, 1) := dk_4 (dk_at dksX4_broth_2 19 rfl rfl)
theorem dX4_broth_66 : decode cX4_broth 66 = .ok (.iadd, 1) := dk_96 (dk_at dksX4_broth_2 20 rfl rfl)
theorem dX4_broth_67 : decode cX4_broth 67 = .ok (.iload_n 3, 1) := dk_29 (dk_at dksX4_broth_2 21 rfl rfl)
theorem dX4_broth_68 : decode cX4_broth 68 = .ok (.iastore, 1) := dk_79 (dk_at dksX4_broth_2 22 rfl rfl)
theorem dX4_broth_69 : decode cX4_broth 69 = .ok (.aload_n 0, 1) := dk_42 (dk_at dksX4_broth_2 23 rfl rfl)
theorem dX4_broth_70 : decode cX4_broth 70 = .ok (.getfield 17, 3) := dk_180 0 17 (dk_at dksX4_broth_3 0 rfl rfl)
theorem dX4_broth_73 : decode cX4_broth 73 = .ok (.iconst 0, 1) := dk_3 (dk_at dksX4_broth_3 3 rfl rfl)
theorem dX4_broth_74 : decode cX4_broth 74 = .ok (.iconst 3, 1) := dk_6 (dk_at dksX4_broth_3 4 rfl rfl)
theorem dX4_broth_75 : decode cX4_broth 75 = .ok (.iload_n 1, 1) := dk_27 (dk_at dksX4_broth_3 5 rfl rfl)
theorem dX4_broth_76 : decode cX4_broth 76 = .ok (.imul, 1) := dk_104 (dk_at dksX4_broth_3 6 rfl rfl)
theorem dX4_broth_77 : decode cX4_broth 77 = .ok (.iadd, 1) := dk_96 (dk_at dksX4_broth_3 7 rfl rfl)
theorem dX4_broth_78 : decode cX4_broth 78 = .ok (.iconst 2, 1) := dk_5 (dk_at dksX4_broth_3 8 rfl rfl)
theorem dX4_broth_79 : decode cX4_broth 79 = .ok (.iadd, 1) := dk_96 (dk_at dksX4_broth_3 9 rfl rfl)
theorem dX4_broth_80 : decode cX4_broth 80 = .ok (.iload 4, 2) := dk_21 4 (dk_at dksX4_broth_3 10 rfl rfl)
theorem dX4_broth_82 : decode cX4_broth 82 = .ok (.iastore, 1) := dk_79 (dk_at dksX4_broth_3 12 rfl rfl)
theorem dX4_broth_83 : decode cX4_broth 83 = .ok (.aload_n 0, 1) := dk_42 (dk_at dksX4_broth_3 13 rfl rfl)
theorem dX4_broth_84 : decode cX4_broth 84 = .ok (.iconst 0, 1) := dk_3 (dk_at dksX4_broth_3 14 rfl rfl)
theorem dX4_broth_85 : decode cX4_broth 85 = .ok (.invokevirtual 82, 3) := dk_182 0 82 (dk_at dksX4_broth_3 15 rfl rfl)
theorem dX4_broth_88 : decode cX4_broth 88 = .ok (.ireturn, 1) := dk_172 (dk_at dksX4_broth_3 18 rfl rfl)
abbrev cX4_lets : ByteArray := prog_24_method_17_code
def yX4_lets : MethodName := ⟨RX4, "lets", "(III)I"⟩
def dkwX4_lets_4 : List UInt8 := [21, 5, 182, 0, 82, 172]
abbrev dktX4_lets_4 : List UInt8 := dkwX4_lets_4 ++ []
def dkwX4_lets_3 : List UInt8 := [16, 28, 28, 96, 54, 4, 42, 180, 0, 17, 21, 4, 46, 54, 5, 42, 180, 0, 17, 21, 4, 29, 79, 42]
abbrev dktX4_lets_3 : List UInt8 := dkwX4_lets_3 ++ dktX4_lets_4
def dkwX4_lets_2 : List UInt8 := [182, 0, 78, 172, 27, 154, 0, 8, 16, 18, 167, 0, 15, 27, 4, 160, 0, 8, 16, 24, 167, 0, 5]
abbrev dktX4_lets_2 : List UInt8 := dkwX4_lets_2 ++ dktX4_lets_3
def dkwX4_lets_1 : List UInt8 := [6, 167, 0, 5, 16, 11, 184, 0, 74, 153, 0, 13, 29, 3, 16, 100, 184, 0, 74, 154, 0, 9, 42, 2]
abbrev dktX4_lets_1 : List UInt8 := dkwX4_lets_1 ++ dktX4_lets_2
def dkwX4_lets_0 : List UInt8 := [27, 3, 5, 184, 0, 74, 153, 0, 40, 28, 3, 27, 154, 0, 7, 8, 167, 0, 14, 27, 4, 160, 0, 7]
abbrev dktX4_lets_0 : List UInt8 := dkwX4_lets_0 ++ dktX4_lets_1
theorem dksX4_lets_0 : cX4_lets.data.toList.drop 0 = dktX4_lets_0 := by decide +kernel
theorem dksX4_lets_1 : cX4_lets.data.toList.drop 24 = dktX4_lets_1 := dk_seg dksX4_lets_0 24 rfl rfl
theorem dksX4_lets_2 : cX4_lets.data.toList.drop 48 = dktX4_lets_2 := dk_seg dksX4_lets_1 24 rfl rfl
theorem dksX4_lets_3 : cX4_lets.data.toList.drop 71 = dktX4_lets_3 := dk_seg dksX4_lets_2 23 rfl rfl
theorem dksX4_lets_4 : cX4_lets.data.toList.drop 95 = dktX4_lets_4 := dk_seg dksX4_lets_3 24 rfl rfl
theorem dX4_lets_0 : decode cX4_lets 0 = .ok (.iload_n 1, 1) := dk_27 (dk_at dksX4_lets_0 0 rfl rfl)
theorem dX4_lets_1 : decode cX4_lets 1 = .ok (.iconst 0, 1) := dk_3 (dk_at dksX4_lets_0 1 rfl rfl)
theorem dX4_lets_2 : decode cX4_lets 2 = .ok (.iconst 2, 1) := dk_5 (dk_at dksX4_lets_0 2 rfl rfl)
theorem dX4_lets_3 : decode cX4_lets 3 = .ok (.invokestatic 74, 3) := dk_184 0 74 (dk_at dksX4_lets_0 3 rfl rfl)
theorem dX4_lets_6 : decode cX4_lets 6 = .ok (.ifCond .eq 40, 3) := dk_153 0 40 (dk_at dksX4_lets_0 6 rfl rfl)
theorem dX4_lets_9 : decode cX4_lets 9 = .ok (.iload_n 2, 1) := dk_28 (dk_at dksX4_lets_0 9 rfl rfl)
theorem dX4_lets_10 : decode cX4_lets 10 = .ok (.iconst 0, 1) := dk_3 (dk_at dksX4_lets_0 10 rfl rfl)
theorem dX4_lets_11 : decode cX4_lets 11 = .ok (.iload_n 1, 1) := dk_27 (dk_at dksX4_lets_0 11 rfl rfl)
theorem dX4_lets_12 : decode cX4_lets 12 = .ok (.ifCond .ne 7, 3) := dk_154 0 7 (dk_at dksX4_lets_0 12 rfl rfl)
theorem dX4_lets_15 : decode cX4_lets 15 = .ok (.iconst 5, 1) := dk_8 (dk_at dksX4_lets_0 15 rfl rfl)
theorem dX4_lets_16 : decode cX4_lets 16 = .ok (.goto 14, 3) := dk_167 0 14 (dk_at dksX4_lets_0 16 rfl rfl)
theorem dX4_lets_19 : decode cX4_lets 19 = .ok (.iload_n 1, 1) := dk_27 (dk_at dksX4_lets_0 19 rfl rfl)
theorem dX4_lets_20 : decode cX4_lets 20 = .ok (.iconst 1, 1) := dk_4 (dk_at dksX4_lets_0 20 rfl rfl)
theorem dX4_lets_21 : decode cX4_lets 21 = .ok (.if_icmp .ne 7, 3) := dk_160 0 7 (dk_at dksX4_lets_0 21 rfl rfl)
theorem dX4_lets_24 : decode cX4_lets 24 = .ok (.iconst 3, 1) := dk_6 (dk_at dksX4_lets_1 0 rfl rfl)
theorem dX4_lets_25 : decode cX4_lets 25 = .ok (.goto 5, 3) := dk_167 0 5 (dk_at dksX4_lets_1 1 rfl rfl)
theorem dX4_lets_28 : decode cX4_lets 28 = .ok (.bipush 11, 2) := dk_16 11 (dk_at dksX4_lets_1 4 rfl rfl)
theorem dX4_lets_30 : decode cX4_lets 30 = .ok (.invokestatic 74, 3) := dk_184 0 74 (dk_at dksX4_lets_1 6 rfl rfl)
theorem dX4_lets_33 : decode cX4_lets 33 = .ok (.ifCond .eq 13, 3) := dk_153 0 13 (dk_at dksX4_lets_1 9 rfl rfl)
theorem dX4_lets_36 : decode cX4_lets 36 = .ok (.iload_n 3, 1) := dk_29 (dk_at dksX4_lets_1 12 rfl rfl)
theorem dX4_lets_37 : decode cX4_lets 37 = .ok (.iconst 0, 1) := dk_3 (dk_at dksX4_lets_1 13 rfl rfl)
theorem dX4_lets_38 : decode cX4_lets 38 = .ok (.bipush 100, 2) := dk_16 100 (dk_at dksX4_lets_1 14 rfl rfl)
theorem dX4_lets_40 : decode cX4_lets 40 = .ok (.invokestatic 74, 3) := dk_184 0 74 (dk_at dksX4_lets_1 16 rfl rfl)
theorem dX4_lets_43 : decode cX4_lets 43 = .ok (.ifCond .ne 9, 3) := dk_154 0 9 (dk_at dksX4_lets_1 19 rfl rfl)
theorem dX4_lets_46 : decode cX4_lets 46 = .ok (.aload_n 0, 1) := dk_42 (dk_at dksX4_lets_1 22 rfl rfl)
theorem dX4_lets_47 : decode cX4_lets 47 = .ok (.iconst (-1), 1) := dk_2 (dk_at dksX4_lets_1 23 rfl rfl)
theorem dX4_lets_48 : decode cX4_lets 48 = .ok (.invokevirtual 78, 3) := dk_182 0 78 (dk_at dksX4_lets_2 0 rfl rfl)
theorem dX4_lets_51 : decode cX4_lets 51 = .ok (.ireturn, 1) := dk_172 (dk_at dksX4_lets_2 3 rfl rfl)
theorem dX4_lets_52 : decode cX4_lets 52 = .ok (.iload_n 1, 1) := dk_27 (dk_at dksX4_lets_2 4 rfl rfl)
theorem dX4_lets_53 : decode cX4_lets 53 = .ok (.ifCond .ne 8, 3) := dk_154 0 8 (dk_at dksX4_lets_2 5 rfl rfl)
theorem dX4_lets_56 : decode cX4_lets 56 = .ok (.bipush 18, 2) := dk_16 18 (dk_at dksX4_lets_2 8 rfl rfl)
theorem dX4_lets_58 : decode cX4_lets 58 = .ok (.goto 15, 3) := dk_167 0 15 (dk_at dksX4_lets_2 10 rfl rfl)
theorem dX4_lets_61 : decode cX4_lets 61 = .ok (.iload_n 1, 1) := dk_27 (dk_at dksX4_lets_2 13 rfl rfl)
theorem dX4_lets_62 : decode cX4_lets 62 = .ok (.iconst 1, 1) := dk_4 (dk_at dksX4_lets_2 14 rfl rfl)
theorem dX4_lets_63 : decode cX4_lets 63 = .ok (.if_icmp .ne 8, 3) := dk_160 0 8 (dk_at dksX4_lets_2 15 rfl rfl)
theorem dX4_lets_66 : decode cX4_lets 66 = .ok (.bipush 24, 2) := dk_16 24 (dk_at dksX4_lets_2 18 rfl rfl)
theorem dX4_lets_68 : decode cX4_lets 68 = .ok (.goto 5, 3) := dk_167 0 5 (dk_at dksX4_lets_2 20 rfl rfl)
theorem dX4_lets_71 : decode cX4_lets 71 = .ok (.bipush 28, 2) := dk_16 28 (dk_at dksX4_lets_3 0 rfl rfl)
theorem dX4_lets_73 : decode cX4_lets 73 = .ok (.iload_n 2, 1) := dk_28 (dk_at dksX4_lets_3 2 rfl rfl)
theorem dX4_lets_74 : decode cX4_lets 74 = .ok (.iadd, 1) := dk_96 (dk_at dksX4_lets_3 3 rfl rfl)
theorem dX4_lets_75 : decode cX4_lets 75 = .ok (.istore 4, 2) := dk_54 4 (dk_at dksX4_lets_3 4 rfl rfl)
theorem dX4_lets_77 : decode cX4_lets 77 = .ok (.aload_n 0, 1) := dk_42 (dk_at dksX4_lets_3 6 rfl rfl)
theorem dX4_lets_78 : decode cX4_lets 78 = .ok (.getfield 17, 3) := dk_180 0 17 (dk_at dksX4_lets_3 7 rfl rfl)
theorem dX4_lets_81 : decode cX4_lets 81 = .ok (.iload 4, 2) := dk_21 4 (dk_at dksX4_lets_3 10 rfl rfl)
theorem dX4_lets_83 : decode cX4_lets 83 = .ok (.iaload, 1) := dk_46 (dk_at dksX4_lets_3 12 rfl rfl)
theorem dX4_lets_84 : decode cX4_lets 84 = .ok (.istore 5, 2) := dk_54 5 (dk_at dksX4_lets_3 13 rfl rfl)
theorem dX4_lets_86 : decode cX4_lets 86 = .ok (.aload_n 0, 1) := dk_42 (dk_at dksX4_lets_3 15 rfl rfl)
theorem dX4_lets_87 : decode cX4_lets 87 = .ok (.getfield 17, 3) := dk_180 0 17 (dk_at dksX4_lets_3 16 rfl rfl)
theorem dX4_lets_90 : decode cX4_lets 90 = .ok (.iload 4, 2) := dk_21 4 (dk_at dksX4_lets_3 19 rfl rfl)
theorem dX4_lets_92 : decode cX4_lets 92 = .ok (.iload_n 3, 1) := dk_29 (dk_at dksX4_lets_3 21 rfl rfl)
theorem dX4_lets_93 : decode cX4_lets 93 = .ok (.iastore, 1) := dk_79 (dk_at dksX4_lets_3 22 rfl rfl)
theorem dX4_lets_94 : decode cX4_lets 94 = .ok (.aload_n 0, 1) := dk_42 (dk_at dksX4_lets_3 23 rfl rfl)
theorem dX4_lets_95 : decode cX4_lets 95 = .ok (.iload 5, 2) := dk_21 5 (dk_at dksX4_lets_4 0 rfl rfl)
theorem dX4_lets_97 : decode cX4_lets 97 = .ok (.invokevirtual 82, 3) := dk_182 0 82 (dk_at dksX4_lets_4 2 rfl rfl)
theorem dX4_lets_100 : decode cX4_lets 100 = .ok (.ireturn, 1) := dk_172 (dk_at dksX4_lets_4 5 rfl rfl)
abbrev cX4_weigh : ByteArray := prog_24_method_18_code
def yX4_weigh : MethodName := ⟨RX4, "weigh", "(III)I"⟩
def dkwX4_weigh_3 : List UInt8 := [21, 5, 182, 0, 82, 172]
abbrev dktX4_weigh_3 : List UInt8 := dkwX4_weigh_3 ++ []
def dkwX4_weigh_2 : List UInt8 := [104, 96, 28, 96, 54, 4, 42, 180, 0, 17, 21, 4, 46, 54, 5, 42, 180, 0, 17, 21, 4, 29, 79, 42]
abbrev dktX4_weigh_2 : List UInt8 := dkwX4_weigh_2 ++ dktX4_weigh_3
def dkwX4_weigh_1 : List UInt8 := [182, 0, 78, 172, 42, 28, 182, 0, 85, 154, 0, 10, 42, 16, 254, 182, 0, 78, 172, 16, 40, 16, 8, 27]
abbrev dktX4_weigh_1 : List UInt8 := dkwX4_weigh_1 ++ dktX4_weigh_2
def dkwX4_weigh_0 : List UInt8 := [27, 3, 16, 11, 184, 0, 74, 153, 0, 14, 29, 3, 17, 3, 232, 184, 0, 74, 154, 0, 9, 42, 2]
abbrev dktX4_weigh_0 : List UInt8 := dkwX4_weigh_0 ++ dktX4_weigh_1
theorem dksX4_weigh_0 : cX4_weigh.data.toList.drop 0 = dktX4_weigh_0 := by decide +kernel
theorem dksX4_weigh_1 : cX4_weigh.data.toList.drop 23 = dktX4_weigh_1 := dk_seg dksX4_weigh_0 23 rfl rfl
theorem dksX4_weigh_2 : cX4_weigh.data.toList.drop 47 = dktX4_weigh_2 := dk_seg dksX4_weigh_1 24 rfl rfl
theorem dksX4_weigh_3 : cX4_weigh.data.toList.drop 71 = dktX4_weigh_3 := dk_seg dksX4_weigh_2 24 rfl rfl
theorem dX4_weigh_0 : decode cX4_weigh 0 = .ok (.iload_n 1, 1) := dk_27 (dk_at dksX4_weigh_0 0 rfl rfl)
theorem dX4_weigh_1 : decode cX4_weigh 1 = .ok (.iconst 0, 1) := dk_3 (dk_at dksX4_weigh_0 1 rfl rfl)
theorem dX4_weigh_2 : decode cX4_weigh 2 = .ok (.bipush 11, 2) := dk_16 11 (dk_at dksX4_weigh_0 2 rfl rfl)
theorem dX4_weigh_4 : decode cX4_weigh 4 = .ok (.invokestatic 74, 3) := dk_184 0 74 (dk_at dksX4_weigh_0 4 rfl rfl)
theorem dX4_weigh_7 : decode cX4_weigh 7 = .ok (.ifCond .eq 14, 3) := dk_153 0 14 (dk_at dksX4_weigh_0 7 rfl rfl)
theorem dX4_weigh_10 : decode cX4_weigh 10 = .ok (.iload_n 3, 1) := dk_29 (dk_at dksX4_weigh_0 10 rfl rfl)
theorem dX4_weigh_11 : decode cX4_weigh 11 = .ok (.iconst 0, 1) := dk_3 (dk_at dksX4_weigh_0 11 rfl rfl)
theorem dX4_weigh_12 : decode cX4_weigh 12 = .ok (.sipush 1000, 3) := dk_17 3 232 (dk_at dksX4_weigh_0 12 rfl rfl)
theorem dX4_weigh_15 : decode cX4_weigh 15 = .ok (.invokestatic 74, 3) := dk_184 0 74 (dk_at dksX4_weigh_0 15 rfl rfl)
theorem dX4_weigh_18 : decode cX4_weigh 18 = .ok (.ifCond .ne 9, 3) := dk_154 0 9 (dk_at dksX4_weigh_0 18 rfl rfl)
theorem dX4_weigh_21 : decode cX4_weigh 21 = .ok (.aload_n 0, 1) := dk_42 (dk_at dksX4_weigh_0 21 rfl rfl)
theorem dX4_weigh_22 : decode cX4_weigh 22 = .ok (.iconst (-1), 1) := dk_2 (dk_at dksX4_weigh_0 22 rfl rfl)
theorem dX4_weigh_23 : decode cX4_weigh 23 = .ok (.invokevirtual 78, 3) := dk_182 0 78 (dk_at dksX4_weigh_1 0 rfl rfl)
theorem dX4_weigh_26 : decode cX4_weigh 26 = .ok (.ireturn, 1) := dk_172 (dk_at dksX4_weigh_1 3 rfl rfl)
theorem dX4_weigh_27 : decode cX4_weigh 27 = .ok (.aload_n 0, 1) := dk_42 (dk_at dksX4_weigh_1 4 rfl rfl)
theorem dX4_weigh_28 : decode cX4_weigh 28 = .ok (.iload_n 2, 1) := dk_28 (dk_at dksX4_weigh_1 5 rfl rfl)
theorem dX4_weigh_29 : decode cX4_weigh 29 = .ok (.invokevirtual 85, 3) := dk_182 0 85 (dk_at dksX4_weigh_1 6 rfl rfl)
theorem dX4_weigh_32 : decode cX4_weigh 32 = .ok (.ifCond .ne 10, 3) := dk_154 0 10 (dk_at dksX4_weigh_1 9 rfl rfl)
theorem dX4_weigh_35 : decode cX4_weigh 35 = .ok (.aload_n 0, 1) := dk_42 (dk_at dksX4_weigh_1 12 rfl rfl)
theorem dX4_weigh_36 : decode cX4_weigh 36 = .ok (.bipush (-2), 2) := dk_16 254 (dk_at dksX4_weigh_1 13 rfl rfl)
theorem dX4_weigh_38 : decode cX4_weigh 38 = .ok (.invokevirtual 78, 3) := dk_182 0 78 (dk_at dksX4_weigh_1 15 rfl rfl)
theorem dX4_weigh_41 : decode cX4_weigh 41 = .ok (.ireturn, 1) := dk_172 (dk_at dksX4_weigh_1 18 rfl rfl)
theorem dX4_weigh_42 : decode cX4_weigh 42 = .ok (.bipush 40, 2) := dk_16 40 (dk_at dksX4_weigh_1 19 rfl rfl)
theorem dX4_weigh_44 : decode cX4_weigh 44 = .ok (.bipush 8, 2) := dk_16 8 (dk_at dksX4_weigh_1 21 rfl rfl)
theorem dX4_weigh_46 : decode cX4_weigh 46 = .ok (.iload_n 1, 1) := dk_27 (dk_at dksX4_weigh_1 23 rfl rfl)
theorem dX4_weigh_47 : decode cX4_weigh 47 = .ok (.imul, 1) := dk_104 (dk_at dksX4_weigh_2 0 rfl rfl)
theorem dX4_weigh_48 : decode cX4_weigh 48 = .ok (.iadd, 1) := dk_96 (dk_at dksX4_weigh_2 1 rfl rfl)
theorem dX4_weigh_49 : decode cX4_weigh 49 = .ok (.iload_n 2, 1) := dk_28 (dk_at dksX4_weigh_2 2 rfl rfl)
theorem dX4_weigh_50 : decode cX4_weigh 50 = .ok (.iadd, 1) := dk_96 (dk_at dksX4_weigh_2 3 rfl rfl)
theorem dX4_weigh_51 : decode cX4_weigh 51 = .ok (.istore 4, 2) := dk_54 4 (dk_at dksX4_weigh_2 4 rfl rfl)
theorem dX4_weigh_53 : decode cX4_weigh 53 = .ok (.aload_n 0, 1) := dk_42 (dk_at dksX4_weigh_2 6 rfl rfl)
theorem dX4_weigh_54 : decode cX4_weigh 54 = .ok (.getfield 17, 3) := dk_180 0 17 (dk_at dksX4_weigh_2 7 rfl rfl)
theorem dX4_weigh_57 : decode cX4_weigh 57 = .ok (.iload 4, 2) := dk_21 4 (dk_at dksX4_weigh_2 10 rfl rfl)
theorem dX4_weigh_59 : decode cX4_weigh 59 = .ok (.iaload, 1) := dk_46 (dk_at dksX4_weigh_2 12 rfl rfl)
theorem dX4_weigh_60 : decode cX4_weigh 60 = .ok (.istore 5, 2) := dk_54 5 (dk_at dksX4_weigh_2 13 rfl rfl)
theorem dX4_weigh_62 : decode cX4_weigh 62 = .ok (.aload_n 0, 1) := dk_42 (dk_at dksX4_weigh_2 15 rfl rfl)
theorem dX4_weigh_63 : decode cX4_weigh 63 = .ok (.getfield 17, 3) := dk_180 0 17 (dk_at dksX4_weigh_2 16 rfl rfl)
theorem dX4_weigh_66 : decode cX4_weigh 66 = .ok (.iload 4, 2) := dk_21 4 (dk_at dksX4_weigh_2 19 rfl rfl)
theorem dX4_weigh_68 : decode cX4_weigh 68 = .ok (.iload_n 3, 1) := dk_29 (dk_at dksX4_weigh_2 21 rfl rfl)
theorem dX4_weigh_69 : decode cX4_weigh 69 = .ok (.iastore, 1) := dk_79 (dk_at dksX4_weigh_2 22 rfl rfl)
theorem dX4_weigh_70 : decode cX4_weigh 70 = .ok (.aload_n 0, 1) := dk_42 (dk_at dksX4_weigh_2 23 rfl rfl)
theorem dX4_weigh_71 : decode cX4_weigh 71 = .ok (.iload 5, 2) := dk_21 5 (dk_at dksX4_weigh_3 0 rfl rfl)
theorem dX4_weigh_73 : decode cX4_weigh 73 = .ok (.invokevirtual 82, 3) := dk_182 0 82 (dk_at dksX4_weigh_3 2 rfl rfl)
theorem dX4_weigh_76 : decode cX4_weigh 76 = .ok (.ireturn, 1) := dk_172 (dk_at dksX4_weigh_3 5 rfl rfl)
abbrev cX4_isKind : ByteArray := prog_24_method_7_code
def yX4_isKind : MethodName := ⟨RX4, "isKind", "(I)Z"⟩
def dkwX4_isKind_0 : List UInt8 := [27, 3, 42, 180, 0, 17, 17, 6, 216, 46, 4, 100, 184, 0, 74, 172]
abbrev dktX4_isKind_0 : List UInt8 := dkwX4_isKind_0 ++ []
theorem dksX4_isKind_0 : cX4_isKind.data.toList.drop 0 = dktX4_isKind_0 := by decide +kernel
theorem dX4_isKind_0 : decode cX4_isKind 0 = .ok (.iload_n 1, 1) := dk_27 (dk_at dksX4_isKind_0 0 rfl rfl)
theorem dX4_isKind_1 : decode cX4_isKind 1 = .ok (.iconst 0, 1) := dk_3 (dk_at dksX4_isKind_0 1 rfl rfl)
theorem dX4_isKind_2 : decode cX4_isKind 2 = .ok (.aload_n 0, 1) := dk_42 (dk_at dksX4_isKind_0 2 rfl rfl)
theorem dX4_isKind_3 : decode cX4_isKind 3 = .ok (.getfield 17, 3) := dk_180 0 17 (dk_at dksX4_isKind_0 3 rfl rfl)
theorem dX4_isKind_6 : decode cX4_isKind 6 = .ok (.sipush 1752, 3) := dk_17 6 216 (dk_at dksX4_isKind_0 6 rfl rfl)
theorem dX4_isKind_9 : decode cX4_isKind 9 = .ok (.iaload, 1) := dk_46 (dk_at dksX4_isKind_0 9 rfl rfl)
theorem dX4_isKind_10 : decode cX4_isKind 10 = .ok (.iconst 1, 1) := dk_4 (dk_at dksX4_isKind_0 10 rfl rfl)
theorem dX4_isKind_11 : decode cX4_isKind 11 = .ok (.isub, 1) := dk_100 (dk_at dksX4_isKind_0 11 rfl rfl)
theorem dX4_isKind_12 : decode cX4_isKind 12 = .ok (.invokestatic 74, 3) := dk_184 0 74 (dk_at dksX4_isKind_0 12 rfl rfl)
theorem dX4_isKind_15 : decode cX4_isKind 15 = .ok (.ireturn, 1) := dk_172 (dk_at dksX4_isKind_0 15 rfl rfl)
abbrev cX4_seed : ByteArray := prog_24_method_19_code
def yX4_seed : MethodName := ⟨RX4, "seed", "(I)I"⟩
def dkwX4_seed_1 : List UInt8 := [79, 42, 3, 182, 0, 82, 172]
abbrev dktX4_seed_1 : List UInt8 := dkwX4_seed_1 ++ []
def dkwX4_seed_0 : List UInt8 := [27, 3, 18, 89, 184, 0, 74, 154, 0, 9, 42, 2, 182, 0, 78, 172, 42, 180, 0, 17, 17, 6, 215, 27]
abbrev dktX4_seed_0 : List UInt8 := dkwX4_seed_0 ++ dktX4_seed_1
theorem dksX4_seed_0 : cX4_seed.data.toList.drop 0 = dktX4_seed_0 := by decide +kernel
theorem dksX4_seed_1 : cX4_seed.data.toList.drop 24 = dktX4_seed_1 := dk_seg dksX4_seed_0 24 rfl rfl
theorem dX4_seed_0 : decode cX4_seed 0 = .ok (.iload_n 1, 1) := dk_27 (dk_at dksX4_seed_0 0 rfl rfl)
theorem dX4_seed_1 : decode cX4_seed 1 = .ok (.iconst 0, 1) := dk_3 (dk_at dksX4_seed_0 1 rfl rfl)
theorem dX4_seed_2 : decode cX4_seed 2 = .ok (.ldc 89, 2) := dk_18 89 (dk_at dksX4_seed_0 2 rfl rfl)
theorem dX4_seed_4 : decode cX4_seed 4 = .ok (.invokestatic 74, 3) := dk_184 0 74 (dk_at dksX4_seed_0 4 rfl rfl)
theorem dX4_seed_7 : decode cX4_seed 7 = .ok (.ifCond .ne 9, 3) := dk_154 0 9 (dk_at dksX4_seed_0 7 rfl rfl)
theorem dX4_seed_10 : decode cX4_seed 10 = .ok (.aload_n 0, 1) := dk_42 (dk_at dksX4_seed_0 10 rfl rfl)
theorem dX4_seed_11 : decode cX4_seed 11 = .ok (.iconst (-1), 1) := dk_2 (dk_at dksX4_seed_0 11 rfl rfl)
theorem dX4_seed_12 : decode cX4_seed 12 = .ok (.invokevirtual 78, 3) := dk_182 0 78 (dk_at dksX4_seed_0 12 rfl rfl)
theorem dX4_seed_15 : decode cX4_seed 15 = .ok (.ireturn, 1) := dk_172 (dk_at dksX4_seed_0 15 rfl rfl)
theorem dX4_seed_16 : decode cX4_seed 16 = .ok (.aload_n 0, 1) := dk_42 (dk_at dksX4_seed_0 16 rfl rfl)
theorem dX4_seed_17 : decode cX4_seed 17 = .ok (.getfield 17, 3) := dk_180 0 17 (dk_at dksX4_seed_0 17 rfl rfl)
theorem dX4_seed_20 : decode cX4_seed 20 = .ok (.sipush 1751, 3) := dk_17 6 215 (dk_at dksX4_seed_0 20 rfl rfl)
theorem dX4_seed_23 : decode cX4_seed 23 = .ok (.iload_n 1, 1) := dk_27 (dk_at dksX4_seed_0 23 rfl rfl)
theorem dX4_seed_24 : decode cX4_seed 24 = .ok (.iastore, 1) := dk_79 (dk_at dksX4_seed_1 0 rfl rfl)
theorem dX4_seed_25 : decode cX4_seed 25 = .ok (.aload_n 0, 1) := dk_42 (dk_at dksX4_seed_1 1 rfl rfl)
theorem dX4_seed_26 : decode cX4_seed 26 = .ok (.iconst 0, 1) := dk_3 (dk_at dksX4_seed_1 2 rfl rfl)
theorem dX4_seed_27 : decode cX4_seed 27 = .ok (.invokevirtual 82, 3) := dk_182 0 82 (dk_at dksX4_seed_1 3 rfl rfl)
theorem dX4_seed_30 : decode cX4_seed 30 = .ok (.ireturn, 1) := dk_172 (dk_at dksX4_seed_1 6 rfl rfl)
abbrev cX4_flask : ByteArray := prog_24_method_20_code
def yX4_flask : MethodName := ⟨RX4, "flask", "(IIII)I"⟩
def dkwX4_flask_9 : List UInt8 := [182, 0, 82, 172]
abbrev dktX4_flask_9 : List UInt8 := dkwX4_flask_9 ++ []
def dkwX4_flask_8 : List UInt8 := [21, 5, 16, 15, 2, 182, 0, 90, 42, 180, 0, 17, 17, 6, 217, 92, 46, 4, 96, 79, 42, 21, 5]
abbrev dktX4_flask_8 : List UInt8 := dkwX4_flask_8 ++ dktX4_flask_9
def dkwX4_flask_7 : List UInt8 := [2, 182, 0, 90, 42, 21, 5, 16, 12, 2, 182, 0, 90, 42, 21, 5, 16, 14, 2, 182, 0, 90, 42]
abbrev dktX4_flask_7 : List UInt8 := dkwX4_flask_7 ++ dktX4_flask_8
def dkwX4_flask_6 : List UInt8 := [182, 0, 90, 42, 21, 5, 16, 9, 42, 180, 0, 17, 17, 6, 214, 46, 182, 0, 90, 42, 21, 5, 16, 10]
abbrev dktX4_flask_6 : List UInt8 := dkwX4_flask_6 ++ dktX4_flask_7
def dkwX4_flask_5 : List UInt8 := [17, 6, 214, 46, 182, 0, 90, 42, 21, 5, 8, 29, 182, 0, 90, 42, 21, 5, 16, 8, 21, 4]
abbrev dktX4_flask_5 : List UInt8 := dkwX4_flask_5 ++ dktX4_flask_6
def dkwX4_flask_4 : List UInt8 := [42, 21, 5, 3, 27, 182, 0, 90, 42, 21, 5, 4, 28, 182, 0, 90, 42, 21, 5, 7, 42, 180, 0, 17]
abbrev dktX4_flask_4 : List UInt8 := dkwX4_flask_4 ++ dktX4_flask_5
def dkwX4_flask_3 : List UInt8 := [54, 6, 21, 6, 16, 26, 162, 0, 18, 42, 21, 5, 21, 6, 3, 182, 0, 90, 132, 6, 1, 167, 255, 237]
abbrev dktX4_flask_3 : List UInt8 := dkwX4_flask_3 ++ dktX4_flask_4
def dkwX4_flask_2 : List UInt8 := [180, 0, 17, 17, 6, 217, 46, 54, 5, 21, 5, 16, 40, 160, 0, 10, 42, 16, 251, 182, 0, 78, 172, 3]
abbrev dktX4_flask_2 : List UInt8 := dkwX4_flask_2 ++ dktX4_flask_3
def dkwX4_flask_1 : List UInt8 := [184, 0, 74, 153, 0, 13, 21, 4, 3, 6, 184, 0, 74, 154, 0, 9, 42, 2, 182, 0, 78, 172, 42]
abbrev dktX4_flask_1 : List UInt8 := dkwX4_flask_1 ++ dktX4_flask_2
def dkwX4_flask_0 : List UInt8 := [27, 3, 8, 184, 0, 74, 153, 0, 32, 28, 3, 8, 184, 0, 74, 153, 0, 23, 29, 3, 16, 11]
abbrev dktX4_flask_0 : List UInt8 := dkwX4_flask_0 ++ dktX4_flask_1
theorem dksX4_flask_0 : cX4_flask.data.toList.drop 0 = dktX4_flask_0 := by decide +kernel
theorem dksX4_flask_1 : cX4_flask.data.toList.drop 22 = dktX4_flask_1 := dk_seg dksX4_flask_0 22 rfl rfl
theorem dksX4_flask_2 : cX4_flask.data.toList.drop 45 = dktX4_flask_2 := dk_seg dksX4_flask_1 23 rfl rfl
theorem dksX4_flask_3 : cX4_flask.data.toList.drop 69 = dktX4_flask_3 := dk_seg dksX4_flask_2 24 rfl rfl
theorem dksX4_flask_4 : cX4_flask.data.toList.drop 93 = dktX4_flask_4 := dk_seg dksX4_flask_3 24 rfl rfl
theorem dksX4_flask_5 : cX4_flask.data.toList.drop 117 = dktX4_flask_5 := dk_seg dksX4_flask_4 24 rfl rfl
theorem dksX4_flask_6 : cX4_flask.data.toList.drop 139 = dktX4_flask_6 := dk_seg dksX4_flask_5 22 rfl rfl
theorem dksX4_flask_7 : cX4_flask.data.toList.drop 163 = dktX4_flask_7 := dk_seg dksX4_flask_6 24 rfl rfl
theorem dksX4_flask_8 : cX4_flask.data.toList.drop 186 = dktX4_flask_8 := dk_seg dksX4_flask_7 23 rfl rfl
theorem dksX4_flask_9 : cX4_flask.data.toList.drop 209 = dktX4_flask_9 := dk_seg dksX4_flask_8 23 rfl rfl
theorem dX4_flask_0 : decode cX4_flask 0 = .ok (.iload_n 1, 1) := dk_27 (dk_at dksX4_flask_0 0 rfl rfl)
theorem dX4_flask_1 : decode cX4_flask 1 = .ok (.iconst 0, 1) := dk_3 (dk_at dksX4_flask_0 1 rfl rfl)
theorem dX4_flask_2 : decode cX4_flask 2 = .ok (.iconst 5, 1) := dk_8 (dk_at dksX4_flask_0 2 rfl rfl)
theorem dX4_flask_3 : decode cX4_flask 3 = .ok (.invokestatic 74, 3) := dk_184 0 74 (dk_at dksX4_flask_0 3 rfl rfl)
theorem dX4_flask_6 : decode cX4_flask 6 = .ok (.ifCond .eq 32, 3) := dk_153 0 32 (dk_at dksX4_flask_0 6 rfl rfl)
theorem dX4_flask_9 : decode cX4_flask 9 = .ok (.iload_n 2, 1) := dk_28 (dk_at dksX4_flask_0 9 rfl rfl)
theorem dX4_flask_10 : decode cX4_flask 10 = .ok (.iconst 0, 1) := dk_3 (dk_at dksX4_flask_0 10 rfl rfl)
theorem dX4_flask_11 : decode cX4_flask 11 = .ok (.iconst 5, 1) := dk_8 (dk_at dksX4_flask_0 11 rfl rfl)
theorem dX4_flask_12 : decode cX4_flask 12 = .ok (.invokestatic 74, 3) := dk_184 0 74 (dk_at dksX4_flask_0 12 rfl rfl)
theorem dX4_flask_15 : decode cX4_flask 15 = .ok (.ifCond .eq 23, 3) := dk_153 0 23 (dk_at dksX4_flask_0 15 rfl rfl)
theorem dX4_flask_18 : decode cX4_flask 18 = .ok (.iload_n 3, 1) := dk_29 (dk_at dksX4_flask_0 18 rfl rfl)
theorem dX4_flask_19 : decode cX4_flask 19 = .ok (.iconst 0, 1) := dk_3 (dk_at dksX4_flask_0 19 rfl rfl)
theorem dX4_flask_20 : decode cX4_flask 20 = .ok (.bipush 11, 2) := dk_16 11 (dk_at dksX4_flask_0 20 rfl rfl)
theorem dX4_flask_22 : decode cX4_flask 22 = .ok (.invokestatic 74, 3) := dk_184 0 74 (dk_at dksX4_flask_1 0 rfl rfl)
theorem dX4_flask_25 : decode cX4_flask 25 = .ok (.ifCond .eq 13, 3) := dk_153 0 13 (dk_at dksX4_flask_1 3 rfl rfl)
theorem dX4_flask_28 : decode cX4_flask 28 = .ok (.iload 4, 2) := dk_21 4 (dk_at dksX4_flask_1 6 rfl rfl)
theorem dX4_flask_30 : decode cX4_flask 30 = .ok (.iconst 0, 1) := dk_3 (dk_at dksX4_flask_1 8 rfl rfl)
theorem dX4_flask_31 : decode cX4_flask 31 = .ok (.iconst 3, 1) := dk_6 (dk_at dksX4_flask_1 9 rfl rfl)
theorem dX4_flask_32 : decode cX4_flask 32 = .ok (.invokestatic 74, 3) := dk_184 0 74 (dk_at dksX4_flask_1 10 rfl rfl)
theorem dX4_flask_35 : decode cX4_flask 35 = .ok (.ifCond .ne 9, 3) := dk_154 0 9 (dk_at dksX4_flask_1 13 rfl rfl)
theorem dX4_flask_38 : decode cX4_flask 38 = .ok (.aload_n 0, 1) := dk_42 (dk_at dksX4_flask_1 16 rfl rfl)
theorem dX4_flask_39 : decode cX4_flask 39 = .ok (.iconst (-1), 1) := dk_2 (dk_at dksX4_flask_1 17 rfl rfl)
theorem dX4_flask_40 : decode cX4_flask 40 = .ok (.invokevirtual 78, 3) := dk_182 0 78 (dk_at dksX4_flask_1 18 rfl rfl)
theorem dX4_flask_43 : decode cX4_flask 43 = .ok (.ireturn, 1) := dk_172 (dk_at dksX4_flask_1 21 rfl rfl)
theorem dX4_flask_44 : decode cX4_flask 44 = .ok (.aload_n 0, 1) := dk_42 (dk_at dksX4_flask_1 22 rfl rfl)
theorem dX4_flask_45 : decode cX4_flask 45 = .ok (.getfield 17, 3) := dk_180 0 17 (dk_at dksX4_flask_2 0 rfl rfl)
theorem dX4_flask_48 : decode cX4_flask 48 = .ok (.sipush 1753, 3) := dk_17 6 217 (dk_at dksX4_flask_2 3 rfl rfl)
theorem dX4_flask_51 : decode cX4_flask 51 = .ok (.iaload, 1) := dk_46 (dk_at dksX4_flask_2 6 rfl rfl)
theorem dX4_flask_52 : decode cX4_flask 52 = .ok (.istore 5, 2) := dk_54 5 (dk_at dksX4_flask_2 7 rfl rfl)
theorem dX4_flask_54 : decode cX4_flask 54 = .ok (.iload 5, 2) := dk_21 5 (dk_at dksX4_flask_2 9 rfl rfl)
theorem dX4_flask_56 : decode cX4_flask 56 = .ok (.bipush 40, 2) := dk_16 40 (dk_at dksX4_flask_2 11 rfl rfl)
theorem dX4_flask_58 : decode cX4_flask 58 = .ok (.if_icmp .ne 10, 3) := dk_160 0 10 (dk_at dksX4_flask_2 13 rfl rfl)
theorem dX4_flask_61 : decode cX4_flask 61 = .ok (.aload_n 0, 1) := dk_42 (dk_at dksX4_flask_2 16 rfl rfl)
theorem dX4_flask_62 : decode cX4_flask 62 = .ok (.bipush (-5), 2) := dk_16 251 (dk_at dksX4_flask_2 17 rfl rfl)
theorem dX4_flask_64 : decode cX4_flask 64 = .ok (.invokevirtual 78, 3) := dk_182 0 78 (dk_at dksX4_flask_2 19 rfl rfl)
theorem dX4_flask_67 : decode cX4_flask 67 = .ok (.ireturn, 1) := dk_172 (dk_at dksX4_flask_2 22 rfl rfl)
theorem dX4_flask_68 : decode cX4_flask 68 = .ok (.iconst 0, 1) := dk_3 (dk_at dksX4_flask_2 23 rfl rfl)
theorem dX4_flask_69 : decode cX4_flask 69 = .ok (.istore 6, 2) := dk_54 6 (dk_at dksX4_flask_3 0 rfl rfl)
theorem dX4_flask_71 : decode cX4_flask 71 = .ok (.iload 6, 2) := dk_21 6 (dk_at dksX4_flask_3 2 rfl rfl)
theorem dX4_flask_73 : decode cX4_flask 73 = .ok (.bipush 26, 2) := dk_16 26 (dk_at dksX4_flask_3 4 rfl rfl)
theorem dX4_flask_75 : decode cX4_flask 75 = .ok (.if_icmp .ge 18, 3) := dk_162 0 18 (dk_at dksX4_flask_3 6 rfl rfl)
theorem dX4_flask_78 : decode cX4_flask 78 = .ok (.aload_n 0, 1) := dk_42 (dk_at dksX4_flask_3 9 rfl rfl)
theorem dX4_flask_79 : decode cX4_flask 79 = .ok (.iload 5, 2) := dk_21 5 (dk_at dksX4_flask_3 10 rfl rfl)
theorem dX4_flask_81 : decode cX4_flask 81 = .ok (.iload 6, 2) := dk_21 6 (dk_at dksX4_flask_3 12 rfl rfl)
theorem dX4_flask_83 : decode cX4_flask 83 = .ok (.iconst 0, 1) := dk_3 (dk_at dksX4_flask_3 14 rfl rfl)
theorem dX4_flask_84 : decode cX4_flask 84 = .ok (.invokevirtual 90, 3) := dk_182 0 90 (dk_at dksX4_flask_3 15 rfl rfl)
theorem dX4_flask_87 : decode cX4_flask 87 = .ok (.iinc 6 1, 3) := dk_132 6 1 (dk_at dksX4_flask_3 18 rfl rfl)
theorem dX4_flask_90 : decode cX4_flask 90 = .ok (.goto (-19), 3) := dk_167 255 237 (dk_at dksX4_flask_3 21 rfl rfl)
theorem dX4_flask_93 : decode cX4_flask 93 = .ok (.aload_n 0, 1) := dk_42 (dk_at dksX4_flask_4 0 rfl rfl)
theorem dX4_flask_94 : decode cX4_flask 94 = .ok (.iload 5, 2) := dk_21 5 (dk_at dksX4_flask_4 1 rfl rfl)
theorem dX4_flask_96 : decode cX4_flask 96 = .ok (.iconst 0, 1) := dk_3 (dk_at dksX4_flask_4 3 rfl rfl)
theorem dX4_flask_97 : decode cX4_flask 97 = .ok (.iload_n 1, 1) := dk_27 (dk_at dksX4_flask_4 4 rfl rfl)
theorem dX4_flask_98 : decode cX4_flask 98 = .ok (.invokevirtual 90, 3) := dk_182 0 90 (dk_at dksX4_flask_4 5 rfl rfl)
theorem dX4_flask_101 : decode cX4_flask 101 = .ok (.aload_n 0, 1) := dk_42 (dk_at dksX4_flask_4 8 rfl rfl)
theorem dX4_flask_102 : decode cX4_flask 102 = .ok (.iload 5, 2) := dk_21 5 (dk_at dksX4_flask_4 9 rfl rfl)
theorem dX4_flask_104 : decode cX4_flask 104 = .ok (.iconst 1, 1) := dk_4 (dk_at dksX4_flask_4 11 rfl rfl)
theorem dX4_flask_105 : decode cX4_flask 105 = .ok (.iload_n 2, 1) := dk_28 (dk_at dksX4_flask_4 12 rfl rfl)
theorem dX4_flask_106 : decode cX4_flask 106 = .ok (.invokevirtual 90, 3) := dk_182 0 90 (dk_at dksX4_flask_4 13 rfl rfl)
theorem dX4_flask_109 : decode cX4_flask 109 = .ok (.aload_n 0, 1) := dk_42 (dk_at dksX4_flask_4 16 rfl rfl)
theorem dX4_flask_110 : decode cX4_flask 110 = .ok (.iload 5, 2) := dk_21 5 (dk_at dksX4_flask_4 17 rfl rfl)
theorem dX4_flask_112 : decode cX4_flask 112 = .ok (.iconst 4, 1) := dk_7 (dk_at dksX4_flask_4 19 rfl rfl)
theorem dX4_flask_113 : decode cX4_flask 113 = .ok (.aload_n 0, 1) := dk_42 (dk_at dksX4_flask_4 20 rfl rfl)
theorem dX4_flask_114 : decode cX4_flask 114 = .ok (.getfield 17, 3) := dk_180 0 17 (dk_at dksX4_flask_4 21 rfl rfl)
theorem dX4_flask_117 : decode cX4_flask 117 = .ok (.sipush 1750, 3) := dk_17 6 214 (dk_at dksX4_flask_5 0 rfl rfl)
theorem dX4_flask_120 : decode cX4_flask 120 = .ok (.iaload, 1) := dk_46 (dk_at dksX4_flask_5 3 rfl rfl)
theorem dX4_flask_121 : decode cX4_flask 121 = .ok (.invokevirtual 90, 3) := dk_182 0 90 (dk_at dksX4_flask_5 4 rfl rfl)
theorem dX4_flask_124 : decode cX4_flask 124 = .ok (.aload_n 0, 1) := dk_42 (dk_at dksX4_flask_5 7 rfl rfl)
theorem dX4_flask_125 : decode cX4_flask 125 = .ok (.iload 5, 2) := dk_21 5 (dk_at dksX4_flask_5 8 rfl rfl)
theorem dX4_flask_127 : decode cX4_flask 127 = .ok (.iconst 5, 1) := dk_8 (dk_at dksX4_flask_5 10 rfl rfl)
theorem dX4_flask_128 : decode cX4_flask 128 = .ok (.iload_n 3, 1) := dk_29 (dk_at dksX4_flask_5 11 rfl rfl)
theorem dX4_flask_129 : decode cX4_flask 129 = .ok (.invokevirtual 90, 3) := dk_182 0 90 (dk_at dksX4_flask_5 12 rfl rfl)
theorem dX4_flask_132 : decode cX4_flask 132 = .ok (.aload_n 0, 1) := dk_42 (dk_at dksX4_flask_5 15 rfl rfl)
theorem dX4_flask_133 : decode cX4_flask 133 = .ok (.iload 5, 2) := dk_21 5 (dk_at dksX4_flask_5 16 rfl rfl)
theorem dX4_flask_135 : decode cX4_flask 135 = .ok (.bipush 8, 2) := dk_16 8 (dk_at dksX4_flask_5 18 rfl rfl)
theorem dX4_flask_137 : decode cX4_flask 137 = .ok (.iload 4, 2) := dk_21 4 (dk_at dksX4_flask_5 20 rfl rfl)
theorem dX4_flask_139 : decode cX4_flask 139 = .ok (.invokevirtual 90, 3) := dk_182 0 90 (dk_at dksX4_flask_6 0 rfl rfl)
theorem dX4_flask_142 : decode cX4_flask 142 = .ok (.aload_n 0, 1) := dk_42 (dk_at dksX4_flask_6 3 rfl rfl)
theorem dX4_flask_143 : decode cX4_flask 143 = .ok (.iload 5, 2) := dk_21 5 (dk_at dksX4_flask_6 4 rfl rfl)
theorem dX4_flask_145 : decode cX4_flask 145 = .ok (.bipush 9, 2) := dk_16 9 (dk_at dksX4_flask_6 6 rfl rfl)
theorem dX4_flask_147 : decode cX4_flask 147 = .ok (.aload_n 0, 1) := dk_42 (dk_at dksX4_flask_6 8 rfl rfl)
theorem dX4_flask_148 : decode cX4_flask 148 = .ok (.getfield 17, 3) := dk_180 0 17 (dk_at dksX4_flask_6 9 rfl rfl)
theorem dX4_flask_151 : decode cX4_flask 151 = .ok (.sipush 1750, 3) := dk_17 6 214 (dk_at dksX4_flask_6 12 rfl rfl)
theorem dX4_flask_154 : decode cX4_flask 154 = .ok (.iaload, 1) := dk_46 (dk_at dksX4_flask_6 15 rfl rfl)
theorem dX4_flask_155 : decode cX4_flask 155 = .ok (.invokevirtual 90, 3) := dk_182 0 90 (dk_at dksX4_flask_6 16 rfl rfl)
theorem dX4_flask_158 : decode cX4_flask 158 = .ok (.aload_n 0, 1) := dk_42 (dk_at dksX4_flask_6 19 rfl rfl)
theorem dX4_flask_159 : decode cX4_flask 159 = .ok (.iload 5, 2) := dk_21 5 (dk_at dksX4_flask_6 20 rfl rfl)
theorem dX4_flask_161 : decode cX4_flask 161 = .ok (.bipush 10, 2) := dk_16 10 (dk_at dksX4_flask_6 22 rfl rfl)
theorem dX4_flask_163 : decode cX4_flask 163 = .ok (.iconst (-1), 1) := dk_2 (dk_at dksX4_flask_7 0 rfl rfl)
theorem dX4_flask_164 : decode cX4_flask 164 = .ok (.invokevirtual 90, 3) := dk_182 0 90 (dk_at dksX4_flask_7 1 rfl rfl)
theorem dX4_flask_167 : decode cX4_flask 167 = .ok (.aload_n 0, 1) := dk_42 (dk_at dksX4_flask_7 4 rfl rfl)
theorem dX4_flask_168 : decode cX4_flask 168 = .ok (.iload 5, 2) := dk_21 5 (dk_at dksX4_flask_7 5 rfl rfl)
theorem dX4_flask_170 : decode cX4_flask 170 = .ok (.bipush 12, 2) := dk_16 12 (dk_at dksX4_flask_7 7 rfl rfl)
theorem dX4_flask_172 : decode cX4_flask 172 = .ok (.iconst (-1), 1) := dk_2 (dk_at dksX4_flask_7 9 rfl rfl)
theorem dX4_flask_173 : decode cX4_flask 173 = .ok (.invokevirtual 90, 3) := dk_182 0 90 (dk_at dksX4_flask_7 10 rfl rfl)
theorem dX4_flask_176 : decode cX4_flask 176 = .ok (.aload_n 0, 1) := dk_42 (dk_at dksX4_flask_7 13 rfl rfl)
theorem dX4_flask_177 : decode cX4_flask 177 = .ok (.iload 5, 2) := dk_21 5 (dk_at dksX4_flask_7 14 rfl rfl)
theorem dX4_flask_179 : decode cX4_flask 179 = .ok (.bipush 14, 2) := dk_16 14 (dk_at dksX4_flask_7 16 rfl rfl)
theorem dX4_flask_181 : decode cX4_flask 181 = .ok (.iconst (-1), 1) := dk_2 (dk_at dksX4_flask_7 18 rfl rfl)
theorem dX4_flask_182 : decode cX4_flask 182 = .ok (.invokevirtual 90, 3) := dk_182 0 90 (dk_at dksX4_flask_7 19 rfl rfl)
theorem dX4_flask_185 : decode cX4_flask 185 = .ok (.aload_n 0, 1) := dk_42 (dk_at dksX4_flask_7 22 rfl rfl)
theorem dX4_flask_186 : decode cX4_flask 186 = .ok (.iload 5, 2) := dk_21 5 (dk_at dksX4_flask_8 0 rfl rfl)
theorem dX4_flask_188 : decode cX4_flask 188 = .ok (.bipush 15, 2) := dk_16 15 (dk_at dksX4_flask_8 2 rfl rfl)
theorem dX4_flask_190 : decode cX4_flask 190 = .ok (.iconst (-1), 1) := dk_2 (dk_at dksX4_flask_8 4 rfl rfl)
theorem dX4_flask_191 : decode cX4_flask 191 = .ok (.invokevirtual 90, 3) := dk_182 0 90 (dk_at dksX4_flask_8 5 rfl rfl)
theorem dX4_flask_194 : decode cX4_flask 194 = .ok (.aload_n 0, 1) := dk_42 (dk_at dksX4_flask_8 8 rfl rfl)
theorem dX4_flask_195 : decode cX4_flask 195 = .ok (.getfield 17, 3) := dk_180 0 17 (dk_at dksX4_flask_8 9 rfl rfl)
theorem dX4_flask_198 : decode cX4_flask 198 = .ok (.sipush 1753, 3) := dk_17 6 217 (dk_at dksX4_flask_8 12 rfl rfl)
theorem dX4_flask_201 : decode cX4_flask 201 = .ok (.dup2, 1) := dk_92 (dk_at dksX4_flask_8 15 rfl rfl)
theorem dX4_flask_202 : decode cX4_flask 202 = .ok (.iaload, 1) := dk_46 (dk_at dksX4_flask_8 16 rfl rfl)
theorem dX4_flask_203 : decode cX4_flask 203 = .ok (.iconst 1, 1) := dk_4 (dk_at dksX4_flask_8 17 rfl rfl)
theorem dX4_flask_204 : decode cX4_flask 204 = .ok (.iadd, 1) := dk_96 (dk_at dksX4_flask_8 18 rfl rfl)
theorem dX4_flask_205 : decode cX4_flask 205 = .ok (.iastore, 1) := dk_79 (dk_at dksX4_flask_8 19 rfl rfl)
theorem dX4_flask_206 : decode cX4_flask 206 = .ok (.aload_n 0, 1) := dk_42 (dk_at dksX4_flask_8 20 rfl rfl)
theorem dX4_flask_207 : decode cX4_flask 207 = .ok (.iload 5, 2) := dk_21 5 (dk_at dksX4_flask_8 21 rfl rfl)
theorem dX4_flask_209 : decode cX4_flask 209 = .ok (.invokevirtual 82, 3) := dk_182 0 82 (dk_at dksX4_flask_9 0 rfl rfl)
theorem dX4_flask_212 : decode cX4_flask 212 = .ok (.ireturn, 1) := dk_172 (dk_at dksX4_flask_9 3 rfl rfl)
abbrev cX4_sets : ByteArray := prog_24_method_14_code
def yX4_sets : MethodName := ⟨RX4, "sets", "(III)V"⟩
def dkwX4_sets_0 : List UInt8 := [42, 180, 0, 17, 17, 0, 184, 16, 26, 27, 104, 96, 28, 96, 29, 79, 177]
abbrev dktX4_sets_0 : List UInt8 := dkwX4_sets_0 ++ []
theorem dksX4_sets_0 : cX4_sets.data.toList.drop 0 = dktX4_sets_0 := by decide +kernel
theorem dX4_sets_0 : decode cX4_sets 0 = .ok (.aload_n 0, 1) := dk_42 (dk_at dksX4_sets_0 0 rfl rfl)
theorem dX4_sets_1 : decode cX4_sets 1 = .ok (.getfield 17, 3) := dk_180 0 17 (dk_at dksX4_sets_0 1 rfl rfl)
theorem dX4_sets_4 : decode cX4_sets 4 = .ok (.sipush 184, 3) := dk_17 0 184 (dk_at dksX4_sets_0 4 rfl rfl)
theorem dX4_sets_7 : decode cX4_sets 7 = .ok (.bipush 26, 2) := dk_16 26 (dk_at dksX4_sets_0 7 rfl rfl)
theorem dX4_sets_9 : decode cX4_sets 9 = .ok (.iload_n 1, 1) := dk_27 (dk_at dksX4_sets_0 9 rfl rfl)
theorem dX4_sets_10 : decode cX4_sets 10 = .ok (.imul, 1) := dk_104 (dk_at dksX4_sets_0 10 rfl rfl)
theorem dX4_sets_11 : decode cX4_sets 11 = .ok (.iadd, 1) := dk_96 (dk_at dksX4_sets_0 11 rfl rfl)
theorem dX4_sets_12 : decode cX4_sets 12 = .ok (.iload_n 2, 1) := dk_28 (dk_at dksX4_sets_0 12 rfl rfl)
theorem dX4_sets_13 : decode cX4_sets 13 = .ok (.iadd, 1) := dk_96 (dk_at dksX4_sets_0 13 rfl rfl)
theorem dX4_sets_14 : decode cX4_sets 14 = .ok (.iload_n 3, 1) := dk_29 (dk_at dksX4_sets_0 14 rfl rfl)
theorem dX4_sets_15 : decode cX4_sets 15 = .ok (.iastore, 1) := dk_79 (dk_at dksX4_sets_0 15 rfl rfl)
theorem dX4_sets_16 : decode cX4_sets 16 = .ok (.return_, 1) := dk_177 (dk_at dksX4_sets_0 16 rfl rfl)
abbrev cX4_heat : ByteArray := prog_24_method_21_code
def yX4_heat : MethodName := ⟨RX4, "heat", "(III)I"⟩
def dkwX4_heat_9 : List UInt8 := [27, 16, 11, 3, 182, 0, 90, 42, 21, 4, 182, 0, 82, 172]
abbrev dktX4_heat_9 : List UInt8 := dkwX4_heat_9 ++ []
def dkwX4_heat_8 : List UInt8 := [17, 6, 214, 46, 182, 0, 90, 42, 27, 16, 6, 3, 182, 0, 90, 42, 27, 16, 7, 3, 182, 0, 90, 42]
abbrev dktX4_heat_8 : List UInt8 := dkwX4_heat_8 ++ dktX4_heat_9
def dkwX4_heat_7 : List UInt8 := [182, 0, 90, 42, 27, 5, 28, 182, 0, 90, 42, 27, 6, 29, 182, 0, 90, 42, 27, 7, 42, 180, 0, 17]
abbrev dktX4_heat_7 : List UInt8 := dkwX4_heat_7 ++ dktX4_heat_8
def dkwX4_heat_6 : List UInt8 := [17, 6, 214, 46, 182, 0, 90, 132, 4, 1, 132, 5, 1, 167, 255, 152, 42, 27, 16, 16, 21, 4]
abbrev dktX4_heat_6 : List UInt8 := dkwX4_heat_6 ++ dktX4_heat_7
def dkwX4_heat_5 : List UInt8 := [104, 96, 21, 6, 182, 0, 90, 42, 27, 16, 17, 5, 21, 4, 104, 96, 4, 96, 42, 180, 0, 17]
abbrev dktX4_heat_5 : List UInt8 := dkwX4_heat_5 ++ dktX4_heat_6
def dkwX4_heat_4 : List UInt8 := [160, 0, 17, 29, 42, 21, 6, 4, 182, 0, 101, 161, 0, 6, 167, 0, 42, 42, 27, 16, 17, 5, 21, 4]
abbrev dktX4_heat_4 : List UInt8 := dkwX4_heat_4 ++ dktX4_heat_5
def dkwX4_heat_3 : List UInt8 := [182, 0, 97, 54, 6, 28, 42, 21, 6, 3, 182, 0, 101, 163, 0, 67, 28, 42, 21, 6, 3, 182, 0, 101]
abbrev dktX4_heat_3 : List UInt8 := dkwX4_heat_3 ++ dktX4_heat_4
def dkwX4_heat_2 : List UInt8 := [54, 5, 21, 5, 42, 27, 16, 16, 182, 0, 97, 162, 0, 98, 42, 27, 16, 17, 5, 21, 5, 104, 96]
abbrev dktX4_heat_2 : List UInt8 := dkwX4_heat_2 ++ dktX4_heat_3
def dkwX4_heat_1 : List UInt8 := [182, 0, 78, 172, 42, 27, 182, 0, 94, 154, 0, 10, 42, 16, 254, 182, 0, 78, 172, 3, 54, 4, 3]
abbrev dktX4_heat_1 : List UInt8 := dkwX4_heat_1 ++ dktX4_heat_2
def dkwX4_heat_0 : List UInt8 := [28, 3, 16, 7, 184, 0, 74, 153, 0, 14, 29, 4, 17, 0, 255, 184, 0, 74, 154, 0, 9, 42, 2]
abbrev dktX4_heat_0 : List UInt8 := dkwX4_heat_0 ++ dktX4_heat_1
theorem dksX4_heat_0 : cX4_heat.data.toList.drop 0 = dktX4_heat_0 := by decide +kernel
theorem dksX4_heat_1 : cX4_heat.data.toList.drop 23 = dktX4_heat_1 := dk_seg dksX4_heat_0 23 rfl rfl
theorem dksX4_heat_2 : cX4_heat.data.toList.drop 46 = dktX4_heat_2 := dk_seg dksX4_heat_1 23 rfl rfl
theorem dksX4_heat_3 : cX4_heat.data.toList.drop 69 = dktX4_heat_3 := dk_seg dksX4_heat_2 23 rfl rfl
theorem dksX4_heat_4 : cX4_heat.data.toList.drop 93 = dktX4_heat_4 := dk_seg dksX4_heat_3 24 rfl rfl
theorem dksX4_heat_5 : cX4_heat.data.toList.drop 117 = dktX4_heat_5 := dk_seg dksX4_heat_4 24 rfl rfl
theorem dksX4_heat_6 : cX4_heat.data.toList.drop 139 = dktX4_heat_6 := dk_seg dksX4_heat_5 22 rfl rfl
theorem dksX4_heat_7 : cX4_heat.data.toList.drop 161 = dktX4_heat_7 := dk_seg dksX4_heat_6 22 rfl rfl
theorem dksX4_heat_8 : cX4_heat.data.toList.drop 185 = dktX4_heat_8 := dk_seg dksX4_heat_7 24 rfl rfl
theorem dksX4_heat_9 : cX4_heat.data.toList.drop 209 = dktX4_heat_9 := dk_seg dksX4_heat_8 24 rfl rfl
theorem dX4_heat_0 : decode cX4_heat 0 = .ok (.iload_n 2, 1) := dk_28 (dk_at dksX4_heat_0 0 rfl rfl)
theorem dX4_heat_1 : decode cX4_heat 1 = .ok (.iconst 0, 1) := dk_3 (dk_at dksX4_heat_0 1 rfl rfl)
theorem dX4_heat_2 : decode cX4_heat 2 = .ok (.bipush 7, 2) := dk_16 7 (dk_at dksX4_heat_0 2 rfl rfl)
theorem dX4_heat_4 : decode cX4_heat 4 = .ok (.invokestatic 74, 3) := dk_184 0 74 (dk_at dksX4_heat_0 4 rfl rfl)
theorem dX4_heat_7 : decode cX4_heat 7 = .ok (.ifCond .eq 14, 3) := dk_153 0 14 (dk_at dksX4_heat_0 7 rfl rfl)
theorem dX4_heat_10 : decode cX4_heat 10 = .ok (.iload_n 3, 1) := dk_29 (dk_at dksX4_heat_0 10 rfl rfl)
theorem dX4_heat_11 : decode cX4_heat 11 = .ok (.iconst 1, 1) := dk_4 (dk_at dksX4_heat_0 11 rfl rfl)
theorem dX4_heat_12 : decode cX4_heat 12 = .ok (.sipush 255, 3) := dk_17 0 255 (dk_at dksX4_heat_0 12 rfl rfl)
theorem dX4_heat_15 : decode cX4_heat 15 = .ok (.invokestatic 74, 3) := dk_184 0 74 (dk_at dksX4_heat_0 15 rfl rfl)
theorem dX4_heat_18 : decode cX4_heat 18 = .ok (.ifCond .ne 9, 3) := dk_154 0 9 (dk_at dksX4_heat_0 18 rfl rfl)
theorem dX4_heat_21 : decode cX4_heat 21 = .ok (.aload_n 0, 1) := dk_42 (dk_at dksX4_heat_0 21 rfl rfl)
theorem dX4_heat_22 : decode cX4_heat 22 = .ok (.iconst (-1), 1) := dk_2 (dk_at dksX4_heat_0 22 rfl rfl)
theorem dX4_heat_23 : decode cX4_heat 23 = .ok (.invokevirtual 78, 3) := dk_182 0 78 (dk_at dksX4_heat_1 0 rfl rfl)
theorem dX4_heat_26 : decode cX4_heat 26 = .ok (.ireturn, 1) := dk_172 (dk_at dksX4_heat_1 3 rfl rfl)
theorem dX4_heat_27 : decode cX4_heat 27 = .ok (.aload_n 0, 1) := dk_42 (dk_at dksX4_heat_1 4 rfl rfl)
theorem dX4_heat_28 : decode cX4_heat 28 = .ok (.iload_n 1, 1) := dk_27 (dk_at dksX4_heat_1 5 rfl rfl)
theorem dX4_heat_29 : decode cX4_heat 29 = .ok (.invokevirtual 94, 3) := dk_182 0 94 (dk_at dksX4_heat_1 6 rfl rfl)
theorem dX4_heat_32 : decode cX4_heat 32 = .ok (.ifCond .ne 10, 3) := dk_154 0 10 (dk_at dksX4_heat_1 9 rfl rfl)
theorem dX4_heat_35 : decode cX4_heat 35 = .ok (.aload_n 0, 1) := dk_42 (dk_at dksX4_heat_1 12 rfl rfl)
theorem dX4_heat_36 : decode cX4_heat 36 = .ok (.bipush (-2), 2) := dk_16 254 (dk_at dksX4_heat_1 13 rfl rfl)
theorem dX4_heat_38 : decode cX4_heat 38 = .ok (.invokevirtual 78, 3) := dk_182 0 78 (dk_at dksX4_heat_1 15 rfl rfl)
theorem dX4_heat_41 : decode cX4_heat 41 = .ok (.ireturn, 1) := dk_172 (dk_at dksX4_heat_1 18 rfl rfl)
theorem dX4_heat_42 : decode cX4_heat 42 = .ok (.iconst 0, 1) := dk_3 (dk_at dksX4_heat_1 19 rfl rfl)
theorem dX4_heat_43 : decode cX4_heat 43 = .ok (.istore 4, 2) := dk_54 4 (dk_at dksX4_heat_1 20 rfl rfl)
theorem dX4_heat_45 : decode cX4_heat 45 = .ok (.iconst 0, 1) := dk_3 (dk_at dksX4_heat_1 22 rfl rfl)
theorem dX4_heat_46 : decode cX4_heat 46 = .ok (.istore 5, 2) := dk_54 5 (dk_at dksX4_heat_2 0 rfl rfl)
theorem dX4_heat_48 : decode cX4_heat 48 = .ok (.iload 5, 2) := dk_21 5 (dk_at dksX4_heat_2 2 rfl rfl)
theorem dX4_heat_50 : decode cX4_heat 50 = .ok (.aload_n 0, 1) := dk_42 (dk_at dksX4_heat_2 4 rfl rfl)
theorem dX4_heat_51 : decode cX4_heat 51 = .ok (.iload_n 1, 1) := dk_27 (dk_at dksX4_heat_2 5 rfl rfl)
theorem dX4_heat_52 : decode cX4_heat 52 = .ok (.bipush 16, 2) := dk_16 16 (dk_at dksX4_heat_2 6 rfl rfl)
theorem dX4_heat_54 : decode cX4_heat 54 = .ok (.invokevirtual 97, 3) := dk_182 0 97 (dk_at dksX4_heat_2 8 rfl rfl)
theorem dX4_heat_57 : decode cX4_heat 57 = .ok (.if_icmp .ge 98, 3) := dk_162 0 98 (dk_at dksX4_heat_2 11 rfl rfl)
theorem dX4_heat_60 : decode cX4_heat 60 = .ok (.aload_n 0, 1) := dk_42 (dk_at dksX4_heat_2 14 rfl rfl)
theorem dX4_heat_61 : decode cX4_heat 61 = .ok (.iload_n 1, 1) := dk_27 (dk_at dksX4_heat_2 15 rfl rfl)
theorem dX4_heat_62 : decode cX4_heat 62 = .ok (.bipush 17, 2) := dk_16 17 (dk_at dksX4_heat_2 16 rfl rfl)
theorem dX4_heat_64 : decode cX4_heat 64 = .ok (.iconst 2, 1) := dk_5 (dk_at dksX4_heat_2 18 rfl rfl)
theorem dX4_heat_65 : decode cX4_heat 65 = .ok (.iload 5, 2) := dk_21 5 (dk_at dksX4_heat_2 19 rfl rfl)
theorem dX4_heat_67 : decode cX4_heat 67 = .ok (.imul, 1) := dk_104 (dk_at dksX4_heat_2 21 rfl rfl)
theorem dX4_heat_68 : decode cX4_heat 68 = .ok (.iadd, 1) := dk_96 (dk_at dksX4_heat_2 22 rfl rfl)
theorem dX4_heat_69 : decode cX4_heat 69 = .ok (.invokevirtual 97, 3) := dk_182 0 97 (dk_at dksX4_heat_3 0 rfl rfl)
theorem dX4_heat_72 : decode cX4_heat 72 = .ok (.istore 6, 2) := dk_54 6 (dk_at dksX4_heat_3 3 rfl rfl)
theorem dX4_heat_74 : decode cX4_heat 74 = .ok (.iload_n 2, 1) := dk_28 (dk_at dksX4_heat_3 5 rfl rfl)
theorem dX4_heat_75 : decode cX4_heat 75 = .ok (.aload_n 0, 1) := dk_42 (dk_at dksX4_heat_3 6 rfl rfl)
theorem dX4_heat_76 : decode cX4_heat 76 = .ok (.iload 6, 2) := dk_21 6 (dk_at dksX4_heat_3 7 rfl rfl)
theorem dX4_heat_78 : decode cX4_heat 78 = .ok (.iconst 0, 1) := dk_3 (dk_at dksX4_heat_3 9 rfl rfl)
theorem dX4_heat_79 : decode cX4_heat 79 = .ok (.invokevirtual 101, 3) := dk_182 0 101 (dk_at dksX4_heat_3 10 rfl rfl)
theorem dX4_heat_82 : decode cX4_heat 82 = .ok (.if_icmp .gt 67, 3) := dk_163 0 67 (dk_at dksX4_heat_3 13 rfl rfl)
theorem dX4_heat_85 : decode cX4_heat 85 = .ok (.iload_n 2, 1) := dk_28 (dk_at dksX4_heat_3 16 rfl rfl)
theorem dX4_heat_86 : decode cX4_heat 86 = .ok (.aload_n 0, 1) := dk_42 (dk_at dksX4_heat_3 17 rfl rfl)
theorem dX4_heat_87 : decode cX4_heat 87 = .ok (.iload 6, 2) := dk_21 6 (dk_at dksX4_heat_3 18 rfl rfl)
theorem dX4_heat_89 : decode cX4_heat 89 = .ok (.iconst 0, 1) := dk_3 (dk_at dksX4_heat_3 20 rfl rfl)
theorem dX4_heat_90 : decode cX4_heat 90 = .ok (.invokevirtual 101, 3) := dk_182 0 101 (dk_at dksX4_heat_3 21 rfl rfl)
theorem dX4_heat_93 : decode cX4_heat 93 = .ok (.if_icmp .ne 17, 3) := dk_160 0 17 (dk_at dksX4_heat_4 0 rfl rfl)
theorem dX4_heat_96 : decode cX4_heat 96 = .ok (.iload_n 3, 1) := dk_29 (dk_at dksX4_heat_4 3 rfl rfl)
theorem dX4_heat_97 : decode cX4_heat 97 = .ok (.aload_n 0, 1) := dk_42 (dk_at dksX4_heat_4 4 rfl rfl)
theorem dX4_heat_98 : decode cX4_heat 98 = .ok (.iload 6, 2) := dk_21 6 (dk_at dksX4_heat_4 5 rfl rfl)
theorem dX4_heat_100 : decode cX4_heat 100 = .ok (.iconst 1, 1) := dk_4 (dk_at dksX4_heat_4 7 rfl rfl)
theorem dX4_heat_101 : decode cX4_heat 101 = .ok (.invokevirtual 101, 3) := dk_182 0 101 (dk_at dksX4_heat_4 8 rfl rfl)
theorem dX4_heat_104 : decode cX4_heat 104 = .ok (.if_icmp .lt 6, 3) := dk_161 0 6 (dk_at dksX4_heat_4 11 rfl rfl)
theorem dX4_heat_107 : decode cX4_heat 107 = .ok (.goto 42, 3) := dk_167 0 42 (dk_at dksX4_heat_4 14 rfl rfl)
theorem dX4_heat_110 : decode cX4_heat 110 = .ok (.aload_n 0, 1) := dk_42 (dk_at dksX4_heat_4 17 rfl rfl)
theorem dX4_heat_111 : decode cX4_heat 111 = .ok (.iload_n 1, 1) := dk_27 (dk_at dksX4_heat_4 18 rfl rfl)
theorem dX4_heat_112 : decode cX4_heat 112 = .ok (.bipush 17, 2) := dk_16 17 (dk_at dksX4_heat_4 19 rfl rfl)
theorem dX4_heat_114 : decode cX4_heat 114 = .ok (.iconst 2, 1) := dk_5 (dk_at dksX4_heat_4 21 rfl rfl)
theorem dX4_heat_115 : decode cX4_heat 115 = .ok (.iload 4, 2) := dk_21 4 (dk_at dksX4_heat_4 22 rfl rfl)
theorem dX4_heat_117 : decode cX4_heat 117 = .ok (.imul, 1) := dk_104 (dk_at dksX4_heat_5 0 rfl rfl)
theorem dX4_heat_118 : decode cX4_heat 118 = .ok (.iadd, 1) := dk_96 (dk_at dksX4_heat_5 1 rfl rfl)
theorem dX4_heat_119 : decode cX4_heat 119 = .ok (.iload 6, 2) := dk_21 6 (dk_at dksX4_heat_5 2 rfl rfl)
theorem dX4_heat_121 : decode cX4_heat 121 = .ok (.invokevirtual 90, 3) := dk_182 0 90 (dk_at dksX4_heat_5 4 rfl rfl)
theorem dX4_heat_124 : decode cX4_heat 124 = .ok (.aload_n 0, 1) := dk_42 (dk_at dksX4_heat_5 7 rfl rfl)
theorem dX4_heat_125 : decode cX4_heat 125 = .ok (.iload_n 1, 1) := dk_27 (dk_at dksX4_heat_5 8 rfl rfl)
theorem dX4_heat_126 : decode cX4_heat 126 = .ok (.bipush 17, 2) := dk_16 17 (dk_at dksX4_heat_5 9 rfl rfl)
theorem dX4_heat_128 : decode cX4_heat 128 = .ok (.iconst 2, 1) := dk_5 (dk_at dksX4_heat_5 11 rfl rfl)
theorem dX4_heat_129 : decode cX4_heat 129 = .ok (.iload 4, 2) := dk_21 4 (dk_at dksX4_heat_5 12 rfl rfl)
theorem dX4_heat_131 : decode cX4_heat 131 = .ok (.imul, 1) := dk_104 (dk_at dksX4_heat_5 14 rfl rfl)
theorem dX4_heat_132 : decode cX4_heat 132 = .ok (.iadd, 1) := dk_96 (dk_at dksX4_heat_5 15 rfl rfl)
theorem dX4_heat_133 : decode cX4_heat 133 = .ok (.iconst 1, 1) := dk_4 (dk_at dksX4_heat_5 16 rfl rfl)
theorem dX4_heat_134 : decode cX4_heat 134 = .ok (.iadd, 1) := dk_96 (dk_at dksX4_heat_5 17 rfl rfl)
theorem dX4_heat_135 : decode cX4_heat 135 = .ok (.aload_n 0, 1) := dk_42 (dk_at dksX4_heat_5 18 rfl rfl)
theorem dX4_heat_136 : decode cX4_heat 136 = .ok (.getfield 17, 3) := dk_180 0 17 (dk_at dksX4_heat_5 19 rfl rfl)
theorem dX4_heat_139 : decode cX4_heat 139 = .ok (.sipush 1750, 3) := dk_17 6 214 (dk_at dksX4_heat_6 0 rfl rfl)
theorem dX4_heat_142 : decode cX4_heat 142 = .ok (.iaload, 1) := dk_46 (dk_at dksX4_heat_6 3 rfl rfl)
theorem dX4_heat_143 : decode cX4_heat 143 = .ok (.invokevirtual 90, 3) := dk_182 0 90 (dk_at dksX4_heat_6 4 rfl rfl)
theorem dX4_heat_146 : decode cX4_heat 146 = .ok (.iinc 4 1, 3) := dk_132 4 1 (dk_at dksX4_heat_6 7 rfl rfl)
theorem dX4_heat_149 : decode cX4_heat 149 = .ok (.iinc 5 1, 3) := dk_132 5 1 (dk_at dksX4_heat_6 10 rfl rfl)
theorem dX4_heat_152 : decode cX4_heat 152 = .ok (.goto (-104), 3) := dk_167 255 152 (dk_at dksX4_heat_6 13 rfl rfl)
theorem dX4_heat_155 : decode cX4_heat 155 = .ok (.aload_n 0, 1) := dk_42 (dk_at dksX4_heat_6 16 rfl rfl)
theorem dX4_heat_156 : decode cX4_heat 156 = .ok (.iload_n 1, 1) := dk_27 (dk_at dksX4_heat_6 17 rfl rfl)
theorem dX4_heat_157 : decode cX4_heat 157 = .ok (.bipush 16, 2) := dk_16 16 (dk_at dksX4_heat_6 18 rfl rfl)
theorem dX4_heat_159 : decode cX4_heat 159 = .ok (.iload 4, 2) := dk_21 4 (dk_at dksX4_heat_6 20 rfl rfl)
theorem dX4_heat_161 : decode cX4_heat 161 = .ok (.invokevirtual 90, 3) := dk_182 0 90 (dk_at dksX4_heat_7 0 rfl rfl)
theorem dX4_heat_164 : decode cX4_heat 164 = .ok (.aload_n 0, 1) := dk_42 (dk_at dksX4_heat_7 3 rfl rfl)
theorem dX4_heat_165 : decode cX4_heat 165 = .ok (.iload_n 1, 1) := dk_27 (dk_at dksX4_heat_7 4 rfl rfl)
theorem dX4_heat_166 : decode cX4_heat 166 = .ok (.iconst 2, 1) := dk_5 (dk_at dksX4_heat_7 5 rfl rfl)
theorem dX4_heat_167 : decode cX4_heat 167 = .ok (.iload_n 2, 1) := dk_28 (dk_at dksX4_heat_7 6 rfl rfl)
theorem dX4_heat_168 : decode cX4_heat 168 = .ok (.invokevirtual 90, 3) := dk_182 0 90 (dk_at dksX4_heat_7 7 rfl rfl)
theorem dX4_heat_171 : decode cX4_heat 171 = .ok (.aload_n 0, 1) := dk_42 (dk_at dksX4_heat_7 10 rfl rfl)
theorem dX4_heat_172 : decode cX4_heat 172 = .ok (.iload_n 1, 1) := dk_27 (dk_at dksX4_heat_7 11 rfl rfl)
theorem dX4_heat_173 : decode cX4_heat 173 = .ok (.iconst 3, 1) := dk_6 (dk_at dksX4_heat_7 12 rfl rfl)
theorem dX4_heat_174 : decode cX4_heat 174 = .ok (.iload_n 3, 1) := dk_29 (dk_at dksX4_heat_7 13 rfl rfl)
theorem dX4_heat_175 : decode cX4_heat 175 = .ok (.invokevirtual 90, 3) := dk_182 0 90 (dk_at dksX4_heat_7 14 rfl rfl)
theorem dX4_heat_178 : decode cX4_heat 178 = .ok (.aload_n 0, 1) := dk_42 (dk_at dksX4_heat_7 17 rfl rfl)
theorem dX4_heat_179 : decode cX4_heat 179 = .ok (.iload_n 1, 1) := dk_27 (dk_at dksX4_heat_7 18 rfl rfl)
theorem dX4_heat_180 : decode cX4_heat 180 = .ok (.iconst 4, 1) := dk_7 (dk_at dksX4_heat_7 19 rfl rfl)
theorem dX4_heat_181 : decode cX4_heat 181 = .ok (.aload_n 0, 1) := dk_42 (dk_at dksX4_heat_7 20 rfl rfl)
theorem dX4_heat_182 : decode cX4_heat 182 = .ok (.getfield 17, 3) := dk_180 0 17 (dk_at dksX4_heat_7 21 rfl rfl)
theorem dX4_heat_185 : decode cX4_heat 185 = .ok (.sipush 1750, 3) := dk_17 6 214 (dk_at dksX4_heat_8 0 rfl rfl)
theorem dX4_heat_188 : decode cX4_heat 188 = .ok (.iaload, 1) := dk_46 (dk_at dksX4_heat_8 3 rfl rfl)
theorem dX4_heat_189 : decode cX4_heat 189 = .ok (.invokevirtual 90, 3) := dk_182 0 90 (dk_at dksX4_heat_8 4 rfl rfl)
theorem dX4_heat_192 : decode cX4_heat 192 = .ok (.aload_n 0, 1) := dk_42 (dk_at dksX4_heat_8 7 rfl rfl)
theorem dX4_heat_193 : decode cX4_heat 193 = .ok (.iload_n 1, 1) := dk_27 (dk_at dksX4_heat_8 8 rfl rfl)
theorem dX4_heat_194 : decode cX4_heat 194 = .ok (.bipush 6, 2) := dk_16 6 (dk_at dksX4_heat_8 9 rfl rfl)
theorem dX4_heat_196 : decode cX4_heat 196 = .ok (.iconst 0, 1) := dk_3 (dk_at dksX4_heat_8 11 rfl rfl)
theorem dX4_heat_197 : decode cX4_heat 197 = .ok (.invokevirtual 90, 3) := dk_182 0 90 (dk_at dksX4_heat_8 12 rfl rfl)
theorem dX4_heat_200 : decode cX4_heat 200 = .ok (.aload_n 0, 1) := dk_42 (dk_at dksX4_heat_8 15 rfl rfl)
theorem dX4_heat_201 : decode cX4_heat 201 = .ok (.iload_n 1, 1) := dk_27 (dk_at dksX4_heat_8 16 rfl rfl)
theorem dX4_heat_202 : decode cX4_heat 202 = .ok (.bipush 7, 2) := dk_16 7 (dk_at dksX4_heat_8 17 rfl rfl)
theorem dX4_heat_204 : decode cX4_heat 204 = .ok (.iconst 0, 1) := dk_3 (dk_at dksX4_heat_8 19 rfl rfl)
theorem dX4_heat_205 : decode cX4_heat 205 = .ok (.invokevirtual 90, 3) := dk_182 0 90 (dk_at dksX4_heat_8 20 rfl rfl)
theorem dX4_heat_208 : decode cX4_heat 208 = .ok (.aload_n 0, 1) := dk_42 (dk_at dksX4_heat_8 23 rfl rfl)
theorem dX4_heat_209 : decode cX4_heat 209 = .ok (.iload_n 1, 1) := dk_27 (dk_at dksX4_heat_9 0 rfl rfl)
theorem dX4_heat_210 : decode cX4_heat 210 = .ok (.bipush 11, 2) := dk_16 11 (dk_at dksX4_heat_9 1 rfl rfl)
theorem dX4_heat_212 : decode cX4_heat 212 = .ok (.iconst 0, 1) := dk_3 (dk_at dksX4_heat_9 3 rfl rfl)
theorem dX4_heat_213 : decode cX4_heat 213 = .ok (.invokevirtual 90, 3) := dk_182 0 90 (dk_at dksX4_heat_9 4 rfl rfl)
theorem dX4_heat_216 : decode cX4_heat 216 = .ok (.aload_n 0, 1) := dk_42 (dk_at dksX4_heat_9 7 rfl rfl)
theorem dX4_heat_217 : decode cX4_heat 217 = .ok (.iload 4, 2) := dk_21 4 (dk_at dksX4_heat_9 8 rfl rfl)
theorem dX4_heat_219 : decode cX4_heat 219 = .ok (.invokevirtual 82, 3) := dk_182 0 82 (dk_at dksX4_heat_9 10 rfl rfl)
theorem dX4_heat_222 : decode cX4_heat 222 = .ok (.ireturn, 1) := dk_172 (dk_at dksX4_heat_9 13 rfl rfl)
abbrev cX4_isFlask : ByteArray := prog_24_method_8_code
def yX4_isFlask : MethodName := ⟨RX4, "isFlask", "(I)Z"⟩
def dkwX4_isFlask_0 : List UInt8 := [27, 3, 42, 180, 0, 17, 17, 6, 217, 46, 4, 100, 184, 0, 74, 172]
abbrev dktX4_isFlask_0 : List UInt8 := dkwX4_isFlask_0 ++ []
theorem dksX4_isFlask_0 : cX4_isFlask.data.toList.drop 0 = dktX4_isFlask_0 := by decide +kernel
theorem dX4_isFlask_0 : decode cX4_isFlask 0 = .ok (.iload_n 1, 1) := dk_27 (dk_at dksX4_isFlask_0 0 rfl rfl)
theorem dX4_isFlask_1 : decode cX4_isFlask 1 = .ok (.iconst 0, 1) := dk_3 (dk_at dksX4_isFlask_0 1 rfl rfl)
theorem dX4_isFlask_2 : decode cX4_isFlask 2 = .ok (.aload_n 0, 1) := dk_42 (dk_at dksX4_isFlask_0 2 rfl rfl)
theorem dX4_isFlask_3 : decode cX4_isFlask 3 = .ok (.getfield 17, 3) := dk_180 0 17 (dk_at dksX4_isFlask_0 3 rfl rfl)
theorem dX4_isFlask_6 : decode cX4_isFlask 6 = .ok (.sipush 1753, 3) := dk_17 6 217 (dk_at dksX4_isFlask_0 6 rfl rfl)
theorem dX4_isFlask_9 : decode cX4_isFlask 9 = .ok (.iaload, 1) := dk_46 (dk_at dksX4_isFlask_0 9 rfl rfl)
theorem dX4_isFlask_10 : decode cX4_isFlask 10 = .ok (.iconst 1, 1) := dk_4 (dk_at dksX4_isFlask_0 10 rfl rfl)
theorem dX4_isFlask_11 : decode cX4_isFlask 11 = .ok (.isub, 1) := dk_100 (dk_at dksX4_isFlask_0 11 rfl rfl)
theorem dX4_isFlask_12 : decode cX4_isFlask 12 = .ok (.invokestatic 74, 3) := dk_184 0 74 (dk_at dksX4_isFlask_0 12 rfl rfl)
theorem dX4_isFlask_15 : decode cX4_isFlask 15 = .ok (.ireturn, 1) := dk_172 (dk_at dksX4_isFlask_0 15 rfl rfl)
abbrev cX4_flaskOf : ByteArray := prog_24_method_13_code
def yX4_flaskOf : MethodName := ⟨RX4, "flaskOf", "(II)I"⟩
def dkwX4_flaskOf_0 : List UInt8 := [42, 180, 0, 17, 17, 0, 184, 16, 26, 27, 104, 96, 28, 96, 46, 172]
abbrev dktX4_flaskOf_0 : List UInt8 := dkwX4_flaskOf_0 ++ []
theorem dksX4_flaskOf_0 : cX4_flaskOf.data.toList.drop 0 = dktX4_flaskOf_0 := by decide +kernel
theorem dX4_flaskOf_0 : decode cX4_flaskOf 0 = .ok (.aload_n 0, 1) := dk_42 (dk_at dksX4_flaskOf_0 0 rfl rfl)
theorem dX4_flaskOf_1 : decode cX4_flaskOf 1 = .ok (.getfield 17, 3) := dk_180 0 17 (dk_at dksX4_flaskOf_0 1 rfl rfl)
theorem dX4_flaskOf_4 : decode cX4_flaskOf 4 = .ok (.sipush 184, 3) := dk_17 0 184 (dk_at dksX4_flaskOf_0 4 rfl rfl)
theorem dX4_flaskOf_7 : decode cX4_flaskOf 7 = .ok (.bipush 26, 2) := dk_16 26 (dk_at dksX4_flaskOf_0 7 rfl rfl)
theorem dX4_flaskOf_9 : decode cX4_flaskOf 9 = .ok (.iload_n 1, 1) := dk_27 (dk_at dksX4_flaskOf_0 9 rfl rfl)
theorem dX4_flaskOf_10 : decode cX4_flaskOf 10 = .ok (.imul, 1) := dk_104 (dk_at dksX4_flaskOf_0 10 rfl rfl)
theorem dX4_flaskOf_11 : decode cX4_flaskOf 11 = .ok (.iadd, 1) := dk_96 (dk_at dksX4_flaskOf_0 11 rfl rfl)
theorem dX4_flaskOf_12 : decode cX4_flaskOf 12 = .ok (.iload_n 2, 1) := dk_28 (dk_at dksX4_flaskOf_0 12 rfl rfl)
theorem dX4_flaskOf_13 : decode cX4_flaskOf 13 = .ok (.iadd, 1) := dk_96 (dk_at dksX4_flaskOf_0 13 rfl rfl)
theorem dX4_flaskOf_14 : decode cX4_flaskOf 14 = .ok (.iaload, 1) := dk_46 (dk_at dksX4_flaskOf_0 14 rfl rfl)
theorem dX4_flaskOf_15 : decode cX4_flaskOf 15 = .ok (.ireturn, 1) := dk_172 (dk_at dksX4_flaskOf_0 15 rfl rfl)
abbrev cX4_kindOf : ByteArray := prog_24_method_12_code
def yX4_kindOf : MethodName := ⟨RX4, "kindOf", "(II)I"⟩
def dkwX4_kindOf_0 : List UInt8 := [42, 180, 0, 17, 17, 0, 136, 16, 6, 27, 104, 96, 28, 96, 46, 172]
abbrev dktX4_kindOf_0 : List UInt8 := dkwX4_kindOf_0 ++ []
theorem dksX4_kindOf_0 : cX4_kindOf.data.toList.drop 0 = dktX4_kindOf_0 := by decide +kernel
theorem dX4_kindOf_0 : decode cX4_kindOf 0 = .ok (.aload_n 0, 1) := dk_42 (dk_at dksX4_kindOf_0 0 rfl rfl)
theorem dX4_kindOf_1 : decode cX4_kindOf 1 = .ok (.getfield 17, 3) := dk_180 0 17 (dk_at dksX4_kindOf_0 1 rfl rfl)
theorem dX4_kindOf_4 : decode cX4_kindOf 4 = .ok (.sipush 136, 3) := dk_17 0 136 (dk_at dksX4_kindOf_0 4 rfl rfl)
theorem dX4_kindOf_7 : decode cX4_kindOf 7 = .ok (.bipush 6, 2) := dk_16 6 (dk_at dksX4_kindOf_0 7 rfl rfl)
theorem dX4_kindOf_9 : decode cX4_kindOf 9 = .ok (.iload_n 1, 1) := dk_27 (dk_at dksX4_kindOf_0 9 rfl rfl)
theorem dX4_kindOf_10 : decode cX4_kindOf 10 = .ok (.imul, 1) := dk_104 (dk_at dksX4_kindOf_0 10 rfl rfl)
theorem dX4_kindOf_11 : decode cX4_kindOf 11 = .ok (.iadd, 1) := dk_96 (dk_at dksX4_kindOf_0 11 rfl rfl)
theorem dX4_kindOf_12 : decode cX4_kindOf 12 = .ok (.iload_n 2, 1) := dk_28 (dk_at dksX4_kindOf_0 12 rfl rfl)
theorem dX4_kindOf_13 : decode cX4_kindOf 13 = .ok (.iadd, 1) := dk_96 (dk_at dksX4_kindOf_0 13 rfl rfl)
theorem dX4_kindOf_14 : decode cX4_kindOf 14 = .ok (.iaload, 1) := dk_46 (dk_at dksX4_kindOf_0 14 rfl rfl)
theorem dX4_kindOf_15 : decode cX4_kindOf 15 = .ok (.ireturn, 1) := dk_172 (dk_at dksX4_kindOf_0 15 rfl rfl)
abbrev cX4_move : ByteArray := prog_24_method_22_code
def yX4_move : MethodName := ⟨RX4, "move", "(II)I"⟩
def dkwX4_move_1 : List UInt8 := [42, 16, 254, 182, 0, 78, 172, 42, 27, 8, 28, 182, 0, 90, 42, 3, 182, 0, 82, 172]
abbrev dktX4_move_1 : List UInt8 := dkwX4_move_1 ++ []
def dkwX4_move_0 : List UInt8 := [28, 3, 16, 11, 184, 0, 74, 154, 0, 9, 42, 2, 182, 0, 78, 172, 42, 27, 182, 0, 94, 154, 0, 10]
abbrev dktX4_move_0 : List UInt8 := dkwX4_move_0 ++ dktX4_move_1
theorem dksX4_move_0 : cX4_move.data.toList.drop 0 = dktX4_move_0 := by decide +kernel
theorem dksX4_move_1 : cX4_move.data.toList.drop 24 = dktX4_move_1 := dk_seg dksX4_move_0 24 rfl rfl
theorem dX4_move_0 : decode cX4_move 0 = .ok (.iload_n 2, 1) := dk_28 (dk_at dksX4_move_0 0 rfl rfl)
theorem dX4_move_1 : decode cX4_move 1 = .ok (.iconst 0, 1) := dk_3 (dk_at dksX4_move_0 1 rfl rfl)
theorem dX4_move_2 : decode cX4_move 2 = .ok (.bipush 11, 2) := dk_16 11 (dk_at dksX4_move_0 2 rfl rfl)
theorem dX4_move_4 : decode cX4_move 4 = .ok (.invokestatic 74, 3) := dk_184 0 74 (dk_at dksX4_move_0 4 rfl rfl)
theorem dX4_move_7 : decode cX4_move 7 = .ok (.ifCond .ne 9, 3) := dk_154 0 9 (dk_at dksX4_move_0 7 rfl rfl)
theorem dX4_move_10 : decode cX4_move 10 = .ok (.aload_n 0, 1) := dk_42 (dk_at dksX4_move_0 10 rfl rfl)
theorem dX4_move_11 : decode cX4_move 11 = .ok (.iconst (-1), 1) := dk_2 (dk_at dksX4_move_0 11 rfl rfl)
theorem dX4_move_12 : decode cX4_move 12 = .ok (.invokevirtual 78, 3) := dk_182 0 78 (dk_at dksX4_move_0 12 rfl rfl)
theorem dX4_move_15 : decode cX4_move 15 = .ok (.ireturn, 1) := dk_172 (dk_at dksX4_move_0 15 rfl rfl)
theorem dX4_move_16 : decode cX4_move 16 = .ok (.aload_n 0, 1) := dk_42 (dk_at dksX4_move_0 16 rfl rfl)
theorem dX4_move_17 : decode cX4_move 17 = .ok (.iload_n 1, 1) := dk_27 (dk_at dksX4_move_0 17 rfl rfl)
theorem dX4_move_18 : decode cX4_move 18 = .ok (.invokevirtual 94, 3) := dk_182 0 94 (dk_at dksX4_move_0 18 rfl rfl)
theorem dX4_move_21 : decode cX4_move 21 = .ok (.ifCond .ne 10, 3) := dk_154 0 10 (dk_at dksX4_move_0 21 rfl rfl)
theorem dX4_move_24 : decode cX4_move 24 = .ok (.aload_n 0, 1) := dk_42 (dk_at dksX4_move_1 0 rfl rfl)
theorem dX4_move_25 : decode cX4_move 25 = .ok (.bipush (-2), 2) := dk_16 254 (dk_at dksX4_move_1 1 rfl rfl)
theorem dX4_move_27 : decode cX4_move 27 = .ok (.invokevirtual 78, 3) := dk_182 0 78 (dk_at dksX4_move_1 3 rfl rfl)
theorem dX4_move_30 : decode cX4_move 30 = .ok (.ireturn, 1) := dk_172 (dk_at dksX4_move_1 6 rfl rfl)
theorem dX4_move_31 : decode cX4_move 31 = .ok (.aload_n 0, 1) := dk_42 (dk_at dksX4_move_1 7 rfl rfl)
theorem dX4_move_32 : decode cX4_move 32 = .ok (.iload_n 1, 1) := dk_27 (dk_at dksX4_move_1 8 rfl rfl)
theorem dX4_move_33 : decode cX4_move 33 = .ok (.iconst 5, 1) := dk_8 (dk_at dksX4_move_1 9 rfl rfl)
theorem dX4_move_34 : decode cX4_move 34 = .ok (.iload_n 2, 1) := dk_28 (dk_at dksX4_move_1 10 rfl rfl)
theorem dX4_move_35 : decode cX4_move 35 = .ok (.invokevirtual 90, 3) := dk_182 0 90 (dk_at dksX4_move_1 11 rfl rfl)
theorem dX4_move_38 : decode cX4_move 38 = .ok (.aload_n 0, 1) := dk_42 (dk_at dksX4_move_1 14 rfl rfl)
theorem dX4_move_39 : decode cX4_move 39 = .ok (.iconst 0, 1) := dk_3 (dk_at dksX4_move_1 15 rfl rfl)
theorem dX4_move_40 : decode cX4_move 40 = .ok (.invokevirtual 82, 3) := dk_182 0 82 (dk_at dksX4_move_1 16 rfl rfl)
theorem dX4_move_43 : decode cX4_move 43 = .ok (.ireturn, 1) := dk_172 (dk_at dksX4_move_1 19 rfl rfl)
abbrev cX4_open : ByteArray := prog_24_method_23_code
def yX4_open : MethodName := ⟨RX4, "open", "(II)I"⟩
def dkwX4_open_2 : List UInt8 := [27, 16, 10, 42, 180, 0, 17, 17, 6, 214, 46, 28, 96, 4, 100, 182, 0, 90, 42, 3, 182, 0, 82, 172]
abbrev dktX4_open_2 : List UInt8 := dkwX4_open_2 ++ []
def dkwX4_open_1 : List UInt8 := [42, 16, 254, 182, 0, 78, 172, 42, 27, 4, 182, 0, 97, 154, 0, 10, 42, 16, 253, 182, 0, 78, 172, 42]
abbrev dktX4_open_1 : List UInt8 := dkwX4_open_1 ++ dktX4_open_2
def dkwX4_open_0 : List UInt8 := [28, 4, 16, 100, 184, 0, 74, 154, 0, 9, 42, 2, 182, 0, 78, 172, 42, 27, 182, 0, 94, 154, 0, 10]
abbrev dktX4_open_0 : List UInt8 := dkwX4_open_0 ++ dktX4_open_1
theorem dksX4_open_0 : cX4_open.data.toList.drop 0 = dktX4_open_0 := by decide +kernel
theorem dksX4_open_1 : cX4_open.data.toList.drop 24 = dktX4_open_1 := dk_seg dksX4_open_0 24 rfl rfl
theorem dksX4_open_2 : cX4_open.data.toList.drop 48 = dktX4_open_2 := dk_seg dksX4_open_1 24 rfl rfl
theorem dX4_open_0 : decode cX4_open 0 = .ok (.iload_n 2, 1) := dk_28 (dk_at dksX4_open_0 0 rfl rfl)
theorem dX4_open_1 : decode cX4_open 1 = .ok (.iconst 1, 1) := dk_4 (dk_at dksX4_open_0 1 rfl rfl)
theorem dX4_open_2 : decode cX4_open 2 = .ok (.bipush 100, 2) := dk_16 100 (dk_at dksX4_open_0 2 rfl rfl)
theorem dX4_open_4 : decode cX4_open 4 = .ok (.invokestatic 74, 3) := dk_184 0 74 (dk_at dksX4_open_0 4 rfl rfl)
theorem dX4_open_7 : decode cX4_open 7 = .ok (.ifCond .ne 9, 3) := dk_154 0 9 (dk_at dksX4_open_0 7 rfl rfl)
theorem dX4_open_10 : decode cX4_open 10 = .ok (.aload_n 0, 1) := dk_42 (dk_at dksX4_open_0 10 rfl rfl)
theorem dX4_open_11 : decode cX4_open 11 = .ok (.iconst (-1), 1) := dk_2 (dk_at dksX4_open_0 11 rfl rfl)
theorem dX4_open_12 : decode cX4_open 12 = .ok (.invokevirtual 78, 3) := dk_182 0 78 (dk_at dksX4_open_0 12 rfl rfl)
theorem dX4_open_15 : decode cX4_open 15 = .ok (.ireturn, 1) := dk_172 (dk_at dksX4_open_0 15 rfl rfl)
theorem dX4_open_16 : decode cX4_open 16 = .ok (.aload_n 0, 1) := dk_42 (dk_at dksX4_open_0 16 rfl rfl)
theorem dX4_open_17 : decode cX4_open 17 = .ok (.iload_n 1, 1) := dk_27 (dk_at dksX4_open_0 17 rfl rfl)
theorem dX4_open_18 : decode cX4_open 18 = .ok (.invokevirtual 94, 3) := dk_182 0 94 (dk_at dksX4_open_0 18 rfl rfl)
theorem dX4_open_21 : decode cX4_open 21 = .ok (.ifCond .ne 10, 3) := dk_154 0 10 (dk_at dksX4_open_0 21 rfl rfl)
theorem dX4_open_24 : decode cX4_open 24 = .ok (.aload_n 0, 1) := dk_42 (dk_at dksX4_open_1 0 rfl rfl)
theorem dX4_open_25 : decode cX4_open 25 = .ok (.bipush (-2), 2) := dk_16 254 (dk_at dksX4_open_1 1 rfl rfl)
theorem dX4_open_27 : decode cX4_open 27 = .ok (.invokevirtual 78, 3) := dk_182 0 78 (dk_at dksX4_open_1 3 rfl rfl)
theorem dX4_open_30 : decode cX4_open 30 = .ok (.ireturn, 1) := dk_172 (dk_at dksX4_open_1 6 rfl rfl)
theorem dX4_open_31 : decode cX4_open 31 = .ok (.aload_n 0, 1) := dk_42 (dk_at dksX4_open_1 7 rfl rfl)
theorem dX4_open_32 : decode cX4_open 32 = .ok (.iload_n 1, 1) := dk_27 (dk_at dksX4_open_1 8 rfl rfl)
theorem dX4_open_33 : decode cX4_open 33 = .ok (.iconst 1, 1) := dk_4 (dk_at dksX4_open_1 9 rfl rfl)
theorem dX4_open_34 : decode cX4_open 34 = .ok (.invokevirtual 97, 3) := dk_182 0 97 (dk_at dksX4_open_1 10 rfl rfl)
theorem dX4_open_37 : decode cX4_open 37 = .ok (.ifCond .ne 10, 3) := dk_154 0 10 (dk_at dksX4_open_1 13 rfl rfl)
theorem dX4_open_40 : decode cX4_open 40 = .ok (.aload_n 0, 1) := dk_42 (dk_at dksX4_open_1 16 rfl rfl)
theorem dX4_open_41 : decode cX4_open 41 = .ok (.bipush (-3), 2) := dk_16 253 (dk_at dksX4_open_1 17 rfl rfl)
theorem dX4_open_43 : decode cX4_open 43 = .ok (.invokevirtual 78, 3) := dk_182 0 78 (dk_at dksX4_open_1 19 rfl rfl)
theorem dX4_open_46 : decode cX4_open 46 = .ok (.ireturn, 1) := dk_172 (dk_at dksX4_open_1 22 rfl rfl)
theorem dX4_open_47 : decode cX4_open 47 = .ok (.aload_n 0, 1) := dk_42 (dk_at dksX4_open_1 23 rfl rfl)
theorem dX4_open_48 : decode cX4_open 48 = .ok (.iload_n 1, 1) := dk_27 (dk_at dksX4_open_2 0 rfl rfl)
theorem dX4_open_49 : decode cX4_open 49 = .ok (.bipush 10, 2) := dk_16 10 (dk_at dksX4_open_2 1 rfl rfl)
theorem dX4_open_51 : decode cX4_open 51 = .ok (.aload_n 0, 1) := dk_42 (dk_at dksX4_open_2 3 rfl rfl)
theorem dX4_open_52 : decode cX4_open 52 = .ok (.getfield 17, 3) := dk_180 0 17 (dk_at dksX4_open_2 4 rfl rfl)
theorem dX4_open_55 : decode cX4_open 55 = .ok (.sipush 1750, 3) := dk_17 6 214 (dk_at dksX4_open_2 7 rfl rfl)
theorem dX4_open_58 : decode cX4_open 58 = .ok (.iaload, 1) := dk_46 (dk_at dksX4_open_2 10 rfl rfl)
theorem dX4_open_59 : decode cX4_open 59 = .ok (.iload_n 2, 1) := dk_28 (dk_at dksX4_open_2 11 rfl rfl)
theorem dX4_open_60 : decode cX4_open 60 = .ok (.iadd, 1) := dk_96 (dk_at dksX4_open_2 12 rfl rfl)
theorem dX4_open_61 : decode cX4_open 61 = .ok (.iconst 1, 1) := dk_4 (dk_at dksX4_open_2 13 rfl rfl)
theorem dX4_open_62 : decode cX4_open 62 = .ok (.isub, 1) := dk_100 (dk_at dksX4_open_2 14 rfl rfl)
theorem dX4_open_63 : decode cX4_open 63 = .ok (.invokevirtual 90, 3) := dk_182 0 90 (dk_at dksX4_open_2 15 rfl rfl)
theorem dX4_open_66 : decode cX4_open 66 = .ok (.aload_n 0, 1) := dk_42 (dk_at dksX4_open_2 18 rfl rfl)
theorem dX4_open_67 : decode cX4_open 67 = .ok (.iconst 0, 1) := dk_3 (dk_at dksX4_open_2 19 rfl rfl)
theorem dX4_open_68 : decode cX4_open 68 = .ok (.invokevirtual 82, 3) := dk_182 0 82 (dk_at dksX4_open_2 20 rfl rfl)
theorem dX4_open_71 : decode cX4_open 71 = .ok (.ireturn, 1) := dk_172 (dk_at dksX4_open_2 23 rfl rfl)
abbrev cX4_tip : ByteArray := prog_24_method_24_code
def yX4_tip : MethodName := ⟨RX4, "tip", "(I)I"⟩
def dkwX4_tip_2 : List UInt8 := [182, 0, 90, 42, 27, 16, 7, 4, 182, 0, 90, 42, 3, 182, 0, 82, 172]
abbrev dktX4_tip_2 : List UInt8 := dkwX4_tip_2 ++ []
def dkwX4_tip_1 : List UInt8 := [159, 0, 10, 42, 16, 253, 182, 0, 78, 172, 42, 27, 16, 12, 42, 180, 0, 17, 17, 6, 214, 46]
abbrev dktX4_tip_1 : List UInt8 := dkwX4_tip_1 ++ dktX4_tip_2
def dkwX4_tip_0 : List UInt8 := [42, 27, 182, 0, 94, 154, 0, 10, 42, 16, 254, 182, 0, 78, 172, 42, 27, 4, 182, 0, 97, 4]
abbrev dktX4_tip_0 : List UInt8 := dkwX4_tip_0 ++ dktX4_tip_1
theorem dksX4_tip_0 : cX4_tip.data.toList.drop 0 = dktX4_tip_0 := by decide +kernel
theorem dksX4_tip_1 : cX4_tip.data.toList.drop 22 = dktX4_tip_1 := dk_seg dksX4_tip_0 22 rfl rfl
theorem dksX4_tip_2 : cX4_tip.data.toList.drop 44 = dktX4_tip_2 := dk_seg dksX4_tip_1 22 rfl rfl
theorem dX4_tip_0 : decode cX4_tip 0 = .ok (.aload_n 0, 1) := dk_42 (dk_at dksX4_tip_0 0 rfl rfl)
theorem dX4_tip_1 : decode cX4_tip 1 = .ok (.iload_n 1, 1) := dk_27 (dk_at dksX4_tip_0 1 rfl rfl)
theorem dX4_tip_2 : decode cX4_tip 2 = .ok (.invokevirtual 94, 3) := dk_182 0 94 (dk_at dksX4_tip_0 2 rfl rfl)
theorem dX4_tip_5 : decode cX4_tip 5 = .ok (.ifCond .ne 10, 3) := dk_154 0 10 (dk_at dksX4_tip_0 5 rfl rfl)
theorem dX4_tip_8 : decode cX4_tip 8 = .ok (.aload_n 0, 1) := dk_42 (dk_at dksX4_tip_0 8 rfl rfl)
theorem dX4_tip_9 : decode cX4_tip 9 = .ok (.bipush (-2), 2) := dk_16 254 (dk_at dksX4_tip_0 9 rfl rfl)
theorem dX4_tip_11 : decode cX4_tip 11 = .ok (.invokevirtual 78, 3) := dk_182 0 78 (dk_at dksX4_tip_0 11 rfl rfl)
theorem dX4_tip_14 : decode cX4_tip 14 = .ok (.ireturn, 1) := dk_172 (dk_at dksX4_tip_0 14 rfl rfl)
theorem dX4_tip_15 : decode cX4_tip 15 = .ok (.aload_n 0, 1) := dk_42 (dk_at dksX4_tip_0 15 rfl rfl)
theorem dX4_tip_16 : decode cX4_tip 16 = .ok (.iload_n 1, 1) := dk_27 (dk_at dksX4_tip_0 16 rfl rfl)
theorem dX4_tip_17 : decode cX4_tip 17 = .ok (.iconst 1, 1) := dk_4 (dk_at dksX4_tip_0 17 rfl rfl)
theorem dX4_tip_18 : decode cX4_tip 18 = .ok (.invokevirtual 97, 3) := dk_182 0 97 (dk_at dksX4_tip_0 18 rfl rfl)
theorem dX4_tip_21 : decode cX4_tip 21 = .ok (.iconst 1, 1) := dk_4 (dk_at dksX4_tip_0 21 rfl rfl)
theorem dX4_tip_22 : decode cX4_tip 22 = .ok (.if_icmp .eq 10, 3) := dk_159 0 10 (dk_at dksX4_tip_1 0 rfl rfl)
theorem dX4_tip_25 : decode cX4_tip 25 = .ok (.aload_n 0, 1) := dk_42 (dk_at dksX4_tip_1 3 rfl rfl)
theorem dX4_tip_26 : decode cX4_tip 26 = .ok (.bipush (-3), 2) := dk_16 253 (dk_at dksX4_tip_1 4 rfl rfl)
theorem dX4_tip_28 : decode cX4_tip 28 = .ok (.invokevirtual 78, 3) := dk_182 0 78 (dk_at dksX4_tip_1 6 rfl rfl)
theorem dX4_tip_31 : decode cX4_tip 31 = .ok (.ireturn, 1) := dk_172 (dk_at dksX4_tip_1 9 rfl rfl)
theorem dX4_tip_32 : decode cX4_tip 32 = .ok (.aload_n 0, 1) := dk_42 (dk_at dksX4_tip_1 10 rfl rfl)
theorem dX4_tip_33 : decode cX4_tip 33 = .ok (.iload_n 1, 1) := dk_27 (dk_at dksX4_tip_1 11 rfl rfl)
theorem dX4_tip_34 : decode cX4_tip 34 = .ok (.bipush 12, 2) := dk_16 12 (dk_at dksX4_tip_1 12 rfl rfl)
theorem dX4_tip_36 : decode cX4_tip 36 = .ok (.aload_n 0, 1) := dk_42 (dk_at dksX4_tip_1 14 rfl rfl)
theorem dX4_tip_37 : decode cX4_tip 37 = .ok (.getfield 17, 3) := dk_180 0 17 (dk_at dksX4_tip_1 15 rfl rfl)
theorem dX4_tip_40 : decode cX4_tip 40 = .ok (.sipush 1750, 3) := dk_17 6 214 (dk_at dksX4_tip_1 18 rfl rfl)
theorem dX4_tip_43 : decode cX4_tip 43 = .ok (.iaload, 1) := dk_46 (dk_at dksX4_tip_1 21 rfl rfl)
theorem dX4_tip_44 : decode cX4_tip 44 = .ok (.invokevirtual 90, 3) := dk_182 0 90 (dk_at dksX4_tip_2 0 rfl rfl)
theorem dX4_tip_47 : decode cX4_tip 47 = .ok (.aload_n 0, 1) := dk_42 (dk_at dksX4_tip_2 3 rfl rfl)
theorem dX4_tip_48 : decode cX4_tip 48 = .ok (.iload_n 1, 1) := dk_27 (dk_at dksX4_tip_2 4 rfl rfl)
theorem dX4_tip_49 : decode cX4_tip 49 = .ok (.bipush 7, 2) := dk_16 7 (dk_at dksX4_tip_2 5 rfl rfl)
theorem dX4_tip_51 : decode cX4_tip 51 = .ok (.iconst 1, 1) := dk_4 (dk_at dksX4_tip_2 7 rfl rfl)
theorem dX4_tip_52 : decode cX4_tip 52 = .ok (.invokevirtual 90, 3) := dk_182 0 90 (dk_at dksX4_tip_2 8 rfl rfl)
theorem dX4_tip_55 : decode cX4_tip 55 = .ok (.aload_n 0, 1) := dk_42 (dk_at dksX4_tip_2 11 rfl rfl)
theorem dX4_tip_56 : decode cX4_tip 56 = .ok (.iconst 0, 1) := dk_3 (dk_at dksX4_tip_2 12 rfl rfl)
theorem dX4_tip_57 : decode cX4_tip 57 = .ok (.invokevirtual 82, 3) := dk_182 0 82 (dk_at dksX4_tip_2 13 rfl rfl)
theorem dX4_tip_60 : decode cX4_tip 60 = .ok (.ireturn, 1) := dk_172 (dk_at dksX4_tip_2 16 rfl rfl)
abbrev cX4_go : ByteArray := prog_24_method_29_code
def yX4_go : MethodName := ⟨RX4, "go", "(I)I"⟩
def dkwX4_go_4 : List UInt8 := [17, 6, 214, 46, 182, 0, 82, 172]
abbrev dktX4_go_4 : List UInt8 := dkwX4_go_4 ++ []
def dkwX4_go_3 : List UInt8 := [180, 0, 17, 17, 6, 214, 92, 46, 4, 96, 79, 132, 2, 1, 167, 255, 206, 42, 42, 180, 0, 17]
abbrev dktX4_go_3 : List UInt8 := dkwX4_go_3 ++ dktX4_go_4
def dkwX4_go_2 : List UInt8 := [17, 6, 217, 46, 162, 0, 19, 42, 29, 182, 0, 117, 42, 29, 182, 0, 121, 132, 3, 1, 167, 255, 231, 42]
abbrev dktX4_go_2 : List UInt8 := dkwX4_go_2 ++ dktX4_go_3
def dkwX4_go_1 : List UInt8 := [161, 0, 9, 42, 2, 182, 0, 78, 172, 3, 61, 28, 27, 162, 0, 51, 3, 62, 29, 42, 180, 0, 17]
abbrev dktX4_go_1 : List UInt8 := dkwX4_go_1 ++ dktX4_go_2
def dkwX4_go_0 : List UInt8 := [27, 4, 16, 100, 184, 0, 74, 153, 0, 19, 42, 180, 0, 17, 17, 6, 214, 46, 27, 96, 17, 1, 144]
abbrev dktX4_go_0 : List UInt8 := dkwX4_go_0 ++ dktX4_go_1
theorem dksX4_go_0 : cX4_go.data.toList.drop 0 = dktX4_go_0 := by decide +kernel
theorem dksX4_go_1 : cX4_go.data.toList.drop 23 = dktX4_go_1 := dk_seg dksX4_go_0 23 rfl rfl
theorem dksX4_go_2 : cX4_go.data.toList.drop 46 = dktX4_go_2 := dk_seg dksX4_go_1 23 rfl rfl
theorem dksX4_go_3 : cX4_go.data.toList.drop 70 = dktX4_go_3 := dk_seg dksX4_go_2 24 rfl rfl
theorem dksX4_go_4 : cX4_go.data.toList.drop 92 = dktX4_go_4 := dk_seg dksX4_go_3 22 rfl rfl
theorem dX4_go_0 : decode cX4_go 0 = .ok (.iload_n 1, 1) := dk_27 (dk_at dksX4_go_0 0 rfl rfl)
theorem dX4_go_1 : decode cX4_go 1 = .ok (.iconst 1, 1) := dk_4 (dk_at dksX4_go_0 1 rfl rfl)
theorem dX4_go_2 : decode cX4_go 2 = .ok (.bipush 100, 2) := dk_16 100 (dk_at dksX4_go_0 2 rfl rfl)
theorem dX4_go_4 : decode cX4_go 4 = .ok (.invokestatic 74, 3) := dk_184 0 74 (dk_at dksX4_go_0 4 rfl rfl)
theorem dX4_go_7 : decode cX4_go 7 = .ok (.ifCond .eq 19, 3) := dk_153 0 19 (dk_at dksX4_go_0 7 rfl rfl)
theorem dX4_go_10 : decode cX4_go 10 = .ok (.aload_n 0, 1) := dk_42 (dk_at dksX4_go_0 10 rfl rfl)
theorem dX4_go_11 : decode cX4_go 11 = .ok (.getfield 17, 3) := dk_180 0 17 (dk_at dksX4_go_0 11 rfl rfl)
theorem dX4_go_14 : decode cX4_go 14 = .ok (.sipush 1750, 3) := dk_17 6 214 (dk_at dksX4_go_0 14 rfl rfl)
theorem dX4_go_17 : decode cX4_go 17 = .ok (.iaload, 1) := dk_46 (dk_at dksX4_go_0 17 rfl rfl)
theorem dX4_go_18 : decode cX4_go 18 = .ok (.iload_n 1, 1) := dk_27 (dk_at dksX4_go_0 18 rfl rfl)
theorem dX4_go_19 : decode cX4_go 19 = .ok (.iadd, 1) := dk_96 (dk_at dksX4_go_0 19 rfl rfl)
theorem dX4_go_20 : decode cX4_go 20 = .ok (.sipush 400, 3) := dk_17 1 144 (dk_at dksX4_go_0 20 rfl rfl)
theorem dX4_go_23 : decode cX4_go 23 = .ok (.if_icmp .lt 9, 3) := dk_161 0 9 (dk_at dksX4_go_1 0 rfl rfl)
theorem dX4_go_26 : decode cX4_go 26 = .ok (.aload_n 0, 1) := dk_42 (dk_at dksX4_go_1 3 rfl rfl)
theorem dX4_go_27 : decode cX4_go 27 = .ok (.iconst (-1), 1) := dk_2 (dk_at dksX4_go_1 4 rfl rfl)
theorem dX4_go_28 : decode cX4_go 28 = .ok (.invokevirtual 78, 3) := dk_182 0 78 (dk_at dksX4_go_1 5 rfl rfl)
theorem dX4_go_31 : decode cX4_go 31 = .ok (.ireturn, 1) := dk_172 (dk_at dksX4_go_1 8 rfl rfl)
theorem dX4_go_32 : decode cX4_go 32 = .ok (.iconst 0, 1) := dk_3 (dk_at dksX4_go_1 9 rfl rfl)
theorem dX4_go_33 : decode cX4_go 33 = .ok (.istore_n 2, 1) := dk_61 (dk_at dksX4_go_1 10 rfl rfl)
theorem dX4_go_34 : decode cX4_go 34 = .ok (.iload_n 2, 1) := dk_28 (dk_at dksX4_go_1 11 rfl rfl)
theorem dX4_go_35 : decode cX4_go 35 = .ok (.iload_n 1, 1) := dk_27 (dk_at dksX4_go_1 12 rfl rfl)
theorem dX4_go_36 : decode cX4_go 36 = .ok (.if_icmp .ge 51, 3) := dk_162 0 51 (dk_at dksX4_go_1 13 rfl rfl)
theorem dX4_go_39 : decode cX4_go 39 = .ok (.iconst 0, 1) := dk_3 (dk_at dksX4_go_1 16 rfl rfl)
theorem dX4_go_40 : decode cX4_go 40 = .ok (.istore_n 3, 1) := dk_62 (dk_at dksX4_go_1 17 rfl rfl)
theorem dX4_go_41 : decode cX4_go 41 = .ok (.iload_n 3, 1) := dk_29 (dk_at dksX4_go_1 18 rfl rfl)
theorem dX4_go_42 : decode cX4_go 42 = .ok (.aload_n 0, 1) := dk_42 (dk_at dksX4_go_1 19 rfl rfl)
theorem dX4_go_43 : decode cX4_go 43 = .ok (.getfield 17, 3) := dk_180 0 17 (dk_at dksX4_go_1 20 rfl rfl)
theorem dX4_go_46 : decode cX4_go 46 = .ok (.sipush 1753, 3) := dk_17 6 217 (dk_at dksX4_go_2 0 rfl rfl)
theorem dX4_go_49 : decode cX4_go 49 = .ok (.iaload, 1) := dk_46 (dk_at dksX4_go_2 3 rfl rfl)
theorem dX4_go_50 : decode cX4_go 50 = .ok (.if_icmp .ge 19, 3) := dk_162 0 19 (dk_at dksX4_go_2 4 rfl rfl)
theorem dX4_go_53 : decode cX4_go 53 = .ok (.aload_n 0, 1) := dk_42 (dk_at dksX4_go_2 7 rfl rfl)
theorem dX4_go_54 : decode cX4_go 54 = .ok (.iload_n 3, 1) := dk_29 (dk_at dksX4_go_2 8 rfl rfl)
theorem dX4_go_55 : decode cX4_go 55 = .ok (.invokevirtual 117, 3) := dk_182 0 117 (dk_at dksX4_go_2 9 rfl rfl)
theorem dX4_go_58 : decode cX4_go 58 = .ok (.aload_n 0, 1) := dk_42 (dk_at dksX4_go_2 12 rfl rfl)
theorem dX4_go_59 : decode cX4_go 59 = .ok (.iload_n 3, 1) := dk_29 (dk_at dksX4_go_2 13 rfl rfl)
theorem dX4_go_60 : decode cX4_go 60 = .ok (.invokevirtual 121, 3) := dk_182 0 121 (dk_at dksX4_go_2 14 rfl rfl)
theorem dX4_go_63 : decode cX4_go 63 = .ok (.iinc 3 1, 3) := dk_132 3 1 (dk_at dksX4_go_2 17 rfl rfl)
theorem dX4_go_66 : decode cX4_go 66 = .ok (.goto (-25), 3) := dk_167 255 231 (dk_at dksX4_go_2 20 rfl rfl)
theorem dX4_go_69 : decode cX4_go 69 = .ok (.aload_n 0, 1) := dk_42 (dk_at dksX4_go_2 23 rfl rfl)
theorem dX4_go_70 : decode cX4_go 70 = .ok (.getfield 17, 3) := dk_180 0 17 (dk_at dksX4_go_3 0 rfl rfl)
theorem dX4_go_73 : decode cX4_go 73 = .ok (.sipush 1750, 3) := dk_17 6 214 (dk_at dksX4_go_3 3 rfl rfl)
theorem dX4_go_76 : decode cX4_go 76 = .ok (.dup2, 1) := dk_92 (dk_at dksX4_go_3 6 rfl rfl)
theorem dX4_go_77 : decode cX4_go 77 = .ok (.iaload, 1) := dk_46 (dk_at dksX4_go_3 7 rfl rfl)
theorem dX4_go_78 : decode cX4_go 78 = .ok (.iconst 1, 1) := dk_4 (dk_at dksX4_go_3 8 rfl rfl)
theorem dX4_go_79 : decode cX4_go 79 = .ok (.iadd, 1) := dk_96 (dk_at dksX4_go_3 9 rfl rfl)
theorem dX4_go_80 : decode cX4_go 80 = .ok (.iastore, 1) := dk_79 (dk_at dksX4_go_3 10 rfl rfl)
theorem dX4_go_81 : decode cX4_go 81 = .ok (.iinc 2 1, 3) := dk_132 2 1 (dk_at dksX4_go_3 11 rfl rfl)
theorem dX4_go_84 : decode cX4_go 84 = .ok (.goto (-50), 3) := dk_167 255 206 (dk_at dksX4_go_3 14 rfl rfl)
theorem dX4_go_87 : decode cX4_go 87 = .ok (.aload_n 0, 1) := dk_42 (dk_at dksX4_go_3 17 rfl rfl)
theorem dX4_go_88 : decode cX4_go 88 = .ok (.aload_n 0, 1) := dk_42 (dk_at dksX4_go_3 18 rfl rfl)
theorem dX4_go_89 : decode cX4_go 89 = .ok (.getfield 17, 3) := dk_180 0 17 (dk_at dksX4_go_3 19 rfl rfl)
theorem dX4_go_92 : decode cX4_go 92 = .ok (.sipush 1750, 3) := dk_17 6 214 (dk_at dksX4_go_4 0 rfl rfl)
theorem dX4_go_95 : decode cX4_go 95 = .ok (.iaload, 1) := dk_46 (dk_at dksX4_go_4 3 rfl rfl)
theorem dX4_go_96 : decode cX4_go 96 = .ok (.invokevirtual 82, 3) := dk_182 0 82 (dk_at dksX4_go_4 4 rfl rfl)
theorem dX4_go_99 : decode cX4_go 99 = .ok (.ireturn, 1) := dk_172 (dk_at dksX4_go_4 7 rfl rfl)
abbrev cX4_falls : ByteArray := prog_24_method_27_code
def yX4_falls : MethodName := ⟨RX4, "falls", "(I)V"⟩
def dkwX4_falls_16 : List UInt8 := [17, 6, 214, 46, 182, 0, 90, 42, 27, 16, 16, 21, 9, 4, 96, 182, 0, 90, 177]
abbrev dktX4_falls_16 : List UInt8 := dkwX4_falls_16 ++ []
def dkwX4_falls_15 : List UInt8 := [21, 9, 104, 96, 21, 8, 182, 0, 90, 42, 27, 16, 17, 5, 21, 9, 104, 96, 4, 96, 42, 180, 0, 17]
abbrev dktX4_falls_15 : List UInt8 := dkwX4_falls_15 ++ dktX4_falls_16
def dkwX4_falls_14 : List UInt8 := [100, 54, 7, 132, 8, 1, 167, 255, 213, 42, 27, 16, 16, 182, 0, 97, 54, 9, 42, 27, 16, 17, 5]
abbrev dktX4_falls_14 : List UInt8 := dkwX4_falls_14 ++ dktX4_falls_15
def dkwX4_falls_13 : List UInt8 := [21, 8, 96, 46, 161, 0, 29, 21, 7, 42, 180, 0, 17, 16, 40, 16, 8, 28, 104, 96, 21, 8, 96, 46]
abbrev dktX4_falls_13 : List UInt8 := dkwX4_falls_13 ++ dktX4_falls_14
def dkwX4_falls_12 : List UInt8 := [42, 21, 6, 182, 0, 114, 54, 7, 3, 54, 8, 21, 7, 42, 180, 0, 17, 16, 40, 16, 8, 28, 104, 96]
abbrev dktX4_falls_12 : List UInt8 := dkwX4_falls_12 ++ dktX4_falls_13
def dkwX4_falls_11 : List UInt8 := [16, 8, 28, 104, 96, 21, 7, 96, 46, 96, 54, 6, 132, 7, 1, 167, 255, 220, 21, 6, 154, 0, 4, 177]
abbrev dktX4_falls_11 : List UInt8 := dkwX4_falls_11 ++ dktX4_falls_12
def dkwX4_falls_10 : List UInt8 := [54, 7, 21, 7, 42, 180, 0, 17, 17, 6, 216, 46, 162, 0, 29, 21, 6, 42, 180, 0, 17, 16, 40]
abbrev dktX4_falls_10 : List UInt8 := dkwX4_falls_10 ++ dktX4_falls_11
def dkwX4_falls_9 : List UInt8 := [182, 0, 114, 21, 5, 162, 0, 14, 42, 27, 16, 16, 182, 0, 97, 7, 160, 0, 4, 177, 3, 54, 6, 3]
abbrev dktX4_falls_9 : List UInt8 := dkwX4_falls_9 ++ dktX4_falls_10
def dkwX4_falls_8 : List UInt8 := [16, 11, 42, 27, 16, 11, 182, 0, 97, 4, 96, 182, 0, 90, 21, 5, 153, 0, 25, 42, 16, 100]
abbrev dktX4_falls_8 : List UInt8 := dkwX4_falls_8 ++ dktX4_falls_9
def dkwX4_falls_7 : List UInt8 := [182, 0, 90, 42, 27, 4, 182, 0, 97, 42, 27, 16, 6, 182, 0, 97, 184, 0, 110, 153, 0, 19, 42, 27]
abbrev dktX4_falls_7 : List UInt8 := dkwX4_falls_7 ++ dktX4_falls_8
def dkwX4_falls_6 : List UInt8 := [96, 46, 104, 54, 5, 29, 153, 0, 19, 42, 27, 16, 6, 42, 27, 16, 6, 182, 0, 97, 4, 96]
abbrev dktX4_falls_6 : List UInt8 := dkwX4_falls_6 ++ dktX4_falls_7
def dkwX4_falls_5 : List UInt8 := [16, 28, 28, 96, 46, 16, 10, 164, 0, 8, 16, 100, 167, 0, 15, 16, 10, 42, 180, 0, 17, 16, 28, 28]
abbrev dktX4_falls_5 : List UInt8 := dkwX4_falls_5 ++ dktX4_falls_6
def dkwX4_falls_4 : List UInt8 := [54, 5, 42, 27, 16, 12, 182, 0, 97, 42, 180, 0, 17, 17, 6, 214, 46, 160, 0, 36, 42, 180, 0, 17]
abbrev dktX4_falls_4 : List UInt8 := dkwX4_falls_4 ++ dktX4_falls_5
def dkwX4_falls_3 : List UInt8 := [29, 153, 0, 7, 16, 100, 54, 4, 42, 180, 0, 17, 16, 28, 28, 96, 46, 21, 4, 104, 16, 100, 108]
abbrev dktX4_falls_3 : List UInt8 := dkwX4_falls_3 ++ dktX4_falls_4
def dkwX4_falls_2 : List UInt8 := [180, 0, 17, 16, 24, 42, 27, 16, 8, 182, 0, 97, 96, 46, 96, 54, 4, 21, 4, 16, 100, 163, 0, 7]
abbrev dktX4_falls_2 : List UInt8 := dkwX4_falls_2 ++ dktX4_falls_3
def dkwX4_falls_1 : List UInt8 := [163, 0, 7, 4, 167, 0, 4, 3, 62, 42, 180, 0, 17, 16, 18, 42, 27, 4, 182, 0, 97, 96, 46, 42]
abbrev dktX4_falls_1 : List UInt8 := dkwX4_falls_1 ++ dktX4_falls_2
def dkwX4_falls_0 : List UInt8 := [42, 27, 8, 182, 0, 97, 61, 42, 180, 0, 17, 17, 6, 214, 46, 42, 27, 16, 10, 182, 0, 97]
abbrev dktX4_falls_0 : List UInt8 := dkwX4_falls_0 ++ dktX4_falls_1
theorem dksX4_falls_0 : cX4_falls.data.toList.drop 0 = dktX4_falls_0 := by decide +kernel
theorem dksX4_falls_1 : cX4_falls.data.toList.drop 22 = dktX4_falls_1 := dk_seg dksX4_falls_0 22 rfl rfl
theorem dksX4_falls_2 : cX4_falls.data.toList.drop 46 = dktX4_falls_2 := dk_seg dksX4_falls_1 24 rfl rfl
theorem dksX4_falls_3 : cX4_falls.data.toList.drop 70 = dktX4_falls_3 := dk_seg dksX4_falls_2 24 rfl rfl
theorem dksX4_falls_4 : cX4_falls.data.toList.drop 93 = dktX4_falls_4 := dk_seg dksX4_falls_3 23 rfl rfl
theorem dksX4_falls_5 : cX4_falls.data.toList.drop 117 = dktX4_falls_5 := dk_seg dksX4_falls_4 24 rfl rfl
theorem dksX4_falls_6 : cX4_falls.data.toList.drop 141 = dktX4_falls_6 := dk_seg dksX4_falls_5 24 rfl rfl
theorem dksX4_falls_7 : cX4_falls.data.toList.drop 163 = dktX4_falls_7 := dk_seg dksX4_falls_6 22 rfl rfl
theorem dksX4_falls_8 : cX4_falls.data.toList.drop 187 = dktX4_falls_8 := dk_seg dksX4_falls_7 24 rfl rfl
theorem dksX4_falls_9 : cX4_falls.data.toList.drop 209 = dktX4_falls_9 := dk_seg dksX4_falls_8 22 rfl rfl
theorem dksX4_falls_10 : cX4_falls.data.toList.drop 233 = dktX4_falls_10 := dk_seg dksX4_falls_9 24 rfl rfl
theorem dksX4_falls_11 : cX4_falls.data.toList.drop 256 = dktX4_falls_11 := dk_seg dksX4_falls_10 23 rfl rfl
theorem dksX4_falls_12 : cX4_falls.data.toList.drop 280 = dktX4_falls_12 := dk_seg dksX4_falls_11 24 rfl rfl
theorem dksX4_falls_13 : cX4_falls.data.toList.drop 304 = dktX4_falls_13 := dk_seg dksX4_falls_12 24 rfl rfl
theorem dksX4_falls_14 : cX4_falls.data.toList.drop 328 = dktX4_falls_14 := dk_seg dksX4_falls_13 24 rfl rfl
theorem dksX4_falls_15 : cX4_falls.data.toList.drop 351 = dktX4_falls_15 := dk_seg dksX4_falls_14 23 rfl rfl
theorem dksX4_falls_16 : cX4_falls.data.toList.drop 375 = dktX4_falls_16 := dk_seg dksX4_falls_15 24 rfl rfl
theorem dX4_falls_0 : decode cX4_falls 0 = .ok (.aload_n 0, 1) := dk_42 (dk_at dksX4_falls_0 0 rfl rfl)
theorem dX4_falls_1 : decode cX4_falls 1 = .ok (.iload_n 1, 1) := dk_27 (dk_at dksX4_falls_0 1 rfl rfl)
theorem dX4_falls_2 : decode cX4_falls 2 = .ok (.iconst 5, 1) := dk_8 (dk_at dksX4_falls_0 2 rfl rfl)
theorem dX4_falls_3 : decode cX4_falls 3 = .ok (.invokevirtual 97, 3) := dk_182 0 97 (dk_at dksX4_falls_0 3 rfl rfl)
theorem dX4_falls_6 : decode cX4_falls 6 = .ok (.istore_n 2, 1) := dk_61 (dk_at dksX4_falls_0 6 rfl rfl)
theorem dX4_falls_7 : decode cX4_falls 7 = .ok (.aload_n 0, 1) := dk_42 (dk_at dksX4_falls_0 7 rfl rfl)
theorem dX4_falls_8 : decode cX4_falls 8 = .ok (.getfield 17, 3) := dk_180 0 17 (dk_at dksX4_falls_0 8 rfl rfl)
theorem dX4_falls_11 : decode cX4_falls 11 = .ok (.sipush 1750, 3) := dk_17 6 214 (dk_at dksX4_falls_0 11 rfl rfl)
theorem dX4_falls_14 : decode cX4_falls 14 = .ok (.iaload, 1) := dk_46 (dk_at dksX4_falls_0 14 rfl rfl)
theorem dX4_falls_15 : decode cX4_falls 15 = .ok (.aload_n 0, 1) := dk_42 (dk_at dksX4_falls_0 15 rfl rfl)
theorem dX4_falls_16 : decode cX4_falls 16 = .ok (.iload_n 1, 1) := dk_27 (dk_at dksX4_falls_0 16 rfl rfl)
theorem dX4_falls_17 : decode cX4_falls 17 = .ok (.bipush 10, 2) := dk_16 10 (dk_at dksX4_falls_0 17 rfl rfl)
theorem dX4_falls_19 : decode cX4_falls 19 = .ok (.invokevirtual 97, 3) := dk_182 0 97 (dk_at dksX4_falls_0 19 rfl rfl)
theorem dX4_falls_22 : decode cX4_falls 22 = .ok (.if_icmp .gt 7, 3) := dk_163 0 7 (dk_at dksX4_falls_1 0 rfl rfl)
theorem dX4_falls_25 : decode cX4_falls 25 = .ok (.iconst 1, 1) := dk_4 (dk_at dksX4_falls_1 3 rfl rfl)
theorem dX4_falls_26 : decode cX4_falls 26 = .ok (.goto 4, 3) := dk_167 0 4 (dk_at dksX4_falls_1 4 rfl rfl)
theorem dX4_falls_29 : decode cX4_falls 29 = .ok (.iconst 0, 1) := dk_3 (dk_at dksX4_falls_1 7 rfl rfl)
theorem dX4_falls_30 : decode cX4_falls 30 = .ok (.istore_n 3, 1) := dk_62 (dk_at dksX4_falls_1 8 rfl rfl)
theorem dX4_falls_31 : decode cX4_falls 31 = .ok (.aload_n 0, 1) := dk_42 (dk_at dksX4_falls_1 9 rfl rfl)
theorem dX4_falls_32 : decode cX4_falls 32 = .ok (.getfield 17, 3) := dk_180 0 17 (dk_at dksX4_falls_1 10 rfl rfl)
theorem dX4_falls_35 : decode cX4_falls 35 = .ok (.bipush 18, 2) := dk_16 18 (dk_at dksX4_falls_1 13 rfl rfl)
theorem dX4_falls_37 : decode cX4_falls 37 = .ok (.aload_n 0, 1) := dk_42 (dk_at dksX4_falls_1 15 rfl rfl)
theorem dX4_falls_38 : decode cX4_falls 38 = .ok (.iload_n 1, 1) := dk_27 (dk_at dksX4_falls_1 16 rfl rfl)
theorem dX4_falls_39 : decode cX4_falls 39 = .ok (.iconst 1, 1) := dk_4 (dk_at dksX4_falls_1 17 rfl rfl)
theorem dX4_falls_40 : decode cX4_falls 40 = .ok (.invokevirtual 97, 3) := dk_182 0 97 (dk_at dksX4_falls_1 18 rfl rfl)
theorem dX4_falls_43 : decode cX4_falls 43 = .ok (.iadd, 1) := dk_96 (dk_at dksX4_falls_1 21 rfl rfl)
theorem dX4_falls_44 : decode cX4_falls 44 = .ok (.iaload, 1) := dk_46 (dk_at dksX4_falls_1 22 rfl rfl)
theorem dX4_falls_45 : decode cX4_falls 45 = .ok (.aload_n 0, 1) := dk_42 (dk_at dksX4_falls_1 23 rfl rfl)
theorem dX4_falls_46 : decode cX4_falls 46 = .ok (.getfield 17, 3) := dk_180 0 17 (dk_at dksX4_falls_2 0 rfl rfl)
theorem dX4_falls_49 : decode cX4_falls 49 = .ok (.bipush 24, 2) := dk_16 24 (dk_at dksX4_falls_2 3 rfl rfl)
theorem dX4_falls_51 : decode cX4_falls 51 = .ok (.aload_n 0, 1) := dk_42 (dk_at dksX4_falls_2 5 rfl rfl)
theorem dX4_falls_52 : decode cX4_falls 52 = .ok (.iload_n 1, 1) := dk_27 (dk_at dksX4_falls_2 6 rfl rfl)
theorem dX4_falls_53 : decode cX4_falls 53 = .ok (.bipush 8, 2) := dk_16 8 (dk_at dksX4_falls_2 7 rfl rfl)
theorem dX4_falls_55 : decode cX4_falls 55 = .ok (.invokevirtual 97, 3) := dk_182 0 97 (dk_at dksX4_falls_2 9 rfl rfl)
theorem dX4_falls_58 : decode cX4_falls 58 = .ok (.iadd, 1) := dk_96 (dk_at dksX4_falls_2 12 rfl rfl)
theorem dX4_falls_59 : decode cX4_falls 59 = .ok (.iaload, 1) := dk_46 (dk_at dksX4_falls_2 13 rfl rfl)
theorem dX4_falls_60 : decode cX4_falls 60 = .ok (.iadd, 1) := dk_96 (dk_at dksX4_falls_2 14 rfl rfl)
theorem dX4_falls_61 : decode cX4_falls 61 = .ok (.istore 4, 2) := dk_54 4 (dk_at dksX4_falls_2 15 rfl rfl)
theorem dX4_falls_63 : decode cX4_falls 63 = .ok (.iload 4, 2) := dk_21 4 (dk_at dksX4_falls_2 17 rfl rfl)
theorem dX4_falls_65 : decode cX4_falls 65 = .ok (.bipush 100, 2) := dk_16 100 (dk_at dksX4_falls_2 19 rfl rfl)
theorem dX4_falls_67 : decode cX4_falls 67 = .ok (.if_icmp .gt 7, 3) := dk_163 0 7 (dk_at dksX4_falls_2 21 rfl rfl)
theorem dX4_falls_70 : decode cX4_falls 70 = .ok (.iload_n 3, 1) := dk_29 (dk_at dksX4_falls_3 0 rfl rfl)
theorem dX4_falls_71 : decode cX4_falls 71 = .ok (.ifCond .eq 7, 3) := dk_153 0 7 (dk_at dksX4_falls_3 1 rfl rfl)
theorem dX4_falls_74 : decode cX4_falls 74 = .ok (.bipush 100, 2) := dk_16 100 (dk_at dksX4_falls_3 4 rfl rfl)
theorem dX4_falls_76 : decode cX4_falls 76 = .ok (.istore 4, 2) := dk_54 4 (dk_at dksX4_falls_3 6 rfl rfl)
theorem dX4_falls_78 : decode cX4_falls 78 = .ok (.aload_n 0, 1) := dk_42 (dk_at dksX4_falls_3 8 rfl rfl)
theorem dX4_falls_79 : decode cX4_falls 79 = .ok (.getfield 17, 3) := dk_180 0 17 (dk_at dksX4_falls_3 9 rfl rfl)
theorem dX4_falls_82 : decode cX4_falls 82 = .ok (.bipush 28, 2) := dk_16 28 (dk_at dksX4_falls_3 12 rfl rfl)
theorem dX4_falls_84 : decode cX4_falls 84 = .ok (.iload_n 2, 1) := dk_28 (dk_at dksX4_falls_3 14 rfl rfl)
theorem dX4_falls_85 : decode cX4_falls 85 = .ok (.iadd, 1) := dk_96 (dk_at dksX4_falls_3 15 rfl rfl)
theorem dX4_falls_86 : decode cX4_falls 86 = .ok (.iaload, 1) := dk_46 (dk_at dksX4_falls_3 16 rfl rfl)
theorem dX4_falls_87 : decode cX4_falls 87 = .ok (.iload 4, 2) := dk_21 4 (dk_at dksX4_falls_3 17 rfl rfl)
theorem dX4_falls_89 : decode cX4_falls 89 = .ok (.imul, 1) := dk_104 (dk_at dksX4_falls_3 19 rfl rfl)
theorem dX4_falls_90 : decode cX4_falls 90 = .ok (.bipush 100, 2) := dk_16 100 (dk_at dksX4_falls_3 20 rfl rfl)
theorem dX4_falls_92 : decode cX4_falls 92 = .ok (.idiv, 1) := dk_108 (dk_at dksX4_falls_3 22 rfl rfl)
theorem dX4_falls_93 : decode cX4_falls 93 = .ok (.istore 5, 2) := dk_54 5 (dk_at dksX4_falls_4 0 rfl rfl)
theorem dX4_falls_95 : decode cX4_falls 95 = .ok (.aload_n 0, 1) := dk_42 (dk_at dksX4_falls_4 2 rfl rfl)
theorem dX4_falls_96 : decode cX4_falls 96 = .ok (.iload_n 1, 1) := dk_27 (dk_at dksX4_falls_4 3 rfl rfl)
theorem dX4_falls_97 : decode cX4_falls 97 = .ok (.bipush 12, 2) := dk_16 12 (dk_at dksX4_falls_4 4 rfl rfl)
theorem dX4_falls_99 : decode cX4_falls 99 = .ok (.invokevirtual 97, 3) := dk_182 0 97 (dk_at dksX4_falls_4 6 rfl rfl)
theorem dX4_falls_102 : decode cX4_falls 102 = .ok (.aload_n 0, 1) := dk_42 (dk_at dksX4_falls_4 9 rfl rfl)
theorem dX4_falls_103 : decode cX4_falls 103 = .ok (.getfield 17, 3) := dk_180 0 17 (dk_at dksX4_falls_4 10 rfl rfl)
theorem dX4_falls_106 : decode cX4_falls 106 = .ok (.sipush 1750, 3) := dk_17 6 214 (dk_at dksX4_falls_4 13 rfl rfl)
theorem dX4_falls_109 : decode cX4_falls 109 = .ok (.iaload, 1) := dk_46 (dk_at dksX4_falls_4 16 rfl rfl)
theorem dX4_falls_110 : decode cX4_falls 110 = .ok (.if_icmp .ne 36, 3) := dk_160 0 36 (dk_at dksX4_falls_4 17 rfl rfl)
theorem dX4_falls_113 : decode cX4_falls 113 = .ok (.aload_n 0, 1) := dk_42 (dk_at dksX4_falls_4 20 rfl rfl)
theorem dX4_falls_114 : decode cX4_falls 114 = .ok (.getfield 17, 3) := dk_180 0 17 (dk_at dksX4_falls_4 21 rfl rfl)
theorem dX4_falls_117 : decode cX4_falls 117 = .ok (.bipush 28, 2) := dk_16 28 (dk_at dksX4_falls_5 0 rfl rfl)
theorem dX4_falls_119 : decode cX4_falls 119 = .ok (.iload_n 2, 1) := dk_28 (dk_at dksX4_falls_5 2 rfl rfl)
theorem dX4_falls_120 : decode cX4_falls 120 = .ok (.iadd, 1) := dk_96 (dk_at dksX4_falls_5 3 rfl rfl)
theorem dX4_falls_121 : decode cX4_falls 121 = .ok (.iaload, 1) := dk_46 (dk_at dksX4_falls_5 4 rfl rfl)
theorem dX4_falls_122 : decode cX4_falls 122 = .ok (.bipush 10, 2) := dk_16 10 (dk_at dksX4_falls_5 5 rfl rfl)
theorem dX4_falls_124 : decode cX4_falls 124 = .ok (.if_icmp .le 8, 3) := dk_164 0 8 (dk_at dksX4_falls_5 7 rfl rfl)
theorem dX4_falls_127 : decode cX4_falls 127 = .ok (.bipush 100, 2) := dk_16 100 (dk_at dksX4_falls_5 10 rfl rfl)
theorem dX4_falls_129 : decode cX4_falls 129 = .ok (.goto 15, 3) := dk_167 0 15 (dk_at dksX4_falls_5 12 rfl rfl)
theorem dX4_falls_132 : decode cX4_falls 132 = .ok (.bipush 10, 2) := dk_16 10 (dk_at dksX4_falls_5 15 rfl rfl)
theorem dX4_falls_134 : decode cX4_falls 134 = .ok (.aload_n 0, 1) := dk_42 (dk_at dksX4_falls_5 17 rfl rfl)
theorem dX4_falls_135 : decode cX4_falls 135 = .ok (.getfield 17, 3) := dk_180 0 17 (dk_at dksX4_falls_5 18 rfl rfl)
theorem dX4_falls_138 : decode cX4_falls 138 = .ok (.bipush 28, 2) := dk_16 28 (dk_at dksX4_falls_5 21 rfl rfl)
theorem dX4_falls_140 : decode cX4_falls 140 = .ok (.iload_n 2, 1) := dk_28 (dk_at dksX4_falls_5 23 rfl rfl)
theorem dX4_falls_141 : decode cX4_falls 141 = .ok (.iadd, 1) := dk_96 (dk_at dksX4_falls_6 0 rfl rfl)
theorem dX4_falls_142 : decode cX4_falls 142 = .ok (.iaload, 1) := dk_46 (dk_at dksX4_falls_6 1 rfl rfl)
theorem dX4_falls_143 : decode cX4_falls 143 = .ok (.imul, 1) := dk_104 (dk_at dksX4_falls_6 2 rfl rfl)
theorem dX4_falls_144 : decode cX4_falls 144 = .ok (.istore 5, 2) := dk_54 5 (dk_at dksX4_falls_6 3 rfl rfl)
theorem dX4_falls_146 : decode cX4_falls 146 = .ok (.iload_n 3, 1) := dk_29 (dk_at dksX4_falls_6 5 rfl rfl)
theorem dX4_falls_147 : decode cX4_falls 147 = .ok (.ifCond .eq 19, 3) := dk_153 0 19 (dk_at dksX4_falls_6 6 rfl rfl)
theorem dX4_falls_150 : decode cX4_falls 150 = .ok (.aload_n 0, 1) := dk_42 (dk_at dksX4_falls_6 9 rfl rfl)
theorem dX4_falls_151 : decode cX4_falls 151 = .ok (.iload_n 1, 1) := dk_27 (dk_at dksX4_falls_6 10 rfl rfl)
theorem dX4_falls_152 : decode cX4_falls 152 = .ok (.bipush 6, 2) := dk_16 6 (dk_at dksX4_falls_6 11 rfl rfl)
theorem dX4_falls_154 : decode cX4_falls 154 = .ok (.aload_n 0, 1) := dk_42 (dk_at dksX4_falls_6 13 rfl rfl)
theorem dX4_falls_155 : decode cX4_falls 155 = .ok (.iload_n 1, 1) := dk_27 (dk_at dksX4_falls_6 14 rfl rfl)
theorem dX4_falls_156 : decode cX4_falls 156 = .ok (.bipush 6, 2) := dk_16 6 (dk_at dksX4_falls_6 15 rfl rfl)
theorem dX4_falls_158 : decode cX4_falls 158 = .ok (.invokevirtual 97, 3) := dk_182 0 97 (dk_at dksX4_falls_6 17 rfl rfl)
theorem dX4_falls_161 : decode cX4_falls 161 = .ok (.iconst 1, 1) := dk_4 (dk_at dksX4_falls_6 20 rfl rfl)
theorem dX4_falls_162 : decode cX4_falls 162 = .ok (.iadd, 1) := dk_96 (dk_at dksX4_falls_6 21 rfl rfl)
theorem dX4_falls_163 : decode cX4_falls 163 = .ok (.invokevirtual 90, 3) := dk_182 0 90 (dk_at dksX4_falls_7 0 rfl rfl)
theorem dX4_falls_166 : decode cX4_falls 166 = .ok (.aload_n 0, 1) := dk_42 (dk_at dksX4_falls_7 3 rfl rfl)
theorem dX4_falls_167 : decode cX4_falls 167 = .ok (.iload_n 1, 1) := dk_27 (dk_at dksX4_falls_7 4 rfl rfl)
theorem dX4_falls_168 : decode cX4_falls 168 = .ok (.iconst 1, 1) := dk_4 (dk_at dksX4_falls_7 5 rfl rfl)
theorem dX4_falls_169 : decode cX4_falls 169 = .ok (.invokevirtual 97, 3) := dk_182 0 97 (dk_at dksX4_falls_7 6 rfl rfl)
theorem dX4_falls_172 : decode cX4_falls 172 = .ok (.aload_n 0, 1) := dk_42 (dk_at dksX4_falls_7 9 rfl rfl)
theorem dX4_falls_173 : decode cX4_falls 173 = .ok (.iload_n 1, 1) := dk_27 (dk_at dksX4_falls_7 10 rfl rfl)
theorem dX4_falls_174 : decode cX4_falls 174 = .ok (.bipush 6, 2) := dk_16 6 (dk_at dksX4_falls_7 11 rfl rfl)
theorem dX4_falls_176 : decode cX4_falls 176 = .ok (.invokevirtual 97, 3) := dk_182 0 97 (dk_at dksX4_falls_7 13 rfl rfl)
theorem dX4_falls_179 : decode cX4_falls 179 = .ok (.invokestatic 110, 3) := dk_184 0 110 (dk_at dksX4_falls_7 16 rfl rfl)
theorem dX4_falls_182 : decode cX4_falls 182 = .ok (.ifCond .eq 19, 3) := dk_153 0 19 (dk_at dksX4_falls_7 19 rfl rfl)
theorem dX4_falls_185 : decode cX4_falls 185 = .ok (.aload_n 0, 1) := dk_42 (dk_at dksX4_falls_7 22 rfl rfl)
theorem dX4_falls_186 : decode cX4_falls 186 = .ok (.iload_n 1, 1) := dk_27 (dk_at dksX4_falls_7 23 rfl rfl)
theorem dX4_falls_187 : decode cX4_falls 187 = .ok (.bipush 11, 2) := dk_16 11 (dk_at dksX4_falls_8 0 rfl rfl)
theorem dX4_falls_189 : decode cX4_falls 189 = .ok (.aload_n 0, 1) := dk_42 (dk_at dksX4_falls_8 2 rfl rfl)
theorem dX4_falls_190 : decode cX4_falls 190 = .ok (.iload_n 1, 1) := dk_27 (dk_at dksX4_falls_8 3 rfl rfl)
theorem dX4_falls_191 : decode cX4_falls 191 = .ok (.bipush 11, 2) := dk_16 11 (dk_at dksX4_falls_8 4 rfl rfl)
theorem dX4_falls_193 : decode cX4_falls 193 = .ok (.invokevirtual 97, 3) := dk_182 0 97 (dk_at dksX4_falls_8 6 rfl rfl)
theorem dX4_falls_196 : decode cX4_falls 196 = .ok (.iconst 1, 1) := dk_4 (dk_at dksX4_falls_8 9 rfl rfl)
theorem dX4_falls_197 : decode cX4_falls 197 = .ok (.iadd, 1) := dk_96 (dk_at dksX4_falls_8 10 rfl rfl)
theorem dX4_falls_198 : decode cX4_falls 198 = .ok (.invokevirtual 90, 3) := dk_182 0 90 (dk_at dksX4_falls_8 11 rfl rfl)
theorem dX4_falls_201 : decode cX4_falls 201 = .ok (.iload 5, 2) := dk_21 5 (dk_at dksX4_falls_8 14 rfl rfl)
theorem dX4_falls_203 : decode cX4_falls 203 = .ok (.ifCond .eq 25, 3) := dk_153 0 25 (dk_at dksX4_falls_8 16 rfl rfl)
theorem dX4_falls_206 : decode cX4_falls 206 = .ok (.aload_n 0, 1) := dk_42 (dk_at dksX4_falls_8 19 rfl rfl)
theorem dX4_falls_207 : decode cX4_falls 207 = .ok (.bipush 100, 2) := dk_16 100 (dk_at dksX4_falls_8 20 rfl rfl)
theorem dX4_falls_209 : decode cX4_falls 209 = .ok (.invokevirtual 114, 3) := dk_182 0 114 (dk_at dksX4_falls_9 0 rfl rfl)
theorem dX4_falls_212 : decode cX4_falls 212 = .ok (.iload 5, 2) := dk_21 5 (dk_at dksX4_falls_9 3 rfl rfl)
theorem dX4_falls_214 : decode cX4_falls 214 = .ok (.if_icmp .ge 14, 3) := dk_162 0 14 (dk_at dksX4_falls_9 5 rfl rfl)
theorem dX4_falls_217 : decode cX4_falls 217 = .ok (.aload_n 0, 1) := dk_42 (dk_at dksX4_falls_9 8 rfl rfl)
theorem dX4_falls_218 : decode cX4_falls 218 = .ok (.iload_n 1, 1) := dk_27 (dk_at dksX4_falls_9 9 rfl rfl)
theorem dX4_falls_219 : decode cX4_falls 219 = .ok (.bipush 16, 2) := dk_16 16 (dk_at dksX4_falls_9 10 rfl rfl)
theorem dX4_falls_221 : decode cX4_falls 221 = .ok (.invokevirtual 97, 3) := dk_182 0 97 (dk_at dksX4_falls_9 12 rfl rfl)
theorem dX4_falls_224 : decode cX4_falls 224 = .ok (.iconst 4, 1) := dk_7 (dk_at dksX4_falls_9 15 rfl rfl)
theorem dX4_falls_225 : decode cX4_falls 225 = .ok (.if_icmp .ne 4, 3) := dk_160 0 4 (dk_at dksX4_falls_9 16 rfl rfl)
theorem dX4_falls_228 : decode cX4_falls 228 = .ok (.return_, 1) := dk_177 (dk_at dksX4_falls_9 19 rfl rfl)
theorem dX4_falls_229 : decode cX4_falls 229 = .ok (.iconst 0, 1) := dk_3 (dk_at dksX4_falls_9 20 rfl rfl)
theorem dX4_falls_230 : decode cX4_falls 230 = .ok (.istore 6, 2) := dk_54 6 (dk_at dksX4_falls_9 21 rfl rfl)
theorem dX4_falls_232 : decode cX4_falls 232 = .ok (.iconst 0, 1) := dk_3 (dk_at dksX4_falls_9 23 rfl rfl)
theorem dX4_falls_233 : decode cX4_falls 233 = .ok (.istore 7, 2) := dk_54 7 (dk_at dksX4_falls_10 0 rfl rfl)
theorem dX4_falls_235 : decode cX4_falls 235 = .ok (.iload 7, 2) := dk_21 7 (dk_at dksX4_falls_10 2 rfl rfl)
theorem dX4_falls_237 : decode cX4_falls 237 = .ok (.aload_n 0, 1) := dk_42 (dk_at dksX4_falls_10 4 rfl rfl)
theorem dX4_falls_238 : decode cX4_falls 238 = .ok (.getfield 17, 3) := dk_180 0 17 (dk_at dksX4_falls_10 5 rfl rfl)
theorem dX4_falls_241 : decode cX4_falls 241 = .ok (.sipush 1752, 3) := dk_17 6 216 (dk_at dksX4_falls_10 8 rfl rfl)
theorem dX4_falls_244 : decode cX4_falls 244 = .ok (.iaload, 1) := dk_46 (dk_at dksX4_falls_10 11 rfl rfl)
theorem dX4_falls_245 : decode cX4_falls 245 = .ok (.if_icmp .ge 29, 3) := dk_162 0 29 (dk_at dksX4_falls_10 12 rfl rfl)
theorem dX4_falls_248 : decode cX4_falls 248 = .ok (.iload 6, 2) := dk_21 6 (dk_at dksX4_falls_10 15 rfl rfl)
theorem dX4_falls_250 : decode cX4_falls 250 = .ok (.aload_n 0, 1) := dk_42 (dk_at dksX4_falls_10 17 rfl rfl)
theorem dX4_falls_251 : decode cX4_falls 251 = .ok (.getfield 17, 3) := dk_180 0 17 (dk_at dksX4_falls_10 18 rfl rfl)
theorem dX4_falls_254 : decode cX4_falls 254 = .ok (.bipush 40, 2) := dk_16 40 (dk_at dksX4_falls_10 21 rfl rfl)
theorem dX4_falls_256 : decode cX4_falls 256 = .ok (.bipush 8, 2) := dk_16 8 (dk_at dksX4_falls_11 0 rfl rfl)
theorem dX4_falls_258 : decode cX4_falls 258 = .ok (.iload_n 2, 1) := dk_28 (dk_at dksX4_falls_11 2 rfl rfl)
theorem dX4_falls_259 : decode cX4_falls 259 = .ok (.imul, 1) := dk_104 (dk_at dksX4_falls_11 3 rfl rfl)
theorem dX4_falls_260 : decode cX4_falls 260 = .ok (.iadd, 1) := dk_96 (dk_at dksX4_falls_11 4 rfl rfl)
theorem dX4_falls_261 : decode cX4_falls 261 = .ok (.iload 7, 2) := dk_21 7 (dk_at dksX4_falls_11 5 rfl rfl)
theorem dX4_falls_263 : decode cX4_falls 263 = .ok (.iadd, 1) := dk_96 (dk_at dksX4_falls_11 7 rfl rfl)
theorem dX4_falls_264 : decode cX4_falls 264 = .ok (.iaload, 1) := dk_46 (dk_at dksX4_falls_11 8 rfl rfl)
theorem dX4_falls_265 : decode cX4_falls 265 = .ok (.iadd, 1) := dk_96 (dk_at dksX4_falls_11 9 rfl rfl)
theorem dX4_falls_266 : decode cX4_falls 266 = .ok (.istore 6, 2) := dk_54 6 (dk_at dksX4_falls_11 10 rfl rfl)
theorem dX4_falls_268 : decode cX4_falls 268 = .ok (.iinc 7 1, 3) := dk_132 7 1 (dk_at dksX4_falls_11 12 rfl rfl)
theorem dX4_falls_271 : decode cX4_falls 271 = .ok (.goto (-36), 3) := dk_167 255 220 (dk_at dksX4_falls_11 15 rfl rfl)
theorem dX4_falls_274 : decode cX4_falls 274 = .ok (.iload 6, 2) := dk_21 6 (dk_at dksX4_falls_11 18 rfl rfl)
theorem dX4_falls_276 : decode cX4_falls 276 = .ok (.ifCond .ne 4, 3) := dk_154 0 4 (dk_at dksX4_falls_11 20 rfl rfl)
theorem dX4_falls_279 : decode cX4_falls 279 = .ok (.return_, 1) := dk_177 (dk_at dksX4_falls_11 23 rfl rfl)
theorem dX4_falls_280 : decode cX4_falls 280 = .ok (.aload_n 0, 1) := dk_42 (dk_at dksX4_falls_12 0 rfl rfl)
theorem dX4_falls_281 : decode cX4_falls 281 = .ok (.iload 6, 2) := dk_21 6 (dk_at dksX4_falls_12 1 rfl rfl)
theorem dX4_falls_283 : decode cX4_falls 283 = .ok (.invokevirtual 114, 3) := dk_182 0 114 (dk_at dksX4_falls_12 3 rfl rfl)
theorem dX4_falls_286 : decode cX4_falls 286 = .ok (.istore 7, 2) := dk_54 7 (dk_at dksX4_falls_12 6 rfl rfl)
theorem dX4_falls_288 : decode cX4_falls 288 = .ok (.iconst 0, 1) := dk_3 (dk_at dksX4_falls_12 8 rfl rfl)
theorem dX4_falls_289 : decode cX4_falls 289 = .ok (.istore 8, 2) := dk_54 8 (dk_at dksX4_falls_12 9 rfl rfl)
theorem dX4_falls_291 : decode cX4_falls 291 = .ok (.iload 7, 2) := dk_21 7 (dk_at dksX4_falls_12 11 rfl rfl)
theorem dX4_falls_293 : decode cX4_falls 293 = .ok (.aload_n 0, 1) := dk_42 (dk_at dksX4_falls_12 13 rfl rfl)
theorem dX4_falls_294 : decode cX4_falls 294 = .ok (.getfield 17, 3) := dk_180 0 17 (dk_at dksX4_falls_12 14 rfl rfl)
theorem dX4_falls_297 : decode cX4_falls 297 = .ok (.bipush 40, 2) := dk_16 40 (dk_at dksX4_falls_12 17 rfl rfl)
theorem dX4_falls_299 : decode cX4_falls 299 = .ok (.bipush 8, 2) := dk_16 8 (dk_at dksX4_falls_12 19 rfl rfl)
theorem dX4_falls_301 : decode cX4_falls 301 = .ok (.iload_n 2, 1) := dk_28 (dk_at dksX4_falls_12 21 rfl rfl)
theorem dX4_falls_302 : decode cX4_falls 302 = .ok (.imul, 1) := dk_104 (dk_at dksX4_falls_12 22 rfl rfl)
theorem dX4_falls_303 : decode cX4_falls 303 = .ok (.iadd, 1) := dk_96 (dk_at dksX4_falls_12 23 rfl rfl)
theorem dX4_falls_304 : decode cX4_falls 304 = .ok (.iload 8, 2) := dk_21 8 (dk_at dksX4_falls_13 0 rfl rfl)
theorem dX4_falls_306 : decode cX4_falls 306 = .ok (.iadd, 1) := dk_96 (dk_at dksX4_falls_13 2 rfl rfl)
theorem dX4_falls_307 : decode cX4_falls 307 = .ok (.iaload, 1) := dk_46 (dk_at dksX4_falls_13 3 rfl rfl)
theorem dX4_falls_308 : decode cX4_falls 308 = .ok (.if_icmp .lt 29, 3) := dk_161 0 29 (dk_at dksX4_falls_13 4 rfl rfl)
theorem dX4_falls_311 : decode cX4_falls 311 = .ok (.iload 7, 2) := dk_21 7 (dk_at dksX4_falls_13 7 rfl rfl)
theorem dX4_falls_313 : decode cX4_falls 313 = .ok (.aload_n 0, 1) := dk_42 (dk_at dksX4_falls_13 9 rfl rfl)
theorem dX4_falls_314 : decode cX4_falls 314 = .ok (.getfield 17, 3) := dk_180 0 17 (dk_at dksX4_falls_13 10 rfl rfl)
theorem dX4_falls_317 : decode cX4_falls 317 = .ok (.bipush 40, 2) := dk_16 40 (dk_at dksX4_falls_13 13 rfl rfl)
theorem dX4_falls_319 : decode cX4_falls 319 = .ok (.bipush 8, 2) := dk_16 8 (dk_at dksX4_falls_13 15 rfl rfl)
theorem dX4_falls_321 : decode cX4_falls 321 = .ok (.iload_n 2, 1) := dk_28 (dk_at dksX4_falls_13 17 rfl rfl)
theorem dX4_falls_322 : decode cX4_falls 322 = .ok (.imul, 1) := dk_104 (dk_at dksX4_falls_13 18 rfl rfl)
theorem dX4_falls_323 : decode cX4_falls 323 = .ok (.iadd, 1) := dk_96 (dk_at dksX4_falls_13 19 rfl rfl)
theorem dX4_falls_324 : decode cX4_falls 324 = .ok (.iload 8, 2) := dk_21 8 (dk_at dksX4_falls_13 20 rfl rfl)
theorem dX4_falls_326 : decode cX4_falls 326 = .ok (.iadd, 1) := dk_96 (dk_at dksX4_falls_13 22 rfl rfl)
theorem dX4_falls_327 : decode cX4_falls 327 = .ok (.iaload, 1) := dk_46 (dk_at dksX4_falls_13 23 rfl rfl)
theorem dX4_falls_328 : decode cX4_falls 328 = .ok (.isub, 1) := dk_100 (dk_at dksX4_falls_14 0 rfl rfl)
theorem dX4_falls_329 : decode cX4_falls 329 = .ok (.istore 7, 2) := dk_54 7 (dk_at dksX4_falls_14 1 rfl rfl)
theorem dX4_falls_331 : decode cX4_falls 331 = .ok (.iinc 8 1, 3) := dk_132 8 1 (dk_at dksX4_falls_14 3 rfl rfl)
theorem dX4_falls_334 : decode cX4_falls 334 = .ok (.goto (-43), 3) := dk_167 255 213 (dk_at dksX4_falls_14 6 rfl rfl)
theorem dX4_falls_337 : decode cX4_falls 337 = .ok (.aload_n 0, 1) := dk_42 (dk_at dksX4_falls_14 9 rfl rfl)
theorem dX4_falls_338 : decode cX4_falls 338 = .ok (.iload_n 1, 1) := dk_27 (dk_at dksX4_falls_14 10 rfl rfl)
theorem dX4_falls_339 : decode cX4_falls 339 = .ok (.bipush 16, 2) := dk_16 16 (dk_at dksX4_falls_14 11 rfl rfl)
theorem dX4_falls_341 : decode cX4_falls 341 = .ok (.invokevirtual 97, 3) := dk_182 0 97 (dk_at dksX4_falls_14 13 rfl rfl)
theorem dX4_falls_344 : decode cX4_falls 344 = .ok (.istore 9, 2) := dk_54 9 (dk_at dksX4_falls_14 16 rfl rfl)
theorem dX4_falls_346 : decode cX4_falls 346 = .ok (.aload_n 0, 1) := dk_42 (dk_at dksX4_falls_14 18 rfl rfl)
theorem dX4_falls_347 : decode cX4_falls 347 = .ok (.iload_n 1, 1) := dk_27 (dk_at dksX4_falls_14 19 rfl rfl)
theorem dX4_falls_348 : decode cX4_falls 348 = .ok (.bipush 17, 2) := dk_16 17 (dk_at dksX4_falls_14 20 rfl rfl)
theorem dX4_falls_350 : decode cX4_falls 350 = .ok (.iconst 2, 1) := dk_5 (dk_at dksX4_falls_14 22 rfl rfl)
theorem dX4_falls_351 : decode cX4_falls 351 = .ok (.iload 9, 2) := dk_21 9 (dk_at dksX4_falls_15 0 rfl rfl)
theorem dX4_falls_353 : decode cX4_falls 353 = .ok (.imul, 1) := dk_104 (dk_at dksX4_falls_15 2 rfl rfl)
theorem dX4_falls_354 : decode cX4_falls 354 = .ok (.iadd, 1) := dk_96 (dk_at dksX4_falls_15 3 rfl rfl)
theorem dX4_falls_355 : decode cX4_falls 355 = .ok (.iload 8, 2) := dk_21 8 (dk_at dksX4_falls_15 4 rfl rfl)
theorem dX4_falls_357 : decode cX4_falls 357 = .ok (.invokevirtual 90, 3) := dk_182 0 90 (dk_at dksX4_falls_15 6 rfl rfl)
theorem dX4_falls_360 : decode cX4_falls 360 = .ok (.aload_n 0, 1) := dk_42 (dk_at dksX4_falls_15 9 rfl rfl)
theorem dX4_falls_361 : decode cX4_falls 361 = .ok (.iload_n 1, 1) := dk_27 (dk_at dksX4_falls_15 10 rfl rfl)
theorem dX4_falls_362 : decode cX4_falls 362 = .ok (.bipush 17, 2) := dk_16 17 (dk_at dksX4_falls_15 11 rfl rfl)
theorem dX4_falls_364 : decode cX4_falls 364 = .ok (.iconst 2, 1) := dk_5 (dk_at dksX4_falls_15 13 rfl rfl)
theorem dX4_falls_365 : decode cX4_falls 365 = .ok (.iload 9, 2) := dk_21 9 (dk_at dksX4_falls_15 14 rfl rfl)
theorem dX4_falls_367 : decode cX4_falls 367 = .ok (.imul, 1) := dk_104 (dk_at dksX4_falls_15 16 rfl rfl)
theorem dX4_falls_368 : decode cX4_falls 368 = .ok (.iadd, 1) := dk_96 (dk_at dksX4_falls_15 17 rfl rfl)
theorem dX4_falls_369 : decode cX4_falls 369 = .ok (.iconst 1, 1) := dk_4 (dk_at dksX4_falls_15 18 rfl rfl)
theorem dX4_falls_370 : decode cX4_falls 370 = .ok (.iadd, 1) := dk_96 (dk_at dksX4_falls_15 19 rfl rfl)
theorem dX4_falls_371 : decode cX4_falls 371 = .ok (.aload_n 0, 1) := dk_42 (dk_at dksX4_falls_15 20 rfl rfl)
theorem dX4_falls_372 : decode cX4_falls 372 = .ok (.getfield 17, 3) := dk_180 0 17 (dk_at dksX4_falls_15 21 rfl rfl)
theorem dX4_falls_375 : decode cX4_falls 375 = .ok (.sipush 1750, 3) := dk_17 6 214 (dk_at dksX4_falls_16 0 rfl rfl)
theorem dX4_falls_378 : decode cX4_falls 378 = .ok (.iaload, 1) := dk_46 (dk_at dksX4_falls_16 3 rfl rfl)
theorem dX4_falls_379 : decode cX4_falls 379 = .ok (.invokevirtual 90, 3) := dk_182 0 90 (dk_at dksX4_falls_16 4 rfl rfl)
theorem dX4_falls_382 : decode cX4_falls 382 = .ok (.aload_n 0, 1) := dk_42 (dk_at dksX4_falls_16 7 rfl rfl)
theorem dX4_falls_383 : decode cX4_falls 383 = .ok (.iload_n 1, 1) := dk_27 (dk_at dksX4_falls_16 8 rfl rfl)
theorem dX4_falls_384 : decode cX4_falls 384 = .ok (.bipush 16, 2) := dk_16 16 (dk_at dksX4_falls_16 9 rfl rfl)
theorem dX4_falls_386 : decode cX4_falls 386 = .ok (.iload 9, 2) := dk_21 9 (dk_at dksX4_falls_16 11 rfl rfl)
theorem dX4_falls_388 : decode cX4_falls 388 = .ok (.iconst 1, 1) := dk_4 (dk_at dksX4_falls_16 13 rfl rfl)
theorem dX4_falls_389 : decode cX4_falls 389 = .ok (.iadd, 1) := dk_96 (dk_at dksX4_falls_16 14 rfl rfl)
theorem dX4_falls_390 : decode cX4_falls 390 = .ok (.invokevirtual 90, 3) := dk_182 0 90 (dk_at dksX4_falls_16 15 rfl rfl)
theorem dX4_falls_393 : decode cX4_falls 393 = .ok (.return_, 1) := dk_177 (dk_at dksX4_falls_16 18 rfl rfl)
abbrev cX4_hasAir : ByteArray := prog_24_method_26_code
def yX4_hasAir : MethodName := ⟨RX4, "hasAir", "(II)Z"⟩
def dkwX4_hasAir_0 : List UInt8 := [26, 153, 0, 17, 26, 4, 159, 0, 12, 26, 6, 159, 0, 7, 27, 158, 0, 7, 4, 167, 0, 4, 3, 172]
abbrev dktX4_hasAir_0 : List UInt8 := dkwX4_hasAir_0 ++ []
theorem dksX4_hasAir_0 : cX4_hasAir.data.toList.drop 0 = dktX4_hasAir_0 := by decide +kernel
theorem dX4_hasAir_0 : decode cX4_hasAir 0 = .ok (.iload_n 0, 1) := dk_26 (dk_at dksX4_hasAir_0 0 rfl rfl)
theorem dX4_hasAir_1 : decode cX4_hasAir 1 = .ok (.ifCond .eq 17, 3) := dk_153 0 17 (dk_at dksX4_hasAir_0 1 rfl rfl)
theorem dX4_hasAir_4 : decode cX4_hasAir 4 = .ok (.iload_n 0, 1) := dk_26 (dk_at dksX4_hasAir_0 4 rfl rfl)
theorem dX4_hasAir_5 : decode cX4_hasAir 5 = .ok (.iconst 1, 1) := dk_4 (dk_at dksX4_hasAir_0 5 rfl rfl)
theorem dX4_hasAir_6 : decode cX4_hasAir 6 = .ok (.if_icmp .eq 12, 3) := dk_159 0 12 (dk_at dksX4_hasAir_0 6 rfl rfl)
theorem dX4_hasAir_9 : decode cX4_hasAir 9 = .ok (.iload_n 0, 1) := dk_26 (dk_at dksX4_hasAir_0 9 rfl rfl)
theorem dX4_hasAir_10 : decode cX4_hasAir 10 = .ok (.iconst 3, 1) := dk_6 (dk_at dksX4_hasAir_0 10 rfl rfl)
theorem dX4_hasAir_11 : decode cX4_hasAir 11 = .ok (.if_icmp .eq 7, 3) := dk_159 0 7 (dk_at dksX4_hasAir_0 11 rfl rfl)
theorem dX4_hasAir_14 : decode cX4_hasAir 14 = .ok (.iload_n 1, 1) := dk_27 (dk_at dksX4_hasAir_0 14 rfl rfl)
theorem dX4_hasAir_15 : decode cX4_hasAir 15 = .ok (.ifCond .le 7, 3) := dk_158 0 7 (dk_at dksX4_hasAir_0 15 rfl rfl)
theorem dX4_hasAir_18 : decode cX4_hasAir 18 = .ok (.iconst 1, 1) := dk_4 (dk_at dksX4_hasAir_0 18 rfl rfl)
theorem dX4_hasAir_19 : decode cX4_hasAir 19 = .ok (.goto 4, 3) := dk_167 0 4 (dk_at dksX4_hasAir_0 19 rfl rfl)
theorem dX4_hasAir_22 : decode cX4_hasAir 22 = .ok (.iconst 0, 1) := dk_3 (dk_at dksX4_hasAir_0 22 rfl rfl)
theorem dX4_hasAir_23 : decode cX4_hasAir 23 = .ok (.ireturn, 1) := dk_172 (dk_at dksX4_hasAir_0 23 rfl rfl)
abbrev cX4_draws : ByteArray := prog_24_method_25_code
def yX4_draws : MethodName := ⟨RX4, "draws", "(I)I"⟩
def dkwX4_draws_1 : List UInt8 := [20, 0, 108, 113, 136, 79, 42, 180, 0, 17, 17, 6, 215, 46, 27, 112, 172]
abbrev dktX4_draws_1 : List UInt8 := dkwX4_draws_1 ++ []
def dkwX4_draws_0 : List UInt8 := [42, 180, 0, 17, 17, 6, 215, 20, 0, 104, 42, 180, 0, 17, 17, 6, 215, 46, 133, 105, 20, 0, 106, 97]
abbrev dktX4_draws_0 : List UInt8 := dkwX4_draws_0 ++ dktX4_draws_1
theorem dksX4_draws_0 : cX4_draws.data.toList.drop 0 = dktX4_draws_0 := by decide +kernel
theorem dksX4_draws_1 : cX4_draws.data.toList.drop 24 = dktX4_draws_1 := dk_seg dksX4_draws_0 24 rfl rfl
theorem dX4_draws_0 : decode cX4_draws 0 = .ok (.aload_n 0, 1) := dk_42 (dk_at dksX4_draws_0 0 rfl rfl)
theorem dX4_draws_1 : decode cX4_draws 1 = .ok (.getfield 17, 3) := dk_180 0 17 (dk_at dksX4_draws_0 1 rfl rfl)
theorem dX4_draws_4 : decode cX4_draws 4 = .ok (.sipush 1751, 3) := dk_17 6 215 (dk_at dksX4_draws_0 4 rfl rfl)
theorem dX4_draws_7 : decode cX4_draws 7 = .ok (.ldc2_w 104, 3) := dk_20 0 104 (dk_at dksX4_draws_0 7 rfl rfl)
theorem dX4_draws_10 : decode cX4_draws 10 = .ok (.aload_n 0, 1) := dk_42 (dk_at dksX4_draws_0 10 rfl rfl)
theorem dX4_draws_11 : decode cX4_draws 11 = .ok (.getfield 17, 3) := dk_180 0 17 (dk_at dksX4_draws_0 11 rfl rfl)
theorem dX4_draws_14 : decode cX4_draws 14 = .ok (.sipush 1751, 3) := dk_17 6 215 (dk_at dksX4_draws_0 14 rfl rfl)
theorem dX4_draws_17 : decode cX4_draws 17 = .ok (.iaload, 1) := dk_46 (dk_at dksX4_draws_0 17 rfl rfl)
theorem dX4_draws_18 : decode cX4_draws 18 = .ok (.i2l, 1) := dk_133 (dk_at dksX4_draws_0 18 rfl rfl)
theorem dX4_draws_19 : decode cX4_draws 19 = .ok (.lmul, 1) := dk_105 (dk_at dksX4_draws_0 19 rfl rfl)
theorem dX4_draws_20 : decode cX4_draws 20 = .ok (.ldc2_w 106, 3) := dk_20 0 106 (dk_at dksX4_draws_0 20 rfl rfl)
theorem dX4_draws_23 : decode cX4_draws 23 = .ok (.ladd, 1) := dk_97 (dk_at dksX4_draws_0 23 rfl rfl)
theorem dX4_draws_24 : decode cX4_draws 24 = .ok (.ldc2_w 108, 3) := dk_20 0 108 (dk_at dksX4_draws_1 0 rfl rfl)
theorem dX4_draws_27 : decode cX4_draws 27 = .ok (.lrem, 1) := dk_113 (dk_at dksX4_draws_1 3 rfl rfl)
theorem dX4_draws_28 : decode cX4_draws 28 = .ok (.l2i, 1) := dk_136 (dk_at dksX4_draws_1 4 rfl rfl)
theorem dX4_draws_29 : decode cX4_draws 29 = .ok (.iastore, 1) := dk_79 (dk_at dksX4_draws_1 5 rfl rfl)
theorem dX4_draws_30 : decode cX4_draws 30 = .ok (.aload_n 0, 1) := dk_42 (dk_at dksX4_draws_1 6 rfl rfl)
theorem dX4_draws_31 : decode cX4_draws 31 = .ok (.getfield 17, 3) := dk_180 0 17 (dk_at dksX4_draws_1 7 rfl rfl)
theorem dX4_draws_34 : decode cX4_draws 34 = .ok (.sipush 1751, 3) := dk_17 6 215 (dk_at dksX4_draws_1 10 rfl rfl)
theorem dX4_draws_37 : decode cX4_draws 37 = .ok (.iaload, 1) := dk_46 (dk_at dksX4_draws_1 13 rfl rfl)
theorem dX4_draws_38 : decode cX4_draws 38 = .ok (.iload_n 1, 1) := dk_27 (dk_at dksX4_draws_1 14 rfl rfl)
theorem dX4_draws_39 : decode cX4_draws 39 = .ok (.irem, 1) := dk_112 (dk_at dksX4_draws_1 15 rfl rfl)
theorem dX4_draws_40 : decode cX4_draws 40 = .ok (.ireturn, 1) := dk_172 (dk_at dksX4_draws_1 16 rfl rfl)
abbrev cX4_turns : ByteArray := prog_24_method_28_code
def yX4_turns : MethodName := ⟨RX4, "turns", "(I)V"⟩
def dkwX4_turns_10 : List UInt8 := [17, 6, 214, 46, 182, 0, 90, 177]
abbrev dktX4_turns_10 : List UInt8 := dkwX4_turns_10 ++ []
def dkwX4_turns_9 : List UInt8 := [16, 13, 4, 182, 0, 90, 42, 27, 16, 14, 21, 5, 182, 0, 90, 42, 27, 16, 15, 42, 180, 0, 17]
abbrev dktX4_turns_9 : List UInt8 := dkwX4_turns_9 ++ dktX4_turns_10
def dkwX4_turns_8 : List UInt8 := [21, 7, 54, 5, 132, 6, 1, 167, 255, 136, 21, 4, 154, 0, 10, 21, 5, 2, 160, 0, 4, 177, 42, 27]
abbrev dktX4_turns_8 : List UInt8 := dkwX4_turns_8 ++ dktX4_turns_9
def dkwX4_turns_7 : List UInt8 := [5, 21, 6, 104, 96, 4, 96, 182, 0, 97, 100, 4, 96, 42, 21, 7, 6, 182, 0, 101, 161, 0, 7]
abbrev dktX4_turns_7 : List UInt8 := dkwX4_turns_7 ++ dktX4_turns_8
def dkwX4_turns_6 : List UInt8 := [4, 167, 0, 4, 3, 54, 8, 21, 8, 153, 0, 42, 42, 180, 0, 17, 17, 6, 214, 46, 42, 27, 16, 17]
abbrev dktX4_turns_6 : List UInt8 := dkwX4_turns_6 ++ dktX4_turns_7
def dkwX4_turns_5 : List UInt8 := [182, 0, 97, 122, 4, 126, 4, 160, 0, 21, 42, 21, 7, 7, 182, 0, 101, 153, 0, 7, 28, 153, 0, 7]
abbrev dktX4_turns_5 : List UInt8 := dkwX4_turns_5 ++ dktX4_turns_6
def dkwX4_turns_4 : List UInt8 := [16, 17, 5, 21, 6, 104, 96, 182, 0, 97, 54, 7, 42, 21, 7, 5, 182, 0, 101, 42, 27, 3]
abbrev dktX4_turns_4 : List UInt8 := dkwX4_turns_4 ++ dktX4_turns_5
def dkwX4_turns_3 : List UInt8 := [3, 54, 6, 21, 6, 42, 27, 16, 16, 182, 0, 97, 162, 0, 114, 21, 5, 2, 160, 0, 108, 42, 27]
abbrev dktX4_turns_3 : List UInt8 := dkwX4_turns_3 ++ dktX4_turns_4
def dkwX4_turns_2 : List UInt8 := [158, 0, 18, 42, 27, 16, 11, 182, 0, 97, 29, 161, 0, 7, 4, 167, 0, 4, 3, 54, 4, 2, 54, 5]
abbrev dktX4_turns_2 : List UInt8 := dkwX4_turns_2 ++ dktX4_turns_3
def dkwX4_turns_1 : List UInt8 := [182, 0, 97, 184, 0, 110, 61, 42, 180, 0, 17, 3, 6, 42, 27, 3, 182, 0, 97, 104, 96, 46, 62, 29]
abbrev dktX4_turns_1 : List UInt8 := dkwX4_turns_1 ++ dktX4_turns_2
def dkwX4_turns_0 : List UInt8 := [42, 27, 16, 13, 182, 0, 97, 4, 160, 0, 4, 177, 42, 27, 4, 182, 0, 97, 42, 27, 16, 6]
abbrev dktX4_turns_0 : List UInt8 := dkwX4_turns_0 ++ dktX4_turns_1
theorem dksX4_turns_0 : cX4_turns.data.toList.drop 0 = dktX4_turns_0 := by decide +kernel
theorem dksX4_turns_1 : cX4_turns.data.toList.drop 22 = dktX4_turns_1 := dk_seg dksX4_turns_0 22 rfl rfl
theorem dksX4_turns_2 : cX4_turns.data.toList.drop 46 = dktX4_turns_2 := dk_seg dksX4_turns_1 24 rfl rfl
theorem dksX4_turns_3 : cX4_turns.data.toList.drop 70 = dktX4_turns_3 := dk_seg dksX4_turns_2 24 rfl rfl
theorem dksX4_turns_4 : cX4_turns.data.toList.drop 93 = dktX4_turns_4 := dk_seg dksX4_turns_3 23 rfl rfl
theorem dksX4_turns_5 : cX4_turns.data.toList.drop 115 = dktX4_turns_5 := dk_seg dksX4_turns_4 22 rfl rfl
theorem dksX4_turns_6 : cX4_turns.data.toList.drop 139 = dktX4_turns_6 := dk_seg dksX4_turns_5 24 rfl rfl
theorem dksX4_turns_7 : cX4_turns.data.toList.drop 163 = dktX4_turns_7 := dk_seg dksX4_turns_6 24 rfl rfl
theorem dksX4_turns_8 : cX4_turns.data.toList.drop 186 = dktX4_turns_8 := dk_seg dksX4_turns_7 23 rfl rfl
theorem dksX4_turns_9 : cX4_turns.data.toList.drop 210 = dktX4_turns_9 := dk_seg dksX4_turns_8 24 rfl rfl
theorem dksX4_turns_10 : cX4_turns.data.toList.drop 233 = dktX4_turns_10 := dk_seg dksX4_turns_9 23 rfl rfl
theorem dX4_turns_0 : decode cX4_turns 0 = .ok (.aload_n 0, 1) := dk_42 (dk_at dksX4_turns_0 0 rfl rfl)
theorem dX4_turns_1 : decode cX4_turns 1 = .ok (.iload_n 1, 1) := dk_27 (dk_at dksX4_turns_0 1 rfl rfl)
theorem dX4_turns_2 : decode cX4_turns 2 = .ok (.bipush 13, 2) := dk_16 13 (dk_at dksX4_turns_0 2 rfl rfl)
theorem dX4_turns_4 : decode cX4_turns 4 = .ok (.invokevirtual 97, 3) := dk_182 0 97 (dk_at dksX4_turns_0 4 rfl rfl)
theorem dX4_turns_7 : decode cX4_turns 7 = .ok (.iconst 1, 1) := dk_4 (dk_at dksX4_turns_0 7 rfl rfl)
theorem dX4_turns_8 : decode cX4_turns 8 = .ok (.if_icmp .ne 4, 3) := dk_160 0 4 (dk_at dksX4_turns_0 8 rfl rfl)
theorem dX4_turns_11 : decode cX4_turns 11 = .ok (.return_, 1) := dk_177 (dk_at dksX4_turns_0 11 rfl rfl)
theorem dX4_turns_12 : decode cX4_turns 12 = .ok (.aload_n 0, 1) := dk_42 (dk_at dksX4_turns_0 12 rfl rfl)
theorem dX4_turns_13 : decode cX4_turns 13 = .ok (.iload_n 1, 1) := dk_27 (dk_at dksX4_turns_0 13 rfl rfl)
theorem dX4_turns_14 : decode cX4_turns 14 = .ok (.iconst 1, 1) := dk_4 (dk_at dksX4_turns_0 14 rfl rfl)
theorem dX4_turns_15 : decode cX4_turns 15 = .ok (.invokevirtual 97, 3) := dk_182 0 97 (dk_at dksX4_turns_0 15 rfl rfl)
theorem dX4_turns_18 : decode cX4_turns 18 = .ok (.aload_n 0, 1) := dk_42 (dk_at dksX4_turns_0 18 rfl rfl)
theorem dX4_turns_19 : decode cX4_turns 19 = .ok (.iload_n 1, 1) := dk_27 (dk_at dksX4_turns_0 19 rfl rfl)
theorem dX4_turns_20 : decode cX4_turns 20 = .ok (.bipush 6, 2) := dk_16 6 (dk_at dksX4_turns_0 20 rfl rfl)
theorem dX4_turns_22 : decode cX4_turns 22 = .ok (.invokevirtual 97, 3) := dk_182 0 97 (dk_at dksX4_turns_1 0 rfl rfl)
theorem dX4_turns_25 : decode cX4_turns 25 = .ok (.invokestatic 110, 3) := dk_184 0 110 (dk_at dksX4_turns_1 3 rfl rfl)
theorem dX4_turns_28 : decode cX4_turns 28 = .ok (.istore_n 2, 1) := dk_61 (dk_at dksX4_turns_1 6 rfl rfl)
theorem dX4_turns_29 : decode cX4_turns 29 = .ok (.aload_n 0, 1) := dk_42 (dk_at dksX4_turns_1 7 rfl rfl)
theorem dX4_turns_30 : decode cX4_turns 30 = .ok (.getfield 17, 3) := dk_180 0 17 (dk_at dksX4_turns_1 8 rfl rfl)
theorem dX4_turns_33 : decode cX4_turns 33 = .ok (.iconst 0, 1) := dk_3 (dk_at dksX4_turns_1 11 rfl rfl)
theorem dX4_turns_34 : decode cX4_turns 34 = .ok (.iconst 3, 1) := dk_6 (dk_at dksX4_turns_1 12 rfl rfl)
theorem dX4_turns_35 : decode cX4_turns 35 = .ok (.aload_n 0, 1) := dk_42 (dk_at dksX4_turns_1 13 rfl rfl)
theorem dX4_turns_36 : decode cX4_turns 36 = .ok (.iload_n 1, 1) := dk_27 (dk_at dksX4_turns_1 14 rfl rfl)
theorem dX4_turns_37 : decode cX4_turns 37 = .ok (.iconst 0, 1) := dk_3 (dk_at dksX4_turns_1 15 rfl rfl)
theorem dX4_turns_38 : decode cX4_turns 38 = .ok (.invokevirtual 97, 3) := dk_182 0 97 (dk_at dksX4_turns_1 16 rfl rfl)
theorem dX4_turns_41 : decode cX4_turns 41 = .ok (.imul, 1) := dk_104 (dk_at dksX4_turns_1 19 rfl rfl)
theorem dX4_turns_42 : decode cX4_turns 42 = .ok (.iadd, 1) := dk_96 (dk_at dksX4_turns_1 20 rfl rfl)
theorem dX4_turns_43 : decode cX4_turns 43 = .ok (.iaload, 1) := dk_46 (dk_at dksX4_turns_1 21 rfl rfl)
theorem dX4_turns_44 : decode cX4_turns 44 = .ok (.istore_n 3, 1) := dk_62 (dk_at dksX4_turns_1 22 rfl rfl)
theorem dX4_turns_45 : decode cX4_turns 45 = .ok (.iload_n 3, 1) := dk_29 (dk_at dksX4_turns_1 23 rfl rfl)
theorem dX4_turns_46 : decode cX4_turns 46 = .ok (.ifCond .le 18, 3) := dk_158 0 18 (dk_at dksX4_turns_2 0 rfl rfl)
theorem dX4_turns_49 : decode cX4_turns 49 = .ok (.aload_n 0, 1) := dk_42 (dk_at dksX4_turns_2 3 rfl rfl)
theorem dX4_turns_50 : decode cX4_turns 50 = .ok (.iload_n 1, 1) := dk_27 (dk_at dksX4_turns_2 4 rfl rfl)
theorem dX4_turns_51 : decode cX4_turns 51 = .ok (.bipush 11, 2) := dk_16 11 (dk_at dksX4_turns_2 5 rfl rfl)
theorem dX4_turns_53 : decode cX4_turns 53 = .ok (.invokevirtual 97, 3) := dk_182 0 97 (dk_at dksX4_turns_2 7 rfl rfl)
theorem dX4_turns_56 : decode cX4_turns 56 = .ok (.iload_n 3, 1) := dk_29 (dk_at dksX4_turns_2 10 rfl rfl)
theorem dX4_turns_57 : decode cX4_turns 57 = .ok (.if_icmp .lt 7, 3) := dk_161 0 7 (dk_at dksX4_turns_2 11 rfl rfl)
theorem dX4_turns_60 : decode cX4_turns 60 = .ok (.iconst 1, 1) := dk_4 (dk_at dksX4_turns_2 14 rfl rfl)
theorem dX4_turns_61 : decode cX4_turns 61 = .ok (.goto 4, 3) := dk_167 0 4 (dk_at dksX4_turns_2 15 rfl rfl)
theorem dX4_turns_64 : decode cX4_turns 64 = .ok (.iconst 0, 1) := dk_3 (dk_at dksX4_turns_2 18 rfl rfl)
theorem dX4_turns_65 : decode cX4_turns 65 = .ok (.istore 4, 2) := dk_54 4 (dk_at dksX4_turns_2 19 rfl rfl)
theorem dX4_turns_67 : decode cX4_turns 67 = .ok (.iconst (-1), 1) := dk_2 (dk_at dksX4_turns_2 21 rfl rfl)
theorem dX4_turns_68 : decode cX4_turns 68 = .ok (.istore 5, 2) := dk_54 5 (dk_at dksX4_turns_2 22 rfl rfl)
theorem dX4_turns_70 : decode cX4_turns 70 = .ok (.iconst 0, 1) := dk_3 (dk_at dksX4_turns_3 0 rfl rfl)
theorem dX4_turns_71 : decode cX4_turns 71 = .ok (.istore 6, 2) := dk_54 6 (dk_at dksX4_turns_3 1 rfl rfl)
theorem dX4_turns_73 : decode cX4_turns 73 = .ok (.iload 6, 2) := dk_21 6 (dk_at dksX4_turns_3 3 rfl rfl)
theorem dX4_turns_75 : decode cX4_turns 75 = .ok (.aload_n 0, 1) := dk_42 (dk_at dksX4_turns_3 5 rfl rfl)
theorem dX4_turns_76 : decode cX4_turns 76 = .ok (.iload_n 1, 1) := dk_27 (dk_at dksX4_turns_3 6 rfl rfl)
theorem dX4_turns_77 : decode cX4_turns 77 = .ok (.bipush 16, 2) := dk_16 16 (dk_at dksX4_turns_3 7 rfl rfl)
theorem dX4_turns_79 : decode cX4_turns 79 = .ok (.invokevirtual 97, 3) := dk_182 0 97 (dk_at dksX4_turns_3 9 rfl rfl)
theorem dX4_turns_82 : decode cX4_turns 82 = .ok (.if_icmp .ge 114, 3) := dk_162 0 114 (dk_at dksX4_turns_3 12 rfl rfl)
theorem dX4_turns_85 : decode cX4_turns 85 = .ok (.iload 5, 2) := dk_21 5 (dk_at dksX4_turns_3 15 rfl rfl)
theorem dX4_turns_87 : decode cX4_turns 87 = .ok (.iconst (-1), 1) := dk_2 (dk_at dksX4_turns_3 17 rfl rfl)
theorem dX4_turns_88 : decode cX4_turns 88 = .ok (.if_icmp .ne 108, 3) := dk_160 0 108 (dk_at dksX4_turns_3 18 rfl rfl)
theorem dX4_turns_91 : decode cX4_turns 91 = .ok (.aload_n 0, 1) := dk_42 (dk_at dksX4_turns_3 21 rfl rfl)
theorem dX4_turns_92 : decode cX4_turns 92 = .ok (.iload_n 1, 1) := dk_27 (dk_at dksX4_turns_3 22 rfl rfl)
theorem dX4_turns_93 : decode cX4_turns 93 = .ok (.bipush 17, 2) := dk_16 17 (dk_at dksX4_turns_4 0 rfl rfl)
theorem dX4_turns_95 : decode cX4_turns 95 = .ok (.iconst 2, 1) := dk_5 (dk_at dksX4_turns_4 2 rfl rfl)
theorem dX4_turns_96 : decode cX4_turns 96 = .ok (.iload 6, 2) := dk_21 6 (dk_at dksX4_turns_4 3 rfl rfl)
theorem dX4_turns_98 : decode cX4_turns 98 = .ok (.imul, 1) := dk_104 (dk_at dksX4_turns_4 5 rfl rfl)
theorem dX4_turns_99 : decode cX4_turns 99 = .ok (.iadd, 1) := dk_96 (dk_at dksX4_turns_4 6 rfl rfl)
theorem dX4_turns_100 : decode cX4_turns 100 = .ok (.invokevirtual 97, 3) := dk_182 0 97 (dk_at dksX4_turns_4 7 rfl rfl)
theorem dX4_turns_103 : decode cX4_turns 103 = .ok (.istore 7, 2) := dk_54 7 (dk_at dksX4_turns_4 10 rfl rfl)
theorem dX4_turns_105 : decode cX4_turns 105 = .ok (.aload_n 0, 1) := dk_42 (dk_at dksX4_turns_4 12 rfl rfl)
theorem dX4_turns_106 : decode cX4_turns 106 = .ok (.iload 7, 2) := dk_21 7 (dk_at dksX4_turns_4 13 rfl rfl)
theorem dX4_turns_108 : decode cX4_turns 108 = .ok (.iconst 2, 1) := dk_5 (dk_at dksX4_turns_4 15 rfl rfl)
theorem dX4_turns_109 : decode cX4_turns 109 = .ok (.invokevirtual 101, 3) := dk_182 0 101 (dk_at dksX4_turns_4 16 rfl rfl)
theorem dX4_turns_112 : decode cX4_turns 112 = .ok (.aload_n 0, 1) := dk_42 (dk_at dksX4_turns_4 19 rfl rfl)
theorem dX4_turns_113 : decode cX4_turns 113 = .ok (.iload_n 1, 1) := dk_27 (dk_at dksX4_turns_4 20 rfl rfl)
theorem dX4_turns_114 : decode cX4_turns 114 = .ok (.iconst 0, 1) := dk_3 (dk_at dksX4_turns_4 21 rfl rfl)
theorem dX4_turns_115 : decode cX4_turns 115 = .ok (.invokevirtual 97, 3) := dk_182 0 97 (dk_at dksX4_turns_5 0 rfl rfl)
theorem dX4_turns_118 : decode cX4_turns 118 = .ok (.ishr, 1) := dk_122 (dk_at dksX4_turns_5 3 rfl rfl)
theorem dX4_turns_119 : decode cX4_turns 119 = .ok (.iconst 1, 1) := dk_4 (dk_at dksX4_turns_5 4 rfl rfl)
theorem dX4_turns_120 : decode cX4_turns 120 = .ok (.iand, 1) := dk_126 (dk_at dksX4_turns_5 5 rfl rfl)
theorem dX4_turns_121 : decode cX4_turns 121 = .ok (.iconst 1, 1) := dk_4 (dk_at dksX4_turns_5 6 rfl rfl)
theorem dX4_turns_122 : decode cX4_turns 122 = .ok (.if_icmp .ne 21, 3) := dk_160 0 21 (dk_at dksX4_turns_5 7 rfl rfl)
theorem dX4_turns_125 : decode cX4_turns 125 = .ok (.aload_n 0, 1) := dk_42 (dk_at dksX4_turns_5 10 rfl rfl)
theorem dX4_turns_126 : decode cX4_turns 126 = .ok (.iload 7, 2) := dk_21 7 (dk_at dksX4_turns_5 11 rfl rfl)
theorem dX4_turns_128 : decode cX4_turns 128 = .ok (.iconst 4, 1) := dk_7 (dk_at dksX4_turns_5 13 rfl rfl)
theorem dX4_turns_129 : decode cX4_turns 129 = .ok (.invokevirtual 101, 3) := dk_182 0 101 (dk_at dksX4_turns_5 14 rfl rfl)
theorem dX4_turns_132 : decode cX4_turns 132 = .ok (.ifCond .eq 7, 3) := dk_153 0 7 (dk_at dksX4_turns_5 17 rfl rfl)
theorem dX4_turns_135 : decode cX4_turns 135 = .ok (.iload_n 2, 1) := dk_28 (dk_at dksX4_turns_5 20 rfl rfl)
theorem dX4_turns_136 : decode cX4_turns 136 = .ok (.ifCond .eq 7, 3) := dk_153 0 7 (dk_at dksX4_turns_5 21 rfl rfl)
theorem dX4_turns_139 : decode cX4_turns 139 = .ok (.iconst 1, 1) := dk_4 (dk_at dksX4_turns_6 0 rfl rfl)
theorem dX4_turns_140 : decode cX4_turns 140 = .ok (.goto 4, 3) := dk_167 0 4 (dk_at dksX4_turns_6 1 rfl rfl)
theorem dX4_turns_143 : decode cX4_turns 143 = .ok (.iconst 0, 1) := dk_3 (dk_at dksX4_turns_6 4 rfl rfl)
theorem dX4_turns_144 : decode cX4_turns 144 = .ok (.istore 8, 2) := dk_54 8 (dk_at dksX4_turns_6 5 rfl rfl)
theorem dX4_turns_146 : decode cX4_turns 146 = .ok (.iload 8, 2) := dk_21 8 (dk_at dksX4_turns_6 7 rfl rfl)
theorem dX4_turns_148 : decode cX4_turns 148 = .ok (.ifCond .eq 42, 3) := dk_153 0 42 (dk_at dksX4_turns_6 9 rfl rfl)
theorem dX4_turns_151 : decode cX4_turns 151 = .ok (.aload_n 0, 1) := dk_42 (dk_at dksX4_turns_6 12 rfl rfl)
theorem dX4_turns_152 : decode cX4_turns 152 = .ok (.getfield 17, 3) := dk_180 0 17 (dk_at dksX4_turns_6 13 rfl rfl)
theorem dX4_turns_155 : decode cX4_turns 155 = .ok (.sipush 1750, 3) := dk_17 6 214 (dk_at dksX4_turns_6 16 rfl rfl)
theorem dX4_turns_158 : decode cX4_turns 158 = .ok (.iaload, 1) := dk_46 (dk_at dksX4_turns_6 19 rfl rfl)
theorem dX4_turns_159 : decode cX4_turns 159 = .ok (.aload_n 0, 1) := dk_42 (dk_at dksX4_turns_6 20 rfl rfl)
theorem dX4_turns_160 : decode cX4_turns 160 = .ok (.iload_n 1, 1) := dk_27 (dk_at dksX4_turns_6 21 rfl rfl)
theorem dX4_turns_161 : decode cX4_turns 161 = .ok (.bipush 17, 2) := dk_16 17 (dk_at dksX4_turns_6 22 rfl rfl)
theorem dX4_turns_163 : decode cX4_turns 163 = .ok (.iconst 2, 1) := dk_5 (dk_at dksX4_turns_7 0 rfl rfl)
theorem dX4_turns_164 : decode cX4_turns 164 = .ok (.iload 6, 2) := dk_21 6 (dk_at dksX4_turns_7 1 rfl rfl)
theorem dX4_turns_166 : decode cX4_turns 166 = .ok (.imul, 1) := dk_104 (dk_at dksX4_turns_7 3 rfl rfl)
theorem dX4_turns_167 : decode cX4_turns 167 = .ok (.iadd, 1) := dk_96 (dk_at dksX4_turns_7 4 rfl rfl)
theorem dX4_turns_168 : decode cX4_turns 168 = .ok (.iconst 1, 1) := dk_4 (dk_at dksX4_turns_7 5 rfl rfl)
theorem dX4_turns_169 : decode cX4_turns 169 = .ok (.iadd, 1) := dk_96 (dk_at dksX4_turns_7 6 rfl rfl)
theorem dX4_turns_170 : decode cX4_turns 170 = .ok (.invokevirtual 97, 3) := dk_182 0 97 (dk_at dksX4_turns_7 7 rfl rfl)
theorem dX4_turns_173 : decode cX4_turns 173 = .ok (.isub, 1) := dk_100 (dk_at dksX4_turns_7 10 rfl rfl)
theorem dX4_turns_174 : decode cX4_turns 174 = .ok (.iconst 1, 1) := dk_4 (dk_at dksX4_turns_7 11 rfl rfl)
theorem dX4_turns_175 : decode cX4_turns 175 = .ok (.iadd, 1) := dk_96 (dk_at dksX4_turns_7 12 rfl rfl)
theorem dX4_turns_176 : decode cX4_turns 176 = .ok (.aload_n 0, 1) := dk_42 (dk_at dksX4_turns_7 13 rfl rfl)
theorem dX4_turns_177 : decode cX4_turns 177 = .ok (.iload 7, 2) := dk_21 7 (dk_at dksX4_turns_7 14 rfl rfl)
theorem dX4_turns_179 : decode cX4_turns 179 = .ok (.iconst 3, 1) := dk_6 (dk_at dksX4_turns_7 16 rfl rfl)
theorem dX4_turns_180 : decode cX4_turns 180 = .ok (.invokevirtual 101, 3) := dk_182 0 101 (dk_at dksX4_turns_7 17 rfl rfl)
theorem dX4_turns_183 : decode cX4_turns 183 = .ok (.if_icmp .lt 7, 3) := dk_161 0 7 (dk_at dksX4_turns_7 20 rfl rfl)
theorem dX4_turns_186 : decode cX4_turns 186 = .ok (.iload 7, 2) := dk_21 7 (dk_at dksX4_turns_8 0 rfl rfl)
theorem dX4_turns_188 : decode cX4_turns 188 = .ok (.istore 5, 2) := dk_54 5 (dk_at dksX4_turns_8 2 rfl rfl)
theorem dX4_turns_190 : decode cX4_turns 190 = .ok (.iinc 6 1, 3) := dk_132 6 1 (dk_at dksX4_turns_8 4 rfl rfl)
theorem dX4_turns_193 : decode cX4_turns 193 = .ok (.goto (-120), 3) := dk_167 255 136 (dk_at dksX4_turns_8 7 rfl rfl)
theorem dX4_turns_196 : decode cX4_turns 196 = .ok (.iload 4, 2) := dk_21 4 (dk_at dksX4_turns_8 10 rfl rfl)
theorem dX4_turns_198 : decode cX4_turns 198 = .ok (.ifCond .ne 10, 3) := dk_154 0 10 (dk_at dksX4_turns_8 12 rfl rfl)
theorem dX4_turns_201 : decode cX4_turns 201 = .ok (.iload 5, 2) := dk_21 5 (dk_at dksX4_turns_8 15 rfl rfl)
theorem dX4_turns_203 : decode cX4_turns 203 = .ok (.iconst (-1), 1) := dk_2 (dk_at dksX4_turns_8 17 rfl rfl)
theorem dX4_turns_204 : decode cX4_turns 204 = .ok (.if_icmp .ne 4, 3) := dk_160 0 4 (dk_at dksX4_turns_8 18 rfl rfl)
theorem dX4_turns_207 : decode cX4_turns 207 = .ok (.return_, 1) := dk_177 (dk_at dksX4_turns_8 21 rfl rfl)
theorem dX4_turns_208 : decode cX4_turns 208 = .ok (.aload_n 0, 1) := dk_42 (dk_at dksX4_turns_8 22 rfl rfl)
theorem dX4_turns_209 : decode cX4_turns 209 = .ok (.iload_n 1, 1) := dk_27 (dk_at dksX4_turns_8 23 rfl rfl)
theorem dX4_turns_210 : decode cX4_turns 210 = .ok (.bipush 13, 2) := dk_16 13 (dk_at dksX4_turns_9 0 rfl rfl)
theorem dX4_turns_212 : decode cX4_turns 212 = .ok (.iconst 1, 1) := dk_4 (dk_at dksX4_turns_9 2 rfl rfl)
theorem dX4_turns_213 : decode cX4_turns 213 = .ok (.invokevirtual 90, 3) := dk_182 0 90 (dk_at dksX4_turns_9 3 rfl rfl)
theorem dX4_turns_216 : decode cX4_turns 216 = .ok (.aload_n 0, 1) := dk_42 (dk_at dksX4_turns_9 6 rfl rfl)
theorem dX4_turns_217 : decode cX4_turns 217 = .ok (.iload_n 1, 1) := dk_27 (dk_at dksX4_turns_9 7 rfl rfl)
theorem dX4_turns_218 : decode cX4_turns 218 = .ok (.bipush 14, 2) := dk_16 14 (dk_at dksX4_turns_9 8 rfl rfl)
theorem dX4_turns_220 : decode cX4_turns 220 = .ok (.iload 5, 2) := dk_21 5 (dk_at dksX4_turns_9 10 rfl rfl)
theorem dX4_turns_222 : decode cX4_turns 222 = .ok (.invokevirtual 90, 3) := dk_182 0 90 (dk_at dksX4_turns_9 12 rfl rfl)
theorem dX4_turns_225 : decode cX4_turns 225 = .ok (.aload_n 0, 1) := dk_42 (dk_at dksX4_turns_9 15 rfl rfl)
theorem dX4_turns_226 : decode cX4_turns 226 = .ok (.iload_n 1, 1) := dk_27 (dk_at dksX4_turns_9 16 rfl rfl)
theorem dX4_turns_227 : decode cX4_turns 227 = .ok (.bipush 15, 2) := dk_16 15 (dk_at dksX4_turns_9 17 rfl rfl)
theorem dX4_turns_229 : decode cX4_turns 229 = .ok (.aload_n 0, 1) := dk_42 (dk_at dksX4_turns_9 19 rfl rfl)
theorem dX4_turns_230 : decode cX4_turns 230 = .ok (.getfield 17, 3) := dk_180 0 17 (dk_at dksX4_turns_9 20 rfl rfl)
theorem dX4_turns_233 : decode cX4_turns 233 = .ok (.sipush 1750, 3) := dk_17 6 214 (dk_at dksX4_turns_10 0 rfl rfl)
theorem dX4_turns_236 : decode cX4_turns 236 = .ok (.iaload, 1) := dk_46 (dk_at dksX4_turns_10 3 rfl rfl)
theorem dX4_turns_237 : decode cX4_turns 237 = .ok (.invokevirtual 90, 3) := dk_182 0 90 (dk_at dksX4_turns_10 4 rfl rfl)
theorem dX4_turns_240 : decode cX4_turns 240 = .ok (.return_, 1) := dk_177 (dk_at dksX4_turns_10 7 rfl rfl)
abbrev cX4_tells : ByteArray := prog_24_method_35_code
def yX4_tells : MethodName := ⟨RX4, "tells", "(II)I"⟩
def dkwX4_tells_5 : List UInt8 := [153, 0, 7, 4, 167, 0, 4, 3, 172, 42, 27, 16, 15, 182, 0, 97, 172]
abbrev dktX4_tells_5 : List UInt8 := dkwX4_tells_5 ++ []
def dkwX4_tells_4 : List UInt8 := [42, 27, 16, 9, 182, 0, 97, 172, 42, 180, 0, 27, 4, 46, 42, 180, 0, 27, 16, 6, 46, 184, 0, 110]
abbrev dktX4_tells_4 : List UInt8 := dkwX4_tells_4 ++ dktX4_tells_5
def dkwX4_tells_3 : List UInt8 := [42, 27, 16, 13, 182, 0, 97, 172, 42, 27, 16, 14, 182, 0, 97, 172, 42, 27, 16, 16, 182, 0, 97, 172]
abbrev dktX4_tells_3 : List UInt8 := dkwX4_tells_3 ++ dktX4_tells_4
def dkwX4_tells_2 : List UInt8 := [170, 0, 0, 0, 0, 0, 92, 0, 0, 0, 9, 0, 0, 0, 13, 0, 0, 0, 35, 0, 0, 0, 43, 0, 0, 0, 51, 0, 0, 0, 59, 0, 0, 0, 67]
abbrev dktX4_tells_2 : List UInt8 := dkwX4_tells_2 ++ dktX4_tells_3
def dkwX4_tells_1 : List UInt8 := [182, 0, 127, 28, 16, 9, 162, 0, 10, 42, 180, 0, 27, 28, 46, 172, 28]
abbrev dktX4_tells_1 : List UInt8 := dkwX4_tells_1 ++ dktX4_tells_2
def dkwX4_tells_0 : List UInt8 := [42, 27, 182, 0, 94, 153, 0, 13, 28, 3, 16, 14, 184, 0, 74, 154, 0, 7, 17, 252, 24, 172, 42, 27]
abbrev dktX4_tells_0 : List UInt8 := dkwX4_tells_0 ++ dktX4_tells_1
theorem dksX4_tells_0 : cX4_tells.data.toList.drop 0 = dktX4_tells_0 := by decide +kernel
theorem dksX4_tells_1 : cX4_tells.data.toList.drop 24 = dktX4_tells_1 := dk_seg dksX4_tells_0 24 rfl rfl
theorem dksX4_tells_2 : cX4_tells.data.toList.drop 41 = dktX4_tells_2 := dk_seg dksX4_tells_1 17 rfl rfl
theorem dksX4_tells_3 : cX4_tells.data.toList.drop 76 = dktX4_tells_3 := dk_seg dksX4_tells_2 35 rfl rfl
theorem dksX4_tells_4 : cX4_tells.data.toList.drop 100 = dktX4_tells_4 := dk_seg dksX4_tells_3 24 rfl rfl
theorem dksX4_tells_5 : cX4_tells.data.toList.drop 124 = dktX4_tells_5 := dk_seg dksX4_tells_4 24 rfl rfl
theorem dX4_tells_0 : decode cX4_tells 0 = .ok (.aload_n 0, 1) := dk_42 (dk_at dksX4_tells_0 0 rfl rfl)
theorem dX4_tells_1 : decode cX4_tells 1 = .ok (.iload_n 1, 1) := dk_27 (dk_at dksX4_tells_0 1 rfl rfl)
theorem dX4_tells_2 : decode cX4_tells 2 = .ok (.invokevirtual 94, 3) := dk_182 0 94 (dk_at dksX4_tells_0 2 rfl rfl)
theorem dX4_tells_5 : decode cX4_tells 5 = .ok (.ifCond .eq 13, 3) := dk_153 0 13 (dk_at dksX4_tells_0 5 rfl rfl)
theorem dX4_tells_8 : decode cX4_tells 8 = .ok (.iload_n 2, 1) := dk_28 (dk_at dksX4_tells_0 8 rfl rfl)
theorem dX4_tells_9 : decode cX4_tells 9 = .ok (.iconst 0, 1) := dk_3 (dk_at dksX4_tells_0 9 rfl rfl)
theorem dX4_tells_10 : decode cX4_tells 10 = .ok (.bipush 14, 2) := dk_16 14 (dk_at dksX4_tells_0 10 rfl rfl)
theorem dX4_tells_12 : decode cX4_tells 12 = .ok (.invokestatic 74, 3) := dk_184 0 74 (dk_at dksX4_tells_0 12 rfl rfl)
theorem dX4_tells_15 : decode cX4_tells 15 = .ok (.ifCond .ne 7, 3) := dk_154 0 7 (dk_at dksX4_tells_0 15 rfl rfl)
theorem dX4_tells_18 : decode cX4_tells 18 = .ok (.sipush (-1000), 3) := dk_17 252 24 (dk_at dksX4_tells_0 18 rfl rfl)
theorem dX4_tells_21 : decode cX4_tells 21 = .ok (.ireturn, 1) := dk_172 (dk_at dksX4_tells_0 21 rfl rfl)
theorem dX4_tells_22 : decode cX4_tells 22 = .ok (.aload_n 0, 1) := dk_42 (dk_at dksX4_tells_0 22 rfl rfl)
theorem dX4_tells_23 : decode cX4_tells 23 = .ok (.iload_n 1, 1) := dk_27 (dk_at dksX4_tells_0 23 rfl rfl)
theorem dX4_tells_24 : decode cX4_tells 24 = .ok (.invokevirtual 127, 3) := dk_182 0 127 (dk_at dksX4_tells_1 0 rfl rfl)
theorem dX4_tells_27 : decode cX4_tells 27 = .ok (.iload_n 2, 1) := dk_28 (dk_at dksX4_tells_1 3 rfl rfl)
theorem dX4_tells_28 : decode cX4_tells 28 = .ok (.bipush 9, 2) := dk_16 9 (dk_at dksX4_tells_1 4 rfl rfl)
theorem dX4_tells_30 : decode cX4_tells 30 = .ok (.if_icmp .ge 10, 3) := dk_162 0 10 (dk_at dksX4_tells_1 6 rfl rfl)
theorem dX4_tells_33 : decode cX4_tells 33 = .ok (.aload_n 0, 1) := dk_42 (dk_at dksX4_tells_1 9 rfl rfl)
theorem dX4_tells_34 : decode cX4_tells 34 = .ok (.getfield 27, 3) := dk_180 0 27 (dk_at dksX4_tells_1 10 rfl rfl)
theorem dX4_tells_37 : decode cX4_tells 37 = .ok (.iload_n 2, 1) := dk_28 (dk_at dksX4_tells_1 13 rfl rfl)
theorem dX4_tells_38 : decode cX4_tells 38 = .ok (.iaload, 1) := dk_46 (dk_at dksX4_tells_1 14 rfl rfl)
theorem dX4_tells_39 : decode cX4_tells 39 = .ok (.ireturn, 1) := dk_172 (dk_at dksX4_tells_1 15 rfl rfl)
theorem dX4_tells_40 : decode cX4_tells 40 = .ok (.iload_n 2, 1) := dk_28 (dk_at dksX4_tells_1 16 rfl rfl)
theorem dX4_tells_41 : decode cX4_tells 41 = .ok (.tableswitch 92 9 13 #[35, 43, 51, 59, 67], 35) := by decide +kernel
theorem dX4_tells_76 : decode cX4_tells 76 = .ok (.aload_n 0, 1) := dk_42 (dk_at dksX4_tells_3 0 rfl rfl)
theorem dX4_tells_77 : decode cX4_tells 77 = .ok (.iload_n 1, 1) := dk_27 (dk_at dksX4_tells_3 1 rfl rfl)
theorem dX4_tells_78 : decode cX4_tells 78 = .ok (.bipush 13, 2) := dk_16 13 (dk_at dksX4_tells_3 2 rfl rfl)
theorem dX4_tells_80 : decode cX4_tells 80 = .ok (.invokevirtual 97, 3) := dk_182 0 97 (dk_at dksX4_tells_3 4 rfl rfl)
theorem dX4_tells_83 : decode cX4_tells 83 = .ok (.ireturn, 1) := dk_172 (dk_at dksX4_tells_3 7 rfl rfl)
theorem dX4_tells_84 : decode cX4_tells 84 = .ok (.aload_n 0, 1) := dk_42 (dk_at dksX4_tells_3 8 rfl rfl)
theorem dX4_tells_85 : decode cX4_tells 85 = .ok (.iload_n 1, 1) := dk_27 (dk_at dksX4_tells_3 9 rfl rfl)
theorem dX4_tells_86 : decode cX4_tells 86 = .ok (.bipush 14, 2) := dk_16 14 (dk_at dksX4_tells_3 10 rfl rfl)
theorem dX4_tells_88 : decode cX4_tells 88 = .ok (.invokevirtual 97, 3) := dk_182 0 97 (dk_at dksX4_tells_3 12 rfl rfl)
theorem dX4_tells_91 : decode cX4_tells 91 = .ok (.ireturn, 1) := dk_172 (dk_at dksX4_tells_3 15 rfl rfl)
theorem dX4_tells_92 : decode cX4_tells 92 = .ok (.aload_n 0, 1) := dk_42 (dk_at dksX4_tells_3 16 rfl rfl)
theorem dX4_tells_93 : decode cX4_tells 93 = .ok (.iload_n 1, 1) := dk_27 (dk_at dksX4_tells_3 17 rfl rfl)
theorem dX4_tells_94 : decode cX4_tells 94 = .ok (.bipush 16, 2) := dk_16 16 (dk_at dksX4_tells_3 18 rfl rfl)
theorem dX4_tells_96 : decode cX4_tells 96 = .ok (.invokevirtual 97, 3) := dk_182 0 97 (dk_at dksX4_tells_3 20 rfl rfl)
theorem dX4_tells_99 : decode cX4_tells 99 = .ok (.ireturn, 1) := dk_172 (dk_at dksX4_tells_3 23 rfl rfl)
theorem dX4_tells_100 : decode cX4_tells 100 = .ok (.aload_n 0, 1) := dk_42 (dk_at dksX4_tells_4 0 rfl rfl)
theorem dX4_tells_101 : decode cX4_tells 101 = .ok (.iload_n 1, 1) := dk_27 (dk_at dksX4_tells_4 1 rfl rfl)
theorem dX4_tells_102 : decode cX4_tells 102 = .ok (.bipush 9, 2) := dk_16 9 (dk_at dksX4_tells_4 2 rfl rfl)
theorem dX4_tells_104 : decode cX4_tells 104 = .ok (.invokevirtual 97, 3) := dk_182 0 97 (dk_at dksX4_tells_4 4 rfl rfl)
theorem dX4_tells_107 : decode cX4_tells 107 = .ok (.ireturn, 1) := dk_172 (dk_at dksX4_tells_4 7 rfl rfl)
theorem dX4_tells_108 : decode cX4_tells 108 = .ok (.aload_n 0, 1) := dk_42 (dk_at dksX4_tells_4 8 rfl rfl)
theorem dX4_tells_109 : decode cX4_tells 109 = .ok (.getfield 27, 3) := dk_180 0 27 (dk_at dksX4_tells_4 9 rfl rfl)
theorem dX4_tells_112 : decode cX4_tells 112 = .ok (.iconst 1, 1) := dk_4 (dk_at dksX4_tells_4 12 rfl rfl)
theorem dX4_tells_113 : decode cX4_tells 113 = .ok (.iaload, 1) := dk_46 (dk_at dksX4_tells_4 13 rfl rfl)
theorem dX4_tells_114 : decode cX4_tells 114 = .ok (.aload_n 0, 1) := dk_42 (dk_at dksX4_tells_4 14 rfl rfl)
theorem dX4_tells_115 : decode cX4_tells 115 = .ok (.getfield 27, 3) := dk_180 0 27 (dk_at dksX4_tells_4 15 rfl rfl)
theorem dX4_tells_118 : decode cX4_tells 118 = .ok (.bipush 6, 2) := dk_16 6 (dk_at dksX4_tells_4 18 rfl rfl)
theorem dX4_tells_120 : decode cX4_tells 120 = .ok (.iaload, 1) := dk_46 (dk_at dksX4_tells_4 20 rfl rfl)
theorem dX4_tells_121 : decode cX4_tells 121 = .ok (.invokestatic 110, 3) := dk_184 0 110 (dk_at dksX4_tells_4 21 rfl rfl)
theorem dX4_tells_124 : decode cX4_tells 124 = .ok (.ifCond .eq 7, 3) := dk_153 0 7 (dk_at dksX4_tells_5 0 rfl rfl)
theorem dX4_tells_127 : decode cX4_tells 127 = .ok (.iconst 1, 1) := dk_4 (dk_at dksX4_tells_5 3 rfl rfl)
theorem dX4_tells_128 : decode cX4_tells 128 = .ok (.goto 4, 3) := dk_167 0 4 (dk_at dksX4_tells_5 4 rfl rfl)
theorem dX4_tells_131 : decode cX4_tells 131 = .ok (.iconst 0, 1) := dk_3 (dk_at dksX4_tells_5 7 rfl rfl)
theorem dX4_tells_132 : decode cX4_tells 132 = .ok (.ireturn, 1) := dk_172 (dk_at dksX4_tells_5 8 rfl rfl)
theorem dX4_tells_133 : decode cX4_tells 133 = .ok (.aload_n 0, 1) := dk_42 (dk_at dksX4_tells_5 9 rfl rfl)
theorem dX4_tells_134 : decode cX4_tells 134 = .ok (.iload_n 1, 1) := dk_27 (dk_at dksX4_tells_5 10 rfl rfl)
theorem dX4_tells_135 : decode cX4_tells 135 = .ok (.bipush 15, 2) := dk_16 15 (dk_at dksX4_tells_5 11 rfl rfl)
theorem dX4_tells_137 : decode cX4_tells 137 = .ok (.invokevirtual 97, 3) := dk_182 0 97 (dk_at dksX4_tells_5 13 rfl rfl)
theorem dX4_tells_140 : decode cX4_tells 140 = .ok (.ireturn, 1) := dk_172 (dk_at dksX4_tells_5 16 rfl rfl)
abbrev cX4_takesFlask : ByteArray := prog_24_method_31_code
def yX4_takesFlask : MethodName := ⟨RX4, "takesFlask", "(I)V"⟩
def dkwX4_takesFlask_3 : List UInt8 := [184, 0, 124, 79, 177]
abbrev dktX4_takesFlask_3 : List UInt8 := dkwX4_takesFlask_3 ++ []
def dkwX4_takesFlask_2 : List UInt8 := [182, 0, 97, 100, 184, 0, 124, 79, 42, 180, 0, 27, 16, 6, 17, 0, 255, 42, 180, 0, 27, 16, 6, 46]
abbrev dktX4_takesFlask_2 : List UInt8 := dkwX4_takesFlask_2 ++ dktX4_takesFlask_3
def dkwX4_takesFlask_1 : List UInt8 := [167, 255, 235, 42, 180, 0, 27, 7, 17, 0, 255, 42, 180, 0, 17, 17, 6, 214, 46, 42, 27, 7]
abbrev dktX4_takesFlask_1 : List UInt8 := dkwX4_takesFlask_1 ++ dktX4_takesFlask_2
def dkwX4_takesFlask_0 : List UInt8 := [3, 61, 28, 16, 9, 162, 0, 21, 42, 180, 0, 27, 28, 42, 27, 28, 182, 0, 97, 79, 132, 2, 1]
abbrev dktX4_takesFlask_0 : List UInt8 := dkwX4_takesFlask_0 ++ dktX4_takesFlask_1
theorem dksX4_takesFlask_0 : cX4_takesFlask.data.toList.drop 0 = dktX4_takesFlask_0 := by decide +kernel
theorem dksX4_takesFlask_1 : cX4_takesFlask.data.toList.drop 23 = dktX4_takesFlask_1 := dk_seg dksX4_takesFlask_0 23 rfl rfl
theorem dksX4_takesFlask_2 : cX4_takesFlask.data.toList.drop 45 = dktX4_takesFlask_2 := dk_seg dksX4_takesFlask_1 22 rfl rfl
theorem dksX4_takesFlask_3 : cX4_takesFlask.data.toList.drop 69 = dktX4_takesFlask_3 := dk_seg dksX4_takesFlask_2 24 rfl rfl
theorem dX4_takesFlask_0 : decode cX4_takesFlask 0 = .ok (.iconst 0, 1) := dk_3 (dk_at dksX4_takesFlask_0 0 rfl rfl)
theorem dX4_takesFlask_1 : decode cX4_takesFlask 1 = .ok (.istore_n 2, 1) := dk_61 (dk_at dksX4_takesFlask_0 1 rfl rfl)
theorem dX4_takesFlask_2 : decode cX4_takesFlask 2 = .ok (.iload_n 2, 1) := dk_28 (dk_at dksX4_takesFlask_0 2 rfl rfl)
theorem dX4_takesFlask_3 : decode cX4_takesFlask 3 = .ok (.bipush 9, 2) := dk_16 9 (dk_at dksX4_takesFlask_0 3 rfl rfl)
theorem dX4_takesFlask_5 : decode cX4_takesFlask 5 = .ok (.if_icmp .ge 21, 3) := dk_162 0 21 (dk_at dksX4_takesFlask_0 5 rfl rfl)
theorem dX4_takesFlask_8 : decode cX4_takesFlask 8 = .ok (.aload_n 0, 1) := dk_42 (dk_at dksX4_takesFlask_0 8 rfl rfl)
theorem dX4_takesFlask_9 : decode cX4_takesFlask 9 = .ok (.getfield 27, 3) := dk_180 0 27 (dk_at dksX4_takesFlask_0 9 rfl rfl)
theorem dX4_takesFlask_12 : decode cX4_takesFlask 12 = .ok (.iload_n 2, 1) := dk_28 (dk_at dksX4_takesFlask_0 12 rfl rfl)
theorem dX4_takesFlask_13 : decode cX4_takesFlask 13 = .ok (.aload_n 0, 1) := dk_42 (dk_at dksX4_takesFlask_0 13 rfl rfl)
theorem dX4_takesFlask_14 : decode cX4_takesFlask 14 = .ok (.iload_n 1, 1) := dk_27 (dk_at dksX4_takesFlask_0 14 rfl rfl)
theorem dX4_takesFlask_15 : decode cX4_takesFlask 15 = .ok (.iload_n 2, 1) := dk_28 (dk_at dksX4_takesFlask_0 15 rfl rfl)
theorem dX4_takesFlask_16 : decode cX4_takesFlask 16 = .ok (.invokevirtual 97, 3) := dk_182 0 97 (dk_at dksX4_takesFlask_0 16 rfl rfl)
theorem dX4_takesFlask_19 : decode cX4_takesFlask 19 = .ok (.iastore, 1) := dk_79 (dk_at dksX4_takesFlask_0 19 rfl rfl)
theorem dX4_takesFlask_20 : decode cX4_takesFlask 20 = .ok (.iinc 2 1, 3) := dk_132 2 1 (dk_at dksX4_takesFlask_0 20 rfl rfl)
theorem dX4_takesFlask_23 : decode cX4_takesFlask 23 = .ok (.goto (-21), 3) := dk_167 255 235 (dk_at dksX4_takesFlask_1 0 rfl rfl)
theorem dX4_takesFlask_26 : decode cX4_takesFlask 26 = .ok (.aload_n 0, 1) := dk_42 (dk_at dksX4_takesFlask_1 3 rfl rfl)
theorem dX4_takesFlask_27 : decode cX4_takesFlask 27 = .ok (.getfield 27, 3) := dk_180 0 27 (dk_at dksX4_takesFlask_1 4 rfl rfl)
theorem dX4_takesFlask_30 : decode cX4_takesFlask 30 = .ok (.iconst 4, 1) := dk_7 (dk_at dksX4_takesFlask_1 7 rfl rfl)
theorem dX4_takesFlask_31 : decode cX4_takesFlask 31 = .ok (.sipush 255, 3) := dk_17 0 255 (dk_at dksX4_takesFlask_1 8 rfl rfl)
theorem dX4_takesFlask_34 : decode cX4_takesFlask 34 = .ok (.aload_n 0, 1) := dk_42 (dk_at dksX4_takesFlask_1 11 rfl rfl)
theorem dX4_takesFlask_35 : decode cX4_takesFlask 35 = .ok (.getfield 17, 3) := dk_180 0 17 (dk_at dksX4_takesFlask_1 12 rfl rfl)
theorem dX4_takesFlask_38 : decode cX4_takesFlask 38 = .ok (.sipush 1750, 3) := dk_17 6 214 (dk_at dksX4_takesFlask_1 15 rfl rfl)
theorem dX4_takesFlask_41 : decode cX4_takesFlask 41 = .ok (.iaload, 1) := dk_46 (dk_at dksX4_takesFlask_1 18 rfl rfl)
theorem dX4_takesFlask_42 : decode cX4_takesFlask 42 = .ok (.aload_n 0, 1) := dk_42 (dk_at dksX4_takesFlask_1 19 rfl rfl)
theorem dX4_takesFlask_43 : decode cX4_takesFlask 43 = .ok (.iload_n 1, 1) := dk_27 (dk_at dksX4_takesFlask_1 20 rfl rfl)
theorem dX4_takesFlask_44 : decode cX4_takesFlask 44 = .ok (.iconst 4, 1) := dk_7 (dk_at dksX4_takesFlask_1 21 rfl rfl)
theorem dX4_takesFlask_45 : decode cX4_takesFlask 45 = .ok (.invokevirtual 97, 3) := dk_182 0 97 (dk_at dksX4_takesFlask_2 0 rfl rfl)
theorem dX4_takesFlask_48 : decode cX4_takesFlask 48 = .ok (.isub, 1) := dk_100 (dk_at dksX4_takesFlask_2 3 rfl rfl)
theorem dX4_takesFlask_49 : decode cX4_takesFlask 49 = .ok (.invokestatic 124, 3) := dk_184 0 124 (dk_at dksX4_takesFlask_2 4 rfl rfl)
theorem dX4_takesFlask_52 : decode cX4_takesFlask 52 = .ok (.iastore, 1) := dk_79 (dk_at dksX4_takesFlask_2 7 rfl rfl)
theorem dX4_takesFlask_53 : decode cX4_takesFlask 53 = .ok (.aload_n 0, 1) := dk_42 (dk_at dksX4_takesFlask_2 8 rfl rfl)
theorem dX4_takesFlask_54 : decode cX4_takesFlask 54 = .ok (.getfield 27, 3) := dk_180 0 27 (dk_at dksX4_takesFlask_2 9 rfl rfl)
theorem dX4_takesFlask_57 : decode cX4_takesFlask 57 = .ok (.bipush 6, 2) := dk_16 6 (dk_at dksX4_takesFlask_2 12 rfl rfl)
theorem dX4_takesFlask_59 : decode cX4_takesFlask 59 = .ok (.sipush 255, 3) := dk_17 0 255 (dk_at dksX4_takesFlask_2 14 rfl rfl)
theorem dX4_takesFlask_62 : decode cX4_takesFlask 62 = .ok (.aload_n 0, 1) := dk_42 (dk_at dksX4_takesFlask_2 17 rfl rfl)
theorem dX4_takesFlask_63 : decode cX4_takesFlask 63 = .ok (.getfield 27, 3) := dk_180 0 27 (dk_at dksX4_takesFlask_2 18 rfl rfl)
theorem dX4_takesFlask_66 : decode cX4_takesFlask 66 = .ok (.bipush 6, 2) := dk_16 6 (dk_at dksX4_takesFlask_2 21 rfl rfl)
theorem dX4_takesFlask_68 : decode cX4_takesFlask 68 = .ok (.iaload, 1) := dk_46 (dk_at dksX4_takesFlask_2 23 rfl rfl)
theorem dX4_takesFlask_69 : decode cX4_takesFlask 69 = .ok (.invokestatic 124, 3) := dk_184 0 124 (dk_at dksX4_takesFlask_3 0 rfl rfl)
theorem dX4_takesFlask_72 : decode cX4_takesFlask 72 = .ok (.iastore, 1) := dk_79 (dk_at dksX4_takesFlask_3 3 rfl rfl)
theorem dX4_takesFlask_73 : decode cX4_takesFlask 73 = .ok (.return_, 1) := dk_177 (dk_at dksX4_takesFlask_3 4 rfl rfl)
abbrev cX4_least : ByteArray := prog_24_method_30_code
def yX4_least : MethodName := ⟨RX4, "least", "(II)I"⟩
def dkwX4_least_0 : List UInt8 := [26, 27, 162, 0, 7, 26, 167, 0, 4, 27, 172]
abbrev dktX4_least_0 : List UInt8 := dkwX4_least_0 ++ []
theorem dksX4_least_0 : cX4_least.data.toList.drop 0 = dktX4_least_0 := by decide +kernel
theorem dX4_least_0 : decode cX4_least 0 = .ok (.iload_n 0, 1) := dk_26 (dk_at dksX4_least_0 0 rfl rfl)
theorem dX4_least_1 : decode cX4_least 1 = .ok (.iload_n 1, 1) := dk_27 (dk_at dksX4_least_0 1 rfl rfl)
theorem dX4_least_2 : decode cX4_least 2 = .ok (.if_icmp .ge 7, 3) := dk_162 0 7 (dk_at dksX4_least_0 2 rfl rfl)
theorem dX4_least_5 : decode cX4_least 5 = .ok (.iload_n 0, 1) := dk_26 (dk_at dksX4_least_0 5 rfl rfl)
theorem dX4_least_6 : decode cX4_least 6 = .ok (.goto 4, 3) := dk_167 0 4 (dk_at dksX4_least_0 6 rfl rfl)
theorem dX4_least_9 : decode cX4_least 9 = .ok (.iload_n 1, 1) := dk_27 (dk_at dksX4_least_0 9 rfl rfl)
theorem dX4_least_10 : decode cX4_least 10 = .ok (.ireturn, 1) := dk_172 (dk_at dksX4_least_0 10 rfl rfl)
abbrev cX4_look : ByteArray := prog_24_method_36_code
def yX4_look : MethodName := ⟨RX4, "look", "(I)I"⟩
def dkwX4_look_5 : List UInt8 := [182, 0, 82, 172]
abbrev dktX4_look_5 : List UInt8 := dkwX4_look_5 ++ []
def dkwX4_look_4 : List UInt8 := [42, 27, 16, 13, 182, 0, 97, 79, 42, 180, 0, 17, 17, 6, 218, 92, 46, 4, 96, 79, 42, 28]
abbrev dktX4_look_4 : List UInt8 := dkwX4_look_4 ++ dktX4_look_5
def dkwX4_look_3 : List UInt8 := [180, 0, 27, 29, 46, 79, 132, 3, 1, 167, 255, 229, 42, 180, 0, 17, 42, 28, 182, 0, 130, 16, 9, 96]
abbrev dktX4_look_3 : List UInt8 := dkwX4_look_3 ++ dktX4_look_4
def dkwX4_look_2 : List UInt8 := [46, 61, 3, 62, 29, 16, 9, 162, 0, 27, 42, 180, 0, 17, 42, 28, 182, 0, 130, 29, 96, 42]
abbrev dktX4_look_2 : List UInt8 := dkwX4_look_2 ++ dktX4_look_3
def dkwX4_look_1 : List UInt8 := [16, 40, 160, 0, 10, 42, 16, 251, 182, 0, 78, 172, 42, 27, 182, 0, 127, 42, 180, 0, 17, 17, 6, 218]
abbrev dktX4_look_1 : List UInt8 := dkwX4_look_1 ++ dktX4_look_2
def dkwX4_look_0 : List UInt8 := [42, 27, 182, 0, 94, 154, 0, 10, 42, 16, 254, 182, 0, 78, 172, 42, 180, 0, 17, 17, 6, 218, 46]
abbrev dktX4_look_0 : List UInt8 := dkwX4_look_0 ++ dktX4_look_1
theorem dksX4_look_0 : cX4_look.data.toList.drop 0 = dktX4_look_0 := by decide +kernel
theorem dksX4_look_1 : cX4_look.data.toList.drop 23 = dktX4_look_1 := dk_seg dksX4_look_0 23 rfl rfl
theorem dksX4_look_2 : cX4_look.data.toList.drop 47 = dktX4_look_2 := dk_seg dksX4_look_1 24 rfl rfl
theorem dksX4_look_3 : cX4_look.data.toList.drop 69 = dktX4_look_3 := dk_seg dksX4_look_2 22 rfl rfl
theorem dksX4_look_4 : cX4_look.data.toList.drop 93 = dktX4_look_4 := dk_seg dksX4_look_3 24 rfl rfl
theorem dksX4_look_5 : cX4_look.data.toList.drop 115 = dktX4_look_5 := dk_seg dksX4_look_4 22 rfl rfl
theorem dX4_look_0 : decode cX4_look 0 = .ok (.aload_n 0, 1) := dk_42 (dk_at dksX4_look_0 0 rfl rfl)
theorem dX4_look_1 : decode cX4_look 1 = .ok (.iload_n 1, 1) := dk_27 (dk_at dksX4_look_0 1 rfl rfl)
theorem dX4_look_2 : decode cX4_look 2 = .ok (.invokevirtual 94, 3) := dk_182 0 94 (dk_at dksX4_look_0 2 rfl rfl)
theorem dX4_look_5 : decode cX4_look 5 = .ok (.ifCond .ne 10, 3) := dk_154 0 10 (dk_at dksX4_look_0 5 rfl rfl)
theorem dX4_look_8 : decode cX4_look 8 = .ok (.aload_n 0, 1) := dk_42 (dk_at dksX4_look_0 8 rfl rfl)
theorem dX4_look_9 : decode cX4_look 9 = .ok (.bipush (-2), 2) := dk_16 254 (dk_at dksX4_look_0 9 rfl rfl)
theorem dX4_look_11 : decode cX4_look 11 = .ok (.invokevirtual 78, 3) := dk_182 0 78 (dk_at dksX4_look_0 11 rfl rfl)
theorem dX4_look_14 : decode cX4_look 14 = .ok (.ireturn, 1) := dk_172 (dk_at dksX4_look_0 14 rfl rfl)
theorem dX4_look_15 : decode cX4_look 15 = .ok (.aload_n 0, 1) := dk_42 (dk_at dksX4_look_0 15 rfl rfl)
theorem dX4_look_16 : decode cX4_look 16 = .ok (.getfield 17, 3) := dk_180 0 17 (dk_at dksX4_look_0 16 rfl rfl)
theorem dX4_look_19 : decode cX4_look 19 = .ok (.sipush 1754, 3) := dk_17 6 218 (dk_at dksX4_look_0 19 rfl rfl)
theorem dX4_look_22 : decode cX4_look 22 = .ok (.iaload, 1) := dk_46 (dk_at dksX4_look_0 22 rfl rfl)
theorem dX4_look_23 : decode cX4_look 23 = .ok (.bipush 40, 2) := dk_16 40 (dk_at dksX4_look_1 0 rfl rfl)
theorem dX4_look_25 : decode cX4_look 25 = .ok (.if_icmp .ne 10, 3) := dk_160 0 10 (dk_at dksX4_look_1 2 rfl rfl)
theorem dX4_look_28 : decode cX4_look 28 = .ok (.aload_n 0, 1) := dk_42 (dk_at dksX4_look_1 5 rfl rfl)
theorem dX4_look_29 : decode cX4_look 29 = .ok (.bipush (-5), 2) := dk_16 251 (dk_at dksX4_look_1 6 rfl rfl)
theorem dX4_look_31 : decode cX4_look 31 = .ok (.invokevirtual 78, 3) := dk_182 0 78 (dk_at dksX4_look_1 8 rfl rfl)
theorem dX4_look_34 : decode cX4_look 34 = .ok (.ireturn, 1) := dk_172 (dk_at dksX4_look_1 11 rfl rfl)
theorem dX4_look_35 : decode cX4_look 35 = .ok (.aload_n 0, 1) := dk_42 (dk_at dksX4_look_1 12 rfl rfl)
theorem dX4_look_36 : decode cX4_look 36 = .ok (.iload_n 1, 1) := dk_27 (dk_at dksX4_look_1 13 rfl rfl)
theorem dX4_look_37 : decode cX4_look 37 = .ok (.invokevirtual 127, 3) := dk_182 0 127 (dk_at dksX4_look_1 14 rfl rfl)
theorem dX4_look_40 : decode cX4_look 40 = .ok (.aload_n 0, 1) := dk_42 (dk_at dksX4_look_1 17 rfl rfl)
theorem dX4_look_41 : decode cX4_look 41 = .ok (.getfield 17, 3) := dk_180 0 17 (dk_at dksX4_look_1 18 rfl rfl)
theorem dX4_look_44 : decode cX4_look 44 = .ok (.sipush 1754, 3) := dk_17 6 218 (dk_at dksX4_look_1 21 rfl rfl)
theorem dX4_look_47 : decode cX4_look 47 = .ok (.iaload, 1) := dk_46 (dk_at dksX4_look_2 0 rfl rfl)
theorem dX4_look_48 : decode cX4_look 48 = .ok (.istore_n 2, 1) := dk_61 (dk_at dksX4_look_2 1 rfl rfl)
theorem dX4_look_49 : decode cX4_look 49 = .ok (.iconst 0, 1) := dk_3 (dk_at dksX4_look_2 2 rfl rfl)
theorem dX4_look_50 : decode cX4_look 50 = .ok (.istore_n 3, 1) := dk_62 (dk_at dksX4_look_2 3 rfl rfl)
theorem dX4_look_51 : decode cX4_look 51 = .ok (.iload_n 3, 1) := dk_29 (dk_at dksX4_look_2 4 rfl rfl)
theorem dX4_look_52 : decode cX4_look 52 = .ok (.bipush 9, 2) := dk_16 9 (dk_at dksX4_look_2 5 rfl rfl)
theorem dX4_look_54 : decode cX4_look 54 = .ok (.if_icmp .ge 27, 3) := dk_162 0 27 (dk_at dksX4_look_2 7 rfl rfl)
theorem dX4_look_57 : decode cX4_look 57 = .ok (.aload_n 0, 1) := dk_42 (dk_at dksX4_look_2 10 rfl rfl)
theorem dX4_look_58 : decode cX4_look 58 = .ok (.getfield 17, 3) := dk_180 0 17 (dk_at dksX4_look_2 11 rfl rfl)
theorem dX4_look_61 : decode cX4_look 61 = .ok (.aload_n 0, 1) := dk_42 (dk_at dksX4_look_2 14 rfl rfl)
theorem dX4_look_62 : decode cX4_look 62 = .ok (.iload_n 2, 1) := dk_28 (dk_at dksX4_look_2 15 rfl rfl)
theorem dX4_look_63 : decode cX4_look 63 = .ok (.invokevirtual 130, 3) := dk_182 0 130 (dk_at dksX4_look_2 16 rfl rfl)
theorem dX4_look_66 : decode cX4_look 66 = .ok (.iload_n 3, 1) := dk_29 (dk_at dksX4_look_2 19 rfl rfl)
theorem dX4_look_67 : decode cX4_look 67 = .ok (.iadd, 1) := dk_96 (dk_at dksX4_look_2 20 rfl rfl)
theorem dX4_look_68 : decode cX4_look 68 = .ok (.aload_n 0, 1) := dk_42 (dk_at dksX4_look_2 21 rfl rfl)
theorem dX4_look_69 : decode cX4_look 69 = .ok (.getfield 27, 3) := dk_180 0 27 (dk_at dksX4_look_3 0 rfl rfl)
theorem dX4_look_72 : decode cX4_look 72 = .ok (.iload_n 3, 1) := dk_29 (dk_at dksX4_look_3 3 rfl rfl)
theorem dX4_look_73 : decode cX4_look 73 = .ok (.iaload, 1) := dk_46 (dk_at dksX4_look_3 4 rfl rfl)
theorem dX4_look_74 : decode cX4_look 74 = .ok (.iastore, 1) := dk_79 (dk_at dksX4_look_3 5 rfl rfl)
theorem dX4_look_75 : decode cX4_look 75 = .ok (.iinc 3 1, 3) := dk_132 3 1 (dk_at dksX4_look_3 6 rfl rfl)
theorem dX4_look_78 : decode cX4_look 78 = .ok (.goto (-27), 3) := dk_167 255 229 (dk_at dksX4_look_3 9 rfl rfl)
theorem dX4_look_81 : decode cX4_look 81 = .ok (.aload_n 0, 1) := dk_42 (dk_at dksX4_look_3 12 rfl rfl)
theorem dX4_look_82 : decode cX4_look 82 = .ok (.getfield 17, 3) := dk_180 0 17 (dk_at dksX4_look_3 13 rfl rfl)
theorem dX4_look_85 : decode cX4_look 85 = .ok (.aload_n 0, 1) := dk_42 (dk_at dksX4_look_3 16 rfl rfl)
theorem dX4_look_86 : decode cX4_look 86 = .ok (.iload_n 2, 1) := dk_28 (dk_at dksX4_look_3 17 rfl rfl)
theorem dX4_look_87 : decode cX4_look 87 = .ok (.invokevirtual 130, 3) := dk_182 0 130 (dk_at dksX4_look_3 18 rfl rfl)
theorem dX4_look_90 : decode cX4_look 90 = .ok (.bipush 9, 2) := dk_16 9 (dk_at dksX4_look_3 21 rfl rfl)
theorem dX4_look_92 : decode cX4_look 92 = .ok (.iadd, 1) := dk_96 (dk_at dksX4_look_3 23 rfl rfl)
theorem dX4_look_93 : decode cX4_look 93 = .ok (.aload_n 0, 1) := dk_42 (dk_at dksX4_look_4 0 rfl rfl)
theorem dX4_look_94 : decode cX4_look 94 = .ok (.iload_n 1, 1) := dk_27 (dk_at dksX4_look_4 1 rfl rfl)
theorem dX4_look_95 : decode cX4_look 95 = .ok (.bipush 13, 2) := dk_16 13 (dk_at dksX4_look_4 2 rfl rfl)
theorem dX4_look_97 : decode cX4_look 97 = .ok (.invokevirtual 97, 3) := dk_182 0 97 (dk_at dksX4_look_4 4 rfl rfl)
theorem dX4_look_100 : decode cX4_look 100 = .ok (.iastore, 1) := dk_79 (dk_at dksX4_look_4 7 rfl rfl)
theorem dX4_look_101 : decode cX4_look 101 = .ok (.aload_n 0, 1) := dk_42 (dk_at dksX4_look_4 8 rfl rfl)
theorem dX4_look_102 : decode cX4_look 102 = .ok (.getfield 17, 3) := dk_180 0 17 (dk_at dksX4_look_4 9 rfl rfl)
theorem dX4_look_105 : decode cX4_look 105 = .ok (.sipush 1754, 3) := dk_17 6 218 (dk_at dksX4_look_4 12 rfl rfl)
theorem dX4_look_108 : decode cX4_look 108 = .ok (.dup2, 1) := dk_92 (dk_at dksX4_look_4 15 rfl rfl)
theorem dX4_look_109 : decode cX4_look 109 = .ok (.iaload, 1) := dk_46 (dk_at dksX4_look_4 16 rfl rfl)
theorem dX4_look_110 : decode cX4_look 110 = .ok (.iconst 1, 1) := dk_4 (dk_at dksX4_look_4 17 rfl rfl)
theorem dX4_look_111 : decode cX4_look 111 = .ok (.iadd, 1) := dk_96 (dk_at dksX4_look_4 18 rfl rfl)
theorem dX4_look_112 : decode cX4_look 112 = .ok (.iastore, 1) := dk_79 (dk_at dksX4_look_4 19 rfl rfl)
theorem dX4_look_113 : decode cX4_look 113 = .ok (.aload_n 0, 1) := dk_42 (dk_at dksX4_look_4 20 rfl rfl)
theorem dX4_look_114 : decode cX4_look 114 = .ok (.iload_n 2, 1) := dk_28 (dk_at dksX4_look_4 21 rfl rfl)
theorem dX4_look_115 : decode cX4_look 115 = .ok (.invokevirtual 82, 3) := dk_182 0 82 (dk_at dksX4_look_5 0 rfl rfl)
theorem dX4_look_118 : decode cX4_look 118 = .ok (.ireturn, 1) := dk_172 (dk_at dksX4_look_5 3 rfl rfl)
abbrev cX4_lookAt : ByteArray := prog_24_method_33_code
def yX4_lookAt : MethodName := ⟨RX4, "lookAt", "(I)I"⟩
def dkwX4_lookAt_0 : List UInt8 := [17, 4, 200, 16, 10, 27, 104, 96, 172]
abbrev dktX4_lookAt_0 : List UInt8 := dkwX4_lookAt_0 ++ []
theorem dksX4_lookAt_0 : cX4_lookAt.data.toList.drop 0 = dktX4_lookAt_0 := by decide +kernel
theorem dX4_lookAt_0 : decode cX4_lookAt 0 = .ok (.sipush 1224, 3) := dk_17 4 200 (dk_at dksX4_lookAt_0 0 rfl rfl)
theorem dX4_lookAt_3 : decode cX4_lookAt 3 = .ok (.bipush 10, 2) := dk_16 10 (dk_at dksX4_lookAt_0 3 rfl rfl)
theorem dX4_lookAt_5 : decode cX4_lookAt 5 = .ok (.iload_n 1, 1) := dk_27 (dk_at dksX4_lookAt_0 5 rfl rfl)
theorem dX4_lookAt_6 : decode cX4_lookAt 6 = .ok (.imul, 1) := dk_104 (dk_at dksX4_lookAt_0 6 rfl rfl)
theorem dX4_lookAt_7 : decode cX4_lookAt 7 = .ok (.iadd, 1) := dk_96 (dk_at dksX4_lookAt_0 7 rfl rfl)
theorem dX4_lookAt_8 : decode cX4_lookAt 8 = .ok (.ireturn, 1) := dk_172 (dk_at dksX4_lookAt_0 8 rfl rfl)
abbrev cX4_trial : ByteArray := prog_24_method_37_code
def yX4_trial : MethodName := ⟨RX4, "trial", "(I)I"⟩
def dkwX4_trial_4 : List UInt8 := [42, 28, 182, 0, 82, 172]
abbrev dktX4_trial_4 : List UInt8 := dkwX4_trial_4 ++ []
def dkwX4_trial_3 : List UInt8 := [180, 0, 27, 29, 46, 79, 132, 3, 1, 167, 255, 229, 42, 180, 0, 17, 17, 6, 219, 92, 46, 4, 96, 79]
abbrev dktX4_trial_3 : List UInt8 := dkwX4_trial_3 ++ dktX4_trial_4
def dkwX4_trial_2 : List UInt8 := [46, 61, 3, 62, 29, 16, 9, 162, 0, 27, 42, 180, 0, 17, 42, 28, 182, 0, 133, 29, 96, 42]
abbrev dktX4_trial_2 : List UInt8 := dkwX4_trial_2 ++ dktX4_trial_3
def dkwX4_trial_1 : List UInt8 := [16, 12, 160, 0, 10, 42, 16, 251, 182, 0, 78, 172, 42, 27, 182, 0, 127, 42, 180, 0, 17, 17, 6, 219]
abbrev dktX4_trial_1 : List UInt8 := dkwX4_trial_1 ++ dktX4_trial_2
def dkwX4_trial_0 : List UInt8 := [42, 27, 182, 0, 94, 154, 0, 10, 42, 16, 254, 182, 0, 78, 172, 42, 180, 0, 17, 17, 6, 219, 46]
abbrev dktX4_trial_0 : List UInt8 := dkwX4_trial_0 ++ dktX4_trial_1
theorem dksX4_trial_0 : cX4_trial.data.toList.drop 0 = dktX4_trial_0 := by decide +kernel
theorem dksX4_trial_1 : cX4_trial.data.toList.drop 23 = dktX4_trial_1 := dk_seg dksX4_trial_0 23 rfl rfl
theorem dksX4_trial_2 : cX4_trial.data.toList.drop 47 = dktX4_trial_2 := dk_seg dksX4_trial_1 24 rfl rfl
theorem dksX4_trial_3 : cX4_trial.data.toList.drop 69 = dktX4_trial_3 := dk_seg dksX4_trial_2 22 rfl rfl
theorem dksX4_trial_4 : cX4_trial.data.toList.drop 93 = dktX4_trial_4 := dk_seg dksX4_trial_3 24 rfl rfl
theorem dX4_trial_0 : decode cX4_trial 0 = .ok (.aload_n 0, 1) := dk_42 (dk_at dksX4_trial_0 0 rfl rfl)
theorem dX4_trial_1 : decode cX4_trial 1 = .ok (.iload_n 1, 1) := dk_27 (dk_at dksX4_trial_0 1 rfl rfl)
theorem dX4_trial_2 : decode cX4_trial 2 = .ok (.invokevirtual 94, 3) := dk_182 0 94 (dk_at dksX4_trial_0 2 rfl rfl)
theorem dX4_trial_5 : decode cX4_trial 5 = .ok (.ifCond .ne 10, 3) := dk_154 0 10 (dk_at dksX4_trial_0 5 rfl rfl)
theorem dX4_trial_8 : decode cX4_trial 8 = .ok (.aload_n 0, 1) := dk_42 (dk_at dksX4_trial_0 8 rfl rfl)
theorem dX4_trial_9 : decode cX4_trial 9 = .ok (.bipush (-2), 2) := dk_16 254 (dk_at dksX4_trial_0 9 rfl rfl)
theorem dX4_trial_11 : decode cX4_trial 11 = .ok (.invokevirtual 78, 3) := dk_182 0 78 (dk_at dksX4_trial_0 11 rfl rfl)
theorem dX4_trial_14 : decode cX4_trial 14 = .ok (.ireturn, 1) := dk_172 (dk_at dksX4_trial_0 14 rfl rfl)
theorem dX4_trial_15 : decode cX4_trial 15 = .ok (.aload_n 0, 1) := dk_42 (dk_at dksX4_trial_0 15 rfl rfl)
theorem dX4_trial_16 : decode cX4_trial 16 = .ok (.getfield 17, 3) := dk_180 0 17 (dk_at dksX4_trial_0 16 rfl rfl)
theorem dX4_trial_19 : decode cX4_trial 19 = .ok (.sipush 1755, 3) := dk_17 6 219 (dk_at dksX4_trial_0 19 rfl rfl)
theorem dX4_trial_22 : decode cX4_trial 22 = .ok (.iaload, 1) := dk_46 (dk_at dksX4_trial_0 22 rfl rfl)
theorem dX4_trial_23 : decode cX4_trial 23 = .ok (.bipush 12, 2) := dk_16 12 (dk_at dksX4_trial_1 0 rfl rfl)
theorem dX4_trial_25 : decode cX4_trial 25 = .ok (.if_icmp .ne 10, 3) := dk_160 0 10 (dk_at dksX4_trial_1 2 rfl rfl)
theorem dX4_trial_28 : decode cX4_trial 28 = .ok (.aload_n 0, 1) := dk_42 (dk_at dksX4_trial_1 5 rfl rfl)
theorem dX4_trial_29 : decode cX4_trial 29 = .ok (.bipush (-5), 2) := dk_16 251 (dk_at dksX4_trial_1 6 rfl rfl)
theorem dX4_trial_31 : decode cX4_trial 31 = .ok (.invokevirtual 78, 3) := dk_182 0 78 (dk_at dksX4_trial_1 8 rfl rfl)
theorem dX4_trial_34 : decode cX4_trial 34 = .ok (.ireturn, 1) := dk_172 (dk_at dksX4_trial_1 11 rfl rfl)
theorem dX4_trial_35 : decode cX4_trial 35 = .ok (.aload_n 0, 1) := dk_42 (dk_at dksX4_trial_1 12 rfl rfl)
theorem dX4_trial_36 : decode cX4_trial 36 = .ok (.iload_n 1, 1) := dk_27 (dk_at dksX4_trial_1 13 rfl rfl)
theorem dX4_trial_37 : decode cX4_trial 37 = .ok (.invokevirtual 127, 3) := dk_182 0 127 (dk_at dksX4_trial_1 14 rfl rfl)
theorem dX4_trial_40 : decode cX4_trial 40 = .ok (.aload_n 0, 1) := dk_42 (dk_at dksX4_trial_1 17 rfl rfl)
theorem dX4_trial_41 : decode cX4_trial 41 = .ok (.getfield 17, 3) := dk_180 0 17 (dk_at dksX4_trial_1 18 rfl rfl)
theorem dX4_trial_44 : decode cX4_trial 44 = .ok (.sipush 1755, 3) := dk_17 6 219 (dk_at dksX4_trial_1 21 rfl rfl)
theorem dX4_trial_47 : decode cX4_trial 47 = .ok (.iaload, 1) := dk_46 (dk_at dksX4_trial_2 0 rfl rfl)
theorem dX4_trial_48 : decode cX4_trial 48 = .ok (.istore_n 2, 1) := dk_61 (dk_at dksX4_trial_2 1 rfl rfl)
theorem dX4_trial_49 : decode cX4_trial 49 = .ok (.iconst 0, 1) := dk_3 (dk_at dksX4_trial_2 2 rfl rfl)
theorem dX4_trial_50 : decode cX4_trial 50 = .ok (.istore_n 3, 1) := dk_62 (dk_at dksX4_trial_2 3 rfl rfl)
theorem dX4_trial_51 : decode cX4_trial 51 = .ok (.iload_n 3, 1) := dk_29 (dk_at dksX4_trial_2 4 rfl rfl)
theorem dX4_trial_52 : decode cX4_trial 52 = .ok (.bipush 9, 2) := dk_16 9 (dk_at dksX4_trial_2 5 rfl rfl)
theorem dX4_trial_54 : decode cX4_trial 54 = .ok (.if_icmp .ge 27, 3) := dk_162 0 27 (dk_at dksX4_trial_2 7 rfl rfl)
theorem dX4_trial_57 : decode cX4_trial 57 = .ok (.aload_n 0, 1) := dk_42 (dk_at dksX4_trial_2 10 rfl rfl)
theorem dX4_trial_58 : decode cX4_trial 58 = .ok (.getfield 17, 3) := dk_180 0 17 (dk_at dksX4_trial_2 11 rfl rfl)
theorem dX4_trial_61 : decode cX4_trial 61 = .ok (.aload_n 0, 1) := dk_42 (dk_at dksX4_trial_2 14 rfl rfl)
theorem dX4_trial_62 : decode cX4_trial 62 = .ok (.iload_n 2, 1) := dk_28 (dk_at dksX4_trial_2 15 rfl rfl)
theorem dX4_trial_63 : decode cX4_trial 63 = .ok (.invokevirtual 133, 3) := dk_182 0 133 (dk_at dksX4_trial_2 16 rfl rfl)
theorem dX4_trial_66 : decode cX4_trial 66 = .ok (.iload_n 3, 1) := dk_29 (dk_at dksX4_trial_2 19 rfl rfl)
theorem dX4_trial_67 : decode cX4_trial 67 = .ok (.iadd, 1) := dk_96 (dk_at dksX4_trial_2 20 rfl rfl)
theorem dX4_trial_68 : decode cX4_trial 68 = .ok (.aload_n 0, 1) := dk_42 (dk_at dksX4_trial_2 21 rfl rfl)
theorem dX4_trial_69 : decode cX4_trial 69 = .ok (.getfield 27, 3) := dk_180 0 27 (dk_at dksX4_trial_3 0 rfl rfl)
theorem dX4_trial_72 : decode cX4_trial 72 = .ok (.iload_n 3, 1) := dk_29 (dk_at dksX4_trial_3 3 rfl rfl)
theorem dX4_trial_73 : decode cX4_trial 73 = .ok (.iaload, 1) := dk_46 (dk_at dksX4_trial_3 4 rfl rfl)
theorem dX4_trial_74 : decode cX4_trial 74 = .ok (.iastore, 1) := dk_79 (dk_at dksX4_trial_3 5 rfl rfl)
theorem dX4_trial_75 : decode cX4_trial 75 = .ok (.iinc 3 1, 3) := dk_132 3 1 (dk_at dksX4_trial_3 6 rfl rfl)
theorem dX4_trial_78 : decode cX4_trial 78 = .ok (.goto (-27), 3) := dk_167 255 229 (dk_at dksX4_trial_3 9 rfl rfl)
theorem dX4_trial_81 : decode cX4_trial 81 = .ok (.aload_n 0, 1) := dk_42 (dk_at dksX4_trial_3 12 rfl rfl)
theorem dX4_trial_82 : decode cX4_trial 82 = .ok (.getfield 17, 3) := dk_180 0 17 (dk_at dksX4_trial_3 13 rfl rfl)
theorem dX4_trial_85 : decode cX4_trial 85 = .ok (.sipush 1755, 3) := dk_17 6 219 (dk_at dksX4_trial_3 16 rfl rfl)
theorem dX4_trial_88 : decode cX4_trial 88 = .ok (.dup2, 1) := dk_92 (dk_at dksX4_trial_3 19 rfl rfl)
theorem dX4_trial_89 : decode cX4_trial 89 = .ok (.iaload, 1) := dk_46 (dk_at dksX4_trial_3 20 rfl rfl)
theorem dX4_trial_90 : decode cX4_trial 90 = .ok (.iconst 1, 1) := dk_4 (dk_at dksX4_trial_3 21 rfl rfl)
theorem dX4_trial_91 : decode cX4_trial 91 = .ok (.iadd, 1) := dk_96 (dk_at dksX4_trial_3 22 rfl rfl)
theorem dX4_trial_92 : decode cX4_trial 92 = .ok (.iastore, 1) := dk_79 (dk_at dksX4_trial_3 23 rfl rfl)
theorem dX4_trial_93 : decode cX4_trial 93 = .ok (.aload_n 0, 1) := dk_42 (dk_at dksX4_trial_4 0 rfl rfl)
theorem dX4_trial_94 : decode cX4_trial 94 = .ok (.iload_n 2, 1) := dk_28 (dk_at dksX4_trial_4 1 rfl rfl)
theorem dX4_trial_95 : decode cX4_trial 95 = .ok (.invokevirtual 82, 3) := dk_182 0 82 (dk_at dksX4_trial_4 2 rfl rfl)
theorem dX4_trial_98 : decode cX4_trial 98 = .ok (.ireturn, 1) := dk_172 (dk_at dksX4_trial_4 5 rfl rfl)
abbrev cX4_trialAt : ByteArray := prog_24_method_34_code
def yX4_trialAt : MethodName := ⟨RX4, "trialAt", "(I)I"⟩
def dkwX4_trialAt_0 : List UInt8 := [17, 6, 88, 16, 9, 27, 104, 96, 172]
abbrev dktX4_trialAt_0 : List UInt8 := dkwX4_trialAt_0 ++ []
theorem dksX4_trialAt_0 : cX4_trialAt.data.toList.drop 0 = dktX4_trialAt_0 := by decide +kernel
theorem dX4_trialAt_0 : decode cX4_trialAt 0 = .ok (.sipush 1624, 3) := dk_17 6 88 (dk_at dksX4_trialAt_0 0 rfl rfl)
theorem dX4_trialAt_3 : decode cX4_trialAt 3 = .ok (.bipush 9, 2) := dk_16 9 (dk_at dksX4_trialAt_0 3 rfl rfl)
theorem dX4_trialAt_5 : decode cX4_trialAt 5 = .ok (.iload_n 1, 1) := dk_27 (dk_at dksX4_trialAt_0 5 rfl rfl)
theorem dX4_trialAt_6 : decode cX4_trialAt 6 = .ok (.imul, 1) := dk_104 (dk_at dksX4_trialAt_0 6 rfl rfl)
theorem dX4_trialAt_7 : decode cX4_trialAt 7 = .ok (.iadd, 1) := dk_96 (dk_at dksX4_trialAt_0 7 rfl rfl)
theorem dX4_trialAt_8 : decode cX4_trialAt 8 = .ok (.ireturn, 1) := dk_172 (dk_at dksX4_trialAt_0 8 rfl rfl)
abbrev cX4_row : ByteArray := prog_24_method_39_code
def yX4_row : MethodName := ⟨RX4, "row", "(I)I"⟩
def dkwX4_row_11 : List UInt8 := [132, 4, 1, 21, 5, 29, 96, 54, 5, 167, 255, 43, 42, 21, 4, 182, 0, 82, 172]
abbrev dktX4_row_11 : List UInt8 := dkwX4_row_11 ++ []
def dkwX4_row_10 : List UInt8 := [42, 180, 0, 17, 27, 154, 0, 9, 17, 6, 218, 167, 0, 6, 17, 6, 219, 92, 46, 4, 96, 79]
abbrev dktX4_row_10 : List UInt8 := dkwX4_row_10 ++ dktX4_row_11
def dkwX4_row_9 : List UInt8 := [21, 8, 96, 42, 180, 0, 34, 21, 5, 21, 8, 96, 51, 17, 0, 255, 126, 79, 132, 8, 1, 167, 255, 223]
abbrev dktX4_row_9 : List UInt8 := dkwX4_row_9 ++ dktX4_row_10
def dkwX4_row_8 : List UInt8 := [17, 6, 219, 46, 182, 0, 133, 54, 7, 3, 54, 8, 21, 8, 29, 162, 0, 33, 42, 180, 0, 17, 21, 7]
abbrev dktX4_row_8 : List UInt8 := dkwX4_row_8 ++ dktX4_row_9
def dkwX4_row_7 : List UInt8 := [27, 154, 0, 18, 42, 42, 180, 0, 17, 17, 6, 218, 46, 182, 0, 130, 167, 0, 15, 42, 42, 180, 0, 17]
abbrev dktX4_row_7 : List UInt8 := dkwX4_row_7 ++ dktX4_row_8
def dkwX4_row_6 : List UInt8 := [153, 0, 7, 4, 167, 0, 4, 3, 54, 6, 132, 7, 1, 167, 255, 213, 21, 6, 154, 0, 6, 167, 0, 100]
abbrev dktX4_row_6 : List UInt8 := dkwX4_row_6 ++ dktX4_row_7
def dkwX4_row_5 : List UInt8 := [153, 0, 29, 21, 7, 42, 180, 0, 34, 21, 5, 21, 7, 96, 51, 17, 0, 255, 126, 184, 0, 139]
abbrev dktX4_row_5 : List UInt8 := dkwX4_row_5 ++ dktX4_row_6
def dkwX4_row_4 : List UInt8 := [46, 16, 12, 162, 0, 7, 4, 167, 0, 4, 3, 54, 6, 3, 54, 7, 21, 7, 29, 162, 0, 43, 21, 6]
abbrev dktX4_row_4 : List UInt8 := dkwX4_row_4 ++ dktX4_row_5
def dkwX4_row_3 : List UInt8 := [17, 6, 218, 46, 16, 40, 162, 0, 7, 4, 167, 0, 25, 3, 167, 0, 21, 42, 180, 0, 17, 17, 6, 219]
abbrev dktX4_row_3 : List UInt8 := dkwX4_row_3 ++ dktX4_row_4
def dkwX4_row_2 : List UInt8 := [3, 54, 4, 3, 54, 5, 21, 5, 29, 96, 28, 163, 0, 211, 27, 154, 0, 24, 42, 180, 0, 17]
abbrev dktX4_row_2 : List UInt8 := dkwX4_row_2 ++ dktX4_row_3
def dkwX4_row_1 : List UInt8 := [172, 28, 154, 0, 10, 42, 16, 250, 182, 0, 78, 172, 27, 154, 0, 8, 16, 10, 167, 0, 5, 16, 9, 62]
abbrev dktX4_row_1 : List UInt8 := dkwX4_row_1 ++ dktX4_row_2
def dkwX4_row_0 : List UInt8 := [42, 180, 0, 136, 61, 42, 3, 181, 0, 136, 27, 3, 4, 184, 0, 74, 154, 0, 9, 42, 2, 182, 0, 78]
abbrev dktX4_row_0 : List UInt8 := dkwX4_row_0 ++ dktX4_row_1
theorem dksX4_row_0 : cX4_row.data.toList.drop 0 = dktX4_row_0 := by decide +kernel
theorem dksX4_row_1 : cX4_row.data.toList.drop 24 = dktX4_row_1 := dk_seg dksX4_row_0 24 rfl rfl
theorem dksX4_row_2 : cX4_row.data.toList.drop 48 = dktX4_row_2 := dk_seg dksX4_row_1 24 rfl rfl
theorem dksX4_row_3 : cX4_row.data.toList.drop 70 = dktX4_row_3 := dk_seg dksX4_row_2 22 rfl rfl
theorem dksX4_row_4 : cX4_row.data.toList.drop 94 = dktX4_row_4 := dk_seg dksX4_row_3 24 rfl rfl
theorem dksX4_row_5 : cX4_row.data.toList.drop 118 = dktX4_row_5 := dk_seg dksX4_row_4 24 rfl rfl
theorem dksX4_row_6 : cX4_row.data.toList.drop 140 = dktX4_row_6 := dk_seg dksX4_row_5 22 rfl rfl
theorem dksX4_row_7 : cX4_row.data.toList.drop 164 = dktX4_row_7 := dk_seg dksX4_row_6 24 rfl rfl
theorem dksX4_row_8 : cX4_row.data.toList.drop 188 = dktX4_row_8 := dk_seg dksX4_row_7 24 rfl rfl
theorem dksX4_row_9 : cX4_row.data.toList.drop 212 = dktX4_row_9 := dk_seg dksX4_row_8 24 rfl rfl
theorem dksX4_row_10 : cX4_row.data.toList.drop 236 = dktX4_row_10 := dk_seg dksX4_row_9 24 rfl rfl
theorem dksX4_row_11 : cX4_row.data.toList.drop 258 = dktX4_row_11 := dk_seg dksX4_row_10 22 rfl rfl
theorem dX4_row_0 : decode cX4_row 0 = .ok (.aload_n 0, 1) := dk_42 (dk_at dksX4_row_0 0 rfl rfl)
theorem dX4_row_1 : decode cX4_row 1 = .ok (.getfield 136, 3) := dk_180 0 136 (dk_at dksX4_row_0 1 rfl rfl)
theorem dX4_row_4 : decode cX4_row 4 = .ok (.istore_n 2, 1) := dk_61 (dk_at dksX4_row_0 4 rfl rfl)
theorem dX4_row_5 : decode cX4_row 5 = .ok (.aload_n 0, 1) := dk_42 (dk_at dksX4_row_0 5 rfl rfl)
theorem dX4_row_6 : decode cX4_row 6 = .ok (.iconst 0, 1) := dk_3 (dk_at dksX4_row_0 6 rfl rfl)
theorem dX4_row_7 : decode cX4_row 7 = .ok (.putfield 136, 3) := dk_181 0 136 (dk_at dksX4_row_0 7 rfl rfl)
theorem dX4_row_10 : decode cX4_row 10 = .ok (.iload_n 1, 1) := dk_27 (dk_at dksX4_row_0 10 rfl rfl)
theorem dX4_row_11 : decode cX4_row 11 = .ok (.iconst 0, 1) := dk_3 (dk_at dksX4_row_0 11 rfl rfl)
theorem dX4_row_12 : decode cX4_row 12 = .ok (.iconst 1, 1) := dk_4 (dk_at dksX4_row_0 12 rfl rfl)
theorem dX4_row_13 : decode cX4_row 13 = .ok (.invokestatic 74, 3) := dk_184 0 74 (dk_at dksX4_row_0 13 rfl rfl)
theorem dX4_row_16 : decode cX4_row 16 = .ok (.ifCond .ne 9, 3) := dk_154 0 9 (dk_at dksX4_row_0 16 rfl rfl)
theorem dX4_row_19 : decode cX4_row 19 = .ok (.aload_n 0, 1) := dk_42 (dk_at dksX4_row_0 19 rfl rfl)
theorem dX4_row_20 : decode cX4_row 20 = .ok (.iconst (-1), 1) := dk_2 (dk_at dksX4_row_0 20 rfl rfl)
theorem dX4_row_21 : decode cX4_row 21 = .ok (.invokevirtual 78, 3) := dk_182 0 78 (dk_at dksX4_row_0 21 rfl rfl)
theorem dX4_row_24 : decode cX4_row 24 = .ok (.ireturn, 1) := dk_172 (dk_at dksX4_row_1 0 rfl rfl)
theorem dX4_row_25 : decode cX4_row 25 = .ok (.iload_n 2, 1) := dk_28 (dk_at dksX4_row_1 1 rfl rfl)
theorem dX4_row_26 : decode cX4_row 26 = .ok (.ifCond .ne 10, 3) := dk_154 0 10 (dk_at dksX4_row_1 2 rfl rfl)
theorem dX4_row_29 : decode cX4_row 29 = .ok (.aload_n 0, 1) := dk_42 (dk_at dksX4_row_1 5 rfl rfl)
theorem dX4_row_30 : decode cX4_row 30 = .ok (.bipush (-6), 2) := dk_16 250 (dk_at dksX4_row_1 6 rfl rfl)
theorem dX4_row_32 : decode cX4_row 32 = .ok (.invokevirtual 78, 3) := dk_182 0 78 (dk_at dksX4_row_1 8 rfl rfl)
theorem dX4_row_35 : decode cX4_row 35 = .ok (.ireturn, 1) := dk_172 (dk_at dksX4_row_1 11 rfl rfl)
theorem dX4_row_36 : decode cX4_row 36 = .ok (.iload_n 1, 1) := dk_27 (dk_at dksX4_row_1 12 rfl rfl)
theorem dX4_row_37 : decode cX4_row 37 = .ok (.ifCond .ne 8, 3) := dk_154 0 8 (dk_at dksX4_row_1 13 rfl rfl)
theorem dX4_row_40 : decode cX4_row 40 = .ok (.bipush 10, 2) := dk_16 10 (dk_at dksX4_row_1 16 rfl rfl)
theorem dX4_row_42 : decode cX4_row 42 = .ok (.goto 5, 3) := dk_167 0 5 (dk_at dksX4_row_1 18 rfl rfl)
theorem dX4_row_45 : decode cX4_row 45 = .ok (.bipush 9, 2) := dk_16 9 (dk_at dksX4_row_1 21 rfl rfl)
theorem dX4_row_47 : decode cX4_row 47 = .ok (.istore_n 3, 1) := dk_62 (dk_at dksX4_row_1 23 rfl rfl)
theorem dX4_row_48 : decode cX4_row 48 = .ok (.iconst 0, 1) := dk_3 (dk_at dksX4_row_2 0 rfl rfl)
theorem dX4_row_49 : decode cX4_row 49 = .ok (.istore 4, 2) := dk_54 4 (dk_at dksX4_row_2 1 rfl rfl)
theorem dX4_row_51 : decode cX4_row 51 = .ok (.iconst 0, 1) := dk_3 (dk_at dksX4_row_2 3 rfl rfl)
theorem dX4_row_52 : decode cX4_row 52 = .ok (.istore 5, 2) := dk_54 5 (dk_at dksX4_row_2 4 rfl rfl)
theorem dX4_row_54 : decode cX4_row 54 = .ok (.iload 5, 2) := dk_21 5 (dk_at dksX4_row_2 6 rfl rfl)
theorem dX4_row_56 : decode cX4_row 56 = .ok (.iload_n 3, 1) := dk_29 (dk_at dksX4_row_2 8 rfl rfl)
theorem dX4_row_57 : decode cX4_row 57 = .ok (.iadd, 1) := dk_96 (dk_at dksX4_row_2 9 rfl rfl)
theorem dX4_row_58 : decode cX4_row 58 = .ok (.iload_n 2, 1) := dk_28 (dk_at dksX4_row_2 10 rfl rfl)
theorem dX4_row_59 : decode cX4_row 59 = .ok (.if_icmp .gt 211, 3) := dk_163 0 211 (dk_at dksX4_row_2 11 rfl rfl)
theorem dX4_row_62 : decode cX4_row 62 = .ok (.iload_n 1, 1) := dk_27 (dk_at dksX4_row_2 14 rfl rfl)
theorem dX4_row_63 : decode cX4_row 63 = .ok (.ifCond .ne 24, 3) := dk_154 0 24 (dk_at dksX4_row_2 15 rfl rfl)
theorem dX4_row_66 : decode cX4_row 66 = .ok (.aload_n 0, 1) := dk_42 (dk_at dksX4_row_2 18 rfl rfl)
theorem dX4_row_67 : decode cX4_row 67 = .ok (.getfield 17, 3) := dk_180 0 17 (dk_at dksX4_row_2 19 rfl rfl)
theorem dX4_row_70 : decode cX4_row 70 = .ok (.sipush 1754, 3) := dk_17 6 218 (dk_at dksX4_row_3 0 rfl rfl)
theorem dX4_row_73 : decode cX4_row 73 = .ok (.iaload, 1) := dk_46 (dk_at dksX4_row_3 3 rfl rfl)
theorem dX4_row_74 : decode cX4_row 74 = .ok (.bipush 40, 2) := dk_16 40 (dk_at dksX4_row_3 4 rfl rfl)
theorem dX4_row_76 : decode cX4_row 76 = .ok (.if_icmp .ge 7, 3) := dk_162 0 7 (dk_at dksX4_row_3 6 rfl rfl)
theorem dX4_row_79 : decode cX4_row 79 = .ok (.iconst 1, 1) := dk_4 (dk_at dksX4_row_3 9 rfl rfl)
theorem dX4_row_80 : decode cX4_row 80 = .ok (.goto 25, 3) := dk_167 0 25 (dk_at dksX4_row_3 10 rfl rfl)
theorem dX4_row_83 : decode cX4_row 83 = .ok (.iconst 0, 1) := dk_3 (dk_at dksX4_row_3 13 rfl rfl)
theorem dX4_row_84 : decode cX4_row 84 = .ok (.goto 21, 3) := dk_167 0 21 (dk_at dksX4_row_3 14 rfl rfl)
theorem dX4_row_87 : decode cX4_row 87 = .ok (.aload_n 0, 1) := dk_42 (dk_at dksX4_row_3 17 rfl rfl)
theorem dX4_row_88 : decode cX4_row 88 = .ok (.getfield 17, 3) := dk_180 0 17 (dk_at dksX4_row_3 18 rfl rfl)
theorem dX4_row_91 : decode cX4_row 91 = .ok (.sipush 1755, 3) := dk_17 6 219 (dk_at dksX4_row_3 21 rfl rfl)
theorem dX4_row_94 : decode cX4_row 94 = .ok (.iaload, 1) := dk_46 (dk_at dksX4_row_4 0 rfl rfl)
theorem dX4_row_95 : decode cX4_row 95 = .ok (.bipush 12, 2) := dk_16 12 (dk_at dksX4_row_4 1 rfl rfl)
theorem dX4_row_97 : decode cX4_row 97 = .ok (.if_icmp .ge 7, 3) := dk_162 0 7 (dk_at dksX4_row_4 3 rfl rfl)
theorem dX4_row_100 : decode cX4_row 100 = .ok (.iconst 1, 1) := dk_4 (dk_at dksX4_row_4 6 rfl rfl)
theorem dX4_row_101 : decode cX4_row 101 = .ok (.goto 4, 3) := dk_167 0 4 (dk_at dksX4_row_4 7 rfl rfl)
theorem dX4_row_104 : decode cX4_row 104 = .ok (.iconst 0, 1) := dk_3 (dk_at dksX4_row_4 10 rfl rfl)
theorem dX4_row_105 : decode cX4_row 105 = .ok (.istore 6, 2) := dk_54 6 (dk_at dksX4_row_4 11 rfl rfl)
theorem dX4_row_107 : decode cX4_row 107 = .ok (.iconst 0, 1) := dk_3 (dk_at dksX4_row_4 13 rfl rfl)
theorem dX4_row_108 : decode cX4_row 108 = .ok (.istore 7, 2) := dk_54 7 (dk_at dksX4_row_4 14 rfl rfl)
theorem dX4_row_110 : decode cX4_row 110 = .ok (.iload 7, 2) := dk_21 7 (dk_at dksX4_row_4 16 rfl rfl)
theorem dX4_row_112 : decode cX4_row 112 = .ok (.iload_n 3, 1) := dk_29 (dk_at dksX4_row_4 18 rfl rfl)
theorem dX4_row_113 : decode cX4_row 113 = .ok (.if_icmp .ge 43, 3) := dk_162 0 43 (dk_at dksX4_row_4 19 rfl rfl)
theorem dX4_row_116 : decode cX4_row 116 = .ok (.iload 6, 2) := dk_21 6 (dk_at dksX4_row_4 22 rfl rfl)
theorem dX4_row_118 : decode cX4_row 118 = .ok (.ifCond .eq 29, 3) := dk_153 0 29 (dk_at dksX4_row_5 0 rfl rfl)
theorem dX4_row_121 : decode cX4_row 121 = .ok (.iload 7, 2) := dk_21 7 (dk_at dksX4_row_5 3 rfl rfl)
theorem dX4_row_123 : decode cX4_row 123 = .ok (.aload_n 0, 1) := dk_42 (dk_at dksX4_row_5 5 rfl rfl)
theorem dX4_row_124 : decode cX4_row 124 = .ok (.getfield 34, 3) := dk_180 0 34 (dk_at dksX4_row_5 6 rfl rfl)
theorem dX4_row_127 : decode cX4_row 127 = .ok (.iload 5, 2) := dk_21 5 (dk_at dksX4_row_5 9 rfl rfl)
theorem dX4_row_129 : decode cX4_row 129 = .ok (.iload 7, 2) := dk_21 7 (dk_at dksX4_row_5 11 rfl rfl)
theorem dX4_row_131 : decode cX4_row 131 = .ok (.iadd, 1) := dk_96 (dk_at dksX4_row_5 13 rfl rfl)
theorem dX4_row_132 : decode cX4_row 132 = .ok (.baload, 1) := dk_51 (dk_at dksX4_row_5 14 rfl rfl)
theorem dX4_row_133 : decode cX4_row 133 = .ok (.sipush 255, 3) := dk_17 0 255 (dk_at dksX4_row_5 15 rfl rfl)
theorem dX4_row_136 : decode cX4_row 136 = .ok (.iand, 1) := dk_126 (dk_at dksX4_row_5 18 rfl rfl)
theorem dX4_row_137 : decode cX4_row 137 = .ok (.invokestatic 139, 3) := dk_184 0 139 (dk_at dksX4_row_5 19 rfl rfl)
theorem dX4_row_140 : decode cX4_row 140 = .ok (.ifCond .eq 7, 3) := dk_153 0 7 (dk_at dksX4_row_6 0 rfl rfl)
theorem dX4_row_143 : decode cX4_row 143 = .ok (.iconst 1, 1) := dk_4 (dk_at dksX4_row_6 3 rfl rfl)
theorem dX4_row_144 : decode cX4_row 144 = .ok (.goto 4, 3) := dk_167 0 4 (dk_at dksX4_row_6 4 rfl rfl)
theorem dX4_row_147 : decode cX4_row 147 = .ok (.iconst 0, 1) := dk_3 (dk_at dksX4_row_6 7 rfl rfl)
theorem dX4_row_148 : decode cX4_row 148 = .ok (.istore 6, 2) := dk_54 6 (dk_at dksX4_row_6 8 rfl rfl)
theorem dX4_row_150 : decode cX4_row 150 = .ok (.iinc 7 1, 3) := dk_132 7 1 (dk_at dksX4_row_6 10 rfl rfl)
theorem dX4_row_153 : decode cX4_row 153 = .ok (.goto (-43), 3) := dk_167 255 213 (dk_at dksX4_row_6 13 rfl rfl)
theorem dX4_row_156 : decode cX4_row 156 = .ok (.iload 6, 2) := dk_21 6 (dk_at dksX4_row_6 16 rfl rfl)
theorem dX4_row_158 : decode cX4_row 158 = .ok (.ifCond .ne 6, 3) := dk_154 0 6 (dk_at dksX4_row_6 18 rfl rfl)
theorem dX4_row_161 : decode cX4_row 161 = .ok (.goto 100, 3) := dk_167 0 100 (dk_at dksX4_row_6 21 rfl rfl)
theorem dX4_row_164 : decode cX4_row 164 = .ok (.iload_n 1, 1) := dk_27 (dk_at dksX4_row_7 0 rfl rfl)
theorem dX4_row_165 : decode cX4_row 165 = .ok (.ifCond .ne 18, 3) := dk_154 0 18 (dk_at dksX4_row_7 1 rfl rfl)
theorem dX4_row_168 : decode cX4_row 168 = .ok (.aload_n 0, 1) := dk_42 (dk_at dksX4_row_7 4 rfl rfl)
theorem dX4_row_169 : decode cX4_row 169 = .ok (.aload_n 0, 1) := dk_42 (dk_at dksX4_row_7 5 rfl rfl)
theorem dX4_row_170 : decode cX4_row 170 = .ok (.getfield 17, 3) := dk_180 0 17 (dk_at dksX4_row_7 6 rfl rfl)
theorem dX4_row_173 : decode cX4_row 173 = .ok (.sipush 1754, 3) := dk_17 6 218 (dk_at dksX4_row_7 9 rfl rfl)
theorem dX4_row_176 : decode cX4_row 176 = .ok (.iaload, 1) := dk_46 (dk_at dksX4_row_7 12 rfl rfl)
theorem dX4_row_177 : decode cX4_row 177 = .ok (.invokevirtual 130, 3) := dk_182 0 130 (dk_at dksX4_row_7 13 rfl rfl)
theorem dX4_row_180 : decode cX4_row 180 = .ok (.goto 15, 3) := dk_167 0 15 (dk_at dksX4_row_7 16 rfl rfl)
theorem dX4_row_183 : decode cX4_row 183 = .ok (.aload_n 0, 1) := dk_42 (dk_at dksX4_row_7 19 rfl rfl)
theorem dX4_row_184 : decode cX4_row 184 = .ok (.aload_n 0, 1) := dk_42 (dk_at dksX4_row_7 20 rfl rfl)
theorem dX4_row_185 : decode cX4_row 185 = .ok (.getfield 17, 3) := dk_180 0 17 (dk_at dksX4_row_7 21 rfl rfl)
theorem dX4_row_188 : decode cX4_row 188 = .ok (.sipush 1755, 3) := dk_17 6 219 (dk_at dksX4_row_8 0 rfl rfl)
theorem dX4_row_191 : decode cX4_row 191 = .ok (.iaload, 1) := dk_46 (dk_at dksX4_row_8 3 rfl rfl)
theorem dX4_row_192 : decode cX4_row 192 = .ok (.invokevirtual 133, 3) := dk_182 0 133 (dk_at dksX4_row_8 4 rfl rfl)
theorem dX4_row_195 : decode cX4_row 195 = .ok (.istore 7, 2) := dk_54 7 (dk_at dksX4_row_8 7 rfl rfl)
theorem dX4_row_197 : decode cX4_row 197 = .ok (.iconst 0, 1) := dk_3 (dk_at dksX4_row_8 9 rfl rfl)
theorem dX4_row_198 : decode cX4_row 198 = .ok (.istore 8, 2) := dk_54 8 (dk_at dksX4_row_8 10 rfl rfl)
theorem dX4_row_200 : decode cX4_row 200 = .ok (.iload 8, 2) := dk_21 8 (dk_at dksX4_row_8 12 rfl rfl)
theorem dX4_row_202 : decode cX4_row 202 = .ok (.iload_n 3, 1) := dk_29 (dk_at dksX4_row_8 14 rfl rfl)
theorem dX4_row_203 : decode cX4_row 203 = .ok (.if_icmp .ge 33, 3) := dk_162 0 33 (dk_at dksX4_row_8 15 rfl rfl)
theorem dX4_row_206 : decode cX4_row 206 = .ok (.aload_n 0, 1) := dk_42 (dk_at dksX4_row_8 18 rfl rfl)
theorem dX4_row_207 : decode cX4_row 207 = .ok (.getfield 17, 3) := dk_180 0 17 (dk_at dksX4_row_8 19 rfl rfl)
theorem dX4_row_210 : decode cX4_row 210 = .ok (.iload 7, 2) := dk_21 7 (dk_at dksX4_row_8 22 rfl rfl)
theorem dX4_row_212 : decode cX4_row 212 = .ok (.iload 8, 2) := dk_21 8 (dk_at dksX4_row_9 0 rfl rfl)
theorem dX4_row_214 : decode cX4_row 214 = .ok (.iadd, 1) := dk_96 (dk_at dksX4_row_9 2 rfl rfl)
theorem dX4_row_215 : decode cX4_row 215 = .ok (.aload_n 0, 1) := dk_42 (dk_at dksX4_row_9 3 rfl rfl)
theorem dX4_row_216 : decode cX4_row 216 = .ok (.getfield 34, 3) := dk_180 0 34 (dk_at dksX4_row_9 4 rfl rfl)
theorem dX4_row_219 : decode cX4_row 219 = .ok (.iload 5, 2) := dk_21 5 (dk_at dksX4_row_9 7 rfl rfl)
theorem dX4_row_221 : decode cX4_row 221 = .ok (.iload 8, 2) := dk_21 8 (dk_at dksX4_row_9 9 rfl rfl)
theorem dX4_row_223 : decode cX4_row 223 = .ok (.iadd, 1) := dk_96 (dk_at dksX4_row_9 11 rfl rfl)
theorem dX4_row_224 : decode cX4_row 224 = .ok (.baload, 1) := dk_51 (dk_at dksX4_row_9 12 rfl rfl)
theorem dX4_row_225 : decode cX4_row 225 = .ok (.sipush 255, 3) := dk_17 0 255 (dk_at dksX4_row_9 13 rfl rfl)
theorem dX4_row_228 : decode cX4_row 228 = .ok (.iand, 1) := dk_126 (dk_at dksX4_row_9 16 rfl rfl)
theorem dX4_row_229 : decode cX4_row 229 = .ok (.iastore, 1) := dk_79 (dk_at dksX4_row_9 17 rfl rfl)
theorem dX4_row_230 : decode cX4_row 230 = .ok (.iinc 8 1, 3) := dk_132 8 1 (dk_at dksX4_row_9 18 rfl rfl)
theorem dX4_row_233 : decode cX4_row 233 = .ok (.goto (-33), 3) := dk_167 255 223 (dk_at dksX4_row_9 21 rfl rfl)
theorem dX4_row_236 : decode cX4_row 236 = .ok (.aload_n 0, 1) := dk_42 (dk_at dksX4_row_10 0 rfl rfl)
theorem dX4_row_237 : decode cX4_row 237 = .ok (.getfield 17, 3) := dk_180 0 17 (dk_at dksX4_row_10 1 rfl rfl)
theorem dX4_row_240 : decode cX4_row 240 = .ok (.iload_n 1, 1) := dk_27 (dk_at dksX4_row_10 4 rfl rfl)
theorem dX4_row_241 : decode cX4_row 241 = .ok (.ifCond .ne 9, 3) := dk_154 0 9 (dk_at dksX4_row_10 5 rfl rfl)
theorem dX4_row_244 : decode cX4_row 244 = .ok (.sipush 1754, 3) := dk_17 6 218 (dk_at dksX4_row_10 8 rfl rfl)
theorem dX4_row_247 : decode cX4_row 247 = .ok (.goto 6, 3) := dk_167 0 6 (dk_at dksX4_row_10 11 rfl rfl)
theorem dX4_row_250 : decode cX4_row 250 = .ok (.sipush 1755, 3) := dk_17 6 219 (dk_at dksX4_row_10 14 rfl rfl)
theorem dX4_row_253 : decode cX4_row 253 = .ok (.dup2, 1) := dk_92 (dk_at dksX4_row_10 17 rfl rfl)
theorem dX4_row_254 : decode cX4_row 254 = .ok (.iaload, 1) := dk_46 (dk_at dksX4_row_10 18 rfl rfl)
theorem dX4_row_255 : decode cX4_row 255 = .ok (.iconst 1, 1) := dk_4 (dk_at dksX4_row_10 19 rfl rfl)
theorem dX4_row_256 : decode cX4_row 256 = .ok (.iadd, 1) := dk_96 (dk_at dksX4_row_10 20 rfl rfl)
theorem dX4_row_257 : decode cX4_row 257 = .ok (.iastore, 1) := dk_79 (dk_at dksX4_row_10 21 rfl rfl)
theorem dX4_row_258 : decode cX4_row 258 = .ok (.iinc 4 1, 3) := dk_132 4 1 (dk_at dksX4_row_11 0 rfl rfl)
theorem dX4_row_261 : decode cX4_row 261 = .ok (.iload 5, 2) := dk_21 5 (dk_at dksX4_row_11 3 rfl rfl)
theorem dX4_row_263 : decode cX4_row 263 = .ok (.iload_n 3, 1) := dk_29 (dk_at dksX4_row_11 5 rfl rfl)
theorem dX4_row_264 : decode cX4_row 264 = .ok (.iadd, 1) := dk_96 (dk_at dksX4_row_11 6 rfl rfl)
theorem dX4_row_265 : decode cX4_row 265 = .ok (.istore 5, 2) := dk_54 5 (dk_at dksX4_row_11 7 rfl rfl)
theorem dX4_row_267 : decode cX4_row 267 = .ok (.goto (-213), 3) := dk_167 255 43 (dk_at dksX4_row_11 9 rfl rfl)
theorem dX4_row_270 : decode cX4_row 270 = .ok (.aload_n 0, 1) := dk_42 (dk_at dksX4_row_11 12 rfl rfl)
theorem dX4_row_271 : decode cX4_row 271 = .ok (.iload 4, 2) := dk_21 4 (dk_at dksX4_row_11 13 rfl rfl)
theorem dX4_row_273 : decode cX4_row 273 = .ok (.invokevirtual 82, 3) := dk_182 0 82 (dk_at dksX4_row_11 15 rfl rfl)
theorem dX4_row_276 : decode cX4_row 276 = .ok (.ireturn, 1) := dk_172 (dk_at dksX4_row_11 18 rfl rfl)
abbrev cX4_isCase : ByteArray := prog_24_method_38_code
def yX4_isCase : MethodName := ⟨RX4, "isCase", "(II)Z"⟩
def dkwX4_isCase_3 : List UInt8 := [167, 0, 4, 3, 172]
abbrev dktX4_isCase_3 : List UInt8 := dkwX4_isCase_3 ++ []
def dkwX4_isCase_2 : List UInt8 := [160, 0, 7, 6, 167, 0, 16, 26, 16, 9, 160, 0, 7, 4, 167, 0, 6, 17, 0, 255, 163, 0, 7, 4]
abbrev dktX4_isCase_2 : List UInt8 := dkwX4_isCase_2 ++ dktX4_isCase_3
def dkwX4_isCase_1 : List UInt8 := [26, 8, 160, 0, 8, 16, 11, 167, 0, 36, 26, 16, 7, 160, 0, 7, 4, 167, 0, 26, 26, 16, 8]
abbrev dktX4_isCase_1 : List UInt8 := dkwX4_isCase_1 ++ dktX4_isCase_2
def dkwX4_isCase_0 : List UInt8 := [27, 26, 153, 0, 8, 26, 4, 160, 0, 7, 8, 167, 0, 56, 26, 5, 160, 0, 8, 16, 7, 167, 0, 46]
abbrev dktX4_isCase_0 : List UInt8 := dkwX4_isCase_0 ++ dktX4_isCase_1
theorem dksX4_isCase_0 : cX4_isCase.data.toList.drop 0 = dktX4_isCase_0 := by decide +kernel
theorem dksX4_isCase_1 : cX4_isCase.data.toList.drop 24 = dktX4_isCase_1 := dk_seg dksX4_isCase_0 24 rfl rfl
theorem dksX4_isCase_2 : cX4_isCase.data.toList.drop 47 = dktX4_isCase_2 := dk_seg dksX4_isCase_1 23 rfl rfl
theorem dksX4_isCase_3 : cX4_isCase.data.toList.drop 71 = dktX4_isCase_3 := dk_seg dksX4_isCase_2 24 rfl rfl
theorem dX4_isCase_0 : decode cX4_isCase 0 = .ok (.iload_n 1, 1) := dk_27 (dk_at dksX4_isCase_0 0 rfl rfl)
theorem dX4_isCase_1 : decode cX4_isCase 1 = .ok (.iload_n 0, 1) := dk_26 (dk_at dksX4_isCase_0 1 rfl rfl)
theorem dX4_isCase_2 : decode cX4_isCase 2 = .ok (.ifCond .eq 8, 3) := dk_153 0 8 (dk_at dksX4_isCase_0 2 rfl rfl)
theorem dX4_isCase_5 : decode cX4_isCase 5 = .ok (.iload_n 0, 1) := dk_26 (dk_at dksX4_isCase_0 5 rfl rfl)
theorem dX4_isCase_6 : decode cX4_isCase 6 = .ok (.iconst 1, 1) := dk_4 (dk_at dksX4_isCase_0 6 rfl rfl)
theorem dX4_isCase_7 : decode cX4_isCase 7 = .ok (.if_icmp .ne 7, 3) := dk_160 0 7 (dk_at dksX4_isCase_0 7 rfl rfl)
theorem dX4_isCase_10 : decode cX4_isCase 10 = .ok (.iconst 5, 1) := dk_8 (dk_at dksX4_isCase_0 10 rfl rfl)
theorem dX4_isCase_11 : decode cX4_isCase 11 = .ok (.goto 56, 3) := dk_167 0 56 (dk_at dksX4_isCase_0 11 rfl rfl)
theorem dX4_isCase_14 : decode cX4_isCase 14 = .ok (.iload_n 0, 1) := dk_26 (dk_at dksX4_isCase_0 14 rfl rfl)
theorem dX4_isCase_15 : decode cX4_isCase 15 = .ok (.iconst 2, 1) := dk_5 (dk_at dksX4_isCase_0 15 rfl rfl)
theorem dX4_isCase_16 : decode cX4_isCase 16 = .ok (.if_icmp .ne 8, 3) := dk_160 0 8 (dk_at dksX4_isCase_0 16 rfl rfl)
theorem dX4_isCase_19 : decode cX4_isCase 19 = .ok (.bipush 7, 2) := dk_16 7 (dk_at dksX4_isCase_0 19 rfl rfl)
theorem dX4_isCase_21 : decode cX4_isCase 21 = .ok (.goto 46, 3) := dk_167 0 46 (dk_at dksX4_isCase_0 21 rfl rfl)
theorem dX4_isCase_24 : decode cX4_isCase 24 = .ok (.iload_n 0, 1) := dk_26 (dk_at dksX4_isCase_1 0 rfl rfl)
theorem dX4_isCase_25 : decode cX4_isCase 25 = .ok (.iconst 5, 1) := dk_8 (dk_at dksX4_isCase_1 1 rfl rfl)
theorem dX4_isCase_26 : decode cX4_isCase 26 = .ok (.if_icmp .ne 8, 3) := dk_160 0 8 (dk_at dksX4_isCase_1 2 rfl rfl)
theorem dX4_isCase_29 : decode cX4_isCase 29 = .ok (.bipush 11, 2) := dk_16 11 (dk_at dksX4_isCase_1 5 rfl rfl)
theorem dX4_isCase_31 : decode cX4_isCase 31 = .ok (.goto 36, 3) := dk_167 0 36 (dk_at dksX4_isCase_1 7 rfl rfl)
theorem dX4_isCase_34 : decode cX4_isCase 34 = .ok (.iload_n 0, 1) := dk_26 (dk_at dksX4_isCase_1 10 rfl rfl)
theorem dX4_isCase_35 : decode cX4_isCase 35 = .ok (.bipush 7, 2) := dk_16 7 (dk_at dksX4_isCase_1 11 rfl rfl)
theorem dX4_isCase_37 : decode cX4_isCase 37 = .ok (.if_icmp .ne 7, 3) := dk_160 0 7 (dk_at dksX4_isCase_1 13 rfl rfl)
theorem dX4_isCase_40 : decode cX4_isCase 40 = .ok (.iconst 1, 1) := dk_4 (dk_at dksX4_isCase_1 16 rfl rfl)
theorem dX4_isCase_41 : decode cX4_isCase 41 = .ok (.goto 26, 3) := dk_167 0 26 (dk_at dksX4_isCase_1 17 rfl rfl)
theorem dX4_isCase_44 : decode cX4_isCase 44 = .ok (.iload_n 0, 1) := dk_26 (dk_at dksX4_isCase_1 20 rfl rfl)
theorem dX4_isCase_45 : decode cX4_isCase 45 = .ok (.bipush 8, 2) := dk_16 8 (dk_at dksX4_isCase_1 21 rfl rfl)
theorem dX4_isCase_47 : decode cX4_isCase 47 = .ok (.if_icmp .ne 7, 3) := dk_160 0 7 (dk_at dksX4_isCase_2 0 rfl rfl)
theorem dX4_isCase_50 : decode cX4_isCase 50 = .ok (.iconst 3, 1) := dk_6 (dk_at dksX4_isCase_2 3 rfl rfl)
theorem dX4_isCase_51 : decode cX4_isCase 51 = .ok (.goto 16, 3) := dk_167 0 16 (dk_at dksX4_isCase_2 4 rfl rfl)
theorem dX4_isCase_54 : decode cX4_isCase 54 = .ok (.iload_n 0, 1) := dk_26 (dk_at dksX4_isCase_2 7 rfl rfl)
theorem dX4_isCase_55 : decode cX4_isCase 55 = .ok (.bipush 9, 2) := dk_16 9 (dk_at dksX4_isCase_2 8 rfl rfl)
theorem dX4_isCase_57 : decode cX4_isCase 57 = .ok (.if_icmp .ne 7, 3) := dk_160 0 7 (dk_at dksX4_isCase_2 10 rfl rfl)
theorem dX4_isCase_60 : decode cX4_isCase 60 = .ok (.iconst 1, 1) := dk_4 (dk_at dksX4_isCase_2 13 rfl rfl)
theorem dX4_isCase_61 : decode cX4_isCase 61 = .ok (.goto 6, 3) := dk_167 0 6 (dk_at dksX4_isCase_2 14 rfl rfl)
theorem dX4_isCase_64 : decode cX4_isCase 64 = .ok (.sipush 255, 3) := dk_17 0 255 (dk_at dksX4_isCase_2 17 rfl rfl)
theorem dX4_isCase_67 : decode cX4_isCase 67 = .ok (.if_icmp .gt 7, 3) := dk_163 0 7 (dk_at dksX4_isCase_2 20 rfl rfl)
theorem dX4_isCase_70 : decode cX4_isCase 70 = .ok (.iconst 1, 1) := dk_4 (dk_at dksX4_isCase_2 23 rfl rfl)
theorem dX4_isCase_71 : decode cX4_isCase 71 = .ok (.goto 4, 3) := dk_167 0 4 (dk_at dksX4_isCase_3 0 rfl rfl)
theorem dX4_isCase_74 : decode cX4_isCase 74 = .ok (.iconst 0, 1) := dk_3 (dk_at dksX4_isCase_3 3 rfl rfl)
theorem dX4_isCase_75 : decode cX4_isCase 75 = .ok (.ireturn, 1) := dk_172 (dk_at dksX4_isCase_3 4 rfl rfl)
abbrev cX4_of : ByteArray := prog_24_method_40_code
def yX4_of : MethodName := ⟨RX4, "of", "(III)I"⟩
def dkwX4_of_3 : List UInt8 := [42, 28, 182, 0, 133, 29, 96, 46, 172]
abbrev dktX4_of_3 : List UInt8 := dkwX4_of_3 ++ []
def dkwX4_of_2 : List UInt8 := [182, 0, 145, 154, 0, 5, 2, 172, 42, 180, 0, 17, 27, 154, 0, 11, 42, 28, 182, 0, 130, 167, 0, 8]
abbrev dktX4_of_2 : List UInt8 := dkwX4_of_2 ++ dktX4_of_3
def dkwX4_of_1 : List UInt8 := [184, 0, 74, 153, 0, 26, 27, 154, 0, 14, 42, 28, 182, 0, 142, 154, 0, 16, 167, 0, 11, 42, 28]
abbrev dktX4_of_1 : List UInt8 := dkwX4_of_1 ++ dktX4_of_2
def dkwX4_of_0 : List UInt8 := [27, 3, 4, 184, 0, 74, 153, 0, 45, 29, 3, 27, 154, 0, 8, 16, 9, 167, 0, 5, 16, 8]
abbrev dktX4_of_0 : List UInt8 := dkwX4_of_0 ++ dktX4_of_1
theorem dksX4_of_0 : cX4_of.data.toList.drop 0 = dktX4_of_0 := by decide +kernel
theorem dksX4_of_1 : cX4_of.data.toList.drop 22 = dktX4_of_1 := dk_seg dksX4_of_0 22 rfl rfl
theorem dksX4_of_2 : cX4_of.data.toList.drop 45 = dktX4_of_2 := dk_seg dksX4_of_1 23 rfl rfl
theorem dksX4_of_3 : cX4_of.data.toList.drop 69 = dktX4_of_3 := dk_seg dksX4_of_2 24 rfl rfl
theorem dX4_of_0 : decode cX4_of 0 = .ok (.iload_n 1, 1) := dk_27 (dk_at dksX4_of_0 0 rfl rfl)
theorem dX4_of_1 : decode cX4_of 1 = .ok (.iconst 0, 1) := dk_3 (dk_at dksX4_of_0 1 rfl rfl)
theorem dX4_of_2 : decode cX4_of 2 = .ok (.iconst 1, 1) := dk_4 (dk_at dksX4_of_0 2 rfl rfl)
theorem dX4_of_3 : decode cX4_of 3 = .ok (.invokestatic 74, 3) := dk_184 0 74 (dk_at dksX4_of_0 3 rfl rfl)
theorem dX4_of_6 : decode cX4_of 6 = .ok (.ifCond .eq 45, 3) := dk_153 0 45 (dk_at dksX4_of_0 6 rfl rfl)
theorem dX4_of_9 : decode cX4_of 9 = .ok (.iload_n 3, 1) := dk_29 (dk_at dksX4_of_0 9 rfl rfl)
theorem dX4_of_10 : decode cX4_of 10 = .ok (.iconst 0, 1) := dk_3 (dk_at dksX4_of_0 10 rfl rfl)
theorem dX4_of_11 : decode cX4_of 11 = .ok (.iload_n 1, 1) := dk_27 (dk_at dksX4_of_0 11 rfl rfl)
theorem dX4_of_12 : decode cX4_of 12 = .ok (.ifCond .ne 8, 3) := dk_154 0 8 (dk_at dksX4_of_0 12 rfl rfl)
theorem dX4_of_15 : decode cX4_of 15 = .ok (.bipush 9, 2) := dk_16 9 (dk_at dksX4_of_0 15 rfl rfl)
theorem dX4_of_17 : decode cX4_of 17 = .ok (.goto 5, 3) := dk_167 0 5 (dk_at dksX4_of_0 17 rfl rfl)
theorem dX4_of_20 : decode cX4_of 20 = .ok (.bipush 8, 2) := dk_16 8 (dk_at dksX4_of_0 20 rfl rfl)
theorem dX4_of_22 : decode cX4_of 22 = .ok (.invokestatic 74, 3) := dk_184 0 74 (dk_at dksX4_of_1 0 rfl rfl)
theorem dX4_of_25 : decode cX4_of 25 = .ok (.ifCond .eq 26, 3) := dk_153 0 26 (dk_at dksX4_of_1 3 rfl rfl)
theorem dX4_of_28 : decode cX4_of 28 = .ok (.iload_n 1, 1) := dk_27 (dk_at dksX4_of_1 6 rfl rfl)
theorem dX4_of_29 : decode cX4_of 29 = .ok (.ifCond .ne 14, 3) := dk_154 0 14 (dk_at dksX4_of_1 7 rfl rfl)
theorem dX4_of_32 : decode cX4_of 32 = .ok (.aload_n 0, 1) := dk_42 (dk_at dksX4_of_1 10 rfl rfl)
theorem dX4_of_33 : decode cX4_of 33 = .ok (.iload_n 2, 1) := dk_28 (dk_at dksX4_of_1 11 rfl rfl)
theorem dX4_of_34 : decode cX4_of 34 = .ok (.invokevirtual 142, 3) := dk_182 0 142 (dk_at dksX4_of_1 12 rfl rfl)
theorem dX4_of_37 : decode cX4_of 37 = .ok (.ifCond .ne 16, 3) := dk_154 0 16 (dk_at dksX4_of_1 15 rfl rfl)
theorem dX4_of_40 : decode cX4_of 40 = .ok (.goto 11, 3) := dk_167 0 11 (dk_at dksX4_of_1 18 rfl rfl)
theorem dX4_of_43 : decode cX4_of 43 = .ok (.aload_n 0, 1) := dk_42 (dk_at dksX4_of_1 21 rfl rfl)
theorem dX4_of_44 : decode cX4_of 44 = .ok (.iload_n 2, 1) := dk_28 (dk_at dksX4_of_1 22 rfl rfl)
theorem dX4_of_45 : decode cX4_of 45 = .ok (.invokevirtual 145, 3) := dk_182 0 145 (dk_at dksX4_of_2 0 rfl rfl)
theorem dX4_of_48 : decode cX4_of 48 = .ok (.ifCond .ne 5, 3) := dk_154 0 5 (dk_at dksX4_of_2 3 rfl rfl)
theorem dX4_of_51 : decode cX4_of 51 = .ok (.iconst (-1), 1) := dk_2 (dk_at dksX4_of_2 6 rfl rfl)
theorem dX4_of_52 : decode cX4_of 52 = .ok (.ireturn, 1) := dk_172 (dk_at dksX4_of_2 7 rfl rfl)
theorem dX4_of_53 : decode cX4_of 53 = .ok (.aload_n 0, 1) := dk_42 (dk_at dksX4_of_2 8 rfl rfl)
theorem dX4_of_54 : decode cX4_of 54 = .ok (.getfield 17, 3) := dk_180 0 17 (dk_at dksX4_of_2 9 rfl rfl)
theorem dX4_of_57 : decode cX4_of 57 = .ok (.iload_n 1, 1) := dk_27 (dk_at dksX4_of_2 12 rfl rfl)
theorem dX4_of_58 : decode cX4_of 58 = .ok (.ifCond .ne 11, 3) := dk_154 0 11 (dk_at dksX4_of_2 13 rfl rfl)
theorem dX4_of_61 : decode cX4_of 61 = .ok (.aload_n 0, 1) := dk_42 (dk_at dksX4_of_2 16 rfl rfl)
theorem dX4_of_62 : decode cX4_of 62 = .ok (.iload_n 2, 1) := dk_28 (dk_at dksX4_of_2 17 rfl rfl)
theorem dX4_of_63 : decode cX4_of 63 = .ok (.invokevirtual 130, 3) := dk_182 0 130 (dk_at dksX4_of_2 18 rfl rfl)
theorem dX4_of_66 : decode cX4_of 66 = .ok (.goto 8, 3) := dk_167 0 8 (dk_at dksX4_of_2 21 rfl rfl)
theorem dX4_of_69 : decode cX4_of 69 = .ok (.aload_n 0, 1) := dk_42 (dk_at dksX4_of_3 0 rfl rfl)
theorem dX4_of_70 : decode cX4_of 70 = .ok (.iload_n 2, 1) := dk_28 (dk_at dksX4_of_3 1 rfl rfl)
theorem dX4_of_71 : decode cX4_of 71 = .ok (.invokevirtual 133, 3) := dk_182 0 133 (dk_at dksX4_of_3 2 rfl rfl)
theorem dX4_of_74 : decode cX4_of 74 = .ok (.iload_n 3, 1) := dk_29 (dk_at dksX4_of_3 5 rfl rfl)
theorem dX4_of_75 : decode cX4_of 75 = .ok (.iadd, 1) := dk_96 (dk_at dksX4_of_3 6 rfl rfl)
theorem dX4_of_76 : decode cX4_of 76 = .ok (.iaload, 1) := dk_46 (dk_at dksX4_of_3 7 rfl rfl)
theorem dX4_of_77 : decode cX4_of 77 = .ok (.ireturn, 1) := dk_172 (dk_at dksX4_of_3 8 rfl rfl)
abbrev cX4_isLook : ByteArray := prog_24_method_9_code
def yX4_isLook : MethodName := ⟨RX4, "isLook", "(I)Z"⟩
def dkwX4_isLook_0 : List UInt8 := [27, 3, 42, 180, 0, 17, 17, 6, 218, 46, 4, 100, 184, 0, 74, 172]
abbrev dktX4_isLook_0 : List UInt8 := dkwX4_isLook_0 ++ []
theorem dksX4_isLook_0 : cX4_isLook.data.toList.drop 0 = dktX4_isLook_0 := by decide +kernel
theorem dX4_isLook_0 : decode cX4_isLook 0 = .ok (.iload_n 1, 1) := dk_27 (dk_at dksX4_isLook_0 0 rfl rfl)
theorem dX4_isLook_1 : decode cX4_isLook 1 = .ok (.iconst 0, 1) := dk_3 (dk_at dksX4_isLook_0 1 rfl rfl)
theorem dX4_isLook_2 : decode cX4_isLook 2 = .ok (.aload_n 0, 1) := dk_42 (dk_at dksX4_isLook_0 2 rfl rfl)
theorem dX4_isLook_3 : decode cX4_isLook 3 = .ok (.getfield 17, 3) := dk_180 0 17 (dk_at dksX4_isLook_0 3 rfl rfl)
theorem dX4_isLook_6 : decode cX4_isLook 6 = .ok (.sipush 1754, 3) := dk_17 6 218 (dk_at dksX4_isLook_0 6 rfl rfl)
theorem dX4_isLook_9 : decode cX4_isLook 9 = .ok (.iaload, 1) := dk_46 (dk_at dksX4_isLook_0 9 rfl rfl)
theorem dX4_isLook_10 : decode cX4_isLook 10 = .ok (.iconst 1, 1) := dk_4 (dk_at dksX4_isLook_0 10 rfl rfl)
theorem dX4_isLook_11 : decode cX4_isLook 11 = .ok (.isub, 1) := dk_100 (dk_at dksX4_isLook_0 11 rfl rfl)
theorem dX4_isLook_12 : decode cX4_isLook 12 = .ok (.invokestatic 74, 3) := dk_184 0 74 (dk_at dksX4_isLook_0 12 rfl rfl)
theorem dX4_isLook_15 : decode cX4_isLook 15 = .ok (.ireturn, 1) := dk_172 (dk_at dksX4_isLook_0 15 rfl rfl)
abbrev cX4_isTrial : ByteArray := prog_24_method_10_code
def yX4_isTrial : MethodName := ⟨RX4, "isTrial", "(I)Z"⟩
def dkwX4_isTrial_0 : List UInt8 := [27, 3, 42, 180, 0, 17, 17, 6, 219, 46, 4, 100, 184, 0, 74, 172]
abbrev dktX4_isTrial_0 : List UInt8 := dkwX4_isTrial_0 ++ []
theorem dksX4_isTrial_0 : cX4_isTrial.data.toList.drop 0 = dktX4_isTrial_0 := by decide +kernel
theorem dX4_isTrial_0 : decode cX4_isTrial 0 = .ok (.iload_n 1, 1) := dk_27 (dk_at dksX4_isTrial_0 0 rfl rfl)
theorem dX4_isTrial_1 : decode cX4_isTrial 1 = .ok (.iconst 0, 1) := dk_3 (dk_at dksX4_isTrial_0 1 rfl rfl)
theorem dX4_isTrial_2 : decode cX4_isTrial 2 = .ok (.aload_n 0, 1) := dk_42 (dk_at dksX4_isTrial_0 2 rfl rfl)
theorem dX4_isTrial_3 : decode cX4_isTrial 3 = .ok (.getfield 17, 3) := dk_180 0 17 (dk_at dksX4_isTrial_0 3 rfl rfl)
theorem dX4_isTrial_6 : decode cX4_isTrial 6 = .ok (.sipush 1755, 3) := dk_17 6 219 (dk_at dksX4_isTrial_0 6 rfl rfl)
theorem dX4_isTrial_9 : decode cX4_isTrial 9 = .ok (.iaload, 1) := dk_46 (dk_at dksX4_isTrial_0 9 rfl rfl)
theorem dX4_isTrial_10 : decode cX4_isTrial 10 = .ok (.iconst 1, 1) := dk_4 (dk_at dksX4_isTrial_0 10 rfl rfl)
theorem dX4_isTrial_11 : decode cX4_isTrial 11 = .ok (.isub, 1) := dk_100 (dk_at dksX4_isTrial_0 11 rfl rfl)
theorem dX4_isTrial_12 : decode cX4_isTrial 12 = .ok (.invokestatic 74, 3) := dk_184 0 74 (dk_at dksX4_isTrial_0 12 rfl rfl)
theorem dX4_isTrial_15 : decode cX4_isTrial 15 = .ok (.ireturn, 1) := dk_172 (dk_at dksX4_isTrial_0 15 rfl rfl)
abbrev cX4_feed : ByteArray := prog_24_method_41_code
def yX4_feed : MethodName := ⟨RX4, "feed", "(IIIII)I"⟩
def dkwX4_feed_5 : List UInt8 := [180, 0, 136, 172]
abbrev dktX4_feed_5 : List UInt8 := dkwX4_feed_5 ++ []
def dkwX4_feed_4 : List UInt8 := [100, 122, 145, 84, 132, 6, 1, 167, 255, 213, 42, 89, 180, 0, 136, 16, 20, 96, 181, 0, 136, 42]
abbrev dktX4_feed_4 : List UInt8 := dkwX4_feed_4 ++ dktX4_feed_5
def dkwX4_feed_3 : List UInt8 := [180, 0, 136, 21, 6, 96, 42, 180, 0, 37, 21, 6, 7, 108, 46, 16, 24, 16, 8, 21, 6, 7, 112, 104]
abbrev dktX4_feed_3 : List UInt8 := dkwX4_feed_3 ++ dktX4_feed_4
def dkwX4_feed_2 : List UInt8 := [180, 0, 37, 7, 21, 5, 79, 3, 54, 6, 21, 6, 16, 20, 162, 0, 42, 42, 180, 0, 34, 42]
abbrev dktX4_feed_2 : List UInt8 := dkwX4_feed_2 ++ dktX4_feed_3
def dkwX4_feed_1 : List UInt8 := [180, 0, 37, 4, 28, 79, 42, 180, 0, 37, 5, 29, 79, 42, 180, 0, 37, 6, 21, 4, 79, 42]
abbrev dktX4_feed_1 : List UInt8 := dkwX4_feed_1 ++ dktX4_feed_2
def dkwX4_feed_0 : List UInt8 := [42, 180, 0, 136, 16, 20, 96, 17, 1, 144, 164, 0, 5, 2, 172, 42, 180, 0, 37, 3, 27, 79, 42]
abbrev dktX4_feed_0 : List UInt8 := dkwX4_feed_0 ++ dktX4_feed_1
theorem dksX4_feed_0 : cX4_feed.data.toList.drop 0 = dktX4_feed_0 := by decide +kernel
theorem dksX4_feed_1 : cX4_feed.data.toList.drop 23 = dktX4_feed_1 := dk_seg dksX4_feed_0 23 rfl rfl
theorem dksX4_feed_2 : cX4_feed.data.toList.drop 45 = dktX4_feed_2 := dk_seg dksX4_feed_1 22 rfl rfl
theorem dksX4_feed_3 : cX4_feed.data.toList.drop 67 = dktX4_feed_3 := dk_seg dksX4_feed_2 22 rfl rfl
theorem dksX4_feed_4 : cX4_feed.data.toList.drop 91 = dktX4_feed_4 := dk_seg dksX4_feed_3 24 rfl rfl
theorem dksX4_feed_5 : cX4_feed.data.toList.drop 113 = dktX4_feed_5 := dk_seg dksX4_feed_4 22 rfl rfl
theorem dX4_feed_0 : decode cX4_feed 0 = .ok (.aload_n 0, 1) := dk_42 (dk_at dksX4_feed_0 0 rfl rfl)
theorem dX4_feed_1 : decode cX4_feed 1 = .ok (.getfield 136, 3) := dk_180 0 136 (dk_at dksX4_feed_0 1 rfl rfl)
theorem dX4_feed_4 : decode cX4_feed 4 = .ok (.bipush 20, 2) := dk_16 20 (dk_at dksX4_feed_0 4 rfl rfl)
theorem dX4_feed_6 : decode cX4_feed 6 = .ok (.iadd, 1) := dk_96 (dk_at dksX4_feed_0 6 rfl rfl)
theorem dX4_feed_7 : decode cX4_feed 7 = .ok (.sipush 400, 3) := dk_17 1 144 (dk_at dksX4_feed_0 7 rfl rfl)
theorem dX4_feed_10 : decode cX4_feed 10 = .ok (.if_icmp .le 5, 3) := dk_164 0 5 (dk_at dksX4_feed_0 10 rfl rfl)
theorem dX4_feed_13 : decode cX4_feed 13 = .ok (.iconst (-1), 1) := dk_2 (dk_at dksX4_feed_0 13 rfl rfl)
theorem dX4_feed_14 : decode cX4_feed 14 = .ok (.ireturn, 1) := dk_172 (dk_at dksX4_feed_0 14 rfl rfl)
theorem dX4_feed_15 : decode cX4_feed 15 = .ok (.aload_n 0, 1) := dk_42 (dk_at dksX4_feed_0 15 rfl rfl)
theorem dX4_feed_16 : decode cX4_feed 16 = .ok (.getfield 37, 3) := dk_180 0 37 (dk_at dksX4_feed_0 16 rfl rfl)
theorem dX4_feed_19 : decode cX4_feed 19 = .ok (.iconst 0, 1) := dk_3 (dk_at dksX4_feed_0 19 rfl rfl)
theorem dX4_feed_20 : decode cX4_feed 20 = .ok (.iload_n 1, 1) := dk_27 (dk_at dksX4_feed_0 20 rfl rfl)
theorem dX4_feed_21 : decode cX4_feed 21 = .ok (.iastore, 1) := dk_79 (dk_at dksX4_feed_0 21 rfl rfl)
theorem dX4_feed_22 : decode cX4_feed 22 = .ok (.aload_n 0, 1) := dk_42 (dk_at dksX4_feed_0 22 rfl rfl)
theorem dX4_feed_23 : decode cX4_feed 23 = .ok (.getfield 37, 3) := dk_180 0 37 (dk_at dksX4_feed_1 0 rfl rfl)
theorem dX4_feed_26 : decode cX4_feed 26 = .ok (.iconst 1, 1) := dk_4 (dk_at dksX4_feed_1 3 rfl rfl)
theorem dX4_feed_27 : decode cX4_feed 27 = .ok (.iload_n 2, 1) := dk_28 (dk_at dksX4_feed_1 4 rfl rfl)
theorem dX4_feed_28 : decode cX4_feed 28 = .ok (.iastore, 1) := dk_79 (dk_at dksX4_feed_1 5 rfl rfl)
theorem dX4_feed_29 : decode cX4_feed 29 = .ok (.aload_n 0, 1) := dk_42 (dk_at dksX4_feed_1 6 rfl rfl)
theorem dX4_feed_30 : decode cX4_feed 30 = .ok (.getfield 37, 3) := dk_180 0 37 (dk_at dksX4_feed_1 7 rfl rfl)
theorem dX4_feed_33 : decode cX4_feed 33 = .ok (.iconst 2, 1) := dk_5 (dk_at dksX4_feed_1 10 rfl rfl)
theorem dX4_feed_34 : decode cX4_feed 34 = .ok (.iload_n 3, 1) := dk_29 (dk_at dksX4_feed_1 11 rfl rfl)
theorem dX4_feed_35 : decode cX4_feed 35 = .ok (.iastore, 1) := dk_79 (dk_at dksX4_feed_1 12 rfl rfl)
theorem dX4_feed_36 : decode cX4_feed 36 = .ok (.aload_n 0, 1) := dk_42 (dk_at dksX4_feed_1 13 rfl rfl)
theorem dX4_feed_37 : decode cX4_feed 37 = .ok (.getfield 37, 3) := dk_180 0 37 (dk_at dksX4_feed_1 14 rfl rfl)
theorem dX4_feed_40 : decode cX4_feed 40 = .ok (.iconst 3, 1) := dk_6 (dk_at dksX4_feed_1 17 rfl rfl)
theorem dX4_feed_41 : decode cX4_feed 41 = .ok (.iload 4, 2) := dk_21 4 (dk_at dksX4_feed_1 18 rfl rfl)
theorem dX4_feed_43 : decode cX4_feed 43 = .ok (.iastore, 1) := dk_79 (dk_at dksX4_feed_1 20 rfl rfl)
theorem dX4_feed_44 : decode cX4_feed 44 = .ok (.aload_n 0, 1) := dk_42 (dk_at dksX4_feed_1 21 rfl rfl)
theorem dX4_feed_45 : decode cX4_feed 45 = .ok (.getfield 37, 3) := dk_180 0 37 (dk_at dksX4_feed_2 0 rfl rfl)
theorem dX4_feed_48 : decode cX4_feed 48 = .ok (.iconst 4, 1) := dk_7 (dk_at dksX4_feed_2 3 rfl rfl)
theorem dX4_feed_49 : decode cX4_feed 49 = .ok (.iload 5, 2) := dk_21 5 (dk_at dksX4_feed_2 4 rfl rfl)
theorem dX4_feed_51 : decode cX4_feed 51 = .ok (.iastore, 1) := dk_79 (dk_at dksX4_feed_2 6 rfl rfl)
theorem dX4_feed_52 : decode cX4_feed 52 = .ok (.iconst 0, 1) := dk_3 (dk_at dksX4_feed_2 7 rfl rfl)
theorem dX4_feed_53 : decode cX4_feed 53 = .ok (.istore 6, 2) := dk_54 6 (dk_at dksX4_feed_2 8 rfl rfl)
theorem dX4_feed_55 : decode cX4_feed 55 = .ok (.iload 6, 2) := dk_21 6 (dk_at dksX4_feed_2 10 rfl rfl)
theorem dX4_feed_57 : decode cX4_feed 57 = .ok (.bipush 20, 2) := dk_16 20 (dk_at dksX4_feed_2 12 rfl rfl)
theorem dX4_feed_59 : decode cX4_feed 59 = .ok (.if_icmp .ge 42, 3) := dk_162 0 42 (dk_at dksX4_feed_2 14 rfl rfl)
theorem dX4_feed_62 : decode cX4_feed 62 = .ok (.aload_n 0, 1) := dk_42 (dk_at dksX4_feed_2 17 rfl rfl)
theorem dX4_feed_63 : decode cX4_feed 63 = .ok (.getfield 34, 3) := dk_180 0 34 (dk_at dksX4_feed_2 18 rfl rfl)
theorem dX4_feed_66 : decode cX4_feed 66 = .ok (.aload_n 0, 1) := dk_42 (dk_at dksX4_feed_2 21 rfl rfl)
theorem dX4_feed_67 : decode cX4_feed 67 = .ok (.getfield 136, 3) := dk_180 0 136 (dk_at dksX4_feed_3 0 rfl rfl)
theorem dX4_feed_70 : decode cX4_feed 70 = .ok (.iload 6, 2) := dk_21 6 (dk_at dksX4_feed_3 3 rfl rfl)
theorem dX4_feed_72 : decode cX4_feed 72 = .ok (.iadd, 1) := dk_96 (dk_at dksX4_feed_3 5 rfl rfl)
theorem dX4_feed_73 : decode cX4_feed 73 = .ok (.aload_n 0, 1) := dk_42 (dk_at dksX4_feed_3 6 rfl rfl)
theorem dX4_feed_74 : decode cX4_feed 74 = .ok (.getfield 37, 3) := dk_180 0 37 (dk_at dksX4_feed_3 7 rfl rfl)
theorem dX4_feed_77 : decode cX4_feed 77 = .ok (.iload 6, 2) := dk_21 6 (dk_at dksX4_feed_3 10 rfl rfl)
theorem dX4_feed_79 : decode cX4_feed 79 = .ok (.iconst 4, 1) := dk_7 (dk_at dksX4_feed_3 12 rfl rfl)
theorem dX4_feed_80 : decode cX4_feed 80 = .ok (.idiv, 1) := dk_108 (dk_at dksX4_feed_3 13 rfl rfl)
theorem dX4_feed_81 : decode cX4_feed 81 = .ok (.iaload, 1) := dk_46 (dk_at dksX4_feed_3 14 rfl rfl)
theorem dX4_feed_82 : decode cX4_feed 82 = .ok (.bipush 24, 2) := dk_16 24 (dk_at dksX4_feed_3 15 rfl rfl)
theorem dX4_feed_84 : decode cX4_feed 84 = .ok (.bipush 8, 2) := dk_16 8 (dk_at dksX4_feed_3 17 rfl rfl)
theorem dX4_feed_86 : decode cX4_feed 86 = .ok (.iload 6, 2) := dk_21 6 (dk_at dksX4_feed_3 19 rfl rfl)
theorem dX4_feed_88 : decode cX4_feed 88 = .ok (.iconst 4, 1) := dk_7 (dk_at dksX4_feed_3 21 rfl rfl)
theorem dX4_feed_89 : decode cX4_feed 89 = .ok (.irem, 1) := dk_112 (dk_at dksX4_feed_3 22 rfl rfl)
theorem dX4_feed_90 : decode cX4_feed 90 = .ok (.imul, 1) := dk_104 (dk_at dksX4_feed_3 23 rfl rfl)
theorem dX4_feed_91 : decode cX4_feed 91 = .ok (.isub, 1) := dk_100 (dk_at dksX4_feed_4 0 rfl rfl)
theorem dX4_feed_92 : decode cX4_feed 92 = .ok (.ishr, 1) := dk_122 (dk_at dksX4_feed_4 1 rfl rfl)
theorem dX4_feed_93 : decode cX4_feed 93 = .ok (.i2b, 1) := dk_145 (dk_at dksX4_feed_4 2 rfl rfl)
theorem dX4_feed_94 : decode cX4_feed 94 = .ok (.bastore, 1) := dk_84 (dk_at dksX4_feed_4 3 rfl rfl)
theorem dX4_feed_95 : decode cX4_feed 95 = .ok (.iinc 6 1, 3) := dk_132 6 1 (dk_at dksX4_feed_4 4 rfl rfl)
theorem dX4_feed_98 : decode cX4_feed 98 = .ok (.goto (-43), 3) := dk_167 255 213 (dk_at dksX4_feed_4 7 rfl rfl)
theorem dX4_feed_101 : decode cX4_feed 101 = .ok (.aload_n 0, 1) := dk_42 (dk_at dksX4_feed_4 10 rfl rfl)
theorem dX4_feed_102 : decode cX4_feed 102 = .ok (.dup, 1) := dk_89 (dk_at dksX4_feed_4 11 rfl rfl)
theorem dX4_feed_103 : decode cX4_feed 103 = .ok (.getfield 136, 3) := dk_180 0 136 (dk_at dksX4_feed_4 12 rfl rfl)
theorem dX4_feed_106 : decode cX4_feed 106 = .ok (.bipush 20, 2) := dk_16 20 (dk_at dksX4_feed_4 15 rfl rfl)
theorem dX4_feed_108 : decode cX4_feed 108 = .ok (.iadd, 1) := dk_96 (dk_at dksX4_feed_4 17 rfl rfl)
theorem dX4_feed_109 : decode cX4_feed 109 = .ok (.putfield 136, 3) := dk_181 0 136 (dk_at dksX4_feed_4 18 rfl rfl)
theorem dX4_feed_112 : decode cX4_feed 112 = .ok (.aload_n 0, 1) := dk_42 (dk_at dksX4_feed_4 21 rfl rfl)
theorem dX4_feed_113 : decode cX4_feed 113 = .ok (.getfield 136, 3) := dk_180 0 136 (dk_at dksX4_feed_5 0 rfl rfl)
theorem dX4_feed_116 : decode cX4_feed 116 = .ok (.ireturn, 1) := dk_172 (dk_at dksX4_feed_5 3 rfl rfl)
abbrev cX4_end : ByteArray := prog_24_method_42_code
def yX4_end : MethodName := ⟨RX4, "end", "(I)I"⟩
def dkwX4_end_0 : List UInt8 := [27, 3, 42, 180, 0, 136, 184, 0, 74, 154, 0, 5, 2, 172, 42, 27, 181, 0, 136, 27, 172]
abbrev dktX4_end_0 : List UInt8 := dkwX4_end_0 ++ []
theorem dksX4_end_0 : cX4_end.data.toList.drop 0 = dktX4_end_0 := by decide +kernel
theorem dX4_end_0 : decode cX4_end 0 = .ok (.iload_n 1, 1) := dk_27 (dk_at dksX4_end_0 0 rfl rfl)
theorem dX4_end_1 : decode cX4_end 1 = .ok (.iconst 0, 1) := dk_3 (dk_at dksX4_end_0 1 rfl rfl)
theorem dX4_end_2 : decode cX4_end 2 = .ok (.aload_n 0, 1) := dk_42 (dk_at dksX4_end_0 2 rfl rfl)
theorem dX4_end_3 : decode cX4_end 3 = .ok (.getfield 136, 3) := dk_180 0 136 (dk_at dksX4_end_0 3 rfl rfl)
theorem dX4_end_6 : decode cX4_end 6 = .ok (.invokestatic 74, 3) := dk_184 0 74 (dk_at dksX4_end_0 6 rfl rfl)
theorem dX4_end_9 : decode cX4_end 9 = .ok (.ifCond .ne 5, 3) := dk_154 0 5 (dk_at dksX4_end_0 9 rfl rfl)
theorem dX4_end_12 : decode cX4_end 12 = .ok (.iconst (-1), 1) := dk_2 (dk_at dksX4_end_0 12 rfl rfl)
theorem dX4_end_13 : decode cX4_end 13 = .ok (.ireturn, 1) := dk_172 (dk_at dksX4_end_0 13 rfl rfl)
theorem dX4_end_14 : decode cX4_end 14 = .ok (.aload_n 0, 1) := dk_42 (dk_at dksX4_end_0 14 rfl rfl)
theorem dX4_end_15 : decode cX4_end 15 = .ok (.iload_n 1, 1) := dk_27 (dk_at dksX4_end_0 15 rfl rfl)
theorem dX4_end_16 : decode cX4_end 16 = .ok (.putfield 136, 3) := dk_181 0 136 (dk_at dksX4_end_0 16 rfl rfl)
theorem dX4_end_19 : decode cX4_end 19 = .ok (.iload_n 1, 1) := dk_27 (dk_at dksX4_end_0 19 rfl rfl)
theorem dX4_end_20 : decode cX4_end 20 = .ok (.ireturn, 1) := dk_172 (dk_at dksX4_end_0 20 rfl rfl)
abbrev cX4_text : ByteArray := prog_24_method_61_code
def yX4_text : MethodName := ⟨RX4, "text", "()I"⟩
def dkwX4_text_5 : List UInt8 := [167, 255, 201, 42, 180, 0, 17, 17, 6, 220, 92, 46, 4, 96, 79, 42, 27, 182, 0, 82, 172]
abbrev dktX4_text_5 : List UInt8 := dkwX4_text_5 ++ []
def dkwX4_text_4 : List UInt8 := [180, 0, 17, 17, 25, 170, 17, 1, 144, 27, 104, 96, 28, 96, 42, 180, 0, 46, 28, 46, 79, 132, 2, 1]
abbrev dktX4_text_4 : List UInt8 := dkwX4_text_4 ++ dktX4_text_5
def dkwX4_text_3 : List UInt8 := [42, 180, 0, 17, 17, 6, 234, 17, 1, 144, 27, 104, 96, 28, 96, 42, 180, 0, 43, 28, 46, 79, 42]
abbrev dktX4_text_3 : List UInt8 := dkwX4_text_3 ++ dktX4_text_4
def dkwX4_text_2 : List UInt8 := [42, 180, 0, 17, 17, 6, 222, 27, 96, 42, 180, 0, 148, 79, 3, 61, 28, 42, 180, 0, 148, 162, 0, 53]
abbrev dktX4_text_2 : List UInt8 := dkwX4_text_2 ++ dktX4_text_3
def dkwX4_text_1 : List UInt8 := [172, 42, 182, 0, 214, 154, 0, 10, 42, 16, 250, 182, 0, 78, 172, 42, 180, 0, 17, 17, 6, 220, 46, 60]
abbrev dktX4_text_1 : List UInt8 := dkwX4_text_1 ++ dktX4_text_2
def dkwX4_text_0 : List UInt8 := [42, 180, 0, 17, 17, 6, 220, 46, 16, 12, 160, 0, 15, 42, 3, 181, 0, 136, 42, 16, 251, 182, 0, 78]
abbrev dktX4_text_0 : List UInt8 := dkwX4_text_0 ++ dktX4_text_1
theorem dksX4_text_0 : cX4_text.data.toList.drop 0 = dktX4_text_0 := by decide +kernel
theorem dksX4_text_1 : cX4_text.data.toList.drop 24 = dktX4_text_1 := dk_seg dksX4_text_0 24 rfl rfl
theorem dksX4_text_2 : cX4_text.data.toList.drop 48 = dktX4_text_2 := dk_seg dksX4_text_1 24 rfl rfl
theorem dksX4_text_3 : cX4_text.data.toList.drop 72 = dktX4_text_3 := dk_seg dksX4_text_2 24 rfl rfl
theorem dksX4_text_4 : cX4_text.data.toList.drop 95 = dktX4_text_4 := dk_seg dksX4_text_3 23 rfl rfl
theorem dksX4_text_5 : cX4_text.data.toList.drop 119 = dktX4_text_5 := dk_seg dksX4_text_4 24 rfl rfl
theorem dX4_text_0 : decode cX4_text 0 = .ok (.aload_n 0, 1) := dk_42 (dk_at dksX4_text_0 0 rfl rfl)
theorem dX4_text_1 : decode cX4_text 1 = .ok (.getfield 17, 3) := dk_180 0 17 (dk_at dksX4_text_0 1 rfl rfl)
theorem dX4_text_4 : decode cX4_text 4 = .ok (.sipush 1756, 3) := dk_17 6 220 (dk_at dksX4_text_0 4 rfl rfl)
theorem dX4_text_7 : decode cX4_text 7 = .ok (.iaload, 1) := dk_46 (dk_at dksX4_text_0 7 rfl rfl)
theorem dX4_text_8 : decode cX4_text 8 = .ok (.bipush 12, 2) := dk_16 12 (dk_at dksX4_text_0 8 rfl rfl)
theorem dX4_text_10 : decode cX4_text 10 = .ok (.if_icmp .ne 15, 3) := dk_160 0 15 (dk_at dksX4_text_0 10 rfl rfl)
theorem dX4_text_13 : decode cX4_text 13 = .ok (.aload_n 0, 1) := dk_42 (dk_at dksX4_text_0 13 rfl rfl)
theorem dX4_text_14 : decode cX4_text 14 = .ok (.iconst 0, 1) := dk_3 (dk_at dksX4_text_0 14 rfl rfl)
theorem dX4_text_15 : decode cX4_text 15 = .ok (.putfield 136, 3) := dk_181 0 136 (dk_at dksX4_text_0 15 rfl rfl)
theorem dX4_text_18 : decode cX4_text 18 = .ok (.aload_n 0, 1) := dk_42 (dk_at dksX4_text_0 18 rfl rfl)
theorem dX4_text_19 : decode cX4_text 19 = .ok (.bipush (-5), 2) := dk_16 251 (dk_at dksX4_text_0 19 rfl rfl)
theorem dX4_text_21 : decode cX4_text 21 = .ok (.invokevirtual 78, 3) := dk_182 0 78 (dk_at dksX4_text_0 21 rfl rfl)
theorem dX4_text_24 : decode cX4_text 24 = .ok (.ireturn, 1) := dk_172 (dk_at dksX4_text_1 0 rfl rfl)
theorem dX4_text_25 : decode cX4_text 25 = .ok (.aload_n 0, 1) := dk_42 (dk_at dksX4_text_1 1 rfl rfl)
theorem dX4_text_26 : decode cX4_text 26 = .ok (.invokevirtual 214, 3) := dk_182 0 214 (dk_at dksX4_text_1 2 rfl rfl)
theorem dX4_text_29 : decode cX4_text 29 = .ok (.ifCond .ne 10, 3) := dk_154 0 10 (dk_at dksX4_text_1 5 rfl rfl)
theorem dX4_text_32 : decode cX4_text 32 = .ok (.aload_n 0, 1) := dk_42 (dk_at dksX4_text_1 8 rfl rfl)
theorem dX4_text_33 : decode cX4_text 33 = .ok (.bipush (-6), 2) := dk_16 250 (dk_at dksX4_text_1 9 rfl rfl)
theorem dX4_text_35 : decode cX4_text 35 = .ok (.invokevirtual 78, 3) := dk_182 0 78 (dk_at dksX4_text_1 11 rfl rfl)
theorem dX4_text_38 : decode cX4_text 38 = .ok (.ireturn, 1) := dk_172 (dk_at dksX4_text_1 14 rfl rfl)
theorem dX4_text_39 : decode cX4_text 39 = .ok (.aload_n 0, 1) := dk_42 (dk_at dksX4_text_1 15 rfl rfl)
theorem dX4_text_40 : decode cX4_text 40 = .ok (.getfield 17, 3) := dk_180 0 17 (dk_at dksX4_text_1 16 rfl rfl)
theorem dX4_text_43 : decode cX4_text 43 = .ok (.sipush 1756, 3) := dk_17 6 220 (dk_at dksX4_text_1 19 rfl rfl)
theorem dX4_text_46 : decode cX4_text 46 = .ok (.iaload, 1) := dk_46 (dk_at dksX4_text_1 22 rfl rfl)
theorem dX4_text_47 : decode cX4_text 47 = .ok (.istore_n 1, 1) := dk_60 (dk_at dksX4_text_1 23 rfl rfl)
theorem dX4_text_48 : decode cX4_text 48 = .ok (.aload_n 0, 1) := dk_42 (dk_at dksX4_text_2 0 rfl rfl)
theorem dX4_text_49 : decode cX4_text 49 = .ok (.getfield 17, 3) := dk_180 0 17 (dk_at dksX4_text_2 1 rfl rfl)
theorem dX4_text_52 : decode cX4_text 52 = .ok (.sipush 1758, 3) := dk_17 6 222 (dk_at dksX4_text_2 4 rfl rfl)
theorem dX4_text_55 : decode cX4_text 55 = .ok (.iload_n 1, 1) := dk_27 (dk_at dksX4_text_2 7 rfl rfl)
theorem dX4_text_56 : decode cX4_text 56 = .ok (.iadd, 1) := dk_96 (dk_at dksX4_text_2 8 rfl rfl)
theorem dX4_text_57 : decode cX4_text 57 = .ok (.aload_n 0, 1) := dk_42 (dk_at dksX4_text_2 9 rfl rfl)
theorem dX4_text_58 : decode cX4_text 58 = .ok (.getfield 148, 3) := dk_180 0 148 (dk_at dksX4_text_2 10 rfl rfl)
theorem dX4_text_61 : decode cX4_text 61 = .ok (.iastore, 1) := dk_79 (dk_at dksX4_text_2 13 rfl rfl)
theorem dX4_text_62 : decode cX4_text 62 = .ok (.iconst 0, 1) := dk_3 (dk_at dksX4_text_2 14 rfl rfl)
theorem dX4_text_63 : decode cX4_text 63 = .ok (.istore_n 2, 1) := dk_61 (dk_at dksX4_text_2 15 rfl rfl)
theorem dX4_text_64 : decode cX4_text 64 = .ok (.iload_n 2, 1) := dk_28 (dk_at dksX4_text_2 16 rfl rfl)
theorem dX4_text_65 : decode cX4_text 65 = .ok (.aload_n 0, 1) := dk_42 (dk_at dksX4_text_2 17 rfl rfl)
theorem dX4_text_66 : decode cX4_text 66 = .ok (.getfield 148, 3) := dk_180 0 148 (dk_at dksX4_text_2 18 rfl rfl)
theorem dX4_text_69 : decode cX4_text 69 = .ok (.if_icmp .ge 53, 3) := dk_162 0 53 (dk_at dksX4_text_2 21 rfl rfl)
theorem dX4_text_72 : decode cX4_text 72 = .ok (.aload_n 0, 1) := dk_42 (dk_at dksX4_text_3 0 rfl rfl)
theorem dX4_text_73 : decode cX4_text 73 = .ok (.getfield 17, 3) := dk_180 0 17 (dk_at dksX4_text_3 1 rfl rfl)
theorem dX4_text_76 : decode cX4_text 76 = .ok (.sipush 1770, 3) := dk_17 6 234 (dk_at dksX4_text_3 4 rfl rfl)
theorem dX4_text_79 : decode cX4_text 79 = .ok (.sipush 400, 3) := dk_17 1 144 (dk_at dksX4_text_3 7 rfl rfl)
theorem dX4_text_82 : decode cX4_text 82 = .ok (.iload_n 1, 1) := dk_27 (dk_at dksX4_text_3 10 rfl rfl)
theorem dX4_text_83 : decode cX4_text 83 = .ok (.imul, 1) := dk_104 (dk_at dksX4_text_3 11 rfl rfl)
theorem dX4_text_84 : decode cX4_text 84 = .ok (.iadd, 1) := dk_96 (dk_at dksX4_text_3 12 rfl rfl)
theorem dX4_text_85 : decode cX4_text 85 = .ok (.iload_n 2, 1) := dk_28 (dk_at dksX4_text_3 13 rfl rfl)
theorem dX4_text_86 : decode cX4_text 86 = .ok (.iadd, 1) := dk_96 (dk_at dksX4_text_3 14 rfl rfl)
theorem dX4_text_87 : decode cX4_text 87 = .ok (.aload_n 0, 1) := dk_42 (dk_at dksX4_text_3 15 rfl rfl)
theorem dX4_text_88 : decode cX4_text 88 = .ok (.getfield 43, 3) := dk_180 0 43 (dk_at dksX4_text_3 16 rfl rfl)
theorem dX4_text_91 : decode cX4_text 91 = .ok (.iload_n 2, 1) := dk_28 (dk_at dksX4_text_3 19 rfl rfl)
theorem dX4_text_92 : decode cX4_text 92 = .ok (.iaload, 1) := dk_46 (dk_at dksX4_text_3 20 rfl rfl)
theorem dX4_text_93 : decode cX4_text 93 = .ok (.iastore, 1) := dk_79 (dk_at dksX4_text_3 21 rfl rfl)
theorem dX4_text_94 : decode cX4_text 94 = .ok (.aload_n 0, 1) := dk_42 (dk_at dksX4_text_3 22 rfl rfl)
theorem dX4_text_95 : decode cX4_text 95 = .ok (.getfield 17, 3) := dk_180 0 17 (dk_at dksX4_text_4 0 rfl rfl)
theorem dX4_text_98 : decode cX4_text 98 = .ok (.sipush 6570, 3) := dk_17 25 170 (dk_at dksX4_text_4 3 rfl rfl)
theorem dX4_text_101 : decode cX4_text 101 = .ok (.sipush 400, 3) := dk_17 1 144 (dk_at dksX4_text_4 6 rfl rfl)
theorem dX4_text_104 : decode cX4_text 104 = .ok (.iload_n 1, 1) := dk_27 (dk_at dksX4_text_4 9 rfl rfl)
theorem dX4_text_105 : decode cX4_text 105 = .ok (.imul, 1) := dk_104 (dk_at dksX4_text_4 10 rfl rfl)
theorem dX4_text_106 : decode cX4_text 106 = .ok (.iadd, 1) := dk_96 (dk_at dksX4_text_4 11 rfl rfl)
theorem dX4_text_107 : decode cX4_text 107 = .ok (.iload_n 2, 1) := dk_28 (dk_at dksX4_text_4 12 rfl rfl)
theorem dX4_text_108 : decode cX4_text 108 = .ok (.iadd, 1) := dk_96 (dk_at dksX4_text_4 13 rfl rfl)
theorem dX4_text_109 : decode cX4_text 109 = .ok (.aload_n 0, 1) := dk_42 (dk_at dksX4_text_4 14 rfl rfl)
theorem dX4_text_110 : decode cX4_text 110 = .ok (.getfield 46, 3) := dk_180 0 46 (dk_at dksX4_text_4 15 rfl rfl)
theorem dX4_text_113 : decode cX4_text 113 = .ok (.iload_n 2, 1) := dk_28 (dk_at dksX4_text_4 18 rfl rfl)
theorem dX4_text_114 : decode cX4_text 114 = .ok (.iaload, 1) := dk_46 (dk_at dksX4_text_4 19 rfl rfl)
theorem dX4_text_115 : decode cX4_text 115 = .ok (.iastore, 1) := dk_79 (dk_at dksX4_text_4 20 rfl rfl)
theorem dX4_text_116 : decode cX4_text 116 = .ok (.iinc 2 1, 3) := dk_132 2 1 (dk_at dksX4_text_4 21 rfl rfl)
theorem dX4_text_119 : decode cX4_text 119 = .ok (.goto (-55), 3) := dk_167 255 201 (dk_at dksX4_text_5 0 rfl rfl)
theorem dX4_text_122 : decode cX4_text 122 = .ok (.aload_n 0, 1) := dk_42 (dk_at dksX4_text_5 3 rfl rfl)
theorem dX4_text_123 : decode cX4_text 123 = .ok (.getfield 17, 3) := dk_180 0 17 (dk_at dksX4_text_5 4 rfl rfl)
theorem dX4_text_126 : decode cX4_text 126 = .ok (.sipush 1756, 3) := dk_17 6 220 (dk_at dksX4_text_5 7 rfl rfl)
theorem dX4_text_129 : decode cX4_text 129 = .ok (.dup2, 1) := dk_92 (dk_at dksX4_text_5 10 rfl rfl)
theorem dX4_text_130 : decode cX4_text 130 = .ok (.iaload, 1) := dk_46 (dk_at dksX4_text_5 11 rfl rfl)
theorem dX4_text_131 : decode cX4_text 131 = .ok (.iconst 1, 1) := dk_4 (dk_at dksX4_text_5 12 rfl rfl)
theorem dX4_text_132 : decode cX4_text 132 = .ok (.iadd, 1) := dk_96 (dk_at dksX4_text_5 13 rfl rfl)
theorem dX4_text_133 : decode cX4_text 133 = .ok (.iastore, 1) := dk_79 (dk_at dksX4_text_5 14 rfl rfl)
theorem dX4_text_134 : decode cX4_text 134 = .ok (.aload_n 0, 1) := dk_42 (dk_at dksX4_text_5 15 rfl rfl)
theorem dX4_text_135 : decode cX4_text 135 = .ok (.iload_n 1, 1) := dk_27 (dk_at dksX4_text_5 16 rfl rfl)
theorem dX4_text_136 : decode cX4_text 136 = .ok (.invokevirtual 82, 3) := dk_182 0 82 (dk_at dksX4_text_5 17 rfl rfl)
theorem dX4_text_139 : decode cX4_text 139 = .ok (.ireturn, 1) := dk_172 (dk_at dksX4_text_5 20 rfl rfl)
abbrev cX4_reads : ByteArray := prog_24_method_60_code
def yX4_reads : MethodName := ⟨RX4, "reads", "()Z"⟩
def dkwX4_reads_4 : List UInt8 := [182, 0, 173, 42, 42, 180, 0, 160, 181, 0, 40, 42, 182, 0, 163, 172]
abbrev dktX4_reads_4 : List UInt8 := dkwX4_reads_4 ++ []
def dkwX4_reads_3 : List UInt8 := [167, 255, 220, 42, 182, 0, 163, 153, 0, 18, 42, 180, 0, 167, 42, 180, 0, 148, 162, 0, 7, 42]
abbrev dktX4_reads_3 : List UInt8 := dkwX4_reads_3 ++ dktX4_reads_4
def dkwX4_reads_2 : List UInt8 := [16, 12, 160, 0, 7, 42, 182, 0, 173, 42, 182, 0, 163, 153, 0, 7, 42, 182, 0, 211, 132, 1, 1]
abbrev dktX4_reads_2 : List UInt8 := dkwX4_reads_2 ++ dktX4_reads_3
def dkwX4_reads_1 : List UInt8 := [2, 181, 0, 160, 42, 182, 0, 211, 4, 60, 42, 16, 59, 184, 0, 194, 182, 0, 170, 153, 0, 30, 27]
abbrev dktX4_reads_1 : List UInt8 := dkwX4_reads_1 ++ dktX4_reads_2
def dkwX4_reads_0 : List UInt8 := [42, 42, 180, 0, 136, 182, 0, 208, 42, 3, 181, 0, 136, 42, 3, 181, 0, 167, 42, 3, 181, 0, 176, 42]
abbrev dktX4_reads_0 : List UInt8 := dkwX4_reads_0 ++ dktX4_reads_1
theorem dksX4_reads_0 : cX4_reads.data.toList.drop 0 = dktX4_reads_0 := by decide +kernel
theorem dksX4_reads_1 : cX4_reads.data.toList.drop 24 = dktX4_reads_1 := dk_seg dksX4_reads_0 24 rfl rfl
theorem dksX4_reads_2 : cX4_reads.data.toList.drop 47 = dktX4_reads_2 := dk_seg dksX4_reads_1 23 rfl rfl
theorem dksX4_reads_3 : cX4_reads.data.toList.drop 70 = dktX4_reads_3 := dk_seg dksX4_reads_2 23 rfl rfl
theorem dksX4_reads_4 : cX4_reads.data.toList.drop 92 = dktX4_reads_4 := dk_seg dksX4_reads_3 22 rfl rfl
theorem dX4_reads_0 : decode cX4_reads 0 = .ok (.aload_n 0, 1) := dk_42 (dk_at dksX4_reads_0 0 rfl rfl)
theorem dX4_reads_1 : decode cX4_reads 1 = .ok (.aload_n 0, 1) := dk_42 (dk_at dksX4_reads_0 1 rfl rfl)
theorem dX4_reads_2 : decode cX4_reads 2 = .ok (.getfield 136, 3) := dk_180 0 136 (dk_at dksX4_reads_0 2 rfl rfl)
theorem dX4_reads_5 : decode cX4_reads 5 = .ok (.invokevirtual 208, 3) := dk_182 0 208 (dk_at dksX4_reads_0 5 rfl rfl)
theorem dX4_reads_8 : decode cX4_reads 8 = .ok (.aload_n 0, 1) := dk_42 (dk_at dksX4_reads_0 8 rfl rfl)
theorem dX4_reads_9 : decode cX4_reads 9 = .ok (.iconst 0, 1) := dk_3 (dk_at dksX4_reads_0 9 rfl rfl)
theorem dX4_reads_10 : decode cX4_reads 10 = .ok (.putfield 136, 3) := dk_181 0 136 (dk_at dksX4_reads_0 10 rfl rfl)
theorem dX4_reads_13 : decode cX4_reads 13 = .ok (.aload_n 0, 1) := dk_42 (dk_at dksX4_reads_0 13 rfl rfl)
theorem dX4_reads_14 : decode cX4_reads 14 = .ok (.iconst 0, 1) := dk_3 (dk_at dksX4_reads_0 14 rfl rfl)
theorem dX4_reads_15 : decode cX4_reads 15 = .ok (.putfield 167, 3) := dk_181 0 167 (dk_at dksX4_reads_0 15 rfl rfl)
theorem dX4_reads_18 : decode cX4_reads 18 = .ok (.aload_n 0, 1) := dk_42 (dk_at dksX4_reads_0 18 rfl rfl)
theorem dX4_reads_19 : decode cX4_reads 19 = .ok (.iconst 0, 1) := dk_3 (dk_at dksX4_reads_0 19 rfl rfl)
theorem dX4_reads_20 : decode cX4_reads 20 = .ok (.putfield 176, 3) := dk_181 0 176 (dk_at dksX4_reads_0 20 rfl rfl)
theorem dX4_reads_23 : decode cX4_reads 23 = .ok (.aload_n 0, 1) := dk_42 (dk_at dksX4_reads_0 23 rfl rfl)
theorem dX4_reads_24 : decode cX4_reads 24 = .ok (.iconst (-1), 1) := dk_2 (dk_at dksX4_reads_1 0 rfl rfl)
theorem dX4_reads_25 : decode cX4_reads 25 = .ok (.putfield 160, 3) := dk_181 0 160 (dk_at dksX4_reads_1 1 rfl rfl)
theorem dX4_reads_28 : decode cX4_reads 28 = .ok (.aload_n 0, 1) := dk_42 (dk_at dksX4_reads_1 4 rfl rfl)
theorem dX4_reads_29 : decode cX4_reads 29 = .ok (.invokevirtual 211, 3) := dk_182 0 211 (dk_at dksX4_reads_1 5 rfl rfl)
theorem dX4_reads_32 : decode cX4_reads 32 = .ok (.iconst 1, 1) := dk_4 (dk_at dksX4_reads_1 8 rfl rfl)
theorem dX4_reads_33 : decode cX4_reads 33 = .ok (.istore_n 1, 1) := dk_60 (dk_at dksX4_reads_1 9 rfl rfl)
theorem dX4_reads_34 : decode cX4_reads 34 = .ok (.aload_n 0, 1) := dk_42 (dk_at dksX4_reads_1 10 rfl rfl)
theorem dX4_reads_35 : decode cX4_reads 35 = .ok (.bipush 59, 2) := dk_16 59 (dk_at dksX4_reads_1 11 rfl rfl)
theorem dX4_reads_37 : decode cX4_reads 37 = .ok (.invokestatic 194, 3) := dk_184 0 194 (dk_at dksX4_reads_1 13 rfl rfl)
theorem dX4_reads_40 : decode cX4_reads 40 = .ok (.invokevirtual 170, 3) := dk_182 0 170 (dk_at dksX4_reads_1 16 rfl rfl)
theorem dX4_reads_43 : decode cX4_reads 43 = .ok (.ifCond .eq 30, 3) := dk_153 0 30 (dk_at dksX4_reads_1 19 rfl rfl)
theorem dX4_reads_46 : decode cX4_reads 46 = .ok (.iload_n 1, 1) := dk_27 (dk_at dksX4_reads_1 22 rfl rfl)
theorem dX4_reads_47 : decode cX4_reads 47 = .ok (.bipush 12, 2) := dk_16 12 (dk_at dksX4_reads_2 0 rfl rfl)
theorem dX4_reads_49 : decode cX4_reads 49 = .ok (.if_icmp .ne 7, 3) := dk_160 0 7 (dk_at dksX4_reads_2 2 rfl rfl)
theorem dX4_reads_52 : decode cX4_reads 52 = .ok (.aload_n 0, 1) := dk_42 (dk_at dksX4_reads_2 5 rfl rfl)
theorem dX4_reads_53 : decode cX4_reads 53 = .ok (.invokevirtual 173, 3) := dk_182 0 173 (dk_at dksX4_reads_2 6 rfl rfl)
theorem dX4_reads_56 : decode cX4_reads 56 = .ok (.aload_n 0, 1) := dk_42 (dk_at dksX4_reads_2 9 rfl rfl)
theorem dX4_reads_57 : decode cX4_reads 57 = .ok (.invokevirtual 163, 3) := dk_182 0 163 (dk_at dksX4_reads_2 10 rfl rfl)
theorem dX4_reads_60 : decode cX4_reads 60 = .ok (.ifCond .eq 7, 3) := dk_153 0 7 (dk_at dksX4_reads_2 13 rfl rfl)
theorem dX4_reads_63 : decode cX4_reads 63 = .ok (.aload_n 0, 1) := dk_42 (dk_at dksX4_reads_2 16 rfl rfl)
theorem dX4_reads_64 : decode cX4_reads 64 = .ok (.invokevirtual 211, 3) := dk_182 0 211 (dk_at dksX4_reads_2 17 rfl rfl)
theorem dX4_reads_67 : decode cX4_reads 67 = .ok (.iinc 1 1, 3) := dk_132 1 1 (dk_at dksX4_reads_2 20 rfl rfl)
theorem dX4_reads_70 : decode cX4_reads 70 = .ok (.goto (-36), 3) := dk_167 255 220 (dk_at dksX4_reads_3 0 rfl rfl)
theorem dX4_reads_73 : decode cX4_reads 73 = .ok (.aload_n 0, 1) := dk_42 (dk_at dksX4_reads_3 3 rfl rfl)
theorem dX4_reads_74 : decode cX4_reads 74 = .ok (.invokevirtual 163, 3) := dk_182 0 163 (dk_at dksX4_reads_3 4 rfl rfl)
theorem dX4_reads_77 : decode cX4_reads 77 = .ok (.ifCond .eq 18, 3) := dk_153 0 18 (dk_at dksX4_reads_3 7 rfl rfl)
theorem dX4_reads_80 : decode cX4_reads 80 = .ok (.aload_n 0, 1) := dk_42 (dk_at dksX4_reads_3 10 rfl rfl)
theorem dX4_reads_81 : decode cX4_reads 81 = .ok (.getfield 167, 3) := dk_180 0 167 (dk_at dksX4_reads_3 11 rfl rfl)
theorem dX4_reads_84 : decode cX4_reads 84 = .ok (.aload_n 0, 1) := dk_42 (dk_at dksX4_reads_3 14 rfl rfl)
theorem dX4_reads_85 : decode cX4_reads 85 = .ok (.getfield 148, 3) := dk_180 0 148 (dk_at dksX4_reads_3 15 rfl rfl)
theorem dX4_reads_88 : decode cX4_reads 88 = .ok (.if_icmp .ge 7, 3) := dk_162 0 7 (dk_at dksX4_reads_3 18 rfl rfl)
theorem dX4_reads_91 : decode cX4_reads 91 = .ok (.aload_n 0, 1) := dk_42 (dk_at dksX4_reads_3 21 rfl rfl)
theorem dX4_reads_92 : decode cX4_reads 92 = .ok (.invokevirtual 173, 3) := dk_182 0 173 (dk_at dksX4_reads_4 0 rfl rfl)
theorem dX4_reads_95 : decode cX4_reads 95 = .ok (.aload_n 0, 1) := dk_42 (dk_at dksX4_reads_4 3 rfl rfl)
theorem dX4_reads_96 : decode cX4_reads 96 = .ok (.aload_n 0, 1) := dk_42 (dk_at dksX4_reads_4 4 rfl rfl)
theorem dX4_reads_97 : decode cX4_reads 97 = .ok (.getfield 160, 3) := dk_180 0 160 (dk_at dksX4_reads_4 5 rfl rfl)
theorem dX4_reads_100 : decode cX4_reads 100 = .ok (.putfield 40, 3) := dk_181 0 40 (dk_at dksX4_reads_4 8 rfl rfl)
theorem dX4_reads_103 : decode cX4_reads 103 = .ok (.aload_n 0, 1) := dk_42 (dk_at dksX4_reads_4 11 rfl rfl)
theorem dX4_reads_104 : decode cX4_reads 104 = .ok (.invokevirtual 163, 3) := dk_182 0 163 (dk_at dksX4_reads_4 12 rfl rfl)
theorem dX4_reads_107 : decode cX4_reads 107 = .ok (.ireturn, 1) := dk_172 (dk_at dksX4_reads_4 15 rfl rfl)
abbrev cX4_cuts : ByteArray := prog_24_method_46_code
def yX4_cuts : MethodName := ⟨RX4, "cuts", "(I)V"⟩
def dkwX4_cuts_12 : List UInt8 := [3, 79, 42, 180, 0, 46, 42, 180, 0, 148, 3, 79, 177]
abbrev dktX4_cuts_12 : List UInt8 := dkwX4_cuts_12 ++ []
def dkwX4_cuts_11 : List UInt8 := [21, 4, 61, 167, 255, 3, 42, 180, 0, 49, 42, 180, 0, 148, 27, 79, 42, 180, 0, 43, 42, 180, 0, 148]
abbrev dktX4_cuts_11 : List UInt8 := dkwX4_cuts_11 ++ dktX4_cuts_12
def dkwX4_cuts_10 : List UInt8 := [21, 5, 51, 96, 16, 48, 100, 79, 132, 5, 1, 167, 255, 181, 42, 89, 180, 0, 148, 4, 96, 181, 0, 148]
abbrev dktX4_cuts_10 : List UInt8 := dkwX4_cuts_10 ++ dktX4_cuts_11
def dkwX4_cuts_9 : List UInt8 := [180, 0, 148, 46, 167, 0, 26, 16, 10, 42, 180, 0, 46, 42, 180, 0, 148, 46, 104, 42, 180, 0, 34]
abbrev dktX4_cuts_9 : List UInt8 := dkwX4_cuts_9 ++ dktX4_cuts_10
def dkwX4_cuts_8 : List UInt8 := [42, 180, 0, 148, 42, 180, 0, 46, 42, 180, 0, 148, 46, 18, 89, 164, 0, 15, 42, 180, 0, 46, 42]
abbrev dktX4_cuts_8 : List UInt8 := dkwX4_cuts_8 ++ dktX4_cuts_9
def dkwX4_cuts_7 : List UInt8 := [126, 96, 79, 28, 54, 5, 21, 5, 21, 4, 162, 0, 74, 29, 184, 0, 154, 153, 0, 67, 42, 180, 0, 46]
abbrev dktX4_cuts_7 : List UInt8 := dkwX4_cuts_7 ++ dktX4_cuts_8
def dkwX4_cuts_6 : List UInt8 := [182, 0, 157, 167, 0, 23, 29, 184, 0, 154, 153, 0, 8, 16, 50, 167, 0, 11, 16, 100, 29, 17, 0, 255]
abbrev dktX4_cuts_6 : List UInt8 := dkwX4_cuts_6 ++ dktX4_cuts_7
def dkwX4_cuts_5 : List UInt8 := [180, 0, 148, 3, 79, 42, 180, 0, 43, 42, 180, 0, 148, 29, 184, 0, 151, 153, 0, 13, 42, 28, 21, 4]
abbrev dktX4_cuts_5 : List UInt8 := dkwX4_cuts_5 ++ dktX4_cuts_6
def dkwX4_cuts_4 : List UInt8 := [153, 0, 9, 132, 4, 1, 167, 255, 234, 42, 180, 0, 49, 42, 180, 0, 148, 28, 79, 42, 180, 0, 46, 42]
abbrev dktX4_cuts_4 : List UInt8 := dkwX4_cuts_4 ++ dktX4_cuts_5
def dkwX4_cuts_3 : List UInt8 := [184, 0, 154, 153, 0, 28, 21, 4, 27, 162, 0, 22, 42, 180, 0, 34, 21, 4, 51, 184, 0, 154]
abbrev dktX4_cuts_3 : List UInt8 := dkwX4_cuts_3 ++ dktX4_cuts_4
def dkwX4_cuts_2 : List UInt8 := [162, 0, 22, 42, 180, 0, 34, 21, 4, 51, 184, 0, 151, 153, 0, 9, 132, 4, 1, 167, 255, 234, 29]
abbrev dktX4_cuts_2 : List UInt8 := dkwX4_cuts_2 ++ dktX4_cuts_3
def dkwX4_cuts_1 : List UInt8 := [160, 0, 9, 132, 2, 1, 167, 255, 235, 28, 4, 96, 54, 4, 29, 184, 0, 151, 153, 0, 28, 21, 4, 27]
abbrev dktX4_cuts_1 : List UInt8 := dkwX4_cuts_1 ++ dktX4_cuts_2
def dkwX4_cuts_0 : List UInt8 := [42, 3, 181, 0, 148, 3, 61, 28, 27, 162, 0, 254, 42, 180, 0, 34, 28, 51, 62, 29, 16, 32]
abbrev dktX4_cuts_0 : List UInt8 := dkwX4_cuts_0 ++ dktX4_cuts_1
theorem dksX4_cuts_0 : cX4_cuts.data.toList.drop 0 = dktX4_cuts_0 := by decide +kernel
theorem dksX4_cuts_1 : cX4_cuts.data.toList.drop 22 = dktX4_cuts_1 := dk_seg dksX4_cuts_0 22 rfl rfl
theorem dksX4_cuts_2 : cX4_cuts.data.toList.drop 46 = dktX4_cuts_2 := dk_seg dksX4_cuts_1 24 rfl rfl
theorem dksX4_cuts_3 : cX4_cuts.data.toList.drop 69 = dktX4_cuts_3 := dk_seg dksX4_cuts_2 23 rfl rfl
theorem dksX4_cuts_4 : cX4_cuts.data.toList.drop 91 = dktX4_cuts_4 := dk_seg dksX4_cuts_3 22 rfl rfl
theorem dksX4_cuts_5 : cX4_cuts.data.toList.drop 115 = dktX4_cuts_5 := dk_seg dksX4_cuts_4 24 rfl rfl
theorem dksX4_cuts_6 : cX4_cuts.data.toList.drop 139 = dktX4_cuts_6 := dk_seg dksX4_cuts_5 24 rfl rfl
theorem dksX4_cuts_7 : cX4_cuts.data.toList.drop 163 = dktX4_cuts_7 := dk_seg dksX4_cuts_6 24 rfl rfl
theorem dksX4_cuts_8 : cX4_cuts.data.toList.drop 187 = dktX4_cuts_8 := dk_seg dksX4_cuts_7 24 rfl rfl
theorem dksX4_cuts_9 : cX4_cuts.data.toList.drop 210 = dktX4_cuts_9 := dk_seg dksX4_cuts_8 23 rfl rfl
theorem dksX4_cuts_10 : cX4_cuts.data.toList.drop 233 = dktX4_cuts_10 := dk_seg dksX4_cuts_9 23 rfl rfl
theorem dksX4_cuts_11 : cX4_cuts.data.toList.drop 257 = dktX4_cuts_11 := dk_seg dksX4_cuts_10 24 rfl rfl
theorem dksX4_cuts_12 : cX4_cuts.data.toList.drop 281 = dktX4_cuts_12 := dk_seg dksX4_cuts_11 24 rfl rfl
theorem dX4_cuts_0 : decode cX4_cuts 0 = .ok (.aload_n 0, 1) := dk_42 (dk_at dksX4_cuts_0 0 rfl rfl)
theorem dX4_cuts_1 : decode cX4_cuts 1 = .ok (.iconst 0, 1) := dk_3 (dk_at dksX4_cuts_0 1 rfl rfl)
theorem dX4_cuts_2 : decode cX4_cuts 2 = .ok (.putfield 148, 3) := dk_181 0 148 (dk_at dksX4_cuts_0 2 rfl rfl)
theorem dX4_cuts_5 : decode cX4_cuts 5 = .ok (.iconst 0, 1) := dk_3 (dk_at dksX4_cuts_0 5 rfl rfl)
theorem dX4_cuts_6 : decode cX4_cuts 6 = .ok (.istore_n 2, 1) := dk_61 (dk_at dksX4_cuts_0 6 rfl rfl)
theorem dX4_cuts_7 : decode cX4_cuts 7 = .ok (.iload_n 2, 1) := dk_28 (dk_at dksX4_cuts_0 7 rfl rfl)
theorem dX4_cuts_8 : decode cX4_cuts 8 = .ok (.iload_n 1, 1) := dk_27 (dk_at dksX4_cuts_0 8 rfl rfl)
theorem dX4_cuts_9 : decode cX4_cuts 9 = .ok (.if_icmp .ge 254, 3) := dk_162 0 254 (dk_at dksX4_cuts_0 9 rfl rfl)
theorem dX4_cuts_12 : decode cX4_cuts 12 = .ok (.aload_n 0, 1) := dk_42 (dk_at dksX4_cuts_0 12 rfl rfl)
theorem dX4_cuts_13 : decode cX4_cuts 13 = .ok (.getfield 34, 3) := dk_180 0 34 (dk_at dksX4_cuts_0 13 rfl rfl)
theorem dX4_cuts_16 : decode cX4_cuts 16 = .ok (.iload_n 2, 1) := dk_28 (dk_at dksX4_cuts_0 16 rfl rfl)
theorem dX4_cuts_17 : decode cX4_cuts 17 = .ok (.baload, 1) := dk_51 (dk_at dksX4_cuts_0 17 rfl rfl)
theorem dX4_cuts_18 : decode cX4_cuts 18 = .ok (.istore_n 3, 1) := dk_62 (dk_at dksX4_cuts_0 18 rfl rfl)
theorem dX4_cuts_19 : decode cX4_cuts 19 = .ok (.iload_n 3, 1) := dk_29 (dk_at dksX4_cuts_0 19 rfl rfl)
theorem dX4_cuts_20 : decode cX4_cuts 20 = .ok (.bipush 32, 2) := dk_16 32 (dk_at dksX4_cuts_0 20 rfl rfl)
theorem dX4_cuts_22 : decode cX4_cuts 22 = .ok (.if_icmp .ne 9, 3) := dk_160 0 9 (dk_at dksX4_cuts_1 0 rfl rfl)
theorem dX4_cuts_25 : decode cX4_cuts 25 = .ok (.iinc 2 1, 3) := dk_132 2 1 (dk_at dksX4_cuts_1 3 rfl rfl)
theorem dX4_cuts_28 : decode cX4_cuts 28 = .ok (.goto (-21), 3) := dk_167 255 235 (dk_at dksX4_cuts_1 6 rfl rfl)
theorem dX4_cuts_31 : decode cX4_cuts 31 = .ok (.iload_n 2, 1) := dk_28 (dk_at dksX4_cuts_1 9 rfl rfl)
theorem dX4_cuts_32 : decode cX4_cuts 32 = .ok (.iconst 1, 1) := dk_4 (dk_at dksX4_cuts_1 10 rfl rfl)
theorem dX4_cuts_33 : decode cX4_cuts 33 = .ok (.iadd, 1) := dk_96 (dk_at dksX4_cuts_1 11 rfl rfl)
theorem dX4_cuts_34 : decode cX4_cuts 34 = .ok (.istore 4, 2) := dk_54 4 (dk_at dksX4_cuts_1 12 rfl rfl)
theorem dX4_cuts_36 : decode cX4_cuts 36 = .ok (.iload_n 3, 1) := dk_29 (dk_at dksX4_cuts_1 14 rfl rfl)
theorem dX4_cuts_37 : decode cX4_cuts 37 = .ok (.invokestatic 151, 3) := dk_184 0 151 (dk_at dksX4_cuts_1 15 rfl rfl)
theorem dX4_cuts_40 : decode cX4_cuts 40 = .ok (.ifCond .eq 28, 3) := dk_153 0 28 (dk_at dksX4_cuts_1 18 rfl rfl)
theorem dX4_cuts_43 : decode cX4_cuts 43 = .ok (.iload 4, 2) := dk_21 4 (dk_at dksX4_cuts_1 21 rfl rfl)
theorem dX4_cuts_45 : decode cX4_cuts 45 = .ok (.iload_n 1, 1) := dk_27 (dk_at dksX4_cuts_1 23 rfl rfl)
theorem dX4_cuts_46 : decode cX4_cuts 46 = .ok (.if_icmp .ge 22, 3) := dk_162 0 22 (dk_at dksX4_cuts_2 0 rfl rfl)
theorem dX4_cuts_49 : decode cX4_cuts 49 = .ok (.aload_n 0, 1) := dk_42 (dk_at dksX4_cuts_2 3 rfl rfl)
theorem dX4_cuts_50 : decode cX4_cuts 50 = .ok (.getfield 34, 3) := dk_180 0 34 (dk_at dksX4_cuts_2 4 rfl rfl)
theorem dX4_cuts_53 : decode cX4_cuts 53 = .ok (.iload 4, 2) := dk_21 4 (dk_at dksX4_cuts_2 7 rfl rfl)
theorem dX4_cuts_55 : decode cX4_cuts 55 = .ok (.baload, 1) := dk_51 (dk_at dksX4_cuts_2 9 rfl rfl)
theorem dX4_cuts_56 : decode cX4_cuts 56 = .ok (.invokestatic 151, 3) := dk_184 0 151 (dk_at dksX4_cuts_2 10 rfl rfl)
theorem dX4_cuts_59 : decode cX4_cuts 59 = .ok (.ifCond .eq 9, 3) := dk_153 0 9 (dk_at dksX4_cuts_2 13 rfl rfl)
theorem dX4_cuts_62 : decode cX4_cuts 62 = .ok (.iinc 4 1, 3) := dk_132 4 1 (dk_at dksX4_cuts_2 16 rfl rfl)
theorem dX4_cuts_65 : decode cX4_cuts 65 = .ok (.goto (-22), 3) := dk_167 255 234 (dk_at dksX4_cuts_2 19 rfl rfl)
theorem dX4_cuts_68 : decode cX4_cuts 68 = .ok (.iload_n 3, 1) := dk_29 (dk_at dksX4_cuts_2 22 rfl rfl)
theorem dX4_cuts_69 : decode cX4_cuts 69 = .ok (.invokestatic 154, 3) := dk_184 0 154 (dk_at dksX4_cuts_3 0 rfl rfl)
theorem dX4_cuts_72 : decode cX4_cuts 72 = .ok (.ifCond .eq 28, 3) := dk_153 0 28 (dk_at dksX4_cuts_3 3 rfl rfl)
theorem dX4_cuts_75 : decode cX4_cuts 75 = .ok (.iload 4, 2) := dk_21 4 (dk_at dksX4_cuts_3 6 rfl rfl)
theorem dX4_cuts_77 : decode cX4_cuts 77 = .ok (.iload_n 1, 1) := dk_27 (dk_at dksX4_cuts_3 8 rfl rfl)
theorem dX4_cuts_78 : decode cX4_cuts 78 = .ok (.if_icmp .ge 22, 3) := dk_162 0 22 (dk_at dksX4_cuts_3 9 rfl rfl)
theorem dX4_cuts_81 : decode cX4_cuts 81 = .ok (.aload_n 0, 1) := dk_42 (dk_at dksX4_cuts_3 12 rfl rfl)
theorem dX4_cuts_82 : decode cX4_cuts 82 = .ok (.getfield 34, 3) := dk_180 0 34 (dk_at dksX4_cuts_3 13 rfl rfl)
theorem dX4_cuts_85 : decode cX4_cuts 85 = .ok (.iload 4, 2) := dk_21 4 (dk_at dksX4_cuts_3 16 rfl rfl)
theorem dX4_cuts_87 : decode cX4_cuts 87 = .ok (.baload, 1) := dk_51 (dk_at dksX4_cuts_3 18 rfl rfl)
theorem dX4_cuts_88 : decode cX4_cuts 88 = .ok (.invokestatic 154, 3) := dk_184 0 154 (dk_at dksX4_cuts_3 19 rfl rfl)
theorem dX4_cuts_91 : decode cX4_cuts 91 = .ok (.ifCond .eq 9, 3) := dk_153 0 9 (dk_at dksX4_cuts_4 0 rfl rfl)
theorem dX4_cuts_94 : decode cX4_cuts 94 = .ok (.iinc 4 1, 3) := dk_132 4 1 (dk_at dksX4_cuts_4 3 rfl rfl)
theorem dX4_cuts_97 : decode cX4_cuts 97 = .ok (.goto (-22), 3) := dk_167 255 234 (dk_at dksX4_cuts_4 6 rfl rfl)
theorem dX4_cuts_100 : decode cX4_cuts 100 = .ok (.aload_n 0, 1) := dk_42 (dk_at dksX4_cuts_4 9 rfl rfl)
theorem dX4_cuts_101 : decode cX4_cuts 101 = .ok (.getfield 49, 3) := dk_180 0 49 (dk_at dksX4_cuts_4 10 rfl rfl)
theorem dX4_cuts_104 : decode cX4_cuts 104 = .ok (.aload_n 0, 1) := dk_42 (dk_at dksX4_cuts_4 13 rfl rfl)
theorem dX4_cuts_105 : decode cX4_cuts 105 = .ok (.getfield 148, 3) := dk_180 0 148 (dk_at dksX4_cuts_4 14 rfl rfl)
theorem dX4_cuts_108 : decode cX4_cuts 108 = .ok (.iload_n 2, 1) := dk_28 (dk_at dksX4_cuts_4 17 rfl rfl)
theorem dX4_cuts_109 : decode cX4_cuts 109 = .ok (.iastore, 1) := dk_79 (dk_at dksX4_cuts_4 18 rfl rfl)
theorem dX4_cuts_110 : decode cX4_cuts 110 = .ok (.aload_n 0, 1) := dk_42 (dk_at dksX4_cuts_4 19 rfl rfl)
theorem dX4_cuts_111 : decode cX4_cuts 111 = .ok (.getfield 46, 3) := dk_180 0 46 (dk_at dksX4_cuts_4 20 rfl rfl)
theorem dX4_cuts_114 : decode cX4_cuts 114 = .ok (.aload_n 0, 1) := dk_42 (dk_at dksX4_cuts_4 23 rfl rfl)
theorem dX4_cuts_115 : decode cX4_cuts 115 = .ok (.getfield 148, 3) := dk_180 0 148 (dk_at dksX4_cuts_5 0 rfl rfl)
theorem dX4_cuts_118 : decode cX4_cuts 118 = .ok (.iconst 0, 1) := dk_3 (dk_at dksX4_cuts_5 3 rfl rfl)
theorem dX4_cuts_119 : decode cX4_cuts 119 = .ok (.iastore, 1) := dk_79 (dk_at dksX4_cuts_5 4 rfl rfl)
theorem dX4_cuts_120 : decode cX4_cuts 120 = .ok (.aload_n 0, 1) := dk_42 (dk_at dksX4_cuts_5 5 rfl rfl)
theorem dX4_cuts_121 : decode cX4_cuts 121 = .ok (.getfield 43, 3) := dk_180 0 43 (dk_at dksX4_cuts_5 6 rfl rfl)
theorem dX4_cuts_124 : decode cX4_cuts 124 = .ok (.aload_n 0, 1) := dk_42 (dk_at dksX4_cuts_5 9 rfl rfl)
theorem dX4_cuts_125 : decode cX4_cuts 125 = .ok (.getfield 148, 3) := dk_180 0 148 (dk_at dksX4_cuts_5 10 rfl rfl)
theorem dX4_cuts_128 : decode cX4_cuts 128 = .ok (.iload_n 3, 1) := dk_29 (dk_at dksX4_cuts_5 13 rfl rfl)
theorem dX4_cuts_129 : decode cX4_cuts 129 = .ok (.invokestatic 151, 3) := dk_184 0 151 (dk_at dksX4_cuts_5 14 rfl rfl)
theorem dX4_cuts_132 : decode cX4_cuts 132 = .ok (.ifCond .eq 13, 3) := dk_153 0 13 (dk_at dksX4_cuts_5 17 rfl rfl)
theorem dX4_cuts_135 : decode cX4_cuts 135 = .ok (.aload_n 0, 1) := dk_42 (dk_at dksX4_cuts_5 20 rfl rfl)
theorem dX4_cuts_136 : decode cX4_cuts 136 = .ok (.iload_n 2, 1) := dk_28 (dk_at dksX4_cuts_5 21 rfl rfl)
theorem dX4_cuts_137 : decode cX4_cuts 137 = .ok (.iload 4, 2) := dk_21 4 (dk_at dksX4_cuts_5 22 rfl rfl)
theorem dX4_cuts_139 : decode cX4_cuts 139 = .ok (.invokevirtual 157, 3) := dk_182 0 157 (dk_at dksX4_cuts_6 0 rfl rfl)
theorem dX4_cuts_142 : decode cX4_cuts 142 = .ok (.goto 23, 3) := dk_167 0 23 (dk_at dksX4_cuts_6 3 rfl rfl)
theorem dX4_cuts_145 : decode cX4_cuts 145 = .ok (.iload_n 3, 1) := dk_29 (dk_at dksX4_cuts_6 6 rfl rfl)
theorem dX4_cuts_146 : decode cX4_cuts 146 = .ok (.invokestatic 154, 3) := dk_184 0 154 (dk_at dksX4_cuts_6 7 rfl rfl)
theorem dX4_cuts_149 : decode cX4_cuts 149 = .ok (.ifCond .eq 8, 3) := dk_153 0 8 (dk_at dksX4_cuts_6 10 rfl rfl)
theorem dX4_cuts_152 : decode cX4_cuts 152 = .ok (.bipush 50, 2) := dk_16 50 (dk_at dksX4_cuts_6 13 rfl rfl)
theorem dX4_cuts_154 : decode cX4_cuts 154 = .ok (.goto 11, 3) := dk_167 0 11 (dk_at dksX4_cuts_6 15 rfl rfl)
theorem dX4_cuts_157 : decode cX4_cuts 157 = .ok (.bipush 100, 2) := dk_16 100 (dk_at dksX4_cuts_6 18 rfl rfl)
theorem dX4_cuts_159 : decode cX4_cuts 159 = .ok (.iload_n 3, 1) := dk_29 (dk_at dksX4_cuts_6 20 rfl rfl)
theorem dX4_cuts_160 : decode cX4_cuts 160 = .ok (.sipush 255, 3) := dk_17 0 255 (dk_at dksX4_cuts_6 21 rfl rfl)
theorem dX4_cuts_163 : decode cX4_cuts 163 = .ok (.iand, 1) := dk_126 (dk_at dksX4_cuts_7 0 rfl rfl)
theorem dX4_cuts_164 : decode cX4_cuts 164 = .ok (.iadd, 1) := dk_96 (dk_at dksX4_cuts_7 1 rfl rfl)
theorem dX4_cuts_165 : decode cX4_cuts 165 = .ok (.iastore, 1) := dk_79 (dk_at dksX4_cuts_7 2 rfl rfl)
theorem dX4_cuts_166 : decode cX4_cuts 166 = .ok (.iload_n 2, 1) := dk_28 (dk_at dksX4_cuts_7 3 rfl rfl)
theorem dX4_cuts_167 : decode cX4_cuts 167 = .ok (.istore 5, 2) := dk_54 5 (dk_at dksX4_cuts_7 4 rfl rfl)
theorem dX4_cuts_169 : decode cX4_cuts 169 = .ok (.iload 5, 2) := dk_21 5 (dk_at dksX4_cuts_7 6 rfl rfl)
theorem dX4_cuts_171 : decode cX4_cuts 171 = .ok (.iload 4, 2) := dk_21 4 (dk_at dksX4_cuts_7 8 rfl rfl)
theorem dX4_cuts_173 : decode cX4_cuts 173 = .ok (.if_icmp .ge 74, 3) := dk_162 0 74 (dk_at dksX4_cuts_7 10 rfl rfl)
theorem dX4_cuts_176 : decode cX4_cuts 176 = .ok (.iload_n 3, 1) := dk_29 (dk_at dksX4_cuts_7 13 rfl rfl)
theorem dX4_cuts_177 : decode cX4_cuts 177 = .ok (.invokestatic 154, 3) := dk_184 0 154 (dk_at dksX4_cuts_7 14 rfl rfl)
theorem dX4_cuts_180 : decode cX4_cuts 180 = .ok (.ifCond .eq 67, 3) := dk_153 0 67 (dk_at dksX4_cuts_7 17 rfl rfl)
theorem dX4_cuts_183 : decode cX4_cuts 183 = .ok (.aload_n 0, 1) := dk_42 (dk_at dksX4_cuts_7 20 rfl rfl)
theorem dX4_cuts_184 : decode cX4_cuts 184 = .ok (.getfield 46, 3) := dk_180 0 46 (dk_at dksX4_cuts_7 21 rfl rfl)
theorem dX4_cuts_187 : decode cX4_cuts 187 = .ok (.aload_n 0, 1) := dk_42 (dk_at dksX4_cuts_8 0 rfl rfl)
theorem dX4_cuts_188 : decode cX4_cuts 188 = .ok (.getfield 148, 3) := dk_180 0 148 (dk_at dksX4_cuts_8 1 rfl rfl)
theorem dX4_cuts_191 : decode cX4_cuts 191 = .ok (.aload_n 0, 1) := dk_42 (dk_at dksX4_cuts_8 4 rfl rfl)
theorem dX4_cuts_192 : decode cX4_cuts 192 = .ok (.getfield 46, 3) := dk_180 0 46 (dk_at dksX4_cuts_8 5 rfl rfl)
theorem dX4_cuts_195 : decode cX4_cuts 195 = .ok (.aload_n 0, 1) := dk_42 (dk_at dksX4_cuts_8 8 rfl rfl)
theorem dX4_cuts_196 : decode cX4_cuts 196 = .ok (.getfield 148, 3) := dk_180 0 148 (dk_at dksX4_cuts_8 9 rfl rfl)
theorem dX4_cuts_199 : decode cX4_cuts 199 = .ok (.iaload, 1) := dk_46 (dk_at dksX4_cuts_8 12 rfl rfl)
theorem dX4_cuts_200 : decode cX4_cuts 200 = .ok (.ldc 89, 2) := dk_18 89 (dk_at dksX4_cuts_8 13 rfl rfl)
theorem dX4_cuts_202 : decode cX4_cuts 202 = .ok (.if_icmp .le 15, 3) := dk_164 0 15 (dk_at dksX4_cuts_8 15 rfl rfl)
theorem dX4_cuts_205 : decode cX4_cuts 205 = .ok (.aload_n 0, 1) := dk_42 (dk_at dksX4_cuts_8 18 rfl rfl)
theorem dX4_cuts_206 : decode cX4_cuts 206 = .ok (.getfield 46, 3) := dk_180 0 46 (dk_at dksX4_cuts_8 19 rfl rfl)
theorem dX4_cuts_209 : decode cX4_cuts 209 = .ok (.aload_n 0, 1) := dk_42 (dk_at dksX4_cuts_8 22 rfl rfl)
theorem dX4_cuts_210 : decode cX4_cuts 210 = .ok (.getfield 148, 3) := dk_180 0 148 (dk_at dksX4_cuts_9 0 rfl rfl)
theorem dX4_cuts_213 : decode cX4_cuts 213 = .ok (.iaload, 1) := dk_46 (dk_at dksX4_cuts_9 3 rfl rfl)
theorem dX4_cuts_214 : decode cX4_cuts 214 = .ok (.goto 26, 3) := dk_167 0 26 (dk_at dksX4_cuts_9 4 rfl rfl)
theorem dX4_cuts_217 : decode cX4_cuts 217 = .ok (.bipush 10, 2) := dk_16 10 (dk_at dksX4_cuts_9 7 rfl rfl)
theorem dX4_cuts_219 : decode cX4_cuts 219 = .ok (.aload_n 0, 1) := dk_42 (dk_at dksX4_cuts_9 9 rfl rfl)
theorem dX4_cuts_220 : decode cX4_cuts 220 = .ok (.getfield 46, 3) := dk_180 0 46 (dk_at dksX4_cuts_9 10 rfl rfl)
theorem dX4_cuts_223 : decode cX4_cuts 223 = .ok (.aload_n 0, 1) := dk_42 (dk_at dksX4_cuts_9 13 rfl rfl)
theorem dX4_cuts_224 : decode cX4_cuts 224 = .ok (.getfield 148, 3) := dk_180 0 148 (dk_at dksX4_cuts_9 14 rfl rfl)
theorem dX4_cuts_227 : decode cX4_cuts 227 = .ok (.iaload, 1) := dk_46 (dk_at dksX4_cuts_9 17 rfl rfl)
theorem dX4_cuts_228 : decode cX4_cuts 228 = .ok (.imul, 1) := dk_104 (dk_at dksX4_cuts_9 18 rfl rfl)
theorem dX4_cuts_229 : decode cX4_cuts 229 = .ok (.aload_n 0, 1) := dk_42 (dk_at dksX4_cuts_9 19 rfl rfl)
theorem dX4_cuts_230 : decode cX4_cuts 230 = .ok (.getfield 34, 3) := dk_180 0 34 (dk_at dksX4_cuts_9 20 rfl rfl)
theorem dX4_cuts_233 : decode cX4_cuts 233 = .ok (.iload 5, 2) := dk_21 5 (dk_at dksX4_cuts_10 0 rfl rfl)
theorem dX4_cuts_235 : decode cX4_cuts 235 = .ok (.baload, 1) := dk_51 (dk_at dksX4_cuts_10 2 rfl rfl)
theorem dX4_cuts_236 : decode cX4_cuts 236 = .ok (.iadd, 1) := dk_96 (dk_at dksX4_cuts_10 3 rfl rfl)
theorem dX4_cuts_237 : decode cX4_cuts 237 = .ok (.bipush 48, 2) := dk_16 48 (dk_at dksX4_cuts_10 4 rfl rfl)
theorem dX4_cuts_239 : decode cX4_cuts 239 = .ok (.isub, 1) := dk_100 (dk_at dksX4_cuts_10 6 rfl rfl)
theorem dX4_cuts_240 : decode cX4_cuts 240 = .ok (.iastore, 1) := dk_79 (dk_at dksX4_cuts_10 7 rfl rfl)
theorem dX4_cuts_241 : decode cX4_cuts 241 = .ok (.iinc 5 1, 3) := dk_132 5 1 (dk_at dksX4_cuts_10 8 rfl rfl)
theorem dX4_cuts_244 : decode cX4_cuts 244 = .ok (.goto (-75), 3) := dk_167 255 181 (dk_at dksX4_cuts_10 11 rfl rfl)
theorem dX4_cuts_247 : decode cX4_cuts 247 = .ok (.aload_n 0, 1) := dk_42 (dk_at dksX4_cuts_10 14 rfl rfl)
theorem dX4_cuts_248 : decode cX4_cuts 248 = .ok (.dup, 1) := dk_89 (dk_at dksX4_cuts_10 15 rfl rfl)
theorem dX4_cuts_249 : decode cX4_cuts 249 = .ok (.getfield 148, 3) := dk_180 0 148 (dk_at dksX4_cuts_10 16 rfl rfl)
theorem dX4_cuts_252 : decode cX4_cuts 252 = .ok (.iconst 1, 1) := dk_4 (dk_at dksX4_cuts_10 19 rfl rfl)
theorem dX4_cuts_253 : decode cX4_cuts 253 = .ok (.iadd, 1) := dk_96 (dk_at dksX4_cuts_10 20 rfl rfl)
theorem dX4_cuts_254 : decode cX4_cuts 254 = .ok (.putfield 148, 3) := dk_181 0 148 (dk_at dksX4_cuts_10 21 rfl rfl)
theorem dX4_cuts_257 : decode cX4_cuts 257 = .ok (.iload 4, 2) := dk_21 4 (dk_at dksX4_cuts_11 0 rfl rfl)
theorem dX4_cuts_259 : decode cX4_cuts 259 = .ok (.istore_n 2, 1) := dk_61 (dk_at dksX4_cuts_11 2 rfl rfl)
theorem dX4_cuts_260 : decode cX4_cuts 260 = .ok (.goto (-253), 3) := dk_167 255 3 (dk_at dksX4_cuts_11 3 rfl rfl)
theorem dX4_cuts_263 : decode cX4_cuts 263 = .ok (.aload_n 0, 1) := dk_42 (dk_at dksX4_cuts_11 6 rfl rfl)
theorem dX4_cuts_264 : decode cX4_cuts 264 = .ok (.getfield 49, 3) := dk_180 0 49 (dk_at dksX4_cuts_11 7 rfl rfl)
theorem dX4_cuts_267 : decode cX4_cuts 267 = .ok (.aload_n 0, 1) := dk_42 (dk_at dksX4_cuts_11 10 rfl rfl)
theorem dX4_cuts_268 : decode cX4_cuts 268 = .ok (.getfield 148, 3) := dk_180 0 148 (dk_at dksX4_cuts_11 11 rfl rfl)
theorem dX4_cuts_271 : decode cX4_cuts 271 = .ok (.iload_n 1, 1) := dk_27 (dk_at dksX4_cuts_11 14 rfl rfl)
theorem dX4_cuts_272 : decode cX4_cuts 272 = .ok (.iastore, 1) := dk_79 (dk_at dksX4_cuts_11 15 rfl rfl)
theorem dX4_cuts_273 : decode cX4_cuts 273 = .ok (.aload_n 0, 1) := dk_42 (dk_at dksX4_cuts_11 16 rfl rfl)
theorem dX4_cuts_274 : decode cX4_cuts 274 = .ok (.getfield 43, 3) := dk_180 0 43 (dk_at dksX4_cuts_11 17 rfl rfl)
theorem dX4_cuts_277 : decode cX4_cuts 277 = .ok (.aload_n 0, 1) := dk_42 (dk_at dksX4_cuts_11 20 rfl rfl)
theorem dX4_cuts_278 : decode cX4_cuts 278 = .ok (.getfield 148, 3) := dk_180 0 148 (dk_at dksX4_cuts_11 21 rfl rfl)
theorem dX4_cuts_281 : decode cX4_cuts 281 = .ok (.iconst 0, 1) := dk_3 (dk_at dksX4_cuts_12 0 rfl rfl)
theorem dX4_cuts_282 : decode cX4_cuts 282 = .ok (.iastore, 1) := dk_79 (dk_at dksX4_cuts_12 1 rfl rfl)
theorem dX4_cuts_283 : decode cX4_cuts 283 = .ok (.aload_n 0, 1) := dk_42 (dk_at dksX4_cuts_12 2 rfl rfl)
theorem dX4_cuts_284 : decode cX4_cuts 284 = .ok (.getfield 46, 3) := dk_180 0 46 (dk_at dksX4_cuts_12 3 rfl rfl)
theorem dX4_cuts_287 : decode cX4_cuts 287 = .ok (.aload_n 0, 1) := dk_42 (dk_at dksX4_cuts_12 6 rfl rfl)
theorem dX4_cuts_288 : decode cX4_cuts 288 = .ok (.getfield 148, 3) := dk_180 0 148 (dk_at dksX4_cuts_12 7 rfl rfl)
theorem dX4_cuts_291 : decode cX4_cuts 291 = .ok (.iconst 0, 1) := dk_3 (dk_at dksX4_cuts_12 10 rfl rfl)
theorem dX4_cuts_292 : decode cX4_cuts 292 = .ok (.iastore, 1) := dk_79 (dk_at dksX4_cuts_12 11 rfl rfl)
theorem dX4_cuts_293 : decode cX4_cuts 293 = .ok (.return_, 1) := dk_177 (dk_at dksX4_cuts_12 12 rfl rfl)
abbrev cX4_isSmall : ByteArray := prog_24_method_43_code
def yX4_isSmall : MethodName := ⟨RX4, "isSmall", "(I)Z"⟩
def dkwX4_isSmall_0 : List UInt8 := [26, 16, 97, 161, 0, 13, 26, 16, 122, 163, 0, 7, 4, 167, 0, 4, 3, 172]
abbrev dktX4_isSmall_0 : List UInt8 := dkwX4_isSmall_0 ++ []
theorem dksX4_isSmall_0 : cX4_isSmall.data.toList.drop 0 = dktX4_isSmall_0 := by decide +kernel
theorem dX4_isSmall_0 : decode cX4_isSmall 0 = .ok (.iload_n 0, 1) := dk_26 (dk_at dksX4_isSmall_0 0 rfl rfl)
theorem dX4_isSmall_1 : decode cX4_isSmall 1 = .ok (.bipush 97, 2) := dk_16 97 (dk_at dksX4_isSmall_0 1 rfl rfl)
theorem dX4_isSmall_3 : decode cX4_isSmall 3 = .ok (.if_icmp .lt 13, 3) := dk_161 0 13 (dk_at dksX4_isSmall_0 3 rfl rfl)
theorem dX4_isSmall_6 : decode cX4_isSmall 6 = .ok (.iload_n 0, 1) := dk_26 (dk_at dksX4_isSmall_0 6 rfl rfl)
theorem dX4_isSmall_7 : decode cX4_isSmall 7 = .ok (.bipush 122, 2) := dk_16 122 (dk_at dksX4_isSmall_0 7 rfl rfl)
theorem dX4_isSmall_9 : decode cX4_isSmall 9 = .ok (.if_icmp .gt 7, 3) := dk_163 0 7 (dk_at dksX4_isSmall_0 9 rfl rfl)
theorem dX4_isSmall_12 : decode cX4_isSmall 12 = .ok (.iconst 1, 1) := dk_4 (dk_at dksX4_isSmall_0 12 rfl rfl)
theorem dX4_isSmall_13 : decode cX4_isSmall 13 = .ok (.goto 4, 3) := dk_167 0 4 (dk_at dksX4_isSmall_0 13 rfl rfl)
theorem dX4_isSmall_16 : decode cX4_isSmall 16 = .ok (.iconst 0, 1) := dk_3 (dk_at dksX4_isSmall_0 16 rfl rfl)
theorem dX4_isSmall_17 : decode cX4_isSmall 17 = .ok (.ireturn, 1) := dk_172 (dk_at dksX4_isSmall_0 17 rfl rfl)
abbrev cX4_isDigit : ByteArray := prog_24_method_44_code
def yX4_isDigit : MethodName := ⟨RX4, "isDigit", "(I)Z"⟩
def dkwX4_isDigit_0 : List UInt8 := [26, 16, 48, 161, 0, 13, 26, 16, 57, 163, 0, 7, 4, 167, 0, 4, 3, 172]
abbrev dktX4_isDigit_0 : List UInt8 := dkwX4_isDigit_0 ++ []
theorem dksX4_isDigit_0 : cX4_isDigit.data.toList.drop 0 = dktX4_isDigit_0 := by decide +kernel
theorem dX4_isDigit_0 : decode cX4_isDigit 0 = .ok (.iload_n 0, 1) := dk_26 (dk_at dksX4_isDigit_0 0 rfl rfl)
theorem dX4_isDigit_1 : decode cX4_isDigit 1 = .ok (.bipush 48, 2) := dk_16 48 (dk_at dksX4_isDigit_0 1 rfl rfl)
theorem dX4_isDigit_3 : decode cX4_isDigit 3 = .ok (.if_icmp .lt 13, 3) := dk_161 0 13 (dk_at dksX4_isDigit_0 3 rfl rfl)
theorem dX4_isDigit_6 : decode cX4_isDigit 6 = .ok (.iload_n 0, 1) := dk_26 (dk_at dksX4_isDigit_0 6 rfl rfl)
theorem dX4_isDigit_7 : decode cX4_isDigit 7 = .ok (.bipush 57, 2) := dk_16 57 (dk_at dksX4_isDigit_0 7 rfl rfl)
theorem dX4_isDigit_9 : decode cX4_isDigit 9 = .ok (.if_icmp .gt 7, 3) := dk_163 0 7 (dk_at dksX4_isDigit_0 9 rfl rfl)
theorem dX4_isDigit_12 : decode cX4_isDigit 12 = .ok (.iconst 1, 1) := dk_4 (dk_at dksX4_isDigit_0 12 rfl rfl)
theorem dX4_isDigit_13 : decode cX4_isDigit 13 = .ok (.goto 4, 3) := dk_167 0 4 (dk_at dksX4_isDigit_0 13 rfl rfl)
theorem dX4_isDigit_16 : decode cX4_isDigit 16 = .ok (.iconst 0, 1) := dk_3 (dk_at dksX4_isDigit_0 16 rfl rfl)
theorem dX4_isDigit_17 : decode cX4_isDigit 17 = .ok (.ireturn, 1) := dk_172 (dk_at dksX4_isDigit_0 17 rfl rfl)
abbrev cX4_wordOf : ByteArray := prog_24_method_45_code
def yX4_wordOf : MethodName := ⟨RX4, "wordOf", "(II)I"⟩
def dkwX4_wordOf_5 : List UInt8 := [96, 96, 54, 4, 132, 3, 1, 167, 255, 138, 3, 172]
abbrev dktX4_wordOf_5 : List UInt8 := dkwX4_wordOf_5 ++ []
def dkwX4_wordOf_4 : List UInt8 := [167, 0, 4, 3, 54, 6, 132, 7, 1, 167, 255, 212, 21, 6, 153, 0, 5, 29, 172, 21, 4, 21, 5, 4]
abbrev dktX4_wordOf_4 : List UInt8 := dkwX4_wordOf_4 ++ dktX4_wordOf_5
def dkwX4_wordOf_3 : List UInt8 := [180, 0, 30, 21, 4, 21, 7, 96, 51, 42, 180, 0, 34, 27, 21, 7, 96, 51, 160, 0, 7, 4]
abbrev dktX4_wordOf_3 : List UInt8 := dkwX4_wordOf_3 ++ dktX4_wordOf_4
def dkwX4_wordOf_2 : List UInt8 := [167, 0, 4, 3, 54, 6, 3, 54, 7, 21, 7, 21, 5, 162, 0, 43, 21, 6, 153, 0, 38, 42]
abbrev dktX4_wordOf_2 : List UInt8 := dkwX4_wordOf_2 ++ dktX4_wordOf_3
def dkwX4_wordOf_1 : List UInt8 := [21, 5, 96, 51, 16, 32, 159, 0, 9, 132, 5, 1, 167, 255, 238, 21, 5, 28, 27, 100, 160, 0, 7, 4]
abbrev dktX4_wordOf_1 : List UInt8 := dkwX4_wordOf_1 ++ dktX4_wordOf_2
def dkwX4_wordOf_0 : List UInt8 := [4, 62, 3, 54, 4, 21, 4, 42, 180, 0, 30, 190, 162, 0, 114, 3, 54, 5, 42, 180, 0, 30, 21, 4]
abbrev dktX4_wordOf_0 : List UInt8 := dkwX4_wordOf_0 ++ dktX4_wordOf_1
theorem dksX4_wordOf_0 : cX4_wordOf.data.toList.drop 0 = dktX4_wordOf_0 := by decide +kernel
theorem dksX4_wordOf_1 : cX4_wordOf.data.toList.drop 24 = dktX4_wordOf_1 := dk_seg dksX4_wordOf_0 24 rfl rfl
theorem dksX4_wordOf_2 : cX4_wordOf.data.toList.drop 48 = dktX4_wordOf_2 := dk_seg dksX4_wordOf_1 24 rfl rfl
theorem dksX4_wordOf_3 : cX4_wordOf.data.toList.drop 70 = dktX4_wordOf_3 := dk_seg dksX4_wordOf_2 22 rfl rfl
theorem dksX4_wordOf_4 : cX4_wordOf.data.toList.drop 92 = dktX4_wordOf_4 := dk_seg dksX4_wordOf_3 22 rfl rfl
theorem dksX4_wordOf_5 : cX4_wordOf.data.toList.drop 116 = dktX4_wordOf_5 := dk_seg dksX4_wordOf_4 24 rfl rfl
theorem dX4_wordOf_0 : decode cX4_wordOf 0 = .ok (.iconst 1, 1) := dk_4 (dk_at dksX4_wordOf_0 0 rfl rfl)
theorem dX4_wordOf_1 : decode cX4_wordOf 1 = .ok (.istore_n 3, 1) := dk_62 (dk_at dksX4_wordOf_0 1 rfl rfl)
theorem dX4_wordOf_2 : decode cX4_wordOf 2 = .ok (.iconst 0, 1) := dk_3 (dk_at dksX4_wordOf_0 2 rfl rfl)
theorem dX4_wordOf_3 : decode cX4_wordOf 3 = .ok (.istore 4, 2) := dk_54 4 (dk_at dksX4_wordOf_0 3 rfl rfl)
theorem dX4_wordOf_5 : decode cX4_wordOf 5 = .ok (.iload 4, 2) := dk_21 4 (dk_at dksX4_wordOf_0 5 rfl rfl)
theorem dX4_wordOf_7 : decode cX4_wordOf 7 = .ok (.aload_n 0, 1) := dk_42 (dk_at dksX4_wordOf_0 7 rfl rfl)
theorem dX4_wordOf_8 : decode cX4_wordOf 8 = .ok (.getfield 30, 3) := dk_180 0 30 (dk_at dksX4_wordOf_0 8 rfl rfl)
theorem dX4_wordOf_11 : decode cX4_wordOf 11 = .ok (.arraylength, 1) := dk_190 (dk_at dksX4_wordOf_0 11 rfl rfl)
theorem dX4_wordOf_12 : decode cX4_wordOf 12 = .ok (.if_icmp .ge 114, 3) := dk_162 0 114 (dk_at dksX4_wordOf_0 12 rfl rfl)
theorem dX4_wordOf_15 : decode cX4_wordOf 15 = .ok (.iconst 0, 1) := dk_3 (dk_at dksX4_wordOf_0 15 rfl rfl)
theorem dX4_wordOf_16 : decode cX4_wordOf 16 = .ok (.istore 5, 2) := dk_54 5 (dk_at dksX4_wordOf_0 16 rfl rfl)
theorem dX4_wordOf_18 : decode cX4_wordOf 18 = .ok (.aload_n 0, 1) := dk_42 (dk_at dksX4_wordOf_0 18 rfl rfl)
theorem dX4_wordOf_19 : decode cX4_wordOf 19 = .ok (.getfield 30, 3) := dk_180 0 30 (dk_at dksX4_wordOf_0 19 rfl rfl)
theorem dX4_wordOf_22 : decode cX4_wordOf 22 = .ok (.iload 4, 2) := dk_21 4 (dk_at dksX4_wordOf_0 22 rfl rfl)
theorem dX4_wordOf_24 : decode cX4_wordOf 24 = .ok (.iload 5, 2) := dk_21 5 (dk_at dksX4_wordOf_1 0 rfl rfl)
theorem dX4_wordOf_26 : decode cX4_wordOf 26 = .ok (.iadd, 1) := dk_96 (dk_at dksX4_wordOf_1 2 rfl rfl)
theorem dX4_wordOf_27 : decode cX4_wordOf 27 = .ok (.baload, 1) := dk_51 (dk_at dksX4_wordOf_1 3 rfl rfl)
theorem dX4_wordOf_28 : decode cX4_wordOf 28 = .ok (.bipush 32, 2) := dk_16 32 (dk_at dksX4_wordOf_1 4 rfl rfl)
theorem dX4_wordOf_30 : decode cX4_wordOf 30 = .ok (.if_icmp .eq 9, 3) := dk_159 0 9 (dk_at dksX4_wordOf_1 6 rfl rfl)
theorem dX4_wordOf_33 : decode cX4_wordOf 33 = .ok (.iinc 5 1, 3) := dk_132 5 1 (dk_at dksX4_wordOf_1 9 rfl rfl)
theorem dX4_wordOf_36 : decode cX4_wordOf 36 = .ok (.goto (-18), 3) := dk_167 255 238 (dk_at dksX4_wordOf_1 12 rfl rfl)
theorem dX4_wordOf_39 : decode cX4_wordOf 39 = .ok (.iload 5, 2) := dk_21 5 (dk_at dksX4_wordOf_1 15 rfl rfl)
theorem dX4_wordOf_41 : decode cX4_wordOf 41 = .ok (.iload_n 2, 1) := dk_28 (dk_at dksX4_wordOf_1 17 rfl rfl)
theorem dX4_wordOf_42 : decode cX4_wordOf 42 = .ok (.iload_n 1, 1) := dk_27 (dk_at dksX4_wordOf_1 18 rfl rfl)
theorem dX4_wordOf_43 : decode cX4_wordOf 43 = .ok (.isub, 1) := dk_100 (dk_at dksX4_wordOf_1 19 rfl rfl)
theorem dX4_wordOf_44 : decode cX4_wordOf 44 = .ok (.if_icmp .ne 7, 3) := dk_160 0 7 (dk_at dksX4_wordOf_1 20 rfl rfl)
theorem dX4_wordOf_47 : decode cX4_wordOf 47 = .ok (.iconst 1, 1) := dk_4 (dk_at dksX4_wordOf_1 23 rfl rfl)
theorem dX4_wordOf_48 : decode cX4_wordOf 48 = .ok (.goto 4, 3) := dk_167 0 4 (dk_at dksX4_wordOf_2 0 rfl rfl)
theorem dX4_wordOf_51 : decode cX4_wordOf 51 = .ok (.iconst 0, 1) := dk_3 (dk_at dksX4_wordOf_2 3 rfl rfl)
theorem dX4_wordOf_52 : decode cX4_wordOf 52 = .ok (.istore 6, 2) := dk_54 6 (dk_at dksX4_wordOf_2 4 rfl rfl)
theorem dX4_wordOf_54 : decode cX4_wordOf 54 = .ok (.iconst 0, 1) := dk_3 (dk_at dksX4_wordOf_2 6 rfl rfl)
theorem dX4_wordOf_55 : decode cX4_wordOf 55 = .ok (.istore 7, 2) := dk_54 7 (dk_at dksX4_wordOf_2 7 rfl rfl)
theorem dX4_wordOf_57 : decode cX4_wordOf 57 = .ok (.iload 7, 2) := dk_21 7 (dk_at dksX4_wordOf_2 9 rfl rfl)
theorem dX4_wordOf_59 : decode cX4_wordOf 59 = .ok (.iload 5, 2) := dk_21 5 (dk_at dksX4_wordOf_2 11 rfl rfl)
theorem dX4_wordOf_61 : decode cX4_wordOf 61 = .ok (.if_icmp .ge 43, 3) := dk_162 0 43 (dk_at dksX4_wordOf_2 13 rfl rfl)
theorem dX4_wordOf_64 : decode cX4_wordOf 64 = .ok (.iload 6, 2) := dk_21 6 (dk_at dksX4_wordOf_2 16 rfl rfl)
theorem dX4_wordOf_66 : decode cX4_wordOf 66 = .ok (.ifCond .eq 38, 3) := dk_153 0 38 (dk_at dksX4_wordOf_2 18 rfl rfl)
theorem dX4_wordOf_69 : decode cX4_wordOf 69 = .ok (.aload_n 0, 1) := dk_42 (dk_at dksX4_wordOf_2 21 rfl rfl)
theorem dX4_wordOf_70 : decode cX4_wordOf 70 = .ok (.getfield 30, 3) := dk_180 0 30 (dk_at dksX4_wordOf_3 0 rfl rfl)
theorem dX4_wordOf_73 : decode cX4_wordOf 73 = .ok (.iload 4, 2) := dk_21 4 (dk_at dksX4_wordOf_3 3 rfl rfl)
theorem dX4_wordOf_75 : decode cX4_wordOf 75 = .ok (.iload 7, 2) := dk_21 7 (dk_at dksX4_wordOf_3 5 rfl rfl)
theorem dX4_wordOf_77 : decode cX4_wordOf 77 = .ok (.iadd, 1) := dk_96 (dk_at dksX4_wordOf_3 7 rfl rfl)
theorem dX4_wordOf_78 : decode cX4_wordOf 78 = .ok (.baload, 1) := dk_51 (dk_at dksX4_wordOf_3 8 rfl rfl)
theorem dX4_wordOf_79 : decode cX4_wordOf 79 = .ok (.aload_n 0, 1) := dk_42 (dk_at dksX4_wordOf_3 9 rfl rfl)
theorem dX4_wordOf_80 : decode cX4_wordOf 80 = .ok (.getfield 34, 3) := dk_180 0 34 (dk_at dksX4_wordOf_3 10 rfl rfl)
theorem dX4_wordOf_83 : decode cX4_wordOf 83 = .ok (.iload_n 1, 1) := dk_27 (dk_at dksX4_wordOf_3 13 rfl rfl)
theorem dX4_wordOf_84 : decode cX4_wordOf 84 = .ok (.iload 7, 2) := dk_21 7 (dk_at dksX4_wordOf_3 14 rfl rfl)
theorem dX4_wordOf_86 : decode cX4_wordOf 86 = .ok (.iadd, 1) := dk_96 (dk_at dksX4_wordOf_3 16 rfl rfl)
theorem dX4_wordOf_87 : decode cX4_wordOf 87 = .ok (.baload, 1) := dk_51 (dk_at dksX4_wordOf_3 17 rfl rfl)
theorem dX4_wordOf_88 : decode cX4_wordOf 88 = .ok (.if_icmp .ne 7, 3) := dk_160 0 7 (dk_at dksX4_wordOf_3 18 rfl rfl)
theorem dX4_wordOf_91 : decode cX4_wordOf 91 = .ok (.iconst 1, 1) := dk_4 (dk_at dksX4_wordOf_3 21 rfl rfl)
theorem dX4_wordOf_92 : decode cX4_wordOf 92 = .ok (.goto 4, 3) := dk_167 0 4 (dk_at dksX4_wordOf_4 0 rfl rfl)
theorem dX4_wordOf_95 : decode cX4_wordOf 95 = .ok (.iconst 0, 1) := dk_3 (dk_at dksX4_wordOf_4 3 rfl rfl)
theorem dX4_wordOf_96 : decode cX4_wordOf 96 = .ok (.istore 6, 2) := dk_54 6 (dk_at dksX4_wordOf_4 4 rfl rfl)
theorem dX4_wordOf_98 : decode cX4_wordOf 98 = .ok (.iinc 7 1, 3) := dk_132 7 1 (dk_at dksX4_wordOf_4 6 rfl rfl)
theorem dX4_wordOf_101 : decode cX4_wordOf 101 = .ok (.goto (-44), 3) := dk_167 255 212 (dk_at dksX4_wordOf_4 9 rfl rfl)
theorem dX4_wordOf_104 : decode cX4_wordOf 104 = .ok (.iload 6, 2) := dk_21 6 (dk_at dksX4_wordOf_4 12 rfl rfl)
theorem dX4_wordOf_106 : decode cX4_wordOf 106 = .ok (.ifCond .eq 5, 3) := dk_153 0 5 (dk_at dksX4_wordOf_4 14 rfl rfl)
theorem dX4_wordOf_109 : decode cX4_wordOf 109 = .ok (.iload_n 3, 1) := dk_29 (dk_at dksX4_wordOf_4 17 rfl rfl)
theorem dX4_wordOf_110 : decode cX4_wordOf 110 = .ok (.ireturn, 1) := dk_172 (dk_at dksX4_wordOf_4 18 rfl rfl)
theorem dX4_wordOf_111 : decode cX4_wordOf 111 = .ok (.iload 4, 2) := dk_21 4 (dk_at dksX4_wordOf_4 19 rfl rfl)
theorem dX4_wordOf_113 : decode cX4_wordOf 113 = .ok (.iload 5, 2) := dk_21 5 (dk_at dksX4_wordOf_4 21 rfl rfl)
theorem dX4_wordOf_115 : decode cX4_wordOf 115 = .ok (.iconst 1, 1) := dk_4 (dk_at dksX4_wordOf_4 23 rfl rfl)
theorem dX4_wordOf_116 : decode cX4_wordOf 116 = .ok (.iadd, 1) := dk_96 (dk_at dksX4_wordOf_5 0 rfl rfl)
theorem dX4_wordOf_117 : decode cX4_wordOf 117 = .ok (.iadd, 1) := dk_96 (dk_at dksX4_wordOf_5 1 rfl rfl)
theorem dX4_wordOf_118 : decode cX4_wordOf 118 = .ok (.istore 4, 2) := dk_54 4 (dk_at dksX4_wordOf_5 2 rfl rfl)
theorem dX4_wordOf_120 : decode cX4_wordOf 120 = .ok (.iinc 3 1, 3) := dk_132 3 1 (dk_at dksX4_wordOf_5 4 rfl rfl)
theorem dX4_wordOf_123 : decode cX4_wordOf 123 = .ok (.goto (-118), 3) := dk_167 255 138 (dk_at dksX4_wordOf_5 7 rfl rfl)
theorem dX4_wordOf_126 : decode cX4_wordOf 126 = .ok (.iconst 0, 1) := dk_3 (dk_at dksX4_wordOf_5 10 rfl rfl)
theorem dX4_wordOf_127 : decode cX4_wordOf 127 = .ok (.ireturn, 1) := dk_172 (dk_at dksX4_wordOf_5 11 rfl rfl)
abbrev cX4_readClause : ByteArray := prog_24_method_53_code
def yX4_readClause : MethodName := ⟨RX4, "readClause", "()V"⟩
def dkwX4_readClause_2 : List UInt8 := [182, 0, 170, 153, 0, 8, 42, 3, 182, 0, 185, 177]
abbrev dktX4_readClause_2 : List UInt8 := dkwX4_readClause_2 ++ []
def dkwX4_readClause_1 : List UInt8 := [42, 4, 182, 0, 170, 154, 0, 16, 42, 5, 182, 0, 170, 154, 0, 8, 42, 8, 182, 0, 182, 42, 16, 6]
abbrev dktX4_readClause_1 : List UInt8 := dkwX4_readClause_1 ++ dktX4_readClause_2
def dkwX4_readClause_0 : List UInt8 := [42, 6, 182, 0, 170, 154, 0, 11, 42, 7, 182, 0, 170, 153, 0, 11, 42, 3, 182, 0, 179, 167, 0, 24]
abbrev dktX4_readClause_0 : List UInt8 := dkwX4_readClause_0 ++ dktX4_readClause_1
theorem dksX4_readClause_0 : cX4_readClause.data.toList.drop 0 = dktX4_readClause_0 := by decide +kernel
theorem dksX4_readClause_1 : cX4_readClause.data.toList.drop 24 = dktX4_readClause_1 := dk_seg dksX4_readClause_0 24 rfl rfl
theorem dksX4_readClause_2 : cX4_readClause.data.toList.drop 48 = dktX4_readClause_2 := dk_seg dksX4_readClause_1 24 rfl rfl
theorem dX4_readClause_0 : decode cX4_readClause 0 = .ok (.aload_n 0, 1) := dk_42 (dk_at dksX4_readClause_0 0 rfl rfl)
theorem dX4_readClause_1 : decode cX4_readClause 1 = .ok (.iconst 3, 1) := dk_6 (dk_at dksX4_readClause_0 1 rfl rfl)
theorem dX4_readClause_2 : decode cX4_readClause 2 = .ok (.invokevirtual 170, 3) := dk_182 0 170 (dk_at dksX4_readClause_0 2 rfl rfl)
theorem dX4_readClause_5 : decode cX4_readClause 5 = .ok (.ifCond .ne 11, 3) := dk_154 0 11 (dk_at dksX4_readClause_0 5 rfl rfl)
theorem dX4_readClause_8 : decode cX4_readClause 8 = .ok (.aload_n 0, 1) := dk_42 (dk_at dksX4_readClause_0 8 rfl rfl)
theorem dX4_readClause_9 : decode cX4_readClause 9 = .ok (.iconst 4, 1) := dk_7 (dk_at dksX4_readClause_0 9 rfl rfl)
theorem dX4_readClause_10 : decode cX4_readClause 10 = .ok (.invokevirtual 170, 3) := dk_182 0 170 (dk_at dksX4_readClause_0 10 rfl rfl)
theorem dX4_readClause_13 : decode cX4_readClause 13 = .ok (.ifCond .eq 11, 3) := dk_153 0 11 (dk_at dksX4_readClause_0 13 rfl rfl)
theorem dX4_readClause_16 : decode cX4_readClause 16 = .ok (.aload_n 0, 1) := dk_42 (dk_at dksX4_readClause_0 16 rfl rfl)
theorem dX4_readClause_17 : decode cX4_readClause 17 = .ok (.iconst 0, 1) := dk_3 (dk_at dksX4_readClause_0 17 rfl rfl)
theorem dX4_readClause_18 : decode cX4_readClause 18 = .ok (.invokevirtual 179, 3) := dk_182 0 179 (dk_at dksX4_readClause_0 18 rfl rfl)
theorem dX4_readClause_21 : decode cX4_readClause 21 = .ok (.goto 24, 3) := dk_167 0 24 (dk_at dksX4_readClause_0 21 rfl rfl)
theorem dX4_readClause_24 : decode cX4_readClause 24 = .ok (.aload_n 0, 1) := dk_42 (dk_at dksX4_readClause_1 0 rfl rfl)
theorem dX4_readClause_25 : decode cX4_readClause 25 = .ok (.iconst 1, 1) := dk_4 (dk_at dksX4_readClause_1 1 rfl rfl)
theorem dX4_readClause_26 : decode cX4_readClause 26 = .ok (.invokevirtual 170, 3) := dk_182 0 170 (dk_at dksX4_readClause_1 2 rfl rfl)
theorem dX4_readClause_29 : decode cX4_readClause 29 = .ok (.ifCond .ne 16, 3) := dk_154 0 16 (dk_at dksX4_readClause_1 5 rfl rfl)
theorem dX4_readClause_32 : decode cX4_readClause 32 = .ok (.aload_n 0, 1) := dk_42 (dk_at dksX4_readClause_1 8 rfl rfl)
theorem dX4_readClause_33 : decode cX4_readClause 33 = .ok (.iconst 2, 1) := dk_5 (dk_at dksX4_readClause_1 9 rfl rfl)
theorem dX4_readClause_34 : decode cX4_readClause 34 = .ok (.invokevirtual 170, 3) := dk_182 0 170 (dk_at dksX4_readClause_1 10 rfl rfl)
theorem dX4_readClause_37 : decode cX4_readClause 37 = .ok (.ifCond .ne 8, 3) := dk_154 0 8 (dk_at dksX4_readClause_1 13 rfl rfl)
theorem dX4_readClause_40 : decode cX4_readClause 40 = .ok (.aload_n 0, 1) := dk_42 (dk_at dksX4_readClause_1 16 rfl rfl)
theorem dX4_readClause_41 : decode cX4_readClause 41 = .ok (.iconst 5, 1) := dk_8 (dk_at dksX4_readClause_1 17 rfl rfl)
theorem dX4_readClause_42 : decode cX4_readClause 42 = .ok (.invokevirtual 182, 3) := dk_182 0 182 (dk_at dksX4_readClause_1 18 rfl rfl)
theorem dX4_readClause_45 : decode cX4_readClause 45 = .ok (.aload_n 0, 1) := dk_42 (dk_at dksX4_readClause_1 21 rfl rfl)
theorem dX4_readClause_46 : decode cX4_readClause 46 = .ok (.bipush 6, 2) := dk_16 6 (dk_at dksX4_readClause_1 22 rfl rfl)
theorem dX4_readClause_48 : decode cX4_readClause 48 = .ok (.invokevirtual 170, 3) := dk_182 0 170 (dk_at dksX4_readClause_2 0 rfl rfl)
theorem dX4_readClause_51 : decode cX4_readClause 51 = .ok (.ifCond .eq 8, 3) := dk_153 0 8 (dk_at dksX4_readClause_2 3 rfl rfl)
theorem dX4_readClause_54 : decode cX4_readClause 54 = .ok (.aload_n 0, 1) := dk_42 (dk_at dksX4_readClause_2 6 rfl rfl)
theorem dX4_readClause_55 : decode cX4_readClause 55 = .ok (.iconst 0, 1) := dk_3 (dk_at dksX4_readClause_2 7 rfl rfl)
theorem dX4_readClause_56 : decode cX4_readClause 56 = .ok (.invokevirtual 185, 3) := dk_182 0 185 (dk_at dksX4_readClause_2 8 rfl rfl)
theorem dX4_readClause_59 : decode cX4_readClause 59 = .ok (.return_, 1) := dk_177 (dk_at dksX4_readClause_2 11 rfl rfl)
abbrev cX4_takes : ByteArray := prog_24_method_49_code
def yX4_takes : MethodName := ⟨RX4, "takes", "(I)Z"⟩
def dkwX4_takes_1 : List UInt8 := [3, 61, 28, 153, 0, 13, 42, 89, 180, 0, 167, 4, 96, 181, 0, 167, 28, 172]
abbrev dktX4_takes_1 : List UInt8 := dkwX4_takes_1 ++ []
def dkwX4_takes_0 : List UInt8 := [42, 182, 0, 163, 153, 0, 20, 42, 180, 0, 43, 42, 180, 0, 167, 46, 27, 160, 0, 7, 4, 167, 0, 4]
abbrev dktX4_takes_0 : List UInt8 := dkwX4_takes_0 ++ dktX4_takes_1
theorem dksX4_takes_0 : cX4_takes.data.toList.drop 0 = dktX4_takes_0 := by decide +kernel
theorem dksX4_takes_1 : cX4_takes.data.toList.drop 24 = dktX4_takes_1 := dk_seg dksX4_takes_0 24 rfl rfl
theorem dX4_takes_0 : decode cX4_takes 0 = .ok (.aload_n 0, 1) := dk_42 (dk_at dksX4_takes_0 0 rfl rfl)
theorem dX4_takes_1 : decode cX4_takes 1 = .ok (.invokevirtual 163, 3) := dk_182 0 163 (dk_at dksX4_takes_0 1 rfl rfl)
theorem dX4_takes_4 : decode cX4_takes 4 = .ok (.ifCond .eq 20, 3) := dk_153 0 20 (dk_at dksX4_takes_0 4 rfl rfl)
theorem dX4_takes_7 : decode cX4_takes 7 = .ok (.aload_n 0, 1) := dk_42 (dk_at dksX4_takes_0 7 rfl rfl)
theorem dX4_takes_8 : decode cX4_takes 8 = .ok (.getfield 43, 3) := dk_180 0 43 (dk_at dksX4_takes_0 8 rfl rfl)
theorem dX4_takes_11 : decode cX4_takes 11 = .ok (.aload_n 0, 1) := dk_42 (dk_at dksX4_takes_0 11 rfl rfl)
theorem dX4_takes_12 : decode cX4_takes 12 = .ok (.getfield 167, 3) := dk_180 0 167 (dk_at dksX4_takes_0 12 rfl rfl)
theorem dX4_takes_15 : decode cX4_takes 15 = .ok (.iaload, 1) := dk_46 (dk_at dksX4_takes_0 15 rfl rfl)
theorem dX4_takes_16 : decode cX4_takes 16 = .ok (.iload_n 1, 1) := dk_27 (dk_at dksX4_takes_0 16 rfl rfl)
theorem dX4_takes_17 : decode cX4_takes 17 = .ok (.if_icmp .ne 7, 3) := dk_160 0 7 (dk_at dksX4_takes_0 17 rfl rfl)
theorem dX4_takes_20 : decode cX4_takes 20 = .ok (.iconst 1, 1) := dk_4 (dk_at dksX4_takes_0 20 rfl rfl)
theorem dX4_takes_21 : decode cX4_takes 21 = .ok (.goto 4, 3) := dk_167 0 4 (dk_at dksX4_takes_0 21 rfl rfl)
theorem dX4_takes_24 : decode cX4_takes 24 = .ok (.iconst 0, 1) := dk_3 (dk_at dksX4_takes_1 0 rfl rfl)
theorem dX4_takes_25 : decode cX4_takes 25 = .ok (.istore_n 2, 1) := dk_61 (dk_at dksX4_takes_1 1 rfl rfl)
theorem dX4_takes_26 : decode cX4_takes 26 = .ok (.iload_n 2, 1) := dk_28 (dk_at dksX4_takes_1 2 rfl rfl)
theorem dX4_takes_27 : decode cX4_takes 27 = .ok (.ifCond .eq 13, 3) := dk_153 0 13 (dk_at dksX4_takes_1 3 rfl rfl)
theorem dX4_takes_30 : decode cX4_takes 30 = .ok (.aload_n 0, 1) := dk_42 (dk_at dksX4_takes_1 6 rfl rfl)
theorem dX4_takes_31 : decode cX4_takes 31 = .ok (.dup, 1) := dk_89 (dk_at dksX4_takes_1 7 rfl rfl)
theorem dX4_takes_32 : decode cX4_takes 32 = .ok (.getfield 167, 3) := dk_180 0 167 (dk_at dksX4_takes_1 8 rfl rfl)
theorem dX4_takes_35 : decode cX4_takes 35 = .ok (.iconst 1, 1) := dk_4 (dk_at dksX4_takes_1 11 rfl rfl)
theorem dX4_takes_36 : decode cX4_takes 36 = .ok (.iadd, 1) := dk_96 (dk_at dksX4_takes_1 12 rfl rfl)
theorem dX4_takes_37 : decode cX4_takes 37 = .ok (.putfield 167, 3) := dk_181 0 167 (dk_at dksX4_takes_1 13 rfl rfl)
theorem dX4_takes_40 : decode cX4_takes 40 = .ok (.iload_n 2, 1) := dk_28 (dk_at dksX4_takes_1 16 rfl rfl)
theorem dX4_takes_41 : decode cX4_takes 41 = .ok (.ireturn, 1) := dk_172 (dk_at dksX4_takes_1 17 rfl rfl)
abbrev cX4_fine : ByteArray := prog_24_method_47_code
def yX4_fine : MethodName := ⟨RX4, "fine", "()Z"⟩
def dkwX4_fine_0 : List UInt8 := [42, 180, 0, 160, 2, 160, 0, 7, 4, 167, 0, 4, 3, 172]
abbrev dktX4_fine_0 : List UInt8 := dkwX4_fine_0 ++ []
theorem dksX4_fine_0 : cX4_fine.data.toList.drop 0 = dktX4_fine_0 := by decide +kernel
theorem dX4_fine_0 : decode cX4_fine 0 = .ok (.aload_n 0, 1) := dk_42 (dk_at dksX4_fine_0 0 rfl rfl)
theorem dX4_fine_1 : decode cX4_fine 1 = .ok (.getfield 160, 3) := dk_180 0 160 (dk_at dksX4_fine_0 1 rfl rfl)
theorem dX4_fine_4 : decode cX4_fine 4 = .ok (.iconst (-1), 1) := dk_2 (dk_at dksX4_fine_0 4 rfl rfl)
theorem dX4_fine_5 : decode cX4_fine 5 = .ok (.if_icmp .ne 7, 3) := dk_160 0 7 (dk_at dksX4_fine_0 5 rfl rfl)
theorem dX4_fine_8 : decode cX4_fine 8 = .ok (.iconst 1, 1) := dk_4 (dk_at dksX4_fine_0 8 rfl rfl)
theorem dX4_fine_9 : decode cX4_fine 9 = .ok (.goto 4, 3) := dk_167 0 4 (dk_at dksX4_fine_0 9 rfl rfl)
theorem dX4_fine_12 : decode cX4_fine 12 = .ok (.iconst 0, 1) := dk_3 (dk_at dksX4_fine_0 12 rfl rfl)
theorem dX4_fine_13 : decode cX4_fine 13 = .ok (.ireturn, 1) := dk_172 (dk_at dksX4_fine_0 13 rfl rfl)
abbrev cX4_readSum : ByteArray := prog_24_method_57_code
def yX4_readSum : MethodName := ⟨RX4, "readSum", "(I)V"⟩
def dkwX4_readSum_1 : List UInt8 := [182, 0, 170, 153, 0, 11, 42, 27, 182, 0, 201, 167, 255, 227, 177]
abbrev dktX4_readSum_1 : List UInt8 := dkwX4_readSum_1 ++ []
def dkwX4_readSum_0 : List UInt8 := [42, 27, 182, 0, 201, 42, 16, 43, 184, 0, 194, 182, 0, 170, 154, 0, 15, 42, 16, 45, 184, 0, 194]
abbrev dktX4_readSum_0 : List UInt8 := dkwX4_readSum_0 ++ dktX4_readSum_1
theorem dksX4_readSum_0 : cX4_readSum.data.toList.drop 0 = dktX4_readSum_0 := by decide +kernel
theorem dksX4_readSum_1 : cX4_readSum.data.toList.drop 23 = dktX4_readSum_1 := dk_seg dksX4_readSum_0 23 rfl rfl
theorem dX4_readSum_0 : decode cX4_readSum 0 = .ok (.aload_n 0, 1) := dk_42 (dk_at dksX4_readSum_0 0 rfl rfl)
theorem dX4_readSum_1 : decode cX4_readSum 1 = .ok (.iload_n 1, 1) := dk_27 (dk_at dksX4_readSum_0 1 rfl rfl)
theorem dX4_readSum_2 : decode cX4_readSum 2 = .ok (.invokevirtual 201, 3) := dk_182 0 201 (dk_at dksX4_readSum_0 2 rfl rfl)
theorem dX4_readSum_5 : decode cX4_readSum 5 = .ok (.aload_n 0, 1) := dk_42 (dk_at dksX4_readSum_0 5 rfl rfl)
theorem dX4_readSum_6 : decode cX4_readSum 6 = .ok (.bipush 43, 2) := dk_16 43 (dk_at dksX4_readSum_0 6 rfl rfl)
theorem dX4_readSum_8 : decode cX4_readSum 8 = .ok (.invokestatic 194, 3) := dk_184 0 194 (dk_at dksX4_readSum_0 8 rfl rfl)
theorem dX4_readSum_11 : decode cX4_readSum 11 = .ok (.invokevirtual 170, 3) := dk_182 0 170 (dk_at dksX4_readSum_0 11 rfl rfl)
theorem dX4_readSum_14 : decode cX4_readSum 14 = .ok (.ifCond .ne 15, 3) := dk_154 0 15 (dk_at dksX4_readSum_0 14 rfl rfl)
theorem dX4_readSum_17 : decode cX4_readSum 17 = .ok (.aload_n 0, 1) := dk_42 (dk_at dksX4_readSum_0 17 rfl rfl)
theorem dX4_readSum_18 : decode cX4_readSum 18 = .ok (.bipush 45, 2) := dk_16 45 (dk_at dksX4_readSum_0 18 rfl rfl)
theorem dX4_readSum_20 : decode cX4_readSum 20 = .ok (.invokestatic 194, 3) := dk_184 0 194 (dk_at dksX4_readSum_0 20 rfl rfl)
theorem dX4_readSum_23 : decode cX4_readSum 23 = .ok (.invokevirtual 170, 3) := dk_182 0 170 (dk_at dksX4_readSum_1 0 rfl rfl)
theorem dX4_readSum_26 : decode cX4_readSum 26 = .ok (.ifCond .eq 11, 3) := dk_153 0 11 (dk_at dksX4_readSum_1 3 rfl rfl)
theorem dX4_readSum_29 : decode cX4_readSum 29 = .ok (.aload_n 0, 1) := dk_42 (dk_at dksX4_readSum_1 6 rfl rfl)
theorem dX4_readSum_30 : decode cX4_readSum 30 = .ok (.iload_n 1, 1) := dk_27 (dk_at dksX4_readSum_1 7 rfl rfl)
theorem dX4_readSum_31 : decode cX4_readSum 31 = .ok (.invokevirtual 201, 3) := dk_182 0 201 (dk_at dksX4_readSum_1 8 rfl rfl)
theorem dX4_readSum_34 : decode cX4_readSum 34 = .ok (.goto (-29), 3) := dk_167 255 227 (dk_at dksX4_readSum_1 11 rfl rfl)
theorem dX4_readSum_37 : decode cX4_readSum 37 = .ok (.return_, 1) := dk_177 (dk_at dksX4_readSum_1 14 rfl rfl)
abbrev cX4_readTerm : ByteArray := prog_24_method_58_code
def yX4_readTerm : MethodName := ⟨RX4, "readTerm", "(I)V"⟩
def dkwX4_readTerm_1 : List UInt8 := [182, 0, 170, 153, 0, 11, 42, 27, 182, 0, 204, 167, 255, 227, 177]
abbrev dktX4_readTerm_1 : List UInt8 := dkwX4_readTerm_1 ++ []
def dkwX4_readTerm_0 : List UInt8 := [42, 27, 182, 0, 204, 42, 16, 42, 184, 0, 194, 182, 0, 170, 154, 0, 15, 42, 16, 47, 184, 0, 194]
abbrev dktX4_readTerm_0 : List UInt8 := dkwX4_readTerm_0 ++ dktX4_readTerm_1
theorem dksX4_readTerm_0 : cX4_readTerm.data.toList.drop 0 = dktX4_readTerm_0 := by decide +kernel
theorem dksX4_readTerm_1 : cX4_readTerm.data.toList.drop 23 = dktX4_readTerm_1 := dk_seg dksX4_readTerm_0 23 rfl rfl
theorem dX4_readTerm_0 : decode cX4_readTerm 0 = .ok (.aload_n 0, 1) := dk_42 (dk_at dksX4_readTerm_0 0 rfl rfl)
theorem dX4_readTerm_1 : decode cX4_readTerm 1 = .ok (.iload_n 1, 1) := dk_27 (dk_at dksX4_readTerm_0 1 rfl rfl)
theorem dX4_readTerm_2 : decode cX4_readTerm 2 = .ok (.invokevirtual 204, 3) := dk_182 0 204 (dk_at dksX4_readTerm_0 2 rfl rfl)
theorem dX4_readTerm_5 : decode cX4_readTerm 5 = .ok (.aload_n 0, 1) := dk_42 (dk_at dksX4_readTerm_0 5 rfl rfl)
theorem dX4_readTerm_6 : decode cX4_readTerm 6 = .ok (.bipush 42, 2) := dk_16 42 (dk_at dksX4_readTerm_0 6 rfl rfl)
theorem dX4_readTerm_8 : decode cX4_readTerm 8 = .ok (.invokestatic 194, 3) := dk_184 0 194 (dk_at dksX4_readTerm_0 8 rfl rfl)
theorem dX4_readTerm_11 : decode cX4_readTerm 11 = .ok (.invokevirtual 170, 3) := dk_182 0 170 (dk_at dksX4_readTerm_0 11 rfl rfl)
theorem dX4_readTerm_14 : decode cX4_readTerm 14 = .ok (.ifCond .ne 15, 3) := dk_154 0 15 (dk_at dksX4_readTerm_0 14 rfl rfl)
theorem dX4_readTerm_17 : decode cX4_readTerm 17 = .ok (.aload_n 0, 1) := dk_42 (dk_at dksX4_readTerm_0 17 rfl rfl)
theorem dX4_readTerm_18 : decode cX4_readTerm 18 = .ok (.bipush 47, 2) := dk_16 47 (dk_at dksX4_readTerm_0 18 rfl rfl)
theorem dX4_readTerm_20 : decode cX4_readTerm 20 = .ok (.invokestatic 194, 3) := dk_184 0 194 (dk_at dksX4_readTerm_0 20 rfl rfl)
theorem dX4_readTerm_23 : decode cX4_readTerm 23 = .ok (.invokevirtual 170, 3) := dk_182 0 170 (dk_at dksX4_readTerm_1 0 rfl rfl)
theorem dX4_readTerm_26 : decode cX4_readTerm 26 = .ok (.ifCond .eq 11, 3) := dk_153 0 11 (dk_at dksX4_readTerm_1 3 rfl rfl)
theorem dX4_readTerm_29 : decode cX4_readTerm 29 = .ok (.aload_n 0, 1) := dk_42 (dk_at dksX4_readTerm_1 6 rfl rfl)
theorem dX4_readTerm_30 : decode cX4_readTerm 30 = .ok (.iload_n 1, 1) := dk_27 (dk_at dksX4_readTerm_1 7 rfl rfl)
theorem dX4_readTerm_31 : decode cX4_readTerm 31 = .ok (.invokevirtual 204, 3) := dk_182 0 204 (dk_at dksX4_readTerm_1 8 rfl rfl)
theorem dX4_readTerm_34 : decode cX4_readTerm 34 = .ok (.goto (-29), 3) := dk_167 255 227 (dk_at dksX4_readTerm_1 11 rfl rfl)
theorem dX4_readTerm_37 : decode cX4_readTerm 37 = .ok (.return_, 1) := dk_177 (dk_at dksX4_readTerm_1 14 rfl rfl)
abbrev cX4_readPart : ByteArray := prog_24_method_59_code
def yX4_readPart : MethodName := ⟨RX4, "readPart", "(I)V"⟩
def dkwX4_readPart_4 : List UInt8 := [16, 17, 161, 0, 16, 28, 16, 24, 163, 0, 10, 42, 182, 0, 198, 167, 0, 7, 42, 182, 0, 173, 177]
abbrev dktX4_readPart_4 : List UInt8 := dkwX4_readPart_4 ++ []
def dkwX4_readPart_3 : List UInt8 := [167, 0, 46, 28, 16, 50, 160, 0, 17, 42, 180, 0, 46, 42, 180, 0, 167, 46, 18, 207, 164, 0, 15, 28]
abbrev dktX4_readPart_3 : List UInt8 := dkwX4_readPart_3 ++ dktX4_readPart_4
def dkwX4_readPart_2 : List UInt8 := [180, 0, 167, 4, 96, 181, 0, 167, 42, 27, 4, 96, 182, 0, 179, 42, 16, 93, 184, 0, 194, 182, 0, 182]
abbrev dktX4_readPart_2 : List UInt8 := dkwX4_readPart_2 ++ dktX4_readPart_3
def dkwX4_readPart_1 : List UInt8 := [160, 0, 50, 27, 16, 8, 160, 0, 7, 42, 182, 0, 173, 42, 182, 0, 163, 154, 0, 4, 177, 42, 89]
abbrev dktX4_readPart_1 : List UInt8 := dkwX4_readPart_1 ++ dktX4_readPart_2
def dkwX4_readPart_0 : List UInt8 := [42, 182, 0, 163, 154, 0, 4, 177, 42, 180, 0, 43, 42, 180, 0, 167, 46, 61, 28, 16, 91, 184, 0, 194]
abbrev dktX4_readPart_0 : List UInt8 := dkwX4_readPart_0 ++ dktX4_readPart_1
theorem dksX4_readPart_0 : cX4_readPart.data.toList.drop 0 = dktX4_readPart_0 := by decide +kernel
theorem dksX4_readPart_1 : cX4_readPart.data.toList.drop 24 = dktX4_readPart_1 := dk_seg dksX4_readPart_0 24 rfl rfl
theorem dksX4_readPart_2 : cX4_readPart.data.toList.drop 47 = dktX4_readPart_2 := dk_seg dksX4_readPart_1 23 rfl rfl
theorem dksX4_readPart_3 : cX4_readPart.data.toList.drop 71 = dktX4_readPart_3 := dk_seg dksX4_readPart_2 24 rfl rfl
theorem dksX4_readPart_4 : cX4_readPart.data.toList.drop 95 = dktX4_readPart_4 := dk_seg dksX4_readPart_3 24 rfl rfl
theorem dX4_readPart_0 : decode cX4_readPart 0 = .ok (.aload_n 0, 1) := dk_42 (dk_at dksX4_readPart_0 0 rfl rfl)
theorem dX4_readPart_1 : decode cX4_readPart 1 = .ok (.invokevirtual 163, 3) := dk_182 0 163 (dk_at dksX4_readPart_0 1 rfl rfl)
theorem dX4_readPart_4 : decode cX4_readPart 4 = .ok (.ifCond .ne 4, 3) := dk_154 0 4 (dk_at dksX4_readPart_0 4 rfl rfl)
theorem dX4_readPart_7 : decode cX4_readPart 7 = .ok (.return_, 1) := dk_177 (dk_at dksX4_readPart_0 7 rfl rfl)
theorem dX4_readPart_8 : decode cX4_readPart 8 = .ok (.aload_n 0, 1) := dk_42 (dk_at dksX4_readPart_0 8 rfl rfl)
theorem dX4_readPart_9 : decode cX4_readPart 9 = .ok (.getfield 43, 3) := dk_180 0 43 (dk_at dksX4_readPart_0 9 rfl rfl)
theorem dX4_readPart_12 : decode cX4_readPart 12 = .ok (.aload_n 0, 1) := dk_42 (dk_at dksX4_readPart_0 12 rfl rfl)
theorem dX4_readPart_13 : decode cX4_readPart 13 = .ok (.getfield 167, 3) := dk_180 0 167 (dk_at dksX4_readPart_0 13 rfl rfl)
theorem dX4_readPart_16 : decode cX4_readPart 16 = .ok (.iaload, 1) := dk_46 (dk_at dksX4_readPart_0 16 rfl rfl)
theorem dX4_readPart_17 : decode cX4_readPart 17 = .ok (.istore_n 2, 1) := dk_61 (dk_at dksX4_readPart_0 17 rfl rfl)
theorem dX4_readPart_18 : decode cX4_readPart 18 = .ok (.iload_n 2, 1) := dk_28 (dk_at dksX4_readPart_0 18 rfl rfl)
theorem dX4_readPart_19 : decode cX4_readPart 19 = .ok (.bipush 91, 2) := dk_16 91 (dk_at dksX4_readPart_0 19 rfl rfl)
theorem dX4_readPart_21 : decode cX4_readPart 21 = .ok (.invokestatic 194, 3) := dk_184 0 194 (dk_at dksX4_readPart_0 21 rfl rfl)
theorem dX4_readPart_24 : decode cX4_readPart 24 = .ok (.if_icmp .ne 50, 3) := dk_160 0 50 (dk_at dksX4_readPart_1 0 rfl rfl)
theorem dX4_readPart_27 : decode cX4_readPart 27 = .ok (.iload_n 1, 1) := dk_27 (dk_at dksX4_readPart_1 3 rfl rfl)
theorem dX4_readPart_28 : decode cX4_readPart 28 = .ok (.bipush 8, 2) := dk_16 8 (dk_at dksX4_readPart_1 4 rfl rfl)
theorem dX4_readPart_30 : decode cX4_readPart 30 = .ok (.if_icmp .ne 7, 3) := dk_160 0 7 (dk_at dksX4_readPart_1 6 rfl rfl)
theorem dX4_readPart_33 : decode cX4_readPart 33 = .ok (.aload_n 0, 1) := dk_42 (dk_at dksX4_readPart_1 9 rfl rfl)
theorem dX4_readPart_34 : decode cX4_readPart 34 = .ok (.invokevirtual 173, 3) := dk_182 0 173 (dk_at dksX4_readPart_1 10 rfl rfl)
theorem dX4_readPart_37 : decode cX4_readPart 37 = .ok (.aload_n 0, 1) := dk_42 (dk_at dksX4_readPart_1 13 rfl rfl)
theorem dX4_readPart_38 : decode cX4_readPart 38 = .ok (.invokevirtual 163, 3) := dk_182 0 163 (dk_at dksX4_readPart_1 14 rfl rfl)
theorem dX4_readPart_41 : decode cX4_readPart 41 = .ok (.ifCond .ne 4, 3) := dk_154 0 4 (dk_at dksX4_readPart_1 17 rfl rfl)
theorem dX4_readPart_44 : decode cX4_readPart 44 = .ok (.return_, 1) := dk_177 (dk_at dksX4_readPart_1 20 rfl rfl)
theorem dX4_readPart_45 : decode cX4_readPart 45 = .ok (.aload_n 0, 1) := dk_42 (dk_at dksX4_readPart_1 21 rfl rfl)
theorem dX4_readPart_46 : decode cX4_readPart 46 = .ok (.dup, 1) := dk_89 (dk_at dksX4_readPart_1 22 rfl rfl)
theorem dX4_readPart_47 : decode cX4_readPart 47 = .ok (.getfield 167, 3) := dk_180 0 167 (dk_at dksX4_readPart_2 0 rfl rfl)
theorem dX4_readPart_50 : decode cX4_readPart 50 = .ok (.iconst 1, 1) := dk_4 (dk_at dksX4_readPart_2 3 rfl rfl)
theorem dX4_readPart_51 : decode cX4_readPart 51 = .ok (.iadd, 1) := dk_96 (dk_at dksX4_readPart_2 4 rfl rfl)
theorem dX4_readPart_52 : decode cX4_readPart 52 = .ok (.putfield 167, 3) := dk_181 0 167 (dk_at dksX4_readPart_2 5 rfl rfl)
theorem dX4_readPart_55 : decode cX4_readPart 55 = .ok (.aload_n 0, 1) := dk_42 (dk_at dksX4_readPart_2 8 rfl rfl)
theorem dX4_readPart_56 : decode cX4_readPart 56 = .ok (.iload_n 1, 1) := dk_27 (dk_at dksX4_readPart_2 9 rfl rfl)
theorem dX4_readPart_57 : decode cX4_readPart 57 = .ok (.iconst 1, 1) := dk_4 (dk_at dksX4_readPart_2 10 rfl rfl)
theorem dX4_readPart_58 : decode cX4_readPart 58 = .ok (.iadd, 1) := dk_96 (dk_at dksX4_readPart_2 11 rfl rfl)
theorem dX4_readPart_59 : decode cX4_readPart 59 = .ok (.invokevirtual 179, 3) := dk_182 0 179 (dk_at dksX4_readPart_2 12 rfl rfl)
theorem dX4_readPart_62 : decode cX4_readPart 62 = .ok (.aload_n 0, 1) := dk_42 (dk_at dksX4_readPart_2 15 rfl rfl)
theorem dX4_readPart_63 : decode cX4_readPart 63 = .ok (.bipush 93, 2) := dk_16 93 (dk_at dksX4_readPart_2 16 rfl rfl)
theorem dX4_readPart_65 : decode cX4_readPart 65 = .ok (.invokestatic 194, 3) := dk_184 0 194 (dk_at dksX4_readPart_2 18 rfl rfl)
theorem dX4_readPart_68 : decode cX4_readPart 68 = .ok (.invokevirtual 182, 3) := dk_182 0 182 (dk_at dksX4_readPart_2 21 rfl rfl)
theorem dX4_readPart_71 : decode cX4_readPart 71 = .ok (.goto 46, 3) := dk_167 0 46 (dk_at dksX4_readPart_3 0 rfl rfl)
theorem dX4_readPart_74 : decode cX4_readPart 74 = .ok (.iload_n 2, 1) := dk_28 (dk_at dksX4_readPart_3 3 rfl rfl)
theorem dX4_readPart_75 : decode cX4_readPart 75 = .ok (.bipush 50, 2) := dk_16 50 (dk_at dksX4_readPart_3 4 rfl rfl)
theorem dX4_readPart_77 : decode cX4_readPart 77 = .ok (.if_icmp .ne 17, 3) := dk_160 0 17 (dk_at dksX4_readPart_3 6 rfl rfl)
theorem dX4_readPart_80 : decode cX4_readPart 80 = .ok (.aload_n 0, 1) := dk_42 (dk_at dksX4_readPart_3 9 rfl rfl)
theorem dX4_readPart_81 : decode cX4_readPart 81 = .ok (.getfield 46, 3) := dk_180 0 46 (dk_at dksX4_readPart_3 10 rfl rfl)
theorem dX4_readPart_84 : decode cX4_readPart 84 = .ok (.aload_n 0, 1) := dk_42 (dk_at dksX4_readPart_3 13 rfl rfl)
theorem dX4_readPart_85 : decode cX4_readPart 85 = .ok (.getfield 167, 3) := dk_180 0 167 (dk_at dksX4_readPart_3 14 rfl rfl)
theorem dX4_readPart_88 : decode cX4_readPart 88 = .ok (.iaload, 1) := dk_46 (dk_at dksX4_readPart_3 17 rfl rfl)
theorem dX4_readPart_89 : decode cX4_readPart 89 = .ok (.ldc 207, 2) := dk_18 207 (dk_at dksX4_readPart_3 18 rfl rfl)
theorem dX4_readPart_91 : decode cX4_readPart 91 = .ok (.if_icmp .le 15, 3) := dk_164 0 15 (dk_at dksX4_readPart_3 20 rfl rfl)
theorem dX4_readPart_94 : decode cX4_readPart 94 = .ok (.iload_n 2, 1) := dk_28 (dk_at dksX4_readPart_3 23 rfl rfl)
theorem dX4_readPart_95 : decode cX4_readPart 95 = .ok (.bipush 17, 2) := dk_16 17 (dk_at dksX4_readPart_4 0 rfl rfl)
theorem dX4_readPart_97 : decode cX4_readPart 97 = .ok (.if_icmp .lt 16, 3) := dk_161 0 16 (dk_at dksX4_readPart_4 2 rfl rfl)
theorem dX4_readPart_100 : decode cX4_readPart 100 = .ok (.iload_n 2, 1) := dk_28 (dk_at dksX4_readPart_4 5 rfl rfl)
theorem dX4_readPart_101 : decode cX4_readPart 101 = .ok (.bipush 24, 2) := dk_16 24 (dk_at dksX4_readPart_4 6 rfl rfl)
theorem dX4_readPart_103 : decode cX4_readPart 103 = .ok (.if_icmp .gt 10, 3) := dk_163 0 10 (dk_at dksX4_readPart_4 8 rfl rfl)
theorem dX4_readPart_106 : decode cX4_readPart 106 = .ok (.aload_n 0, 1) := dk_42 (dk_at dksX4_readPart_4 11 rfl rfl)
theorem dX4_readPart_107 : decode cX4_readPart 107 = .ok (.invokevirtual 198, 3) := dk_182 0 198 (dk_at dksX4_readPart_4 12 rfl rfl)
theorem dX4_readPart_110 : decode cX4_readPart 110 = .ok (.goto 7, 3) := dk_167 0 7 (dk_at dksX4_readPart_4 15 rfl rfl)
theorem dX4_readPart_113 : decode cX4_readPart 113 = .ok (.aload_n 0, 1) := dk_42 (dk_at dksX4_readPart_4 18 rfl rfl)
theorem dX4_readPart_114 : decode cX4_readPart 114 = .ok (.invokevirtual 173, 3) := dk_182 0 173 (dk_at dksX4_readPart_4 19 rfl rfl)
theorem dX4_readPart_117 : decode cX4_readPart 117 = .ok (.return_, 1) := dk_177 (dk_at dksX4_readPart_4 22 rfl rfl)
abbrev cX4_sign : ByteArray := prog_24_method_52_code
def yX4_sign : MethodName := ⟨RX4, "sign", "(C)I"⟩
def dkwX4_sign_0 : List UInt8 := [16, 100, 26, 96, 172]
abbrev dktX4_sign_0 : List UInt8 := dkwX4_sign_0 ++ []
theorem dksX4_sign_0 : cX4_sign.data.toList.drop 0 = dktX4_sign_0 := by decide +kernel
theorem dX4_sign_0 : decode cX4_sign 0 = .ok (.bipush 100, 2) := dk_16 100 (dk_at dksX4_sign_0 0 rfl rfl)
theorem dX4_sign_2 : decode cX4_sign 2 = .ok (.iload_n 0, 1) := dk_26 (dk_at dksX4_sign_0 2 rfl rfl)
theorem dX4_sign_3 : decode cX4_sign 3 = .ok (.iadd, 1) := dk_96 (dk_at dksX4_sign_0 3 rfl rfl)
theorem dX4_sign_4 : decode cX4_sign 4 = .ok (.ireturn, 1) := dk_172 (dk_at dksX4_sign_0 4 rfl rfl)
abbrev cX4_faults : ByteArray := prog_24_method_48_code
def yX4_faults : MethodName := ⟨RX4, "faults", "()V"⟩
def dkwX4_faults_0 : List UInt8 := [42, 182, 0, 163, 153, 0, 16, 42, 42, 180, 0, 49, 42, 180, 0, 167, 46, 181, 0, 160, 177]
abbrev dktX4_faults_0 : List UInt8 := dkwX4_faults_0 ++ []
theorem dksX4_faults_0 : cX4_faults.data.toList.drop 0 = dktX4_faults_0 := by decide +kernel
theorem dX4_faults_0 : decode cX4_faults 0 = .ok (.aload_n 0, 1) := dk_42 (dk_at dksX4_faults_0 0 rfl rfl)
theorem dX4_faults_1 : decode cX4_faults 1 = .ok (.invokevirtual 163, 3) := dk_182 0 163 (dk_at dksX4_faults_0 1 rfl rfl)
theorem dX4_faults_4 : decode cX4_faults 4 = .ok (.ifCond .eq 16, 3) := dk_153 0 16 (dk_at dksX4_faults_0 4 rfl rfl)
theorem dX4_faults_7 : decode cX4_faults 7 = .ok (.aload_n 0, 1) := dk_42 (dk_at dksX4_faults_0 7 rfl rfl)
theorem dX4_faults_8 : decode cX4_faults 8 = .ok (.aload_n 0, 1) := dk_42 (dk_at dksX4_faults_0 8 rfl rfl)
theorem dX4_faults_9 : decode cX4_faults 9 = .ok (.getfield 49, 3) := dk_180 0 49 (dk_at dksX4_faults_0 9 rfl rfl)
theorem dX4_faults_12 : decode cX4_faults 12 = .ok (.aload_n 0, 1) := dk_42 (dk_at dksX4_faults_0 12 rfl rfl)
theorem dX4_faults_13 : decode cX4_faults 13 = .ok (.getfield 167, 3) := dk_180 0 167 (dk_at dksX4_faults_0 13 rfl rfl)
theorem dX4_faults_16 : decode cX4_faults 16 = .ok (.iaload, 1) := dk_46 (dk_at dksX4_faults_0 16 rfl rfl)
theorem dX4_faults_17 : decode cX4_faults 17 = .ok (.putfield 160, 3) := dk_181 0 160 (dk_at dksX4_faults_0 17 rfl rfl)
theorem dX4_faults_20 : decode cX4_faults 20 = .ok (.return_, 1) := dk_177 (dk_at dksX4_faults_0 20 rfl rfl)
abbrev cX4_must : ByteArray := prog_24_method_50_code
def yX4_must : MethodName := ⟨RX4, "must", "(I)V"⟩
def dkwX4_must_0 : List UInt8 := [42, 27, 182, 0, 170, 154, 0, 7, 42, 182, 0, 173, 177]
abbrev dktX4_must_0 : List UInt8 := dkwX4_must_0 ++ []
theorem dksX4_must_0 : cX4_must.data.toList.drop 0 = dktX4_must_0 := by decide +kernel
theorem dX4_must_0 : decode cX4_must 0 = .ok (.aload_n 0, 1) := dk_42 (dk_at dksX4_must_0 0 rfl rfl)
theorem dX4_must_1 : decode cX4_must 1 = .ok (.iload_n 1, 1) := dk_27 (dk_at dksX4_must_0 1 rfl rfl)
theorem dX4_must_2 : decode cX4_must 2 = .ok (.invokevirtual 170, 3) := dk_182 0 170 (dk_at dksX4_must_0 2 rfl rfl)
theorem dX4_must_5 : decode cX4_must 5 = .ok (.ifCond .ne 7, 3) := dk_154 0 7 (dk_at dksX4_must_0 5 rfl rfl)
theorem dX4_must_8 : decode cX4_must 8 = .ok (.aload_n 0, 1) := dk_42 (dk_at dksX4_must_0 8 rfl rfl)
theorem dX4_must_9 : decode cX4_must 9 = .ok (.invokevirtual 173, 3) := dk_182 0 173 (dk_at dksX4_must_0 9 rfl rfl)
theorem dX4_must_12 : decode cX4_must 12 = .ok (.return_, 1) := dk_177 (dk_at dksX4_must_0 12 rfl rfl)
abbrev cX4_leaf : ByteArray := prog_24_method_51_code
def yX4_leaf : MethodName := ⟨RX4, "leaf", "()V"⟩
def dkwX4_leaf_1 : List UInt8 := [182, 0, 163, 153, 0, 13, 42, 89, 180, 0, 167, 4, 96, 181, 0, 167, 177]
abbrev dktX4_leaf_1 : List UInt8 := dkwX4_leaf_1 ++ []
def dkwX4_leaf_0 : List UInt8 := [42, 180, 0, 176, 16, 50, 160, 0, 7, 42, 182, 0, 173, 42, 89, 180, 0, 176, 4, 96, 181, 0, 176, 42]
abbrev dktX4_leaf_0 : List UInt8 := dkwX4_leaf_0 ++ dktX4_leaf_1
theorem dksX4_leaf_0 : cX4_leaf.data.toList.drop 0 = dktX4_leaf_0 := by decide +kernel
theorem dksX4_leaf_1 : cX4_leaf.data.toList.drop 24 = dktX4_leaf_1 := dk_seg dksX4_leaf_0 24 rfl rfl
theorem dX4_leaf_0 : decode cX4_leaf 0 = .ok (.aload_n 0, 1) := dk_42 (dk_at dksX4_leaf_0 0 rfl rfl)
theorem dX4_leaf_1 : decode cX4_leaf 1 = .ok (.getfield 176, 3) := dk_180 0 176 (dk_at dksX4_leaf_0 1 rfl rfl)
theorem dX4_leaf_4 : decode cX4_leaf 4 = .ok (.bipush 50, 2) := dk_16 50 (dk_at dksX4_leaf_0 4 rfl rfl)
theorem dX4_leaf_6 : decode cX4_leaf 6 = .ok (.if_icmp .ne 7, 3) := dk_160 0 7 (dk_at dksX4_leaf_0 6 rfl rfl)
theorem dX4_leaf_9 : decode cX4_leaf 9 = .ok (.aload_n 0, 1) := dk_42 (dk_at dksX4_leaf_0 9 rfl rfl)
theorem dX4_leaf_10 : decode cX4_leaf 10 = .ok (.invokevirtual 173, 3) := dk_182 0 173 (dk_at dksX4_leaf_0 10 rfl rfl)
theorem dX4_leaf_13 : decode cX4_leaf 13 = .ok (.aload_n 0, 1) := dk_42 (dk_at dksX4_leaf_0 13 rfl rfl)
theorem dX4_leaf_14 : decode cX4_leaf 14 = .ok (.dup, 1) := dk_89 (dk_at dksX4_leaf_0 14 rfl rfl)
theorem dX4_leaf_15 : decode cX4_leaf 15 = .ok (.getfield 176, 3) := dk_180 0 176 (dk_at dksX4_leaf_0 15 rfl rfl)
theorem dX4_leaf_18 : decode cX4_leaf 18 = .ok (.iconst 1, 1) := dk_4 (dk_at dksX4_leaf_0 18 rfl rfl)
theorem dX4_leaf_19 : decode cX4_leaf 19 = .ok (.iadd, 1) := dk_96 (dk_at dksX4_leaf_0 19 rfl rfl)
theorem dX4_leaf_20 : decode cX4_leaf 20 = .ok (.putfield 176, 3) := dk_181 0 176 (dk_at dksX4_leaf_0 20 rfl rfl)
theorem dX4_leaf_23 : decode cX4_leaf 23 = .ok (.aload_n 0, 1) := dk_42 (dk_at dksX4_leaf_0 23 rfl rfl)
theorem dX4_leaf_24 : decode cX4_leaf 24 = .ok (.invokevirtual 163, 3) := dk_182 0 163 (dk_at dksX4_leaf_1 0 rfl rfl)
theorem dX4_leaf_27 : decode cX4_leaf 27 = .ok (.ifCond .eq 13, 3) := dk_153 0 13 (dk_at dksX4_leaf_1 3 rfl rfl)
theorem dX4_leaf_30 : decode cX4_leaf 30 = .ok (.aload_n 0, 1) := dk_42 (dk_at dksX4_leaf_1 6 rfl rfl)
theorem dX4_leaf_31 : decode cX4_leaf 31 = .ok (.dup, 1) := dk_89 (dk_at dksX4_leaf_1 7 rfl rfl)
theorem dX4_leaf_32 : decode cX4_leaf 32 = .ok (.getfield 167, 3) := dk_180 0 167 (dk_at dksX4_leaf_1 8 rfl rfl)
theorem dX4_leaf_35 : decode cX4_leaf 35 = .ok (.iconst 1, 1) := dk_4 (dk_at dksX4_leaf_1 11 rfl rfl)
theorem dX4_leaf_36 : decode cX4_leaf 36 = .ok (.iadd, 1) := dk_96 (dk_at dksX4_leaf_1 12 rfl rfl)
theorem dX4_leaf_37 : decode cX4_leaf 37 = .ok (.putfield 167, 3) := dk_181 0 167 (dk_at dksX4_leaf_1 13 rfl rfl)
theorem dX4_leaf_40 : decode cX4_leaf 40 = .ok (.return_, 1) := dk_177 (dk_at dksX4_leaf_1 16 rfl rfl)
abbrev cX4_readTest : ByteArray := prog_24_method_54_code
def yX4_readTest : MethodName := ⟨RX4, "readTest", "(I)V"⟩
def dkwX4_readTest_0 : List UInt8 := [42, 27, 182, 0, 188, 42, 16, 7, 182, 0, 170, 153, 0, 11, 42, 27, 182, 0, 188, 167, 255, 242, 177]
abbrev dktX4_readTest_0 : List UInt8 := dkwX4_readTest_0 ++ []
theorem dksX4_readTest_0 : cX4_readTest.data.toList.drop 0 = dktX4_readTest_0 := by decide +kernel
theorem dX4_readTest_0 : decode cX4_readTest 0 = .ok (.aload_n 0, 1) := dk_42 (dk_at dksX4_readTest_0 0 rfl rfl)
theorem dX4_readTest_1 : decode cX4_readTest 1 = .ok (.iload_n 1, 1) := dk_27 (dk_at dksX4_readTest_0 1 rfl rfl)
theorem dX4_readTest_2 : decode cX4_readTest 2 = .ok (.invokevirtual 188, 3) := dk_182 0 188 (dk_at dksX4_readTest_0 2 rfl rfl)
theorem dX4_readTest_5 : decode cX4_readTest 5 = .ok (.aload_n 0, 1) := dk_42 (dk_at dksX4_readTest_0 5 rfl rfl)
theorem dX4_readTest_6 : decode cX4_readTest 6 = .ok (.bipush 7, 2) := dk_16 7 (dk_at dksX4_readTest_0 6 rfl rfl)
theorem dX4_readTest_8 : decode cX4_readTest 8 = .ok (.invokevirtual 170, 3) := dk_182 0 170 (dk_at dksX4_readTest_0 8 rfl rfl)
theorem dX4_readTest_11 : decode cX4_readTest 11 = .ok (.ifCond .eq 11, 3) := dk_153 0 11 (dk_at dksX4_readTest_0 11 rfl rfl)
theorem dX4_readTest_14 : decode cX4_readTest 14 = .ok (.aload_n 0, 1) := dk_42 (dk_at dksX4_readTest_0 14 rfl rfl)
theorem dX4_readTest_15 : decode cX4_readTest 15 = .ok (.iload_n 1, 1) := dk_27 (dk_at dksX4_readTest_0 15 rfl rfl)
theorem dX4_readTest_16 : decode cX4_readTest 16 = .ok (.invokevirtual 188, 3) := dk_182 0 188 (dk_at dksX4_readTest_0 16 rfl rfl)
theorem dX4_readTest_19 : decode cX4_readTest 19 = .ok (.goto (-14), 3) := dk_167 255 242 (dk_at dksX4_readTest_0 19 rfl rfl)
theorem dX4_readTest_22 : decode cX4_readTest 22 = .ok (.return_, 1) := dk_177 (dk_at dksX4_readTest_0 22 rfl rfl)
abbrev cX4_readBoth : ByteArray := prog_24_method_55_code
def yX4_readBoth : MethodName := ⟨RX4, "readBoth", "(I)V"⟩
def dkwX4_readBoth_0 : List UInt8 := [42, 27, 182, 0, 191, 42, 16, 8, 182, 0, 170, 153, 0, 11, 42, 27, 182, 0, 191, 167, 255, 242, 177]
abbrev dktX4_readBoth_0 : List UInt8 := dkwX4_readBoth_0 ++ []
theorem dksX4_readBoth_0 : cX4_readBoth.data.toList.drop 0 = dktX4_readBoth_0 := by decide +kernel
theorem dX4_readBoth_0 : decode cX4_readBoth 0 = .ok (.aload_n 0, 1) := dk_42 (dk_at dksX4_readBoth_0 0 rfl rfl)
theorem dX4_readBoth_1 : decode cX4_readBoth 1 = .ok (.iload_n 1, 1) := dk_27 (dk_at dksX4_readBoth_0 1 rfl rfl)
theorem dX4_readBoth_2 : decode cX4_readBoth 2 = .ok (.invokevirtual 191, 3) := dk_182 0 191 (dk_at dksX4_readBoth_0 2 rfl rfl)
theorem dX4_readBoth_5 : decode cX4_readBoth 5 = .ok (.aload_n 0, 1) := dk_42 (dk_at dksX4_readBoth_0 5 rfl rfl)
theorem dX4_readBoth_6 : decode cX4_readBoth 6 = .ok (.bipush 8, 2) := dk_16 8 (dk_at dksX4_readBoth_0 6 rfl rfl)
theorem dX4_readBoth_8 : decode cX4_readBoth 8 = .ok (.invokevirtual 170, 3) := dk_182 0 170 (dk_at dksX4_readBoth_0 8 rfl rfl)
theorem dX4_readBoth_11 : decode cX4_readBoth 11 = .ok (.ifCond .eq 11, 3) := dk_153 0 11 (dk_at dksX4_readBoth_0 11 rfl rfl)
theorem dX4_readBoth_14 : decode cX4_readBoth 14 = .ok (.aload_n 0, 1) := dk_42 (dk_at dksX4_readBoth_0 14 rfl rfl)
theorem dX4_readBoth_15 : decode cX4_readBoth 15 = .ok (.iload_n 1, 1) := dk_27 (dk_at dksX4_readBoth_0 15 rfl rfl)
theorem dX4_readBoth_16 : decode cX4_readBoth 16 = .ok (.invokevirtual 191, 3) := dk_182 0 191 (dk_at dksX4_readBoth_0 16 rfl rfl)
theorem dX4_readBoth_19 : decode cX4_readBoth 19 = .ok (.goto (-14), 3) := dk_167 255 242 (dk_at dksX4_readBoth_0 19 rfl rfl)
theorem dX4_readBoth_22 : decode cX4_readBoth 22 = .ok (.return_, 1) := dk_177 (dk_at dksX4_readBoth_0 22 rfl rfl)
abbrev cX4_readPlain : ByteArray := prog_24_method_56_code
def yX4_readPlain : MethodName := ⟨RX4, "readPlain", "(I)V"⟩
def dkwX4_readPlain_6 : List UInt8 := [16, 61, 184, 0, 194, 182, 0, 182, 42, 27, 182, 0, 179, 177]
abbrev dktX4_readPlain_6 : List UInt8 := dkwX4_readPlain_6 ++ []
def dkwX4_readPlain_5 : List UInt8 := [16, 60, 184, 0, 194, 182, 0, 170, 154, 0, 24, 42, 16, 62, 184, 0, 194, 182, 0, 170, 154, 0, 12, 42]
abbrev dktX4_readPlain_5 : List UInt8 := dkwX4_readPlain_5 ++ dktX4_readPlain_6
def dkwX4_readPlain_4 : List UInt8 := [16, 10, 161, 0, 16, 29, 16, 16, 163, 0, 10, 42, 182, 0, 198, 167, 0, 46, 42, 27, 182, 0, 179, 42]
abbrev dktX4_readPlain_4 : List UInt8 := dkwX4_readPlain_4 ++ dktX4_readPlain_5
def dkwX4_readPlain_3 : List UInt8 := [181, 0, 167, 42, 27, 4, 96, 182, 0, 185, 42, 16, 41, 184, 0, 194, 182, 0, 182, 167, 0, 65, 29]
abbrev dktX4_readPlain_3 : List UInt8 := dkwX4_readPlain_3 ++ dktX4_readPlain_4
def dkwX4_readPlain_2 : List UInt8 := [160, 0, 7, 42, 182, 0, 173, 42, 182, 0, 163, 154, 0, 4, 177, 42, 89, 180, 0, 167, 4, 96]
abbrev dktX4_readPlain_2 : List UInt8 := dkwX4_readPlain_2 ++ dktX4_readPlain_3
def dkwX4_readPlain_1 : List UInt8 := [42, 180, 0, 43, 42, 180, 0, 167, 46, 62, 29, 16, 40, 184, 0, 194, 160, 0, 50, 27, 16, 8]
abbrev dktX4_readPlain_1 : List UInt8 := dkwX4_readPlain_1 ++ dktX4_readPlain_2
def dkwX4_readPlain_0 : List UInt8 := [4, 61, 28, 153, 0, 13, 42, 16, 9, 182, 0, 170, 61, 167, 255, 245, 42, 182, 0, 163, 154, 0, 4, 177]
abbrev dktX4_readPlain_0 : List UInt8 := dkwX4_readPlain_0 ++ dktX4_readPlain_1
theorem dksX4_readPlain_0 : cX4_readPlain.data.toList.drop 0 = dktX4_readPlain_0 := by decide +kernel
theorem dksX4_readPlain_1 : cX4_readPlain.data.toList.drop 24 = dktX4_readPlain_1 := dk_seg dksX4_readPlain_0 24 rfl rfl
theorem dksX4_readPlain_2 : cX4_readPlain.data.toList.drop 46 = dktX4_readPlain_2 := dk_seg dksX4_readPlain_1 22 rfl rfl
theorem dksX4_readPlain_3 : cX4_readPlain.data.toList.drop 68 = dktX4_readPlain_3 := dk_seg dksX4_readPlain_2 22 rfl rfl
theorem dksX4_readPlain_4 : cX4_readPlain.data.toList.drop 91 = dktX4_readPlain_4 := dk_seg dksX4_readPlain_3 23 rfl rfl
theorem dksX4_readPlain_5 : cX4_readPlain.data.toList.drop 115 = dktX4_readPlain_5 := dk_seg dksX4_readPlain_4 24 rfl rfl
theorem dksX4_readPlain_6 : cX4_readPlain.data.toList.drop 139 = dktX4_readPlain_6 := dk_seg dksX4_readPlain_5 24 rfl rfl
theorem dX4_readPlain_0 : decode cX4_readPlain 0 = .ok (.iconst 1, 1) := dk_4 (dk_at dksX4_readPlain_0 0 rfl rfl)
theorem dX4_readPlain_1 : decode cX4_readPlain 1 = .ok (.istore_n 2, 1) := dk_61 (dk_at dksX4_readPlain_0 1 rfl rfl)
theorem dX4_readPlain_2 : decode cX4_readPlain 2 = .ok (.iload_n 2, 1) := dk_28 (dk_at dksX4_readPlain_0 2 rfl rfl)
theorem dX4_readPlain_3 : decode cX4_readPlain 3 = .ok (.ifCond .eq 13, 3) := dk_153 0 13 (dk_at dksX4_readPlain_0 3 rfl rfl)
theorem dX4_readPlain_6 : decode cX4_readPlain 6 = .ok (.aload_n 0, 1) := dk_42 (dk_at dksX4_readPlain_0 6 rfl rfl)
theorem dX4_readPlain_7 : decode cX4_readPlain 7 = .ok (.bipush 9, 2) := dk_16 9 (dk_at dksX4_readPlain_0 7 rfl rfl)
theorem dX4_readPlain_9 : decode cX4_readPlain 9 = .ok (.invokevirtual 170, 3) := dk_182 0 170 (dk_at dksX4_readPlain_0 9 rfl rfl)
theorem dX4_readPlain_12 : decode cX4_readPlain 12 = .ok (.istore_n 2, 1) := dk_61 (dk_at dksX4_readPlain_0 12 rfl rfl)
theorem dX4_readPlain_13 : decode cX4_readPlain 13 = .ok (.goto (-11), 3) := dk_167 255 245 (dk_at dksX4_readPlain_0 13 rfl rfl)
theorem dX4_readPlain_16 : decode cX4_readPlain 16 = .ok (.aload_n 0, 1) := dk_42 (dk_at dksX4_readPlain_0 16 rfl rfl)
theorem dX4_readPlain_17 : decode cX4_readPlain 17 = .ok (.invokevirtual 163, 3) := dk_182 0 163 (dk_at dksX4_readPlain_0 17 rfl rfl)
theorem dX4_readPlain_20 : decode cX4_readPlain 20 = .ok (.ifCond .ne 4, 3) := dk_154 0 4 (dk_at dksX4_readPlain_0 20 rfl rfl)
theorem dX4_readPlain_23 : decode cX4_readPlain 23 = .ok (.return_, 1) := dk_177 (dk_at dksX4_readPlain_0 23 rfl rfl)
theorem dX4_readPlain_24 : decode cX4_readPlain 24 = .ok (.aload_n 0, 1) := dk_42 (dk_at dksX4_readPlain_1 0 rfl rfl)
theorem dX4_readPlain_25 : decode cX4_readPlain 25 = .ok (.getfield 43, 3) := dk_180 0 43 (dk_at dksX4_readPlain_1 1 rfl rfl)
theorem dX4_readPlain_28 : decode cX4_readPlain 28 = .ok (.aload_n 0, 1) := dk_42 (dk_at dksX4_readPlain_1 4 rfl rfl)
theorem dX4_readPlain_29 : decode cX4_readPlain 29 = .ok (.getfield 167, 3) := dk_180 0 167 (dk_at dksX4_readPlain_1 5 rfl rfl)
theorem dX4_readPlain_32 : decode cX4_readPlain 32 = .ok (.iaload, 1) := dk_46 (dk_at dksX4_readPlain_1 8 rfl rfl)
theorem dX4_readPlain_33 : decode cX4_readPlain 33 = .ok (.istore_n 3, 1) := dk_62 (dk_at dksX4_readPlain_1 9 rfl rfl)
theorem dX4_readPlain_34 : decode cX4_readPlain 34 = .ok (.iload_n 3, 1) := dk_29 (dk_at dksX4_readPlain_1 10 rfl rfl)
theorem dX4_readPlain_35 : decode cX4_readPlain 35 = .ok (.bipush 40, 2) := dk_16 40 (dk_at dksX4_readPlain_1 11 rfl rfl)
theorem dX4_readPlain_37 : decode cX4_readPlain 37 = .ok (.invokestatic 194, 3) := dk_184 0 194 (dk_at dksX4_readPlain_1 13 rfl rfl)
theorem dX4_readPlain_40 : decode cX4_readPlain 40 = .ok (.if_icmp .ne 50, 3) := dk_160 0 50 (dk_at dksX4_readPlain_1 16 rfl rfl)
theorem dX4_readPlain_43 : decode cX4_readPlain 43 = .ok (.iload_n 1, 1) := dk_27 (dk_at dksX4_readPlain_1 19 rfl rfl)
theorem dX4_readPlain_44 : decode cX4_readPlain 44 = .ok (.bipush 8, 2) := dk_16 8 (dk_at dksX4_readPlain_1 20 rfl rfl)
theorem dX4_readPlain_46 : decode cX4_readPlain 46 = .ok (.if_icmp .ne 7, 3) := dk_160 0 7 (dk_at dksX4_readPlain_2 0 rfl rfl)
theorem dX4_readPlain_49 : decode cX4_readPlain 49 = .ok (.aload_n 0, 1) := dk_42 (dk_at dksX4_readPlain_2 3 rfl rfl)
theorem dX4_readPlain_50 : decode cX4_readPlain 50 = .ok (.invokevirtual 173, 3) := dk_182 0 173 (dk_at dksX4_readPlain_2 4 rfl rfl)
theorem dX4_readPlain_53 : decode cX4_readPlain 53 = .ok (.aload_n 0, 1) := dk_42 (dk_at dksX4_readPlain_2 7 rfl rfl)
theorem dX4_readPlain_54 : decode cX4_readPlain 54 = .ok (.invokevirtual 163, 3) := dk_182 0 163 (dk_at dksX4_readPlain_2 8 rfl rfl)
theorem dX4_readPlain_57 : decode cX4_readPlain 57 = .ok (.ifCond .ne 4, 3) := dk_154 0 4 (dk_at dksX4_readPlain_2 11 rfl rfl)
theorem dX4_readPlain_60 : decode cX4_readPlain 60 = .ok (.return_, 1) := dk_177 (dk_at dksX4_readPlain_2 14 rfl rfl)
theorem dX4_readPlain_61 : decode cX4_readPlain 61 = .ok (.aload_n 0, 1) := dk_42 (dk_at dksX4_readPlain_2 15 rfl rfl)
theorem dX4_readPlain_62 : decode cX4_readPlain 62 = .ok (.dup, 1) := dk_89 (dk_at dksX4_readPlain_2 16 rfl rfl)
theorem dX4_readPlain_63 : decode cX4_readPlain 63 = .ok (.getfield 167, 3) := dk_180 0 167 (dk_at dksX4_readPlain_2 17 rfl rfl)
theorem dX4_readPlain_66 : decode cX4_readPlain 66 = .ok (.iconst 1, 1) := dk_4 (dk_at dksX4_readPlain_2 20 rfl rfl)
theorem dX4_readPlain_67 : decode cX4_readPlain 67 = .ok (.iadd, 1) := dk_96 (dk_at dksX4_readPlain_2 21 rfl rfl)
theorem dX4_readPlain_68 : decode cX4_readPlain 68 = .ok (.putfield 167, 3) := dk_181 0 167 (dk_at dksX4_readPlain_3 0 rfl rfl)
theorem dX4_readPlain_71 : decode cX4_readPlain 71 = .ok (.aload_n 0, 1) := dk_42 (dk_at dksX4_readPlain_3 3 rfl rfl)
theorem dX4_readPlain_72 : decode cX4_readPlain 72 = .ok (.iload_n 1, 1) := dk_27 (dk_at dksX4_readPlain_3 4 rfl rfl)
theorem dX4_readPlain_73 : decode cX4_readPlain 73 = .ok (.iconst 1, 1) := dk_4 (dk_at dksX4_readPlain_3 5 rfl rfl)
theorem dX4_readPlain_74 : decode cX4_readPlain 74 = .ok (.iadd, 1) := dk_96 (dk_at dksX4_readPlain_3 6 rfl rfl)
theorem dX4_readPlain_75 : decode cX4_readPlain 75 = .ok (.invokevirtual 185, 3) := dk_182 0 185 (dk_at dksX4_readPlain_3 7 rfl rfl)
theorem dX4_readPlain_78 : decode cX4_readPlain 78 = .ok (.aload_n 0, 1) := dk_42 (dk_at dksX4_readPlain_3 10 rfl rfl)
theorem dX4_readPlain_79 : decode cX4_readPlain 79 = .ok (.bipush 41, 2) := dk_16 41 (dk_at dksX4_readPlain_3 11 rfl rfl)
theorem dX4_readPlain_81 : decode cX4_readPlain 81 = .ok (.invokestatic 194, 3) := dk_184 0 194 (dk_at dksX4_readPlain_3 13 rfl rfl)
theorem dX4_readPlain_84 : decode cX4_readPlain 84 = .ok (.invokevirtual 182, 3) := dk_182 0 182 (dk_at dksX4_readPlain_3 16 rfl rfl)
theorem dX4_readPlain_87 : decode cX4_readPlain 87 = .ok (.goto 65, 3) := dk_167 0 65 (dk_at dksX4_readPlain_3 19 rfl rfl)
theorem dX4_readPlain_90 : decode cX4_readPlain 90 = .ok (.iload_n 3, 1) := dk_29 (dk_at dksX4_readPlain_3 22 rfl rfl)
theorem dX4_readPlain_91 : decode cX4_readPlain 91 = .ok (.bipush 10, 2) := dk_16 10 (dk_at dksX4_readPlain_4 0 rfl rfl)
theorem dX4_readPlain_93 : decode cX4_readPlain 93 = .ok (.if_icmp .lt 16, 3) := dk_161 0 16 (dk_at dksX4_readPlain_4 2 rfl rfl)
theorem dX4_readPlain_96 : decode cX4_readPlain 96 = .ok (.iload_n 3, 1) := dk_29 (dk_at dksX4_readPlain_4 5 rfl rfl)
theorem dX4_readPlain_97 : decode cX4_readPlain 97 = .ok (.bipush 16, 2) := dk_16 16 (dk_at dksX4_readPlain_4 6 rfl rfl)
theorem dX4_readPlain_99 : decode cX4_readPlain 99 = .ok (.if_icmp .gt 10, 3) := dk_163 0 10 (dk_at dksX4_readPlain_4 8 rfl rfl)
theorem dX4_readPlain_102 : decode cX4_readPlain 102 = .ok (.aload_n 0, 1) := dk_42 (dk_at dksX4_readPlain_4 11 rfl rfl)
theorem dX4_readPlain_103 : decode cX4_readPlain 103 = .ok (.invokevirtual 198, 3) := dk_182 0 198 (dk_at dksX4_readPlain_4 12 rfl rfl)
theorem dX4_readPlain_106 : decode cX4_readPlain 106 = .ok (.goto 46, 3) := dk_167 0 46 (dk_at dksX4_readPlain_4 15 rfl rfl)
theorem dX4_readPlain_109 : decode cX4_readPlain 109 = .ok (.aload_n 0, 1) := dk_42 (dk_at dksX4_readPlain_4 18 rfl rfl)
theorem dX4_readPlain_110 : decode cX4_readPlain 110 = .ok (.iload_n 1, 1) := dk_27 (dk_at dksX4_readPlain_4 19 rfl rfl)
theorem dX4_readPlain_111 : decode cX4_readPlain 111 = .ok (.invokevirtual 179, 3) := dk_182 0 179 (dk_at dksX4_readPlain_4 20 rfl rfl)
theorem dX4_readPlain_114 : decode cX4_readPlain 114 = .ok (.aload_n 0, 1) := dk_42 (dk_at dksX4_readPlain_4 23 rfl rfl)
theorem dX4_readPlain_115 : decode cX4_readPlain 115 = .ok (.bipush 60, 2) := dk_16 60 (dk_at dksX4_readPlain_5 0 rfl rfl)
theorem dX4_readPlain_117 : decode cX4_readPlain 117 = .ok (.invokestatic 194, 3) := dk_184 0 194 (dk_at dksX4_readPlain_5 2 rfl rfl)
theorem dX4_readPlain_120 : decode cX4_readPlain 120 = .ok (.invokevirtual 170, 3) := dk_182 0 170 (dk_at dksX4_readPlain_5 5 rfl rfl)
theorem dX4_readPlain_123 : decode cX4_readPlain 123 = .ok (.ifCond .ne 24, 3) := dk_154 0 24 (dk_at dksX4_readPlain_5 8 rfl rfl)
theorem dX4_readPlain_126 : decode cX4_readPlain 126 = .ok (.aload_n 0, 1) := dk_42 (dk_at dksX4_readPlain_5 11 rfl rfl)
theorem dX4_readPlain_127 : decode cX4_readPlain 127 = .ok (.bipush 62, 2) := dk_16 62 (dk_at dksX4_readPlain_5 12 rfl rfl)
theorem dX4_readPlain_129 : decode cX4_readPlain 129 = .ok (.invokestatic 194, 3) := dk_184 0 194 (dk_at dksX4_readPlain_5 14 rfl rfl)
theorem dX4_readPlain_132 : decode cX4_readPlain 132 = .ok (.invokevirtual 170, 3) := dk_182 0 170 (dk_at dksX4_readPlain_5 17 rfl rfl)
theorem dX4_readPlain_135 : decode cX4_readPlain 135 = .ok (.ifCond .ne 12, 3) := dk_154 0 12 (dk_at dksX4_readPlain_5 20 rfl rfl)
theorem dX4_readPlain_138 : decode cX4_readPlain 138 = .ok (.aload_n 0, 1) := dk_42 (dk_at dksX4_readPlain_5 23 rfl rfl)
theorem dX4_readPlain_139 : decode cX4_readPlain 139 = .ok (.bipush 61, 2) := dk_16 61 (dk_at dksX4_readPlain_6 0 rfl rfl)
theorem dX4_readPlain_141 : decode cX4_readPlain 141 = .ok (.invokestatic 194, 3) := dk_184 0 194 (dk_at dksX4_readPlain_6 2 rfl rfl)
theorem dX4_readPlain_144 : decode cX4_readPlain 144 = .ok (.invokevirtual 182, 3) := dk_182 0 182 (dk_at dksX4_readPlain_6 5 rfl rfl)
theorem dX4_readPlain_147 : decode cX4_readPlain 147 = .ok (.aload_n 0, 1) := dk_42 (dk_at dksX4_readPlain_6 8 rfl rfl)
theorem dX4_readPlain_148 : decode cX4_readPlain 148 = .ok (.iload_n 1, 1) := dk_27 (dk_at dksX4_readPlain_6 9 rfl rfl)
theorem dX4_readPlain_149 : decode cX4_readPlain 149 = .ok (.invokevirtual 179, 3) := dk_182 0 179 (dk_at dksX4_readPlain_6 10 rfl rfl)
theorem dX4_readPlain_152 : decode cX4_readPlain 152 = .ok (.return_, 1) := dk_177 (dk_at dksX4_readPlain_6 13 rfl rfl)
abbrev cX4_fault : ByteArray := prog_24_method_62_code
def yX4_fault : MethodName := ⟨RX4, "fault", "()I"⟩
theorem dX4_fault_0 : decode cX4_fault 0 = .ok (.aload_n 0, 1) := by decide +kernel
theorem dX4_fault_1 : decode cX4_fault 1 = .ok (.getfield 40, 3) := by decide +kernel
theorem dX4_fault_4 : decode cX4_fault 4 = .ok (.ireturn, 1) := by decide +kernel
abbrev cX4_odds : ByteArray := prog_24_method_80_code
def yX4_odds : MethodName := ⟨RX4, "odds", "(III)I"⟩
def dkwX4_odds_2 : List UInt8 := [27, 29, 182, 1, 33, 167, 0, 9, 42, 27, 29, 182, 1, 36, 172]
abbrev dktX4_odds_2 : List UInt8 := dkwX4_odds_2 ++ []
def dkwX4_odds_1 : List UInt8 := [182, 0, 142, 154, 0, 16, 167, 0, 11, 42, 29, 182, 0, 145, 154, 0, 5, 2, 172, 28, 154, 0, 12, 42]
abbrev dktX4_odds_1 : List UInt8 := dkwX4_odds_1 ++ dktX4_odds_2
def dkwX4_odds_0 : List UInt8 := [42, 27, 182, 1, 30, 153, 0, 35, 28, 3, 4, 184, 0, 74, 153, 0, 26, 28, 154, 0, 14, 42, 29]
abbrev dktX4_odds_0 : List UInt8 := dkwX4_odds_0 ++ dktX4_odds_1
theorem dksX4_odds_0 : cX4_odds.data.toList.drop 0 = dktX4_odds_0 := by decide +kernel
theorem dksX4_odds_1 : cX4_odds.data.toList.drop 23 = dktX4_odds_1 := dk_seg dksX4_odds_0 23 rfl rfl
theorem dksX4_odds_2 : cX4_odds.data.toList.drop 47 = dktX4_odds_2 := dk_seg dksX4_odds_1 24 rfl rfl
theorem dX4_odds_0 : decode cX4_odds 0 = .ok (.aload_n 0, 1) := dk_42 (dk_at dksX4_odds_0 0 rfl rfl)
theorem dX4_odds_1 : decode cX4_odds 1 = .ok (.iload_n 1, 1) := dk_27 (dk_at dksX4_odds_0 1 rfl rfl)
theorem dX4_odds_2 : decode cX4_odds 2 = .ok (.invokevirtual 286, 3) := dk_182 1 30 (dk_at dksX4_odds_0 2 rfl rfl)
theorem dX4_odds_5 : decode cX4_odds 5 = .ok (.ifCond .eq 35, 3) := dk_153 0 35 (dk_at dksX4_odds_0 5 rfl rfl)
theorem dX4_odds_8 : decode cX4_odds 8 = .ok (.iload_n 2, 1) := dk_28 (dk_at dksX4_odds_0 8 rfl rfl)
theorem dX4_odds_9 : decode cX4_odds 9 = .ok (.iconst 0, 1) := dk_3 (dk_at dksX4_odds_0 9 rfl rfl)
theorem dX4_odds_10 : decode cX4_odds 10 = .ok (.iconst 1, 1) := dk_4 (dk_at dksX4_odds_0 10 rfl rfl)
theorem dX4_odds_11 : decode cX4_odds 11 = .ok (.invokestatic 74, 3) := dk_184 0 74 (dk_at dksX4_odds_0 11 rfl rfl)
theorem dX4_odds_14 : decode cX4_odds 14 = .ok (.ifCond .eq 26, 3) := dk_153 0 26 (dk_at dksX4_odds_0 14 rfl rfl)
theorem dX4_odds_17 : decode cX4_odds 17 = .ok (.iload_n 2, 1) := dk_28 (dk_at dksX4_odds_0 17 rfl rfl)
theorem dX4_odds_18 : decode cX4_odds 18 = .ok (.ifCond .ne 14, 3) := dk_154 0 14 (dk_at dksX4_odds_0 18 rfl rfl)
theorem dX4_odds_21 : decode cX4_odds 21 = .ok (.aload_n 0, 1) := dk_42 (dk_at dksX4_odds_0 21 rfl rfl)
theorem dX4_odds_22 : decode cX4_odds 22 = .ok (.iload_n 3, 1) := dk_29 (dk_at dksX4_odds_0 22 rfl rfl)
theorem dX4_odds_23 : decode cX4_odds 23 = .ok (.invokevirtual 142, 3) := dk_182 0 142 (dk_at dksX4_odds_1 0 rfl rfl)
theorem dX4_odds_26 : decode cX4_odds 26 = .ok (.ifCond .ne 16, 3) := dk_154 0 16 (dk_at dksX4_odds_1 3 rfl rfl)
theorem dX4_odds_29 : decode cX4_odds 29 = .ok (.goto 11, 3) := dk_167 0 11 (dk_at dksX4_odds_1 6 rfl rfl)
theorem dX4_odds_32 : decode cX4_odds 32 = .ok (.aload_n 0, 1) := dk_42 (dk_at dksX4_odds_1 9 rfl rfl)
theorem dX4_odds_33 : decode cX4_odds 33 = .ok (.iload_n 3, 1) := dk_29 (dk_at dksX4_odds_1 10 rfl rfl)
theorem dX4_odds_34 : decode cX4_odds 34 = .ok (.invokevirtual 145, 3) := dk_182 0 145 (dk_at dksX4_odds_1 11 rfl rfl)
theorem dX4_odds_37 : decode cX4_odds 37 = .ok (.ifCond .ne 5, 3) := dk_154 0 5 (dk_at dksX4_odds_1 14 rfl rfl)
theorem dX4_odds_40 : decode cX4_odds 40 = .ok (.iconst (-1), 1) := dk_2 (dk_at dksX4_odds_1 17 rfl rfl)
theorem dX4_odds_41 : decode cX4_odds 41 = .ok (.ireturn, 1) := dk_172 (dk_at dksX4_odds_1 18 rfl rfl)
theorem dX4_odds_42 : decode cX4_odds 42 = .ok (.iload_n 2, 1) := dk_28 (dk_at dksX4_odds_1 19 rfl rfl)
theorem dX4_odds_43 : decode cX4_odds 43 = .ok (.ifCond .ne 12, 3) := dk_154 0 12 (dk_at dksX4_odds_1 20 rfl rfl)
theorem dX4_odds_46 : decode cX4_odds 46 = .ok (.aload_n 0, 1) := dk_42 (dk_at dksX4_odds_1 23 rfl rfl)
theorem dX4_odds_47 : decode cX4_odds 47 = .ok (.iload_n 1, 1) := dk_27 (dk_at dksX4_odds_2 0 rfl rfl)
theorem dX4_odds_48 : decode cX4_odds 48 = .ok (.iload_n 3, 1) := dk_29 (dk_at dksX4_odds_2 1 rfl rfl)
theorem dX4_odds_49 : decode cX4_odds 49 = .ok (.invokevirtual 289, 3) := dk_182 1 33 (dk_at dksX4_odds_2 2 rfl rfl)
theorem dX4_odds_52 : decode cX4_odds 52 = .ok (.goto 9, 3) := dk_167 0 9 (dk_at dksX4_odds_2 5 rfl rfl)
theorem dX4_odds_55 : decode cX4_odds 55 = .ok (.aload_n 0, 1) := dk_42 (dk_at dksX4_odds_2 8 rfl rfl)
theorem dX4_odds_56 : decode cX4_odds 56 = .ok (.iload_n 1, 1) := dk_27 (dk_at dksX4_odds_2 9 rfl rfl)
theorem dX4_odds_57 : decode cX4_odds 57 = .ok (.iload_n 3, 1) := dk_29 (dk_at dksX4_odds_2 10 rfl rfl)
theorem dX4_odds_58 : decode cX4_odds 58 = .ok (.invokevirtual 292, 3) := dk_182 1 36 (dk_at dksX4_odds_2 11 rfl rfl)
theorem dX4_odds_61 : decode cX4_odds 61 = .ok (.ireturn, 1) := dk_172 (dk_at dksX4_odds_2 14 rfl rfl)
abbrev cX4_isText : ByteArray := prog_24_method_11_code
def yX4_isText : MethodName := ⟨RX4, "isText", "(I)Z"⟩
def dkwX4_isText_0 : List UInt8 := [27, 3, 42, 180, 0, 17, 17, 6, 220, 46, 4, 100, 184, 0, 74, 172]
abbrev dktX4_isText_0 : List UInt8 := dkwX4_isText_0 ++ []
theorem dksX4_isText_0 : cX4_isText.data.toList.drop 0 = dktX4_isText_0 := by decide +kernel
theorem dX4_isText_0 : decode cX4_isText 0 = .ok (.iload_n 1, 1) := dk_27 (dk_at dksX4_isText_0 0 rfl rfl)
theorem dX4_isText_1 : decode cX4_isText 1 = .ok (.iconst 0, 1) := dk_3 (dk_at dksX4_isText_0 1 rfl rfl)
theorem dX4_isText_2 : decode cX4_isText 2 = .ok (.aload_n 0, 1) := dk_42 (dk_at dksX4_isText_0 2 rfl rfl)
theorem dX4_isText_3 : decode cX4_isText 3 = .ok (.getfield 17, 3) := dk_180 0 17 (dk_at dksX4_isText_0 3 rfl rfl)
theorem dX4_isText_6 : decode cX4_isText 6 = .ok (.sipush 1756, 3) := dk_17 6 220 (dk_at dksX4_isText_0 6 rfl rfl)
theorem dX4_isText_9 : decode cX4_isText 9 = .ok (.iaload, 1) := dk_46 (dk_at dksX4_isText_0 9 rfl rfl)
theorem dX4_isText_10 : decode cX4_isText 10 = .ok (.iconst 1, 1) := dk_4 (dk_at dksX4_isText_0 10 rfl rfl)
theorem dX4_isText_11 : decode cX4_isText 11 = .ok (.isub, 1) := dk_100 (dk_at dksX4_isText_0 11 rfl rfl)
theorem dX4_isText_12 : decode cX4_isText 12 = .ok (.invokestatic 74, 3) := dk_184 0 74 (dk_at dksX4_isText_0 12 rfl rfl)
theorem dX4_isText_15 : decode cX4_isText 15 = .ok (.ireturn, 1) := dk_172 (dk_at dksX4_isText_0 15 rfl rfl)
abbrev cX4_oddsOfLook : ByteArray := prog_24_method_79_code
def yX4_oddsOfLook : MethodName := ⟨RX4, "oddsOfLook", "(II)I"⟩
def dkwX4_oddsOfLook_1 : List UInt8 := [29, 167, 0, 7, 16, 100, 29, 100, 172]
abbrev dktX4_oddsOfLook_1 : List UInt8 := dkwX4_oddsOfLook_1 ++ []
def dkwX4_oddsOfLook_0 : List UInt8 := [42, 42, 28, 182, 0, 130, 182, 1, 21, 42, 27, 182, 1, 24, 62, 42, 28, 182, 1, 27, 4, 160, 0, 7]
abbrev dktX4_oddsOfLook_0 : List UInt8 := dkwX4_oddsOfLook_0 ++ dktX4_oddsOfLook_1
theorem dksX4_oddsOfLook_0 : cX4_oddsOfLook.data.toList.drop 0 = dktX4_oddsOfLook_0 := by decide +kernel
theorem dksX4_oddsOfLook_1 : cX4_oddsOfLook.data.toList.drop 24 = dktX4_oddsOfLook_1 := dk_seg dksX4_oddsOfLook_0 24 rfl rfl
theorem dX4_oddsOfLook_0 : decode cX4_oddsOfLook 0 = .ok (.aload_n 0, 1) := dk_42 (dk_at dksX4_oddsOfLook_0 0 rfl rfl)
theorem dX4_oddsOfLook_1 : decode cX4_oddsOfLook 1 = .ok (.aload_n 0, 1) := dk_42 (dk_at dksX4_oddsOfLook_0 1 rfl rfl)
theorem dX4_oddsOfLook_2 : decode cX4_oddsOfLook 2 = .ok (.iload_n 2, 1) := dk_28 (dk_at dksX4_oddsOfLook_0 2 rfl rfl)
theorem dX4_oddsOfLook_3 : decode cX4_oddsOfLook 3 = .ok (.invokevirtual 130, 3) := dk_182 0 130 (dk_at dksX4_oddsOfLook_0 3 rfl rfl)
theorem dX4_oddsOfLook_6 : decode cX4_oddsOfLook 6 = .ok (.invokevirtual 277, 3) := dk_182 1 21 (dk_at dksX4_oddsOfLook_0 6 rfl rfl)
theorem dX4_oddsOfLook_9 : decode cX4_oddsOfLook 9 = .ok (.aload_n 0, 1) := dk_42 (dk_at dksX4_oddsOfLook_0 9 rfl rfl)
theorem dX4_oddsOfLook_10 : decode cX4_oddsOfLook 10 = .ok (.iload_n 1, 1) := dk_27 (dk_at dksX4_oddsOfLook_0 10 rfl rfl)
theorem dX4_oddsOfLook_11 : decode cX4_oddsOfLook 11 = .ok (.invokevirtual 280, 3) := dk_182 1 24 (dk_at dksX4_oddsOfLook_0 11 rfl rfl)
theorem dX4_oddsOfLook_14 : decode cX4_oddsOfLook 14 = .ok (.istore_n 3, 1) := dk_62 (dk_at dksX4_oddsOfLook_0 14 rfl rfl)
theorem dX4_oddsOfLook_15 : decode cX4_oddsOfLook 15 = .ok (.aload_n 0, 1) := dk_42 (dk_at dksX4_oddsOfLook_0 15 rfl rfl)
theorem dX4_oddsOfLook_16 : decode cX4_oddsOfLook 16 = .ok (.iload_n 2, 1) := dk_28 (dk_at dksX4_oddsOfLook_0 16 rfl rfl)
theorem dX4_oddsOfLook_17 : decode cX4_oddsOfLook 17 = .ok (.invokevirtual 283, 3) := dk_182 1 27 (dk_at dksX4_oddsOfLook_0 17 rfl rfl)
theorem dX4_oddsOfLook_20 : decode cX4_oddsOfLook 20 = .ok (.iconst 1, 1) := dk_4 (dk_at dksX4_oddsOfLook_0 20 rfl rfl)
theorem dX4_oddsOfLook_21 : decode cX4_oddsOfLook 21 = .ok (.if_icmp .ne 7, 3) := dk_160 0 7 (dk_at dksX4_oddsOfLook_0 21 rfl rfl)
theorem dX4_oddsOfLook_24 : decode cX4_oddsOfLook 24 = .ok (.iload_n 3, 1) := dk_29 (dk_at dksX4_oddsOfLook_1 0 rfl rfl)
theorem dX4_oddsOfLook_25 : decode cX4_oddsOfLook 25 = .ok (.goto 7, 3) := dk_167 0 7 (dk_at dksX4_oddsOfLook_1 1 rfl rfl)
theorem dX4_oddsOfLook_28 : decode cX4_oddsOfLook 28 = .ok (.bipush 100, 2) := dk_16 100 (dk_at dksX4_oddsOfLook_1 4 rfl rfl)
theorem dX4_oddsOfLook_30 : decode cX4_oddsOfLook 30 = .ok (.iload_n 3, 1) := dk_29 (dk_at dksX4_oddsOfLook_1 6 rfl rfl)
theorem dX4_oddsOfLook_31 : decode cX4_oddsOfLook 31 = .ok (.isub, 1) := dk_100 (dk_at dksX4_oddsOfLook_1 7 rfl rfl)
theorem dX4_oddsOfLook_32 : decode cX4_oddsOfLook 32 = .ok (.ireturn, 1) := dk_172 (dk_at dksX4_oddsOfLook_1 8 rfl rfl)
abbrev cX4_takesRow : ByteArray := prog_24_method_32_code
def yX4_takesRow : MethodName := ⟨RX4, "takesRow", "(I)V"⟩
def dkwX4_takesRow_1 : List UInt8 := [132, 2, 1, 167, 255, 233, 177]
abbrev dktX4_takesRow_1 : List UInt8 := dkwX4_takesRow_1 ++ []
def dkwX4_takesRow_0 : List UInt8 := [3, 61, 28, 16, 9, 162, 0, 23, 42, 180, 0, 27, 28, 42, 180, 0, 17, 27, 28, 96, 46, 79]
abbrev dktX4_takesRow_0 : List UInt8 := dkwX4_takesRow_0 ++ dktX4_takesRow_1
theorem dksX4_takesRow_0 : cX4_takesRow.data.toList.drop 0 = dktX4_takesRow_0 := by decide +kernel
theorem dksX4_takesRow_1 : cX4_takesRow.data.toList.drop 22 = dktX4_takesRow_1 := dk_seg dksX4_takesRow_0 22 rfl rfl
theorem dX4_takesRow_0 : decode cX4_takesRow 0 = .ok (.iconst 0, 1) := dk_3 (dk_at dksX4_takesRow_0 0 rfl rfl)
theorem dX4_takesRow_1 : decode cX4_takesRow 1 = .ok (.istore_n 2, 1) := dk_61 (dk_at dksX4_takesRow_0 1 rfl rfl)
theorem dX4_takesRow_2 : decode cX4_takesRow 2 = .ok (.iload_n 2, 1) := dk_28 (dk_at dksX4_takesRow_0 2 rfl rfl)
theorem dX4_takesRow_3 : decode cX4_takesRow 3 = .ok (.bipush 9, 2) := dk_16 9 (dk_at dksX4_takesRow_0 3 rfl rfl)
theorem dX4_takesRow_5 : decode cX4_takesRow 5 = .ok (.if_icmp .ge 23, 3) := dk_162 0 23 (dk_at dksX4_takesRow_0 5 rfl rfl)
theorem dX4_takesRow_8 : decode cX4_takesRow 8 = .ok (.aload_n 0, 1) := dk_42 (dk_at dksX4_takesRow_0 8 rfl rfl)
theorem dX4_takesRow_9 : decode cX4_takesRow 9 = .ok (.getfield 27, 3) := dk_180 0 27 (dk_at dksX4_takesRow_0 9 rfl rfl)
theorem dX4_takesRow_12 : decode cX4_takesRow 12 = .ok (.iload_n 2, 1) := dk_28 (dk_at dksX4_takesRow_0 12 rfl rfl)
theorem dX4_takesRow_13 : decode cX4_takesRow 13 = .ok (.aload_n 0, 1) := dk_42 (dk_at dksX4_takesRow_0 13 rfl rfl)
theorem dX4_takesRow_14 : decode cX4_takesRow 14 = .ok (.getfield 17, 3) := dk_180 0 17 (dk_at dksX4_takesRow_0 14 rfl rfl)
theorem dX4_takesRow_17 : decode cX4_takesRow 17 = .ok (.iload_n 1, 1) := dk_27 (dk_at dksX4_takesRow_0 17 rfl rfl)
theorem dX4_takesRow_18 : decode cX4_takesRow 18 = .ok (.iload_n 2, 1) := dk_28 (dk_at dksX4_takesRow_0 18 rfl rfl)
theorem dX4_takesRow_19 : decode cX4_takesRow 19 = .ok (.iadd, 1) := dk_96 (dk_at dksX4_takesRow_0 19 rfl rfl)
theorem dX4_takesRow_20 : decode cX4_takesRow 20 = .ok (.iaload, 1) := dk_46 (dk_at dksX4_takesRow_0 20 rfl rfl)
theorem dX4_takesRow_21 : decode cX4_takesRow 21 = .ok (.iastore, 1) := dk_79 (dk_at dksX4_takesRow_0 21 rfl rfl)
theorem dX4_takesRow_22 : decode cX4_takesRow 22 = .ok (.iinc 2 1, 3) := dk_132 2 1 (dk_at dksX4_takesRow_1 0 rfl rfl)
theorem dX4_takesRow_25 : decode cX4_takesRow 25 = .ok (.goto (-23), 3) := dk_167 255 233 (dk_at dksX4_takesRow_1 3 rfl rfl)
theorem dX4_takesRow_28 : decode cX4_takesRow 28 = .ok (.return_, 1) := dk_177 (dk_at dksX4_takesRow_1 6 rfl rfl)
abbrev cX4_oddsOf : ByteArray := prog_24_method_76_code
def yX4_oddsOf : MethodName := ⟨RX4, "oddsOf", "(I)I"⟩
def dkwX4_oddsOf_3 : List UInt8 := [16, 100, 184, 1, 17, 61, 132, 3, 1, 167, 255, 185, 28, 172]
abbrev dktX4_oddsOf_3 : List UInt8 := dkwX4_oddsOf_3 ++ []
def dkwX4_oddsOf_2 : List UInt8 := [167, 0, 29, 42, 180, 0, 52, 29, 46, 5, 160, 0, 8, 16, 100, 167, 0, 14, 42, 180, 0, 58, 29, 47]
abbrev dktX4_oddsOf_2 : List UInt8 := dkwX4_oddsOf_2 ++ dktX4_oddsOf_3
def dkwX4_oddsOf_1 : List UInt8 := [153, 0, 54, 42, 180, 0, 52, 29, 46, 6, 163, 0, 44, 42, 180, 0, 52, 29, 46, 4, 160, 0, 7, 3]
abbrev dktX4_oddsOf_1 : List UInt8 := dkwX4_oddsOf_1 ++ dktX4_oddsOf_2
def dkwX4_oddsOf_0 : List UInt8 := [42, 27, 182, 1, 14, 3, 61, 3, 62, 29, 42, 180, 1, 11, 162, 0, 69, 42, 180, 0, 55, 29, 51]
abbrev dktX4_oddsOf_0 : List UInt8 := dkwX4_oddsOf_0 ++ dktX4_oddsOf_1
theorem dksX4_oddsOf_0 : cX4_oddsOf.data.toList.drop 0 = dktX4_oddsOf_0 := by decide +kernel
theorem dksX4_oddsOf_1 : cX4_oddsOf.data.toList.drop 23 = dktX4_oddsOf_1 := dk_seg dksX4_oddsOf_0 23 rfl rfl
theorem dksX4_oddsOf_2 : cX4_oddsOf.data.toList.drop 47 = dktX4_oddsOf_2 := dk_seg dksX4_oddsOf_1 24 rfl rfl
theorem dksX4_oddsOf_3 : cX4_oddsOf.data.toList.drop 71 = dktX4_oddsOf_3 := dk_seg dksX4_oddsOf_2 24 rfl rfl
theorem dX4_oddsOf_0 : decode cX4_oddsOf 0 = .ok (.aload_n 0, 1) := dk_42 (dk_at dksX4_oddsOf_0 0 rfl rfl)
theorem dX4_oddsOf_1 : decode cX4_oddsOf 1 = .ok (.iload_n 1, 1) := dk_27 (dk_at dksX4_oddsOf_0 1 rfl rfl)
theorem dX4_oddsOf_2 : decode cX4_oddsOf 2 = .ok (.invokevirtual 270, 3) := dk_182 1 14 (dk_at dksX4_oddsOf_0 2 rfl rfl)
theorem dX4_oddsOf_5 : decode cX4_oddsOf 5 = .ok (.iconst 0, 1) := dk_3 (dk_at dksX4_oddsOf_0 5 rfl rfl)
theorem dX4_oddsOf_6 : decode cX4_oddsOf 6 = .ok (.istore_n 2, 1) := dk_61 (dk_at dksX4_oddsOf_0 6 rfl rfl)
theorem dX4_oddsOf_7 : decode cX4_oddsOf 7 = .ok (.iconst 0, 1) := dk_3 (dk_at dksX4_oddsOf_0 7 rfl rfl)
theorem dX4_oddsOf_8 : decode cX4_oddsOf 8 = .ok (.istore_n 3, 1) := dk_62 (dk_at dksX4_oddsOf_0 8 rfl rfl)
theorem dX4_oddsOf_9 : decode cX4_oddsOf 9 = .ok (.iload_n 3, 1) := dk_29 (dk_at dksX4_oddsOf_0 9 rfl rfl)
theorem dX4_oddsOf_10 : decode cX4_oddsOf 10 = .ok (.aload_n 0, 1) := dk_42 (dk_at dksX4_oddsOf_0 10 rfl rfl)
theorem dX4_oddsOf_11 : decode cX4_oddsOf 11 = .ok (.getfield 267, 3) := dk_180 1 11 (dk_at dksX4_oddsOf_0 11 rfl rfl)
theorem dX4_oddsOf_14 : decode cX4_oddsOf 14 = .ok (.if_icmp .ge 69, 3) := dk_162 0 69 (dk_at dksX4_oddsOf_0 14 rfl rfl)
theorem dX4_oddsOf_17 : decode cX4_oddsOf 17 = .ok (.aload_n 0, 1) := dk_42 (dk_at dksX4_oddsOf_0 17 rfl rfl)
theorem dX4_oddsOf_18 : decode cX4_oddsOf 18 = .ok (.getfield 55, 3) := dk_180 0 55 (dk_at dksX4_oddsOf_0 18 rfl rfl)
theorem dX4_oddsOf_21 : decode cX4_oddsOf 21 = .ok (.iload_n 3, 1) := dk_29 (dk_at dksX4_oddsOf_0 21 rfl rfl)
theorem dX4_oddsOf_22 : decode cX4_oddsOf 22 = .ok (.baload, 1) := dk_51 (dk_at dksX4_oddsOf_0 22 rfl rfl)
theorem dX4_oddsOf_23 : decode cX4_oddsOf 23 = .ok (.ifCond .eq 54, 3) := dk_153 0 54 (dk_at dksX4_oddsOf_1 0 rfl rfl)
theorem dX4_oddsOf_26 : decode cX4_oddsOf 26 = .ok (.aload_n 0, 1) := dk_42 (dk_at dksX4_oddsOf_1 3 rfl rfl)
theorem dX4_oddsOf_27 : decode cX4_oddsOf 27 = .ok (.getfield 52, 3) := dk_180 0 52 (dk_at dksX4_oddsOf_1 4 rfl rfl)
theorem dX4_oddsOf_30 : decode cX4_oddsOf 30 = .ok (.iload_n 3, 1) := dk_29 (dk_at dksX4_oddsOf_1 7 rfl rfl)
theorem dX4_oddsOf_31 : decode cX4_oddsOf 31 = .ok (.iaload, 1) := dk_46 (dk_at dksX4_oddsOf_1 8 rfl rfl)
theorem dX4_oddsOf_32 : decode cX4_oddsOf 32 = .ok (.iconst 3, 1) := dk_6 (dk_at dksX4_oddsOf_1 9 rfl rfl)
theorem dX4_oddsOf_33 : decode cX4_oddsOf 33 = .ok (.if_icmp .gt 44, 3) := dk_163 0 44 (dk_at dksX4_oddsOf_1 10 rfl rfl)
theorem dX4_oddsOf_36 : decode cX4_oddsOf 36 = .ok (.aload_n 0, 1) := dk_42 (dk_at dksX4_oddsOf_1 13 rfl rfl)
theorem dX4_oddsOf_37 : decode cX4_oddsOf 37 = .ok (.getfield 52, 3) := dk_180 0 52 (dk_at dksX4_oddsOf_1 14 rfl rfl)
theorem dX4_oddsOf_40 : decode cX4_oddsOf 40 = .ok (.iload_n 3, 1) := dk_29 (dk_at dksX4_oddsOf_1 17 rfl rfl)
theorem dX4_oddsOf_41 : decode cX4_oddsOf 41 = .ok (.iaload, 1) := dk_46 (dk_at dksX4_oddsOf_1 18 rfl rfl)
theorem dX4_oddsOf_42 : decode cX4_oddsOf 42 = .ok (.iconst 1, 1) := dk_4 (dk_at dksX4_oddsOf_1 19 rfl rfl)
theorem dX4_oddsOf_43 : decode cX4_oddsOf 43 = .ok (.if_icmp .ne 7, 3) := dk_160 0 7 (dk_at dksX4_oddsOf_1 20 rfl rfl)
theorem dX4_oddsOf_46 : decode cX4_oddsOf 46 = .ok (.iconst 0, 1) := dk_3 (dk_at dksX4_oddsOf_1 23 rfl rfl)
theorem dX4_oddsOf_47 : decode cX4_oddsOf 47 = .ok (.goto 29, 3) := dk_167 0 29 (dk_at dksX4_oddsOf_2 0 rfl rfl)
theorem dX4_oddsOf_50 : decode cX4_oddsOf 50 = .ok (.aload_n 0, 1) := dk_42 (dk_at dksX4_oddsOf_2 3 rfl rfl)
theorem dX4_oddsOf_51 : decode cX4_oddsOf 51 = .ok (.getfield 52, 3) := dk_180 0 52 (dk_at dksX4_oddsOf_2 4 rfl rfl)
theorem dX4_oddsOf_54 : decode cX4_oddsOf 54 = .ok (.iload_n 3, 1) := dk_29 (dk_at dksX4_oddsOf_2 7 rfl rfl)
theorem dX4_oddsOf_55 : decode cX4_oddsOf 55 = .ok (.iaload, 1) := dk_46 (dk_at dksX4_oddsOf_2 8 rfl rfl)
theorem dX4_oddsOf_56 : decode cX4_oddsOf 56 = .ok (.iconst 2, 1) := dk_5 (dk_at dksX4_oddsOf_2 9 rfl rfl)
theorem dX4_oddsOf_57 : decode cX4_oddsOf 57 = .ok (.if_icmp .ne 8, 3) := dk_160 0 8 (dk_at dksX4_oddsOf_2 10 rfl rfl)
theorem dX4_oddsOf_60 : decode cX4_oddsOf 60 = .ok (.bipush 100, 2) := dk_16 100 (dk_at dksX4_oddsOf_2 13 rfl rfl)
theorem dX4_oddsOf_62 : decode cX4_oddsOf 62 = .ok (.goto 14, 3) := dk_167 0 14 (dk_at dksX4_oddsOf_2 15 rfl rfl)
theorem dX4_oddsOf_65 : decode cX4_oddsOf 65 = .ok (.aload_n 0, 1) := dk_42 (dk_at dksX4_oddsOf_2 18 rfl rfl)
theorem dX4_oddsOf_66 : decode cX4_oddsOf 66 = .ok (.getfield 58, 3) := dk_180 0 58 (dk_at dksX4_oddsOf_2 19 rfl rfl)
theorem dX4_oddsOf_69 : decode cX4_oddsOf 69 = .ok (.iload_n 3, 1) := dk_29 (dk_at dksX4_oddsOf_2 22 rfl rfl)
theorem dX4_oddsOf_70 : decode cX4_oddsOf 70 = .ok (.laload, 1) := dk_47 (dk_at dksX4_oddsOf_2 23 rfl rfl)
theorem dX4_oddsOf_71 : decode cX4_oddsOf 71 = .ok (.bipush 100, 2) := dk_16 100 (dk_at dksX4_oddsOf_3 0 rfl rfl)
theorem dX4_oddsOf_73 : decode cX4_oddsOf 73 = .ok (.invokestatic 273, 3) := dk_184 1 17 (dk_at dksX4_oddsOf_3 2 rfl rfl)
theorem dX4_oddsOf_76 : decode cX4_oddsOf 76 = .ok (.istore_n 2, 1) := dk_61 (dk_at dksX4_oddsOf_3 5 rfl rfl)
theorem dX4_oddsOf_77 : decode cX4_oddsOf 77 = .ok (.iinc 3 1, 3) := dk_132 3 1 (dk_at dksX4_oddsOf_3 6 rfl rfl)
theorem dX4_oddsOf_80 : decode cX4_oddsOf 80 = .ok (.goto (-71), 3) := dk_167 255 185 (dk_at dksX4_oddsOf_3 9 rfl rfl)
theorem dX4_oddsOf_83 : decode cX4_oddsOf 83 = .ok (.iload_n 2, 1) := dk_28 (dk_at dksX4_oddsOf_3 12 rfl rfl)
theorem dX4_oddsOf_84 : decode cX4_oddsOf 84 = .ok (.ireturn, 1) := dk_172 (dk_at dksX4_oddsOf_3 13 rfl rfl)
abbrev cX4_asks : ByteArray := prog_24_method_74_code
def yX4_asks : MethodName := ⟨RX4, "asks", "(I)V"⟩
def dkwX4_asks_9 : List UInt8 := [181, 1, 11, 167, 255, 81, 177]
abbrev dktX4_asks_9 : List UInt8 := dkwX4_asks_9 ++ []
def dkwX4_asks_8 : List UInt8 := [167, 0, 4, 3, 84, 42, 89, 180, 0, 220, 4, 96, 181, 0, 220, 42, 89, 180, 1, 11, 4, 96]
abbrev dktX4_asks_8 : List UInt8 := dkwX4_asks_8 ++ dktX4_asks_9
def dkwX4_asks_7 : List UInt8 := [180, 0, 55, 42, 180, 1, 11, 29, 153, 0, 18, 42, 180, 0, 230, 154, 0, 11, 28, 154, 0, 7, 4]
abbrev dktX4_asks_7 : List UInt8 := dkwX4_asks_7 ++ dktX4_asks_8
def dkwX4_asks_6 : List UInt8 := [16, 6, 182, 0, 245, 153, 0, 11, 42, 4, 182, 1, 5, 153, 0, 7, 4, 167, 0, 4, 3, 62, 42]
abbrev dktX4_asks_6 : List UInt8 := dkwX4_asks_6 ++ dktX4_asks_7
def dkwX4_asks_5 : List UInt8 := [180, 0, 58, 42, 180, 1, 11, 42, 4, 182, 0, 248, 80, 42, 180, 0, 230, 61, 42, 3, 181, 0, 230, 42]
abbrev dktX4_asks_5 : List UInt8 := dkwX4_asks_5 ++ dktX4_asks_6
def dkwX4_asks_4 : List UInt8 := [180, 1, 11, 46, 6, 159, 0, 16, 42, 180, 0, 52, 42, 180, 1, 11, 46, 7, 160, 0, 17, 42]
abbrev dktX4_asks_4 : List UInt8 := dkwX4_asks_4 ++ dktX4_asks_5
def dkwX4_asks_3 : List UInt8 := [180, 0, 220, 4, 96, 181, 0, 220, 42, 180, 0, 58, 42, 180, 1, 11, 9, 80, 42, 180, 0, 52, 42]
abbrev dktX4_asks_3 : List UInt8 := dkwX4_asks_3 ++ dktX4_asks_4
def dkwX4_asks_2 : List UInt8 := [181, 0, 230, 42, 180, 0, 52, 42, 180, 1, 11, 42, 42, 180, 0, 220, 182, 0, 223, 79, 42, 89]
abbrev dktX4_asks_2 : List UInt8 := dkwX4_asks_2 ++ dktX4_asks_3
def dkwX4_asks_1 : List UInt8 := [96, 181, 0, 217, 42, 3, 181, 1, 11, 42, 180, 0, 220, 42, 180, 0, 217, 162, 0, 170, 42, 3]
abbrev dktX4_asks_1 : List UInt8 := dkwX4_asks_1 ++ dktX4_asks_2
def dkwX4_asks_0 : List UInt8 := [42, 17, 1, 144, 27, 104, 181, 0, 220, 42, 42, 180, 0, 220, 42, 180, 0, 17, 17, 6, 222, 27, 96, 46]
abbrev dktX4_asks_0 : List UInt8 := dkwX4_asks_0 ++ dktX4_asks_1
theorem dksX4_asks_0 : cX4_asks.data.toList.drop 0 = dktX4_asks_0 := by decide +kernel
theorem dksX4_asks_1 : cX4_asks.data.toList.drop 24 = dktX4_asks_1 := dk_seg dksX4_asks_0 24 rfl rfl
theorem dksX4_asks_2 : cX4_asks.data.toList.drop 46 = dktX4_asks_2 := dk_seg dksX4_asks_1 22 rfl rfl
theorem dksX4_asks_3 : cX4_asks.data.toList.drop 68 = dktX4_asks_3 := dk_seg dksX4_asks_2 22 rfl rfl
theorem dksX4_asks_4 : cX4_asks.data.toList.drop 91 = dktX4_asks_4 := dk_seg dksX4_asks_3 23 rfl rfl
theorem dksX4_asks_5 : cX4_asks.data.toList.drop 113 = dktX4_asks_5 := dk_seg dksX4_asks_4 22 rfl rfl
theorem dksX4_asks_6 : cX4_asks.data.toList.drop 137 = dktX4_asks_6 := dk_seg dksX4_asks_5 24 rfl rfl
theorem dksX4_asks_7 : cX4_asks.data.toList.drop 160 = dktX4_asks_7 := dk_seg dksX4_asks_6 23 rfl rfl
theorem dksX4_asks_8 : cX4_asks.data.toList.drop 183 = dktX4_asks_8 := dk_seg dksX4_asks_7 23 rfl rfl
theorem dksX4_asks_9 : cX4_asks.data.toList.drop 205 = dktX4_asks_9 := dk_seg dksX4_asks_8 22 rfl rfl
theorem dX4_asks_0 : decode cX4_asks 0 = .ok (.aload_n 0, 1) := dk_42 (dk_at dksX4_asks_0 0 rfl rfl)
theorem dX4_asks_1 : decode cX4_asks 1 = .ok (.sipush 400, 3) := dk_17 1 144 (dk_at dksX4_asks_0 1 rfl rfl)
theorem dX4_asks_4 : decode cX4_asks 4 = .ok (.iload_n 1, 1) := dk_27 (dk_at dksX4_asks_0 4 rfl rfl)
theorem dX4_asks_5 : decode cX4_asks 5 = .ok (.imul, 1) := dk_104 (dk_at dksX4_asks_0 5 rfl rfl)
theorem dX4_asks_6 : decode cX4_asks 6 = .ok (.putfield 220, 3) := dk_181 0 220 (dk_at dksX4_asks_0 6 rfl rfl)
theorem dX4_asks_9 : decode cX4_asks 9 = .ok (.aload_n 0, 1) := dk_42 (dk_at dksX4_asks_0 9 rfl rfl)
theorem dX4_asks_10 : decode cX4_asks 10 = .ok (.aload_n 0, 1) := dk_42 (dk_at dksX4_asks_0 10 rfl rfl)
theorem dX4_asks_11 : decode cX4_asks 11 = .ok (.getfield 220, 3) := dk_180 0 220 (dk_at dksX4_asks_0 11 rfl rfl)
theorem dX4_asks_14 : decode cX4_asks 14 = .ok (.aload_n 0, 1) := dk_42 (dk_at dksX4_asks_0 14 rfl rfl)
theorem dX4_asks_15 : decode cX4_asks 15 = .ok (.getfield 17, 3) := dk_180 0 17 (dk_at dksX4_asks_0 15 rfl rfl)
theorem dX4_asks_18 : decode cX4_asks 18 = .ok (.sipush 1758, 3) := dk_17 6 222 (dk_at dksX4_asks_0 18 rfl rfl)
theorem dX4_asks_21 : decode cX4_asks 21 = .ok (.iload_n 1, 1) := dk_27 (dk_at dksX4_asks_0 21 rfl rfl)
theorem dX4_asks_22 : decode cX4_asks 22 = .ok (.iadd, 1) := dk_96 (dk_at dksX4_asks_0 22 rfl rfl)
theorem dX4_asks_23 : decode cX4_asks 23 = .ok (.iaload, 1) := dk_46 (dk_at dksX4_asks_0 23 rfl rfl)
theorem dX4_asks_24 : decode cX4_asks 24 = .ok (.iadd, 1) := dk_96 (dk_at dksX4_asks_1 0 rfl rfl)
theorem dX4_asks_25 : decode cX4_asks 25 = .ok (.putfield 217, 3) := dk_181 0 217 (dk_at dksX4_asks_1 1 rfl rfl)
theorem dX4_asks_28 : decode cX4_asks 28 = .ok (.aload_n 0, 1) := dk_42 (dk_at dksX4_asks_1 4 rfl rfl)
theorem dX4_asks_29 : decode cX4_asks 29 = .ok (.iconst 0, 1) := dk_3 (dk_at dksX4_asks_1 5 rfl rfl)
theorem dX4_asks_30 : decode cX4_asks 30 = .ok (.putfield 267, 3) := dk_181 1 11 (dk_at dksX4_asks_1 6 rfl rfl)
theorem dX4_asks_33 : decode cX4_asks 33 = .ok (.aload_n 0, 1) := dk_42 (dk_at dksX4_asks_1 9 rfl rfl)
theorem dX4_asks_34 : decode cX4_asks 34 = .ok (.getfield 220, 3) := dk_180 0 220 (dk_at dksX4_asks_1 10 rfl rfl)
theorem dX4_asks_37 : decode cX4_asks 37 = .ok (.aload_n 0, 1) := dk_42 (dk_at dksX4_asks_1 13 rfl rfl)
theorem dX4_asks_38 : decode cX4_asks 38 = .ok (.getfield 217, 3) := dk_180 0 217 (dk_at dksX4_asks_1 14 rfl rfl)
theorem dX4_asks_41 : decode cX4_asks 41 = .ok (.if_icmp .ge 170, 3) := dk_162 0 170 (dk_at dksX4_asks_1 17 rfl rfl)
theorem dX4_asks_44 : decode cX4_asks 44 = .ok (.aload_n 0, 1) := dk_42 (dk_at dksX4_asks_1 20 rfl rfl)
theorem dX4_asks_45 : decode cX4_asks 45 = .ok (.iconst 0, 1) := dk_3 (dk_at dksX4_asks_1 21 rfl rfl)
theorem dX4_asks_46 : decode cX4_asks 46 = .ok (.putfield 230, 3) := dk_181 0 230 (dk_at dksX4_asks_2 0 rfl rfl)
theorem dX4_asks_49 : decode cX4_asks 49 = .ok (.aload_n 0, 1) := dk_42 (dk_at dksX4_asks_2 3 rfl rfl)
theorem dX4_asks_50 : decode cX4_asks 50 = .ok (.getfield 52, 3) := dk_180 0 52 (dk_at dksX4_asks_2 4 rfl rfl)
theorem dX4_asks_53 : decode cX4_asks 53 = .ok (.aload_n 0, 1) := dk_42 (dk_at dksX4_asks_2 7 rfl rfl)
theorem dX4_asks_54 : decode cX4_asks 54 = .ok (.getfield 267, 3) := dk_180 1 11 (dk_at dksX4_asks_2 8 rfl rfl)
theorem dX4_asks_57 : decode cX4_asks 57 = .ok (.aload_n 0, 1) := dk_42 (dk_at dksX4_asks_2 11 rfl rfl)
theorem dX4_asks_58 : decode cX4_asks 58 = .ok (.aload_n 0, 1) := dk_42 (dk_at dksX4_asks_2 12 rfl rfl)
theorem dX4_asks_59 : decode cX4_asks 59 = .ok (.getfield 220, 3) := dk_180 0 220 (dk_at dksX4_asks_2 13 rfl rfl)
theorem dX4_asks_62 : decode cX4_asks 62 = .ok (.invokevirtual 223, 3) := dk_182 0 223 (dk_at dksX4_asks_2 16 rfl rfl)
theorem dX4_asks_65 : decode cX4_asks 65 = .ok (.iastore, 1) := dk_79 (dk_at dksX4_asks_2 19 rfl rfl)
theorem dX4_asks_66 : decode cX4_asks 66 = .ok (.aload_n 0, 1) := dk_42 (dk_at dksX4_asks_2 20 rfl rfl)
theorem dX4_asks_67 : decode cX4_asks 67 = .ok (.dup, 1) := dk_89 (dk_at dksX4_asks_2 21 rfl rfl)
theorem dX4_asks_68 : decode cX4_asks 68 = .ok (.getfield 220, 3) := dk_180 0 220 (dk_at dksX4_asks_3 0 rfl rfl)
theorem dX4_asks_71 : decode cX4_asks 71 = .ok (.iconst 1, 1) := dk_4 (dk_at dksX4_asks_3 3 rfl rfl)
theorem dX4_asks_72 : decode cX4_asks 72 = .ok (.iadd, 1) := dk_96 (dk_at dksX4_asks_3 4 rfl rfl)
theorem dX4_asks_73 : decode cX4_asks 73 = .ok (.putfield 220, 3) := dk_181 0 220 (dk_at dksX4_asks_3 5 rfl rfl)
theorem dX4_asks_76 : decode cX4_asks 76 = .ok (.aload_n 0, 1) := dk_42 (dk_at dksX4_asks_3 8 rfl rfl)
theorem dX4_asks_77 : decode cX4_asks 77 = .ok (.getfield 58, 3) := dk_180 0 58 (dk_at dksX4_asks_3 9 rfl rfl)
theorem dX4_asks_80 : decode cX4_asks 80 = .ok (.aload_n 0, 1) := dk_42 (dk_at dksX4_asks_3 12 rfl rfl)
theorem dX4_asks_81 : decode cX4_asks 81 = .ok (.getfield 267, 3) := dk_180 1 11 (dk_at dksX4_asks_3 13 rfl rfl)
theorem dX4_asks_84 : decode cX4_asks 84 = .ok (.lconst 0, 1) := dk_9 (dk_at dksX4_asks_3 16 rfl rfl)
theorem dX4_asks_85 : decode cX4_asks 85 = .ok (.lastore, 1) := dk_80 (dk_at dksX4_asks_3 17 rfl rfl)
theorem dX4_asks_86 : decode cX4_asks 86 = .ok (.aload_n 0, 1) := dk_42 (dk_at dksX4_asks_3 18 rfl rfl)
theorem dX4_asks_87 : decode cX4_asks 87 = .ok (.getfield 52, 3) := dk_180 0 52 (dk_at dksX4_asks_3 19 rfl rfl)
theorem dX4_asks_90 : decode cX4_asks 90 = .ok (.aload_n 0, 1) := dk_42 (dk_at dksX4_asks_3 22 rfl rfl)
theorem dX4_asks_91 : decode cX4_asks 91 = .ok (.getfield 267, 3) := dk_180 1 11 (dk_at dksX4_asks_4 0 rfl rfl)
theorem dX4_asks_94 : decode cX4_asks 94 = .ok (.iaload, 1) := dk_46 (dk_at dksX4_asks_4 3 rfl rfl)
theorem dX4_asks_95 : decode cX4_asks 95 = .ok (.iconst 3, 1) := dk_6 (dk_at dksX4_asks_4 4 rfl rfl)
theorem dX4_asks_96 : decode cX4_asks 96 = .ok (.if_icmp .eq 16, 3) := dk_159 0 16 (dk_at dksX4_asks_4 5 rfl rfl)
theorem dX4_asks_99 : decode cX4_asks 99 = .ok (.aload_n 0, 1) := dk_42 (dk_at dksX4_asks_4 8 rfl rfl)
theorem dX4_asks_100 : decode cX4_asks 100 = .ok (.getfield 52, 3) := dk_180 0 52 (dk_at dksX4_asks_4 9 rfl rfl)
theorem dX4_asks_103 : decode cX4_asks 103 = .ok (.aload_n 0, 1) := dk_42 (dk_at dksX4_asks_4 12 rfl rfl)
theorem dX4_asks_104 : decode cX4_asks 104 = .ok (.getfield 267, 3) := dk_180 1 11 (dk_at dksX4_asks_4 13 rfl rfl)
theorem dX4_asks_107 : decode cX4_asks 107 = .ok (.iaload, 1) := dk_46 (dk_at dksX4_asks_4 16 rfl rfl)
theorem dX4_asks_108 : decode cX4_asks 108 = .ok (.iconst 4, 1) := dk_7 (dk_at dksX4_asks_4 17 rfl rfl)
theorem dX4_asks_109 : decode cX4_asks 109 = .ok (.if_icmp .ne 17, 3) := dk_160 0 17 (dk_at dksX4_asks_4 18 rfl rfl)
theorem dX4_asks_112 : decode cX4_asks 112 = .ok (.aload_n 0, 1) := dk_42 (dk_at dksX4_asks_4 21 rfl rfl)
theorem dX4_asks_113 : decode cX4_asks 113 = .ok (.getfield 58, 3) := dk_180 0 58 (dk_at dksX4_asks_5 0 rfl rfl)
theorem dX4_asks_116 : decode cX4_asks 116 = .ok (.aload_n 0, 1) := dk_42 (dk_at dksX4_asks_5 3 rfl rfl)
theorem dX4_asks_117 : decode cX4_asks 117 = .ok (.getfield 267, 3) := dk_180 1 11 (dk_at dksX4_asks_5 4 rfl rfl)
theorem dX4_asks_120 : decode cX4_asks 120 = .ok (.aload_n 0, 1) := dk_42 (dk_at dksX4_asks_5 7 rfl rfl)
theorem dX4_asks_121 : decode cX4_asks 121 = .ok (.iconst 1, 1) := dk_4 (dk_at dksX4_asks_5 8 rfl rfl)
theorem dX4_asks_122 : decode cX4_asks 122 = .ok (.invokevirtual 248, 3) := dk_182 0 248 (dk_at dksX4_asks_5 9 rfl rfl)
theorem dX4_asks_125 : decode cX4_asks 125 = .ok (.lastore, 1) := dk_80 (dk_at dksX4_asks_5 12 rfl rfl)
theorem dX4_asks_126 : decode cX4_asks 126 = .ok (.aload_n 0, 1) := dk_42 (dk_at dksX4_asks_5 13 rfl rfl)
theorem dX4_asks_127 : decode cX4_asks 127 = .ok (.getfield 230, 3) := dk_180 0 230 (dk_at dksX4_asks_5 14 rfl rfl)
theorem dX4_asks_130 : decode cX4_asks 130 = .ok (.istore_n 2, 1) := dk_61 (dk_at dksX4_asks_5 17 rfl rfl)
theorem dX4_asks_131 : decode cX4_asks 131 = .ok (.aload_n 0, 1) := dk_42 (dk_at dksX4_asks_5 18 rfl rfl)
theorem dX4_asks_132 : decode cX4_asks 132 = .ok (.iconst 0, 1) := dk_3 (dk_at dksX4_asks_5 19 rfl rfl)
theorem dX4_asks_133 : decode cX4_asks 133 = .ok (.putfield 230, 3) := dk_181 0 230 (dk_at dksX4_asks_5 20 rfl rfl)
theorem dX4_asks_136 : decode cX4_asks 136 = .ok (.aload_n 0, 1) := dk_42 (dk_at dksX4_asks_5 23 rfl rfl)
theorem dX4_asks_137 : decode cX4_asks 137 = .ok (.bipush 6, 2) := dk_16 6 (dk_at dksX4_asks_6 0 rfl rfl)
theorem dX4_asks_139 : decode cX4_asks 139 = .ok (.invokevirtual 245, 3) := dk_182 0 245 (dk_at dksX4_asks_6 2 rfl rfl)
theorem dX4_asks_142 : decode cX4_asks 142 = .ok (.ifCond .eq 11, 3) := dk_153 0 11 (dk_at dksX4_asks_6 5 rfl rfl)
theorem dX4_asks_145 : decode cX4_asks 145 = .ok (.aload_n 0, 1) := dk_42 (dk_at dksX4_asks_6 8 rfl rfl)
theorem dX4_asks_146 : decode cX4_asks 146 = .ok (.iconst 1, 1) := dk_4 (dk_at dksX4_asks_6 9 rfl rfl)
theorem dX4_asks_147 : decode cX4_asks 147 = .ok (.invokevirtual 261, 3) := dk_182 1 5 (dk_at dksX4_asks_6 10 rfl rfl)
theorem dX4_asks_150 : decode cX4_asks 150 = .ok (.ifCond .eq 7, 3) := dk_153 0 7 (dk_at dksX4_asks_6 13 rfl rfl)
theorem dX4_asks_153 : decode cX4_asks 153 = .ok (.iconst 1, 1) := dk_4 (dk_at dksX4_asks_6 16 rfl rfl)
theorem dX4_asks_154 : decode cX4_asks 154 = .ok (.goto 4, 3) := dk_167 0 4 (dk_at dksX4_asks_6 17 rfl rfl)
theorem dX4_asks_157 : decode cX4_asks 157 = .ok (.iconst 0, 1) := dk_3 (dk_at dksX4_asks_6 20 rfl rfl)
theorem dX4_asks_158 : decode cX4_asks 158 = .ok (.istore_n 3, 1) := dk_62 (dk_at dksX4_asks_6 21 rfl rfl)
theorem dX4_asks_159 : decode cX4_asks 159 = .ok (.aload_n 0, 1) := dk_42 (dk_at dksX4_asks_6 22 rfl rfl)
theorem dX4_asks_160 : decode cX4_asks 160 = .ok (.getfield 55, 3) := dk_180 0 55 (dk_at dksX4_asks_7 0 rfl rfl)
theorem dX4_asks_163 : decode cX4_asks 163 = .ok (.aload_n 0, 1) := dk_42 (dk_at dksX4_asks_7 3 rfl rfl)
theorem dX4_asks_164 : decode cX4_asks 164 = .ok (.getfield 267, 3) := dk_180 1 11 (dk_at dksX4_asks_7 4 rfl rfl)
theorem dX4_asks_167 : decode cX4_asks 167 = .ok (.iload_n 3, 1) := dk_29 (dk_at dksX4_asks_7 7 rfl rfl)
theorem dX4_asks_168 : decode cX4_asks 168 = .ok (.ifCond .eq 18, 3) := dk_153 0 18 (dk_at dksX4_asks_7 8 rfl rfl)
theorem dX4_asks_171 : decode cX4_asks 171 = .ok (.aload_n 0, 1) := dk_42 (dk_at dksX4_asks_7 11 rfl rfl)
theorem dX4_asks_172 : decode cX4_asks 172 = .ok (.getfield 230, 3) := dk_180 0 230 (dk_at dksX4_asks_7 12 rfl rfl)
theorem dX4_asks_175 : decode cX4_asks 175 = .ok (.ifCond .ne 11, 3) := dk_154 0 11 (dk_at dksX4_asks_7 15 rfl rfl)
theorem dX4_asks_178 : decode cX4_asks 178 = .ok (.iload_n 2, 1) := dk_28 (dk_at dksX4_asks_7 18 rfl rfl)
theorem dX4_asks_179 : decode cX4_asks 179 = .ok (.ifCond .ne 7, 3) := dk_154 0 7 (dk_at dksX4_asks_7 19 rfl rfl)
theorem dX4_asks_182 : decode cX4_asks 182 = .ok (.iconst 1, 1) := dk_4 (dk_at dksX4_asks_7 22 rfl rfl)
theorem dX4_asks_183 : decode cX4_asks 183 = .ok (.goto 4, 3) := dk_167 0 4 (dk_at dksX4_asks_8 0 rfl rfl)
theorem dX4_asks_186 : decode cX4_asks 186 = .ok (.iconst 0, 1) := dk_3 (dk_at dksX4_asks_8 3 rfl rfl)
theorem dX4_asks_187 : decode cX4_asks 187 = .ok (.bastore, 1) := dk_84 (dk_at dksX4_asks_8 4 rfl rfl)
theorem dX4_asks_188 : decode cX4_asks 188 = .ok (.aload_n 0, 1) := dk_42 (dk_at dksX4_asks_8 5 rfl rfl)
theorem dX4_asks_189 : decode cX4_asks 189 = .ok (.dup, 1) := dk_89 (dk_at dksX4_asks_8 6 rfl rfl)
theorem dX4_asks_190 : decode cX4_asks 190 = .ok (.getfield 220, 3) := dk_180 0 220 (dk_at dksX4_asks_8 7 rfl rfl)
theorem dX4_asks_193 : decode cX4_asks 193 = .ok (.iconst 1, 1) := dk_4 (dk_at dksX4_asks_8 10 rfl rfl)
theorem dX4_asks_194 : decode cX4_asks 194 = .ok (.iadd, 1) := dk_96 (dk_at dksX4_asks_8 11 rfl rfl)
theorem dX4_asks_195 : decode cX4_asks 195 = .ok (.putfield 220, 3) := dk_181 0 220 (dk_at dksX4_asks_8 12 rfl rfl)
theorem dX4_asks_198 : decode cX4_asks 198 = .ok (.aload_n 0, 1) := dk_42 (dk_at dksX4_asks_8 15 rfl rfl)
theorem dX4_asks_199 : decode cX4_asks 199 = .ok (.dup, 1) := dk_89 (dk_at dksX4_asks_8 16 rfl rfl)
theorem dX4_asks_200 : decode cX4_asks 200 = .ok (.getfield 267, 3) := dk_180 1 11 (dk_at dksX4_asks_8 17 rfl rfl)
theorem dX4_asks_203 : decode cX4_asks 203 = .ok (.iconst 1, 1) := dk_4 (dk_at dksX4_asks_8 20 rfl rfl)
theorem dX4_asks_204 : decode cX4_asks 204 = .ok (.iadd, 1) := dk_96 (dk_at dksX4_asks_8 21 rfl rfl)
theorem dX4_asks_205 : decode cX4_asks 205 = .ok (.putfield 267, 3) := dk_181 1 11 (dk_at dksX4_asks_9 0 rfl rfl)
theorem dX4_asks_208 : decode cX4_asks 208 = .ok (.goto (-175), 3) := dk_167 255 81 (dk_at dksX4_asks_9 3 rfl rfl)
theorem dX4_asks_211 : decode cX4_asks 211 = .ok (.return_, 1) := dk_177 (dk_at dksX4_asks_9 6 rfl rfl)
abbrev cX4_codeAt : ByteArray := prog_24_method_63_code
def yX4_codeAt : MethodName := ⟨RX4, "codeAt", "(I)I"⟩
def dkwX4_codeAt_0 : List UInt8 := [27, 42, 180, 0, 217, 162, 0, 16, 42, 180, 0, 17, 17, 6, 234, 27, 96, 46, 167, 0, 4, 3, 172]
abbrev dktX4_codeAt_0 : List UInt8 := dkwX4_codeAt_0 ++ []
theorem dksX4_codeAt_0 : cX4_codeAt.data.toList.drop 0 = dktX4_codeAt_0 := by decide +kernel
theorem dX4_codeAt_0 : decode cX4_codeAt 0 = .ok (.iload_n 1, 1) := dk_27 (dk_at dksX4_codeAt_0 0 rfl rfl)
theorem dX4_codeAt_1 : decode cX4_codeAt 1 = .ok (.aload_n 0, 1) := dk_42 (dk_at dksX4_codeAt_0 1 rfl rfl)
theorem dX4_codeAt_2 : decode cX4_codeAt 2 = .ok (.getfield 217, 3) := dk_180 0 217 (dk_at dksX4_codeAt_0 2 rfl rfl)
theorem dX4_codeAt_5 : decode cX4_codeAt 5 = .ok (.if_icmp .ge 16, 3) := dk_162 0 16 (dk_at dksX4_codeAt_0 5 rfl rfl)
theorem dX4_codeAt_8 : decode cX4_codeAt 8 = .ok (.aload_n 0, 1) := dk_42 (dk_at dksX4_codeAt_0 8 rfl rfl)
theorem dX4_codeAt_9 : decode cX4_codeAt 9 = .ok (.getfield 17, 3) := dk_180 0 17 (dk_at dksX4_codeAt_0 9 rfl rfl)
theorem dX4_codeAt_12 : decode cX4_codeAt 12 = .ok (.sipush 1770, 3) := dk_17 6 234 (dk_at dksX4_codeAt_0 12 rfl rfl)
theorem dX4_codeAt_15 : decode cX4_codeAt 15 = .ok (.iload_n 1, 1) := dk_27 (dk_at dksX4_codeAt_0 15 rfl rfl)
theorem dX4_codeAt_16 : decode cX4_codeAt 16 = .ok (.iadd, 1) := dk_96 (dk_at dksX4_codeAt_0 16 rfl rfl)
theorem dX4_codeAt_17 : decode cX4_codeAt 17 = .ok (.iaload, 1) := dk_46 (dk_at dksX4_codeAt_0 17 rfl rfl)
theorem dX4_codeAt_18 : decode cX4_codeAt 18 = .ok (.goto 4, 3) := dk_167 0 4 (dk_at dksX4_codeAt_0 18 rfl rfl)
theorem dX4_codeAt_21 : decode cX4_codeAt 21 = .ok (.iconst 0, 1) := dk_3 (dk_at dksX4_codeAt_0 21 rfl rfl)
theorem dX4_codeAt_22 : decode cX4_codeAt 22 = .ok (.ireturn, 1) := dk_172 (dk_at dksX4_codeAt_0 22 rfl rfl)
abbrev cX4_sumOf : ByteArray := prog_24_method_66_code
def yX4_sumOf : MethodName := ⟨RX4, "sumOf", "(Z)J"⟩
def dkwX4_sumOf_4 : List UInt8 := [182, 0, 238, 65, 167, 255, 162, 32, 173]
abbrev dktX4_sumOf_4 : List UInt8 := dkwX4_sumOf_4 ++ []
def dkwX4_sumOf_3 : List UInt8 := [27, 182, 0, 234, 55, 5, 42, 21, 4, 153, 0, 10, 32, 22, 5, 97, 167, 0, 7, 32, 22, 5, 101, 27]
abbrev dktX4_sumOf_3 : List UInt8 := dkwX4_sumOf_3 ++ dktX4_sumOf_4
def dkwX4_sumOf_2 : List UInt8 := [184, 0, 194, 160, 0, 7, 4, 167, 0, 4, 3, 54, 4, 42, 89, 180, 0, 220, 4, 96, 181, 0, 220, 42]
abbrev dktX4_sumOf_2 : List UInt8 := dkwX4_sumOf_2 ++ dktX4_sumOf_3
def dkwX4_sumOf_1 : List UInt8 := [180, 0, 220, 182, 0, 223, 16, 45, 184, 0, 194, 160, 0, 68, 42, 42, 180, 0, 220, 182, 0, 223, 16, 43]
abbrev dktX4_sumOf_1 : List UInt8 := dkwX4_sumOf_1 ++ dktX4_sumOf_2
def dkwX4_sumOf_0 : List UInt8 := [42, 27, 182, 0, 234, 65, 42, 42, 180, 0, 220, 182, 0, 223, 16, 43, 184, 0, 194, 159, 0, 19, 42, 42]
abbrev dktX4_sumOf_0 : List UInt8 := dkwX4_sumOf_0 ++ dktX4_sumOf_1
theorem dksX4_sumOf_0 : cX4_sumOf.data.toList.drop 0 = dktX4_sumOf_0 := by decide +kernel
theorem dksX4_sumOf_1 : cX4_sumOf.data.toList.drop 24 = dktX4_sumOf_1 := dk_seg dksX4_sumOf_0 24 rfl rfl
theorem dksX4_sumOf_2 : cX4_sumOf.data.toList.drop 48 = dktX4_sumOf_2 := dk_seg dksX4_sumOf_1 24 rfl rfl
theorem dksX4_sumOf_3 : cX4_sumOf.data.toList.drop 72 = dktX4_sumOf_3 := dk_seg dksX4_sumOf_2 24 rfl rfl
theorem dksX4_sumOf_4 : cX4_sumOf.data.toList.drop 96 = dktX4_sumOf_4 := dk_seg dksX4_sumOf_3 24 rfl rfl
theorem dX4_sumOf_0 : decode cX4_sumOf 0 = .ok (.aload_n 0, 1) := dk_42 (dk_at dksX4_sumOf_0 0 rfl rfl)
theorem dX4_sumOf_1 : decode cX4_sumOf 1 = .ok (.iload_n 1, 1) := dk_27 (dk_at dksX4_sumOf_0 1 rfl rfl)
theorem dX4_sumOf_2 : decode cX4_sumOf 2 = .ok (.invokevirtual 234, 3) := dk_182 0 234 (dk_at dksX4_sumOf_0 2 rfl rfl)
theorem dX4_sumOf_5 : decode cX4_sumOf 5 = .ok (.lstore_n 2, 1) := dk_65 (dk_at dksX4_sumOf_0 5 rfl rfl)
theorem dX4_sumOf_6 : decode cX4_sumOf 6 = .ok (.aload_n 0, 1) := dk_42 (dk_at dksX4_sumOf_0 6 rfl rfl)
theorem dX4_sumOf_7 : decode cX4_sumOf 7 = .ok (.aload_n 0, 1) := dk_42 (dk_at dksX4_sumOf_0 7 rfl rfl)
theorem dX4_sumOf_8 : decode cX4_sumOf 8 = .ok (.getfield 220, 3) := dk_180 0 220 (dk_at dksX4_sumOf_0 8 rfl rfl)
theorem dX4_sumOf_11 : decode cX4_sumOf 11 = .ok (.invokevirtual 223, 3) := dk_182 0 223 (dk_at dksX4_sumOf_0 11 rfl rfl)
theorem dX4_sumOf_14 : decode cX4_sumOf 14 = .ok (.bipush 43, 2) := dk_16 43 (dk_at dksX4_sumOf_0 14 rfl rfl)
theorem dX4_sumOf_16 : decode cX4_sumOf 16 = .ok (.invokestatic 194, 3) := dk_184 0 194 (dk_at dksX4_sumOf_0 16 rfl rfl)
theorem dX4_sumOf_19 : decode cX4_sumOf 19 = .ok (.if_icmp .eq 19, 3) := dk_159 0 19 (dk_at dksX4_sumOf_0 19 rfl rfl)
theorem dX4_sumOf_22 : decode cX4_sumOf 22 = .ok (.aload_n 0, 1) := dk_42 (dk_at dksX4_sumOf_0 22 rfl rfl)
theorem dX4_sumOf_23 : decode cX4_sumOf 23 = .ok (.aload_n 0, 1) := dk_42 (dk_at dksX4_sumOf_0 23 rfl rfl)
theorem dX4_sumOf_24 : decode cX4_sumOf 24 = .ok (.getfield 220, 3) := dk_180 0 220 (dk_at dksX4_sumOf_1 0 rfl rfl)
theorem dX4_sumOf_27 : decode cX4_sumOf 27 = .ok (.invokevirtual 223, 3) := dk_182 0 223 (dk_at dksX4_sumOf_1 3 rfl rfl)
theorem dX4_sumOf_30 : decode cX4_sumOf 30 = .ok (.bipush 45, 2) := dk_16 45 (dk_at dksX4_sumOf_1 6 rfl rfl)
theorem dX4_sumOf_32 : decode cX4_sumOf 32 = .ok (.invokestatic 194, 3) := dk_184 0 194 (dk_at dksX4_sumOf_1 8 rfl rfl)
theorem dX4_sumOf_35 : decode cX4_sumOf 35 = .ok (.if_icmp .ne 68, 3) := dk_160 0 68 (dk_at dksX4_sumOf_1 11 rfl rfl)
theorem dX4_sumOf_38 : decode cX4_sumOf 38 = .ok (.aload_n 0, 1) := dk_42 (dk_at dksX4_sumOf_1 14 rfl rfl)
theorem dX4_sumOf_39 : decode cX4_sumOf 39 = .ok (.aload_n 0, 1) := dk_42 (dk_at dksX4_sumOf_1 15 rfl rfl)
theorem dX4_sumOf_40 : decode cX4_sumOf 40 = .ok (.getfield 220, 3) := dk_180 0 220 (dk_at dksX4_sumOf_1 16 rfl rfl)
theorem dX4_sumOf_43 : decode cX4_sumOf 43 = .ok (.invokevirtual 223, 3) := dk_182 0 223 (dk_at dksX4_sumOf_1 19 rfl rfl)
theorem dX4_sumOf_46 : decode cX4_sumOf 46 = .ok (.bipush 43, 2) := dk_16 43 (dk_at dksX4_sumOf_1 22 rfl rfl)
theorem dX4_sumOf_48 : decode cX4_sumOf 48 = .ok (.invokestatic 194, 3) := dk_184 0 194 (dk_at dksX4_sumOf_2 0 rfl rfl)
theorem dX4_sumOf_51 : decode cX4_sumOf 51 = .ok (.if_icmp .ne 7, 3) := dk_160 0 7 (dk_at dksX4_sumOf_2 3 rfl rfl)
theorem dX4_sumOf_54 : decode cX4_sumOf 54 = .ok (.iconst 1, 1) := dk_4 (dk_at dksX4_sumOf_2 6 rfl rfl)
theorem dX4_sumOf_55 : decode cX4_sumOf 55 = .ok (.goto 4, 3) := dk_167 0 4 (dk_at dksX4_sumOf_2 7 rfl rfl)
theorem dX4_sumOf_58 : decode cX4_sumOf 58 = .ok (.iconst 0, 1) := dk_3 (dk_at dksX4_sumOf_2 10 rfl rfl)
theorem dX4_sumOf_59 : decode cX4_sumOf 59 = .ok (.istore 4, 2) := dk_54 4 (dk_at dksX4_sumOf_2 11 rfl rfl)
theorem dX4_sumOf_61 : decode cX4_sumOf 61 = .ok (.aload_n 0, 1) := dk_42 (dk_at dksX4_sumOf_2 13 rfl rfl)
theorem dX4_sumOf_62 : decode cX4_sumOf 62 = .ok (.dup, 1) := dk_89 (dk_at dksX4_sumOf_2 14 rfl rfl)
theorem dX4_sumOf_63 : decode cX4_sumOf 63 = .ok (.getfield 220, 3) := dk_180 0 220 (dk_at dksX4_sumOf_2 15 rfl rfl)
theorem dX4_sumOf_66 : decode cX4_sumOf 66 = .ok (.iconst 1, 1) := dk_4 (dk_at dksX4_sumOf_2 18 rfl rfl)
theorem dX4_sumOf_67 : decode cX4_sumOf 67 = .ok (.iadd, 1) := dk_96 (dk_at dksX4_sumOf_2 19 rfl rfl)
theorem dX4_sumOf_68 : decode cX4_sumOf 68 = .ok (.putfield 220, 3) := dk_181 0 220 (dk_at dksX4_sumOf_2 20 rfl rfl)
theorem dX4_sumOf_71 : decode cX4_sumOf 71 = .ok (.aload_n 0, 1) := dk_42 (dk_at dksX4_sumOf_2 23 rfl rfl)
theorem dX4_sumOf_72 : decode cX4_sumOf 72 = .ok (.iload_n 1, 1) := dk_27 (dk_at dksX4_sumOf_3 0 rfl rfl)
theorem dX4_sumOf_73 : decode cX4_sumOf 73 = .ok (.invokevirtual 234, 3) := dk_182 0 234 (dk_at dksX4_sumOf_3 1 rfl rfl)
theorem dX4_sumOf_76 : decode cX4_sumOf 76 = .ok (.lstore 5, 2) := dk_55 5 (dk_at dksX4_sumOf_3 4 rfl rfl)
theorem dX4_sumOf_78 : decode cX4_sumOf 78 = .ok (.aload_n 0, 1) := dk_42 (dk_at dksX4_sumOf_3 6 rfl rfl)
theorem dX4_sumOf_79 : decode cX4_sumOf 79 = .ok (.iload 4, 2) := dk_21 4 (dk_at dksX4_sumOf_3 7 rfl rfl)
theorem dX4_sumOf_81 : decode cX4_sumOf 81 = .ok (.ifCond .eq 10, 3) := dk_153 0 10 (dk_at dksX4_sumOf_3 9 rfl rfl)
theorem dX4_sumOf_84 : decode cX4_sumOf 84 = .ok (.lload_n 2, 1) := dk_32 (dk_at dksX4_sumOf_3 12 rfl rfl)
theorem dX4_sumOf_85 : decode cX4_sumOf 85 = .ok (.lload 5, 2) := dk_22 5 (dk_at dksX4_sumOf_3 13 rfl rfl)
theorem dX4_sumOf_87 : decode cX4_sumOf 87 = .ok (.ladd, 1) := dk_97 (dk_at dksX4_sumOf_3 15 rfl rfl)
theorem dX4_sumOf_88 : decode cX4_sumOf 88 = .ok (.goto 7, 3) := dk_167 0 7 (dk_at dksX4_sumOf_3 16 rfl rfl)
theorem dX4_sumOf_91 : decode cX4_sumOf 91 = .ok (.lload_n 2, 1) := dk_32 (dk_at dksX4_sumOf_3 19 rfl rfl)
theorem dX4_sumOf_92 : decode cX4_sumOf 92 = .ok (.lload 5, 2) := dk_22 5 (dk_at dksX4_sumOf_3 20 rfl rfl)
theorem dX4_sumOf_94 : decode cX4_sumOf 94 = .ok (.lsub, 1) := dk_101 (dk_at dksX4_sumOf_3 22 rfl rfl)
theorem dX4_sumOf_95 : decode cX4_sumOf 95 = .ok (.iload_n 1, 1) := dk_27 (dk_at dksX4_sumOf_3 23 rfl rfl)
theorem dX4_sumOf_96 : decode cX4_sumOf 96 = .ok (.invokevirtual 238, 3) := dk_182 0 238 (dk_at dksX4_sumOf_4 0 rfl rfl)
theorem dX4_sumOf_99 : decode cX4_sumOf 99 = .ok (.lstore_n 2, 1) := dk_65 (dk_at dksX4_sumOf_4 3 rfl rfl)
theorem dX4_sumOf_100 : decode cX4_sumOf 100 = .ok (.goto (-94), 3) := dk_167 255 162 (dk_at dksX4_sumOf_4 4 rfl rfl)
theorem dX4_sumOf_103 : decode cX4_sumOf 103 = .ok (.lload_n 2, 1) := dk_32 (dk_at dksX4_sumOf_4 7 rfl rfl)
theorem dX4_sumOf_104 : decode cX4_sumOf 104 = .ok (.lreturn, 1) := dk_173 (dk_at dksX4_sumOf_4 8 rfl rfl)
abbrev cX4_termOf : ByteArray := prog_24_method_67_code
def yX4_termOf : MethodName := ⟨RX4, "termOf", "(Z)J"⟩
def dkwX4_termOf_5 : List UInt8 := [32, 22, 5, 105, 167, 0, 7, 32, 22, 5, 109, 27, 182, 0, 238, 65, 167, 255, 127, 32, 173]
abbrev dktX4_termOf_5 : List UInt8 := dkwX4_termOf_5 ++ []
def dkwX4_termOf_4 : List UInt8 := [154, 0, 7, 27, 153, 0, 7, 4, 167, 0, 4, 3, 181, 0, 230, 10, 55, 5, 42, 21, 4, 153, 0, 10]
abbrev dktX4_termOf_4 : List UInt8 := dkwX4_termOf_4 ++ dktX4_termOf_5
def dkwX4_termOf_3 : List UInt8 := [27, 182, 0, 242, 55, 5, 21, 4, 154, 0, 33, 22, 5, 9, 148, 154, 0, 26, 42, 42, 180, 0, 230]
abbrev dktX4_termOf_3 : List UInt8 := dkwX4_termOf_3 ++ dktX4_termOf_4
def dkwX4_termOf_2 : List UInt8 := [184, 0, 194, 160, 0, 7, 4, 167, 0, 4, 3, 54, 4, 42, 89, 180, 0, 220, 4, 96, 181, 0, 220, 42]
abbrev dktX4_termOf_2 : List UInt8 := dkwX4_termOf_2 ++ dktX4_termOf_3
def dkwX4_termOf_1 : List UInt8 := [180, 0, 220, 182, 0, 223, 16, 47, 184, 0, 194, 160, 0, 103, 42, 42, 180, 0, 220, 182, 0, 223, 16, 42]
abbrev dktX4_termOf_1 : List UInt8 := dkwX4_termOf_1 ++ dktX4_termOf_2
def dkwX4_termOf_0 : List UInt8 := [42, 27, 182, 0, 242, 65, 42, 42, 180, 0, 220, 182, 0, 223, 16, 42, 184, 0, 194, 159, 0, 19, 42, 42]
abbrev dktX4_termOf_0 : List UInt8 := dkwX4_termOf_0 ++ dktX4_termOf_1
theorem dksX4_termOf_0 : cX4_termOf.data.toList.drop 0 = dktX4_termOf_0 := by decide +kernel
theorem dksX4_termOf_1 : cX4_termOf.data.toList.drop 24 = dktX4_termOf_1 := dk_seg dksX4_termOf_0 24 rfl rfl
theorem dksX4_termOf_2 : cX4_termOf.data.toList.drop 48 = dktX4_termOf_2 := dk_seg dksX4_termOf_1 24 rfl rfl
theorem dksX4_termOf_3 : cX4_termOf.data.toList.drop 72 = dktX4_termOf_3 := dk_seg dksX4_termOf_2 24 rfl rfl
theorem dksX4_termOf_4 : cX4_termOf.data.toList.drop 95 = dktX4_termOf_4 := dk_seg dksX4_termOf_3 23 rfl rfl
theorem dksX4_termOf_5 : cX4_termOf.data.toList.drop 119 = dktX4_termOf_5 := dk_seg dksX4_termOf_4 24 rfl rfl
theorem dX4_termOf_0 : decode cX4_termOf 0 = .ok (.aload_n 0, 1) := dk_42 (dk_at dksX4_termOf_0 0 rfl rfl)
theorem dX4_termOf_1 : decode cX4_termOf 1 = .ok (.iload_n 1, 1) := dk_27 (dk_at dksX4_termOf_0 1 rfl rfl)
theorem dX4_termOf_2 : decode cX4_termOf 2 = .ok (.invokevirtual 242, 3) := dk_182 0 242 (dk_at dksX4_termOf_0 2 rfl rfl)
theorem dX4_termOf_5 : decode cX4_termOf 5 = .ok (.lstore_n 2, 1) := dk_65 (dk_at dksX4_termOf_0 5 rfl rfl)
theorem dX4_termOf_6 : decode cX4_termOf 6 = .ok (.aload_n 0, 1) := dk_42 (dk_at dksX4_termOf_0 6 rfl rfl)
theorem dX4_termOf_7 : decode cX4_termOf 7 = .ok (.aload_n 0, 1) := dk_42 (dk_at dksX4_termOf_0 7 rfl rfl)
theorem dX4_termOf_8 : decode cX4_termOf 8 = .ok (.getfield 220, 3) := dk_180 0 220 (dk_at dksX4_termOf_0 8 rfl rfl)
theorem dX4_termOf_11 : decode cX4_termOf 11 = .ok (.invokevirtual 223, 3) := dk_182 0 223 (dk_at dksX4_termOf_0 11 rfl rfl)
theorem dX4_termOf_14 : decode cX4_termOf 14 = .ok (.bipush 42, 2) := dk_16 42 (dk_at dksX4_termOf_0 14 rfl rfl)
theorem dX4_termOf_16 : decode cX4_termOf 16 = .ok (.invokestatic 194, 3) := dk_184 0 194 (dk_at dksX4_termOf_0 16 rfl rfl)
theorem dX4_termOf_19 : decode cX4_termOf 19 = .ok (.if_icmp .eq 19, 3) := dk_159 0 19 (dk_at dksX4_termOf_0 19 rfl rfl)
theorem dX4_termOf_22 : decode cX4_termOf 22 = .ok (.aload_n 0, 1) := dk_42 (dk_at dksX4_termOf_0 22 rfl rfl)
theorem dX4_termOf_23 : decode cX4_termOf 23 = .ok (.aload_n 0, 1) := dk_42 (dk_at dksX4_termOf_0 23 rfl rfl)
theorem dX4_termOf_24 : decode cX4_termOf 24 = .ok (.getfield 220, 3) := dk_180 0 220 (dk_at dksX4_termOf_1 0 rfl rfl)
theorem dX4_termOf_27 : decode cX4_termOf 27 = .ok (.invokevirtual 223, 3) := dk_182 0 223 (dk_at dksX4_termOf_1 3 rfl rfl)
theorem dX4_termOf_30 : decode cX4_termOf 30 = .ok (.bipush 47, 2) := dk_16 47 (dk_at dksX4_termOf_1 6 rfl rfl)
theorem dX4_termOf_32 : decode cX4_termOf 32 = .ok (.invokestatic 194, 3) := dk_184 0 194 (dk_at dksX4_termOf_1 8 rfl rfl)
theorem dX4_termOf_35 : decode cX4_termOf 35 = .ok (.if_icmp .ne 103, 3) := dk_160 0 103 (dk_at dksX4_termOf_1 11 rfl rfl)
theorem dX4_termOf_38 : decode cX4_termOf 38 = .ok (.aload_n 0, 1) := dk_42 (dk_at dksX4_termOf_1 14 rfl rfl)
theorem dX4_termOf_39 : decode cX4_termOf 39 = .ok (.aload_n 0, 1) := dk_42 (dk_at dksX4_termOf_1 15 rfl rfl)
theorem dX4_termOf_40 : decode cX4_termOf 40 = .ok (.getfield 220, 3) := dk_180 0 220 (dk_at dksX4_termOf_1 16 rfl rfl)
theorem dX4_termOf_43 : decode cX4_termOf 43 = .ok (.invokevirtual 223, 3) := dk_182 0 223 (dk_at dksX4_termOf_1 19 rfl rfl)
theorem dX4_termOf_46 : decode cX4_termOf 46 = .ok (.bipush 42, 2) := dk_16 42 (dk_at dksX4_termOf_1 22 rfl rfl)
theorem dX4_termOf_48 : decode cX4_termOf 48 = .ok (.invokestatic 194, 3) := dk_184 0 194 (dk_at dksX4_termOf_2 0 rfl rfl)
theorem dX4_termOf_51 : decode cX4_termOf 51 = .ok (.if_icmp .ne 7, 3) := dk_160 0 7 (dk_at dksX4_termOf_2 3 rfl rfl)
theorem dX4_termOf_54 : decode cX4_termOf 54 = .ok (.iconst 1, 1) := dk_4 (dk_at dksX4_termOf_2 6 rfl rfl)
theorem dX4_termOf_55 : decode cX4_termOf 55 = .ok (.goto 4, 3) := dk_167 0 4 (dk_at dksX4_termOf_2 7 rfl rfl)
theorem dX4_termOf_58 : decode cX4_termOf 58 = .ok (.iconst 0, 1) := dk_3 (dk_at dksX4_termOf_2 10 rfl rfl)
theorem dX4_termOf_59 : decode cX4_termOf 59 = .ok (.istore 4, 2) := dk_54 4 (dk_at dksX4_termOf_2 11 rfl rfl)
theorem dX4_termOf_61 : decode cX4_termOf 61 = .ok (.aload_n 0, 1) := dk_42 (dk_at dksX4_termOf_2 13 rfl rfl)
theorem dX4_termOf_62 : decode cX4_termOf 62 = .ok (.dup, 1) := dk_89 (dk_at dksX4_termOf_2 14 rfl rfl)
theorem dX4_termOf_63 : decode cX4_termOf 63 = .ok (.getfield 220, 3) := dk_180 0 220 (dk_at dksX4_termOf_2 15 rfl rfl)
theorem dX4_termOf_66 : decode cX4_termOf 66 = .ok (.iconst 1, 1) := dk_4 (dk_at dksX4_termOf_2 18 rfl rfl)
theorem dX4_termOf_67 : decode cX4_termOf 67 = .ok (.iadd, 1) := dk_96 (dk_at dksX4_termOf_2 19 rfl rfl)
theorem dX4_termOf_68 : decode cX4_termOf 68 = .ok (.putfield 220, 3) := dk_181 0 220 (dk_at dksX4_termOf_2 20 rfl rfl)
theorem dX4_termOf_71 : decode cX4_termOf 71 = .ok (.aload_n 0, 1) := dk_42 (dk_at dksX4_termOf_2 23 rfl rfl)
theorem dX4_termOf_72 : decode cX4_termOf 72 = .ok (.iload_n 1, 1) := dk_27 (dk_at dksX4_termOf_3 0 rfl rfl)
theorem dX4_termOf_73 : decode cX4_termOf 73 = .ok (.invokevirtual 242, 3) := dk_182 0 242 (dk_at dksX4_termOf_3 1 rfl rfl)
theorem dX4_termOf_76 : decode cX4_termOf 76 = .ok (.lstore 5, 2) := dk_55 5 (dk_at dksX4_termOf_3 4 rfl rfl)
theorem dX4_termOf_78 : decode cX4_termOf 78 = .ok (.iload 4, 2) := dk_21 4 (dk_at dksX4_termOf_3 6 rfl rfl)
theorem dX4_termOf_80 : decode cX4_termOf 80 = .ok (.ifCond .ne 33, 3) := dk_154 0 33 (dk_at dksX4_termOf_3 8 rfl rfl)
theorem dX4_termOf_83 : decode cX4_termOf 83 = .ok (.lload 5, 2) := dk_22 5 (dk_at dksX4_termOf_3 11 rfl rfl)
theorem dX4_termOf_85 : decode cX4_termOf 85 = .ok (.lconst 0, 1) := dk_9 (dk_at dksX4_termOf_3 13 rfl rfl)
theorem dX4_termOf_86 : decode cX4_termOf 86 = .ok (.lcmp, 1) := dk_148 (dk_at dksX4_termOf_3 14 rfl rfl)
theorem dX4_termOf_87 : decode cX4_termOf 87 = .ok (.ifCond .ne 26, 3) := dk_154 0 26 (dk_at dksX4_termOf_3 15 rfl rfl)
theorem dX4_termOf_90 : decode cX4_termOf 90 = .ok (.aload_n 0, 1) := dk_42 (dk_at dksX4_termOf_3 18 rfl rfl)
theorem dX4_termOf_91 : decode cX4_termOf 91 = .ok (.aload_n 0, 1) := dk_42 (dk_at dksX4_termOf_3 19 rfl rfl)
theorem dX4_termOf_92 : decode cX4_termOf 92 = .ok (.getfield 230, 3) := dk_180 0 230 (dk_at dksX4_termOf_3 20 rfl rfl)
theorem dX4_termOf_95 : decode cX4_termOf 95 = .ok (.ifCond .ne 7, 3) := dk_154 0 7 (dk_at dksX4_termOf_4 0 rfl rfl)
theorem dX4_termOf_98 : decode cX4_termOf 98 = .ok (.iload_n 1, 1) := dk_27 (dk_at dksX4_termOf_4 3 rfl rfl)
theorem dX4_termOf_99 : decode cX4_termOf 99 = .ok (.ifCond .eq 7, 3) := dk_153 0 7 (dk_at dksX4_termOf_4 4 rfl rfl)
theorem dX4_termOf_102 : decode cX4_termOf 102 = .ok (.iconst 1, 1) := dk_4 (dk_at dksX4_termOf_4 7 rfl rfl)
theorem dX4_termOf_103 : decode cX4_termOf 103 = .ok (.goto 4, 3) := dk_167 0 4 (dk_at dksX4_termOf_4 8 rfl rfl)
theorem dX4_termOf_106 : decode cX4_termOf 106 = .ok (.iconst 0, 1) := dk_3 (dk_at dksX4_termOf_4 11 rfl rfl)
theorem dX4_termOf_107 : decode cX4_termOf 107 = .ok (.putfield 230, 3) := dk_181 0 230 (dk_at dksX4_termOf_4 12 rfl rfl)
theorem dX4_termOf_110 : decode cX4_termOf 110 = .ok (.lconst 1, 1) := dk_10 (dk_at dksX4_termOf_4 15 rfl rfl)
theorem dX4_termOf_111 : decode cX4_termOf 111 = .ok (.lstore 5, 2) := dk_55 5 (dk_at dksX4_termOf_4 16 rfl rfl)
theorem dX4_termOf_113 : decode cX4_termOf 113 = .ok (.aload_n 0, 1) := dk_42 (dk_at dksX4_termOf_4 18 rfl rfl)
theorem dX4_termOf_114 : decode cX4_termOf 114 = .ok (.iload 4, 2) := dk_21 4 (dk_at dksX4_termOf_4 19 rfl rfl)
theorem dX4_termOf_116 : decode cX4_termOf 116 = .ok (.ifCond .eq 10, 3) := dk_153 0 10 (dk_at dksX4_termOf_4 21 rfl rfl)
theorem dX4_termOf_119 : decode cX4_termOf 119 = .ok (.lload_n 2, 1) := dk_32 (dk_at dksX4_termOf_5 0 rfl rfl)
theorem dX4_termOf_120 : decode cX4_termOf 120 = .ok (.lload 5, 2) := dk_22 5 (dk_at dksX4_termOf_5 1 rfl rfl)
theorem dX4_termOf_122 : decode cX4_termOf 122 = .ok (.lmul, 1) := dk_105 (dk_at dksX4_termOf_5 3 rfl rfl)
theorem dX4_termOf_123 : decode cX4_termOf 123 = .ok (.goto 7, 3) := dk_167 0 7 (dk_at dksX4_termOf_5 4 rfl rfl)
theorem dX4_termOf_126 : decode cX4_termOf 126 = .ok (.lload_n 2, 1) := dk_32 (dk_at dksX4_termOf_5 7 rfl rfl)
theorem dX4_termOf_127 : decode cX4_termOf 127 = .ok (.lload 5, 2) := dk_22 5 (dk_at dksX4_termOf_5 8 rfl rfl)
theorem dX4_termOf_129 : decode cX4_termOf 129 = .ok (.ldiv, 1) := dk_109 (dk_at dksX4_termOf_5 10 rfl rfl)
theorem dX4_termOf_130 : decode cX4_termOf 130 = .ok (.iload_n 1, 1) := dk_27 (dk_at dksX4_termOf_5 11 rfl rfl)
theorem dX4_termOf_131 : decode cX4_termOf 131 = .ok (.invokevirtual 238, 3) := dk_182 0 238 (dk_at dksX4_termOf_5 12 rfl rfl)
theorem dX4_termOf_134 : decode cX4_termOf 134 = .ok (.lstore_n 2, 1) := dk_65 (dk_at dksX4_termOf_5 15 rfl rfl)
theorem dX4_termOf_135 : decode cX4_termOf 135 = .ok (.goto (-129), 3) := dk_167 255 127 (dk_at dksX4_termOf_5 16 rfl rfl)
theorem dX4_termOf_138 : decode cX4_termOf 138 = .ok (.lload_n 2, 1) := dk_32 (dk_at dksX4_termOf_5 19 rfl rfl)
theorem dX4_termOf_139 : decode cX4_termOf 139 = .ok (.lreturn, 1) := dk_173 (dk_at dksX4_termOf_5 20 rfl rfl)
abbrev cX4_partOf : ByteArray := prog_24_method_68_code
def yX4_partOf : MethodName := ⟨RX4, "partOf", "(Z)J"⟩
def dkwX4_partOf_4 : List UInt8 := [160, 0, 8, 16, 8, 167, 0, 7, 28, 16, 17, 100, 46, 133, 173]
abbrev dktX4_partOf_4 : List UInt8 := dkwX4_partOf_4 ++ []
def dkwX4_partOf_3 : List UInt8 := [180, 0, 17, 17, 25, 170, 42, 180, 0, 220, 96, 4, 100, 46, 133, 173, 42, 180, 0, 27, 28, 16, 24]
abbrev dktX4_partOf_3 : List UInt8 := dkwX4_partOf_3 ++ dktX4_partOf_4
def dkwX4_partOf_2 : List UInt8 := [181, 0, 220, 27, 153, 0, 10, 42, 180, 0, 230, 153, 0, 5, 9, 173, 28, 16, 50, 160, 0, 20, 42]
abbrev dktX4_partOf_2 : List UInt8 := dkwX4_partOf_2 ++ dktX4_partOf_3
def dkwX4_partOf_1 : List UInt8 := [96, 181, 0, 220, 32, 173, 42, 42, 180, 0, 220, 182, 0, 223, 61, 42, 89, 180, 0, 220, 4, 96]
abbrev dktX4_partOf_1 : List UInt8 := dkwX4_partOf_1 ++ dktX4_partOf_2
def dkwX4_partOf_0 : List UInt8 := [42, 16, 91, 184, 0, 194, 182, 0, 245, 153, 0, 21, 42, 27, 182, 0, 248, 65, 42, 89, 180, 0, 220, 4]
abbrev dktX4_partOf_0 : List UInt8 := dkwX4_partOf_0 ++ dktX4_partOf_1
theorem dksX4_partOf_0 : cX4_partOf.data.toList.drop 0 = dktX4_partOf_0 := by decide +kernel
theorem dksX4_partOf_1 : cX4_partOf.data.toList.drop 24 = dktX4_partOf_1 := dk_seg dksX4_partOf_0 24 rfl rfl
theorem dksX4_partOf_2 : cX4_partOf.data.toList.drop 46 = dktX4_partOf_2 := dk_seg dksX4_partOf_1 22 rfl rfl
theorem dksX4_partOf_3 : cX4_partOf.data.toList.drop 69 = dktX4_partOf_3 := dk_seg dksX4_partOf_2 23 rfl rfl
theorem dksX4_partOf_4 : cX4_partOf.data.toList.drop 92 = dktX4_partOf_4 := dk_seg dksX4_partOf_3 23 rfl rfl
theorem dX4_partOf_0 : decode cX4_partOf 0 = .ok (.aload_n 0, 1) := dk_42 (dk_at dksX4_partOf_0 0 rfl rfl)
theorem dX4_partOf_1 : decode cX4_partOf 1 = .ok (.bipush 91, 2) := dk_16 91 (dk_at dksX4_partOf_0 1 rfl rfl)
theorem dX4_partOf_3 : decode cX4_partOf 3 = .ok (.invokestatic 194, 3) := dk_184 0 194 (dk_at dksX4_partOf_0 3 rfl rfl)
theorem dX4_partOf_6 : decode cX4_partOf 6 = .ok (.invokevirtual 245, 3) := dk_182 0 245 (dk_at dksX4_partOf_0 6 rfl rfl)
theorem dX4_partOf_9 : decode cX4_partOf 9 = .ok (.ifCond .eq 21, 3) := dk_153 0 21 (dk_at dksX4_partOf_0 9 rfl rfl)
theorem dX4_partOf_12 : decode cX4_partOf 12 = .ok (.aload_n 0, 1) := dk_42 (dk_at dksX4_partOf_0 12 rfl rfl)
theorem dX4_partOf_13 : decode cX4_partOf 13 = .ok (.iload_n 1, 1) := dk_27 (dk_at dksX4_partOf_0 13 rfl rfl)
theorem dX4_partOf_14 : decode cX4_partOf 14 = .ok (.invokevirtual 248, 3) := dk_182 0 248 (dk_at dksX4_partOf_0 14 rfl rfl)
theorem dX4_partOf_17 : decode cX4_partOf 17 = .ok (.lstore_n 2, 1) := dk_65 (dk_at dksX4_partOf_0 17 rfl rfl)
theorem dX4_partOf_18 : decode cX4_partOf 18 = .ok (.aload_n 0, 1) := dk_42 (dk_at dksX4_partOf_0 18 rfl rfl)
theorem dX4_partOf_19 : decode cX4_partOf 19 = .ok (.dup, 1) := dk_89 (dk_at dksX4_partOf_0 19 rfl rfl)
theorem dX4_partOf_20 : decode cX4_partOf 20 = .ok (.getfield 220, 3) := dk_180 0 220 (dk_at dksX4_partOf_0 20 rfl rfl)
theorem dX4_partOf_23 : decode cX4_partOf 23 = .ok (.iconst 1, 1) := dk_4 (dk_at dksX4_partOf_0 23 rfl rfl)
theorem dX4_partOf_24 : decode cX4_partOf 24 = .ok (.iadd, 1) := dk_96 (dk_at dksX4_partOf_1 0 rfl rfl)
theorem dX4_partOf_25 : decode cX4_partOf 25 = .ok (.putfield 220, 3) := dk_181 0 220 (dk_at dksX4_partOf_1 1 rfl rfl)
theorem dX4_partOf_28 : decode cX4_partOf 28 = .ok (.lload_n 2, 1) := dk_32 (dk_at dksX4_partOf_1 4 rfl rfl)
theorem dX4_partOf_29 : decode cX4_partOf 29 = .ok (.lreturn, 1) := dk_173 (dk_at dksX4_partOf_1 5 rfl rfl)
theorem dX4_partOf_30 : decode cX4_partOf 30 = .ok (.aload_n 0, 1) := dk_42 (dk_at dksX4_partOf_1 6 rfl rfl)
theorem dX4_partOf_31 : decode cX4_partOf 31 = .ok (.aload_n 0, 1) := dk_42 (dk_at dksX4_partOf_1 7 rfl rfl)
theorem dX4_partOf_32 : decode cX4_partOf 32 = .ok (.getfield 220, 3) := dk_180 0 220 (dk_at dksX4_partOf_1 8 rfl rfl)
theorem dX4_partOf_35 : decode cX4_partOf 35 = .ok (.invokevirtual 223, 3) := dk_182 0 223 (dk_at dksX4_partOf_1 11 rfl rfl)
theorem dX4_partOf_38 : decode cX4_partOf 38 = .ok (.istore_n 2, 1) := dk_61 (dk_at dksX4_partOf_1 14 rfl rfl)
theorem dX4_partOf_39 : decode cX4_partOf 39 = .ok (.aload_n 0, 1) := dk_42 (dk_at dksX4_partOf_1 15 rfl rfl)
theorem dX4_partOf_40 : decode cX4_partOf 40 = .ok (.dup, 1) := dk_89 (dk_at dksX4_partOf_1 16 rfl rfl)
theorem dX4_partOf_41 : decode cX4_partOf 41 = .ok (.getfield 220, 3) := dk_180 0 220 (dk_at dksX4_partOf_1 17 rfl rfl)
theorem dX4_partOf_44 : decode cX4_partOf 44 = .ok (.iconst 1, 1) := dk_4 (dk_at dksX4_partOf_1 20 rfl rfl)
theorem dX4_partOf_45 : decode cX4_partOf 45 = .ok (.iadd, 1) := dk_96 (dk_at dksX4_partOf_1 21 rfl rfl)
theorem dX4_partOf_46 : decode cX4_partOf 46 = .ok (.putfield 220, 3) := dk_181 0 220 (dk_at dksX4_partOf_2 0 rfl rfl)
theorem dX4_partOf_49 : decode cX4_partOf 49 = .ok (.iload_n 1, 1) := dk_27 (dk_at dksX4_partOf_2 3 rfl rfl)
theorem dX4_partOf_50 : decode cX4_partOf 50 = .ok (.ifCond .eq 10, 3) := dk_153 0 10 (dk_at dksX4_partOf_2 4 rfl rfl)
theorem dX4_partOf_53 : decode cX4_partOf 53 = .ok (.aload_n 0, 1) := dk_42 (dk_at dksX4_partOf_2 7 rfl rfl)
theorem dX4_partOf_54 : decode cX4_partOf 54 = .ok (.getfield 230, 3) := dk_180 0 230 (dk_at dksX4_partOf_2 8 rfl rfl)
theorem dX4_partOf_57 : decode cX4_partOf 57 = .ok (.ifCond .eq 5, 3) := dk_153 0 5 (dk_at dksX4_partOf_2 11 rfl rfl)
theorem dX4_partOf_60 : decode cX4_partOf 60 = .ok (.lconst 0, 1) := dk_9 (dk_at dksX4_partOf_2 14 rfl rfl)
theorem dX4_partOf_61 : decode cX4_partOf 61 = .ok (.lreturn, 1) := dk_173 (dk_at dksX4_partOf_2 15 rfl rfl)
theorem dX4_partOf_62 : decode cX4_partOf 62 = .ok (.iload_n 2, 1) := dk_28 (dk_at dksX4_partOf_2 16 rfl rfl)
theorem dX4_partOf_63 : decode cX4_partOf 63 = .ok (.bipush 50, 2) := dk_16 50 (dk_at dksX4_partOf_2 17 rfl rfl)
theorem dX4_partOf_65 : decode cX4_partOf 65 = .ok (.if_icmp .ne 20, 3) := dk_160 0 20 (dk_at dksX4_partOf_2 19 rfl rfl)
theorem dX4_partOf_68 : decode cX4_partOf 68 = .ok (.aload_n 0, 1) := dk_42 (dk_at dksX4_partOf_2 22 rfl rfl)
theorem dX4_partOf_69 : decode cX4_partOf 69 = .ok (.getfield 17, 3) := dk_180 0 17 (dk_at dksX4_partOf_3 0 rfl rfl)
theorem dX4_partOf_72 : decode cX4_partOf 72 = .ok (.sipush 6570, 3) := dk_17 25 170 (dk_at dksX4_partOf_3 3 rfl rfl)
theorem dX4_partOf_75 : decode cX4_partOf 75 = .ok (.aload_n 0, 1) := dk_42 (dk_at dksX4_partOf_3 6 rfl rfl)
theorem dX4_partOf_76 : decode cX4_partOf 76 = .ok (.getfield 220, 3) := dk_180 0 220 (dk_at dksX4_partOf_3 7 rfl rfl)
theorem dX4_partOf_79 : decode cX4_partOf 79 = .ok (.iadd, 1) := dk_96 (dk_at dksX4_partOf_3 10 rfl rfl)
theorem dX4_partOf_80 : decode cX4_partOf 80 = .ok (.iconst 1, 1) := dk_4 (dk_at dksX4_partOf_3 11 rfl rfl)
theorem dX4_partOf_81 : decode cX4_partOf 81 = .ok (.isub, 1) := dk_100 (dk_at dksX4_partOf_3 12 rfl rfl)
theorem dX4_partOf_82 : decode cX4_partOf 82 = .ok (.iaload, 1) := dk_46 (dk_at dksX4_partOf_3 13 rfl rfl)
theorem dX4_partOf_83 : decode cX4_partOf 83 = .ok (.i2l, 1) := dk_133 (dk_at dksX4_partOf_3 14 rfl rfl)
theorem dX4_partOf_84 : decode cX4_partOf 84 = .ok (.lreturn, 1) := dk_173 (dk_at dksX4_partOf_3 15 rfl rfl)
theorem dX4_partOf_85 : decode cX4_partOf 85 = .ok (.aload_n 0, 1) := dk_42 (dk_at dksX4_partOf_3 16 rfl rfl)
theorem dX4_partOf_86 : decode cX4_partOf 86 = .ok (.getfield 27, 3) := dk_180 0 27 (dk_at dksX4_partOf_3 17 rfl rfl)
theorem dX4_partOf_89 : decode cX4_partOf 89 = .ok (.iload_n 2, 1) := dk_28 (dk_at dksX4_partOf_3 20 rfl rfl)
theorem dX4_partOf_90 : decode cX4_partOf 90 = .ok (.bipush 24, 2) := dk_16 24 (dk_at dksX4_partOf_3 21 rfl rfl)
theorem dX4_partOf_92 : decode cX4_partOf 92 = .ok (.if_icmp .ne 8, 3) := dk_160 0 8 (dk_at dksX4_partOf_4 0 rfl rfl)
theorem dX4_partOf_95 : decode cX4_partOf 95 = .ok (.bipush 8, 2) := dk_16 8 (dk_at dksX4_partOf_4 3 rfl rfl)
theorem dX4_partOf_97 : decode cX4_partOf 97 = .ok (.goto 7, 3) := dk_167 0 7 (dk_at dksX4_partOf_4 5 rfl rfl)
theorem dX4_partOf_100 : decode cX4_partOf 100 = .ok (.iload_n 2, 1) := dk_28 (dk_at dksX4_partOf_4 8 rfl rfl)
theorem dX4_partOf_101 : decode cX4_partOf 101 = .ok (.bipush 17, 2) := dk_16 17 (dk_at dksX4_partOf_4 9 rfl rfl)
theorem dX4_partOf_103 : decode cX4_partOf 103 = .ok (.isub, 1) := dk_100 (dk_at dksX4_partOf_4 11 rfl rfl)
theorem dX4_partOf_104 : decode cX4_partOf 104 = .ok (.iaload, 1) := dk_46 (dk_at dksX4_partOf_4 12 rfl rfl)
theorem dX4_partOf_105 : decode cX4_partOf 105 = .ok (.i2l, 1) := dk_133 (dk_at dksX4_partOf_4 13 rfl rfl)
theorem dX4_partOf_106 : decode cX4_partOf 106 = .ok (.lreturn, 1) := dk_173 (dk_at dksX4_partOf_4 14 rfl rfl)
abbrev cX4_passes : ByteArray := prog_24_method_64_code
def yX4_passes : MethodName := ⟨RX4, "passes", "(I)Z"⟩
def dkwX4_passes_1 : List UInt8 := [180, 0, 220, 4, 96, 181, 0, 220, 28, 172]
abbrev dktX4_passes_1 : List UInt8 := dkwX4_passes_1 ++ []
def dkwX4_passes_0 : List UInt8 := [42, 42, 180, 0, 220, 182, 0, 223, 27, 160, 0, 7, 4, 167, 0, 4, 3, 61, 28, 153, 0, 13, 42, 89]
abbrev dktX4_passes_0 : List UInt8 := dkwX4_passes_0 ++ dktX4_passes_1
theorem dksX4_passes_0 : cX4_passes.data.toList.drop 0 = dktX4_passes_0 := by decide +kernel
theorem dksX4_passes_1 : cX4_passes.data.toList.drop 24 = dktX4_passes_1 := dk_seg dksX4_passes_0 24 rfl rfl
theorem dX4_passes_0 : decode cX4_passes 0 = .ok (.aload_n 0, 1) := dk_42 (dk_at dksX4_passes_0 0 rfl rfl)
theorem dX4_passes_1 : decode cX4_passes 1 = .ok (.aload_n 0, 1) := dk_42 (dk_at dksX4_passes_0 1 rfl rfl)
theorem dX4_passes_2 : decode cX4_passes 2 = .ok (.getfield 220, 3) := dk_180 0 220 (dk_at dksX4_passes_0 2 rfl rfl)
theorem dX4_passes_5 : decode cX4_passes 5 = .ok (.invokevirtual 223, 3) := dk_182 0 223 (dk_at dksX4_passes_0 5 rfl rfl)
theorem dX4_passes_8 : decode cX4_passes 8 = .ok (.iload_n 1, 1) := dk_27 (dk_at dksX4_passes_0 8 rfl rfl)
theorem dX4_passes_9 : decode cX4_passes 9 = .ok (.if_icmp .ne 7, 3) := dk_160 0 7 (dk_at dksX4_passes_0 9 rfl rfl)
theorem dX4_passes_12 : decode cX4_passes 12 = .ok (.iconst 1, 1) := dk_4 (dk_at dksX4_passes_0 12 rfl rfl)
theorem dX4_passes_13 : decode cX4_passes 13 = .ok (.goto 4, 3) := dk_167 0 4 (dk_at dksX4_passes_0 13 rfl rfl)
theorem dX4_passes_16 : decode cX4_passes 16 = .ok (.iconst 0, 1) := dk_3 (dk_at dksX4_passes_0 16 rfl rfl)
theorem dX4_passes_17 : decode cX4_passes 17 = .ok (.istore_n 2, 1) := dk_61 (dk_at dksX4_passes_0 17 rfl rfl)
theorem dX4_passes_18 : decode cX4_passes 18 = .ok (.iload_n 2, 1) := dk_28 (dk_at dksX4_passes_0 18 rfl rfl)
theorem dX4_passes_19 : decode cX4_passes 19 = .ok (.ifCond .eq 13, 3) := dk_153 0 13 (dk_at dksX4_passes_0 19 rfl rfl)
theorem dX4_passes_22 : decode cX4_passes 22 = .ok (.aload_n 0, 1) := dk_42 (dk_at dksX4_passes_0 22 rfl rfl)
theorem dX4_passes_23 : decode cX4_passes 23 = .ok (.dup, 1) := dk_89 (dk_at dksX4_passes_0 23 rfl rfl)
theorem dX4_passes_24 : decode cX4_passes 24 = .ok (.getfield 220, 3) := dk_180 0 220 (dk_at dksX4_passes_1 0 rfl rfl)
theorem dX4_passes_27 : decode cX4_passes 27 = .ok (.iconst 1, 1) := dk_4 (dk_at dksX4_passes_1 3 rfl rfl)
theorem dX4_passes_28 : decode cX4_passes 28 = .ok (.iadd, 1) := dk_96 (dk_at dksX4_passes_1 4 rfl rfl)
theorem dX4_passes_29 : decode cX4_passes 29 = .ok (.putfield 220, 3) := dk_181 0 220 (dk_at dksX4_passes_1 5 rfl rfl)
theorem dX4_passes_32 : decode cX4_passes 32 = .ok (.iload_n 2, 1) := dk_28 (dk_at dksX4_passes_1 8 rfl rfl)
theorem dX4_passes_33 : decode cX4_passes 33 = .ok (.ireturn, 1) := dk_172 (dk_at dksX4_passes_1 9 rfl rfl)
abbrev cX4_bounded : ByteArray := prog_24_method_65_code
def yX4_bounded : MethodName := ⟨RX4, "bounded", "(JZ)J"⟩
def dkwX4_bounded_1 : List UInt8 := [181, 0, 230, 42, 180, 0, 230, 153, 0, 7, 9, 167, 0, 4, 31, 173]
abbrev dktX4_bounded_1 : List UInt8 := dkwX4_bounded_1 ++ []
def dkwX4_bounded_0 : List UInt8 := [29, 153, 0, 24, 31, 20, 0, 226, 148, 157, 0, 11, 31, 20, 0, 228, 148, 156, 0, 8, 42, 4]
abbrev dktX4_bounded_0 : List UInt8 := dkwX4_bounded_0 ++ dktX4_bounded_1
theorem dksX4_bounded_0 : cX4_bounded.data.toList.drop 0 = dktX4_bounded_0 := by decide +kernel
theorem dksX4_bounded_1 : cX4_bounded.data.toList.drop 22 = dktX4_bounded_1 := dk_seg dksX4_bounded_0 22 rfl rfl
theorem dX4_bounded_0 : decode cX4_bounded 0 = .ok (.iload_n 3, 1) := dk_29 (dk_at dksX4_bounded_0 0 rfl rfl)
theorem dX4_bounded_1 : decode cX4_bounded 1 = .ok (.ifCond .eq 24, 3) := dk_153 0 24 (dk_at dksX4_bounded_0 1 rfl rfl)
theorem dX4_bounded_4 : decode cX4_bounded 4 = .ok (.lload_n 1, 1) := dk_31 (dk_at dksX4_bounded_0 4 rfl rfl)
theorem dX4_bounded_5 : decode cX4_bounded 5 = .ok (.ldc2_w 226, 3) := dk_20 0 226 (dk_at dksX4_bounded_0 5 rfl rfl)
theorem dX4_bounded_8 : decode cX4_bounded 8 = .ok (.lcmp, 1) := dk_148 (dk_at dksX4_bounded_0 8 rfl rfl)
theorem dX4_bounded_9 : decode cX4_bounded 9 = .ok (.ifCond .gt 11, 3) := dk_157 0 11 (dk_at dksX4_bounded_0 9 rfl rfl)
theorem dX4_bounded_12 : decode cX4_bounded 12 = .ok (.lload_n 1, 1) := dk_31 (dk_at dksX4_bounded_0 12 rfl rfl)
theorem dX4_bounded_13 : decode cX4_bounded 13 = .ok (.ldc2_w 228, 3) := dk_20 0 228 (dk_at dksX4_bounded_0 13 rfl rfl)
theorem dX4_bounded_16 : decode cX4_bounded 16 = .ok (.lcmp, 1) := dk_148 (dk_at dksX4_bounded_0 16 rfl rfl)
theorem dX4_bounded_17 : decode cX4_bounded 17 = .ok (.ifCond .ge 8, 3) := dk_156 0 8 (dk_at dksX4_bounded_0 17 rfl rfl)
theorem dX4_bounded_20 : decode cX4_bounded 20 = .ok (.aload_n 0, 1) := dk_42 (dk_at dksX4_bounded_0 20 rfl rfl)
theorem dX4_bounded_21 : decode cX4_bounded 21 = .ok (.iconst 1, 1) := dk_4 (dk_at dksX4_bounded_0 21 rfl rfl)
theorem dX4_bounded_22 : decode cX4_bounded 22 = .ok (.putfield 230, 3) := dk_181 0 230 (dk_at dksX4_bounded_1 0 rfl rfl)
theorem dX4_bounded_25 : decode cX4_bounded 25 = .ok (.aload_n 0, 1) := dk_42 (dk_at dksX4_bounded_1 3 rfl rfl)
theorem dX4_bounded_26 : decode cX4_bounded 26 = .ok (.getfield 230, 3) := dk_180 0 230 (dk_at dksX4_bounded_1 4 rfl rfl)
theorem dX4_bounded_29 : decode cX4_bounded 29 = .ok (.ifCond .eq 7, 3) := dk_153 0 7 (dk_at dksX4_bounded_1 7 rfl rfl)
theorem dX4_bounded_32 : decode cX4_bounded 32 = .ok (.lconst 0, 1) := dk_9 (dk_at dksX4_bounded_1 10 rfl rfl)
theorem dX4_bounded_33 : decode cX4_bounded 33 = .ok (.goto 4, 3) := dk_167 0 4 (dk_at dksX4_bounded_1 11 rfl rfl)
theorem dX4_bounded_36 : decode cX4_bounded 36 = .ok (.lload_n 1, 1) := dk_31 (dk_at dksX4_bounded_1 14 rfl rfl)
theorem dX4_bounded_37 : decode cX4_bounded 37 = .ok (.lreturn, 1) := dk_173 (dk_at dksX4_bounded_1 15 rfl rfl)
abbrev cX4_testOf : ByteArray := prog_24_method_69_code
def yX4_testOf : MethodName := ⟨RX4, "testOf", "(Z)Z"⟩
def dkwX4_testOf_2 : List UInt8 := [167, 255, 215, 28, 172]
abbrev dktX4_testOf_2 : List UInt8 := dkwX4_testOf_2 ++ []
def dkwX4_testOf_1 : List UInt8 := [4, 167, 0, 4, 3, 182, 0, 251, 62, 28, 154, 0, 7, 29, 153, 0, 7, 4, 167, 0, 4, 3, 61]
abbrev dktX4_testOf_1 : List UInt8 := dkwX4_testOf_1 ++ dktX4_testOf_2
def dkwX4_testOf_0 : List UInt8 := [42, 27, 182, 0, 251, 61, 42, 16, 7, 182, 0, 245, 153, 0, 38, 42, 27, 153, 0, 11, 28, 154, 0, 7]
abbrev dktX4_testOf_0 : List UInt8 := dkwX4_testOf_0 ++ dktX4_testOf_1
theorem dksX4_testOf_0 : cX4_testOf.data.toList.drop 0 = dktX4_testOf_0 := by decide +kernel
theorem dksX4_testOf_1 : cX4_testOf.data.toList.drop 24 = dktX4_testOf_1 := dk_seg dksX4_testOf_0 24 rfl rfl
theorem dksX4_testOf_2 : cX4_testOf.data.toList.drop 47 = dktX4_testOf_2 := dk_seg dksX4_testOf_1 23 rfl rfl
theorem dX4_testOf_0 : decode cX4_testOf 0 = .ok (.aload_n 0, 1) := dk_42 (dk_at dksX4_testOf_0 0 rfl rfl)
theorem dX4_testOf_1 : decode cX4_testOf 1 = .ok (.iload_n 1, 1) := dk_27 (dk_at dksX4_testOf_0 1 rfl rfl)
theorem dX4_testOf_2 : decode cX4_testOf 2 = .ok (.invokevirtual 251, 3) := dk_182 0 251 (dk_at dksX4_testOf_0 2 rfl rfl)
theorem dX4_testOf_5 : decode cX4_testOf 5 = .ok (.istore_n 2, 1) := dk_61 (dk_at dksX4_testOf_0 5 rfl rfl)
theorem dX4_testOf_6 : decode cX4_testOf 6 = .ok (.aload_n 0, 1) := dk_42 (dk_at dksX4_testOf_0 6 rfl rfl)
theorem dX4_testOf_7 : decode cX4_testOf 7 = .ok (.bipush 7, 2) := dk_16 7 (dk_at dksX4_testOf_0 7 rfl rfl)
theorem dX4_testOf_9 : decode cX4_testOf 9 = .ok (.invokevirtual 245, 3) := dk_182 0 245 (dk_at dksX4_testOf_0 9 rfl rfl)
theorem dX4_testOf_12 : decode cX4_testOf 12 = .ok (.ifCond .eq 38, 3) := dk_153 0 38 (dk_at dksX4_testOf_0 12 rfl rfl)
theorem dX4_testOf_15 : decode cX4_testOf 15 = .ok (.aload_n 0, 1) := dk_42 (dk_at dksX4_testOf_0 15 rfl rfl)
theorem dX4_testOf_16 : decode cX4_testOf 16 = .ok (.iload_n 1, 1) := dk_27 (dk_at dksX4_testOf_0 16 rfl rfl)
theorem dX4_testOf_17 : decode cX4_testOf 17 = .ok (.ifCond .eq 11, 3) := dk_153 0 11 (dk_at dksX4_testOf_0 17 rfl rfl)
theorem dX4_testOf_20 : decode cX4_testOf 20 = .ok (.iload_n 2, 1) := dk_28 (dk_at dksX4_testOf_0 20 rfl rfl)
theorem dX4_testOf_21 : decode cX4_testOf 21 = .ok (.ifCond .ne 7, 3) := dk_154 0 7 (dk_at dksX4_testOf_0 21 rfl rfl)
theorem dX4_testOf_24 : decode cX4_testOf 24 = .ok (.iconst 1, 1) := dk_4 (dk_at dksX4_testOf_1 0 rfl rfl)
theorem dX4_testOf_25 : decode cX4_testOf 25 = .ok (.goto 4, 3) := dk_167 0 4 (dk_at dksX4_testOf_1 1 rfl rfl)
theorem dX4_testOf_28 : decode cX4_testOf 28 = .ok (.iconst 0, 1) := dk_3 (dk_at dksX4_testOf_1 4 rfl rfl)
theorem dX4_testOf_29 : decode cX4_testOf 29 = .ok (.invokevirtual 251, 3) := dk_182 0 251 (dk_at dksX4_testOf_1 5 rfl rfl)
theorem dX4_testOf_32 : decode cX4_testOf 32 = .ok (.istore_n 3, 1) := dk_62 (dk_at dksX4_testOf_1 8 rfl rfl)
theorem dX4_testOf_33 : decode cX4_testOf 33 = .ok (.iload_n 2, 1) := dk_28 (dk_at dksX4_testOf_1 9 rfl rfl)
theorem dX4_testOf_34 : decode cX4_testOf 34 = .ok (.ifCond .ne 7, 3) := dk_154 0 7 (dk_at dksX4_testOf_1 10 rfl rfl)
theorem dX4_testOf_37 : decode cX4_testOf 37 = .ok (.iload_n 3, 1) := dk_29 (dk_at dksX4_testOf_1 13 rfl rfl)
theorem dX4_testOf_38 : decode cX4_testOf 38 = .ok (.ifCond .eq 7, 3) := dk_153 0 7 (dk_at dksX4_testOf_1 14 rfl rfl)
theorem dX4_testOf_41 : decode cX4_testOf 41 = .ok (.iconst 1, 1) := dk_4 (dk_at dksX4_testOf_1 17 rfl rfl)
theorem dX4_testOf_42 : decode cX4_testOf 42 = .ok (.goto 4, 3) := dk_167 0 4 (dk_at dksX4_testOf_1 18 rfl rfl)
theorem dX4_testOf_45 : decode cX4_testOf 45 = .ok (.iconst 0, 1) := dk_3 (dk_at dksX4_testOf_1 21 rfl rfl)
theorem dX4_testOf_46 : decode cX4_testOf 46 = .ok (.istore_n 2, 1) := dk_61 (dk_at dksX4_testOf_1 22 rfl rfl)
theorem dX4_testOf_47 : decode cX4_testOf 47 = .ok (.goto (-41), 3) := dk_167 255 215 (dk_at dksX4_testOf_2 0 rfl rfl)
theorem dX4_testOf_50 : decode cX4_testOf 50 = .ok (.iload_n 2, 1) := dk_28 (dk_at dksX4_testOf_2 3 rfl rfl)
theorem dX4_testOf_51 : decode cX4_testOf 51 = .ok (.ireturn, 1) := dk_172 (dk_at dksX4_testOf_2 4 rfl rfl)
abbrev cX4_bothOf : ByteArray := prog_24_method_70_code
def yX4_bothOf : MethodName := ⟨RX4, "bothOf", "(Z)Z"⟩
def dkwX4_bothOf_2 : List UInt8 := [167, 255, 215, 28, 172]
abbrev dktX4_bothOf_2 : List UInt8 := dkwX4_bothOf_2 ++ []
def dkwX4_bothOf_1 : List UInt8 := [4, 167, 0, 4, 3, 182, 0, 255, 62, 28, 153, 0, 11, 29, 153, 0, 7, 4, 167, 0, 4, 3, 61]
abbrev dktX4_bothOf_1 : List UInt8 := dkwX4_bothOf_1 ++ dktX4_bothOf_2
def dkwX4_bothOf_0 : List UInt8 := [42, 27, 182, 0, 255, 61, 42, 16, 8, 182, 0, 245, 153, 0, 38, 42, 27, 153, 0, 11, 28, 153, 0, 7]
abbrev dktX4_bothOf_0 : List UInt8 := dkwX4_bothOf_0 ++ dktX4_bothOf_1
theorem dksX4_bothOf_0 : cX4_bothOf.data.toList.drop 0 = dktX4_bothOf_0 := by decide +kernel
theorem dksX4_bothOf_1 : cX4_bothOf.data.toList.drop 24 = dktX4_bothOf_1 := dk_seg dksX4_bothOf_0 24 rfl rfl
theorem dksX4_bothOf_2 : cX4_bothOf.data.toList.drop 47 = dktX4_bothOf_2 := dk_seg dksX4_bothOf_1 23 rfl rfl
theorem dX4_bothOf_0 : decode cX4_bothOf 0 = .ok (.aload_n 0, 1) := dk_42 (dk_at dksX4_bothOf_0 0 rfl rfl)
theorem dX4_bothOf_1 : decode cX4_bothOf 1 = .ok (.iload_n 1, 1) := dk_27 (dk_at dksX4_bothOf_0 1 rfl rfl)
theorem dX4_bothOf_2 : decode cX4_bothOf 2 = .ok (.invokevirtual 255, 3) := dk_182 0 255 (dk_at dksX4_bothOf_0 2 rfl rfl)
theorem dX4_bothOf_5 : decode cX4_bothOf 5 = .ok (.istore_n 2, 1) := dk_61 (dk_at dksX4_bothOf_0 5 rfl rfl)
theorem dX4_bothOf_6 : decode cX4_bothOf 6 = .ok (.aload_n 0, 1) := dk_42 (dk_at dksX4_bothOf_0 6 rfl rfl)
theorem dX4_bothOf_7 : decode cX4_bothOf 7 = .ok (.bipush 8, 2) := dk_16 8 (dk_at dksX4_bothOf_0 7 rfl rfl)
theorem dX4_bothOf_9 : decode cX4_bothOf 9 = .ok (.invokevirtual 245, 3) := dk_182 0 245 (dk_at dksX4_bothOf_0 9 rfl rfl)
theorem dX4_bothOf_12 : decode cX4_bothOf 12 = .ok (.ifCond .eq 38, 3) := dk_153 0 38 (dk_at dksX4_bothOf_0 12 rfl rfl)
theorem dX4_bothOf_15 : decode cX4_bothOf 15 = .ok (.aload_n 0, 1) := dk_42 (dk_at dksX4_bothOf_0 15 rfl rfl)
theorem dX4_bothOf_16 : decode cX4_bothOf 16 = .ok (.iload_n 1, 1) := dk_27 (dk_at dksX4_bothOf_0 16 rfl rfl)
theorem dX4_bothOf_17 : decode cX4_bothOf 17 = .ok (.ifCond .eq 11, 3) := dk_153 0 11 (dk_at dksX4_bothOf_0 17 rfl rfl)
theorem dX4_bothOf_20 : decode cX4_bothOf 20 = .ok (.iload_n 2, 1) := dk_28 (dk_at dksX4_bothOf_0 20 rfl rfl)
theorem dX4_bothOf_21 : decode cX4_bothOf 21 = .ok (.ifCond .eq 7, 3) := dk_153 0 7 (dk_at dksX4_bothOf_0 21 rfl rfl)
theorem dX4_bothOf_24 : decode cX4_bothOf 24 = .ok (.iconst 1, 1) := dk_4 (dk_at dksX4_bothOf_1 0 rfl rfl)
theorem dX4_bothOf_25 : decode cX4_bothOf 25 = .ok (.goto 4, 3) := dk_167 0 4 (dk_at dksX4_bothOf_1 1 rfl rfl)
theorem dX4_bothOf_28 : decode cX4_bothOf 28 = .ok (.iconst 0, 1) := dk_3 (dk_at dksX4_bothOf_1 4 rfl rfl)
theorem dX4_bothOf_29 : decode cX4_bothOf 29 = .ok (.invokevirtual 255, 3) := dk_182 0 255 (dk_at dksX4_bothOf_1 5 rfl rfl)
theorem dX4_bothOf_32 : decode cX4_bothOf 32 = .ok (.istore_n 3, 1) := dk_62 (dk_at dksX4_bothOf_1 8 rfl rfl)
theorem dX4_bothOf_33 : decode cX4_bothOf 33 = .ok (.iload_n 2, 1) := dk_28 (dk_at dksX4_bothOf_1 9 rfl rfl)
theorem dX4_bothOf_34 : decode cX4_bothOf 34 = .ok (.ifCond .eq 11, 3) := dk_153 0 11 (dk_at dksX4_bothOf_1 10 rfl rfl)
theorem dX4_bothOf_37 : decode cX4_bothOf 37 = .ok (.iload_n 3, 1) := dk_29 (dk_at dksX4_bothOf_1 13 rfl rfl)
theorem dX4_bothOf_38 : decode cX4_bothOf 38 = .ok (.ifCond .eq 7, 3) := dk_153 0 7 (dk_at dksX4_bothOf_1 14 rfl rfl)
theorem dX4_bothOf_41 : decode cX4_bothOf 41 = .ok (.iconst 1, 1) := dk_4 (dk_at dksX4_bothOf_1 17 rfl rfl)
theorem dX4_bothOf_42 : decode cX4_bothOf 42 = .ok (.goto 4, 3) := dk_167 0 4 (dk_at dksX4_bothOf_1 18 rfl rfl)
theorem dX4_bothOf_45 : decode cX4_bothOf 45 = .ok (.iconst 0, 1) := dk_3 (dk_at dksX4_bothOf_1 21 rfl rfl)
theorem dX4_bothOf_46 : decode cX4_bothOf 46 = .ok (.istore_n 2, 1) := dk_61 (dk_at dksX4_bothOf_1 22 rfl rfl)
theorem dX4_bothOf_47 : decode cX4_bothOf 47 = .ok (.goto (-41), 3) := dk_167 255 215 (dk_at dksX4_bothOf_2 0 rfl rfl)
theorem dX4_bothOf_50 : decode cX4_bothOf 50 = .ok (.iload_n 2, 1) := dk_28 (dk_at dksX4_bothOf_2 3 rfl rfl)
theorem dX4_bothOf_51 : decode cX4_bothOf 51 = .ok (.ireturn, 1) := dk_172 (dk_at dksX4_bothOf_2 4 rfl rfl)
abbrev cX4_plainOf : ByteArray := prog_24_method_71_code
def yX4_plainOf : MethodName := ⟨RX4, "plainOf", "(Z)Z"⟩
def dkwX4_plainOf_1 : List UInt8 := [42, 27, 182, 1, 2, 28, 159, 0, 7, 4, 167, 0, 4, 3, 172]
abbrev dktX4_plainOf_1 : List UInt8 := dkwX4_plainOf_1 ++ []
def dkwX4_plainOf_0 : List UInt8 := [3, 61, 42, 16, 9, 182, 0, 245, 153, 0, 16, 28, 154, 0, 7, 4, 167, 0, 4, 3, 61, 167, 255, 237]
abbrev dktX4_plainOf_0 : List UInt8 := dkwX4_plainOf_0 ++ dktX4_plainOf_1
theorem dksX4_plainOf_0 : cX4_plainOf.data.toList.drop 0 = dktX4_plainOf_0 := by decide +kernel
theorem dksX4_plainOf_1 : cX4_plainOf.data.toList.drop 24 = dktX4_plainOf_1 := dk_seg dksX4_plainOf_0 24 rfl rfl
theorem dX4_plainOf_0 : decode cX4_plainOf 0 = .ok (.iconst 0, 1) := dk_3 (dk_at dksX4_plainOf_0 0 rfl rfl)
theorem dX4_plainOf_1 : decode cX4_plainOf 1 = .ok (.istore_n 2, 1) := dk_61 (dk_at dksX4_plainOf_0 1 rfl rfl)
theorem dX4_plainOf_2 : decode cX4_plainOf 2 = .ok (.aload_n 0, 1) := dk_42 (dk_at dksX4_plainOf_0 2 rfl rfl)
theorem dX4_plainOf_3 : decode cX4_plainOf 3 = .ok (.bipush 9, 2) := dk_16 9 (dk_at dksX4_plainOf_0 3 rfl rfl)
theorem dX4_plainOf_5 : decode cX4_plainOf 5 = .ok (.invokevirtual 245, 3) := dk_182 0 245 (dk_at dksX4_plainOf_0 5 rfl rfl)
theorem dX4_plainOf_8 : decode cX4_plainOf 8 = .ok (.ifCond .eq 16, 3) := dk_153 0 16 (dk_at dksX4_plainOf_0 8 rfl rfl)
theorem dX4_plainOf_11 : decode cX4_plainOf 11 = .ok (.iload_n 2, 1) := dk_28 (dk_at dksX4_plainOf_0 11 rfl rfl)
theorem dX4_plainOf_12 : decode cX4_plainOf 12 = .ok (.ifCond .ne 7, 3) := dk_154 0 7 (dk_at dksX4_plainOf_0 12 rfl rfl)
theorem dX4_plainOf_15 : decode cX4_plainOf 15 = .ok (.iconst 1, 1) := dk_4 (dk_at dksX4_plainOf_0 15 rfl rfl)
theorem dX4_plainOf_16 : decode cX4_plainOf 16 = .ok (.goto 4, 3) := dk_167 0 4 (dk_at dksX4_plainOf_0 16 rfl rfl)
theorem dX4_plainOf_19 : decode cX4_plainOf 19 = .ok (.iconst 0, 1) := dk_3 (dk_at dksX4_plainOf_0 19 rfl rfl)
theorem dX4_plainOf_20 : decode cX4_plainOf 20 = .ok (.istore_n 2, 1) := dk_61 (dk_at dksX4_plainOf_0 20 rfl rfl)
theorem dX4_plainOf_21 : decode cX4_plainOf 21 = .ok (.goto (-19), 3) := dk_167 255 237 (dk_at dksX4_plainOf_0 21 rfl rfl)
theorem dX4_plainOf_24 : decode cX4_plainOf 24 = .ok (.aload_n 0, 1) := dk_42 (dk_at dksX4_plainOf_1 0 rfl rfl)
theorem dX4_plainOf_25 : decode cX4_plainOf 25 = .ok (.iload_n 1, 1) := dk_27 (dk_at dksX4_plainOf_1 1 rfl rfl)
theorem dX4_plainOf_26 : decode cX4_plainOf 26 = .ok (.invokevirtual 258, 3) := dk_182 1 2 (dk_at dksX4_plainOf_1 2 rfl rfl)
theorem dX4_plainOf_29 : decode cX4_plainOf 29 = .ok (.iload_n 2, 1) := dk_28 (dk_at dksX4_plainOf_1 5 rfl rfl)
theorem dX4_plainOf_30 : decode cX4_plainOf 30 = .ok (.if_icmp .eq 7, 3) := dk_159 0 7 (dk_at dksX4_plainOf_1 6 rfl rfl)
theorem dX4_plainOf_33 : decode cX4_plainOf 33 = .ok (.iconst 1, 1) := dk_4 (dk_at dksX4_plainOf_1 9 rfl rfl)
theorem dX4_plainOf_34 : decode cX4_plainOf 34 = .ok (.goto 4, 3) := dk_167 0 4 (dk_at dksX4_plainOf_1 10 rfl rfl)
theorem dX4_plainOf_37 : decode cX4_plainOf 37 = .ok (.iconst 0, 1) := dk_3 (dk_at dksX4_plainOf_1 13 rfl rfl)
theorem dX4_plainOf_38 : decode cX4_plainOf 38 = .ok (.ireturn, 1) := dk_172 (dk_at dksX4_plainOf_1 14 rfl rfl)
abbrev cX4_positiveOf : ByteArray := prog_24_method_73_code
def yX4_positiveOf : MethodName := ⟨RX4, "positiveOf", "(Z)Z"⟩
def dkwX4_positiveOf_7 : List UInt8 := [158, 0, 17, 167, 0, 10, 33, 22, 6, 148, 154, 0, 7, 4, 167, 0, 4, 3, 172]
abbrev dktX4_positiveOf_7 : List UInt8 := dkwX4_positiveOf_7 ++ []
def dkwX4_positiveOf_6 : List UInt8 := [22, 6, 148, 156, 0, 37, 167, 0, 30, 21, 5, 16, 62, 184, 0, 194, 160, 0, 13, 33, 22, 6, 148]
abbrev dktX4_positiveOf_6 : List UInt8 := dkwX4_positiveOf_6 ++ dktX4_positiveOf_7
def dkwX4_positiveOf_5 : List UInt8 := [55, 6, 27, 153, 0, 61, 42, 180, 0, 230, 154, 0, 54, 21, 5, 16, 60, 184, 0, 194, 160, 0, 13, 33]
abbrev dktX4_positiveOf_5 : List UInt8 := dkwX4_positiveOf_5 ++ dktX4_positiveOf_6
def dkwX4_positiveOf_4 : List UInt8 := [180, 0, 220, 182, 0, 223, 54, 5, 42, 89, 180, 0, 220, 4, 96, 181, 0, 220, 42, 27, 182, 0, 248]
abbrev dktX4_positiveOf_4 : List UInt8 := dkwX4_positiveOf_4 ++ dktX4_positiveOf_5
def dkwX4_positiveOf_3 : List UInt8 := [42, 28, 182, 1, 8, 153, 0, 7, 4, 167, 0, 4, 3, 172, 42, 27, 182, 0, 248, 66, 42, 42]
abbrev dktX4_positiveOf_3 : List UInt8 := dkwX4_positiveOf_3 ++ dktX4_positiveOf_4
def dkwX4_positiveOf_2 : List UInt8 := [163, 0, 38, 42, 89, 180, 0, 220, 4, 96, 181, 0, 220, 27, 153, 0, 22, 42, 180, 0, 230, 154, 0, 15]
abbrev dktX4_positiveOf_2 : List UInt8 := dkwX4_positiveOf_2 ++ dktX4_positiveOf_3
def dkwX4_positiveOf_1 : List UInt8 := [96, 181, 0, 220, 28, 172, 42, 42, 180, 0, 220, 182, 0, 223, 61, 28, 16, 10, 161, 0, 44, 28, 16, 16]
abbrev dktX4_positiveOf_1 : List UInt8 := dkwX4_positiveOf_1 ++ dktX4_positiveOf_2
def dkwX4_positiveOf_0 : List UInt8 := [42, 16, 40, 184, 0, 194, 182, 0, 245, 153, 0, 21, 42, 27, 182, 1, 5, 61, 42, 89, 180, 0, 220, 4]
abbrev dktX4_positiveOf_0 : List UInt8 := dkwX4_positiveOf_0 ++ dktX4_positiveOf_1
theorem dksX4_positiveOf_0 : cX4_positiveOf.data.toList.drop 0 = dktX4_positiveOf_0 := by decide +kernel
theorem dksX4_positiveOf_1 : cX4_positiveOf.data.toList.drop 24 = dktX4_positiveOf_1 := dk_seg dksX4_positiveOf_0 24 rfl rfl
theorem dksX4_positiveOf_2 : cX4_positiveOf.data.toList.drop 48 = dktX4_positiveOf_2 := dk_seg dksX4_positiveOf_1 24 rfl rfl
theorem dksX4_positiveOf_3 : cX4_positiveOf.data.toList.drop 72 = dktX4_positiveOf_3 := dk_seg dksX4_positiveOf_2 24 rfl rfl
theorem dksX4_positiveOf_4 : cX4_positiveOf.data.toList.drop 94 = dktX4_positiveOf_4 := dk_seg dksX4_positiveOf_3 22 rfl rfl
theorem dksX4_positiveOf_5 : cX4_positiveOf.data.toList.drop 117 = dktX4_positiveOf_5 := dk_seg dksX4_positiveOf_4 23 rfl rfl
theorem dksX4_positiveOf_6 : cX4_positiveOf.data.toList.drop 141 = dktX4_positiveOf_6 := dk_seg dksX4_positiveOf_5 24 rfl rfl
theorem dksX4_positiveOf_7 : cX4_positiveOf.data.toList.drop 164 = dktX4_positiveOf_7 := dk_seg dksX4_positiveOf_6 23 rfl rfl
theorem dX4_positiveOf_0 : decode cX4_positiveOf 0 = .ok (.aload_n 0, 1) := dk_42 (dk_at dksX4_positiveOf_0 0 rfl rfl)
theorem dX4_positiveOf_1 : decode cX4_positiveOf 1 = .ok (.bipush 40, 2) := dk_16 40 (dk_at dksX4_positiveOf_0 1 rfl rfl)
theorem dX4_positiveOf_3 : decode cX4_positiveOf 3 = .ok (.invokestatic 194, 3) := dk_184 0 194 (dk_at dksX4_positiveOf_0 3 rfl rfl)
theorem dX4_positiveOf_6 : decode cX4_positiveOf 6 = .ok (.invokevirtual 245, 3) := dk_182 0 245 (dk_at dksX4_positiveOf_0 6 rfl rfl)
theorem dX4_positiveOf_9 : decode cX4_positiveOf 9 = .ok (.ifCond .eq 21, 3) := dk_153 0 21 (dk_at dksX4_positiveOf_0 9 rfl rfl)
theorem dX4_positiveOf_12 : decode cX4_positiveOf 12 = .ok (.aload_n 0, 1) := dk_42 (dk_at dksX4_positiveOf_0 12 rfl rfl)
theorem dX4_positiveOf_13 : decode cX4_positiveOf 13 = .ok (.iload_n 1, 1) := dk_27 (dk_at dksX4_positiveOf_0 13 rfl rfl)
theorem dX4_positiveOf_14 : decode cX4_positiveOf 14 = .ok (.invokevirtual 261, 3) := dk_182 1 5 (dk_at dksX4_positiveOf_0 14 rfl rfl)
theorem dX4_positiveOf_17 : decode cX4_positiveOf 17 = .ok (.istore_n 2, 1) := dk_61 (dk_at dksX4_positiveOf_0 17 rfl rfl)
theorem dX4_positiveOf_18 : decode cX4_positiveOf 18 = .ok (.aload_n 0, 1) := dk_42 (dk_at dksX4_positiveOf_0 18 rfl rfl)
theorem dX4_positiveOf_19 : decode cX4_positiveOf 19 = .ok (.dup, 1) := dk_89 (dk_at dksX4_positiveOf_0 19 rfl rfl)
theorem dX4_positiveOf_20 : decode cX4_positiveOf 20 = .ok (.getfield 220, 3) := dk_180 0 220 (dk_at dksX4_positiveOf_0 20 rfl rfl)
theorem dX4_positiveOf_23 : decode cX4_positiveOf 23 = .ok (.iconst 1, 1) := dk_4 (dk_at dksX4_positiveOf_0 23 rfl rfl)
theorem dX4_positiveOf_24 : decode cX4_positiveOf 24 = .ok (.iadd, 1) := dk_96 (dk_at dksX4_positiveOf_1 0 rfl rfl)
theorem dX4_positiveOf_25 : decode cX4_positiveOf 25 = .ok (.putfield 220, 3) := dk_181 0 220 (dk_at dksX4_positiveOf_1 1 rfl rfl)
theorem dX4_positiveOf_28 : decode cX4_positiveOf 28 = .ok (.iload_n 2, 1) := dk_28 (dk_at dksX4_positiveOf_1 4 rfl rfl)
theorem dX4_positiveOf_29 : decode cX4_positiveOf 29 = .ok (.ireturn, 1) := dk_172 (dk_at dksX4_positiveOf_1 5 rfl rfl)
theorem dX4_positiveOf_30 : decode cX4_positiveOf 30 = .ok (.aload_n 0, 1) := dk_42 (dk_at dksX4_positiveOf_1 6 rfl rfl)
theorem dX4_positiveOf_31 : decode cX4_positiveOf 31 = .ok (.aload_n 0, 1) := dk_42 (dk_at dksX4_positiveOf_1 7 rfl rfl)
theorem dX4_positiveOf_32 : decode cX4_positiveOf 32 = .ok (.getfield 220, 3) := dk_180 0 220 (dk_at dksX4_positiveOf_1 8 rfl rfl)
theorem dX4_positiveOf_35 : decode cX4_positiveOf 35 = .ok (.invokevirtual 223, 3) := dk_182 0 223 (dk_at dksX4_positiveOf_1 11 rfl rfl)
theorem dX4_positiveOf_38 : decode cX4_positiveOf 38 = .ok (.istore_n 2, 1) := dk_61 (dk_at dksX4_positiveOf_1 14 rfl rfl)
theorem dX4_positiveOf_39 : decode cX4_positiveOf 39 = .ok (.iload_n 2, 1) := dk_28 (dk_at dksX4_positiveOf_1 15 rfl rfl)
theorem dX4_positiveOf_40 : decode cX4_positiveOf 40 = .ok (.bipush 10, 2) := dk_16 10 (dk_at dksX4_positiveOf_1 16 rfl rfl)
theorem dX4_positiveOf_42 : decode cX4_positiveOf 42 = .ok (.if_icmp .lt 44, 3) := dk_161 0 44 (dk_at dksX4_positiveOf_1 18 rfl rfl)
theorem dX4_positiveOf_45 : decode cX4_positiveOf 45 = .ok (.iload_n 2, 1) := dk_28 (dk_at dksX4_positiveOf_1 21 rfl rfl)
theorem dX4_positiveOf_46 : decode cX4_positiveOf 46 = .ok (.bipush 16, 2) := dk_16 16 (dk_at dksX4_positiveOf_1 22 rfl rfl)
theorem dX4_positiveOf_48 : decode cX4_positiveOf 48 = .ok (.if_icmp .gt 38, 3) := dk_163 0 38 (dk_at dksX4_positiveOf_2 0 rfl rfl)
theorem dX4_positiveOf_51 : decode cX4_positiveOf 51 = .ok (.aload_n 0, 1) := dk_42 (dk_at dksX4_positiveOf_2 3 rfl rfl)
theorem dX4_positiveOf_52 : decode cX4_positiveOf 52 = .ok (.dup, 1) := dk_89 (dk_at dksX4_positiveOf_2 4 rfl rfl)
theorem dX4_positiveOf_53 : decode cX4_positiveOf 53 = .ok (.getfield 220, 3) := dk_180 0 220 (dk_at dksX4_positiveOf_2 5 rfl rfl)
theorem dX4_positiveOf_56 : decode cX4_positiveOf 56 = .ok (.iconst 1, 1) := dk_4 (dk_at dksX4_positiveOf_2 8 rfl rfl)
theorem dX4_positiveOf_57 : decode cX4_positiveOf 57 = .ok (.iadd, 1) := dk_96 (dk_at dksX4_positiveOf_2 9 rfl rfl)
theorem dX4_positiveOf_58 : decode cX4_positiveOf 58 = .ok (.putfield 220, 3) := dk_181 0 220 (dk_at dksX4_positiveOf_2 10 rfl rfl)
theorem dX4_positiveOf_61 : decode cX4_positiveOf 61 = .ok (.iload_n 1, 1) := dk_27 (dk_at dksX4_positiveOf_2 13 rfl rfl)
theorem dX4_positiveOf_62 : decode cX4_positiveOf 62 = .ok (.ifCond .eq 22, 3) := dk_153 0 22 (dk_at dksX4_positiveOf_2 14 rfl rfl)
theorem dX4_positiveOf_65 : decode cX4_positiveOf 65 = .ok (.aload_n 0, 1) := dk_42 (dk_at dksX4_positiveOf_2 17 rfl rfl)
theorem dX4_positiveOf_66 : decode cX4_positiveOf 66 = .ok (.getfield 230, 3) := dk_180 0 230 (dk_at dksX4_positiveOf_2 18 rfl rfl)
theorem dX4_positiveOf_69 : decode cX4_positiveOf 69 = .ok (.ifCond .ne 15, 3) := dk_154 0 15 (dk_at dksX4_positiveOf_2 21 rfl rfl)
theorem dX4_positiveOf_72 : decode cX4_positiveOf 72 = .ok (.aload_n 0, 1) := dk_42 (dk_at dksX4_positiveOf_3 0 rfl rfl)
theorem dX4_positiveOf_73 : decode cX4_positiveOf 73 = .ok (.iload_n 2, 1) := dk_28 (dk_at dksX4_positiveOf_3 1 rfl rfl)
theorem dX4_positiveOf_74 : decode cX4_positiveOf 74 = .ok (.invokevirtual 264, 3) := dk_182 1 8 (dk_at dksX4_positiveOf_3 2 rfl rfl)
theorem dX4_positiveOf_77 : decode cX4_positiveOf 77 = .ok (.ifCond .eq 7, 3) := dk_153 0 7 (dk_at dksX4_positiveOf_3 5 rfl rfl)
theorem dX4_positiveOf_80 : decode cX4_positiveOf 80 = .ok (.iconst 1, 1) := dk_4 (dk_at dksX4_positiveOf_3 8 rfl rfl)
theorem dX4_positiveOf_81 : decode cX4_positiveOf 81 = .ok (.goto 4, 3) := dk_167 0 4 (dk_at dksX4_positiveOf_3 9 rfl rfl)
theorem dX4_positiveOf_84 : decode cX4_positiveOf 84 = .ok (.iconst 0, 1) := dk_3 (dk_at dksX4_positiveOf_3 12 rfl rfl)
theorem dX4_positiveOf_85 : decode cX4_positiveOf 85 = .ok (.ireturn, 1) := dk_172 (dk_at dksX4_positiveOf_3 13 rfl rfl)
theorem dX4_positiveOf_86 : decode cX4_positiveOf 86 = .ok (.aload_n 0, 1) := dk_42 (dk_at dksX4_positiveOf_3 14 rfl rfl)
theorem dX4_positiveOf_87 : decode cX4_positiveOf 87 = .ok (.iload_n 1, 1) := dk_27 (dk_at dksX4_positiveOf_3 15 rfl rfl)
theorem dX4_positiveOf_88 : decode cX4_positiveOf 88 = .ok (.invokevirtual 248, 3) := dk_182 0 248 (dk_at dksX4_positiveOf_3 16 rfl rfl)
theorem dX4_positiveOf_91 : decode cX4_positiveOf 91 = .ok (.lstore_n 3, 1) := dk_66 (dk_at dksX4_positiveOf_3 19 rfl rfl)
theorem dX4_positiveOf_92 : decode cX4_positiveOf 92 = .ok (.aload_n 0, 1) := dk_42 (dk_at dksX4_positiveOf_3 20 rfl rfl)
theorem dX4_positiveOf_93 : decode cX4_positiveOf 93 = .ok (.aload_n 0, 1) := dk_42 (dk_at dksX4_positiveOf_3 21 rfl rfl)
theorem dX4_positiveOf_94 : decode cX4_positiveOf 94 = .ok (.getfield 220, 3) := dk_180 0 220 (dk_at dksX4_positiveOf_4 0 rfl rfl)
theorem dX4_positiveOf_97 : decode cX4_positiveOf 97 = .ok (.invokevirtual 223, 3) := dk_182 0 223 (dk_at dksX4_positiveOf_4 3 rfl rfl)
theorem dX4_positiveOf_100 : decode cX4_positiveOf 100 = .ok (.istore 5, 2) := dk_54 5 (dk_at dksX4_positiveOf_4 6 rfl rfl)
theorem dX4_positiveOf_102 : decode cX4_positiveOf 102 = .ok (.aload_n 0, 1) := dk_42 (dk_at dksX4_positiveOf_4 8 rfl rfl)
theorem dX4_positiveOf_103 : decode cX4_positiveOf 103 = .ok (.dup, 1) := dk_89 (dk_at dksX4_positiveOf_4 9 rfl rfl)
theorem dX4_positiveOf_104 : decode cX4_positiveOf 104 = .ok (.getfield 220, 3) := dk_180 0 220 (dk_at dksX4_positiveOf_4 10 rfl rfl)
theorem dX4_positiveOf_107 : decode cX4_positiveOf 107 = .ok (.iconst 1, 1) := dk_4 (dk_at dksX4_positiveOf_4 13 rfl rfl)
theorem dX4_positiveOf_108 : decode cX4_positiveOf 108 = .ok (.iadd, 1) := dk_96 (dk_at dksX4_positiveOf_4 14 rfl rfl)
theorem dX4_positiveOf_109 : decode cX4_positiveOf 109 = .ok (.putfield 220, 3) := dk_181 0 220 (dk_at dksX4_positiveOf_4 15 rfl rfl)
theorem dX4_positiveOf_112 : decode cX4_positiveOf 112 = .ok (.aload_n 0, 1) := dk_42 (dk_at dksX4_positiveOf_4 18 rfl rfl)
theorem dX4_positiveOf_113 : decode cX4_positiveOf 113 = .ok (.iload_n 1, 1) := dk_27 (dk_at dksX4_positiveOf_4 19 rfl rfl)
theorem dX4_positiveOf_114 : decode cX4_positiveOf 114 = .ok (.invokevirtual 248, 3) := dk_182 0 248 (dk_at dksX4_positiveOf_4 20 rfl rfl)
theorem dX4_positiveOf_117 : decode cX4_positiveOf 117 = .ok (.lstore 6, 2) := dk_55 6 (dk_at dksX4_positiveOf_5 0 rfl rfl)
theorem dX4_positiveOf_119 : decode cX4_positiveOf 119 = .ok (.iload_n 1, 1) := dk_27 (dk_at dksX4_positiveOf_5 2 rfl rfl)
theorem dX4_positiveOf_120 : decode cX4_positiveOf 120 = .ok (.ifCond .eq 61, 3) := dk_153 0 61 (dk_at dksX4_positiveOf_5 3 rfl rfl)
theorem dX4_positiveOf_123 : decode cX4_positiveOf 123 = .ok (.aload_n 0, 1) := dk_42 (dk_at dksX4_positiveOf_5 6 rfl rfl)
theorem dX4_positiveOf_124 : decode cX4_positiveOf 124 = .ok (.getfield 230, 3) := dk_180 0 230 (dk_at dksX4_positiveOf_5 7 rfl rfl)
theorem dX4_positiveOf_127 : decode cX4_positiveOf 127 = .ok (.ifCond .ne 54, 3) := dk_154 0 54 (dk_at dksX4_positiveOf_5 10 rfl rfl)
theorem dX4_positiveOf_130 : decode cX4_positiveOf 130 = .ok (.iload 5, 2) := dk_21 5 (dk_at dksX4_positiveOf_5 13 rfl rfl)
theorem dX4_positiveOf_132 : decode cX4_positiveOf 132 = .ok (.bipush 60, 2) := dk_16 60 (dk_at dksX4_positiveOf_5 15 rfl rfl)
theorem dX4_positiveOf_134 : decode cX4_positiveOf 134 = .ok (.invokestatic 194, 3) := dk_184 0 194 (dk_at dksX4_positiveOf_5 17 rfl rfl)
theorem dX4_positiveOf_137 : decode cX4_positiveOf 137 = .ok (.if_icmp .ne 13, 3) := dk_160 0 13 (dk_at dksX4_positiveOf_5 20 rfl rfl)
theorem dX4_positiveOf_140 : decode cX4_positiveOf 140 = .ok (.lload_n 3, 1) := dk_33 (dk_at dksX4_positiveOf_5 23 rfl rfl)
theorem dX4_positiveOf_141 : decode cX4_positiveOf 141 = .ok (.lload 6, 2) := dk_22 6 (dk_at dksX4_positiveOf_6 0 rfl rfl)
theorem dX4_positiveOf_143 : decode cX4_positiveOf 143 = .ok (.lcmp, 1) := dk_148 (dk_at dksX4_positiveOf_6 2 rfl rfl)
theorem dX4_positiveOf_144 : decode cX4_positiveOf 144 = .ok (.ifCond .ge 37, 3) := dk_156 0 37 (dk_at dksX4_positiveOf_6 3 rfl rfl)
theorem dX4_positiveOf_147 : decode cX4_positiveOf 147 = .ok (.goto 30, 3) := dk_167 0 30 (dk_at dksX4_positiveOf_6 6 rfl rfl)
theorem dX4_positiveOf_150 : decode cX4_positiveOf 150 = .ok (.iload 5, 2) := dk_21 5 (dk_at dksX4_positiveOf_6 9 rfl rfl)
theorem dX4_positiveOf_152 : decode cX4_positiveOf 152 = .ok (.bipush 62, 2) := dk_16 62 (dk_at dksX4_positiveOf_6 11 rfl rfl)
theorem dX4_positiveOf_154 : decode cX4_positiveOf 154 = .ok (.invokestatic 194, 3) := dk_184 0 194 (dk_at dksX4_positiveOf_6 13 rfl rfl)
theorem dX4_positiveOf_157 : decode cX4_positiveOf 157 = .ok (.if_icmp .ne 13, 3) := dk_160 0 13 (dk_at dksX4_positiveOf_6 16 rfl rfl)
theorem dX4_positiveOf_160 : decode cX4_positiveOf 160 = .ok (.lload_n 3, 1) := dk_33 (dk_at dksX4_positiveOf_6 19 rfl rfl)
theorem dX4_positiveOf_161 : decode cX4_positiveOf 161 = .ok (.lload 6, 2) := dk_22 6 (dk_at dksX4_positiveOf_6 20 rfl rfl)
theorem dX4_positiveOf_163 : decode cX4_positiveOf 163 = .ok (.lcmp, 1) := dk_148 (dk_at dksX4_positiveOf_6 22 rfl rfl)
theorem dX4_positiveOf_164 : decode cX4_positiveOf 164 = .ok (.ifCond .le 17, 3) := dk_158 0 17 (dk_at dksX4_positiveOf_7 0 rfl rfl)
theorem dX4_positiveOf_167 : decode cX4_positiveOf 167 = .ok (.goto 10, 3) := dk_167 0 10 (dk_at dksX4_positiveOf_7 3 rfl rfl)
theorem dX4_positiveOf_170 : decode cX4_positiveOf 170 = .ok (.lload_n 3, 1) := dk_33 (dk_at dksX4_positiveOf_7 6 rfl rfl)
theorem dX4_positiveOf_171 : decode cX4_positiveOf 171 = .ok (.lload 6, 2) := dk_22 6 (dk_at dksX4_positiveOf_7 7 rfl rfl)
theorem dX4_positiveOf_173 : decode cX4_positiveOf 173 = .ok (.lcmp, 1) := dk_148 (dk_at dksX4_positiveOf_7 9 rfl rfl)
theorem dX4_positiveOf_174 : decode cX4_positiveOf 174 = .ok (.ifCond .ne 7, 3) := dk_154 0 7 (dk_at dksX4_positiveOf_7 10 rfl rfl)
theorem dX4_positiveOf_177 : decode cX4_positiveOf 177 = .ok (.iconst 1, 1) := dk_4 (dk_at dksX4_positiveOf_7 13 rfl rfl)
theorem dX4_positiveOf_178 : decode cX4_positiveOf 178 = .ok (.goto 4, 3) := dk_167 0 4 (dk_at dksX4_positiveOf_7 14 rfl rfl)
theorem dX4_positiveOf_181 : decode cX4_positiveOf 181 = .ok (.iconst 0, 1) := dk_3 (dk_at dksX4_positiveOf_7 17 rfl rfl)
theorem dX4_positiveOf_182 : decode cX4_positiveOf 182 = .ok (.ireturn, 1) := dk_172 (dk_at dksX4_positiveOf_7 18 rfl rfl)
abbrev cX4_flagged : ByteArray := prog_24_method_72_code
def yX4_flagged : MethodName := ⟨RX4, "flagged", "(I)Z"⟩
def dkwX4_flagged_2 : List UInt8 := [184, 0, 110, 167, 0, 19, 42, 180, 0, 27, 16, 7, 46, 4, 160, 0, 7, 4, 167, 0, 4, 3, 172]
abbrev dktX4_flagged_2 : List UInt8 := dkwX4_flagged_2 ++ []
def dkwX4_flagged_1 : List UInt8 := [167, 0, 4, 3, 172, 27, 16, 16, 160, 0, 22, 42, 180, 0, 27, 4, 46, 42, 180, 0, 27, 16, 6, 46]
abbrev dktX4_flagged_1 : List UInt8 := dkwX4_flagged_1 ++ dktX4_flagged_2
def dkwX4_flagged_0 : List UInt8 := [27, 16, 15, 162, 0, 24, 42, 180, 0, 27, 4, 46, 27, 16, 10, 100, 4, 96, 160, 0, 7, 4]
abbrev dktX4_flagged_0 : List UInt8 := dkwX4_flagged_0 ++ dktX4_flagged_1
theorem dksX4_flagged_0 : cX4_flagged.data.toList.drop 0 = dktX4_flagged_0 := by decide +kernel
theorem dksX4_flagged_1 : cX4_flagged.data.toList.drop 22 = dktX4_flagged_1 := dk_seg dksX4_flagged_0 22 rfl rfl
theorem dksX4_flagged_2 : cX4_flagged.data.toList.drop 46 = dktX4_flagged_2 := dk_seg dksX4_flagged_1 24 rfl rfl
theorem dX4_flagged_0 : decode cX4_flagged 0 = .ok (.iload_n 1, 1) := dk_27 (dk_at dksX4_flagged_0 0 rfl rfl)
theorem dX4_flagged_1 : decode cX4_flagged 1 = .ok (.bipush 15, 2) := dk_16 15 (dk_at dksX4_flagged_0 1 rfl rfl)
theorem dX4_flagged_3 : decode cX4_flagged 3 = .ok (.if_icmp .ge 24, 3) := dk_162 0 24 (dk_at dksX4_flagged_0 3 rfl rfl)
theorem dX4_flagged_6 : decode cX4_flagged 6 = .ok (.aload_n 0, 1) := dk_42 (dk_at dksX4_flagged_0 6 rfl rfl)
theorem dX4_flagged_7 : decode cX4_flagged 7 = .ok (.getfield 27, 3) := dk_180 0 27 (dk_at dksX4_flagged_0 7 rfl rfl)
theorem dX4_flagged_10 : decode cX4_flagged 10 = .ok (.iconst 1, 1) := dk_4 (dk_at dksX4_flagged_0 10 rfl rfl)
theorem dX4_flagged_11 : decode cX4_flagged 11 = .ok (.iaload, 1) := dk_46 (dk_at dksX4_flagged_0 11 rfl rfl)
theorem dX4_flagged_12 : decode cX4_flagged 12 = .ok (.iload_n 1, 1) := dk_27 (dk_at dksX4_flagged_0 12 rfl rfl)
theorem dX4_flagged_13 : decode cX4_flagged 13 = .ok (.bipush 10, 2) := dk_16 10 (dk_at dksX4_flagged_0 13 rfl rfl)
theorem dX4_flagged_15 : decode cX4_flagged 15 = .ok (.isub, 1) := dk_100 (dk_at dksX4_flagged_0 15 rfl rfl)
theorem dX4_flagged_16 : decode cX4_flagged 16 = .ok (.iconst 1, 1) := dk_4 (dk_at dksX4_flagged_0 16 rfl rfl)
theorem dX4_flagged_17 : decode cX4_flagged 17 = .ok (.iadd, 1) := dk_96 (dk_at dksX4_flagged_0 17 rfl rfl)
theorem dX4_flagged_18 : decode cX4_flagged 18 = .ok (.if_icmp .ne 7, 3) := dk_160 0 7 (dk_at dksX4_flagged_0 18 rfl rfl)
theorem dX4_flagged_21 : decode cX4_flagged 21 = .ok (.iconst 1, 1) := dk_4 (dk_at dksX4_flagged_0 21 rfl rfl)
theorem dX4_flagged_22 : decode cX4_flagged 22 = .ok (.goto 4, 3) := dk_167 0 4 (dk_at dksX4_flagged_1 0 rfl rfl)
theorem dX4_flagged_25 : decode cX4_flagged 25 = .ok (.iconst 0, 1) := dk_3 (dk_at dksX4_flagged_1 3 rfl rfl)
theorem dX4_flagged_26 : decode cX4_flagged 26 = .ok (.ireturn, 1) := dk_172 (dk_at dksX4_flagged_1 4 rfl rfl)
theorem dX4_flagged_27 : decode cX4_flagged 27 = .ok (.iload_n 1, 1) := dk_27 (dk_at dksX4_flagged_1 5 rfl rfl)
theorem dX4_flagged_28 : decode cX4_flagged 28 = .ok (.bipush 16, 2) := dk_16 16 (dk_at dksX4_flagged_1 6 rfl rfl)
theorem dX4_flagged_30 : decode cX4_flagged 30 = .ok (.if_icmp .ne 22, 3) := dk_160 0 22 (dk_at dksX4_flagged_1 8 rfl rfl)
theorem dX4_flagged_33 : decode cX4_flagged 33 = .ok (.aload_n 0, 1) := dk_42 (dk_at dksX4_flagged_1 11 rfl rfl)
theorem dX4_flagged_34 : decode cX4_flagged 34 = .ok (.getfield 27, 3) := dk_180 0 27 (dk_at dksX4_flagged_1 12 rfl rfl)
theorem dX4_flagged_37 : decode cX4_flagged 37 = .ok (.iconst 1, 1) := dk_4 (dk_at dksX4_flagged_1 15 rfl rfl)
theorem dX4_flagged_38 : decode cX4_flagged 38 = .ok (.iaload, 1) := dk_46 (dk_at dksX4_flagged_1 16 rfl rfl)
theorem dX4_flagged_39 : decode cX4_flagged 39 = .ok (.aload_n 0, 1) := dk_42 (dk_at dksX4_flagged_1 17 rfl rfl)
theorem dX4_flagged_40 : decode cX4_flagged 40 = .ok (.getfield 27, 3) := dk_180 0 27 (dk_at dksX4_flagged_1 18 rfl rfl)
theorem dX4_flagged_43 : decode cX4_flagged 43 = .ok (.bipush 6, 2) := dk_16 6 (dk_at dksX4_flagged_1 21 rfl rfl)
theorem dX4_flagged_45 : decode cX4_flagged 45 = .ok (.iaload, 1) := dk_46 (dk_at dksX4_flagged_1 23 rfl rfl)
theorem dX4_flagged_46 : decode cX4_flagged 46 = .ok (.invokestatic 110, 3) := dk_184 0 110 (dk_at dksX4_flagged_2 0 rfl rfl)
theorem dX4_flagged_49 : decode cX4_flagged 49 = .ok (.goto 19, 3) := dk_167 0 19 (dk_at dksX4_flagged_2 3 rfl rfl)
theorem dX4_flagged_52 : decode cX4_flagged 52 = .ok (.aload_n 0, 1) := dk_42 (dk_at dksX4_flagged_2 6 rfl rfl)
theorem dX4_flagged_53 : decode cX4_flagged 53 = .ok (.getfield 27, 3) := dk_180 0 27 (dk_at dksX4_flagged_2 7 rfl rfl)
theorem dX4_flagged_56 : decode cX4_flagged 56 = .ok (.bipush 7, 2) := dk_16 7 (dk_at dksX4_flagged_2 10 rfl rfl)
theorem dX4_flagged_58 : decode cX4_flagged 58 = .ok (.iaload, 1) := dk_46 (dk_at dksX4_flagged_2 12 rfl rfl)
theorem dX4_flagged_59 : decode cX4_flagged 59 = .ok (.iconst 1, 1) := dk_4 (dk_at dksX4_flagged_2 13 rfl rfl)
theorem dX4_flagged_60 : decode cX4_flagged 60 = .ok (.if_icmp .ne 7, 3) := dk_160 0 7 (dk_at dksX4_flagged_2 14 rfl rfl)
theorem dX4_flagged_63 : decode cX4_flagged 63 = .ok (.iconst 1, 1) := dk_4 (dk_at dksX4_flagged_2 17 rfl rfl)
theorem dX4_flagged_64 : decode cX4_flagged 64 = .ok (.goto 4, 3) := dk_167 0 4 (dk_at dksX4_flagged_2 18 rfl rfl)
theorem dX4_flagged_67 : decode cX4_flagged 67 = .ok (.iconst 0, 1) := dk_3 (dk_at dksX4_flagged_2 21 rfl rfl)
theorem dX4_flagged_68 : decode cX4_flagged 68 = .ok (.ireturn, 1) := dk_172 (dk_at dksX4_flagged_2 22 rfl rfl)
abbrev cX4_near : ByteArray := prog_24_method_75_code
def yX4_near : MethodName := ⟨RX4, "near", "(JI)I"⟩
def dkwX4_near_0 : List UInt8 := [30, 9, 148, 156, 0, 7, 3, 167, 0, 16, 30, 28, 133, 148, 158, 0, 7, 28, 167, 0, 5, 30, 136, 172]
abbrev dktX4_near_0 : List UInt8 := dkwX4_near_0 ++ []
theorem dksX4_near_0 : cX4_near.data.toList.drop 0 = dktX4_near_0 := by decide +kernel
theorem dX4_near_0 : decode cX4_near 0 = .ok (.lload_n 0, 1) := dk_30 (dk_at dksX4_near_0 0 rfl rfl)
theorem dX4_near_1 : decode cX4_near 1 = .ok (.lconst 0, 1) := dk_9 (dk_at dksX4_near_0 1 rfl rfl)
theorem dX4_near_2 : decode cX4_near 2 = .ok (.lcmp, 1) := dk_148 (dk_at dksX4_near_0 2 rfl rfl)
theorem dX4_near_3 : decode cX4_near 3 = .ok (.ifCond .ge 7, 3) := dk_156 0 7 (dk_at dksX4_near_0 3 rfl rfl)
theorem dX4_near_6 : decode cX4_near 6 = .ok (.iconst 0, 1) := dk_3 (dk_at dksX4_near_0 6 rfl rfl)
theorem dX4_near_7 : decode cX4_near 7 = .ok (.goto 16, 3) := dk_167 0 16 (dk_at dksX4_near_0 7 rfl rfl)
theorem dX4_near_10 : decode cX4_near 10 = .ok (.lload_n 0, 1) := dk_30 (dk_at dksX4_near_0 10 rfl rfl)
theorem dX4_near_11 : decode cX4_near 11 = .ok (.iload_n 2, 1) := dk_28 (dk_at dksX4_near_0 11 rfl rfl)
theorem dX4_near_12 : decode cX4_near 12 = .ok (.i2l, 1) := dk_133 (dk_at dksX4_near_0 12 rfl rfl)
theorem dX4_near_13 : decode cX4_near 13 = .ok (.lcmp, 1) := dk_148 (dk_at dksX4_near_0 13 rfl rfl)
theorem dX4_near_14 : decode cX4_near 14 = .ok (.ifCond .le 7, 3) := dk_158 0 7 (dk_at dksX4_near_0 14 rfl rfl)
theorem dX4_near_17 : decode cX4_near 17 = .ok (.iload_n 2, 1) := dk_28 (dk_at dksX4_near_0 17 rfl rfl)
theorem dX4_near_18 : decode cX4_near 18 = .ok (.goto 5, 3) := dk_167 0 5 (dk_at dksX4_near_0 18 rfl rfl)
theorem dX4_near_21 : decode cX4_near 21 = .ok (.lload_n 0, 1) := dk_30 (dk_at dksX4_near_0 21 rfl rfl)
theorem dX4_near_22 : decode cX4_near 22 = .ok (.l2i, 1) := dk_136 (dk_at dksX4_near_0 22 rfl rfl)
theorem dX4_near_23 : decode cX4_near 23 = .ok (.ireturn, 1) := dk_172 (dk_at dksX4_near_0 23 rfl rfl)
abbrev cX4_seenAt : ByteArray := prog_24_method_78_code
def yX4_seenAt : MethodName := ⟨RX4, "seenAt", "(I)I"⟩
def dkwX4_seenAt_0 : List UInt8 := [42, 180, 0, 17, 42, 27, 182, 0, 130, 16, 9, 96, 46, 172]
abbrev dktX4_seenAt_0 : List UInt8 := dkwX4_seenAt_0 ++ []
theorem dksX4_seenAt_0 : cX4_seenAt.data.toList.drop 0 = dktX4_seenAt_0 := by decide +kernel
theorem dX4_seenAt_0 : decode cX4_seenAt 0 = .ok (.aload_n 0, 1) := dk_42 (dk_at dksX4_seenAt_0 0 rfl rfl)
theorem dX4_seenAt_1 : decode cX4_seenAt 1 = .ok (.getfield 17, 3) := dk_180 0 17 (dk_at dksX4_seenAt_0 1 rfl rfl)
theorem dX4_seenAt_4 : decode cX4_seenAt 4 = .ok (.aload_n 0, 1) := dk_42 (dk_at dksX4_seenAt_0 4 rfl rfl)
theorem dX4_seenAt_5 : decode cX4_seenAt 5 = .ok (.iload_n 1, 1) := dk_27 (dk_at dksX4_seenAt_0 5 rfl rfl)
theorem dX4_seenAt_6 : decode cX4_seenAt 6 = .ok (.invokevirtual 130, 3) := dk_182 0 130 (dk_at dksX4_seenAt_0 6 rfl rfl)
theorem dX4_seenAt_9 : decode cX4_seenAt 9 = .ok (.bipush 9, 2) := dk_16 9 (dk_at dksX4_seenAt_0 9 rfl rfl)
theorem dX4_seenAt_11 : decode cX4_seenAt 11 = .ok (.iadd, 1) := dk_96 (dk_at dksX4_seenAt_0 11 rfl rfl)
theorem dX4_seenAt_12 : decode cX4_seenAt 12 = .ok (.iaload, 1) := dk_46 (dk_at dksX4_seenAt_0 12 rfl rfl)
theorem dX4_seenAt_13 : decode cX4_seenAt 13 = .ok (.ireturn, 1) := dk_172 (dk_at dksX4_seenAt_0 13 rfl rfl)
abbrev cX4_oddsOfTrial : ByteArray := prog_24_method_77_code
def yX4_oddsOfTrial : MethodName := ⟨RX4, "oddsOfTrial", "(II)I"⟩
def dkwX4_oddsOfTrial_0 : List UInt8 := [42, 42, 28, 182, 0, 133, 182, 1, 21, 42, 27, 182, 1, 24, 172]
abbrev dktX4_oddsOfTrial_0 : List UInt8 := dkwX4_oddsOfTrial_0 ++ []
theorem dksX4_oddsOfTrial_0 : cX4_oddsOfTrial.data.toList.drop 0 = dktX4_oddsOfTrial_0 := by decide +kernel
theorem dX4_oddsOfTrial_0 : decode cX4_oddsOfTrial 0 = .ok (.aload_n 0, 1) := dk_42 (dk_at dksX4_oddsOfTrial_0 0 rfl rfl)
theorem dX4_oddsOfTrial_1 : decode cX4_oddsOfTrial 1 = .ok (.aload_n 0, 1) := dk_42 (dk_at dksX4_oddsOfTrial_0 1 rfl rfl)
theorem dX4_oddsOfTrial_2 : decode cX4_oddsOfTrial 2 = .ok (.iload_n 2, 1) := dk_28 (dk_at dksX4_oddsOfTrial_0 2 rfl rfl)
theorem dX4_oddsOfTrial_3 : decode cX4_oddsOfTrial 3 = .ok (.invokevirtual 133, 3) := dk_182 0 133 (dk_at dksX4_oddsOfTrial_0 3 rfl rfl)
theorem dX4_oddsOfTrial_6 : decode cX4_oddsOfTrial 6 = .ok (.invokevirtual 277, 3) := dk_182 1 21 (dk_at dksX4_oddsOfTrial_0 6 rfl rfl)
theorem dX4_oddsOfTrial_9 : decode cX4_oddsOfTrial 9 = .ok (.aload_n 0, 1) := dk_42 (dk_at dksX4_oddsOfTrial_0 9 rfl rfl)
theorem dX4_oddsOfTrial_10 : decode cX4_oddsOfTrial 10 = .ok (.iload_n 1, 1) := dk_27 (dk_at dksX4_oddsOfTrial_0 10 rfl rfl)
theorem dX4_oddsOfTrial_11 : decode cX4_oddsOfTrial 11 = .ok (.invokevirtual 280, 3) := dk_182 1 24 (dk_at dksX4_oddsOfTrial_0 11 rfl rfl)
theorem dX4_oddsOfTrial_14 : decode cX4_oddsOfTrial 14 = .ok (.ireturn, 1) := dk_172 (dk_at dksX4_oddsOfTrial_0 14 rfl rfl)
abbrev cX4_fair : ByteArray := prog_24_method_82_code
def yX4_fair : MethodName := ⟨RX4, "fair", "(II)I"⟩
def dkwX4_fair_1 : List UInt8 := [153, 0, 7, 4, 167, 0, 8, 3, 167, 0, 4, 2, 172]
abbrev dktX4_fair_1 : List UInt8 := dkwX4_fair_1 ++ []
def dkwX4_fair_0 : List UInt8 := [42, 27, 182, 1, 30, 153, 0, 28, 42, 28, 182, 0, 145, 153, 0, 20, 42, 27, 28, 182, 1, 39]
abbrev dktX4_fair_0 : List UInt8 := dkwX4_fair_0 ++ dktX4_fair_1
theorem dksX4_fair_0 : cX4_fair.data.toList.drop 0 = dktX4_fair_0 := by decide +kernel
theorem dksX4_fair_1 : cX4_fair.data.toList.drop 22 = dktX4_fair_1 := dk_seg dksX4_fair_0 22 rfl rfl
theorem dX4_fair_0 : decode cX4_fair 0 = .ok (.aload_n 0, 1) := dk_42 (dk_at dksX4_fair_0 0 rfl rfl)
theorem dX4_fair_1 : decode cX4_fair 1 = .ok (.iload_n 1, 1) := dk_27 (dk_at dksX4_fair_0 1 rfl rfl)
theorem dX4_fair_2 : decode cX4_fair 2 = .ok (.invokevirtual 286, 3) := dk_182 1 30 (dk_at dksX4_fair_0 2 rfl rfl)
theorem dX4_fair_5 : decode cX4_fair 5 = .ok (.ifCond .eq 28, 3) := dk_153 0 28 (dk_at dksX4_fair_0 5 rfl rfl)
theorem dX4_fair_8 : decode cX4_fair 8 = .ok (.aload_n 0, 1) := dk_42 (dk_at dksX4_fair_0 8 rfl rfl)
theorem dX4_fair_9 : decode cX4_fair 9 = .ok (.iload_n 2, 1) := dk_28 (dk_at dksX4_fair_0 9 rfl rfl)
theorem dX4_fair_10 : decode cX4_fair 10 = .ok (.invokevirtual 145, 3) := dk_182 0 145 (dk_at dksX4_fair_0 10 rfl rfl)
theorem dX4_fair_13 : decode cX4_fair 13 = .ok (.ifCond .eq 20, 3) := dk_153 0 20 (dk_at dksX4_fair_0 13 rfl rfl)
theorem dX4_fair_16 : decode cX4_fair 16 = .ok (.aload_n 0, 1) := dk_42 (dk_at dksX4_fair_0 16 rfl rfl)
theorem dX4_fair_17 : decode cX4_fair 17 = .ok (.iload_n 1, 1) := dk_27 (dk_at dksX4_fair_0 17 rfl rfl)
theorem dX4_fair_18 : decode cX4_fair 18 = .ok (.iload_n 2, 1) := dk_28 (dk_at dksX4_fair_0 18 rfl rfl)
theorem dX4_fair_19 : decode cX4_fair 19 = .ok (.invokevirtual 295, 3) := dk_182 1 39 (dk_at dksX4_fair_0 19 rfl rfl)
theorem dX4_fair_22 : decode cX4_fair 22 = .ok (.ifCond .eq 7, 3) := dk_153 0 7 (dk_at dksX4_fair_1 0 rfl rfl)
theorem dX4_fair_25 : decode cX4_fair 25 = .ok (.iconst 1, 1) := dk_4 (dk_at dksX4_fair_1 3 rfl rfl)
theorem dX4_fair_26 : decode cX4_fair 26 = .ok (.goto 8, 3) := dk_167 0 8 (dk_at dksX4_fair_1 4 rfl rfl)
theorem dX4_fair_29 : decode cX4_fair 29 = .ok (.iconst 0, 1) := dk_3 (dk_at dksX4_fair_1 7 rfl rfl)
theorem dX4_fair_30 : decode cX4_fair 30 = .ok (.goto 4, 3) := dk_167 0 4 (dk_at dksX4_fair_1 8 rfl rfl)
theorem dX4_fair_33 : decode cX4_fair 33 = .ok (.iconst (-1), 1) := dk_2 (dk_at dksX4_fair_1 11 rfl rfl)
theorem dX4_fair_34 : decode cX4_fair 34 = .ok (.ireturn, 1) := dk_172 (dk_at dksX4_fair_1 12 rfl rfl)
abbrev cX4_isFair : ByteArray := prog_24_method_81_code
def yX4_isFair : MethodName := ⟨RX4, "isFair", "(II)Z"⟩
def dkwX4_isFair_3 : List UInt8 := [167, 0, 4, 3, 172]
abbrev dktX4_isFair_3 : List UInt8 := dkwX4_isFair_3 ++ []
def dkwX4_isFair_2 : List UInt8 := [180, 0, 55, 21, 4, 51, 153, 0, 5, 4, 172, 132, 4, 1, 167, 255, 216, 29, 154, 0, 7, 4]
abbrev dktX4_isFair_2 : List UInt8 := dkwX4_isFair_2 ++ dktX4_isFair_3
def dkwX4_isFair_1 : List UInt8 := [180, 1, 11, 162, 0, 37, 42, 180, 0, 52, 21, 4, 46, 8, 159, 0, 6, 167, 0, 17, 4, 62, 42]
abbrev dktX4_isFair_1 : List UInt8 := dkwX4_isFair_1 ++ dktX4_isFair_2
def dkwX4_isFair_0 : List UInt8 := [42, 42, 28, 182, 0, 133, 182, 1, 21, 42, 27, 182, 1, 14, 3, 62, 3, 54, 4, 21, 4, 42]
abbrev dktX4_isFair_0 : List UInt8 := dkwX4_isFair_0 ++ dktX4_isFair_1
theorem dksX4_isFair_0 : cX4_isFair.data.toList.drop 0 = dktX4_isFair_0 := by decide +kernel
theorem dksX4_isFair_1 : cX4_isFair.data.toList.drop 22 = dktX4_isFair_1 := dk_seg dksX4_isFair_0 22 rfl rfl
theorem dksX4_isFair_2 : cX4_isFair.data.toList.drop 45 = dktX4_isFair_2 := dk_seg dksX4_isFair_1 23 rfl rfl
theorem dksX4_isFair_3 : cX4_isFair.data.toList.drop 67 = dktX4_isFair_3 := dk_seg dksX4_isFair_2 22 rfl rfl
theorem dX4_isFair_0 : decode cX4_isFair 0 = .ok (.aload_n 0, 1) := dk_42 (dk_at dksX4_isFair_0 0 rfl rfl)
theorem dX4_isFair_1 : decode cX4_isFair 1 = .ok (.aload_n 0, 1) := dk_42 (dk_at dksX4_isFair_0 1 rfl rfl)
theorem dX4_isFair_2 : decode cX4_isFair 2 = .ok (.iload_n 2, 1) := dk_28 (dk_at dksX4_isFair_0 2 rfl rfl)
theorem dX4_isFair_3 : decode cX4_isFair 3 = .ok (.invokevirtual 133, 3) := dk_182 0 133 (dk_at dksX4_isFair_0 3 rfl rfl)
theorem dX4_isFair_6 : decode cX4_isFair 6 = .ok (.invokevirtual 277, 3) := dk_182 1 21 (dk_at dksX4_isFair_0 6 rfl rfl)
theorem dX4_isFair_9 : decode cX4_isFair 9 = .ok (.aload_n 0, 1) := dk_42 (dk_at dksX4_isFair_0 9 rfl rfl)
theorem dX4_isFair_10 : decode cX4_isFair 10 = .ok (.iload_n 1, 1) := dk_27 (dk_at dksX4_isFair_0 10 rfl rfl)
theorem dX4_isFair_11 : decode cX4_isFair 11 = .ok (.invokevirtual 270, 3) := dk_182 1 14 (dk_at dksX4_isFair_0 11 rfl rfl)
theorem dX4_isFair_14 : decode cX4_isFair 14 = .ok (.iconst 0, 1) := dk_3 (dk_at dksX4_isFair_0 14 rfl rfl)
theorem dX4_isFair_15 : decode cX4_isFair 15 = .ok (.istore_n 3, 1) := dk_62 (dk_at dksX4_isFair_0 15 rfl rfl)
theorem dX4_isFair_16 : decode cX4_isFair 16 = .ok (.iconst 0, 1) := dk_3 (dk_at dksX4_isFair_0 16 rfl rfl)
theorem dX4_isFair_17 : decode cX4_isFair 17 = .ok (.istore 4, 2) := dk_54 4 (dk_at dksX4_isFair_0 17 rfl rfl)
theorem dX4_isFair_19 : decode cX4_isFair 19 = .ok (.iload 4, 2) := dk_21 4 (dk_at dksX4_isFair_0 19 rfl rfl)
theorem dX4_isFair_21 : decode cX4_isFair 21 = .ok (.aload_n 0, 1) := dk_42 (dk_at dksX4_isFair_0 21 rfl rfl)
theorem dX4_isFair_22 : decode cX4_isFair 22 = .ok (.getfield 267, 3) := dk_180 1 11 (dk_at dksX4_isFair_1 0 rfl rfl)
theorem dX4_isFair_25 : decode cX4_isFair 25 = .ok (.if_icmp .ge 37, 3) := dk_162 0 37 (dk_at dksX4_isFair_1 3 rfl rfl)
theorem dX4_isFair_28 : decode cX4_isFair 28 = .ok (.aload_n 0, 1) := dk_42 (dk_at dksX4_isFair_1 6 rfl rfl)
theorem dX4_isFair_29 : decode cX4_isFair 29 = .ok (.getfield 52, 3) := dk_180 0 52 (dk_at dksX4_isFair_1 7 rfl rfl)
theorem dX4_isFair_32 : decode cX4_isFair 32 = .ok (.iload 4, 2) := dk_21 4 (dk_at dksX4_isFair_1 10 rfl rfl)
theorem dX4_isFair_34 : decode cX4_isFair 34 = .ok (.iaload, 1) := dk_46 (dk_at dksX4_isFair_1 12 rfl rfl)
theorem dX4_isFair_35 : decode cX4_isFair 35 = .ok (.iconst 5, 1) := dk_8 (dk_at dksX4_isFair_1 13 rfl rfl)
theorem dX4_isFair_36 : decode cX4_isFair 36 = .ok (.if_icmp .eq 6, 3) := dk_159 0 6 (dk_at dksX4_isFair_1 14 rfl rfl)
theorem dX4_isFair_39 : decode cX4_isFair 39 = .ok (.goto 17, 3) := dk_167 0 17 (dk_at dksX4_isFair_1 17 rfl rfl)
theorem dX4_isFair_42 : decode cX4_isFair 42 = .ok (.iconst 1, 1) := dk_4 (dk_at dksX4_isFair_1 20 rfl rfl)
theorem dX4_isFair_43 : decode cX4_isFair 43 = .ok (.istore_n 3, 1) := dk_62 (dk_at dksX4_isFair_1 21 rfl rfl)
theorem dX4_isFair_44 : decode cX4_isFair 44 = .ok (.aload_n 0, 1) := dk_42 (dk_at dksX4_isFair_1 22 rfl rfl)
theorem dX4_isFair_45 : decode cX4_isFair 45 = .ok (.getfield 55, 3) := dk_180 0 55 (dk_at dksX4_isFair_2 0 rfl rfl)
theorem dX4_isFair_48 : decode cX4_isFair 48 = .ok (.iload 4, 2) := dk_21 4 (dk_at dksX4_isFair_2 3 rfl rfl)
theorem dX4_isFair_50 : decode cX4_isFair 50 = .ok (.baload, 1) := dk_51 (dk_at dksX4_isFair_2 5 rfl rfl)
theorem dX4_isFair_51 : decode cX4_isFair 51 = .ok (.ifCond .eq 5, 3) := dk_153 0 5 (dk_at dksX4_isFair_2 6 rfl rfl)
theorem dX4_isFair_54 : decode cX4_isFair 54 = .ok (.iconst 1, 1) := dk_4 (dk_at dksX4_isFair_2 9 rfl rfl)
theorem dX4_isFair_55 : decode cX4_isFair 55 = .ok (.ireturn, 1) := dk_172 (dk_at dksX4_isFair_2 10 rfl rfl)
theorem dX4_isFair_56 : decode cX4_isFair 56 = .ok (.iinc 4 1, 3) := dk_132 4 1 (dk_at dksX4_isFair_2 11 rfl rfl)
theorem dX4_isFair_59 : decode cX4_isFair 59 = .ok (.goto (-40), 3) := dk_167 255 216 (dk_at dksX4_isFair_2 14 rfl rfl)
theorem dX4_isFair_62 : decode cX4_isFair 62 = .ok (.iload_n 3, 1) := dk_29 (dk_at dksX4_isFair_2 17 rfl rfl)
theorem dX4_isFair_63 : decode cX4_isFair 63 = .ok (.ifCond .ne 7, 3) := dk_154 0 7 (dk_at dksX4_isFair_2 18 rfl rfl)
theorem dX4_isFair_66 : decode cX4_isFair 66 = .ok (.iconst 1, 1) := dk_4 (dk_at dksX4_isFair_2 21 rfl rfl)
theorem dX4_isFair_67 : decode cX4_isFair 67 = .ok (.goto 4, 3) := dk_167 0 4 (dk_at dksX4_isFair_3 0 rfl rfl)
theorem dX4_isFair_70 : decode cX4_isFair 70 = .ok (.iconst 0, 1) := dk_3 (dk_at dksX4_isFair_3 3 rfl rfl)
theorem dX4_isFair_71 : decode cX4_isFair 71 = .ok (.ireturn, 1) := dk_172 (dk_at dksX4_isFair_3 4 rfl rfl)
abbrev cX4_outBy : ByteArray := prog_24_method_83_code
def yX4_outBy : MethodName := ⟨RX4, "outBy", "(II)I"⟩
def dkwX4_outBy_3 : List UInt8 := [167, 0, 4, 2, 172]
abbrev dktX4_outBy_3 : List UInt8 := dkwX4_outBy_3 ++ []
def dkwX4_outBy_2 : List UInt8 := [28, 160, 0, 6, 21, 4, 172, 132, 3, 1, 132, 4, 1, 167, 255, 216, 28, 2, 160, 0, 7, 29]
abbrev dktX4_outBy_2 : List UInt8 := dkwX4_outBy_2 ++ dktX4_outBy_3
def dkwX4_outBy_1 : List UInt8 := [180, 0, 17, 17, 6, 218, 46, 162, 0, 33, 42, 27, 21, 4, 182, 1, 33, 153, 0, 6, 167, 0, 14, 29]
abbrev dktX4_outBy_1 : List UInt8 := dkwX4_outBy_1 ++ dktX4_outBy_2
def dkwX4_outBy_0 : List UInt8 := [42, 27, 182, 1, 30, 153, 0, 8, 28, 2, 162, 0, 5, 2, 172, 3, 62, 3, 54, 4, 21, 4, 42]
abbrev dktX4_outBy_0 : List UInt8 := dkwX4_outBy_0 ++ dktX4_outBy_1
theorem dksX4_outBy_0 : cX4_outBy.data.toList.drop 0 = dktX4_outBy_0 := by decide +kernel
theorem dksX4_outBy_1 : cX4_outBy.data.toList.drop 23 = dktX4_outBy_1 := dk_seg dksX4_outBy_0 23 rfl rfl
theorem dksX4_outBy_2 : cX4_outBy.data.toList.drop 47 = dktX4_outBy_2 := dk_seg dksX4_outBy_1 24 rfl rfl
theorem dksX4_outBy_3 : cX4_outBy.data.toList.drop 69 = dktX4_outBy_3 := dk_seg dksX4_outBy_2 22 rfl rfl
theorem dX4_outBy_0 : decode cX4_outBy 0 = .ok (.aload_n 0, 1) := dk_42 (dk_at dksX4_outBy_0 0 rfl rfl)
theorem dX4_outBy_1 : decode cX4_outBy 1 = .ok (.iload_n 1, 1) := dk_27 (dk_at dksX4_outBy_0 1 rfl rfl)
theorem dX4_outBy_2 : decode cX4_outBy 2 = .ok (.invokevirtual 286, 3) := dk_182 1 30 (dk_at dksX4_outBy_0 2 rfl rfl)
theorem dX4_outBy_5 : decode cX4_outBy 5 = .ok (.ifCond .eq 8, 3) := dk_153 0 8 (dk_at dksX4_outBy_0 5 rfl rfl)
theorem dX4_outBy_8 : decode cX4_outBy 8 = .ok (.iload_n 2, 1) := dk_28 (dk_at dksX4_outBy_0 8 rfl rfl)
theorem dX4_outBy_9 : decode cX4_outBy 9 = .ok (.iconst (-1), 1) := dk_2 (dk_at dksX4_outBy_0 9 rfl rfl)
theorem dX4_outBy_10 : decode cX4_outBy 10 = .ok (.if_icmp .ge 5, 3) := dk_162 0 5 (dk_at dksX4_outBy_0 10 rfl rfl)
theorem dX4_outBy_13 : decode cX4_outBy 13 = .ok (.iconst (-1), 1) := dk_2 (dk_at dksX4_outBy_0 13 rfl rfl)
theorem dX4_outBy_14 : decode cX4_outBy 14 = .ok (.ireturn, 1) := dk_172 (dk_at dksX4_outBy_0 14 rfl rfl)
theorem dX4_outBy_15 : decode cX4_outBy 15 = .ok (.iconst 0, 1) := dk_3 (dk_at dksX4_outBy_0 15 rfl rfl)
theorem dX4_outBy_16 : decode cX4_outBy 16 = .ok (.istore_n 3, 1) := dk_62 (dk_at dksX4_outBy_0 16 rfl rfl)
theorem dX4_outBy_17 : decode cX4_outBy 17 = .ok (.iconst 0, 1) := dk_3 (dk_at dksX4_outBy_0 17 rfl rfl)
theorem dX4_outBy_18 : decode cX4_outBy 18 = .ok (.istore 4, 2) := dk_54 4 (dk_at dksX4_outBy_0 18 rfl rfl)
theorem dX4_outBy_20 : decode cX4_outBy 20 = .ok (.iload 4, 2) := dk_21 4 (dk_at dksX4_outBy_0 20 rfl rfl)
theorem dX4_outBy_22 : decode cX4_outBy 22 = .ok (.aload_n 0, 1) := dk_42 (dk_at dksX4_outBy_0 22 rfl rfl)
theorem dX4_outBy_23 : decode cX4_outBy 23 = .ok (.getfield 17, 3) := dk_180 0 17 (dk_at dksX4_outBy_1 0 rfl rfl)
theorem dX4_outBy_26 : decode cX4_outBy 26 = .ok (.sipush 1754, 3) := dk_17 6 218 (dk_at dksX4_outBy_1 3 rfl rfl)
theorem dX4_outBy_29 : decode cX4_outBy 29 = .ok (.iaload, 1) := dk_46 (dk_at dksX4_outBy_1 6 rfl rfl)
theorem dX4_outBy_30 : decode cX4_outBy 30 = .ok (.if_icmp .ge 33, 3) := dk_162 0 33 (dk_at dksX4_outBy_1 7 rfl rfl)
theorem dX4_outBy_33 : decode cX4_outBy 33 = .ok (.aload_n 0, 1) := dk_42 (dk_at dksX4_outBy_1 10 rfl rfl)
theorem dX4_outBy_34 : decode cX4_outBy 34 = .ok (.iload_n 1, 1) := dk_27 (dk_at dksX4_outBy_1 11 rfl rfl)
theorem dX4_outBy_35 : decode cX4_outBy 35 = .ok (.iload 4, 2) := dk_21 4 (dk_at dksX4_outBy_1 12 rfl rfl)
theorem dX4_outBy_37 : decode cX4_outBy 37 = .ok (.invokevirtual 289, 3) := dk_182 1 33 (dk_at dksX4_outBy_1 14 rfl rfl)
theorem dX4_outBy_40 : decode cX4_outBy 40 = .ok (.ifCond .eq 6, 3) := dk_153 0 6 (dk_at dksX4_outBy_1 17 rfl rfl)
theorem dX4_outBy_43 : decode cX4_outBy 43 = .ok (.goto 14, 3) := dk_167 0 14 (dk_at dksX4_outBy_1 20 rfl rfl)
theorem dX4_outBy_46 : decode cX4_outBy 46 = .ok (.iload_n 3, 1) := dk_29 (dk_at dksX4_outBy_1 23 rfl rfl)
theorem dX4_outBy_47 : decode cX4_outBy 47 = .ok (.iload_n 2, 1) := dk_28 (dk_at dksX4_outBy_2 0 rfl rfl)
theorem dX4_outBy_48 : decode cX4_outBy 48 = .ok (.if_icmp .ne 6, 3) := dk_160 0 6 (dk_at dksX4_outBy_2 1 rfl rfl)
theorem dX4_outBy_51 : decode cX4_outBy 51 = .ok (.iload 4, 2) := dk_21 4 (dk_at dksX4_outBy_2 4 rfl rfl)
theorem dX4_outBy_53 : decode cX4_outBy 53 = .ok (.ireturn, 1) := dk_172 (dk_at dksX4_outBy_2 6 rfl rfl)
theorem dX4_outBy_54 : decode cX4_outBy 54 = .ok (.iinc 3 1, 3) := dk_132 3 1 (dk_at dksX4_outBy_2 7 rfl rfl)
theorem dX4_outBy_57 : decode cX4_outBy 57 = .ok (.iinc 4 1, 3) := dk_132 4 1 (dk_at dksX4_outBy_2 10 rfl rfl)
theorem dX4_outBy_60 : decode cX4_outBy 60 = .ok (.goto (-40), 3) := dk_167 255 216 (dk_at dksX4_outBy_2 13 rfl rfl)
theorem dX4_outBy_63 : decode cX4_outBy 63 = .ok (.iload_n 2, 1) := dk_28 (dk_at dksX4_outBy_2 16 rfl rfl)
theorem dX4_outBy_64 : decode cX4_outBy 64 = .ok (.iconst (-1), 1) := dk_2 (dk_at dksX4_outBy_2 17 rfl rfl)
theorem dX4_outBy_65 : decode cX4_outBy 65 = .ok (.if_icmp .ne 7, 3) := dk_160 0 7 (dk_at dksX4_outBy_2 18 rfl rfl)
theorem dX4_outBy_68 : decode cX4_outBy 68 = .ok (.iload_n 3, 1) := dk_29 (dk_at dksX4_outBy_2 21 rfl rfl)
theorem dX4_outBy_69 : decode cX4_outBy 69 = .ok (.goto 4, 3) := dk_167 0 4 (dk_at dksX4_outBy_3 0 rfl rfl)
theorem dX4_outBy_72 : decode cX4_outBy 72 = .ok (.iconst (-1), 1) := dk_2 (dk_at dksX4_outBy_3 3 rfl rfl)
theorem dX4_outBy_73 : decode cX4_outBy 73 = .ok (.ireturn, 1) := dk_172 (dk_at dksX4_outBy_3 4 rfl rfl)
abbrev cX4_worth : ByteArray := prog_24_method_86_code
def yX4_worth : MethodName := ⟨RX4, "worth", "(IIII)J"⟩
def dkwX4_worth_4 : List UInt8 := [22, 5, 22, 7, 21, 4, 184, 1, 50, 173]
abbrev dktX4_worth_4 : List UInt8 := dkwX4_worth_4 ++ []
def dkwX4_worth_3 : List UInt8 := [21, 9, 182, 1, 33, 133, 105, 55, 5, 22, 7, 20, 1, 48, 105, 55, 7, 132, 9, 1, 167, 255, 226]
abbrev dktX4_worth_3 : List UInt8 := dkwX4_worth_3 ++ dktX4_worth_4
def dkwX4_worth_2 : List UInt8 := [20, 1, 46, 173, 10, 55, 5, 10, 55, 7, 28, 54, 9, 21, 9, 29, 163, 0, 30, 22, 5, 42, 27]
abbrev dktX4_worth_2 : List UInt8 := dkwX4_worth_2 ++ dktX4_worth_3
def dkwX4_worth_1 : List UInt8 := [29, 28, 161, 0, 21, 29, 28, 100, 16, 8, 163, 0, 13, 21, 4, 3, 4, 184, 0, 74, 154, 0, 7]
abbrev dktX4_worth_1 : List UInt8 := dkwX4_worth_1 ++ dktX4_worth_2
def dkwX4_worth_0 : List UInt8 := [42, 27, 182, 1, 30, 153, 0, 42, 42, 28, 182, 0, 142, 153, 0, 34, 42, 29, 182, 0, 142, 153, 0, 26]
abbrev dktX4_worth_0 : List UInt8 := dkwX4_worth_0 ++ dktX4_worth_1
theorem dksX4_worth_0 : cX4_worth.data.toList.drop 0 = dktX4_worth_0 := by decide +kernel
theorem dksX4_worth_1 : cX4_worth.data.toList.drop 24 = dktX4_worth_1 := dk_seg dksX4_worth_0 24 rfl rfl
theorem dksX4_worth_2 : cX4_worth.data.toList.drop 47 = dktX4_worth_2 := dk_seg dksX4_worth_1 23 rfl rfl
theorem dksX4_worth_3 : cX4_worth.data.toList.drop 70 = dktX4_worth_3 := dk_seg dksX4_worth_2 23 rfl rfl
theorem dksX4_worth_4 : cX4_worth.data.toList.drop 93 = dktX4_worth_4 := dk_seg dksX4_worth_3 23 rfl rfl
theorem dX4_worth_0 : decode cX4_worth 0 = .ok (.aload_n 0, 1) := dk_42 (dk_at dksX4_worth_0 0 rfl rfl)
theorem dX4_worth_1 : decode cX4_worth 1 = .ok (.iload_n 1, 1) := dk_27 (dk_at dksX4_worth_0 1 rfl rfl)
theorem dX4_worth_2 : decode cX4_worth 2 = .ok (.invokevirtual 286, 3) := dk_182 1 30 (dk_at dksX4_worth_0 2 rfl rfl)
theorem dX4_worth_5 : decode cX4_worth 5 = .ok (.ifCond .eq 42, 3) := dk_153 0 42 (dk_at dksX4_worth_0 5 rfl rfl)
theorem dX4_worth_8 : decode cX4_worth 8 = .ok (.aload_n 0, 1) := dk_42 (dk_at dksX4_worth_0 8 rfl rfl)
theorem dX4_worth_9 : decode cX4_worth 9 = .ok (.iload_n 2, 1) := dk_28 (dk_at dksX4_worth_0 9 rfl rfl)
theorem dX4_worth_10 : decode cX4_worth 10 = .ok (.invokevirtual 142, 3) := dk_182 0 142 (dk_at dksX4_worth_0 10 rfl rfl)
theorem dX4_worth_13 : decode cX4_worth 13 = .ok (.ifCond .eq 34, 3) := dk_153 0 34 (dk_at dksX4_worth_0 13 rfl rfl)
theorem dX4_worth_16 : decode cX4_worth 16 = .ok (.aload_n 0, 1) := dk_42 (dk_at dksX4_worth_0 16 rfl rfl)
theorem dX4_worth_17 : decode cX4_worth 17 = .ok (.iload_n 3, 1) := dk_29 (dk_at dksX4_worth_0 17 rfl rfl)
theorem dX4_worth_18 : decode cX4_worth 18 = .ok (.invokevirtual 142, 3) := dk_182 0 142 (dk_at dksX4_worth_0 18 rfl rfl)
theorem dX4_worth_21 : decode cX4_worth 21 = .ok (.ifCond .eq 26, 3) := dk_153 0 26 (dk_at dksX4_worth_0 21 rfl rfl)
theorem dX4_worth_24 : decode cX4_worth 24 = .ok (.iload_n 3, 1) := dk_29 (dk_at dksX4_worth_1 0 rfl rfl)
theorem dX4_worth_25 : decode cX4_worth 25 = .ok (.iload_n 2, 1) := dk_28 (dk_at dksX4_worth_1 1 rfl rfl)
theorem dX4_worth_26 : decode cX4_worth 26 = .ok (.if_icmp .lt 21, 3) := dk_161 0 21 (dk_at dksX4_worth_1 2 rfl rfl)
theorem dX4_worth_29 : decode cX4_worth 29 = .ok (.iload_n 3, 1) := dk_29 (dk_at dksX4_worth_1 5 rfl rfl)
theorem dX4_worth_30 : decode cX4_worth 30 = .ok (.iload_n 2, 1) := dk_28 (dk_at dksX4_worth_1 6 rfl rfl)
theorem dX4_worth_31 : decode cX4_worth 31 = .ok (.isub, 1) := dk_100 (dk_at dksX4_worth_1 7 rfl rfl)
theorem dX4_worth_32 : decode cX4_worth 32 = .ok (.bipush 8, 2) := dk_16 8 (dk_at dksX4_worth_1 8 rfl rfl)
theorem dX4_worth_34 : decode cX4_worth 34 = .ok (.if_icmp .gt 13, 3) := dk_163 0 13 (dk_at dksX4_worth_1 10 rfl rfl)
theorem dX4_worth_37 : decode cX4_worth 37 = .ok (.iload 4, 2) := dk_21 4 (dk_at dksX4_worth_1 13 rfl rfl)
theorem dX4_worth_39 : decode cX4_worth 39 = .ok (.iconst 0, 1) := dk_3 (dk_at dksX4_worth_1 15 rfl rfl)
theorem dX4_worth_40 : decode cX4_worth 40 = .ok (.iconst 1, 1) := dk_4 (dk_at dksX4_worth_1 16 rfl rfl)
theorem dX4_worth_41 : decode cX4_worth 41 = .ok (.invokestatic 74, 3) := dk_184 0 74 (dk_at dksX4_worth_1 17 rfl rfl)
theorem dX4_worth_44 : decode cX4_worth 44 = .ok (.ifCond .ne 7, 3) := dk_154 0 7 (dk_at dksX4_worth_1 20 rfl rfl)
theorem dX4_worth_47 : decode cX4_worth 47 = .ok (.ldc2_w 302, 3) := dk_20 1 46 (dk_at dksX4_worth_2 0 rfl rfl)
theorem dX4_worth_50 : decode cX4_worth 50 = .ok (.lreturn, 1) := dk_173 (dk_at dksX4_worth_2 3 rfl rfl)
theorem dX4_worth_51 : decode cX4_worth 51 = .ok (.lconst 1, 1) := dk_10 (dk_at dksX4_worth_2 4 rfl rfl)
theorem dX4_worth_52 : decode cX4_worth 52 = .ok (.lstore 5, 2) := dk_55 5 (dk_at dksX4_worth_2 5 rfl rfl)
theorem dX4_worth_54 : decode cX4_worth 54 = .ok (.lconst 1, 1) := dk_10 (dk_at dksX4_worth_2 7 rfl rfl)
theorem dX4_worth_55 : decode cX4_worth 55 = .ok (.lstore 7, 2) := dk_55 7 (dk_at dksX4_worth_2 8 rfl rfl)
theorem dX4_worth_57 : decode cX4_worth 57 = .ok (.iload_n 2, 1) := dk_28 (dk_at dksX4_worth_2 10 rfl rfl)
theorem dX4_worth_58 : decode cX4_worth 58 = .ok (.istore 9, 2) := dk_54 9 (dk_at dksX4_worth_2 11 rfl rfl)
theorem dX4_worth_60 : decode cX4_worth 60 = .ok (.iload 9, 2) := dk_21 9 (dk_at dksX4_worth_2 13 rfl rfl)
theorem dX4_worth_62 : decode cX4_worth 62 = .ok (.iload_n 3, 1) := dk_29 (dk_at dksX4_worth_2 15 rfl rfl)
theorem dX4_worth_63 : decode cX4_worth 63 = .ok (.if_icmp .gt 30, 3) := dk_163 0 30 (dk_at dksX4_worth_2 16 rfl rfl)
theorem dX4_worth_66 : decode cX4_worth 66 = .ok (.lload 5, 2) := dk_22 5 (dk_at dksX4_worth_2 19 rfl rfl)
theorem dX4_worth_68 : decode cX4_worth 68 = .ok (.aload_n 0, 1) := dk_42 (dk_at dksX4_worth_2 21 rfl rfl)
theorem dX4_worth_69 : decode cX4_worth 69 = .ok (.iload_n 1, 1) := dk_27 (dk_at dksX4_worth_2 22 rfl rfl)
theorem dX4_worth_70 : decode cX4_worth 70 = .ok (.iload 9, 2) := dk_21 9 (dk_at dksX4_worth_3 0 rfl rfl)
theorem dX4_worth_72 : decode cX4_worth 72 = .ok (.invokevirtual 289, 3) := dk_182 1 33 (dk_at dksX4_worth_3 2 rfl rfl)
theorem dX4_worth_75 : decode cX4_worth 75 = .ok (.i2l, 1) := dk_133 (dk_at dksX4_worth_3 5 rfl rfl)
theorem dX4_worth_76 : decode cX4_worth 76 = .ok (.lmul, 1) := dk_105 (dk_at dksX4_worth_3 6 rfl rfl)
theorem dX4_worth_77 : decode cX4_worth 77 = .ok (.lstore 5, 2) := dk_55 5 (dk_at dksX4_worth_3 7 rfl rfl)
theorem dX4_worth_79 : decode cX4_worth 79 = .ok (.lload 7, 2) := dk_22 7 (dk_at dksX4_worth_3 9 rfl rfl)
theorem dX4_worth_81 : decode cX4_worth 81 = .ok (.ldc2_w 304, 3) := dk_20 1 48 (dk_at dksX4_worth_3 11 rfl rfl)
theorem dX4_worth_84 : decode cX4_worth 84 = .ok (.lmul, 1) := dk_105 (dk_at dksX4_worth_3 14 rfl rfl)
theorem dX4_worth_85 : decode cX4_worth 85 = .ok (.lstore 7, 2) := dk_55 7 (dk_at dksX4_worth_3 15 rfl rfl)
theorem dX4_worth_87 : decode cX4_worth 87 = .ok (.iinc 9 1, 3) := dk_132 9 1 (dk_at dksX4_worth_3 17 rfl rfl)
theorem dX4_worth_90 : decode cX4_worth 90 = .ok (.goto (-30), 3) := dk_167 255 226 (dk_at dksX4_worth_3 20 rfl rfl)
theorem dX4_worth_93 : decode cX4_worth 93 = .ok (.lload 5, 2) := dk_22 5 (dk_at dksX4_worth_4 0 rfl rfl)
theorem dX4_worth_95 : decode cX4_worth 95 = .ok (.lload 7, 2) := dk_22 7 (dk_at dksX4_worth_4 2 rfl rfl)
theorem dX4_worth_97 : decode cX4_worth 97 = .ok (.iload 4, 2) := dk_21 4 (dk_at dksX4_worth_4 4 rfl rfl)
theorem dX4_worth_99 : decode cX4_worth 99 = .ok (.invokestatic 306, 3) := dk_184 1 50 (dk_at dksX4_worth_4 6 rfl rfl)
theorem dX4_worth_102 : decode cX4_worth 102 = .ok (.lreturn, 1) := dk_173 (dk_at dksX4_worth_4 9 rfl rfl)
abbrev cX4_part : ByteArray := prog_24_method_85_code
def yX4_part : MethodName := ⟨RX4, "part", "(JJI)J"⟩
def dkwX4_part_0 : List UInt8 := [30, 32, 184, 1, 42, 55, 5, 21, 4, 154, 0, 10, 30, 22, 5, 109, 167, 0, 7, 32, 22, 5, 109, 173]
abbrev dktX4_part_0 : List UInt8 := dkwX4_part_0 ++ []
theorem dksX4_part_0 : cX4_part.data.toList.drop 0 = dktX4_part_0 := by decide +kernel
theorem dX4_part_0 : decode cX4_part 0 = .ok (.lload_n 0, 1) := dk_30 (dk_at dksX4_part_0 0 rfl rfl)
theorem dX4_part_1 : decode cX4_part 1 = .ok (.lload_n 2, 1) := dk_32 (dk_at dksX4_part_0 1 rfl rfl)
theorem dX4_part_2 : decode cX4_part 2 = .ok (.invokestatic 298, 3) := dk_184 1 42 (dk_at dksX4_part_0 2 rfl rfl)
theorem dX4_part_5 : decode cX4_part 5 = .ok (.lstore 5, 2) := dk_55 5 (dk_at dksX4_part_0 5 rfl rfl)
theorem dX4_part_7 : decode cX4_part 7 = .ok (.iload 4, 2) := dk_21 4 (dk_at dksX4_part_0 7 rfl rfl)
theorem dX4_part_9 : decode cX4_part 9 = .ok (.ifCond .ne 10, 3) := dk_154 0 10 (dk_at dksX4_part_0 9 rfl rfl)
theorem dX4_part_12 : decode cX4_part 12 = .ok (.lload_n 0, 1) := dk_30 (dk_at dksX4_part_0 12 rfl rfl)
theorem dX4_part_13 : decode cX4_part 13 = .ok (.lload 5, 2) := dk_22 5 (dk_at dksX4_part_0 13 rfl rfl)
theorem dX4_part_15 : decode cX4_part 15 = .ok (.ldiv, 1) := dk_109 (dk_at dksX4_part_0 15 rfl rfl)
theorem dX4_part_16 : decode cX4_part 16 = .ok (.goto 7, 3) := dk_167 0 7 (dk_at dksX4_part_0 16 rfl rfl)
theorem dX4_part_19 : decode cX4_part 19 = .ok (.lload_n 2, 1) := dk_32 (dk_at dksX4_part_0 19 rfl rfl)
theorem dX4_part_20 : decode cX4_part 20 = .ok (.lload 5, 2) := dk_22 5 (dk_at dksX4_part_0 20 rfl rfl)
theorem dX4_part_22 : decode cX4_part 22 = .ok (.ldiv, 1) := dk_109 (dk_at dksX4_part_0 22 rfl rfl)
theorem dX4_part_23 : decode cX4_part 23 = .ok (.lreturn, 1) := dk_173 (dk_at dksX4_part_0 23 rfl rfl)
abbrev cX4_common : ByteArray := prog_24_method_84_code
def yX4_common : MethodName := ⟨RX4, "common", "(JJ)J"⟩
def dkwX4_common_1 : List UInt8 := [22, 8, 55, 6, 167, 255, 234, 22, 4, 173]
abbrev dktX4_common_1 : List UInt8 := dkwX4_common_1 ++ []
def dkwX4_common_0 : List UInt8 := [30, 55, 4, 32, 55, 6, 22, 6, 9, 148, 153, 0, 21, 22, 4, 22, 6, 113, 55, 8, 22, 6, 55, 4]
abbrev dktX4_common_0 : List UInt8 := dkwX4_common_0 ++ dktX4_common_1
theorem dksX4_common_0 : cX4_common.data.toList.drop 0 = dktX4_common_0 := by decide +kernel
theorem dksX4_common_1 : cX4_common.data.toList.drop 24 = dktX4_common_1 := dk_seg dksX4_common_0 24 rfl rfl
theorem dX4_common_0 : decode cX4_common 0 = .ok (.lload_n 0, 1) := dk_30 (dk_at dksX4_common_0 0 rfl rfl)
theorem dX4_common_1 : decode cX4_common 1 = .ok (.lstore 4, 2) := dk_55 4 (dk_at dksX4_common_0 1 rfl rfl)
theorem dX4_common_3 : decode cX4_common 3 = .ok (.lload_n 2, 1) := dk_32 (dk_at dksX4_common_0 3 rfl rfl)
theorem dX4_common_4 : decode cX4_common 4 = .ok (.lstore 6, 2) := dk_55 6 (dk_at dksX4_common_0 4 rfl rfl)
theorem dX4_common_6 : decode cX4_common 6 = .ok (.lload 6, 2) := dk_22 6 (dk_at dksX4_common_0 6 rfl rfl)
theorem dX4_common_8 : decode cX4_common 8 = .ok (.lconst 0, 1) := dk_9 (dk_at dksX4_common_0 8 rfl rfl)
theorem dX4_common_9 : decode cX4_common 9 = .ok (.lcmp, 1) := dk_148 (dk_at dksX4_common_0 9 rfl rfl)
theorem dX4_common_10 : decode cX4_common 10 = .ok (.ifCond .eq 21, 3) := dk_153 0 21 (dk_at dksX4_common_0 10 rfl rfl)
theorem dX4_common_13 : decode cX4_common 13 = .ok (.lload 4, 2) := dk_22 4 (dk_at dksX4_common_0 13 rfl rfl)
theorem dX4_common_15 : decode cX4_common 15 = .ok (.lload 6, 2) := dk_22 6 (dk_at dksX4_common_0 15 rfl rfl)
theorem dX4_common_17 : decode cX4_common 17 = .ok (.lrem, 1) := dk_113 (dk_at dksX4_common_0 17 rfl rfl)
theorem dX4_common_18 : decode cX4_common 18 = .ok (.lstore 8, 2) := dk_55 8 (dk_at dksX4_common_0 18 rfl rfl)
theorem dX4_common_20 : decode cX4_common 20 = .ok (.lload 6, 2) := dk_22 6 (dk_at dksX4_common_0 20 rfl rfl)
theorem dX4_common_22 : decode cX4_common 22 = .ok (.lstore 4, 2) := dk_55 4 (dk_at dksX4_common_0 22 rfl rfl)
theorem dX4_common_24 : decode cX4_common 24 = .ok (.lload 8, 2) := dk_22 8 (dk_at dksX4_common_1 0 rfl rfl)
theorem dX4_common_26 : decode cX4_common 26 = .ok (.lstore 6, 2) := dk_55 6 (dk_at dksX4_common_1 2 rfl rfl)
theorem dX4_common_28 : decode cX4_common 28 = .ok (.goto (-22), 3) := dk_167 255 234 (dk_at dksX4_common_1 4 rfl rfl)
theorem dX4_common_31 : decode cX4_common 31 = .ok (.lload 4, 2) := dk_22 4 (dk_at dksX4_common_1 7 rfl rfl)
theorem dX4_common_33 : decode cX4_common 33 = .ok (.lreturn, 1) := dk_173 (dk_at dksX4_common_1 9 rfl rfl)
abbrev cX4_answer : ByteArray := prog_24_method_88_code
def yX4_answer : MethodName := ⟨RX4, "answer", "(II)I"⟩
def dkwX4_answer_1 : List UInt8 := [16, 10, 161, 0, 7, 3, 167, 0, 9, 42, 27, 28, 182, 1, 54, 172]
abbrev dktX4_answer_1 : List UInt8 := dkwX4_answer_1 ++ []
def dkwX4_answer_0 : List UInt8 := [42, 27, 182, 1, 30, 153, 0, 11, 42, 28, 182, 0, 142, 154, 0, 5, 2, 172, 42, 27, 28, 182, 1, 33]
abbrev dktX4_answer_0 : List UInt8 := dkwX4_answer_0 ++ dktX4_answer_1
theorem dksX4_answer_0 : cX4_answer.data.toList.drop 0 = dktX4_answer_0 := by decide +kernel
theorem dksX4_answer_1 : cX4_answer.data.toList.drop 24 = dktX4_answer_1 := dk_seg dksX4_answer_0 24 rfl rfl
theorem dX4_answer_0 : decode cX4_answer 0 = .ok (.aload_n 0, 1) := dk_42 (dk_at dksX4_answer_0 0 rfl rfl)
theorem dX4_answer_1 : decode cX4_answer 1 = .ok (.iload_n 1, 1) := dk_27 (dk_at dksX4_answer_0 1 rfl rfl)
theorem dX4_answer_2 : decode cX4_answer 2 = .ok (.invokevirtual 286, 3) := dk_182 1 30 (dk_at dksX4_answer_0 2 rfl rfl)
theorem dX4_answer_5 : decode cX4_answer 5 = .ok (.ifCond .eq 11, 3) := dk_153 0 11 (dk_at dksX4_answer_0 5 rfl rfl)
theorem dX4_answer_8 : decode cX4_answer 8 = .ok (.aload_n 0, 1) := dk_42 (dk_at dksX4_answer_0 8 rfl rfl)
theorem dX4_answer_9 : decode cX4_answer 9 = .ok (.iload_n 2, 1) := dk_28 (dk_at dksX4_answer_0 9 rfl rfl)
theorem dX4_answer_10 : decode cX4_answer 10 = .ok (.invokevirtual 142, 3) := dk_182 0 142 (dk_at dksX4_answer_0 10 rfl rfl)
theorem dX4_answer_13 : decode cX4_answer 13 = .ok (.ifCond .ne 5, 3) := dk_154 0 5 (dk_at dksX4_answer_0 13 rfl rfl)
theorem dX4_answer_16 : decode cX4_answer 16 = .ok (.iconst (-1), 1) := dk_2 (dk_at dksX4_answer_0 16 rfl rfl)
theorem dX4_answer_17 : decode cX4_answer 17 = .ok (.ireturn, 1) := dk_172 (dk_at dksX4_answer_0 17 rfl rfl)
theorem dX4_answer_18 : decode cX4_answer 18 = .ok (.aload_n 0, 1) := dk_42 (dk_at dksX4_answer_0 18 rfl rfl)
theorem dX4_answer_19 : decode cX4_answer 19 = .ok (.iload_n 1, 1) := dk_27 (dk_at dksX4_answer_0 19 rfl rfl)
theorem dX4_answer_20 : decode cX4_answer 20 = .ok (.iload_n 2, 1) := dk_28 (dk_at dksX4_answer_0 20 rfl rfl)
theorem dX4_answer_21 : decode cX4_answer 21 = .ok (.invokevirtual 289, 3) := dk_182 1 33 (dk_at dksX4_answer_0 21 rfl rfl)
theorem dX4_answer_24 : decode cX4_answer 24 = .ok (.bipush 10, 2) := dk_16 10 (dk_at dksX4_answer_1 0 rfl rfl)
theorem dX4_answer_26 : decode cX4_answer 26 = .ok (.if_icmp .lt 7, 3) := dk_161 0 7 (dk_at dksX4_answer_1 2 rfl rfl)
theorem dX4_answer_29 : decode cX4_answer 29 = .ok (.iconst 0, 1) := dk_3 (dk_at dksX4_answer_1 5 rfl rfl)
theorem dX4_answer_30 : decode cX4_answer 30 = .ok (.goto 9, 3) := dk_167 0 9 (dk_at dksX4_answer_1 6 rfl rfl)
theorem dX4_answer_33 : decode cX4_answer 33 = .ok (.aload_n 0, 1) := dk_42 (dk_at dksX4_answer_1 9 rfl rfl)
theorem dX4_answer_34 : decode cX4_answer 34 = .ok (.iload_n 1, 1) := dk_27 (dk_at dksX4_answer_1 10 rfl rfl)
theorem dX4_answer_35 : decode cX4_answer 35 = .ok (.iload_n 2, 1) := dk_28 (dk_at dksX4_answer_1 11 rfl rfl)
theorem dX4_answer_36 : decode cX4_answer 36 = .ok (.invokevirtual 310, 3) := dk_182 1 54 (dk_at dksX4_answer_1 12 rfl rfl)
theorem dX4_answer_39 : decode cX4_answer 39 = .ok (.ireturn, 1) := dk_172 (dk_at dksX4_answer_1 15 rfl rfl)
abbrev cX4_price : ByteArray := prog_24_method_87_code
def yX4_price : MethodName := ⟨RX4, "price", "(II)I"⟩
def dkwX4_price_3 : List UInt8 := [159, 0, 9, 21, 5, 29, 162, 0, 6, 21, 5, 62, 132, 4, 1, 167, 255, 191, 29, 172]
abbrev dktX4_price_3 : List UInt8 := dkwX4_price_3 ++ []
def dkwX4_price_2 : List UInt8 := [154, 0, 6, 167, 0, 32, 42, 180, 0, 58, 21, 4, 47, 17, 3, 232, 184, 1, 17, 54, 5, 29, 2]
abbrev dktX4_price_2 : List UInt8 := dkwX4_price_2 ++ dktX4_price_3
def dkwX4_price_1 : List UInt8 := [180, 1, 11, 162, 0, 62, 42, 180, 0, 52, 21, 4, 46, 7, 160, 0, 45, 42, 180, 0, 55, 21, 4, 51]
abbrev dktX4_price_1 : List UInt8 := dkwX4_price_1 ++ dktX4_price_2
def dkwX4_price_0 : List UInt8 := [42, 42, 28, 182, 0, 130, 182, 1, 21, 42, 27, 182, 1, 14, 2, 62, 3, 54, 4, 21, 4, 42]
abbrev dktX4_price_0 : List UInt8 := dkwX4_price_0 ++ dktX4_price_1
theorem dksX4_price_0 : cX4_price.data.toList.drop 0 = dktX4_price_0 := by decide +kernel
theorem dksX4_price_1 : cX4_price.data.toList.drop 22 = dktX4_price_1 := dk_seg dksX4_price_0 22 rfl rfl
theorem dksX4_price_2 : cX4_price.data.toList.drop 46 = dktX4_price_2 := dk_seg dksX4_price_1 24 rfl rfl
theorem dksX4_price_3 : cX4_price.data.toList.drop 69 = dktX4_price_3 := dk_seg dksX4_price_2 23 rfl rfl
theorem dX4_price_0 : decode cX4_price 0 = .ok (.aload_n 0, 1) := dk_42 (dk_at dksX4_price_0 0 rfl rfl)
theorem dX4_price_1 : decode cX4_price 1 = .ok (.aload_n 0, 1) := dk_42 (dk_at dksX4_price_0 1 rfl rfl)
theorem dX4_price_2 : decode cX4_price 2 = .ok (.iload_n 2, 1) := dk_28 (dk_at dksX4_price_0 2 rfl rfl)
theorem dX4_price_3 : decode cX4_price 3 = .ok (.invokevirtual 130, 3) := dk_182 0 130 (dk_at dksX4_price_0 3 rfl rfl)
theorem dX4_price_6 : decode cX4_price 6 = .ok (.invokevirtual 277, 3) := dk_182 1 21 (dk_at dksX4_price_0 6 rfl rfl)
theorem dX4_price_9 : decode cX4_price 9 = .ok (.aload_n 0, 1) := dk_42 (dk_at dksX4_price_0 9 rfl rfl)
theorem dX4_price_10 : decode cX4_price 10 = .ok (.iload_n 1, 1) := dk_27 (dk_at dksX4_price_0 10 rfl rfl)
theorem dX4_price_11 : decode cX4_price 11 = .ok (.invokevirtual 270, 3) := dk_182 1 14 (dk_at dksX4_price_0 11 rfl rfl)
theorem dX4_price_14 : decode cX4_price 14 = .ok (.iconst (-1), 1) := dk_2 (dk_at dksX4_price_0 14 rfl rfl)
theorem dX4_price_15 : decode cX4_price 15 = .ok (.istore_n 3, 1) := dk_62 (dk_at dksX4_price_0 15 rfl rfl)
theorem dX4_price_16 : decode cX4_price 16 = .ok (.iconst 0, 1) := dk_3 (dk_at dksX4_price_0 16 rfl rfl)
theorem dX4_price_17 : decode cX4_price 17 = .ok (.istore 4, 2) := dk_54 4 (dk_at dksX4_price_0 17 rfl rfl)
theorem dX4_price_19 : decode cX4_price 19 = .ok (.iload 4, 2) := dk_21 4 (dk_at dksX4_price_0 19 rfl rfl)
theorem dX4_price_21 : decode cX4_price 21 = .ok (.aload_n 0, 1) := dk_42 (dk_at dksX4_price_0 21 rfl rfl)
theorem dX4_price_22 : decode cX4_price 22 = .ok (.getfield 267, 3) := dk_180 1 11 (dk_at dksX4_price_1 0 rfl rfl)
theorem dX4_price_25 : decode cX4_price 25 = .ok (.if_icmp .ge 62, 3) := dk_162 0 62 (dk_at dksX4_price_1 3 rfl rfl)
theorem dX4_price_28 : decode cX4_price 28 = .ok (.aload_n 0, 1) := dk_42 (dk_at dksX4_price_1 6 rfl rfl)
theorem dX4_price_29 : decode cX4_price 29 = .ok (.getfield 52, 3) := dk_180 0 52 (dk_at dksX4_price_1 7 rfl rfl)
theorem dX4_price_32 : decode cX4_price 32 = .ok (.iload 4, 2) := dk_21 4 (dk_at dksX4_price_1 10 rfl rfl)
theorem dX4_price_34 : decode cX4_price 34 = .ok (.iaload, 1) := dk_46 (dk_at dksX4_price_1 12 rfl rfl)
theorem dX4_price_35 : decode cX4_price 35 = .ok (.iconst 4, 1) := dk_7 (dk_at dksX4_price_1 13 rfl rfl)
theorem dX4_price_36 : decode cX4_price 36 = .ok (.if_icmp .ne 45, 3) := dk_160 0 45 (dk_at dksX4_price_1 14 rfl rfl)
theorem dX4_price_39 : decode cX4_price 39 = .ok (.aload_n 0, 1) := dk_42 (dk_at dksX4_price_1 17 rfl rfl)
theorem dX4_price_40 : decode cX4_price 40 = .ok (.getfield 55, 3) := dk_180 0 55 (dk_at dksX4_price_1 18 rfl rfl)
theorem dX4_price_43 : decode cX4_price 43 = .ok (.iload 4, 2) := dk_21 4 (dk_at dksX4_price_1 21 rfl rfl)
theorem dX4_price_45 : decode cX4_price 45 = .ok (.baload, 1) := dk_51 (dk_at dksX4_price_1 23 rfl rfl)
theorem dX4_price_46 : decode cX4_price 46 = .ok (.ifCond .ne 6, 3) := dk_154 0 6 (dk_at dksX4_price_2 0 rfl rfl)
theorem dX4_price_49 : decode cX4_price 49 = .ok (.goto 32, 3) := dk_167 0 32 (dk_at dksX4_price_2 3 rfl rfl)
theorem dX4_price_52 : decode cX4_price 52 = .ok (.aload_n 0, 1) := dk_42 (dk_at dksX4_price_2 6 rfl rfl)
theorem dX4_price_53 : decode cX4_price 53 = .ok (.getfield 58, 3) := dk_180 0 58 (dk_at dksX4_price_2 7 rfl rfl)
theorem dX4_price_56 : decode cX4_price 56 = .ok (.iload 4, 2) := dk_21 4 (dk_at dksX4_price_2 10 rfl rfl)
theorem dX4_price_58 : decode cX4_price 58 = .ok (.laload, 1) := dk_47 (dk_at dksX4_price_2 12 rfl rfl)
theorem dX4_price_59 : decode cX4_price 59 = .ok (.sipush 1000, 3) := dk_17 3 232 (dk_at dksX4_price_2 13 rfl rfl)
theorem dX4_price_62 : decode cX4_price 62 = .ok (.invokestatic 273, 3) := dk_184 1 17 (dk_at dksX4_price_2 16 rfl rfl)
theorem dX4_price_65 : decode cX4_price 65 = .ok (.istore 5, 2) := dk_54 5 (dk_at dksX4_price_2 19 rfl rfl)
theorem dX4_price_67 : decode cX4_price 67 = .ok (.iload_n 3, 1) := dk_29 (dk_at dksX4_price_2 21 rfl rfl)
theorem dX4_price_68 : decode cX4_price 68 = .ok (.iconst (-1), 1) := dk_2 (dk_at dksX4_price_2 22 rfl rfl)
theorem dX4_price_69 : decode cX4_price 69 = .ok (.if_icmp .eq 9, 3) := dk_159 0 9 (dk_at dksX4_price_3 0 rfl rfl)
theorem dX4_price_72 : decode cX4_price 72 = .ok (.iload 5, 2) := dk_21 5 (dk_at dksX4_price_3 3 rfl rfl)
theorem dX4_price_74 : decode cX4_price 74 = .ok (.iload_n 3, 1) := dk_29 (dk_at dksX4_price_3 5 rfl rfl)
theorem dX4_price_75 : decode cX4_price 75 = .ok (.if_icmp .ge 6, 3) := dk_162 0 6 (dk_at dksX4_price_3 6 rfl rfl)
theorem dX4_price_78 : decode cX4_price 78 = .ok (.iload 5, 2) := dk_21 5 (dk_at dksX4_price_3 9 rfl rfl)
theorem dX4_price_80 : decode cX4_price 80 = .ok (.istore_n 3, 1) := dk_62 (dk_at dksX4_price_3 11 rfl rfl)
theorem dX4_price_81 : decode cX4_price 81 = .ok (.iinc 4 1, 3) := dk_132 4 1 (dk_at dksX4_price_3 12 rfl rfl)
theorem dX4_price_84 : decode cX4_price 84 = .ok (.goto (-65), 3) := dk_167 255 191 (dk_at dksX4_price_3 15 rfl rfl)
theorem dX4_price_87 : decode cX4_price 87 = .ok (.iload_n 3, 1) := dk_29 (dk_at dksX4_price_3 18 rfl rfl)
theorem dX4_price_88 : decode cX4_price 88 = .ok (.ireturn, 1) := dk_172 (dk_at dksX4_price_3 19 rfl rfl)
abbrev cX4_saves : ByteArray := prog_24_method_89_code
def yX4_saves : MethodName := ⟨RX4, "saves", "(I)I"⟩
def dkwX4_saves_2 : List UInt8 := [132, 3, 1, 167, 255, 220, 28, 172]
abbrev dktX4_saves_2 : List UInt8 := dkwX4_saves_2 ++ []
def dkwX4_saves_1 : List UInt8 := [162, 0, 30, 42, 27, 29, 182, 1, 57, 54, 4, 21, 4, 2, 160, 0, 5, 2, 172, 28, 21, 4, 96, 61]
abbrev dktX4_saves_1 : List UInt8 := dkwX4_saves_1 ++ dktX4_saves_2
def dkwX4_saves_0 : List UInt8 := [42, 27, 182, 1, 30, 154, 0, 5, 2, 172, 3, 61, 3, 62, 29, 42, 180, 0, 17, 17, 6, 218, 46]
abbrev dktX4_saves_0 : List UInt8 := dkwX4_saves_0 ++ dktX4_saves_1
theorem dksX4_saves_0 : cX4_saves.data.toList.drop 0 = dktX4_saves_0 := by decide +kernel
theorem dksX4_saves_1 : cX4_saves.data.toList.drop 23 = dktX4_saves_1 := dk_seg dksX4_saves_0 23 rfl rfl
theorem dksX4_saves_2 : cX4_saves.data.toList.drop 47 = dktX4_saves_2 := dk_seg dksX4_saves_1 24 rfl rfl
theorem dX4_saves_0 : decode cX4_saves 0 = .ok (.aload_n 0, 1) := dk_42 (dk_at dksX4_saves_0 0 rfl rfl)
theorem dX4_saves_1 : decode cX4_saves 1 = .ok (.iload_n 1, 1) := dk_27 (dk_at dksX4_saves_0 1 rfl rfl)
theorem dX4_saves_2 : decode cX4_saves 2 = .ok (.invokevirtual 286, 3) := dk_182 1 30 (dk_at dksX4_saves_0 2 rfl rfl)
theorem dX4_saves_5 : decode cX4_saves 5 = .ok (.ifCond .ne 5, 3) := dk_154 0 5 (dk_at dksX4_saves_0 5 rfl rfl)
theorem dX4_saves_8 : decode cX4_saves 8 = .ok (.iconst (-1), 1) := dk_2 (dk_at dksX4_saves_0 8 rfl rfl)
theorem dX4_saves_9 : decode cX4_saves 9 = .ok (.ireturn, 1) := dk_172 (dk_at dksX4_saves_0 9 rfl rfl)
theorem dX4_saves_10 : decode cX4_saves 10 = .ok (.iconst 0, 1) := dk_3 (dk_at dksX4_saves_0 10 rfl rfl)
theorem dX4_saves_11 : decode cX4_saves 11 = .ok (.istore_n 2, 1) := dk_61 (dk_at dksX4_saves_0 11 rfl rfl)
theorem dX4_saves_12 : decode cX4_saves 12 = .ok (.iconst 0, 1) := dk_3 (dk_at dksX4_saves_0 12 rfl rfl)
theorem dX4_saves_13 : decode cX4_saves 13 = .ok (.istore_n 3, 1) := dk_62 (dk_at dksX4_saves_0 13 rfl rfl)
theorem dX4_saves_14 : decode cX4_saves 14 = .ok (.iload_n 3, 1) := dk_29 (dk_at dksX4_saves_0 14 rfl rfl)
theorem dX4_saves_15 : decode cX4_saves 15 = .ok (.aload_n 0, 1) := dk_42 (dk_at dksX4_saves_0 15 rfl rfl)
theorem dX4_saves_16 : decode cX4_saves 16 = .ok (.getfield 17, 3) := dk_180 0 17 (dk_at dksX4_saves_0 16 rfl rfl)
theorem dX4_saves_19 : decode cX4_saves 19 = .ok (.sipush 1754, 3) := dk_17 6 218 (dk_at dksX4_saves_0 19 rfl rfl)
theorem dX4_saves_22 : decode cX4_saves 22 = .ok (.iaload, 1) := dk_46 (dk_at dksX4_saves_0 22 rfl rfl)
theorem dX4_saves_23 : decode cX4_saves 23 = .ok (.if_icmp .ge 30, 3) := dk_162 0 30 (dk_at dksX4_saves_1 0 rfl rfl)
theorem dX4_saves_26 : decode cX4_saves 26 = .ok (.aload_n 0, 1) := dk_42 (dk_at dksX4_saves_1 3 rfl rfl)
theorem dX4_saves_27 : decode cX4_saves 27 = .ok (.iload_n 1, 1) := dk_27 (dk_at dksX4_saves_1 4 rfl rfl)
theorem dX4_saves_28 : decode cX4_saves 28 = .ok (.iload_n 3, 1) := dk_29 (dk_at dksX4_saves_1 5 rfl rfl)
theorem dX4_saves_29 : decode cX4_saves 29 = .ok (.invokevirtual 313, 3) := dk_182 1 57 (dk_at dksX4_saves_1 6 rfl rfl)
theorem dX4_saves_32 : decode cX4_saves 32 = .ok (.istore 4, 2) := dk_54 4 (dk_at dksX4_saves_1 9 rfl rfl)
theorem dX4_saves_34 : decode cX4_saves 34 = .ok (.iload 4, 2) := dk_21 4 (dk_at dksX4_saves_1 11 rfl rfl)
theorem dX4_saves_36 : decode cX4_saves 36 = .ok (.iconst (-1), 1) := dk_2 (dk_at dksX4_saves_1 13 rfl rfl)
theorem dX4_saves_37 : decode cX4_saves 37 = .ok (.if_icmp .ne 5, 3) := dk_160 0 5 (dk_at dksX4_saves_1 14 rfl rfl)
theorem dX4_saves_40 : decode cX4_saves 40 = .ok (.iconst (-1), 1) := dk_2 (dk_at dksX4_saves_1 17 rfl rfl)
theorem dX4_saves_41 : decode cX4_saves 41 = .ok (.ireturn, 1) := dk_172 (dk_at dksX4_saves_1 18 rfl rfl)
theorem dX4_saves_42 : decode cX4_saves 42 = .ok (.iload_n 2, 1) := dk_28 (dk_at dksX4_saves_1 19 rfl rfl)
theorem dX4_saves_43 : decode cX4_saves 43 = .ok (.iload 4, 2) := dk_21 4 (dk_at dksX4_saves_1 20 rfl rfl)
theorem dX4_saves_45 : decode cX4_saves 45 = .ok (.iadd, 1) := dk_96 (dk_at dksX4_saves_1 22 rfl rfl)
theorem dX4_saves_46 : decode cX4_saves 46 = .ok (.istore_n 2, 1) := dk_61 (dk_at dksX4_saves_1 23 rfl rfl)
theorem dX4_saves_47 : decode cX4_saves 47 = .ok (.iinc 3 1, 3) := dk_132 3 1 (dk_at dksX4_saves_2 0 rfl rfl)
theorem dX4_saves_50 : decode cX4_saves 50 = .ok (.goto (-36), 3) := dk_167 255 220 (dk_at dksX4_saves_2 3 rfl rfl)
theorem dX4_saves_53 : decode cX4_saves 53 = .ok (.iload_n 2, 1) := dk_28 (dk_at dksX4_saves_2 6 rfl rfl)
theorem dX4_saves_54 : decode cX4_saves 54 = .ok (.ireturn, 1) := dk_172 (dk_at dksX4_saves_2 7 rfl rfl)
abbrev cX4_all : ByteArray := prog_24_method_90_code
def yX4_all : MethodName := ⟨RX4, "all", "(I)I"⟩
def dkwX4_all_6 : List UInt8 := [154, 0, 9, 132, 4, 1, 167, 255, 244, 21, 4, 172]
abbrev dktX4_all_6 : List UInt8 := dkwX4_all_6 ++ []
def dkwX4_all_5 : List UInt8 := [167, 255, 160, 29, 153, 0, 7, 28, 154, 0, 5, 2, 172, 3, 54, 4, 28, 21, 4, 122, 4, 126]
abbrev dktX4_all_5 : List UInt8 := dkwX4_all_5 ++ dktX4_all_6
def dkwX4_all_4 : List UInt8 := [21, 5, 51, 154, 0, 12, 28, 4, 21, 5, 120, 2, 130, 126, 61, 132, 5, 1, 167, 255, 207, 132, 4, 1]
abbrev dktX4_all_4 : List UInt8 := dkwX4_all_4 ++ dktX4_all_5
def dkwX4_all_3 : List UInt8 := [21, 5, 42, 180, 1, 11, 162, 0, 24, 42, 180, 0, 52, 21, 5, 46, 7, 160, 0, 13, 42, 180, 0, 55]
abbrev dktX4_all_3 : List UInt8 := dkwX4_all_3 ++ dktX4_all_4
def dkwX4_all_2 : List UInt8 := [167, 0, 68, 4, 62, 42, 27, 21, 4, 182, 1, 54, 87, 3, 54, 5, 21, 5, 16, 12, 162, 0, 48]
abbrev dktX4_all_2 : List UInt8 := dkwX4_all_2 ++ dktX4_all_3
def dkwX4_all_1 : List UInt8 := [180, 0, 17, 17, 6, 218, 46, 162, 0, 89, 42, 27, 21, 4, 182, 1, 33, 16, 10, 161, 0, 6]
abbrev dktX4_all_1 : List UInt8 := dkwX4_all_1 ++ dktX4_all_2
def dkwX4_all_0 : List UInt8 := [42, 27, 182, 1, 30, 154, 0, 5, 2, 172, 17, 15, 255, 61, 3, 62, 3, 54, 4, 21, 4, 42]
abbrev dktX4_all_0 : List UInt8 := dkwX4_all_0 ++ dktX4_all_1
theorem dksX4_all_0 : cX4_all.data.toList.drop 0 = dktX4_all_0 := by decide +kernel
theorem dksX4_all_1 : cX4_all.data.toList.drop 22 = dktX4_all_1 := dk_seg dksX4_all_0 22 rfl rfl
theorem dksX4_all_2 : cX4_all.data.toList.drop 44 = dktX4_all_2 := dk_seg dksX4_all_1 22 rfl rfl
theorem dksX4_all_3 : cX4_all.data.toList.drop 67 = dktX4_all_3 := dk_seg dksX4_all_2 23 rfl rfl
theorem dksX4_all_4 : cX4_all.data.toList.drop 91 = dktX4_all_4 := dk_seg dksX4_all_3 24 rfl rfl
theorem dksX4_all_5 : cX4_all.data.toList.drop 115 = dktX4_all_5 := dk_seg dksX4_all_4 24 rfl rfl
theorem dksX4_all_6 : cX4_all.data.toList.drop 137 = dktX4_all_6 := dk_seg dksX4_all_5 22 rfl rfl
theorem dX4_all_0 : decode cX4_all 0 = .ok (.aload_n 0, 1) := dk_42 (dk_at dksX4_all_0 0 rfl rfl)
theorem dX4_all_1 : decode cX4_all 1 = .ok (.iload_n 1, 1) := dk_27 (dk_at dksX4_all_0 1 rfl rfl)
theorem dX4_all_2 : decode cX4_all 2 = .ok (.invokevirtual 286, 3) := dk_182 1 30 (dk_at dksX4_all_0 2 rfl rfl)
theorem dX4_all_5 : decode cX4_all 5 = .ok (.ifCond .ne 5, 3) := dk_154 0 5 (dk_at dksX4_all_0 5 rfl rfl)
theorem dX4_all_8 : decode cX4_all 8 = .ok (.iconst (-1), 1) := dk_2 (dk_at dksX4_all_0 8 rfl rfl)
theorem dX4_all_9 : decode cX4_all 9 = .ok (.ireturn, 1) := dk_172 (dk_at dksX4_all_0 9 rfl rfl)
theorem dX4_all_10 : decode cX4_all 10 = .ok (.sipush 4095, 3) := dk_17 15 255 (dk_at dksX4_all_0 10 rfl rfl)
theorem dX4_all_13 : decode cX4_all 13 = .ok (.istore_n 2, 1) := dk_61 (dk_at dksX4_all_0 13 rfl rfl)
theorem dX4_all_14 : decode cX4_all 14 = .ok (.iconst 0, 1) := dk_3 (dk_at dksX4_all_0 14 rfl rfl)
theorem dX4_all_15 : decode cX4_all 15 = .ok (.istore_n 3, 1) := dk_62 (dk_at dksX4_all_0 15 rfl rfl)
theorem dX4_all_16 : decode cX4_all 16 = .ok (.iconst 0, 1) := dk_3 (dk_at dksX4_all_0 16 rfl rfl)
theorem dX4_all_17 : decode cX4_all 17 = .ok (.istore 4, 2) := dk_54 4 (dk_at dksX4_all_0 17 rfl rfl)
theorem dX4_all_19 : decode cX4_all 19 = .ok (.iload 4, 2) := dk_21 4 (dk_at dksX4_all_0 19 rfl rfl)
theorem dX4_all_21 : decode cX4_all 21 = .ok (.aload_n 0, 1) := dk_42 (dk_at dksX4_all_0 21 rfl rfl)
theorem dX4_all_22 : decode cX4_all 22 = .ok (.getfield 17, 3) := dk_180 0 17 (dk_at dksX4_all_1 0 rfl rfl)
theorem dX4_all_25 : decode cX4_all 25 = .ok (.sipush 1754, 3) := dk_17 6 218 (dk_at dksX4_all_1 3 rfl rfl)
theorem dX4_all_28 : decode cX4_all 28 = .ok (.iaload, 1) := dk_46 (dk_at dksX4_all_1 6 rfl rfl)
theorem dX4_all_29 : decode cX4_all 29 = .ok (.if_icmp .ge 89, 3) := dk_162 0 89 (dk_at dksX4_all_1 7 rfl rfl)
theorem dX4_all_32 : decode cX4_all 32 = .ok (.aload_n 0, 1) := dk_42 (dk_at dksX4_all_1 10 rfl rfl)
theorem dX4_all_33 : decode cX4_all 33 = .ok (.iload_n 1, 1) := dk_27 (dk_at dksX4_all_1 11 rfl rfl)
theorem dX4_all_34 : decode cX4_all 34 = .ok (.iload 4, 2) := dk_21 4 (dk_at dksX4_all_1 12 rfl rfl)
theorem dX4_all_36 : decode cX4_all 36 = .ok (.invokevirtual 289, 3) := dk_182 1 33 (dk_at dksX4_all_1 14 rfl rfl)
theorem dX4_all_39 : decode cX4_all 39 = .ok (.bipush 10, 2) := dk_16 10 (dk_at dksX4_all_1 17 rfl rfl)
theorem dX4_all_41 : decode cX4_all 41 = .ok (.if_icmp .lt 6, 3) := dk_161 0 6 (dk_at dksX4_all_1 19 rfl rfl)
theorem dX4_all_44 : decode cX4_all 44 = .ok (.goto 68, 3) := dk_167 0 68 (dk_at dksX4_all_2 0 rfl rfl)
theorem dX4_all_47 : decode cX4_all 47 = .ok (.iconst 1, 1) := dk_4 (dk_at dksX4_all_2 3 rfl rfl)
theorem dX4_all_48 : decode cX4_all 48 = .ok (.istore_n 3, 1) := dk_62 (dk_at dksX4_all_2 4 rfl rfl)
theorem dX4_all_49 : decode cX4_all 49 = .ok (.aload_n 0, 1) := dk_42 (dk_at dksX4_all_2 5 rfl rfl)
theorem dX4_all_50 : decode cX4_all 50 = .ok (.iload_n 1, 1) := dk_27 (dk_at dksX4_all_2 6 rfl rfl)
theorem dX4_all_51 : decode cX4_all 51 = .ok (.iload 4, 2) := dk_21 4 (dk_at dksX4_all_2 7 rfl rfl)
theorem dX4_all_53 : decode cX4_all 53 = .ok (.invokevirtual 310, 3) := dk_182 1 54 (dk_at dksX4_all_2 9 rfl rfl)
theorem dX4_all_56 : decode cX4_all 56 = .ok (.pop, 1) := dk_87 (dk_at dksX4_all_2 12 rfl rfl)
theorem dX4_all_57 : decode cX4_all 57 = .ok (.iconst 0, 1) := dk_3 (dk_at dksX4_all_2 13 rfl rfl)
theorem dX4_all_58 : decode cX4_all 58 = .ok (.istore 5, 2) := dk_54 5 (dk_at dksX4_all_2 14 rfl rfl)
theorem dX4_all_60 : decode cX4_all 60 = .ok (.iload 5, 2) := dk_21 5 (dk_at dksX4_all_2 16 rfl rfl)
theorem dX4_all_62 : decode cX4_all 62 = .ok (.bipush 12, 2) := dk_16 12 (dk_at dksX4_all_2 18 rfl rfl)
theorem dX4_all_64 : decode cX4_all 64 = .ok (.if_icmp .ge 48, 3) := dk_162 0 48 (dk_at dksX4_all_2 20 rfl rfl)
theorem dX4_all_67 : decode cX4_all 67 = .ok (.iload 5, 2) := dk_21 5 (dk_at dksX4_all_3 0 rfl rfl)
theorem dX4_all_69 : decode cX4_all 69 = .ok (.aload_n 0, 1) := dk_42 (dk_at dksX4_all_3 2 rfl rfl)
theorem dX4_all_70 : decode cX4_all 70 = .ok (.getfield 267, 3) := dk_180 1 11 (dk_at dksX4_all_3 3 rfl rfl)
theorem dX4_all_73 : decode cX4_all 73 = .ok (.if_icmp .ge 24, 3) := dk_162 0 24 (dk_at dksX4_all_3 6 rfl rfl)
theorem dX4_all_76 : decode cX4_all 76 = .ok (.aload_n 0, 1) := dk_42 (dk_at dksX4_all_3 9 rfl rfl)
theorem dX4_all_77 : decode cX4_all 77 = .ok (.getfield 52, 3) := dk_180 0 52 (dk_at dksX4_all_3 10 rfl rfl)
theorem dX4_all_80 : decode cX4_all 80 = .ok (.iload 5, 2) := dk_21 5 (dk_at dksX4_all_3 13 rfl rfl)
theorem dX4_all_82 : decode cX4_all 82 = .ok (.iaload, 1) := dk_46 (dk_at dksX4_all_3 15 rfl rfl)
theorem dX4_all_83 : decode cX4_all 83 = .ok (.iconst 4, 1) := dk_7 (dk_at dksX4_all_3 16 rfl rfl)
theorem dX4_all_84 : decode cX4_all 84 = .ok (.if_icmp .ne 13, 3) := dk_160 0 13 (dk_at dksX4_all_3 17 rfl rfl)
theorem dX4_all_87 : decode cX4_all 87 = .ok (.aload_n 0, 1) := dk_42 (dk_at dksX4_all_3 20 rfl rfl)
theorem dX4_all_88 : decode cX4_all 88 = .ok (.getfield 55, 3) := dk_180 0 55 (dk_at dksX4_all_3 21 rfl rfl)
theorem dX4_all_91 : decode cX4_all 91 = .ok (.iload 5, 2) := dk_21 5 (dk_at dksX4_all_4 0 rfl rfl)
theorem dX4_all_93 : decode cX4_all 93 = .ok (.baload, 1) := dk_51 (dk_at dksX4_all_4 2 rfl rfl)
theorem dX4_all_94 : decode cX4_all 94 = .ok (.ifCond .ne 12, 3) := dk_154 0 12 (dk_at dksX4_all_4 3 rfl rfl)
theorem dX4_all_97 : decode cX4_all 97 = .ok (.iload_n 2, 1) := dk_28 (dk_at dksX4_all_4 6 rfl rfl)
theorem dX4_all_98 : decode cX4_all 98 = .ok (.iconst 1, 1) := dk_4 (dk_at dksX4_all_4 7 rfl rfl)
theorem dX4_all_99 : decode cX4_all 99 = .ok (.iload 5, 2) := dk_21 5 (dk_at dksX4_all_4 8 rfl rfl)
theorem dX4_all_101 : decode cX4_all 101 = .ok (.ishl, 1) := dk_120 (dk_at dksX4_all_4 10 rfl rfl)
theorem dX4_all_102 : decode cX4_all 102 = .ok (.iconst (-1), 1) := dk_2 (dk_at dksX4_all_4 11 rfl rfl)
theorem dX4_all_103 : decode cX4_all 103 = .ok (.ixor, 1) := dk_130 (dk_at dksX4_all_4 12 rfl rfl)
theorem dX4_all_104 : decode cX4_all 104 = .ok (.iand, 1) := dk_126 (dk_at dksX4_all_4 13 rfl rfl)
theorem dX4_all_105 : decode cX4_all 105 = .ok (.istore_n 2, 1) := dk_61 (dk_at dksX4_all_4 14 rfl rfl)
theorem dX4_all_106 : decode cX4_all 106 = .ok (.iinc 5 1, 3) := dk_132 5 1 (dk_at dksX4_all_4 15 rfl rfl)
theorem dX4_all_109 : decode cX4_all 109 = .ok (.goto (-49), 3) := dk_167 255 207 (dk_at dksX4_all_4 18 rfl rfl)
theorem dX4_all_112 : decode cX4_all 112 = .ok (.iinc 4 1, 3) := dk_132 4 1 (dk_at dksX4_all_4 21 rfl rfl)
theorem dX4_all_115 : decode cX4_all 115 = .ok (.goto (-96), 3) := dk_167 255 160 (dk_at dksX4_all_5 0 rfl rfl)
theorem dX4_all_118 : decode cX4_all 118 = .ok (.iload_n 3, 1) := dk_29 (dk_at dksX4_all_5 3 rfl rfl)
theorem dX4_all_119 : decode cX4_all 119 = .ok (.ifCond .eq 7, 3) := dk_153 0 7 (dk_at dksX4_all_5 4 rfl rfl)
theorem dX4_all_122 : decode cX4_all 122 = .ok (.iload_n 2, 1) := dk_28 (dk_at dksX4_all_5 7 rfl rfl)
theorem dX4_all_123 : decode cX4_all 123 = .ok (.ifCond .ne 5, 3) := dk_154 0 5 (dk_at dksX4_all_5 8 rfl rfl)
theorem dX4_all_126 : decode cX4_all 126 = .ok (.iconst (-1), 1) := dk_2 (dk_at dksX4_all_5 11 rfl rfl)
theorem dX4_all_127 : decode cX4_all 127 = .ok (.ireturn, 1) := dk_172 (dk_at dksX4_all_5 12 rfl rfl)
theorem dX4_all_128 : decode cX4_all 128 = .ok (.iconst 0, 1) := dk_3 (dk_at dksX4_all_5 13 rfl rfl)
theorem dX4_all_129 : decode cX4_all 129 = .ok (.istore 4, 2) := dk_54 4 (dk_at dksX4_all_5 14 rfl rfl)
theorem dX4_all_131 : decode cX4_all 131 = .ok (.iload_n 2, 1) := dk_28 (dk_at dksX4_all_5 16 rfl rfl)
theorem dX4_all_132 : decode cX4_all 132 = .ok (.iload 4, 2) := dk_21 4 (dk_at dksX4_all_5 17 rfl rfl)
theorem dX4_all_134 : decode cX4_all 134 = .ok (.ishr, 1) := dk_122 (dk_at dksX4_all_5 19 rfl rfl)
theorem dX4_all_135 : decode cX4_all 135 = .ok (.iconst 1, 1) := dk_4 (dk_at dksX4_all_5 20 rfl rfl)
theorem dX4_all_136 : decode cX4_all 136 = .ok (.iand, 1) := dk_126 (dk_at dksX4_all_5 21 rfl rfl)
theorem dX4_all_137 : decode cX4_all 137 = .ok (.ifCond .ne 9, 3) := dk_154 0 9 (dk_at dksX4_all_6 0 rfl rfl)
theorem dX4_all_140 : decode cX4_all 140 = .ok (.iinc 4 1, 3) := dk_132 4 1 (dk_at dksX4_all_6 3 rfl rfl)
theorem dX4_all_143 : decode cX4_all 143 = .ok (.goto (-12), 3) := dk_167 255 244 (dk_at dksX4_all_6 6 rfl rfl)
theorem dX4_all_146 : decode cX4_all 146 = .ok (.iload 4, 2) := dk_21 4 (dk_at dksX4_all_6 9 rfl rfl)
theorem dX4_all_148 : decode cX4_all 148 = .ok (.ireturn, 1) := dk_172 (dk_at dksX4_all_6 11 rfl rfl)
abbrev cX4_parting : ByteArray := prog_24_method_93_code
def yX4_parting : MethodName := ⟨RX4, "parting", "(II)I"⟩
def dkwX4_parting_1 : List UInt8 := [167, 0, 4, 2, 172]
abbrev dktX4_parting_1 : List UInt8 := dkwX4_parting_1 ++ []
def dkwX4_parting_0 : List UInt8 := [42, 27, 182, 1, 60, 153, 0, 20, 42, 28, 182, 0, 145, 153, 0, 12, 42, 27, 28, 182, 1, 63]
abbrev dktX4_parting_0 : List UInt8 := dkwX4_parting_0 ++ dktX4_parting_1
theorem dksX4_parting_0 : cX4_parting.data.toList.drop 0 = dktX4_parting_0 := by decide +kernel
theorem dksX4_parting_1 : cX4_parting.data.toList.drop 22 = dktX4_parting_1 := dk_seg dksX4_parting_0 22 rfl rfl
theorem dX4_parting_0 : decode cX4_parting 0 = .ok (.aload_n 0, 1) := dk_42 (dk_at dksX4_parting_0 0 rfl rfl)
theorem dX4_parting_1 : decode cX4_parting 1 = .ok (.iload_n 1, 1) := dk_27 (dk_at dksX4_parting_0 1 rfl rfl)
theorem dX4_parting_2 : decode cX4_parting 2 = .ok (.invokevirtual 316, 3) := dk_182 1 60 (dk_at dksX4_parting_0 2 rfl rfl)
theorem dX4_parting_5 : decode cX4_parting 5 = .ok (.ifCond .eq 20, 3) := dk_153 0 20 (dk_at dksX4_parting_0 5 rfl rfl)
theorem dX4_parting_8 : decode cX4_parting 8 = .ok (.aload_n 0, 1) := dk_42 (dk_at dksX4_parting_0 8 rfl rfl)
theorem dX4_parting_9 : decode cX4_parting 9 = .ok (.iload_n 2, 1) := dk_28 (dk_at dksX4_parting_0 9 rfl rfl)
theorem dX4_parting_10 : decode cX4_parting 10 = .ok (.invokevirtual 145, 3) := dk_182 0 145 (dk_at dksX4_parting_0 10 rfl rfl)
theorem dX4_parting_13 : decode cX4_parting 13 = .ok (.ifCond .eq 12, 3) := dk_153 0 12 (dk_at dksX4_parting_0 13 rfl rfl)
theorem dX4_parting_16 : decode cX4_parting 16 = .ok (.aload_n 0, 1) := dk_42 (dk_at dksX4_parting_0 16 rfl rfl)
theorem dX4_parting_17 : decode cX4_parting 17 = .ok (.iload_n 1, 1) := dk_27 (dk_at dksX4_parting_0 17 rfl rfl)
theorem dX4_parting_18 : decode cX4_parting 18 = .ok (.iload_n 2, 1) := dk_28 (dk_at dksX4_parting_0 18 rfl rfl)
theorem dX4_parting_19 : decode cX4_parting 19 = .ok (.invokevirtual 319, 3) := dk_182 1 63 (dk_at dksX4_parting_0 19 rfl rfl)
theorem dX4_parting_22 : decode cX4_parting 22 = .ok (.goto 4, 3) := dk_167 0 4 (dk_at dksX4_parting_1 0 rfl rfl)
theorem dX4_parting_25 : decode cX4_parting 25 = .ok (.iconst (-1), 1) := dk_2 (dk_at dksX4_parting_1 3 rfl rfl)
theorem dX4_parting_26 : decode cX4_parting 26 = .ok (.ireturn, 1) := dk_172 (dk_at dksX4_parting_1 4 rfl rfl)
abbrev cX4_areTexts : ByteArray := prog_24_method_91_code
def yX4_areTexts : MethodName := ⟨RX4, "areTexts", "(I)Z"⟩
def dkwX4_areTexts_0 : List UInt8 := [27, 155, 0, 21, 27, 4, 42, 180, 0, 17, 17, 6, 220, 46, 120, 162, 0, 7, 4, 167, 0, 4, 3, 172]
abbrev dktX4_areTexts_0 : List UInt8 := dkwX4_areTexts_0 ++ []
theorem dksX4_areTexts_0 : cX4_areTexts.data.toList.drop 0 = dktX4_areTexts_0 := by decide +kernel
theorem dX4_areTexts_0 : decode cX4_areTexts 0 = .ok (.iload_n 1, 1) := dk_27 (dk_at dksX4_areTexts_0 0 rfl rfl)
theorem dX4_areTexts_1 : decode cX4_areTexts 1 = .ok (.ifCond .lt 21, 3) := dk_155 0 21 (dk_at dksX4_areTexts_0 1 rfl rfl)
theorem dX4_areTexts_4 : decode cX4_areTexts 4 = .ok (.iload_n 1, 1) := dk_27 (dk_at dksX4_areTexts_0 4 rfl rfl)
theorem dX4_areTexts_5 : decode cX4_areTexts 5 = .ok (.iconst 1, 1) := dk_4 (dk_at dksX4_areTexts_0 5 rfl rfl)
theorem dX4_areTexts_6 : decode cX4_areTexts 6 = .ok (.aload_n 0, 1) := dk_42 (dk_at dksX4_areTexts_0 6 rfl rfl)
theorem dX4_areTexts_7 : decode cX4_areTexts 7 = .ok (.getfield 17, 3) := dk_180 0 17 (dk_at dksX4_areTexts_0 7 rfl rfl)
theorem dX4_areTexts_10 : decode cX4_areTexts 10 = .ok (.sipush 1756, 3) := dk_17 6 220 (dk_at dksX4_areTexts_0 10 rfl rfl)
theorem dX4_areTexts_13 : decode cX4_areTexts 13 = .ok (.iaload, 1) := dk_46 (dk_at dksX4_areTexts_0 13 rfl rfl)
theorem dX4_areTexts_14 : decode cX4_areTexts 14 = .ok (.ishl, 1) := dk_120 (dk_at dksX4_areTexts_0 14 rfl rfl)
theorem dX4_areTexts_15 : decode cX4_areTexts 15 = .ok (.if_icmp .ge 7, 3) := dk_162 0 7 (dk_at dksX4_areTexts_0 15 rfl rfl)
theorem dX4_areTexts_18 : decode cX4_areTexts 18 = .ok (.iconst 1, 1) := dk_4 (dk_at dksX4_areTexts_0 18 rfl rfl)
theorem dX4_areTexts_19 : decode cX4_areTexts 19 = .ok (.goto 4, 3) := dk_167 0 4 (dk_at dksX4_areTexts_0 19 rfl rfl)
theorem dX4_areTexts_22 : decode cX4_areTexts 22 = .ok (.iconst 0, 1) := dk_3 (dk_at dksX4_areTexts_0 22 rfl rfl)
theorem dX4_areTexts_23 : decode cX4_areTexts 23 = .ok (.ireturn, 1) := dk_172 (dk_at dksX4_areTexts_0 23 rfl rfl)
abbrev cX4_partingOf : ByteArray := prog_24_method_92_code
def yX4_partingOf : MethodName := ⟨RX4, "partingOf", "(II)I"⟩
def dkwX4_partingOf_4 : List UInt8 := [167, 255, 167, 29, 172]
abbrev dktX4_partingOf_4 : List UInt8 := dkwX4_partingOf_4 ++ []
def dkwX4_partingOf_3 : List UInt8 := [21, 6, 156, 0, 9, 21, 6, 116, 167, 0, 5, 21, 6, 96, 62, 132, 5, 1, 167, 255, 201, 132, 4, 1]
abbrev dktX4_partingOf_3 : List UInt8 := dkwX4_partingOf_3 ++ dktX4_partingOf_4
def dkwX4_partingOf_2 : List UInt8 := [154, 0, 6, 167, 0, 36, 42, 21, 4, 28, 182, 1, 36, 42, 21, 5, 28, 182, 1, 36, 100, 54, 6, 29]
abbrev dktX4_partingOf_2 : List UInt8 := dkwX4_partingOf_2 ++ dktX4_partingOf_3
def dkwX4_partingOf_1 : List UInt8 := [154, 0, 6, 167, 0, 64, 3, 54, 5, 21, 5, 21, 4, 162, 0, 54, 27, 21, 5, 122, 4, 126]
abbrev dktX4_partingOf_1 : List UInt8 := dkwX4_partingOf_1 ++ dktX4_partingOf_2
def dkwX4_partingOf_0 : List UInt8 := [3, 62, 3, 54, 4, 21, 4, 42, 180, 0, 17, 17, 6, 220, 46, 162, 0, 82, 27, 21, 4, 122, 4, 126]
abbrev dktX4_partingOf_0 : List UInt8 := dkwX4_partingOf_0 ++ dktX4_partingOf_1
theorem dksX4_partingOf_0 : cX4_partingOf.data.toList.drop 0 = dktX4_partingOf_0 := by decide +kernel
theorem dksX4_partingOf_1 : cX4_partingOf.data.toList.drop 24 = dktX4_partingOf_1 := dk_seg dksX4_partingOf_0 24 rfl rfl
theorem dksX4_partingOf_2 : cX4_partingOf.data.toList.drop 46 = dktX4_partingOf_2 := dk_seg dksX4_partingOf_1 22 rfl rfl
theorem dksX4_partingOf_3 : cX4_partingOf.data.toList.drop 70 = dktX4_partingOf_3 := dk_seg dksX4_partingOf_2 24 rfl rfl
theorem dksX4_partingOf_4 : cX4_partingOf.data.toList.drop 94 = dktX4_partingOf_4 := dk_seg dksX4_partingOf_3 24 rfl rfl
theorem dX4_partingOf_0 : decode cX4_partingOf 0 = .ok (.iconst 0, 1) := dk_3 (dk_at dksX4_partingOf_0 0 rfl rfl)
theorem dX4_partingOf_1 : decode cX4_partingOf 1 = .ok (.istore_n 3, 1) := dk_62 (dk_at dksX4_partingOf_0 1 rfl rfl)
theorem dX4_partingOf_2 : decode cX4_partingOf 2 = .ok (.iconst 0, 1) := dk_3 (dk_at dksX4_partingOf_0 2 rfl rfl)
theorem dX4_partingOf_3 : decode cX4_partingOf 3 = .ok (.istore 4, 2) := dk_54 4 (dk_at dksX4_partingOf_0 3 rfl rfl)
theorem dX4_partingOf_5 : decode cX4_partingOf 5 = .ok (.iload 4, 2) := dk_21 4 (dk_at dksX4_partingOf_0 5 rfl rfl)
theorem dX4_partingOf_7 : decode cX4_partingOf 7 = .ok (.aload_n 0, 1) := dk_42 (dk_at dksX4_partingOf_0 7 rfl rfl)
theorem dX4_partingOf_8 : decode cX4_partingOf 8 = .ok (.getfield 17, 3) := dk_180 0 17 (dk_at dksX4_partingOf_0 8 rfl rfl)
theorem dX4_partingOf_11 : decode cX4_partingOf 11 = .ok (.sipush 1756, 3) := dk_17 6 220 (dk_at dksX4_partingOf_0 11 rfl rfl)
theorem dX4_partingOf_14 : decode cX4_partingOf 14 = .ok (.iaload, 1) := dk_46 (dk_at dksX4_partingOf_0 14 rfl rfl)
theorem dX4_partingOf_15 : decode cX4_partingOf 15 = .ok (.if_icmp .ge 82, 3) := dk_162 0 82 (dk_at dksX4_partingOf_0 15 rfl rfl)
theorem dX4_partingOf_18 : decode cX4_partingOf 18 = .ok (.iload_n 1, 1) := dk_27 (dk_at dksX4_partingOf_0 18 rfl rfl)
theorem dX4_partingOf_19 : decode cX4_partingOf 19 = .ok (.iload 4, 2) := dk_21 4 (dk_at dksX4_partingOf_0 19 rfl rfl)
theorem dX4_partingOf_21 : decode cX4_partingOf 21 = .ok (.ishr, 1) := dk_122 (dk_at dksX4_partingOf_0 21 rfl rfl)
theorem dX4_partingOf_22 : decode cX4_partingOf 22 = .ok (.iconst 1, 1) := dk_4 (dk_at dksX4_partingOf_0 22 rfl rfl)
theorem dX4_partingOf_23 : decode cX4_partingOf 23 = .ok (.iand, 1) := dk_126 (dk_at dksX4_partingOf_0 23 rfl rfl)
theorem dX4_partingOf_24 : decode cX4_partingOf 24 = .ok (.ifCond .ne 6, 3) := dk_154 0 6 (dk_at dksX4_partingOf_1 0 rfl rfl)
theorem dX4_partingOf_27 : decode cX4_partingOf 27 = .ok (.goto 64, 3) := dk_167 0 64 (dk_at dksX4_partingOf_1 3 rfl rfl)
theorem dX4_partingOf_30 : decode cX4_partingOf 30 = .ok (.iconst 0, 1) := dk_3 (dk_at dksX4_partingOf_1 6 rfl rfl)
theorem dX4_partingOf_31 : decode cX4_partingOf 31 = .ok (.istore 5, 2) := dk_54 5 (dk_at dksX4_partingOf_1 7 rfl rfl)
theorem dX4_partingOf_33 : decode cX4_partingOf 33 = .ok (.iload 5, 2) := dk_21 5 (dk_at dksX4_partingOf_1 9 rfl rfl)
theorem dX4_partingOf_35 : decode cX4_partingOf 35 = .ok (.iload 4, 2) := dk_21 4 (dk_at dksX4_partingOf_1 11 rfl rfl)
theorem dX4_partingOf_37 : decode cX4_partingOf 37 = .ok (.if_icmp .ge 54, 3) := dk_162 0 54 (dk_at dksX4_partingOf_1 13 rfl rfl)
theorem dX4_partingOf_40 : decode cX4_partingOf 40 = .ok (.iload_n 1, 1) := dk_27 (dk_at dksX4_partingOf_1 16 rfl rfl)
theorem dX4_partingOf_41 : decode cX4_partingOf 41 = .ok (.iload 5, 2) := dk_21 5 (dk_at dksX4_partingOf_1 17 rfl rfl)
theorem dX4_partingOf_43 : decode cX4_partingOf 43 = .ok (.ishr, 1) := dk_122 (dk_at dksX4_partingOf_1 19 rfl rfl)
theorem dX4_partingOf_44 : decode cX4_partingOf 44 = .ok (.iconst 1, 1) := dk_4 (dk_at dksX4_partingOf_1 20 rfl rfl)
theorem dX4_partingOf_45 : decode cX4_partingOf 45 = .ok (.iand, 1) := dk_126 (dk_at dksX4_partingOf_1 21 rfl rfl)
theorem dX4_partingOf_46 : decode cX4_partingOf 46 = .ok (.ifCond .ne 6, 3) := dk_154 0 6 (dk_at dksX4_partingOf_2 0 rfl rfl)
theorem dX4_partingOf_49 : decode cX4_partingOf 49 = .ok (.goto 36, 3) := dk_167 0 36 (dk_at dksX4_partingOf_2 3 rfl rfl)
theorem dX4_partingOf_52 : decode cX4_partingOf 52 = .ok (.aload_n 0, 1) := dk_42 (dk_at dksX4_partingOf_2 6 rfl rfl)
theorem dX4_partingOf_53 : decode cX4_partingOf 53 = .ok (.iload 4, 2) := dk_21 4 (dk_at dksX4_partingOf_2 7 rfl rfl)
theorem dX4_partingOf_55 : decode cX4_partingOf 55 = .ok (.iload_n 2, 1) := dk_28 (dk_at dksX4_partingOf_2 9 rfl rfl)
theorem dX4_partingOf_56 : decode cX4_partingOf 56 = .ok (.invokevirtual 292, 3) := dk_182 1 36 (dk_at dksX4_partingOf_2 10 rfl rfl)
theorem dX4_partingOf_59 : decode cX4_partingOf 59 = .ok (.aload_n 0, 1) := dk_42 (dk_at dksX4_partingOf_2 13 rfl rfl)
theorem dX4_partingOf_60 : decode cX4_partingOf 60 = .ok (.iload 5, 2) := dk_21 5 (dk_at dksX4_partingOf_2 14 rfl rfl)
theorem dX4_partingOf_62 : decode cX4_partingOf 62 = .ok (.iload_n 2, 1) := dk_28 (dk_at dksX4_partingOf_2 16 rfl rfl)
theorem dX4_partingOf_63 : decode cX4_partingOf 63 = .ok (.invokevirtual 292, 3) := dk_182 1 36 (dk_at dksX4_partingOf_2 17 rfl rfl)
theorem dX4_partingOf_66 : decode cX4_partingOf 66 = .ok (.isub, 1) := dk_100 (dk_at dksX4_partingOf_2 20 rfl rfl)
theorem dX4_partingOf_67 : decode cX4_partingOf 67 = .ok (.istore 6, 2) := dk_54 6 (dk_at dksX4_partingOf_2 21 rfl rfl)
theorem dX4_partingOf_69 : decode cX4_partingOf 69 = .ok (.iload_n 3, 1) := dk_29 (dk_at dksX4_partingOf_2 23 rfl rfl)
theorem dX4_partingOf_70 : decode cX4_partingOf 70 = .ok (.iload 6, 2) := dk_21 6 (dk_at dksX4_partingOf_3 0 rfl rfl)
theorem dX4_partingOf_72 : decode cX4_partingOf 72 = .ok (.ifCond .ge 9, 3) := dk_156 0 9 (dk_at dksX4_partingOf_3 2 rfl rfl)
theorem dX4_partingOf_75 : decode cX4_partingOf 75 = .ok (.iload 6, 2) := dk_21 6 (dk_at dksX4_partingOf_3 5 rfl rfl)
theorem dX4_partingOf_77 : decode cX4_partingOf 77 = .ok (.ineg, 1) := dk_116 (dk_at dksX4_partingOf_3 7 rfl rfl)
theorem dX4_partingOf_78 : decode cX4_partingOf 78 = .ok (.goto 5, 3) := dk_167 0 5 (dk_at dksX4_partingOf_3 8 rfl rfl)
theorem dX4_partingOf_81 : decode cX4_partingOf 81 = .ok (.iload 6, 2) := dk_21 6 (dk_at dksX4_partingOf_3 11 rfl rfl)
theorem dX4_partingOf_83 : decode cX4_partingOf 83 = .ok (.iadd, 1) := dk_96 (dk_at dksX4_partingOf_3 13 rfl rfl)
theorem dX4_partingOf_84 : decode cX4_partingOf 84 = .ok (.istore_n 3, 1) := dk_62 (dk_at dksX4_partingOf_3 14 rfl rfl)
theorem dX4_partingOf_85 : decode cX4_partingOf 85 = .ok (.iinc 5 1, 3) := dk_132 5 1 (dk_at dksX4_partingOf_3 15 rfl rfl)
theorem dX4_partingOf_88 : decode cX4_partingOf 88 = .ok (.goto (-55), 3) := dk_167 255 201 (dk_at dksX4_partingOf_3 18 rfl rfl)
theorem dX4_partingOf_91 : decode cX4_partingOf 91 = .ok (.iinc 4 1, 3) := dk_132 4 1 (dk_at dksX4_partingOf_3 21 rfl rfl)
theorem dX4_partingOf_94 : decode cX4_partingOf 94 = .ok (.goto (-89), 3) := dk_167 255 167 (dk_at dksX4_partingOf_4 0 rfl rfl)
theorem dX4_partingOf_97 : decode cX4_partingOf 97 = .ok (.iload_n 3, 1) := dk_29 (dk_at dksX4_partingOf_4 3 rfl rfl)
theorem dX4_partingOf_98 : decode cX4_partingOf 98 = .ok (.ireturn, 1) := dk_172 (dk_at dksX4_partingOf_4 4 rfl rfl)
abbrev cX4_next : ByteArray := prog_24_method_95_code
def yX4_next : MethodName := ⟨RX4, "next", "(I)I"⟩
def dkwX4_next_3 : List UInt8 := [167, 255, 203, 28, 172]
abbrev dktX4_next_3 : List UInt8 := dkwX4_next_3 ++ []
def dkwX4_next_2 : List UInt8 := [182, 1, 63, 54, 5, 21, 5, 29, 163, 0, 6, 167, 0, 9, 21, 5, 62, 21, 4, 61, 132, 4, 1]
abbrev dktX4_next_2 : List UInt8 := dkwX4_next_2 ++ dktX4_next_3
def dkwX4_next_1 : List UInt8 := [17, 6, 219, 46, 162, 0, 46, 42, 27, 21, 4, 182, 1, 66, 154, 0, 6, 167, 0, 27, 42, 27, 21, 4]
abbrev dktX4_next_1 : List UInt8 := dkwX4_next_1 ++ dktX4_next_2
def dkwX4_next_0 : List UInt8 := [42, 27, 182, 1, 60, 154, 0, 5, 2, 172, 2, 61, 3, 62, 3, 54, 4, 21, 4, 42, 180, 0, 17]
abbrev dktX4_next_0 : List UInt8 := dkwX4_next_0 ++ dktX4_next_1
theorem dksX4_next_0 : cX4_next.data.toList.drop 0 = dktX4_next_0 := by decide +kernel
theorem dksX4_next_1 : cX4_next.data.toList.drop 23 = dktX4_next_1 := dk_seg dksX4_next_0 23 rfl rfl
theorem dksX4_next_2 : cX4_next.data.toList.drop 47 = dktX4_next_2 := dk_seg dksX4_next_1 24 rfl rfl
theorem dksX4_next_3 : cX4_next.data.toList.drop 70 = dktX4_next_3 := dk_seg dksX4_next_2 23 rfl rfl
theorem dX4_next_0 : decode cX4_next 0 = .ok (.aload_n 0, 1) := dk_42 (dk_at dksX4_next_0 0 rfl rfl)
theorem dX4_next_1 : decode cX4_next 1 = .ok (.iload_n 1, 1) := dk_27 (dk_at dksX4_next_0 1 rfl rfl)
theorem dX4_next_2 : decode cX4_next 2 = .ok (.invokevirtual 316, 3) := dk_182 1 60 (dk_at dksX4_next_0 2 rfl rfl)
theorem dX4_next_5 : decode cX4_next 5 = .ok (.ifCond .ne 5, 3) := dk_154 0 5 (dk_at dksX4_next_0 5 rfl rfl)
theorem dX4_next_8 : decode cX4_next 8 = .ok (.iconst (-1), 1) := dk_2 (dk_at dksX4_next_0 8 rfl rfl)
theorem dX4_next_9 : decode cX4_next 9 = .ok (.ireturn, 1) := dk_172 (dk_at dksX4_next_0 9 rfl rfl)
theorem dX4_next_10 : decode cX4_next 10 = .ok (.iconst (-1), 1) := dk_2 (dk_at dksX4_next_0 10 rfl rfl)
theorem dX4_next_11 : decode cX4_next 11 = .ok (.istore_n 2, 1) := dk_61 (dk_at dksX4_next_0 11 rfl rfl)
theorem dX4_next_12 : decode cX4_next 12 = .ok (.iconst 0, 1) := dk_3 (dk_at dksX4_next_0 12 rfl rfl)
theorem dX4_next_13 : decode cX4_next 13 = .ok (.istore_n 3, 1) := dk_62 (dk_at dksX4_next_0 13 rfl rfl)
theorem dX4_next_14 : decode cX4_next 14 = .ok (.iconst 0, 1) := dk_3 (dk_at dksX4_next_0 14 rfl rfl)
theorem dX4_next_15 : decode cX4_next 15 = .ok (.istore 4, 2) := dk_54 4 (dk_at dksX4_next_0 15 rfl rfl)
theorem dX4_next_17 : decode cX4_next 17 = .ok (.iload 4, 2) := dk_21 4 (dk_at dksX4_next_0 17 rfl rfl)
theorem dX4_next_19 : decode cX4_next 19 = .ok (.aload_n 0, 1) := dk_42 (dk_at dksX4_next_0 19 rfl rfl)
theorem dX4_next_20 : decode cX4_next 20 = .ok (.getfield 17, 3) := dk_180 0 17 (dk_at dksX4_next_0 20 rfl rfl)
theorem dX4_next_23 : decode cX4_next 23 = .ok (.sipush 1755, 3) := dk_17 6 219 (dk_at dksX4_next_1 0 rfl rfl)
theorem dX4_next_26 : decode cX4_next 26 = .ok (.iaload, 1) := dk_46 (dk_at dksX4_next_1 3 rfl rfl)
theorem dX4_next_27 : decode cX4_next 27 = .ok (.if_icmp .ge 46, 3) := dk_162 0 46 (dk_at dksX4_next_1 4 rfl rfl)
theorem dX4_next_30 : decode cX4_next 30 = .ok (.aload_n 0, 1) := dk_42 (dk_at dksX4_next_1 7 rfl rfl)
theorem dX4_next_31 : decode cX4_next 31 = .ok (.iload_n 1, 1) := dk_27 (dk_at dksX4_next_1 8 rfl rfl)
theorem dX4_next_32 : decode cX4_next 32 = .ok (.iload 4, 2) := dk_21 4 (dk_at dksX4_next_1 9 rfl rfl)
theorem dX4_next_34 : decode cX4_next 34 = .ok (.invokevirtual 322, 3) := dk_182 1 66 (dk_at dksX4_next_1 11 rfl rfl)
theorem dX4_next_37 : decode cX4_next 37 = .ok (.ifCond .ne 6, 3) := dk_154 0 6 (dk_at dksX4_next_1 14 rfl rfl)
theorem dX4_next_40 : decode cX4_next 40 = .ok (.goto 27, 3) := dk_167 0 27 (dk_at dksX4_next_1 17 rfl rfl)
theorem dX4_next_43 : decode cX4_next 43 = .ok (.aload_n 0, 1) := dk_42 (dk_at dksX4_next_1 20 rfl rfl)
theorem dX4_next_44 : decode cX4_next 44 = .ok (.iload_n 1, 1) := dk_27 (dk_at dksX4_next_1 21 rfl rfl)
theorem dX4_next_45 : decode cX4_next 45 = .ok (.iload 4, 2) := dk_21 4 (dk_at dksX4_next_1 22 rfl rfl)
theorem dX4_next_47 : decode cX4_next 47 = .ok (.invokevirtual 319, 3) := dk_182 1 63 (dk_at dksX4_next_2 0 rfl rfl)
theorem dX4_next_50 : decode cX4_next 50 = .ok (.istore 5, 2) := dk_54 5 (dk_at dksX4_next_2 3 rfl rfl)
theorem dX4_next_52 : decode cX4_next 52 = .ok (.iload 5, 2) := dk_21 5 (dk_at dksX4_next_2 5 rfl rfl)
theorem dX4_next_54 : decode cX4_next 54 = .ok (.iload_n 3, 1) := dk_29 (dk_at dksX4_next_2 7 rfl rfl)
theorem dX4_next_55 : decode cX4_next 55 = .ok (.if_icmp .gt 6, 3) := dk_163 0 6 (dk_at dksX4_next_2 8 rfl rfl)
theorem dX4_next_58 : decode cX4_next 58 = .ok (.goto 9, 3) := dk_167 0 9 (dk_at dksX4_next_2 11 rfl rfl)
theorem dX4_next_61 : decode cX4_next 61 = .ok (.iload 5, 2) := dk_21 5 (dk_at dksX4_next_2 14 rfl rfl)
theorem dX4_next_63 : decode cX4_next 63 = .ok (.istore_n 3, 1) := dk_62 (dk_at dksX4_next_2 16 rfl rfl)
theorem dX4_next_64 : decode cX4_next 64 = .ok (.iload 4, 2) := dk_21 4 (dk_at dksX4_next_2 17 rfl rfl)
theorem dX4_next_66 : decode cX4_next 66 = .ok (.istore_n 2, 1) := dk_61 (dk_at dksX4_next_2 19 rfl rfl)
theorem dX4_next_67 : decode cX4_next 67 = .ok (.iinc 4 1, 3) := dk_132 4 1 (dk_at dksX4_next_2 20 rfl rfl)
theorem dX4_next_70 : decode cX4_next 70 = .ok (.goto (-53), 3) := dk_167 255 203 (dk_at dksX4_next_3 0 rfl rfl)
theorem dX4_next_73 : decode cX4_next 73 = .ok (.iload_n 2, 1) := dk_28 (dk_at dksX4_next_3 3 rfl rfl)
theorem dX4_next_74 : decode cX4_next 74 = .ok (.ireturn, 1) := dk_172 (dk_at dksX4_next_3 4 rfl rfl)
abbrev cX4_areFair : ByteArray := prog_24_method_94_code
def yX4_areFair : MethodName := ⟨RX4, "areFair", "(II)Z"⟩
def dkwX4_areFair_1 : List UInt8 := [29, 28, 182, 1, 39, 154, 0, 5, 3, 172, 132, 3, 1, 167, 255, 221, 4, 172]
abbrev dktX4_areFair_1 : List UInt8 := dkwX4_areFair_1 ++ []
def dkwX4_areFair_0 : List UInt8 := [3, 62, 29, 42, 180, 0, 17, 17, 6, 220, 46, 162, 0, 29, 27, 29, 122, 4, 126, 4, 160, 0, 14, 42]
abbrev dktX4_areFair_0 : List UInt8 := dkwX4_areFair_0 ++ dktX4_areFair_1
theorem dksX4_areFair_0 : cX4_areFair.data.toList.drop 0 = dktX4_areFair_0 := by decide +kernel
theorem dksX4_areFair_1 : cX4_areFair.data.toList.drop 24 = dktX4_areFair_1 := dk_seg dksX4_areFair_0 24 rfl rfl
theorem dX4_areFair_0 : decode cX4_areFair 0 = .ok (.iconst 0, 1) := dk_3 (dk_at dksX4_areFair_0 0 rfl rfl)
theorem dX4_areFair_1 : decode cX4_areFair 1 = .ok (.istore_n 3, 1) := dk_62 (dk_at dksX4_areFair_0 1 rfl rfl)
theorem dX4_areFair_2 : decode cX4_areFair 2 = .ok (.iload_n 3, 1) := dk_29 (dk_at dksX4_areFair_0 2 rfl rfl)
theorem dX4_areFair_3 : decode cX4_areFair 3 = .ok (.aload_n 0, 1) := dk_42 (dk_at dksX4_areFair_0 3 rfl rfl)
theorem dX4_areFair_4 : decode cX4_areFair 4 = .ok (.getfield 17, 3) := dk_180 0 17 (dk_at dksX4_areFair_0 4 rfl rfl)
theorem dX4_areFair_7 : decode cX4_areFair 7 = .ok (.sipush 1756, 3) := dk_17 6 220 (dk_at dksX4_areFair_0 7 rfl rfl)
theorem dX4_areFair_10 : decode cX4_areFair 10 = .ok (.iaload, 1) := dk_46 (dk_at dksX4_areFair_0 10 rfl rfl)
theorem dX4_areFair_11 : decode cX4_areFair 11 = .ok (.if_icmp .ge 29, 3) := dk_162 0 29 (dk_at dksX4_areFair_0 11 rfl rfl)
theorem dX4_areFair_14 : decode cX4_areFair 14 = .ok (.iload_n 1, 1) := dk_27 (dk_at dksX4_areFair_0 14 rfl rfl)
theorem dX4_areFair_15 : decode cX4_areFair 15 = .ok (.iload_n 3, 1) := dk_29 (dk_at dksX4_areFair_0 15 rfl rfl)
theorem dX4_areFair_16 : decode cX4_areFair 16 = .ok (.ishr, 1) := dk_122 (dk_at dksX4_areFair_0 16 rfl rfl)
theorem dX4_areFair_17 : decode cX4_areFair 17 = .ok (.iconst 1, 1) := dk_4 (dk_at dksX4_areFair_0 17 rfl rfl)
theorem dX4_areFair_18 : decode cX4_areFair 18 = .ok (.iand, 1) := dk_126 (dk_at dksX4_areFair_0 18 rfl rfl)
theorem dX4_areFair_19 : decode cX4_areFair 19 = .ok (.iconst 1, 1) := dk_4 (dk_at dksX4_areFair_0 19 rfl rfl)
theorem dX4_areFair_20 : decode cX4_areFair 20 = .ok (.if_icmp .ne 14, 3) := dk_160 0 14 (dk_at dksX4_areFair_0 20 rfl rfl)
theorem dX4_areFair_23 : decode cX4_areFair 23 = .ok (.aload_n 0, 1) := dk_42 (dk_at dksX4_areFair_0 23 rfl rfl)
theorem dX4_areFair_24 : decode cX4_areFair 24 = .ok (.iload_n 3, 1) := dk_29 (dk_at dksX4_areFair_1 0 rfl rfl)
theorem dX4_areFair_25 : decode cX4_areFair 25 = .ok (.iload_n 2, 1) := dk_28 (dk_at dksX4_areFair_1 1 rfl rfl)
theorem dX4_areFair_26 : decode cX4_areFair 26 = .ok (.invokevirtual 295, 3) := dk_182 1 39 (dk_at dksX4_areFair_1 2 rfl rfl)
theorem dX4_areFair_29 : decode cX4_areFair 29 = .ok (.ifCond .ne 5, 3) := dk_154 0 5 (dk_at dksX4_areFair_1 5 rfl rfl)
theorem dX4_areFair_32 : decode cX4_areFair 32 = .ok (.iconst 0, 1) := dk_3 (dk_at dksX4_areFair_1 8 rfl rfl)
theorem dX4_areFair_33 : decode cX4_areFair 33 = .ok (.ireturn, 1) := dk_172 (dk_at dksX4_areFair_1 9 rfl rfl)
theorem dX4_areFair_34 : decode cX4_areFair 34 = .ok (.iinc 3 1, 3) := dk_132 3 1 (dk_at dksX4_areFair_1 10 rfl rfl)
theorem dX4_areFair_37 : decode cX4_areFair 37 = .ok (.goto (-35), 3) := dk_167 255 221 (dk_at dksX4_areFair_1 13 rfl rfl)
theorem dX4_areFair_40 : decode cX4_areFair 40 = .ok (.iconst 1, 1) := dk_4 (dk_at dksX4_areFair_1 16 rfl rfl)
theorem dX4_areFair_41 : decode cX4_areFair 41 = .ok (.ireturn, 1) := dk_172 (dk_at dksX4_areFair_1 17 rfl rfl)
abbrev cX4_telling : ByteArray := prog_24_method_98_code
def yX4_telling : MethodName := ⟨RX4, "telling", "(II)I"⟩
def dkwX4_telling_1 : List UInt8 := [62, 28, 154, 0, 7, 29, 167, 0, 7, 42, 180, 1, 72, 172]
abbrev dktX4_telling_1 : List UInt8 := dkwX4_telling_1 ++ []
def dkwX4_telling_0 : List UInt8 := [42, 27, 182, 1, 60, 153, 0, 12, 28, 3, 4, 184, 0, 74, 154, 0, 5, 2, 172, 42, 27, 182, 1, 75]
abbrev dktX4_telling_0 : List UInt8 := dkwX4_telling_0 ++ dktX4_telling_1
theorem dksX4_telling_0 : cX4_telling.data.toList.drop 0 = dktX4_telling_0 := by decide +kernel
theorem dksX4_telling_1 : cX4_telling.data.toList.drop 24 = dktX4_telling_1 := dk_seg dksX4_telling_0 24 rfl rfl
theorem dX4_telling_0 : decode cX4_telling 0 = .ok (.aload_n 0, 1) := dk_42 (dk_at dksX4_telling_0 0 rfl rfl)
theorem dX4_telling_1 : decode cX4_telling 1 = .ok (.iload_n 1, 1) := dk_27 (dk_at dksX4_telling_0 1 rfl rfl)
theorem dX4_telling_2 : decode cX4_telling 2 = .ok (.invokevirtual 316, 3) := dk_182 1 60 (dk_at dksX4_telling_0 2 rfl rfl)
theorem dX4_telling_5 : decode cX4_telling 5 = .ok (.ifCond .eq 12, 3) := dk_153 0 12 (dk_at dksX4_telling_0 5 rfl rfl)
theorem dX4_telling_8 : decode cX4_telling 8 = .ok (.iload_n 2, 1) := dk_28 (dk_at dksX4_telling_0 8 rfl rfl)
theorem dX4_telling_9 : decode cX4_telling 9 = .ok (.iconst 0, 1) := dk_3 (dk_at dksX4_telling_0 9 rfl rfl)
theorem dX4_telling_10 : decode cX4_telling 10 = .ok (.iconst 1, 1) := dk_4 (dk_at dksX4_telling_0 10 rfl rfl)
theorem dX4_telling_11 : decode cX4_telling 11 = .ok (.invokestatic 74, 3) := dk_184 0 74 (dk_at dksX4_telling_0 11 rfl rfl)
theorem dX4_telling_14 : decode cX4_telling 14 = .ok (.ifCond .ne 5, 3) := dk_154 0 5 (dk_at dksX4_telling_0 14 rfl rfl)
theorem dX4_telling_17 : decode cX4_telling 17 = .ok (.iconst (-1), 1) := dk_2 (dk_at dksX4_telling_0 17 rfl rfl)
theorem dX4_telling_18 : decode cX4_telling 18 = .ok (.ireturn, 1) := dk_172 (dk_at dksX4_telling_0 18 rfl rfl)
theorem dX4_telling_19 : decode cX4_telling 19 = .ok (.aload_n 0, 1) := dk_42 (dk_at dksX4_telling_0 19 rfl rfl)
theorem dX4_telling_20 : decode cX4_telling 20 = .ok (.iload_n 1, 1) := dk_27 (dk_at dksX4_telling_0 20 rfl rfl)
theorem dX4_telling_21 : decode cX4_telling 21 = .ok (.invokevirtual 331, 3) := dk_182 1 75 (dk_at dksX4_telling_0 21 rfl rfl)
theorem dX4_telling_24 : decode cX4_telling 24 = .ok (.istore_n 3, 1) := dk_62 (dk_at dksX4_telling_1 0 rfl rfl)
theorem dX4_telling_25 : decode cX4_telling 25 = .ok (.iload_n 2, 1) := dk_28 (dk_at dksX4_telling_1 1 rfl rfl)
theorem dX4_telling_26 : decode cX4_telling 26 = .ok (.ifCond .ne 7, 3) := dk_154 0 7 (dk_at dksX4_telling_1 2 rfl rfl)
theorem dX4_telling_29 : decode cX4_telling 29 = .ok (.iload_n 3, 1) := dk_29 (dk_at dksX4_telling_1 5 rfl rfl)
theorem dX4_telling_30 : decode cX4_telling 30 = .ok (.goto 7, 3) := dk_167 0 7 (dk_at dksX4_telling_1 6 rfl rfl)
theorem dX4_telling_33 : decode cX4_telling 33 = .ok (.aload_n 0, 1) := dk_42 (dk_at dksX4_telling_1 9 rfl rfl)
theorem dX4_telling_34 : decode cX4_telling 34 = .ok (.getfield 328, 3) := dk_180 1 72 (dk_at dksX4_telling_1 10 rfl rfl)
theorem dX4_telling_37 : decode cX4_telling 37 = .ok (.ireturn, 1) := dk_172 (dk_at dksX4_telling_1 13 rfl rfl)
abbrev cX4_tellingOf : ByteArray := prog_24_method_97_code
def yX4_tellingOf : MethodName := ⟨RX4, "tellingOf", "(I)I"⟩
def dkwX4_tellingOf_8 : List UInt8 := [167, 255, 83, 42, 180, 0, 65, 27, 46, 172]
abbrev dktX4_tellingOf_8 : List UInt8 := dkwX4_tellingOf_8 ++ []
def dkwX4_tellingOf_7 : List UInt8 := [167, 255, 126, 42, 180, 0, 65, 28, 29, 2, 160, 0, 7, 3, 167, 0, 4, 29, 79, 132, 2, 1]
abbrev dktX4_tellingOf_7 : List UInt8 := dkwX4_tellingOf_7 ++ dktX4_tellingOf_8
def dkwX4_tellingOf_6 : List UInt8 := [161, 0, 6, 167, 0, 17, 21, 7, 62, 28, 27, 160, 0, 9, 42, 21, 4, 181, 1, 72, 132, 4, 1]
abbrev dktX4_tellingOf_6 : List UInt8 := dkwX4_tellingOf_6 ++ dktX4_tellingOf_7
def dkwX4_tellingOf_5 : List UInt8 := [46, 167, 0, 10, 42, 180, 0, 65, 21, 6, 46, 96, 54, 7, 29, 2, 159, 0, 12, 21, 7, 29]
abbrev dktX4_tellingOf_5 : List UInt8 := dkwX4_tellingOf_5 ++ dktX4_tellingOf_6
def dkwX4_tellingOf_4 : List UInt8 := [4, 42, 180, 0, 65, 21, 5, 46, 42, 180, 0, 65, 21, 6, 46, 164, 0, 13, 42, 180, 0, 65, 21, 5]
abbrev dktX4_tellingOf_4 : List UInt8 := dkwX4_tellingOf_4 ++ dktX4_tellingOf_5
def dkwX4_tellingOf_3 : List UInt8 := [42, 180, 0, 68, 21, 4, 46, 2, 159, 0, 82, 21, 5, 153, 0, 77, 21, 6, 154, 0, 6, 167, 0, 69]
abbrev dktX4_tellingOf_3 : List UInt8 := dkwX4_tellingOf_3 ++ dktX4_tellingOf_4
def dkwX4_tellingOf_2 : List UInt8 := [28, 42, 180, 0, 68, 21, 4, 46, 126, 54, 5, 28, 42, 180, 0, 68, 21, 4, 46, 2, 130, 126, 54, 6]
abbrev dktX4_tellingOf_2 : List UInt8 := dkwX4_tellingOf_2 ++ dktX4_tellingOf_3
def dkwX4_tellingOf_1 : List UInt8 := [153, 0, 6, 167, 0, 157, 2, 62, 3, 54, 4, 21, 4, 42, 180, 0, 17, 17, 6, 219, 46, 162, 0, 123]
abbrev dktX4_tellingOf_1 : List UInt8 := dkwX4_tellingOf_1 ++ dktX4_tellingOf_2
def dkwX4_tellingOf_0 : List UInt8 := [42, 27, 182, 1, 69, 42, 2, 181, 1, 72, 4, 61, 28, 27, 163, 0, 174, 28, 27, 2, 130, 126]
abbrev dktX4_tellingOf_0 : List UInt8 := dkwX4_tellingOf_0 ++ dktX4_tellingOf_1
theorem dksX4_tellingOf_0 : cX4_tellingOf.data.toList.drop 0 = dktX4_tellingOf_0 := by decide +kernel
theorem dksX4_tellingOf_1 : cX4_tellingOf.data.toList.drop 22 = dktX4_tellingOf_1 := dk_seg dksX4_tellingOf_0 22 rfl rfl
theorem dksX4_tellingOf_2 : cX4_tellingOf.data.toList.drop 46 = dktX4_tellingOf_2 := dk_seg dksX4_tellingOf_1 24 rfl rfl
theorem dksX4_tellingOf_3 : cX4_tellingOf.data.toList.drop 70 = dktX4_tellingOf_3 := dk_seg dksX4_tellingOf_2 24 rfl rfl
theorem dksX4_tellingOf_4 : cX4_tellingOf.data.toList.drop 94 = dktX4_tellingOf_4 := dk_seg dksX4_tellingOf_3 24 rfl rfl
theorem dksX4_tellingOf_5 : cX4_tellingOf.data.toList.drop 118 = dktX4_tellingOf_5 := dk_seg dksX4_tellingOf_4 24 rfl rfl
theorem dksX4_tellingOf_6 : cX4_tellingOf.data.toList.drop 140 = dktX4_tellingOf_6 := dk_seg dksX4_tellingOf_5 22 rfl rfl
theorem dksX4_tellingOf_7 : cX4_tellingOf.data.toList.drop 163 = dktX4_tellingOf_7 := dk_seg dksX4_tellingOf_6 23 rfl rfl
theorem dksX4_tellingOf_8 : cX4_tellingOf.data.toList.drop 185 = dktX4_tellingOf_8 := dk_seg dksX4_tellingOf_7 22 rfl rfl
theorem dX4_tellingOf_0 : decode cX4_tellingOf 0 = .ok (.aload_n 0, 1) := dk_42 (dk_at dksX4_tellingOf_0 0 rfl rfl)
theorem dX4_tellingOf_1 : decode cX4_tellingOf 1 = .ok (.iload_n 1, 1) := dk_27 (dk_at dksX4_tellingOf_0 1 rfl rfl)
theorem dX4_tellingOf_2 : decode cX4_tellingOf 2 = .ok (.invokevirtual 325, 3) := dk_182 1 69 (dk_at dksX4_tellingOf_0 2 rfl rfl)
theorem dX4_tellingOf_5 : decode cX4_tellingOf 5 = .ok (.aload_n 0, 1) := dk_42 (dk_at dksX4_tellingOf_0 5 rfl rfl)
theorem dX4_tellingOf_6 : decode cX4_tellingOf 6 = .ok (.iconst (-1), 1) := dk_2 (dk_at dksX4_tellingOf_0 6 rfl rfl)
theorem dX4_tellingOf_7 : decode cX4_tellingOf 7 = .ok (.putfield 328, 3) := dk_181 1 72 (dk_at dksX4_tellingOf_0 7 rfl rfl)
theorem dX4_tellingOf_10 : decode cX4_tellingOf 10 = .ok (.iconst 1, 1) := dk_4 (dk_at dksX4_tellingOf_0 10 rfl rfl)
theorem dX4_tellingOf_11 : decode cX4_tellingOf 11 = .ok (.istore_n 2, 1) := dk_61 (dk_at dksX4_tellingOf_0 11 rfl rfl)
theorem dX4_tellingOf_12 : decode cX4_tellingOf 12 = .ok (.iload_n 2, 1) := dk_28 (dk_at dksX4_tellingOf_0 12 rfl rfl)
theorem dX4_tellingOf_13 : decode cX4_tellingOf 13 = .ok (.iload_n 1, 1) := dk_27 (dk_at dksX4_tellingOf_0 13 rfl rfl)
theorem dX4_tellingOf_14 : decode cX4_tellingOf 14 = .ok (.if_icmp .gt 174, 3) := dk_163 0 174 (dk_at dksX4_tellingOf_0 14 rfl rfl)
theorem dX4_tellingOf_17 : decode cX4_tellingOf 17 = .ok (.iload_n 2, 1) := dk_28 (dk_at dksX4_tellingOf_0 17 rfl rfl)
theorem dX4_tellingOf_18 : decode cX4_tellingOf 18 = .ok (.iload_n 1, 1) := dk_27 (dk_at dksX4_tellingOf_0 18 rfl rfl)
theorem dX4_tellingOf_19 : decode cX4_tellingOf 19 = .ok (.iconst (-1), 1) := dk_2 (dk_at dksX4_tellingOf_0 19 rfl rfl)
theorem dX4_tellingOf_20 : decode cX4_tellingOf 20 = .ok (.ixor, 1) := dk_130 (dk_at dksX4_tellingOf_0 20 rfl rfl)
theorem dX4_tellingOf_21 : decode cX4_tellingOf 21 = .ok (.iand, 1) := dk_126 (dk_at dksX4_tellingOf_0 21 rfl rfl)
theorem dX4_tellingOf_22 : decode cX4_tellingOf 22 = .ok (.ifCond .eq 6, 3) := dk_153 0 6 (dk_at dksX4_tellingOf_1 0 rfl rfl)
theorem dX4_tellingOf_25 : decode cX4_tellingOf 25 = .ok (.goto 157, 3) := dk_167 0 157 (dk_at dksX4_tellingOf_1 3 rfl rfl)
theorem dX4_tellingOf_28 : decode cX4_tellingOf 28 = .ok (.iconst (-1), 1) := dk_2 (dk_at dksX4_tellingOf_1 6 rfl rfl)
theorem dX4_tellingOf_29 : decode cX4_tellingOf 29 = .ok (.istore_n 3, 1) := dk_62 (dk_at dksX4_tellingOf_1 7 rfl rfl)
theorem dX4_tellingOf_30 : decode cX4_tellingOf 30 = .ok (.iconst 0, 1) := dk_3 (dk_at dksX4_tellingOf_1 8 rfl rfl)
theorem dX4_tellingOf_31 : decode cX4_tellingOf 31 = .ok (.istore 4, 2) := dk_54 4 (dk_at dksX4_tellingOf_1 9 rfl rfl)
theorem dX4_tellingOf_33 : decode cX4_tellingOf 33 = .ok (.iload 4, 2) := dk_21 4 (dk_at dksX4_tellingOf_1 11 rfl rfl)
theorem dX4_tellingOf_35 : decode cX4_tellingOf 35 = .ok (.aload_n 0, 1) := dk_42 (dk_at dksX4_tellingOf_1 13 rfl rfl)
theorem dX4_tellingOf_36 : decode cX4_tellingOf 36 = .ok (.getfield 17, 3) := dk_180 0 17 (dk_at dksX4_tellingOf_1 14 rfl rfl)
theorem dX4_tellingOf_39 : decode cX4_tellingOf 39 = .ok (.sipush 1755, 3) := dk_17 6 219 (dk_at dksX4_tellingOf_1 17 rfl rfl)
theorem dX4_tellingOf_42 : decode cX4_tellingOf 42 = .ok (.iaload, 1) := dk_46 (dk_at dksX4_tellingOf_1 20 rfl rfl)
theorem dX4_tellingOf_43 : decode cX4_tellingOf 43 = .ok (.if_icmp .ge 123, 3) := dk_162 0 123 (dk_at dksX4_tellingOf_1 21 rfl rfl)
theorem dX4_tellingOf_46 : decode cX4_tellingOf 46 = .ok (.iload_n 2, 1) := dk_28 (dk_at dksX4_tellingOf_2 0 rfl rfl)
theorem dX4_tellingOf_47 : decode cX4_tellingOf 47 = .ok (.aload_n 0, 1) := dk_42 (dk_at dksX4_tellingOf_2 1 rfl rfl)
theorem dX4_tellingOf_48 : decode cX4_tellingOf 48 = .ok (.getfield 68, 3) := dk_180 0 68 (dk_at dksX4_tellingOf_2 2 rfl rfl)
theorem dX4_tellingOf_51 : decode cX4_tellingOf 51 = .ok (.iload 4, 2) := dk_21 4 (dk_at dksX4_tellingOf_2 5 rfl rfl)
theorem dX4_tellingOf_53 : decode cX4_tellingOf 53 = .ok (.iaload, 1) := dk_46 (dk_at dksX4_tellingOf_2 7 rfl rfl)
theorem dX4_tellingOf_54 : decode cX4_tellingOf 54 = .ok (.iand, 1) := dk_126 (dk_at dksX4_tellingOf_2 8 rfl rfl)
theorem dX4_tellingOf_55 : decode cX4_tellingOf 55 = .ok (.istore 5, 2) := dk_54 5 (dk_at dksX4_tellingOf_2 9 rfl rfl)
theorem dX4_tellingOf_57 : decode cX4_tellingOf 57 = .ok (.iload_n 2, 1) := dk_28 (dk_at dksX4_tellingOf_2 11 rfl rfl)
theorem dX4_tellingOf_58 : decode cX4_tellingOf 58 = .ok (.aload_n 0, 1) := dk_42 (dk_at dksX4_tellingOf_2 12 rfl rfl)
theorem dX4_tellingOf_59 : decode cX4_tellingOf 59 = .ok (.getfield 68, 3) := dk_180 0 68 (dk_at dksX4_tellingOf_2 13 rfl rfl)
theorem dX4_tellingOf_62 : decode cX4_tellingOf 62 = .ok (.iload 4, 2) := dk_21 4 (dk_at dksX4_tellingOf_2 16 rfl rfl)
theorem dX4_tellingOf_64 : decode cX4_tellingOf 64 = .ok (.iaload, 1) := dk_46 (dk_at dksX4_tellingOf_2 18 rfl rfl)
theorem dX4_tellingOf_65 : decode cX4_tellingOf 65 = .ok (.iconst (-1), 1) := dk_2 (dk_at dksX4_tellingOf_2 19 rfl rfl)
theorem dX4_tellingOf_66 : decode cX4_tellingOf 66 = .ok (.ixor, 1) := dk_130 (dk_at dksX4_tellingOf_2 20 rfl rfl)
theorem dX4_tellingOf_67 : decode cX4_tellingOf 67 = .ok (.iand, 1) := dk_126 (dk_at dksX4_tellingOf_2 21 rfl rfl)
theorem dX4_tellingOf_68 : decode cX4_tellingOf 68 = .ok (.istore 6, 2) := dk_54 6 (dk_at dksX4_tellingOf_2 22 rfl rfl)
theorem dX4_tellingOf_70 : decode cX4_tellingOf 70 = .ok (.aload_n 0, 1) := dk_42 (dk_at dksX4_tellingOf_3 0 rfl rfl)
theorem dX4_tellingOf_71 : decode cX4_tellingOf 71 = .ok (.getfield 68, 3) := dk_180 0 68 (dk_at dksX4_tellingOf_3 1 rfl rfl)
theorem dX4_tellingOf_74 : decode cX4_tellingOf 74 = .ok (.iload 4, 2) := dk_21 4 (dk_at dksX4_tellingOf_3 4 rfl rfl)
theorem dX4_tellingOf_76 : decode cX4_tellingOf 76 = .ok (.iaload, 1) := dk_46 (dk_at dksX4_tellingOf_3 6 rfl rfl)
theorem dX4_tellingOf_77 : decode cX4_tellingOf 77 = .ok (.iconst (-1), 1) := dk_2 (dk_at dksX4_tellingOf_3 7 rfl rfl)
theorem dX4_tellingOf_78 : decode cX4_tellingOf 78 = .ok (.if_icmp .eq 82, 3) := dk_159 0 82 (dk_at dksX4_tellingOf_3 8 rfl rfl)
theorem dX4_tellingOf_81 : decode cX4_tellingOf 81 = .ok (.iload 5, 2) := dk_21 5 (dk_at dksX4_tellingOf_3 11 rfl rfl)
theorem dX4_tellingOf_83 : decode cX4_tellingOf 83 = .ok (.ifCond .eq 77, 3) := dk_153 0 77 (dk_at dksX4_tellingOf_3 13 rfl rfl)
theorem dX4_tellingOf_86 : decode cX4_tellingOf 86 = .ok (.iload 6, 2) := dk_21 6 (dk_at dksX4_tellingOf_3 16 rfl rfl)
theorem dX4_tellingOf_88 : decode cX4_tellingOf 88 = .ok (.ifCond .ne 6, 3) := dk_154 0 6 (dk_at dksX4_tellingOf_3 18 rfl rfl)
theorem dX4_tellingOf_91 : decode cX4_tellingOf 91 = .ok (.goto 69, 3) := dk_167 0 69 (dk_at dksX4_tellingOf_3 21 rfl rfl)
theorem dX4_tellingOf_94 : decode cX4_tellingOf 94 = .ok (.iconst 1, 1) := dk_4 (dk_at dksX4_tellingOf_4 0 rfl rfl)
theorem dX4_tellingOf_95 : decode cX4_tellingOf 95 = .ok (.aload_n 0, 1) := dk_42 (dk_at dksX4_tellingOf_4 1 rfl rfl)
theorem dX4_tellingOf_96 : decode cX4_tellingOf 96 = .ok (.getfield 65, 3) := dk_180 0 65 (dk_at dksX4_tellingOf_4 2 rfl rfl)
theorem dX4_tellingOf_99 : decode cX4_tellingOf 99 = .ok (.iload 5, 2) := dk_21 5 (dk_at dksX4_tellingOf_4 5 rfl rfl)
theorem dX4_tellingOf_101 : decode cX4_tellingOf 101 = .ok (.iaload, 1) := dk_46 (dk_at dksX4_tellingOf_4 7 rfl rfl)
theorem dX4_tellingOf_102 : decode cX4_tellingOf 102 = .ok (.aload_n 0, 1) := dk_42 (dk_at dksX4_tellingOf_4 8 rfl rfl)
theorem dX4_tellingOf_103 : decode cX4_tellingOf 103 = .ok (.getfield 65, 3) := dk_180 0 65 (dk_at dksX4_tellingOf_4 9 rfl rfl)
theorem dX4_tellingOf_106 : decode cX4_tellingOf 106 = .ok (.iload 6, 2) := dk_21 6 (dk_at dksX4_tellingOf_4 12 rfl rfl)
theorem dX4_tellingOf_108 : decode cX4_tellingOf 108 = .ok (.iaload, 1) := dk_46 (dk_at dksX4_tellingOf_4 14 rfl rfl)
theorem dX4_tellingOf_109 : decode cX4_tellingOf 109 = .ok (.if_icmp .le 13, 3) := dk_164 0 13 (dk_at dksX4_tellingOf_4 15 rfl rfl)
theorem dX4_tellingOf_112 : decode cX4_tellingOf 112 = .ok (.aload_n 0, 1) := dk_42 (dk_at dksX4_tellingOf_4 18 rfl rfl)
theorem dX4_tellingOf_113 : decode cX4_tellingOf 113 = .ok (.getfield 65, 3) := dk_180 0 65 (dk_at dksX4_tellingOf_4 19 rfl rfl)
theorem dX4_tellingOf_116 : decode cX4_tellingOf 116 = .ok (.iload 5, 2) := dk_21 5 (dk_at dksX4_tellingOf_4 22 rfl rfl)
theorem dX4_tellingOf_118 : decode cX4_tellingOf 118 = .ok (.iaload, 1) := dk_46 (dk_at dksX4_tellingOf_5 0 rfl rfl)
theorem dX4_tellingOf_119 : decode cX4_tellingOf 119 = .ok (.goto 10, 3) := dk_167 0 10 (dk_at dksX4_tellingOf_5 1 rfl rfl)
theorem dX4_tellingOf_122 : decode cX4_tellingOf 122 = .ok (.aload_n 0, 1) := dk_42 (dk_at dksX4_tellingOf_5 4 rfl rfl)
theorem dX4_tellingOf_123 : decode cX4_tellingOf 123 = .ok (.getfield 65, 3) := dk_180 0 65 (dk_at dksX4_tellingOf_5 5 rfl rfl)
theorem dX4_tellingOf_126 : decode cX4_tellingOf 126 = .ok (.iload 6, 2) := dk_21 6 (dk_at dksX4_tellingOf_5 8 rfl rfl)
theorem dX4_tellingOf_128 : decode cX4_tellingOf 128 = .ok (.iaload, 1) := dk_46 (dk_at dksX4_tellingOf_5 10 rfl rfl)
theorem dX4_tellingOf_129 : decode cX4_tellingOf 129 = .ok (.iadd, 1) := dk_96 (dk_at dksX4_tellingOf_5 11 rfl rfl)
theorem dX4_tellingOf_130 : decode cX4_tellingOf 130 = .ok (.istore 7, 2) := dk_54 7 (dk_at dksX4_tellingOf_5 12 rfl rfl)
theorem dX4_tellingOf_132 : decode cX4_tellingOf 132 = .ok (.iload_n 3, 1) := dk_29 (dk_at dksX4_tellingOf_5 14 rfl rfl)
theorem dX4_tellingOf_133 : decode cX4_tellingOf 133 = .ok (.iconst (-1), 1) := dk_2 (dk_at dksX4_tellingOf_5 15 rfl rfl)
theorem dX4_tellingOf_134 : decode cX4_tellingOf 134 = .ok (.if_icmp .eq 12, 3) := dk_159 0 12 (dk_at dksX4_tellingOf_5 16 rfl rfl)
theorem dX4_tellingOf_137 : decode cX4_tellingOf 137 = .ok (.iload 7, 2) := dk_21 7 (dk_at dksX4_tellingOf_5 19 rfl rfl)
theorem dX4_tellingOf_139 : decode cX4_tellingOf 139 = .ok (.iload_n 3, 1) := dk_29 (dk_at dksX4_tellingOf_5 21 rfl rfl)
theorem dX4_tellingOf_140 : decode cX4_tellingOf 140 = .ok (.if_icmp .lt 6, 3) := dk_161 0 6 (dk_at dksX4_tellingOf_6 0 rfl rfl)
theorem dX4_tellingOf_143 : decode cX4_tellingOf 143 = .ok (.goto 17, 3) := dk_167 0 17 (dk_at dksX4_tellingOf_6 3 rfl rfl)
theorem dX4_tellingOf_146 : decode cX4_tellingOf 146 = .ok (.iload 7, 2) := dk_21 7 (dk_at dksX4_tellingOf_6 6 rfl rfl)
theorem dX4_tellingOf_148 : decode cX4_tellingOf 148 = .ok (.istore_n 3, 1) := dk_62 (dk_at dksX4_tellingOf_6 8 rfl rfl)
theorem dX4_tellingOf_149 : decode cX4_tellingOf 149 = .ok (.iload_n 2, 1) := dk_28 (dk_at dksX4_tellingOf_6 9 rfl rfl)
theorem dX4_tellingOf_150 : decode cX4_tellingOf 150 = .ok (.iload_n 1, 1) := dk_27 (dk_at dksX4_tellingOf_6 10 rfl rfl)
theorem dX4_tellingOf_151 : decode cX4_tellingOf 151 = .ok (.if_icmp .ne 9, 3) := dk_160 0 9 (dk_at dksX4_tellingOf_6 11 rfl rfl)
theorem dX4_tellingOf_154 : decode cX4_tellingOf 154 = .ok (.aload_n 0, 1) := dk_42 (dk_at dksX4_tellingOf_6 14 rfl rfl)
theorem dX4_tellingOf_155 : decode cX4_tellingOf 155 = .ok (.iload 4, 2) := dk_21 4 (dk_at dksX4_tellingOf_6 15 rfl rfl)
theorem dX4_tellingOf_157 : decode cX4_tellingOf 157 = .ok (.putfield 328, 3) := dk_181 1 72 (dk_at dksX4_tellingOf_6 17 rfl rfl)
theorem dX4_tellingOf_160 : decode cX4_tellingOf 160 = .ok (.iinc 4 1, 3) := dk_132 4 1 (dk_at dksX4_tellingOf_6 20 rfl rfl)
theorem dX4_tellingOf_163 : decode cX4_tellingOf 163 = .ok (.goto (-130), 3) := dk_167 255 126 (dk_at dksX4_tellingOf_7 0 rfl rfl)
theorem dX4_tellingOf_166 : decode cX4_tellingOf 166 = .ok (.aload_n 0, 1) := dk_42 (dk_at dksX4_tellingOf_7 3 rfl rfl)
theorem dX4_tellingOf_167 : decode cX4_tellingOf 167 = .ok (.getfield 65, 3) := dk_180 0 65 (dk_at dksX4_tellingOf_7 4 rfl rfl)
theorem dX4_tellingOf_170 : decode cX4_tellingOf 170 = .ok (.iload_n 2, 1) := dk_28 (dk_at dksX4_tellingOf_7 7 rfl rfl)
theorem dX4_tellingOf_171 : decode cX4_tellingOf 171 = .ok (.iload_n 3, 1) := dk_29 (dk_at dksX4_tellingOf_7 8 rfl rfl)
theorem dX4_tellingOf_172 : decode cX4_tellingOf 172 = .ok (.iconst (-1), 1) := dk_2 (dk_at dksX4_tellingOf_7 9 rfl rfl)
theorem dX4_tellingOf_173 : decode cX4_tellingOf 173 = .ok (.if_icmp .ne 7, 3) := dk_160 0 7 (dk_at dksX4_tellingOf_7 10 rfl rfl)
theorem dX4_tellingOf_176 : decode cX4_tellingOf 176 = .ok (.iconst 0, 1) := dk_3 (dk_at dksX4_tellingOf_7 13 rfl rfl)
theorem dX4_tellingOf_177 : decode cX4_tellingOf 177 = .ok (.goto 4, 3) := dk_167 0 4 (dk_at dksX4_tellingOf_7 14 rfl rfl)
theorem dX4_tellingOf_180 : decode cX4_tellingOf 180 = .ok (.iload_n 3, 1) := dk_29 (dk_at dksX4_tellingOf_7 17 rfl rfl)
theorem dX4_tellingOf_181 : decode cX4_tellingOf 181 = .ok (.iastore, 1) := dk_79 (dk_at dksX4_tellingOf_7 18 rfl rfl)
theorem dX4_tellingOf_182 : decode cX4_tellingOf 182 = .ok (.iinc 2 1, 3) := dk_132 2 1 (dk_at dksX4_tellingOf_7 19 rfl rfl)
theorem dX4_tellingOf_185 : decode cX4_tellingOf 185 = .ok (.goto (-173), 3) := dk_167 255 83 (dk_at dksX4_tellingOf_8 0 rfl rfl)
theorem dX4_tellingOf_188 : decode cX4_tellingOf 188 = .ok (.aload_n 0, 1) := dk_42 (dk_at dksX4_tellingOf_8 3 rfl rfl)
theorem dX4_tellingOf_189 : decode cX4_tellingOf 189 = .ok (.getfield 65, 3) := dk_180 0 65 (dk_at dksX4_tellingOf_8 4 rfl rfl)
theorem dX4_tellingOf_192 : decode cX4_tellingOf 192 = .ok (.iload_n 1, 1) := dk_27 (dk_at dksX4_tellingOf_8 7 rfl rfl)
theorem dX4_tellingOf_193 : decode cX4_tellingOf 193 = .ok (.iaload, 1) := dk_46 (dk_at dksX4_tellingOf_8 8 rfl rfl)
theorem dX4_tellingOf_194 : decode cX4_tellingOf 194 = .ok (.ireturn, 1) := dk_172 (dk_at dksX4_tellingOf_8 9 rfl rfl)
abbrev cX4_lays : ByteArray := prog_24_method_96_code
def yX4_lays : MethodName := ⟨RX4, "lays", "(I)V"⟩
def dkwX4_lays_5 : List UInt8 := [132, 2, 1, 167, 255, 139, 177]
abbrev dktX4_lays_5 : List UInt8 := dkwX4_lays_5 ++ []
def dkwX4_lays_4 : List UInt8 := [132, 5, 1, 167, 255, 181, 42, 180, 0, 68, 28, 21, 4, 153, 0, 7, 29, 167, 0, 4, 2, 79]
abbrev dktX4_lays_4 : List UInt8 := dkwX4_lays_4 ++ dktX4_lays_5
def dkwX4_lays_3 : List UInt8 := [160, 0, 7, 4, 167, 0, 4, 3, 54, 4, 21, 6, 16, 100, 160, 0, 10, 29, 4, 21, 5, 120, 128, 62]
abbrev dktX4_lays_3 : List UInt8 := dkwX4_lays_3 ++ dktX4_lays_4
def dkwX4_lays_2 : List UInt8 := [21, 5, 28, 182, 1, 36, 54, 6, 21, 4, 153, 0, 19, 21, 6, 153, 0, 10, 21, 6, 16, 100]
abbrev dktX4_lays_2 : List UInt8 := dkwX4_lays_2 ++ dktX4_lays_3
def dkwX4_lays_1 : List UInt8 := [42, 180, 0, 17, 17, 6, 220, 46, 162, 0, 68, 27, 21, 5, 122, 4, 126, 154, 0, 6, 167, 0, 50, 42]
abbrev dktX4_lays_1 : List UInt8 := dkwX4_lays_1 ++ dktX4_lays_2
def dkwX4_lays_0 : List UInt8 := [3, 61, 28, 42, 180, 0, 17, 17, 6, 219, 46, 162, 0, 111, 3, 62, 4, 54, 4, 3, 54, 5, 21, 5]
abbrev dktX4_lays_0 : List UInt8 := dkwX4_lays_0 ++ dktX4_lays_1
theorem dksX4_lays_0 : cX4_lays.data.toList.drop 0 = dktX4_lays_0 := by decide +kernel
theorem dksX4_lays_1 : cX4_lays.data.toList.drop 24 = dktX4_lays_1 := dk_seg dksX4_lays_0 24 rfl rfl
theorem dksX4_lays_2 : cX4_lays.data.toList.drop 48 = dktX4_lays_2 := dk_seg dksX4_lays_1 24 rfl rfl
theorem dksX4_lays_3 : cX4_lays.data.toList.drop 70 = dktX4_lays_3 := dk_seg dksX4_lays_2 22 rfl rfl
theorem dksX4_lays_4 : cX4_lays.data.toList.drop 94 = dktX4_lays_4 := dk_seg dksX4_lays_3 24 rfl rfl
theorem dksX4_lays_5 : cX4_lays.data.toList.drop 116 = dktX4_lays_5 := dk_seg dksX4_lays_4 22 rfl rfl
theorem dX4_lays_0 : decode cX4_lays 0 = .ok (.iconst 0, 1) := dk_3 (dk_at dksX4_lays_0 0 rfl rfl)
theorem dX4_lays_1 : decode cX4_lays 1 = .ok (.istore_n 2, 1) := dk_61 (dk_at dksX4_lays_0 1 rfl rfl)
theorem dX4_lays_2 : decode cX4_lays 2 = .ok (.iload_n 2, 1) := dk_28 (dk_at dksX4_lays_0 2 rfl rfl)
theorem dX4_lays_3 : decode cX4_lays 3 = .ok (.aload_n 0, 1) := dk_42 (dk_at dksX4_lays_0 3 rfl rfl)
theorem dX4_lays_4 : decode cX4_lays 4 = .ok (.getfield 17, 3) := dk_180 0 17 (dk_at dksX4_lays_0 4 rfl rfl)
theorem dX4_lays_7 : decode cX4_lays 7 = .ok (.sipush 1755, 3) := dk_17 6 219 (dk_at dksX4_lays_0 7 rfl rfl)
theorem dX4_lays_10 : decode cX4_lays 10 = .ok (.iaload, 1) := dk_46 (dk_at dksX4_lays_0 10 rfl rfl)
theorem dX4_lays_11 : decode cX4_lays 11 = .ok (.if_icmp .ge 111, 3) := dk_162 0 111 (dk_at dksX4_lays_0 11 rfl rfl)
theorem dX4_lays_14 : decode cX4_lays 14 = .ok (.iconst 0, 1) := dk_3 (dk_at dksX4_lays_0 14 rfl rfl)
theorem dX4_lays_15 : decode cX4_lays 15 = .ok (.istore_n 3, 1) := dk_62 (dk_at dksX4_lays_0 15 rfl rfl)
theorem dX4_lays_16 : decode cX4_lays 16 = .ok (.iconst 1, 1) := dk_4 (dk_at dksX4_lays_0 16 rfl rfl)
theorem dX4_lays_17 : decode cX4_lays 17 = .ok (.istore 4, 2) := dk_54 4 (dk_at dksX4_lays_0 17 rfl rfl)
theorem dX4_lays_19 : decode cX4_lays 19 = .ok (.iconst 0, 1) := dk_3 (dk_at dksX4_lays_0 19 rfl rfl)
theorem dX4_lays_20 : decode cX4_lays 20 = .ok (.istore 5, 2) := dk_54 5 (dk_at dksX4_lays_0 20 rfl rfl)
theorem dX4_lays_22 : decode cX4_lays 22 = .ok (.iload 5, 2) := dk_21 5 (dk_at dksX4_lays_0 22 rfl rfl)
theorem dX4_lays_24 : decode cX4_lays 24 = .ok (.aload_n 0, 1) := dk_42 (dk_at dksX4_lays_1 0 rfl rfl)
theorem dX4_lays_25 : decode cX4_lays 25 = .ok (.getfield 17, 3) := dk_180 0 17 (dk_at dksX4_lays_1 1 rfl rfl)
theorem dX4_lays_28 : decode cX4_lays 28 = .ok (.sipush 1756, 3) := dk_17 6 220 (dk_at dksX4_lays_1 4 rfl rfl)
theorem dX4_lays_31 : decode cX4_lays 31 = .ok (.iaload, 1) := dk_46 (dk_at dksX4_lays_1 7 rfl rfl)
theorem dX4_lays_32 : decode cX4_lays 32 = .ok (.if_icmp .ge 68, 3) := dk_162 0 68 (dk_at dksX4_lays_1 8 rfl rfl)
theorem dX4_lays_35 : decode cX4_lays 35 = .ok (.iload_n 1, 1) := dk_27 (dk_at dksX4_lays_1 11 rfl rfl)
theorem dX4_lays_36 : decode cX4_lays 36 = .ok (.iload 5, 2) := dk_21 5 (dk_at dksX4_lays_1 12 rfl rfl)
theorem dX4_lays_38 : decode cX4_lays 38 = .ok (.ishr, 1) := dk_122 (dk_at dksX4_lays_1 14 rfl rfl)
theorem dX4_lays_39 : decode cX4_lays 39 = .ok (.iconst 1, 1) := dk_4 (dk_at dksX4_lays_1 15 rfl rfl)
theorem dX4_lays_40 : decode cX4_lays 40 = .ok (.iand, 1) := dk_126 (dk_at dksX4_lays_1 16 rfl rfl)
theorem dX4_lays_41 : decode cX4_lays 41 = .ok (.ifCond .ne 6, 3) := dk_154 0 6 (dk_at dksX4_lays_1 17 rfl rfl)
theorem dX4_lays_44 : decode cX4_lays 44 = .ok (.goto 50, 3) := dk_167 0 50 (dk_at dksX4_lays_1 20 rfl rfl)
theorem dX4_lays_47 : decode cX4_lays 47 = .ok (.aload_n 0, 1) := dk_42 (dk_at dksX4_lays_1 23 rfl rfl)
theorem dX4_lays_48 : decode cX4_lays 48 = .ok (.iload 5, 2) := dk_21 5 (dk_at dksX4_lays_2 0 rfl rfl)
theorem dX4_lays_50 : decode cX4_lays 50 = .ok (.iload_n 2, 1) := dk_28 (dk_at dksX4_lays_2 2 rfl rfl)
theorem dX4_lays_51 : decode cX4_lays 51 = .ok (.invokevirtual 292, 3) := dk_182 1 36 (dk_at dksX4_lays_2 3 rfl rfl)
theorem dX4_lays_54 : decode cX4_lays 54 = .ok (.istore 6, 2) := dk_54 6 (dk_at dksX4_lays_2 6 rfl rfl)
theorem dX4_lays_56 : decode cX4_lays 56 = .ok (.iload 4, 2) := dk_21 4 (dk_at dksX4_lays_2 8 rfl rfl)
theorem dX4_lays_58 : decode cX4_lays 58 = .ok (.ifCond .eq 19, 3) := dk_153 0 19 (dk_at dksX4_lays_2 10 rfl rfl)
theorem dX4_lays_61 : decode cX4_lays 61 = .ok (.iload 6, 2) := dk_21 6 (dk_at dksX4_lays_2 13 rfl rfl)
theorem dX4_lays_63 : decode cX4_lays 63 = .ok (.ifCond .eq 10, 3) := dk_153 0 10 (dk_at dksX4_lays_2 15 rfl rfl)
theorem dX4_lays_66 : decode cX4_lays 66 = .ok (.iload 6, 2) := dk_21 6 (dk_at dksX4_lays_2 18 rfl rfl)
theorem dX4_lays_68 : decode cX4_lays 68 = .ok (.bipush 100, 2) := dk_16 100 (dk_at dksX4_lays_2 20 rfl rfl)
theorem dX4_lays_70 : decode cX4_lays 70 = .ok (.if_icmp .ne 7, 3) := dk_160 0 7 (dk_at dksX4_lays_3 0 rfl rfl)
theorem dX4_lays_73 : decode cX4_lays 73 = .ok (.iconst 1, 1) := dk_4 (dk_at dksX4_lays_3 3 rfl rfl)
theorem dX4_lays_74 : decode cX4_lays 74 = .ok (.goto 4, 3) := dk_167 0 4 (dk_at dksX4_lays_3 4 rfl rfl)
theorem dX4_lays_77 : decode cX4_lays 77 = .ok (.iconst 0, 1) := dk_3 (dk_at dksX4_lays_3 7 rfl rfl)
theorem dX4_lays_78 : decode cX4_lays 78 = .ok (.istore 4, 2) := dk_54 4 (dk_at dksX4_lays_3 8 rfl rfl)
theorem dX4_lays_80 : decode cX4_lays 80 = .ok (.iload 6, 2) := dk_21 6 (dk_at dksX4_lays_3 10 rfl rfl)
theorem dX4_lays_82 : decode cX4_lays 82 = .ok (.bipush 100, 2) := dk_16 100 (dk_at dksX4_lays_3 12 rfl rfl)
theorem dX4_lays_84 : decode cX4_lays 84 = .ok (.if_icmp .ne 10, 3) := dk_160 0 10 (dk_at dksX4_lays_3 14 rfl rfl)
theorem dX4_lays_87 : decode cX4_lays 87 = .ok (.iload_n 3, 1) := dk_29 (dk_at dksX4_lays_3 17 rfl rfl)
theorem dX4_lays_88 : decode cX4_lays 88 = .ok (.iconst 1, 1) := dk_4 (dk_at dksX4_lays_3 18 rfl rfl)
theorem dX4_lays_89 : decode cX4_lays 89 = .ok (.iload 5, 2) := dk_21 5 (dk_at dksX4_lays_3 19 rfl rfl)
theorem dX4_lays_91 : decode cX4_lays 91 = .ok (.ishl, 1) := dk_120 (dk_at dksX4_lays_3 21 rfl rfl)
theorem dX4_lays_92 : decode cX4_lays 92 = .ok (.ior, 1) := dk_128 (dk_at dksX4_lays_3 22 rfl rfl)
theorem dX4_lays_93 : decode cX4_lays 93 = .ok (.istore_n 3, 1) := dk_62 (dk_at dksX4_lays_3 23 rfl rfl)
theorem dX4_lays_94 : decode cX4_lays 94 = .ok (.iinc 5 1, 3) := dk_132 5 1 (dk_at dksX4_lays_4 0 rfl rfl)
theorem dX4_lays_97 : decode cX4_lays 97 = .ok (.goto (-75), 3) := dk_167 255 181 (dk_at dksX4_lays_4 3 rfl rfl)
theorem dX4_lays_100 : decode cX4_lays 100 = .ok (.aload_n 0, 1) := dk_42 (dk_at dksX4_lays_4 6 rfl rfl)
theorem dX4_lays_101 : decode cX4_lays 101 = .ok (.getfield 68, 3) := dk_180 0 68 (dk_at dksX4_lays_4 7 rfl rfl)
theorem dX4_lays_104 : decode cX4_lays 104 = .ok (.iload_n 2, 1) := dk_28 (dk_at dksX4_lays_4 10 rfl rfl)
theorem dX4_lays_105 : decode cX4_lays 105 = .ok (.iload 4, 2) := dk_21 4 (dk_at dksX4_lays_4 11 rfl rfl)
theorem dX4_lays_107 : decode cX4_lays 107 = .ok (.ifCond .eq 7, 3) := dk_153 0 7 (dk_at dksX4_lays_4 13 rfl rfl)
theorem dX4_lays_110 : decode cX4_lays 110 = .ok (.iload_n 3, 1) := dk_29 (dk_at dksX4_lays_4 16 rfl rfl)
theorem dX4_lays_111 : decode cX4_lays 111 = .ok (.goto 4, 3) := dk_167 0 4 (dk_at dksX4_lays_4 17 rfl rfl)
theorem dX4_lays_114 : decode cX4_lays 114 = .ok (.iconst (-1), 1) := dk_2 (dk_at dksX4_lays_4 20 rfl rfl)
theorem dX4_lays_115 : decode cX4_lays 115 = .ok (.iastore, 1) := dk_79 (dk_at dksX4_lays_4 21 rfl rfl)
theorem dX4_lays_116 : decode cX4_lays 116 = .ok (.iinc 2 1, 3) := dk_132 2 1 (dk_at dksX4_lays_5 0 rfl rfl)
theorem dX4_lays_119 : decode cX4_lays 119 = .ok (.goto (-117), 3) := dk_167 255 139 (dk_at dksX4_lays_5 3 rfl rfl)
theorem dX4_lays_122 : decode cX4_lays 122 = .ok (.return_, 1) := dk_177 (dk_at dksX4_lays_5 6 rfl rfl)
abbrev cX4_span : ByteArray := prog_24_method_103_code
def yX4_span : MethodName := ⟨RX4, "span", "(III)I"⟩
def dkwX4_span_5 : List UInt8 := [29, 4, 159, 0, 9, 21, 4, 2, 160, 0, 7, 21, 5, 54, 4, 132, 5, 1, 167, 255, 156, 21, 4, 172]
abbrev dktX4_span_5 : List UInt8 := dkwX4_span_5 ++ []
def dkwX4_span_4 : List UInt8 := [132, 10, 1, 167, 255, 211, 22, 6, 27, 184, 1, 93, 153, 0, 27, 22, 8, 27, 184, 1, 93, 153, 0, 18]
abbrev dktX4_span_4 : List UInt8 := dkwX4_span_4 ++ dktX4_span_5
def dkwX4_span_3 : List UInt8 := [28, 163, 0, 10, 22, 6, 22, 11, 97, 55, 6, 21, 10, 28, 161, 0, 10, 22, 8, 22, 11, 97, 55, 8]
abbrev dktX4_span_3 : List UInt8 := dkwX4_span_3 ++ dktX4_span_4
def dkwX4_span_2 : List UInt8 := [9, 55, 8, 3, 54, 10, 21, 10, 27, 163, 0, 45, 27, 21, 10, 21, 5, 184, 1, 89, 55, 11, 21, 10]
abbrev dktX4_span_2 : List UInt8 := dkwX4_span_2 ++ dktX4_span_3
def dkwX4_span_1 : List UInt8 := [184, 0, 74, 154, 0, 5, 2, 172, 2, 54, 4, 3, 54, 5, 21, 5, 16, 10, 163, 0, 99, 9, 55, 6]
abbrev dktX4_span_1 : List UInt8 := dkwX4_span_1 ++ dktX4_span_2
def dkwX4_span_0 : List UInt8 := [27, 4, 16, 18, 184, 0, 74, 153, 0, 21, 28, 3, 27, 184, 0, 74, 153, 0, 12, 29, 3, 4]
abbrev dktX4_span_0 : List UInt8 := dkwX4_span_0 ++ dktX4_span_1
theorem dksX4_span_0 : cX4_span.data.toList.drop 0 = dktX4_span_0 := by decide +kernel
theorem dksX4_span_1 : cX4_span.data.toList.drop 22 = dktX4_span_1 := dk_seg dksX4_span_0 22 rfl rfl
theorem dksX4_span_2 : cX4_span.data.toList.drop 46 = dktX4_span_2 := dk_seg dksX4_span_1 24 rfl rfl
theorem dksX4_span_3 : cX4_span.data.toList.drop 70 = dktX4_span_3 := dk_seg dksX4_span_2 24 rfl rfl
theorem dksX4_span_4 : cX4_span.data.toList.drop 94 = dktX4_span_4 := dk_seg dksX4_span_3 24 rfl rfl
theorem dksX4_span_5 : cX4_span.data.toList.drop 118 = dktX4_span_5 := dk_seg dksX4_span_4 24 rfl rfl
theorem dX4_span_0 : decode cX4_span 0 = .ok (.iload_n 1, 1) := dk_27 (dk_at dksX4_span_0 0 rfl rfl)
theorem dX4_span_1 : decode cX4_span 1 = .ok (.iconst 1, 1) := dk_4 (dk_at dksX4_span_0 1 rfl rfl)
theorem dX4_span_2 : decode cX4_span 2 = .ok (.bipush 18, 2) := dk_16 18 (dk_at dksX4_span_0 2 rfl rfl)
theorem dX4_span_4 : decode cX4_span 4 = .ok (.invokestatic 74, 3) := dk_184 0 74 (dk_at dksX4_span_0 4 rfl rfl)
theorem dX4_span_7 : decode cX4_span 7 = .ok (.ifCond .eq 21, 3) := dk_153 0 21 (dk_at dksX4_span_0 7 rfl rfl)
theorem dX4_span_10 : decode cX4_span 10 = .ok (.iload_n 2, 1) := dk_28 (dk_at dksX4_span_0 10 rfl rfl)
theorem dX4_span_11 : decode cX4_span 11 = .ok (.iconst 0, 1) := dk_3 (dk_at dksX4_span_0 11 rfl rfl)
theorem dX4_span_12 : decode cX4_span 12 = .ok (.iload_n 1, 1) := dk_27 (dk_at dksX4_span_0 12 rfl rfl)
theorem dX4_span_13 : decode cX4_span 13 = .ok (.invokestatic 74, 3) := dk_184 0 74 (dk_at dksX4_span_0 13 rfl rfl)
theorem dX4_span_16 : decode cX4_span 16 = .ok (.ifCond .eq 12, 3) := dk_153 0 12 (dk_at dksX4_span_0 16 rfl rfl)
theorem dX4_span_19 : decode cX4_span 19 = .ok (.iload_n 3, 1) := dk_29 (dk_at dksX4_span_0 19 rfl rfl)
theorem dX4_span_20 : decode cX4_span 20 = .ok (.iconst 0, 1) := dk_3 (dk_at dksX4_span_0 20 rfl rfl)
theorem dX4_span_21 : decode cX4_span 21 = .ok (.iconst 1, 1) := dk_4 (dk_at dksX4_span_0 21 rfl rfl)
theorem dX4_span_22 : decode cX4_span 22 = .ok (.invokestatic 74, 3) := dk_184 0 74 (dk_at dksX4_span_1 0 rfl rfl)
theorem dX4_span_25 : decode cX4_span 25 = .ok (.ifCond .ne 5, 3) := dk_154 0 5 (dk_at dksX4_span_1 3 rfl rfl)
theorem dX4_span_28 : decode cX4_span 28 = .ok (.iconst (-1), 1) := dk_2 (dk_at dksX4_span_1 6 rfl rfl)
theorem dX4_span_29 : decode cX4_span 29 = .ok (.ireturn, 1) := dk_172 (dk_at dksX4_span_1 7 rfl rfl)
theorem dX4_span_30 : decode cX4_span 30 = .ok (.iconst (-1), 1) := dk_2 (dk_at dksX4_span_1 8 rfl rfl)
theorem dX4_span_31 : decode cX4_span 31 = .ok (.istore 4, 2) := dk_54 4 (dk_at dksX4_span_1 9 rfl rfl)
theorem dX4_span_33 : decode cX4_span 33 = .ok (.iconst 0, 1) := dk_3 (dk_at dksX4_span_1 11 rfl rfl)
theorem dX4_span_34 : decode cX4_span 34 = .ok (.istore 5, 2) := dk_54 5 (dk_at dksX4_span_1 12 rfl rfl)
theorem dX4_span_36 : decode cX4_span 36 = .ok (.iload 5, 2) := dk_21 5 (dk_at dksX4_span_1 14 rfl rfl)
theorem dX4_span_38 : decode cX4_span 38 = .ok (.bipush 10, 2) := dk_16 10 (dk_at dksX4_span_1 16 rfl rfl)
theorem dX4_span_40 : decode cX4_span 40 = .ok (.if_icmp .gt 99, 3) := dk_163 0 99 (dk_at dksX4_span_1 18 rfl rfl)
theorem dX4_span_43 : decode cX4_span 43 = .ok (.lconst 0, 1) := dk_9 (dk_at dksX4_span_1 21 rfl rfl)
theorem dX4_span_44 : decode cX4_span 44 = .ok (.lstore 6, 2) := dk_55 6 (dk_at dksX4_span_1 22 rfl rfl)
theorem dX4_span_46 : decode cX4_span 46 = .ok (.lconst 0, 1) := dk_9 (dk_at dksX4_span_2 0 rfl rfl)
theorem dX4_span_47 : decode cX4_span 47 = .ok (.lstore 8, 2) := dk_55 8 (dk_at dksX4_span_2 1 rfl rfl)
theorem dX4_span_49 : decode cX4_span 49 = .ok (.iconst 0, 1) := dk_3 (dk_at dksX4_span_2 3 rfl rfl)
theorem dX4_span_50 : decode cX4_span 50 = .ok (.istore 10, 2) := dk_54 10 (dk_at dksX4_span_2 4 rfl rfl)
theorem dX4_span_52 : decode cX4_span 52 = .ok (.iload 10, 2) := dk_21 10 (dk_at dksX4_span_2 6 rfl rfl)
theorem dX4_span_54 : decode cX4_span 54 = .ok (.iload_n 1, 1) := dk_27 (dk_at dksX4_span_2 8 rfl rfl)
theorem dX4_span_55 : decode cX4_span 55 = .ok (.if_icmp .gt 45, 3) := dk_163 0 45 (dk_at dksX4_span_2 9 rfl rfl)
theorem dX4_span_58 : decode cX4_span 58 = .ok (.iload_n 1, 1) := dk_27 (dk_at dksX4_span_2 12 rfl rfl)
theorem dX4_span_59 : decode cX4_span 59 = .ok (.iload 10, 2) := dk_21 10 (dk_at dksX4_span_2 13 rfl rfl)
theorem dX4_span_61 : decode cX4_span 61 = .ok (.iload 5, 2) := dk_21 5 (dk_at dksX4_span_2 15 rfl rfl)
theorem dX4_span_63 : decode cX4_span 63 = .ok (.invokestatic 345, 3) := dk_184 1 89 (dk_at dksX4_span_2 17 rfl rfl)
theorem dX4_span_66 : decode cX4_span 66 = .ok (.lstore 11, 2) := dk_55 11 (dk_at dksX4_span_2 20 rfl rfl)
theorem dX4_span_68 : decode cX4_span 68 = .ok (.iload 10, 2) := dk_21 10 (dk_at dksX4_span_2 22 rfl rfl)
theorem dX4_span_70 : decode cX4_span 70 = .ok (.iload_n 2, 1) := dk_28 (dk_at dksX4_span_3 0 rfl rfl)
theorem dX4_span_71 : decode cX4_span 71 = .ok (.if_icmp .gt 10, 3) := dk_163 0 10 (dk_at dksX4_span_3 1 rfl rfl)
theorem dX4_span_74 : decode cX4_span 74 = .ok (.lload 6, 2) := dk_22 6 (dk_at dksX4_span_3 4 rfl rfl)
theorem dX4_span_76 : decode cX4_span 76 = .ok (.lload 11, 2) := dk_22 11 (dk_at dksX4_span_3 6 rfl rfl)
theorem dX4_span_78 : decode cX4_span 78 = .ok (.ladd, 1) := dk_97 (dk_at dksX4_span_3 8 rfl rfl)
theorem dX4_span_79 : decode cX4_span 79 = .ok (.lstore 6, 2) := dk_55 6 (dk_at dksX4_span_3 9 rfl rfl)
theorem dX4_span_81 : decode cX4_span 81 = .ok (.iload 10, 2) := dk_21 10 (dk_at dksX4_span_3 11 rfl rfl)
theorem dX4_span_83 : decode cX4_span 83 = .ok (.iload_n 2, 1) := dk_28 (dk_at dksX4_span_3 13 rfl rfl)
theorem dX4_span_84 : decode cX4_span 84 = .ok (.if_icmp .lt 10, 3) := dk_161 0 10 (dk_at dksX4_span_3 14 rfl rfl)
theorem dX4_span_87 : decode cX4_span 87 = .ok (.lload 8, 2) := dk_22 8 (dk_at dksX4_span_3 17 rfl rfl)
theorem dX4_span_89 : decode cX4_span 89 = .ok (.lload 11, 2) := dk_22 11 (dk_at dksX4_span_3 19 rfl rfl)
theorem dX4_span_91 : decode cX4_span 91 = .ok (.ladd, 1) := dk_97 (dk_at dksX4_span_3 21 rfl rfl)
theorem dX4_span_92 : decode cX4_span 92 = .ok (.lstore 8, 2) := dk_55 8 (dk_at dksX4_span_3 22 rfl rfl)
theorem dX4_span_94 : decode cX4_span 94 = .ok (.iinc 10 1, 3) := dk_132 10 1 (dk_at dksX4_span_4 0 rfl rfl)
theorem dX4_span_97 : decode cX4_span 97 = .ok (.goto (-45), 3) := dk_167 255 211 (dk_at dksX4_span_4 3 rfl rfl)
theorem dX4_span_100 : decode cX4_span 100 = .ok (.lload 6, 2) := dk_22 6 (dk_at dksX4_span_4 6 rfl rfl)
theorem dX4_span_102 : decode cX4_span 102 = .ok (.iload_n 1, 1) := dk_27 (dk_at dksX4_span_4 8 rfl rfl)
theorem dX4_span_103 : decode cX4_span 103 = .ok (.invokestatic 349, 3) := dk_184 1 93 (dk_at dksX4_span_4 9 rfl rfl)
theorem dX4_span_106 : decode cX4_span 106 = .ok (.ifCond .eq 27, 3) := dk_153 0 27 (dk_at dksX4_span_4 12 rfl rfl)
theorem dX4_span_109 : decode cX4_span 109 = .ok (.lload 8, 2) := dk_22 8 (dk_at dksX4_span_4 15 rfl rfl)
theorem dX4_span_111 : decode cX4_span 111 = .ok (.iload_n 1, 1) := dk_27 (dk_at dksX4_span_4 17 rfl rfl)
theorem dX4_span_112 : decode cX4_span 112 = .ok (.invokestatic 349, 3) := dk_184 1 93 (dk_at dksX4_span_4 18 rfl rfl)
theorem dX4_span_115 : decode cX4_span 115 = .ok (.ifCond .eq 18, 3) := dk_153 0 18 (dk_at dksX4_span_4 21 rfl rfl)
theorem dX4_span_118 : decode cX4_span 118 = .ok (.iload_n 3, 1) := dk_29 (dk_at dksX4_span_5 0 rfl rfl)
theorem dX4_span_119 : decode cX4_span 119 = .ok (.iconst 1, 1) := dk_4 (dk_at dksX4_span_5 1 rfl rfl)
theorem dX4_span_120 : decode cX4_span 120 = .ok (.if_icmp .eq 9, 3) := dk_159 0 9 (dk_at dksX4_span_5 2 rfl rfl)
theorem dX4_span_123 : decode cX4_span 123 = .ok (.iload 4, 2) := dk_21 4 (dk_at dksX4_span_5 5 rfl rfl)
theorem dX4_span_125 : decode cX4_span 125 = .ok (.iconst (-1), 1) := dk_2 (dk_at dksX4_span_5 7 rfl rfl)
theorem dX4_span_126 : decode cX4_span 126 = .ok (.if_icmp .ne 7, 3) := dk_160 0 7 (dk_at dksX4_span_5 8 rfl rfl)
theorem dX4_span_129 : decode cX4_span 129 = .ok (.iload 5, 2) := dk_21 5 (dk_at dksX4_span_5 11 rfl rfl)
theorem dX4_span_131 : decode cX4_span 131 = .ok (.istore 4, 2) := dk_54 4 (dk_at dksX4_span_5 13 rfl rfl)
theorem dX4_span_133 : decode cX4_span 133 = .ok (.iinc 5 1, 3) := dk_132 5 1 (dk_at dksX4_span_5 15 rfl rfl)
theorem dX4_span_136 : decode cX4_span 136 = .ok (.goto (-100), 3) := dk_167 255 156 (dk_at dksX4_span_5 18 rfl rfl)
theorem dX4_span_139 : decode cX4_span 139 = .ok (.iload 4, 2) := dk_21 4 (dk_at dksX4_span_5 21 rfl rfl)
theorem dX4_span_141 : decode cX4_span 141 = .ok (.ireturn, 1) := dk_172 (dk_at dksX4_span_5 23 rfl rfl)
abbrev cX4_just : ByteArray := prog_24_method_101_code
def yX4_just : MethodName := ⟨RX4, "just", "(III)J"⟩
def dkwX4_just_0 : List UInt8 := [26, 27, 184, 1, 78, 28, 27, 184, 1, 82, 105, 16, 10, 28, 100, 26, 27, 100, 184, 1, 82, 105, 173]
abbrev dktX4_just_0 : List UInt8 := dkwX4_just_0 ++ []
theorem dksX4_just_0 : cX4_just.data.toList.drop 0 = dktX4_just_0 := by decide +kernel
theorem dX4_just_0 : decode cX4_just 0 = .ok (.iload_n 0, 1) := dk_26 (dk_at dksX4_just_0 0 rfl rfl)
theorem dX4_just_1 : decode cX4_just 1 = .ok (.iload_n 1, 1) := dk_27 (dk_at dksX4_just_0 1 rfl rfl)
theorem dX4_just_2 : decode cX4_just 2 = .ok (.invokestatic 334, 3) := dk_184 1 78 (dk_at dksX4_just_0 2 rfl rfl)
theorem dX4_just_5 : decode cX4_just 5 = .ok (.iload_n 2, 1) := dk_28 (dk_at dksX4_just_0 5 rfl rfl)
theorem dX4_just_6 : decode cX4_just 6 = .ok (.iload_n 1, 1) := dk_27 (dk_at dksX4_just_0 6 rfl rfl)
theorem dX4_just_7 : decode cX4_just 7 = .ok (.invokestatic 338, 3) := dk_184 1 82 (dk_at dksX4_just_0 7 rfl rfl)
theorem dX4_just_10 : decode cX4_just 10 = .ok (.lmul, 1) := dk_105 (dk_at dksX4_just_0 10 rfl rfl)
theorem dX4_just_11 : decode cX4_just 11 = .ok (.bipush 10, 2) := dk_16 10 (dk_at dksX4_just_0 11 rfl rfl)
theorem dX4_just_13 : decode cX4_just 13 = .ok (.iload_n 2, 1) := dk_28 (dk_at dksX4_just_0 13 rfl rfl)
theorem dX4_just_14 : decode cX4_just 14 = .ok (.isub, 1) := dk_100 (dk_at dksX4_just_0 14 rfl rfl)
theorem dX4_just_15 : decode cX4_just 15 = .ok (.iload_n 0, 1) := dk_26 (dk_at dksX4_just_0 15 rfl rfl)
theorem dX4_just_16 : decode cX4_just 16 = .ok (.iload_n 1, 1) := dk_27 (dk_at dksX4_just_0 16 rfl rfl)
theorem dX4_just_17 : decode cX4_just 17 = .ok (.isub, 1) := dk_100 (dk_at dksX4_just_0 17 rfl rfl)
theorem dX4_just_18 : decode cX4_just 18 = .ok (.invokestatic 338, 3) := dk_184 1 82 (dk_at dksX4_just_0 18 rfl rfl)
theorem dX4_just_21 : decode cX4_just 21 = .ok (.lmul, 1) := dk_105 (dk_at dksX4_just_0 21 rfl rfl)
theorem dX4_just_22 : decode cX4_just 22 = .ok (.lreturn, 1) := dk_173 (dk_at dksX4_just_0 22 rfl rfl)
abbrev cX4_choose : ByteArray := prog_24_method_100_code
def yX4_choose : MethodName := ⟨RX4, "choose", "(II)J"⟩
def dkwX4_choose_1 : List UInt8 := [65, 132, 4, 1, 167, 255, 233, 32, 173]
abbrev dktX4_choose_1 : List UInt8 := dkwX4_choose_1 ++ []
def dkwX4_choose_0 : List UInt8 := [10, 65, 4, 54, 4, 21, 4, 27, 163, 0, 23, 32, 26, 27, 100, 21, 4, 96, 133, 105, 21, 4, 133, 109]
abbrev dktX4_choose_0 : List UInt8 := dkwX4_choose_0 ++ dktX4_choose_1
theorem dksX4_choose_0 : cX4_choose.data.toList.drop 0 = dktX4_choose_0 := by decide +kernel
theorem dksX4_choose_1 : cX4_choose.data.toList.drop 24 = dktX4_choose_1 := dk_seg dksX4_choose_0 24 rfl rfl
theorem dX4_choose_0 : decode cX4_choose 0 = .ok (.lconst 1, 1) := dk_10 (dk_at dksX4_choose_0 0 rfl rfl)
theorem dX4_choose_1 : decode cX4_choose 1 = .ok (.lstore_n 2, 1) := dk_65 (dk_at dksX4_choose_0 1 rfl rfl)
theorem dX4_choose_2 : decode cX4_choose 2 = .ok (.iconst 1, 1) := dk_4 (dk_at dksX4_choose_0 2 rfl rfl)
theorem dX4_choose_3 : decode cX4_choose 3 = .ok (.istore 4, 2) := dk_54 4 (dk_at dksX4_choose_0 3 rfl rfl)
theorem dX4_choose_5 : decode cX4_choose 5 = .ok (.iload 4, 2) := dk_21 4 (dk_at dksX4_choose_0 5 rfl rfl)
theorem dX4_choose_7 : decode cX4_choose 7 = .ok (.iload_n 1, 1) := dk_27 (dk_at dksX4_choose_0 7 rfl rfl)
theorem dX4_choose_8 : decode cX4_choose 8 = .ok (.if_icmp .gt 23, 3) := dk_163 0 23 (dk_at dksX4_choose_0 8 rfl rfl)
theorem dX4_choose_11 : decode cX4_choose 11 = .ok (.lload_n 2, 1) := dk_32 (dk_at dksX4_choose_0 11 rfl rfl)
theorem dX4_choose_12 : decode cX4_choose 12 = .ok (.iload_n 0, 1) := dk_26 (dk_at dksX4_choose_0 12 rfl rfl)
theorem dX4_choose_13 : decode cX4_choose 13 = .ok (.iload_n 1, 1) := dk_27 (dk_at dksX4_choose_0 13 rfl rfl)
theorem dX4_choose_14 : decode cX4_choose 14 = .ok (.isub, 1) := dk_100 (dk_at dksX4_choose_0 14 rfl rfl)
theorem dX4_choose_15 : decode cX4_choose 15 = .ok (.iload 4, 2) := dk_21 4 (dk_at dksX4_choose_0 15 rfl rfl)
theorem dX4_choose_17 : decode cX4_choose 17 = .ok (.iadd, 1) := dk_96 (dk_at dksX4_choose_0 17 rfl rfl)
theorem dX4_choose_18 : decode cX4_choose 18 = .ok (.i2l, 1) := dk_133 (dk_at dksX4_choose_0 18 rfl rfl)
theorem dX4_choose_19 : decode cX4_choose 19 = .ok (.lmul, 1) := dk_105 (dk_at dksX4_choose_0 19 rfl rfl)
theorem dX4_choose_20 : decode cX4_choose 20 = .ok (.iload 4, 2) := dk_21 4 (dk_at dksX4_choose_0 20 rfl rfl)
theorem dX4_choose_22 : decode cX4_choose 22 = .ok (.i2l, 1) := dk_133 (dk_at dksX4_choose_0 22 rfl rfl)
theorem dX4_choose_23 : decode cX4_choose 23 = .ok (.ldiv, 1) := dk_109 (dk_at dksX4_choose_0 23 rfl rfl)
theorem dX4_choose_24 : decode cX4_choose 24 = .ok (.lstore_n 2, 1) := dk_65 (dk_at dksX4_choose_1 0 rfl rfl)
theorem dX4_choose_25 : decode cX4_choose 25 = .ok (.iinc 4 1, 3) := dk_132 4 1 (dk_at dksX4_choose_1 1 rfl rfl)
theorem dX4_choose_28 : decode cX4_choose 28 = .ok (.goto (-23), 3) := dk_167 255 233 (dk_at dksX4_choose_1 4 rfl rfl)
theorem dX4_choose_31 : decode cX4_choose 31 = .ok (.lload_n 2, 1) := dk_32 (dk_at dksX4_choose_1 7 rfl rfl)
theorem dX4_choose_32 : decode cX4_choose 32 = .ok (.lreturn, 1) := dk_173 (dk_at dksX4_choose_1 8 rfl rfl)
abbrev cX4_power : ByteArray := prog_24_method_99_code
def yX4_power : MethodName := ⟨RX4, "power", "(II)J"⟩
def dkwX4_power_0 : List UInt8 := [10, 65, 3, 54, 4, 21, 4, 27, 162, 0, 14, 32, 26, 133, 105, 65, 132, 4, 1, 167, 255, 242, 32, 173]
abbrev dktX4_power_0 : List UInt8 := dkwX4_power_0 ++ []
theorem dksX4_power_0 : cX4_power.data.toList.drop 0 = dktX4_power_0 := by decide +kernel
theorem dX4_power_0 : decode cX4_power 0 = .ok (.lconst 1, 1) := dk_10 (dk_at dksX4_power_0 0 rfl rfl)
theorem dX4_power_1 : decode cX4_power 1 = .ok (.lstore_n 2, 1) := dk_65 (dk_at dksX4_power_0 1 rfl rfl)
theorem dX4_power_2 : decode cX4_power 2 = .ok (.iconst 0, 1) := dk_3 (dk_at dksX4_power_0 2 rfl rfl)
theorem dX4_power_3 : decode cX4_power 3 = .ok (.istore 4, 2) := dk_54 4 (dk_at dksX4_power_0 3 rfl rfl)
theorem dX4_power_5 : decode cX4_power 5 = .ok (.iload 4, 2) := dk_21 4 (dk_at dksX4_power_0 5 rfl rfl)
theorem dX4_power_7 : decode cX4_power 7 = .ok (.iload_n 1, 1) := dk_27 (dk_at dksX4_power_0 7 rfl rfl)
theorem dX4_power_8 : decode cX4_power 8 = .ok (.if_icmp .ge 14, 3) := dk_162 0 14 (dk_at dksX4_power_0 8 rfl rfl)
theorem dX4_power_11 : decode cX4_power 11 = .ok (.lload_n 2, 1) := dk_32 (dk_at dksX4_power_0 11 rfl rfl)
theorem dX4_power_12 : decode cX4_power 12 = .ok (.iload_n 0, 1) := dk_26 (dk_at dksX4_power_0 12 rfl rfl)
theorem dX4_power_13 : decode cX4_power 13 = .ok (.i2l, 1) := dk_133 (dk_at dksX4_power_0 13 rfl rfl)
theorem dX4_power_14 : decode cX4_power 14 = .ok (.lmul, 1) := dk_105 (dk_at dksX4_power_0 14 rfl rfl)
theorem dX4_power_15 : decode cX4_power 15 = .ok (.lstore_n 2, 1) := dk_65 (dk_at dksX4_power_0 15 rfl rfl)
theorem dX4_power_16 : decode cX4_power 16 = .ok (.iinc 4 1, 3) := dk_132 4 1 (dk_at dksX4_power_0 16 rfl rfl)
theorem dX4_power_19 : decode cX4_power 19 = .ok (.goto (-14), 3) := dk_167 255 242 (dk_at dksX4_power_0 19 rfl rfl)
theorem dX4_power_22 : decode cX4_power 22 = .ok (.lload_n 2, 1) := dk_32 (dk_at dksX4_power_0 22 rfl rfl)
theorem dX4_power_23 : decode cX4_power 23 = .ok (.lreturn, 1) := dk_173 (dk_at dksX4_power_0 23 rfl rfl)
abbrev cX4_isATwentieth : ByteArray := prog_24_method_102_code
def yX4_isATwentieth : MethodName := ⟨RX4, "isATwentieth", "(JI)Z"⟩
def dkwX4_isATwentieth_1 : List UInt8 := [167, 0, 23, 30, 16, 10, 28, 184, 1, 82, 20, 1, 85, 109, 148, 155, 0, 7, 4, 167, 0, 4, 3, 172]
abbrev dktX4_isATwentieth_1 : List UInt8 := dkwX4_isATwentieth_1 ++ []
def dkwX4_isATwentieth_0 : List UInt8 := [28, 4, 160, 0, 23, 30, 20, 1, 85, 105, 20, 1, 87, 148, 155, 0, 7, 4, 167, 0, 27, 3]
abbrev dktX4_isATwentieth_0 : List UInt8 := dkwX4_isATwentieth_0 ++ dktX4_isATwentieth_1
theorem dksX4_isATwentieth_0 : cX4_isATwentieth.data.toList.drop 0 = dktX4_isATwentieth_0 := by decide +kernel
theorem dksX4_isATwentieth_1 : cX4_isATwentieth.data.toList.drop 22 = dktX4_isATwentieth_1 := dk_seg dksX4_isATwentieth_0 22 rfl rfl
theorem dX4_isATwentieth_0 : decode cX4_isATwentieth 0 = .ok (.iload_n 2, 1) := dk_28 (dk_at dksX4_isATwentieth_0 0 rfl rfl)
theorem dX4_isATwentieth_1 : decode cX4_isATwentieth 1 = .ok (.iconst 1, 1) := dk_4 (dk_at dksX4_isATwentieth_0 1 rfl rfl)
theorem dX4_isATwentieth_2 : decode cX4_isATwentieth 2 = .ok (.if_icmp .ne 23, 3) := dk_160 0 23 (dk_at dksX4_isATwentieth_0 2 rfl rfl)
theorem dX4_isATwentieth_5 : decode cX4_isATwentieth 5 = .ok (.lload_n 0, 1) := dk_30 (dk_at dksX4_isATwentieth_0 5 rfl rfl)
theorem dX4_isATwentieth_6 : decode cX4_isATwentieth 6 = .ok (.ldc2_w 341, 3) := dk_20 1 85 (dk_at dksX4_isATwentieth_0 6 rfl rfl)
theorem dX4_isATwentieth_9 : decode cX4_isATwentieth 9 = .ok (.lmul, 1) := dk_105 (dk_at dksX4_isATwentieth_0 9 rfl rfl)
theorem dX4_isATwentieth_10 : decode cX4_isATwentieth 10 = .ok (.ldc2_w 343, 3) := dk_20 1 87 (dk_at dksX4_isATwentieth_0 10 rfl rfl)
theorem dX4_isATwentieth_13 : decode cX4_isATwentieth 13 = .ok (.lcmp, 1) := dk_148 (dk_at dksX4_isATwentieth_0 13 rfl rfl)
theorem dX4_isATwentieth_14 : decode cX4_isATwentieth 14 = .ok (.ifCond .lt 7, 3) := dk_155 0 7 (dk_at dksX4_isATwentieth_0 14 rfl rfl)
theorem dX4_isATwentieth_17 : decode cX4_isATwentieth 17 = .ok (.iconst 1, 1) := dk_4 (dk_at dksX4_isATwentieth_0 17 rfl rfl)
theorem dX4_isATwentieth_18 : decode cX4_isATwentieth 18 = .ok (.goto 27, 3) := dk_167 0 27 (dk_at dksX4_isATwentieth_0 18 rfl rfl)
theorem dX4_isATwentieth_21 : decode cX4_isATwentieth 21 = .ok (.iconst 0, 1) := dk_3 (dk_at dksX4_isATwentieth_0 21 rfl rfl)
theorem dX4_isATwentieth_22 : decode cX4_isATwentieth 22 = .ok (.goto 23, 3) := dk_167 0 23 (dk_at dksX4_isATwentieth_1 0 rfl rfl)
theorem dX4_isATwentieth_25 : decode cX4_isATwentieth 25 = .ok (.lload_n 0, 1) := dk_30 (dk_at dksX4_isATwentieth_1 3 rfl rfl)
theorem dX4_isATwentieth_26 : decode cX4_isATwentieth 26 = .ok (.bipush 10, 2) := dk_16 10 (dk_at dksX4_isATwentieth_1 4 rfl rfl)
theorem dX4_isATwentieth_28 : decode cX4_isATwentieth 28 = .ok (.iload_n 2, 1) := dk_28 (dk_at dksX4_isATwentieth_1 6 rfl rfl)
theorem dX4_isATwentieth_29 : decode cX4_isATwentieth 29 = .ok (.invokestatic 338, 3) := dk_184 1 82 (dk_at dksX4_isATwentieth_1 7 rfl rfl)
theorem dX4_isATwentieth_32 : decode cX4_isATwentieth 32 = .ok (.ldc2_w 341, 3) := dk_20 1 85 (dk_at dksX4_isATwentieth_1 10 rfl rfl)
theorem dX4_isATwentieth_35 : decode cX4_isATwentieth 35 = .ok (.ldiv, 1) := dk_109 (dk_at dksX4_isATwentieth_1 13 rfl rfl)
theorem dX4_isATwentieth_36 : decode cX4_isATwentieth 36 = .ok (.lcmp, 1) := dk_148 (dk_at dksX4_isATwentieth_1 14 rfl rfl)
theorem dX4_isATwentieth_37 : decode cX4_isATwentieth 37 = .ok (.ifCond .lt 7, 3) := dk_155 0 7 (dk_at dksX4_isATwentieth_1 15 rfl rfl)
theorem dX4_isATwentieth_40 : decode cX4_isATwentieth 40 = .ok (.iconst 1, 1) := dk_4 (dk_at dksX4_isATwentieth_1 18 rfl rfl)
theorem dX4_isATwentieth_41 : decode cX4_isATwentieth 41 = .ok (.goto 4, 3) := dk_167 0 4 (dk_at dksX4_isATwentieth_1 19 rfl rfl)
theorem dX4_isATwentieth_44 : decode cX4_isATwentieth 44 = .ok (.iconst 0, 1) := dk_3 (dk_at dksX4_isATwentieth_1 22 rfl rfl)
theorem dX4_isATwentieth_45 : decode cX4_isATwentieth 45 = .ok (.ireturn, 1) := dk_172 (dk_at dksX4_isATwentieth_1 23 rfl rfl)
abbrev cX4_need : ByteArray := prog_24_method_104_code
def yX4_need : MethodName := ⟨RX4, "need", "(II)I"⟩
def dkwX4_need_2 : List UInt8 := [105, 28, 133, 16, 10, 29, 184, 1, 82, 105, 148, 155, 0, 5, 29, 172, 132, 3, 1, 167, 255, 213, 2, 172]
abbrev dktX4_need_2 : List UInt8 := dkwX4_need_2 ++ []
def dkwX4_need_1 : List UInt8 := [29, 16, 16, 163, 0, 43, 16, 10, 29, 184, 1, 82, 16, 10, 27, 100, 29, 184, 1, 82, 101, 20, 1, 48]
abbrev dktX4_need_1 : List UInt8 := dkwX4_need_1 ++ dktX4_need_2
def dkwX4_need_0 : List UInt8 := [27, 4, 16, 10, 184, 0, 74, 153, 0, 13, 28, 4, 16, 99, 184, 0, 74, 154, 0, 5, 2, 172, 4, 62]
abbrev dktX4_need_0 : List UInt8 := dkwX4_need_0 ++ dktX4_need_1
theorem dksX4_need_0 : cX4_need.data.toList.drop 0 = dktX4_need_0 := by decide +kernel
theorem dksX4_need_1 : cX4_need.data.toList.drop 24 = dktX4_need_1 := dk_seg dksX4_need_0 24 rfl rfl
theorem dksX4_need_2 : cX4_need.data.toList.drop 48 = dktX4_need_2 := dk_seg dksX4_need_1 24 rfl rfl
theorem dX4_need_0 : decode cX4_need 0 = .ok (.iload_n 1, 1) := dk_27 (dk_at dksX4_need_0 0 rfl rfl)
theorem dX4_need_1 : decode cX4_need 1 = .ok (.iconst 1, 1) := dk_4 (dk_at dksX4_need_0 1 rfl rfl)
theorem dX4_need_2 : decode cX4_need 2 = .ok (.bipush 10, 2) := dk_16 10 (dk_at dksX4_need_0 2 rfl rfl)
theorem dX4_need_4 : decode cX4_need 4 = .ok (.invokestatic 74, 3) := dk_184 0 74 (dk_at dksX4_need_0 4 rfl rfl)
theorem dX4_need_7 : decode cX4_need 7 = .ok (.ifCond .eq 13, 3) := dk_153 0 13 (dk_at dksX4_need_0 7 rfl rfl)
theorem dX4_need_10 : decode cX4_need 10 = .ok (.iload_n 2, 1) := dk_28 (dk_at dksX4_need_0 10 rfl rfl)
theorem dX4_need_11 : decode cX4_need 11 = .ok (.iconst 1, 1) := dk_4 (dk_at dksX4_need_0 11 rfl rfl)
theorem dX4_need_12 : decode cX4_need 12 = .ok (.bipush 99, 2) := dk_16 99 (dk_at dksX4_need_0 12 rfl rfl)
theorem dX4_need_14 : decode cX4_need 14 = .ok (.invokestatic 74, 3) := dk_184 0 74 (dk_at dksX4_need_0 14 rfl rfl)
theorem dX4_need_17 : decode cX4_need 17 = .ok (.ifCond .ne 5, 3) := dk_154 0 5 (dk_at dksX4_need_0 17 rfl rfl)
theorem dX4_need_20 : decode cX4_need 20 = .ok (.iconst (-1), 1) := dk_2 (dk_at dksX4_need_0 20 rfl rfl)
theorem dX4_need_21 : decode cX4_need 21 = .ok (.ireturn, 1) := dk_172 (dk_at dksX4_need_0 21 rfl rfl)
theorem dX4_need_22 : decode cX4_need 22 = .ok (.iconst 1, 1) := dk_4 (dk_at dksX4_need_0 22 rfl rfl)
theorem dX4_need_23 : decode cX4_need 23 = .ok (.istore_n 3, 1) := dk_62 (dk_at dksX4_need_0 23 rfl rfl)
theorem dX4_need_24 : decode cX4_need 24 = .ok (.iload_n 3, 1) := dk_29 (dk_at dksX4_need_1 0 rfl rfl)
theorem dX4_need_25 : decode cX4_need 25 = .ok (.bipush 16, 2) := dk_16 16 (dk_at dksX4_need_1 1 rfl rfl)
theorem dX4_need_27 : decode cX4_need 27 = .ok (.if_icmp .gt 43, 3) := dk_163 0 43 (dk_at dksX4_need_1 3 rfl rfl)
theorem dX4_need_30 : decode cX4_need 30 = .ok (.bipush 10, 2) := dk_16 10 (dk_at dksX4_need_1 6 rfl rfl)
theorem dX4_need_32 : decode cX4_need 32 = .ok (.iload_n 3, 1) := dk_29 (dk_at dksX4_need_1 8 rfl rfl)
theorem dX4_need_33 : decode cX4_need 33 = .ok (.invokestatic 338, 3) := dk_184 1 82 (dk_at dksX4_need_1 9 rfl rfl)
theorem dX4_need_36 : decode cX4_need 36 = .ok (.bipush 10, 2) := dk_16 10 (dk_at dksX4_need_1 12 rfl rfl)
theorem dX4_need_38 : decode cX4_need 38 = .ok (.iload_n 1, 1) := dk_27 (dk_at dksX4_need_1 14 rfl rfl)
theorem dX4_need_39 : decode cX4_need 39 = .ok (.isub, 1) := dk_100 (dk_at dksX4_need_1 15 rfl rfl)
theorem dX4_need_40 : decode cX4_need 40 = .ok (.iload_n 3, 1) := dk_29 (dk_at dksX4_need_1 16 rfl rfl)
theorem dX4_need_41 : decode cX4_need 41 = .ok (.invokestatic 338, 3) := dk_184 1 82 (dk_at dksX4_need_1 17 rfl rfl)
theorem dX4_need_44 : decode cX4_need 44 = .ok (.lsub, 1) := dk_101 (dk_at dksX4_need_1 20 rfl rfl)
theorem dX4_need_45 : decode cX4_need 45 = .ok (.ldc2_w 304, 3) := dk_20 1 48 (dk_at dksX4_need_1 21 rfl rfl)
theorem dX4_need_48 : decode cX4_need 48 = .ok (.lmul, 1) := dk_105 (dk_at dksX4_need_2 0 rfl rfl)
theorem dX4_need_49 : decode cX4_need 49 = .ok (.iload_n 2, 1) := dk_28 (dk_at dksX4_need_2 1 rfl rfl)
theorem dX4_need_50 : decode cX4_need 50 = .ok (.i2l, 1) := dk_133 (dk_at dksX4_need_2 2 rfl rfl)
theorem dX4_need_51 : decode cX4_need 51 = .ok (.bipush 10, 2) := dk_16 10 (dk_at dksX4_need_2 3 rfl rfl)
theorem dX4_need_53 : decode cX4_need 53 = .ok (.iload_n 3, 1) := dk_29 (dk_at dksX4_need_2 5 rfl rfl)
theorem dX4_need_54 : decode cX4_need 54 = .ok (.invokestatic 338, 3) := dk_184 1 82 (dk_at dksX4_need_2 6 rfl rfl)
theorem dX4_need_57 : decode cX4_need 57 = .ok (.lmul, 1) := dk_105 (dk_at dksX4_need_2 9 rfl rfl)
theorem dX4_need_58 : decode cX4_need 58 = .ok (.lcmp, 1) := dk_148 (dk_at dksX4_need_2 10 rfl rfl)
theorem dX4_need_59 : decode cX4_need 59 = .ok (.ifCond .lt 5, 3) := dk_155 0 5 (dk_at dksX4_need_2 11 rfl rfl)
theorem dX4_need_62 : decode cX4_need 62 = .ok (.iload_n 3, 1) := dk_29 (dk_at dksX4_need_2 14 rfl rfl)
theorem dX4_need_63 : decode cX4_need 63 = .ok (.ireturn, 1) := dk_172 (dk_at dksX4_need_2 15 rfl rfl)
theorem dX4_need_64 : decode cX4_need 64 = .ok (.iinc 3 1, 3) := dk_132 3 1 (dk_at dksX4_need_2 16 rfl rfl)
theorem dX4_need_67 : decode cX4_need 67 = .ok (.goto (-43), 3) := dk_167 255 213 (dk_at dksX4_need_2 19 rfl rfl)
theorem dX4_need_70 : decode cX4_need 70 = .ok (.iconst (-1), 1) := dk_2 (dk_at dksX4_need_2 22 rfl rfl)
theorem dX4_need_71 : decode cX4_need 71 = .ok (.ireturn, 1) := dk_172 (dk_at dksX4_need_2 23 rfl rfl)
abbrev cX4_bound : ByteArray := prog_24_method_105_code
def yX4_bound : MethodName := ⟨RX4, "bound", "(I)I"⟩
def dkwX4_bound_1 : List UInt8 := [29, 100, 27, 184, 1, 82, 27, 184, 1, 93, 153, 0, 5, 29, 61, 132, 3, 1, 167, 255, 230, 28, 172]
abbrev dktX4_bound_1 : List UInt8 := dkwX4_bound_1 ++ []
def dkwX4_bound_0 : List UInt8 := [27, 4, 16, 18, 184, 0, 74, 154, 0, 5, 2, 172, 2, 61, 3, 62, 29, 16, 10, 162, 0, 26, 16, 10]
abbrev dktX4_bound_0 : List UInt8 := dkwX4_bound_0 ++ dktX4_bound_1
theorem dksX4_bound_0 : cX4_bound.data.toList.drop 0 = dktX4_bound_0 := by decide +kernel
theorem dksX4_bound_1 : cX4_bound.data.toList.drop 24 = dktX4_bound_1 := dk_seg dksX4_bound_0 24 rfl rfl
theorem dX4_bound_0 : decode cX4_bound 0 = .ok (.iload_n 1, 1) := dk_27 (dk_at dksX4_bound_0 0 rfl rfl)
theorem dX4_bound_1 : decode cX4_bound 1 = .ok (.iconst 1, 1) := dk_4 (dk_at dksX4_bound_0 1 rfl rfl)
theorem dX4_bound_2 : decode cX4_bound 2 = .ok (.bipush 18, 2) := dk_16 18 (dk_at dksX4_bound_0 2 rfl rfl)
theorem dX4_bound_4 : decode cX4_bound 4 = .ok (.invokestatic 74, 3) := dk_184 0 74 (dk_at dksX4_bound_0 4 rfl rfl)
theorem dX4_bound_7 : decode cX4_bound 7 = .ok (.ifCond .ne 5, 3) := dk_154 0 5 (dk_at dksX4_bound_0 7 rfl rfl)
theorem dX4_bound_10 : decode cX4_bound 10 = .ok (.iconst (-1), 1) := dk_2 (dk_at dksX4_bound_0 10 rfl rfl)
theorem dX4_bound_11 : decode cX4_bound 11 = .ok (.ireturn, 1) := dk_172 (dk_at dksX4_bound_0 11 rfl rfl)
theorem dX4_bound_12 : decode cX4_bound 12 = .ok (.iconst (-1), 1) := dk_2 (dk_at dksX4_bound_0 12 rfl rfl)
theorem dX4_bound_13 : decode cX4_bound 13 = .ok (.istore_n 2, 1) := dk_61 (dk_at dksX4_bound_0 13 rfl rfl)
theorem dX4_bound_14 : decode cX4_bound 14 = .ok (.iconst 0, 1) := dk_3 (dk_at dksX4_bound_0 14 rfl rfl)
theorem dX4_bound_15 : decode cX4_bound 15 = .ok (.istore_n 3, 1) := dk_62 (dk_at dksX4_bound_0 15 rfl rfl)
theorem dX4_bound_16 : decode cX4_bound 16 = .ok (.iload_n 3, 1) := dk_29 (dk_at dksX4_bound_0 16 rfl rfl)
theorem dX4_bound_17 : decode cX4_bound 17 = .ok (.bipush 10, 2) := dk_16 10 (dk_at dksX4_bound_0 17 rfl rfl)
theorem dX4_bound_19 : decode cX4_bound 19 = .ok (.if_icmp .ge 26, 3) := dk_162 0 26 (dk_at dksX4_bound_0 19 rfl rfl)
theorem dX4_bound_22 : decode cX4_bound 22 = .ok (.bipush 10, 2) := dk_16 10 (dk_at dksX4_bound_0 22 rfl rfl)
theorem dX4_bound_24 : decode cX4_bound 24 = .ok (.iload_n 3, 1) := dk_29 (dk_at dksX4_bound_1 0 rfl rfl)
theorem dX4_bound_25 : decode cX4_bound 25 = .ok (.isub, 1) := dk_100 (dk_at dksX4_bound_1 1 rfl rfl)
theorem dX4_bound_26 : decode cX4_bound 26 = .ok (.iload_n 1, 1) := dk_27 (dk_at dksX4_bound_1 2 rfl rfl)
theorem dX4_bound_27 : decode cX4_bound 27 = .ok (.invokestatic 338, 3) := dk_184 1 82 (dk_at dksX4_bound_1 3 rfl rfl)
theorem dX4_bound_30 : decode cX4_bound 30 = .ok (.iload_n 1, 1) := dk_27 (dk_at dksX4_bound_1 6 rfl rfl)
theorem dX4_bound_31 : decode cX4_bound 31 = .ok (.invokestatic 349, 3) := dk_184 1 93 (dk_at dksX4_bound_1 7 rfl rfl)
theorem dX4_bound_34 : decode cX4_bound 34 = .ok (.ifCond .eq 5, 3) := dk_153 0 5 (dk_at dksX4_bound_1 10 rfl rfl)
theorem dX4_bound_37 : decode cX4_bound 37 = .ok (.iload_n 3, 1) := dk_29 (dk_at dksX4_bound_1 13 rfl rfl)
theorem dX4_bound_38 : decode cX4_bound 38 = .ok (.istore_n 2, 1) := dk_61 (dk_at dksX4_bound_1 14 rfl rfl)
theorem dX4_bound_39 : decode cX4_bound 39 = .ok (.iinc 3 1, 3) := dk_132 3 1 (dk_at dksX4_bound_1 15 rfl rfl)
theorem dX4_bound_42 : decode cX4_bound 42 = .ok (.goto (-26), 3) := dk_167 255 230 (dk_at dksX4_bound_1 18 rfl rfl)
theorem dX4_bound_45 : decode cX4_bound 45 = .ok (.iload_n 2, 1) := dk_28 (dk_at dksX4_bound_1 21 rfl rfl)
theorem dX4_bound_46 : decode cX4_bound 46 = .ok (.ireturn, 1) := dk_172 (dk_at dksX4_bound_1 22 rfl rfl)
abbrev cX4_outlive : ByteArray := prog_24_method_108_code
def yX4_outlive : MethodName := ⟨RX4, "outlive", "(III)I"⟩
def dkwX4_outlive_5 : List UInt8 := [160, 0, 8, 21, 6, 167, 0, 14, 21, 4, 154, 0, 7, 3, 167, 0, 5, 21, 5, 172]
abbrev dktX4_outlive_5 : List UInt8 := dkwX4_outlive_5 ++ []
def dkwX4_outlive_4 : List UInt8 := [21, 6, 21, 7, 128, 54, 6, 132, 7, 1, 167, 255, 207, 29, 154, 0, 8, 21, 4, 167, 0, 24, 29, 5]
abbrev dktX4_outlive_4 : List UInt8 := dkwX4_outlive_4 ++ dktX4_outlive_5
def dkwX4_outlive_3 : List UInt8 := [21, 7, 27, 28, 182, 1, 100, 154, 0, 6, 167, 0, 20, 132, 4, 1, 21, 5, 21, 7, 126, 54, 5]
abbrev dktX4_outlive_3 : List UInt8 := dkwX4_outlive_3 ++ dktX4_outlive_4
def dkwX4_outlive_2 : List UInt8 := [54, 5, 3, 54, 6, 3, 54, 7, 21, 7, 4, 42, 180, 0, 17, 17, 6, 216, 46, 120, 162, 0, 40, 42]
abbrev dktX4_outlive_2 : List UInt8 := dkwX4_outlive_2 ++ dktX4_outlive_3
def dkwX4_outlive_1 : List UInt8 := [184, 0, 74, 154, 0, 5, 2, 172, 3, 54, 4, 4, 42, 180, 0, 17, 17, 6, 216, 46, 120, 4, 100]
abbrev dktX4_outlive_1 : List UInt8 := dkwX4_outlive_1 ++ dktX4_outlive_2
def dkwX4_outlive_0 : List UInt8 := [27, 3, 16, 7, 184, 0, 74, 153, 0, 23, 28, 4, 17, 0, 255, 184, 0, 74, 153, 0, 12, 29, 3, 5]
abbrev dktX4_outlive_0 : List UInt8 := dkwX4_outlive_0 ++ dktX4_outlive_1
theorem dksX4_outlive_0 : cX4_outlive.data.toList.drop 0 = dktX4_outlive_0 := by decide +kernel
theorem dksX4_outlive_1 : cX4_outlive.data.toList.drop 24 = dktX4_outlive_1 := dk_seg dksX4_outlive_0 24 rfl rfl
theorem dksX4_outlive_2 : cX4_outlive.data.toList.drop 47 = dktX4_outlive_2 := dk_seg dksX4_outlive_1 23 rfl rfl
theorem dksX4_outlive_3 : cX4_outlive.data.toList.drop 71 = dktX4_outlive_3 := dk_seg dksX4_outlive_2 24 rfl rfl
theorem dksX4_outlive_4 : cX4_outlive.data.toList.drop 94 = dktX4_outlive_4 := dk_seg dksX4_outlive_3 23 rfl rfl
theorem dksX4_outlive_5 : cX4_outlive.data.toList.drop 118 = dktX4_outlive_5 := dk_seg dksX4_outlive_4 24 rfl rfl
theorem dX4_outlive_0 : decode cX4_outlive 0 = .ok (.iload_n 1, 1) := dk_27 (dk_at dksX4_outlive_0 0 rfl rfl)
theorem dX4_outlive_1 : decode cX4_outlive 1 = .ok (.iconst 0, 1) := dk_3 (dk_at dksX4_outlive_0 1 rfl rfl)
theorem dX4_outlive_2 : decode cX4_outlive 2 = .ok (.bipush 7, 2) := dk_16 7 (dk_at dksX4_outlive_0 2 rfl rfl)
theorem dX4_outlive_4 : decode cX4_outlive 4 = .ok (.invokestatic 74, 3) := dk_184 0 74 (dk_at dksX4_outlive_0 4 rfl rfl)
theorem dX4_outlive_7 : decode cX4_outlive 7 = .ok (.ifCond .eq 23, 3) := dk_153 0 23 (dk_at dksX4_outlive_0 7 rfl rfl)
theorem dX4_outlive_10 : decode cX4_outlive 10 = .ok (.iload_n 2, 1) := dk_28 (dk_at dksX4_outlive_0 10 rfl rfl)
theorem dX4_outlive_11 : decode cX4_outlive 11 = .ok (.iconst 1, 1) := dk_4 (dk_at dksX4_outlive_0 11 rfl rfl)
theorem dX4_outlive_12 : decode cX4_outlive 12 = .ok (.sipush 255, 3) := dk_17 0 255 (dk_at dksX4_outlive_0 12 rfl rfl)
theorem dX4_outlive_15 : decode cX4_outlive 15 = .ok (.invokestatic 74, 3) := dk_184 0 74 (dk_at dksX4_outlive_0 15 rfl rfl)
theorem dX4_outlive_18 : decode cX4_outlive 18 = .ok (.ifCond .eq 12, 3) := dk_153 0 12 (dk_at dksX4_outlive_0 18 rfl rfl)
theorem dX4_outlive_21 : decode cX4_outlive 21 = .ok (.iload_n 3, 1) := dk_29 (dk_at dksX4_outlive_0 21 rfl rfl)
theorem dX4_outlive_22 : decode cX4_outlive 22 = .ok (.iconst 0, 1) := dk_3 (dk_at dksX4_outlive_0 22 rfl rfl)
theorem dX4_outlive_23 : decode cX4_outlive 23 = .ok (.iconst 2, 1) := dk_5 (dk_at dksX4_outlive_0 23 rfl rfl)
theorem dX4_outlive_24 : decode cX4_outlive 24 = .ok (.invokestatic 74, 3) := dk_184 0 74 (dk_at dksX4_outlive_1 0 rfl rfl)
theorem dX4_outlive_27 : decode cX4_outlive 27 = .ok (.ifCond .ne 5, 3) := dk_154 0 5 (dk_at dksX4_outlive_1 3 rfl rfl)
theorem dX4_outlive_30 : decode cX4_outlive 30 = .ok (.iconst (-1), 1) := dk_2 (dk_at dksX4_outlive_1 6 rfl rfl)
theorem dX4_outlive_31 : decode cX4_outlive 31 = .ok (.ireturn, 1) := dk_172 (dk_at dksX4_outlive_1 7 rfl rfl)
theorem dX4_outlive_32 : decode cX4_outlive 32 = .ok (.iconst 0, 1) := dk_3 (dk_at dksX4_outlive_1 8 rfl rfl)
theorem dX4_outlive_33 : decode cX4_outlive 33 = .ok (.istore 4, 2) := dk_54 4 (dk_at dksX4_outlive_1 9 rfl rfl)
theorem dX4_outlive_35 : decode cX4_outlive 35 = .ok (.iconst 1, 1) := dk_4 (dk_at dksX4_outlive_1 11 rfl rfl)
theorem dX4_outlive_36 : decode cX4_outlive 36 = .ok (.aload_n 0, 1) := dk_42 (dk_at dksX4_outlive_1 12 rfl rfl)
theorem dX4_outlive_37 : decode cX4_outlive 37 = .ok (.getfield 17, 3) := dk_180 0 17 (dk_at dksX4_outlive_1 13 rfl rfl)
theorem dX4_outlive_40 : decode cX4_outlive 40 = .ok (.sipush 1752, 3) := dk_17 6 216 (dk_at dksX4_outlive_1 16 rfl rfl)
theorem dX4_outlive_43 : decode cX4_outlive 43 = .ok (.iaload, 1) := dk_46 (dk_at dksX4_outlive_1 19 rfl rfl)
theorem dX4_outlive_44 : decode cX4_outlive 44 = .ok (.ishl, 1) := dk_120 (dk_at dksX4_outlive_1 20 rfl rfl)
theorem dX4_outlive_45 : decode cX4_outlive 45 = .ok (.iconst 1, 1) := dk_4 (dk_at dksX4_outlive_1 21 rfl rfl)
theorem dX4_outlive_46 : decode cX4_outlive 46 = .ok (.isub, 1) := dk_100 (dk_at dksX4_outlive_1 22 rfl rfl)
theorem dX4_outlive_47 : decode cX4_outlive 47 = .ok (.istore 5, 2) := dk_54 5 (dk_at dksX4_outlive_2 0 rfl rfl)
theorem dX4_outlive_49 : decode cX4_outlive 49 = .ok (.iconst 0, 1) := dk_3 (dk_at dksX4_outlive_2 2 rfl rfl)
theorem dX4_outlive_50 : decode cX4_outlive 50 = .ok (.istore 6, 2) := dk_54 6 (dk_at dksX4_outlive_2 3 rfl rfl)
theorem dX4_outlive_52 : decode cX4_outlive 52 = .ok (.iconst 0, 1) := dk_3 (dk_at dksX4_outlive_2 5 rfl rfl)
theorem dX4_outlive_53 : decode cX4_outlive 53 = .ok (.istore 7, 2) := dk_54 7 (dk_at dksX4_outlive_2 6 rfl rfl)
theorem dX4_outlive_55 : decode cX4_outlive 55 = .ok (.iload 7, 2) := dk_21 7 (dk_at dksX4_outlive_2 8 rfl rfl)
theorem dX4_outlive_57 : decode cX4_outlive 57 = .ok (.iconst 1, 1) := dk_4 (dk_at dksX4_outlive_2 10 rfl rfl)
theorem dX4_outlive_58 : decode cX4_outlive 58 = .ok (.aload_n 0, 1) := dk_42 (dk_at dksX4_outlive_2 11 rfl rfl)
theorem dX4_outlive_59 : decode cX4_outlive 59 = .ok (.getfield 17, 3) := dk_180 0 17 (dk_at dksX4_outlive_2 12 rfl rfl)
theorem dX4_outlive_62 : decode cX4_outlive 62 = .ok (.sipush 1752, 3) := dk_17 6 216 (dk_at dksX4_outlive_2 15 rfl rfl)
theorem dX4_outlive_65 : decode cX4_outlive 65 = .ok (.iaload, 1) := dk_46 (dk_at dksX4_outlive_2 18 rfl rfl)
theorem dX4_outlive_66 : decode cX4_outlive 66 = .ok (.ishl, 1) := dk_120 (dk_at dksX4_outlive_2 19 rfl rfl)
theorem dX4_outlive_67 : decode cX4_outlive 67 = .ok (.if_icmp .ge 40, 3) := dk_162 0 40 (dk_at dksX4_outlive_2 20 rfl rfl)
theorem dX4_outlive_70 : decode cX4_outlive 70 = .ok (.aload_n 0, 1) := dk_42 (dk_at dksX4_outlive_2 23 rfl rfl)
theorem dX4_outlive_71 : decode cX4_outlive 71 = .ok (.iload 7, 2) := dk_21 7 (dk_at dksX4_outlive_3 0 rfl rfl)
theorem dX4_outlive_73 : decode cX4_outlive 73 = .ok (.iload_n 1, 1) := dk_27 (dk_at dksX4_outlive_3 2 rfl rfl)
theorem dX4_outlive_74 : decode cX4_outlive 74 = .ok (.iload_n 2, 1) := dk_28 (dk_at dksX4_outlive_3 3 rfl rfl)
theorem dX4_outlive_75 : decode cX4_outlive 75 = .ok (.invokevirtual 356, 3) := dk_182 1 100 (dk_at dksX4_outlive_3 4 rfl rfl)
theorem dX4_outlive_78 : decode cX4_outlive 78 = .ok (.ifCond .ne 6, 3) := dk_154 0 6 (dk_at dksX4_outlive_3 7 rfl rfl)
theorem dX4_outlive_81 : decode cX4_outlive 81 = .ok (.goto 20, 3) := dk_167 0 20 (dk_at dksX4_outlive_3 10 rfl rfl)
theorem dX4_outlive_84 : decode cX4_outlive 84 = .ok (.iinc 4 1, 3) := dk_132 4 1 (dk_at dksX4_outlive_3 13 rfl rfl)
theorem dX4_outlive_87 : decode cX4_outlive 87 = .ok (.iload 5, 2) := dk_21 5 (dk_at dksX4_outlive_3 16 rfl rfl)
theorem dX4_outlive_89 : decode cX4_outlive 89 = .ok (.iload 7, 2) := dk_21 7 (dk_at dksX4_outlive_3 18 rfl rfl)
theorem dX4_outlive_91 : decode cX4_outlive 91 = .ok (.iand, 1) := dk_126 (dk_at dksX4_outlive_3 20 rfl rfl)
theorem dX4_outlive_92 : decode cX4_outlive 92 = .ok (.istore 5, 2) := dk_54 5 (dk_at dksX4_outlive_3 21 rfl rfl)
theorem dX4_outlive_94 : decode cX4_outlive 94 = .ok (.iload 6, 2) := dk_21 6 (dk_at dksX4_outlive_4 0 rfl rfl)
theorem dX4_outlive_96 : decode cX4_outlive 96 = .ok (.iload 7, 2) := dk_21 7 (dk_at dksX4_outlive_4 2 rfl rfl)
theorem dX4_outlive_98 : decode cX4_outlive 98 = .ok (.ior, 1) := dk_128 (dk_at dksX4_outlive_4 4 rfl rfl)
theorem dX4_outlive_99 : decode cX4_outlive 99 = .ok (.istore 6, 2) := dk_54 6 (dk_at dksX4_outlive_4 5 rfl rfl)
theorem dX4_outlive_101 : decode cX4_outlive 101 = .ok (.iinc 7 1, 3) := dk_132 7 1 (dk_at dksX4_outlive_4 7 rfl rfl)
theorem dX4_outlive_104 : decode cX4_outlive 104 = .ok (.goto (-49), 3) := dk_167 255 207 (dk_at dksX4_outlive_4 10 rfl rfl)
theorem dX4_outlive_107 : decode cX4_outlive 107 = .ok (.iload_n 3, 1) := dk_29 (dk_at dksX4_outlive_4 13 rfl rfl)
theorem dX4_outlive_108 : decode cX4_outlive 108 = .ok (.ifCond .ne 8, 3) := dk_154 0 8 (dk_at dksX4_outlive_4 14 rfl rfl)
theorem dX4_outlive_111 : decode cX4_outlive 111 = .ok (.iload 4, 2) := dk_21 4 (dk_at dksX4_outlive_4 17 rfl rfl)
theorem dX4_outlive_113 : decode cX4_outlive 113 = .ok (.goto 24, 3) := dk_167 0 24 (dk_at dksX4_outlive_4 19 rfl rfl)
theorem dX4_outlive_116 : decode cX4_outlive 116 = .ok (.iload_n 3, 1) := dk_29 (dk_at dksX4_outlive_4 22 rfl rfl)
theorem dX4_outlive_117 : decode cX4_outlive 117 = .ok (.iconst 2, 1) := dk_5 (dk_at dksX4_outlive_4 23 rfl rfl)
theorem dX4_outlive_118 : decode cX4_outlive 118 = .ok (.if_icmp .ne 8, 3) := dk_160 0 8 (dk_at dksX4_outlive_5 0 rfl rfl)
theorem dX4_outlive_121 : decode cX4_outlive 121 = .ok (.iload 6, 2) := dk_21 6 (dk_at dksX4_outlive_5 3 rfl rfl)
theorem dX4_outlive_123 : decode cX4_outlive 123 = .ok (.goto 14, 3) := dk_167 0 14 (dk_at dksX4_outlive_5 5 rfl rfl)
theorem dX4_outlive_126 : decode cX4_outlive 126 = .ok (.iload 4, 2) := dk_21 4 (dk_at dksX4_outlive_5 8 rfl rfl)
theorem dX4_outlive_128 : decode cX4_outlive 128 = .ok (.ifCond .ne 7, 3) := dk_154 0 7 (dk_at dksX4_outlive_5 10 rfl rfl)
theorem dX4_outlive_131 : decode cX4_outlive 131 = .ok (.iconst 0, 1) := dk_3 (dk_at dksX4_outlive_5 13 rfl rfl)
theorem dX4_outlive_132 : decode cX4_outlive 132 = .ok (.goto 5, 3) := dk_167 0 5 (dk_at dksX4_outlive_5 14 rfl rfl)
theorem dX4_outlive_135 : decode cX4_outlive 135 = .ok (.iload 5, 2) := dk_21 5 (dk_at dksX4_outlive_5 17 rfl rfl)
theorem dX4_outlive_137 : decode cX4_outlive 137 = .ok (.ireturn, 1) := dk_172 (dk_at dksX4_outlive_5 19 rfl rfl)
abbrev cX4_fits : ByteArray := prog_24_method_107_code
def yX4_fits : MethodName := ⟨RX4, "fits", "(III)Z"⟩
def dkwX4_fits_10 : List UInt8 := [182, 1, 97, 153, 0, 5, 3, 172, 132, 4, 1, 167, 255, 16, 4, 172]
abbrev dktX4_fits_10 : List UInt8 := dkwX4_fits_10 ++ []
def dkwX4_fits_9 : List UInt8 := [154, 0, 30, 42, 180, 0, 27, 7, 46, 16, 30, 161, 0, 19, 42, 27, 42, 180, 0, 27, 3, 46]
abbrev dktX4_fits_9 : List UInt8 := dkwX4_fits_9 ++ dktX4_fits_10
def dkwX4_fits_8 : List UInt8 := [180, 0, 27, 3, 46, 182, 1, 97, 154, 0, 5, 3, 172, 21, 7, 153, 0, 39, 42, 21, 4, 182, 1, 27]
abbrev dktX4_fits_8 : List UInt8 := dkwX4_fits_8 ++ dktX4_fits_9
def dkwX4_fits_7 : List UInt8 := [167, 0, 4, 3, 54, 7, 21, 6, 153, 0, 29, 42, 21, 4, 182, 1, 27, 4, 160, 0, 19, 42, 27, 42]
abbrev dktX4_fits_7 : List UInt8 := dkwX4_fits_7 ++ dktX4_fits_8
def dkwX4_fits_6 : List UInt8 := [161, 0, 23, 42, 180, 0, 27, 5, 46, 28, 160, 0, 17, 42, 180, 0, 27, 6, 46, 29, 163, 0, 7, 4]
abbrev dktX4_fits_6 : List UInt8 := dkwX4_fits_6 ++ dktX4_fits_7
def dkwX4_fits_5 : List UInt8 := [161, 0, 7, 4, 167, 0, 4, 3, 54, 6, 21, 5, 153, 0, 33, 42, 180, 0, 27, 5, 46, 28]
abbrev dktX4_fits_5 : List UInt8 := dkwX4_fits_5 ++ dktX4_fits_6
def dkwX4_fits_4 : List UInt8 := [5, 46, 28, 163, 0, 23, 42, 180, 0, 27, 5, 46, 28, 160, 0, 17, 42, 180, 0, 27, 6, 46, 29]
abbrev dktX4_fits_4 : List UInt8 := dkwX4_fits_4 ++ dktX4_fits_5
def dkwX4_fits_3 : List UInt8 := [180, 0, 27, 6, 46, 153, 0, 7, 4, 167, 0, 4, 3, 54, 5, 21, 5, 153, 0, 37, 42, 180, 0, 27]
abbrev dktX4_fits_3 : List UInt8 := dkwX4_fits_3 ++ dktX4_fits_4
def dkwX4_fits_2 : List UInt8 := [180, 0, 27, 16, 7, 46, 153, 0, 6, 167, 0, 184, 42, 180, 0, 27, 5, 46, 154, 0, 12, 42]
abbrev dktX4_fits_2 : List UInt8 := dkwX4_fits_2 ++ dktX4_fits_3
def dkwX4_fits_1 : List UInt8 := [182, 1, 21, 42, 180, 0, 27, 4, 46, 5, 160, 0, 207, 42, 180, 0, 27, 16, 6, 46, 154, 0, 197, 42]
abbrev dktX4_fits_1 : List UInt8 := dkwX4_fits_1 ++ dktX4_fits_2
def dkwX4_fits_0 : List UInt8 := [3, 54, 4, 21, 4, 42, 180, 0, 17, 17, 6, 218, 46, 162, 0, 233, 42, 42, 21, 4, 182, 0, 130]
abbrev dktX4_fits_0 : List UInt8 := dkwX4_fits_0 ++ dktX4_fits_1
theorem dksX4_fits_0 : cX4_fits.data.toList.drop 0 = dktX4_fits_0 := by decide +kernel
theorem dksX4_fits_1 : cX4_fits.data.toList.drop 23 = dktX4_fits_1 := dk_seg dksX4_fits_0 23 rfl rfl
theorem dksX4_fits_2 : cX4_fits.data.toList.drop 47 = dktX4_fits_2 := dk_seg dksX4_fits_1 24 rfl rfl
theorem dksX4_fits_3 : cX4_fits.data.toList.drop 69 = dktX4_fits_3 := dk_seg dksX4_fits_2 22 rfl rfl
theorem dksX4_fits_4 : cX4_fits.data.toList.drop 93 = dktX4_fits_4 := dk_seg dksX4_fits_3 24 rfl rfl
theorem dksX4_fits_5 : cX4_fits.data.toList.drop 116 = dktX4_fits_5 := dk_seg dksX4_fits_4 23 rfl rfl
theorem dksX4_fits_6 : cX4_fits.data.toList.drop 138 = dktX4_fits_6 := dk_seg dksX4_fits_5 22 rfl rfl
theorem dksX4_fits_7 : cX4_fits.data.toList.drop 162 = dktX4_fits_7 := dk_seg dksX4_fits_6 24 rfl rfl
theorem dksX4_fits_8 : cX4_fits.data.toList.drop 186 = dktX4_fits_8 := dk_seg dksX4_fits_7 24 rfl rfl
theorem dksX4_fits_9 : cX4_fits.data.toList.drop 210 = dktX4_fits_9 := dk_seg dksX4_fits_8 24 rfl rfl
theorem dksX4_fits_10 : cX4_fits.data.toList.drop 232 = dktX4_fits_10 := dk_seg dksX4_fits_9 22 rfl rfl
theorem dX4_fits_0 : decode cX4_fits 0 = .ok (.iconst 0, 1) := dk_3 (dk_at dksX4_fits_0 0 rfl rfl)
theorem dX4_fits_1 : decode cX4_fits 1 = .ok (.istore 4, 2) := dk_54 4 (dk_at dksX4_fits_0 1 rfl rfl)
theorem dX4_fits_3 : decode cX4_fits 3 = .ok (.iload 4, 2) := dk_21 4 (dk_at dksX4_fits_0 3 rfl rfl)
theorem dX4_fits_5 : decode cX4_fits 5 = .ok (.aload_n 0, 1) := dk_42 (dk_at dksX4_fits_0 5 rfl rfl)
theorem dX4_fits_6 : decode cX4_fits 6 = .ok (.getfield 17, 3) := dk_180 0 17 (dk_at dksX4_fits_0 6 rfl rfl)
theorem dX4_fits_9 : decode cX4_fits 9 = .ok (.sipush 1754, 3) := dk_17 6 218 (dk_at dksX4_fits_0 9 rfl rfl)
theorem dX4_fits_12 : decode cX4_fits 12 = .ok (.iaload, 1) := dk_46 (dk_at dksX4_fits_0 12 rfl rfl)
theorem dX4_fits_13 : decode cX4_fits 13 = .ok (.if_icmp .ge 233, 3) := dk_162 0 233 (dk_at dksX4_fits_0 13 rfl rfl)
theorem dX4_fits_16 : decode cX4_fits 16 = .ok (.aload_n 0, 1) := dk_42 (dk_at dksX4_fits_0 16 rfl rfl)
theorem dX4_fits_17 : decode cX4_fits 17 = .ok (.aload_n 0, 1) := dk_42 (dk_at dksX4_fits_0 17 rfl rfl)
theorem dX4_fits_18 : decode cX4_fits 18 = .ok (.iload 4, 2) := dk_21 4 (dk_at dksX4_fits_0 18 rfl rfl)
theorem dX4_fits_20 : decode cX4_fits 20 = .ok (.invokevirtual 130, 3) := dk_182 0 130 (dk_at dksX4_fits_0 20 rfl rfl)
theorem dX4_fits_23 : decode cX4_fits 23 = .ok (.invokevirtual 277, 3) := dk_182 1 21 (dk_at dksX4_fits_1 0 rfl rfl)
theorem dX4_fits_26 : decode cX4_fits 26 = .ok (.aload_n 0, 1) := dk_42 (dk_at dksX4_fits_1 3 rfl rfl)
theorem dX4_fits_27 : decode cX4_fits 27 = .ok (.getfield 27, 3) := dk_180 0 27 (dk_at dksX4_fits_1 4 rfl rfl)
theorem dX4_fits_30 : decode cX4_fits 30 = .ok (.iconst 1, 1) := dk_4 (dk_at dksX4_fits_1 7 rfl rfl)
theorem dX4_fits_31 : decode cX4_fits 31 = .ok (.iaload, 1) := dk_46 (dk_at dksX4_fits_1 8 rfl rfl)
theorem dX4_fits_32 : decode cX4_fits 32 = .ok (.iconst 2, 1) := dk_5 (dk_at dksX4_fits_1 9 rfl rfl)
theorem dX4_fits_33 : decode cX4_fits 33 = .ok (.if_icmp .ne 207, 3) := dk_160 0 207 (dk_at dksX4_fits_1 10 rfl rfl)
theorem dX4_fits_36 : decode cX4_fits 36 = .ok (.aload_n 0, 1) := dk_42 (dk_at dksX4_fits_1 13 rfl rfl)
theorem dX4_fits_37 : decode cX4_fits 37 = .ok (.getfield 27, 3) := dk_180 0 27 (dk_at dksX4_fits_1 14 rfl rfl)
theorem dX4_fits_40 : decode cX4_fits 40 = .ok (.bipush 6, 2) := dk_16 6 (dk_at dksX4_fits_1 17 rfl rfl)
theorem dX4_fits_42 : decode cX4_fits 42 = .ok (.iaload, 1) := dk_46 (dk_at dksX4_fits_1 19 rfl rfl)
theorem dX4_fits_43 : decode cX4_fits 43 = .ok (.ifCond .ne 197, 3) := dk_154 0 197 (dk_at dksX4_fits_1 20 rfl rfl)
theorem dX4_fits_46 : decode cX4_fits 46 = .ok (.aload_n 0, 1) := dk_42 (dk_at dksX4_fits_1 23 rfl rfl)
theorem dX4_fits_47 : decode cX4_fits 47 = .ok (.getfield 27, 3) := dk_180 0 27 (dk_at dksX4_fits_2 0 rfl rfl)
theorem dX4_fits_50 : decode cX4_fits 50 = .ok (.bipush 7, 2) := dk_16 7 (dk_at dksX4_fits_2 3 rfl rfl)
theorem dX4_fits_52 : decode cX4_fits 52 = .ok (.iaload, 1) := dk_46 (dk_at dksX4_fits_2 5 rfl rfl)
theorem dX4_fits_53 : decode cX4_fits 53 = .ok (.ifCond .eq 6, 3) := dk_153 0 6 (dk_at dksX4_fits_2 6 rfl rfl)
theorem dX4_fits_56 : decode cX4_fits 56 = .ok (.goto 184, 3) := dk_167 0 184 (dk_at dksX4_fits_2 9 rfl rfl)
theorem dX4_fits_59 : decode cX4_fits 59 = .ok (.aload_n 0, 1) := dk_42 (dk_at dksX4_fits_2 12 rfl rfl)
theorem dX4_fits_60 : decode cX4_fits 60 = .ok (.getfield 27, 3) := dk_180 0 27 (dk_at dksX4_fits_2 13 rfl rfl)
theorem dX4_fits_63 : decode cX4_fits 63 = .ok (.iconst 2, 1) := dk_5 (dk_at dksX4_fits_2 16 rfl rfl)
theorem dX4_fits_64 : decode cX4_fits 64 = .ok (.iaload, 1) := dk_46 (dk_at dksX4_fits_2 17 rfl rfl)
theorem dX4_fits_65 : decode cX4_fits 65 = .ok (.ifCond .ne 12, 3) := dk_154 0 12 (dk_at dksX4_fits_2 18 rfl rfl)
theorem dX4_fits_68 : decode cX4_fits 68 = .ok (.aload_n 0, 1) := dk_42 (dk_at dksX4_fits_2 21 rfl rfl)
theorem dX4_fits_69 : decode cX4_fits 69 = .ok (.getfield 27, 3) := dk_180 0 27 (dk_at dksX4_fits_3 0 rfl rfl)
theorem dX4_fits_72 : decode cX4_fits 72 = .ok (.iconst 3, 1) := dk_6 (dk_at dksX4_fits_3 3 rfl rfl)
theorem dX4_fits_73 : decode cX4_fits 73 = .ok (.iaload, 1) := dk_46 (dk_at dksX4_fits_3 4 rfl rfl)
theorem dX4_fits_74 : decode cX4_fits 74 = .ok (.ifCond .eq 7, 3) := dk_153 0 7 (dk_at dksX4_fits_3 5 rfl rfl)
theorem dX4_fits_77 : decode cX4_fits 77 = .ok (.iconst 1, 1) := dk_4 (dk_at dksX4_fits_3 8 rfl rfl)
theorem dX4_fits_78 : decode cX4_fits 78 = .ok (.goto 4, 3) := dk_167 0 4 (dk_at dksX4_fits_3 9 rfl rfl)
theorem dX4_fits_81 : decode cX4_fits 81 = .ok (.iconst 0, 1) := dk_3 (dk_at dksX4_fits_3 12 rfl rfl)
theorem dX4_fits_82 : decode cX4_fits 82 = .ok (.istore 5, 2) := dk_54 5 (dk_at dksX4_fits_3 13 rfl rfl)
theorem dX4_fits_84 : decode cX4_fits 84 = .ok (.iload 5, 2) := dk_21 5 (dk_at dksX4_fits_3 15 rfl rfl)
theorem dX4_fits_86 : decode cX4_fits 86 = .ok (.ifCond .eq 37, 3) := dk_153 0 37 (dk_at dksX4_fits_3 17 rfl rfl)
theorem dX4_fits_89 : decode cX4_fits 89 = .ok (.aload_n 0, 1) := dk_42 (dk_at dksX4_fits_3 20 rfl rfl)
theorem dX4_fits_90 : decode cX4_fits 90 = .ok (.getfield 27, 3) := dk_180 0 27 (dk_at dksX4_fits_3 21 rfl rfl)
theorem dX4_fits_93 : decode cX4_fits 93 = .ok (.iconst 2, 1) := dk_5 (dk_at dksX4_fits_4 0 rfl rfl)
theorem dX4_fits_94 : decode cX4_fits 94 = .ok (.iaload, 1) := dk_46 (dk_at dksX4_fits_4 1 rfl rfl)
theorem dX4_fits_95 : decode cX4_fits 95 = .ok (.iload_n 2, 1) := dk_28 (dk_at dksX4_fits_4 2 rfl rfl)
theorem dX4_fits_96 : decode cX4_fits 96 = .ok (.if_icmp .gt 23, 3) := dk_163 0 23 (dk_at dksX4_fits_4 3 rfl rfl)
theorem dX4_fits_99 : decode cX4_fits 99 = .ok (.aload_n 0, 1) := dk_42 (dk_at dksX4_fits_4 6 rfl rfl)
theorem dX4_fits_100 : decode cX4_fits 100 = .ok (.getfield 27, 3) := dk_180 0 27 (dk_at dksX4_fits_4 7 rfl rfl)
theorem dX4_fits_103 : decode cX4_fits 103 = .ok (.iconst 2, 1) := dk_5 (dk_at dksX4_fits_4 10 rfl rfl)
theorem dX4_fits_104 : decode cX4_fits 104 = .ok (.iaload, 1) := dk_46 (dk_at dksX4_fits_4 11 rfl rfl)
theorem dX4_fits_105 : decode cX4_fits 105 = .ok (.iload_n 2, 1) := dk_28 (dk_at dksX4_fits_4 12 rfl rfl)
theorem dX4_fits_106 : decode cX4_fits 106 = .ok (.if_icmp .ne 17, 3) := dk_160 0 17 (dk_at dksX4_fits_4 13 rfl rfl)
theorem dX4_fits_109 : decode cX4_fits 109 = .ok (.aload_n 0, 1) := dk_42 (dk_at dksX4_fits_4 16 rfl rfl)
theorem dX4_fits_110 : decode cX4_fits 110 = .ok (.getfield 27, 3) := dk_180 0 27 (dk_at dksX4_fits_4 17 rfl rfl)
theorem dX4_fits_113 : decode cX4_fits 113 = .ok (.iconst 3, 1) := dk_6 (dk_at dksX4_fits_4 20 rfl rfl)
theorem dX4_fits_114 : decode cX4_fits 114 = .ok (.iaload, 1) := dk_46 (dk_at dksX4_fits_4 21 rfl rfl)
theorem dX4_fits_115 : decode cX4_fits 115 = .ok (.iload_n 3, 1) := dk_29 (dk_at dksX4_fits_4 22 rfl rfl)
theorem dX4_fits_116 : decode cX4_fits 116 = .ok (.if_icmp .lt 7, 3) := dk_161 0 7 (dk_at dksX4_fits_5 0 rfl rfl)
theorem dX4_fits_119 : decode cX4_fits 119 = .ok (.iconst 1, 1) := dk_4 (dk_at dksX4_fits_5 3 rfl rfl)
theorem dX4_fits_120 : decode cX4_fits 120 = .ok (.goto 4, 3) := dk_167 0 4 (dk_at dksX4_fits_5 4 rfl rfl)
theorem dX4_fits_123 : decode cX4_fits 123 = .ok (.iconst 0, 1) := dk_3 (dk_at dksX4_fits_5 7 rfl rfl)
theorem dX4_fits_124 : decode cX4_fits 124 = .ok (.istore 6, 2) := dk_54 6 (dk_at dksX4_fits_5 8 rfl rfl)
theorem dX4_fits_126 : decode cX4_fits 126 = .ok (.iload 5, 2) := dk_21 5 (dk_at dksX4_fits_5 10 rfl rfl)
theorem dX4_fits_128 : decode cX4_fits 128 = .ok (.ifCond .eq 33, 3) := dk_153 0 33 (dk_at dksX4_fits_5 12 rfl rfl)
theorem dX4_fits_131 : decode cX4_fits 131 = .ok (.aload_n 0, 1) := dk_42 (dk_at dksX4_fits_5 15 rfl rfl)
theorem dX4_fits_132 : decode cX4_fits 132 = .ok (.getfield 27, 3) := dk_180 0 27 (dk_at dksX4_fits_5 16 rfl rfl)
theorem dX4_fits_135 : decode cX4_fits 135 = .ok (.iconst 2, 1) := dk_5 (dk_at dksX4_fits_5 19 rfl rfl)
theorem dX4_fits_136 : decode cX4_fits 136 = .ok (.iaload, 1) := dk_46 (dk_at dksX4_fits_5 20 rfl rfl)
theorem dX4_fits_137 : decode cX4_fits 137 = .ok (.iload_n 2, 1) := dk_28 (dk_at dksX4_fits_5 21 rfl rfl)
theorem dX4_fits_138 : decode cX4_fits 138 = .ok (.if_icmp .lt 23, 3) := dk_161 0 23 (dk_at dksX4_fits_6 0 rfl rfl)
theorem dX4_fits_141 : decode cX4_fits 141 = .ok (.aload_n 0, 1) := dk_42 (dk_at dksX4_fits_6 3 rfl rfl)
theorem dX4_fits_142 : decode cX4_fits 142 = .ok (.getfield 27, 3) := dk_180 0 27 (dk_at dksX4_fits_6 4 rfl rfl)
theorem dX4_fits_145 : decode cX4_fits 145 = .ok (.iconst 2, 1) := dk_5 (dk_at dksX4_fits_6 7 rfl rfl)
theorem dX4_fits_146 : decode cX4_fits 146 = .ok (.iaload, 1) := dk_46 (dk_at dksX4_fits_6 8 rfl rfl)
theorem dX4_fits_147 : decode cX4_fits 147 = .ok (.iload_n 2, 1) := dk_28 (dk_at dksX4_fits_6 9 rfl rfl)
theorem dX4_fits_148 : decode cX4_fits 148 = .ok (.if_icmp .ne 17, 3) := dk_160 0 17 (dk_at dksX4_fits_6 10 rfl rfl)
theorem dX4_fits_151 : decode cX4_fits 151 = .ok (.aload_n 0, 1) := dk_42 (dk_at dksX4_fits_6 13 rfl rfl)
theorem dX4_fits_152 : decode cX4_fits 152 = .ok (.getfield 27, 3) := dk_180 0 27 (dk_at dksX4_fits_6 14 rfl rfl)
theorem dX4_fits_155 : decode cX4_fits 155 = .ok (.iconst 3, 1) := dk_6 (dk_at dksX4_fits_6 17 rfl rfl)
theorem dX4_fits_156 : decode cX4_fits 156 = .ok (.iaload, 1) := dk_46 (dk_at dksX4_fits_6 18 rfl rfl)
theorem dX4_fits_157 : decode cX4_fits 157 = .ok (.iload_n 3, 1) := dk_29 (dk_at dksX4_fits_6 19 rfl rfl)
theorem dX4_fits_158 : decode cX4_fits 158 = .ok (.if_icmp .gt 7, 3) := dk_163 0 7 (dk_at dksX4_fits_6 20 rfl rfl)
theorem dX4_fits_161 : decode cX4_fits 161 = .ok (.iconst 1, 1) := dk_4 (dk_at dksX4_fits_6 23 rfl rfl)
theorem dX4_fits_162 : decode cX4_fits 162 = .ok (.goto 4, 3) := dk_167 0 4 (dk_at dksX4_fits_7 0 rfl rfl)
theorem dX4_fits_165 : decode cX4_fits 165 = .ok (.iconst 0, 1) := dk_3 (dk_at dksX4_fits_7 3 rfl rfl)
theorem dX4_fits_166 : decode cX4_fits 166 = .ok (.istore 7, 2) := dk_54 7 (dk_at dksX4_fits_7 4 rfl rfl)
theorem dX4_fits_168 : decode cX4_fits 168 = .ok (.iload 6, 2) := dk_21 6 (dk_at dksX4_fits_7 6 rfl rfl)
theorem dX4_fits_170 : decode cX4_fits 170 = .ok (.ifCond .eq 29, 3) := dk_153 0 29 (dk_at dksX4_fits_7 8 rfl rfl)
theorem dX4_fits_173 : decode cX4_fits 173 = .ok (.aload_n 0, 1) := dk_42 (dk_at dksX4_fits_7 11 rfl rfl)
theorem dX4_fits_174 : decode cX4_fits 174 = .ok (.iload 4, 2) := dk_21 4 (dk_at dksX4_fits_7 12 rfl rfl)
theorem dX4_fits_176 : decode cX4_fits 176 = .ok (.invokevirtual 283, 3) := dk_182 1 27 (dk_at dksX4_fits_7 14 rfl rfl)
theorem dX4_fits_179 : decode cX4_fits 179 = .ok (.iconst 1, 1) := dk_4 (dk_at dksX4_fits_7 17 rfl rfl)
theorem dX4_fits_180 : decode cX4_fits 180 = .ok (.if_icmp .ne 19, 3) := dk_160 0 19 (dk_at dksX4_fits_7 18 rfl rfl)
theorem dX4_fits_183 : decode cX4_fits 183 = .ok (.aload_n 0, 1) := dk_42 (dk_at dksX4_fits_7 21 rfl rfl)
theorem dX4_fits_184 : decode cX4_fits 184 = .ok (.iload_n 1, 1) := dk_27 (dk_at dksX4_fits_7 22 rfl rfl)
theorem dX4_fits_185 : decode cX4_fits 185 = .ok (.aload_n 0, 1) := dk_42 (dk_at dksX4_fits_7 23 rfl rfl)
theorem dX4_fits_186 : decode cX4_fits 186 = .ok (.getfield 27, 3) := dk_180 0 27 (dk_at dksX4_fits_8 0 rfl rfl)
theorem dX4_fits_189 : decode cX4_fits 189 = .ok (.iconst 0, 1) := dk_3 (dk_at dksX4_fits_8 3 rfl rfl)
theorem dX4_fits_190 : decode cX4_fits 190 = .ok (.iaload, 1) := dk_46 (dk_at dksX4_fits_8 4 rfl rfl)
theorem dX4_fits_191 : decode cX4_fits 191 = .ok (.invokevirtual 353, 3) := dk_182 1 97 (dk_at dksX4_fits_8 5 rfl rfl)
theorem dX4_fits_194 : decode cX4_fits 194 = .ok (.ifCond .ne 5, 3) := dk_154 0 5 (dk_at dksX4_fits_8 8 rfl rfl)
theorem dX4_fits_197 : decode cX4_fits 197 = .ok (.iconst 0, 1) := dk_3 (dk_at dksX4_fits_8 11 rfl rfl)
theorem dX4_fits_198 : decode cX4_fits 198 = .ok (.ireturn, 1) := dk_172 (dk_at dksX4_fits_8 12 rfl rfl)
theorem dX4_fits_199 : decode cX4_fits 199 = .ok (.iload 7, 2) := dk_21 7 (dk_at dksX4_fits_8 13 rfl rfl)
theorem dX4_fits_201 : decode cX4_fits 201 = .ok (.ifCond .eq 39, 3) := dk_153 0 39 (dk_at dksX4_fits_8 15 rfl rfl)
theorem dX4_fits_204 : decode cX4_fits 204 = .ok (.aload_n 0, 1) := dk_42 (dk_at dksX4_fits_8 18 rfl rfl)
theorem dX4_fits_205 : decode cX4_fits 205 = .ok (.iload 4, 2) := dk_21 4 (dk_at dksX4_fits_8 19 rfl rfl)
theorem dX4_fits_207 : decode cX4_fits 207 = .ok (.invokevirtual 283, 3) := dk_182 1 27 (dk_at dksX4_fits_8 21 rfl rfl)
theorem dX4_fits_210 : decode cX4_fits 210 = .ok (.ifCond .ne 30, 3) := dk_154 0 30 (dk_at dksX4_fits_9 0 rfl rfl)
theorem dX4_fits_213 : decode cX4_fits 213 = .ok (.aload_n 0, 1) := dk_42 (dk_at dksX4_fits_9 3 rfl rfl)
theorem dX4_fits_214 : decode cX4_fits 214 = .ok (.getfield 27, 3) := dk_180 0 27 (dk_at dksX4_fits_9 4 rfl rfl)
theorem dX4_fits_217 : decode cX4_fits 217 = .ok (.iconst 4, 1) := dk_7 (dk_at dksX4_fits_9 7 rfl rfl)
theorem dX4_fits_218 : decode cX4_fits 218 = .ok (.iaload, 1) := dk_46 (dk_at dksX4_fits_9 8 rfl rfl)
theorem dX4_fits_219 : decode cX4_fits 219 = .ok (.bipush 30, 2) := dk_16 30 (dk_at dksX4_fits_9 9 rfl rfl)
theorem dX4_fits_221 : decode cX4_fits 221 = .ok (.if_icmp .lt 19, 3) := dk_161 0 19 (dk_at dksX4_fits_9 11 rfl rfl)
theorem dX4_fits_224 : decode cX4_fits 224 = .ok (.aload_n 0, 1) := dk_42 (dk_at dksX4_fits_9 14 rfl rfl)
theorem dX4_fits_225 : decode cX4_fits 225 = .ok (.iload_n 1, 1) := dk_27 (dk_at dksX4_fits_9 15 rfl rfl)
theorem dX4_fits_226 : decode cX4_fits 226 = .ok (.aload_n 0, 1) := dk_42 (dk_at dksX4_fits_9 16 rfl rfl)
theorem dX4_fits_227 : decode cX4_fits 227 = .ok (.getfield 27, 3) := dk_180 0 27 (dk_at dksX4_fits_9 17 rfl rfl)
theorem dX4_fits_230 : decode cX4_fits 230 = .ok (.iconst 0, 1) := dk_3 (dk_at dksX4_fits_9 20 rfl rfl)
theorem dX4_fits_231 : decode cX4_fits 231 = .ok (.iaload, 1) := dk_46 (dk_at dksX4_fits_9 21 rfl rfl)
theorem dX4_fits_232 : decode cX4_fits 232 = .ok (.invokevirtual 353, 3) := dk_182 1 97 (dk_at dksX4_fits_10 0 rfl rfl)
theorem dX4_fits_235 : decode cX4_fits 235 = .ok (.ifCond .eq 5, 3) := dk_153 0 5 (dk_at dksX4_fits_10 3 rfl rfl)
theorem dX4_fits_238 : decode cX4_fits 238 = .ok (.iconst 0, 1) := dk_3 (dk_at dksX4_fits_10 6 rfl rfl)
theorem dX4_fits_239 : decode cX4_fits 239 = .ok (.ireturn, 1) := dk_172 (dk_at dksX4_fits_10 7 rfl rfl)
theorem dX4_fits_240 : decode cX4_fits 240 = .ok (.iinc 4 1, 3) := dk_132 4 1 (dk_at dksX4_fits_10 8 rfl rfl)
theorem dX4_fits_243 : decode cX4_fits 243 = .ok (.goto (-240), 3) := dk_167 255 16 (dk_at dksX4_fits_10 11 rfl rfl)
theorem dX4_fits_246 : decode cX4_fits 246 = .ok (.iconst 1, 1) := dk_4 (dk_at dksX4_fits_10 14 rfl rfl)
theorem dX4_fits_247 : decode cX4_fits 247 = .ok (.ireturn, 1) := dk_172 (dk_at dksX4_fits_10 15 rfl rfl)
abbrev cX4_suits : ByteArray := prog_24_method_106_code
def yX4_suits : MethodName := ⟨RX4, "suits", "(II)Z"⟩
def dkwX4_suits_1 : List UInt8 := [29, 5, 182, 0, 101, 28, 122, 4, 126, 4, 160, 0, 5, 4, 172, 132, 3, 1, 167, 255, 216, 3, 172]
abbrev dktX4_suits_1 : List UInt8 := dkwX4_suits_1 ++ []
def dkwX4_suits_0 : List UInt8 := [3, 62, 29, 42, 180, 0, 17, 17, 6, 216, 46, 162, 0, 34, 27, 29, 122, 4, 126, 4, 160, 0, 19, 42]
abbrev dktX4_suits_0 : List UInt8 := dkwX4_suits_0 ++ dktX4_suits_1
theorem dksX4_suits_0 : cX4_suits.data.toList.drop 0 = dktX4_suits_0 := by decide +kernel
theorem dksX4_suits_1 : cX4_suits.data.toList.drop 24 = dktX4_suits_1 := dk_seg dksX4_suits_0 24 rfl rfl
theorem dX4_suits_0 : decode cX4_suits 0 = .ok (.iconst 0, 1) := dk_3 (dk_at dksX4_suits_0 0 rfl rfl)
theorem dX4_suits_1 : decode cX4_suits 1 = .ok (.istore_n 3, 1) := dk_62 (dk_at dksX4_suits_0 1 rfl rfl)
theorem dX4_suits_2 : decode cX4_suits 2 = .ok (.iload_n 3, 1) := dk_29 (dk_at dksX4_suits_0 2 rfl rfl)
theorem dX4_suits_3 : decode cX4_suits 3 = .ok (.aload_n 0, 1) := dk_42 (dk_at dksX4_suits_0 3 rfl rfl)
theorem dX4_suits_4 : decode cX4_suits 4 = .ok (.getfield 17, 3) := dk_180 0 17 (dk_at dksX4_suits_0 4 rfl rfl)
theorem dX4_suits_7 : decode cX4_suits 7 = .ok (.sipush 1752, 3) := dk_17 6 216 (dk_at dksX4_suits_0 7 rfl rfl)
theorem dX4_suits_10 : decode cX4_suits 10 = .ok (.iaload, 1) := dk_46 (dk_at dksX4_suits_0 10 rfl rfl)
theorem dX4_suits_11 : decode cX4_suits 11 = .ok (.if_icmp .ge 34, 3) := dk_162 0 34 (dk_at dksX4_suits_0 11 rfl rfl)
theorem dX4_suits_14 : decode cX4_suits 14 = .ok (.iload_n 1, 1) := dk_27 (dk_at dksX4_suits_0 14 rfl rfl)
theorem dX4_suits_15 : decode cX4_suits 15 = .ok (.iload_n 3, 1) := dk_29 (dk_at dksX4_suits_0 15 rfl rfl)
theorem dX4_suits_16 : decode cX4_suits 16 = .ok (.ishr, 1) := dk_122 (dk_at dksX4_suits_0 16 rfl rfl)
theorem dX4_suits_17 : decode cX4_suits 17 = .ok (.iconst 1, 1) := dk_4 (dk_at dksX4_suits_0 17 rfl rfl)
theorem dX4_suits_18 : decode cX4_suits 18 = .ok (.iand, 1) := dk_126 (dk_at dksX4_suits_0 18 rfl rfl)
theorem dX4_suits_19 : decode cX4_suits 19 = .ok (.iconst 1, 1) := dk_4 (dk_at dksX4_suits_0 19 rfl rfl)
theorem dX4_suits_20 : decode cX4_suits 20 = .ok (.if_icmp .ne 19, 3) := dk_160 0 19 (dk_at dksX4_suits_0 20 rfl rfl)
theorem dX4_suits_23 : decode cX4_suits 23 = .ok (.aload_n 0, 1) := dk_42 (dk_at dksX4_suits_0 23 rfl rfl)
theorem dX4_suits_24 : decode cX4_suits 24 = .ok (.iload_n 3, 1) := dk_29 (dk_at dksX4_suits_1 0 rfl rfl)
theorem dX4_suits_25 : decode cX4_suits 25 = .ok (.iconst 2, 1) := dk_5 (dk_at dksX4_suits_1 1 rfl rfl)
theorem dX4_suits_26 : decode cX4_suits 26 = .ok (.invokevirtual 101, 3) := dk_182 0 101 (dk_at dksX4_suits_1 2 rfl rfl)
theorem dX4_suits_29 : decode cX4_suits 29 = .ok (.iload_n 2, 1) := dk_28 (dk_at dksX4_suits_1 5 rfl rfl)
theorem dX4_suits_30 : decode cX4_suits 30 = .ok (.ishr, 1) := dk_122 (dk_at dksX4_suits_1 6 rfl rfl)
theorem dX4_suits_31 : decode cX4_suits 31 = .ok (.iconst 1, 1) := dk_4 (dk_at dksX4_suits_1 7 rfl rfl)
theorem dX4_suits_32 : decode cX4_suits 32 = .ok (.iand, 1) := dk_126 (dk_at dksX4_suits_1 8 rfl rfl)
theorem dX4_suits_33 : decode cX4_suits 33 = .ok (.iconst 1, 1) := dk_4 (dk_at dksX4_suits_1 9 rfl rfl)
theorem dX4_suits_34 : decode cX4_suits 34 = .ok (.if_icmp .ne 5, 3) := dk_160 0 5 (dk_at dksX4_suits_1 10 rfl rfl)
theorem dX4_suits_37 : decode cX4_suits 37 = .ok (.iconst 1, 1) := dk_4 (dk_at dksX4_suits_1 13 rfl rfl)
theorem dX4_suits_38 : decode cX4_suits 38 = .ok (.ireturn, 1) := dk_172 (dk_at dksX4_suits_1 14 rfl rfl)
theorem dX4_suits_39 : decode cX4_suits 39 = .ok (.iinc 3 1, 3) := dk_132 3 1 (dk_at dksX4_suits_1 15 rfl rfl)
theorem dX4_suits_42 : decode cX4_suits 42 = .ok (.goto (-40), 3) := dk_167 255 216 (dk_at dksX4_suits_1 18 rfl rfl)
theorem dX4_suits_45 : decode cX4_suits 45 = .ok (.iconst 0, 1) := dk_3 (dk_at dksX4_suits_1 21 rfl rfl)
theorem dX4_suits_46 : decode cX4_suits 46 = .ok (.ireturn, 1) := dk_172 (dk_at dksX4_suits_1 22 rfl rfl)
abbrev cX4_right : ByteArray := prog_24_method_109_code
def yX4_right : MethodName := ⟨RX4, "right", "(II)I"⟩
def dkwX4_right_5 : List UInt8 := [132, 4, 1, 167, 255, 161, 29, 172]
abbrev dktX4_right_5 : List UInt8 := dkwX4_right_5 ++ []
def dkwX4_right_4 : List UInt8 := [154, 0, 6, 3, 54, 5, 132, 6, 1, 167, 255, 198, 21, 5, 153, 0, 10, 29, 4, 21, 4, 120, 128, 62]
abbrev dktX4_right_4 : List UInt8 := dkwX4_right_4 ++ dktX4_right_5
def dkwX4_right_3 : List UInt8 := [54, 7, 21, 7, 27, 159, 0, 9, 21, 7, 28, 160, 0, 17, 42, 21, 4, 21, 6, 182, 1, 33]
abbrev dktX4_right_3 : List UInt8 := dkwX4_right_3 ++ dktX4_right_4
def dkwX4_right_2 : List UInt8 := [180, 0, 17, 17, 6, 218, 46, 162, 0, 51, 42, 180, 0, 17, 42, 21, 6, 182, 0, 130, 16, 8, 96, 46]
abbrev dktX4_right_2 : List UInt8 := dkwX4_right_2 ++ dktX4_right_3
def dkwX4_right_1 : List UInt8 := [54, 4, 21, 4, 42, 180, 0, 17, 17, 6, 220, 46, 162, 0, 88, 4, 54, 5, 3, 54, 6, 21, 6, 42]
abbrev dktX4_right_1 : List UInt8 := dkwX4_right_1 ++ dktX4_right_2
def dkwX4_right_0 : List UInt8 := [27, 3, 6, 184, 0, 74, 153, 0, 12, 28, 3, 6, 184, 0, 74, 154, 0, 5, 2, 172, 3, 62, 3]
abbrev dktX4_right_0 : List UInt8 := dkwX4_right_0 ++ dktX4_right_1
theorem dksX4_right_0 : cX4_right.data.toList.drop 0 = dktX4_right_0 := by decide +kernel
theorem dksX4_right_1 : cX4_right.data.toList.drop 23 = dktX4_right_1 := dk_seg dksX4_right_0 23 rfl rfl
theorem dksX4_right_2 : cX4_right.data.toList.drop 47 = dktX4_right_2 := dk_seg dksX4_right_1 24 rfl rfl
theorem dksX4_right_3 : cX4_right.data.toList.drop 71 = dktX4_right_3 := dk_seg dksX4_right_2 24 rfl rfl
theorem dksX4_right_4 : cX4_right.data.toList.drop 93 = dktX4_right_4 := dk_seg dksX4_right_3 22 rfl rfl
theorem dksX4_right_5 : cX4_right.data.toList.drop 117 = dktX4_right_5 := dk_seg dksX4_right_4 24 rfl rfl
theorem dX4_right_0 : decode cX4_right 0 = .ok (.iload_n 1, 1) := dk_27 (dk_at dksX4_right_0 0 rfl rfl)
theorem dX4_right_1 : decode cX4_right 1 = .ok (.iconst 0, 1) := dk_3 (dk_at dksX4_right_0 1 rfl rfl)
theorem dX4_right_2 : decode cX4_right 2 = .ok (.iconst 3, 1) := dk_6 (dk_at dksX4_right_0 2 rfl rfl)
theorem dX4_right_3 : decode cX4_right 3 = .ok (.invokestatic 74, 3) := dk_184 0 74 (dk_at dksX4_right_0 3 rfl rfl)
theorem dX4_right_6 : decode cX4_right 6 = .ok (.ifCond .eq 12, 3) := dk_153 0 12 (dk_at dksX4_right_0 6 rfl rfl)
theorem dX4_right_9 : decode cX4_right 9 = .ok (.iload_n 2, 1) := dk_28 (dk_at dksX4_right_0 9 rfl rfl)
theorem dX4_right_10 : decode cX4_right 10 = .ok (.iconst 0, 1) := dk_3 (dk_at dksX4_right_0 10 rfl rfl)
theorem dX4_right_11 : decode cX4_right 11 = .ok (.iconst 3, 1) := dk_6 (dk_at dksX4_right_0 11 rfl rfl)
theorem dX4_right_12 : decode cX4_right 12 = .ok (.invokestatic 74, 3) := dk_184 0 74 (dk_at dksX4_right_0 12 rfl rfl)
theorem dX4_right_15 : decode cX4_right 15 = .ok (.ifCond .ne 5, 3) := dk_154 0 5 (dk_at dksX4_right_0 15 rfl rfl)
theorem dX4_right_18 : decode cX4_right 18 = .ok (.iconst (-1), 1) := dk_2 (dk_at dksX4_right_0 18 rfl rfl)
theorem dX4_right_19 : decode cX4_right 19 = .ok (.ireturn, 1) := dk_172 (dk_at dksX4_right_0 19 rfl rfl)
theorem dX4_right_20 : decode cX4_right 20 = .ok (.iconst 0, 1) := dk_3 (dk_at dksX4_right_0 20 rfl rfl)
theorem dX4_right_21 : decode cX4_right 21 = .ok (.istore_n 3, 1) := dk_62 (dk_at dksX4_right_0 21 rfl rfl)
theorem dX4_right_22 : decode cX4_right 22 = .ok (.iconst 0, 1) := dk_3 (dk_at dksX4_right_0 22 rfl rfl)
theorem dX4_right_23 : decode cX4_right 23 = .ok (.istore 4, 2) := dk_54 4 (dk_at dksX4_right_1 0 rfl rfl)
theorem dX4_right_25 : decode cX4_right 25 = .ok (.iload 4, 2) := dk_21 4 (dk_at dksX4_right_1 2 rfl rfl)
theorem dX4_right_27 : decode cX4_right 27 = .ok (.aload_n 0, 1) := dk_42 (dk_at dksX4_right_1 4 rfl rfl)
theorem dX4_right_28 : decode cX4_right 28 = .ok (.getfield 17, 3) := dk_180 0 17 (dk_at dksX4_right_1 5 rfl rfl)
theorem dX4_right_31 : decode cX4_right 31 = .ok (.sipush 1756, 3) := dk_17 6 220 (dk_at dksX4_right_1 8 rfl rfl)
theorem dX4_right_34 : decode cX4_right 34 = .ok (.iaload, 1) := dk_46 (dk_at dksX4_right_1 11 rfl rfl)
theorem dX4_right_35 : decode cX4_right 35 = .ok (.if_icmp .ge 88, 3) := dk_162 0 88 (dk_at dksX4_right_1 12 rfl rfl)
theorem dX4_right_38 : decode cX4_right 38 = .ok (.iconst 1, 1) := dk_4 (dk_at dksX4_right_1 15 rfl rfl)
theorem dX4_right_39 : decode cX4_right 39 = .ok (.istore 5, 2) := dk_54 5 (dk_at dksX4_right_1 16 rfl rfl)
theorem dX4_right_41 : decode cX4_right 41 = .ok (.iconst 0, 1) := dk_3 (dk_at dksX4_right_1 18 rfl rfl)
theorem dX4_right_42 : decode cX4_right 42 = .ok (.istore 6, 2) := dk_54 6 (dk_at dksX4_right_1 19 rfl rfl)
theorem dX4_right_44 : decode cX4_right 44 = .ok (.iload 6, 2) := dk_21 6 (dk_at dksX4_right_1 21 rfl rfl)
theorem dX4_right_46 : decode cX4_right 46 = .ok (.aload_n 0, 1) := dk_42 (dk_at dksX4_right_1 23 rfl rfl)
theorem dX4_right_47 : decode cX4_right 47 = .ok (.getfield 17, 3) := dk_180 0 17 (dk_at dksX4_right_2 0 rfl rfl)
theorem dX4_right_50 : decode cX4_right 50 = .ok (.sipush 1754, 3) := dk_17 6 218 (dk_at dksX4_right_2 3 rfl rfl)
theorem dX4_right_53 : decode cX4_right 53 = .ok (.iaload, 1) := dk_46 (dk_at dksX4_right_2 6 rfl rfl)
theorem dX4_right_54 : decode cX4_right 54 = .ok (.if_icmp .ge 51, 3) := dk_162 0 51 (dk_at dksX4_right_2 7 rfl rfl)
theorem dX4_right_57 : decode cX4_right 57 = .ok (.aload_n 0, 1) := dk_42 (dk_at dksX4_right_2 10 rfl rfl)
theorem dX4_right_58 : decode cX4_right 58 = .ok (.getfield 17, 3) := dk_180 0 17 (dk_at dksX4_right_2 11 rfl rfl)
theorem dX4_right_61 : decode cX4_right 61 = .ok (.aload_n 0, 1) := dk_42 (dk_at dksX4_right_2 14 rfl rfl)
theorem dX4_right_62 : decode cX4_right 62 = .ok (.iload 6, 2) := dk_21 6 (dk_at dksX4_right_2 15 rfl rfl)
theorem dX4_right_64 : decode cX4_right 64 = .ok (.invokevirtual 130, 3) := dk_182 0 130 (dk_at dksX4_right_2 17 rfl rfl)
theorem dX4_right_67 : decode cX4_right 67 = .ok (.bipush 8, 2) := dk_16 8 (dk_at dksX4_right_2 20 rfl rfl)
theorem dX4_right_69 : decode cX4_right 69 = .ok (.iadd, 1) := dk_96 (dk_at dksX4_right_2 22 rfl rfl)
theorem dX4_right_70 : decode cX4_right 70 = .ok (.iaload, 1) := dk_46 (dk_at dksX4_right_2 23 rfl rfl)
theorem dX4_right_71 : decode cX4_right 71 = .ok (.istore 7, 2) := dk_54 7 (dk_at dksX4_right_3 0 rfl rfl)
theorem dX4_right_73 : decode cX4_right 73 = .ok (.iload 7, 2) := dk_21 7 (dk_at dksX4_right_3 2 rfl rfl)
theorem dX4_right_75 : decode cX4_right 75 = .ok (.iload_n 1, 1) := dk_27 (dk_at dksX4_right_3 4 rfl rfl)
theorem dX4_right_76 : decode cX4_right 76 = .ok (.if_icmp .eq 9, 3) := dk_159 0 9 (dk_at dksX4_right_3 5 rfl rfl)
theorem dX4_right_79 : decode cX4_right 79 = .ok (.iload 7, 2) := dk_21 7 (dk_at dksX4_right_3 8 rfl rfl)
theorem dX4_right_81 : decode cX4_right 81 = .ok (.iload_n 2, 1) := dk_28 (dk_at dksX4_right_3 10 rfl rfl)
theorem dX4_right_82 : decode cX4_right 82 = .ok (.if_icmp .ne 17, 3) := dk_160 0 17 (dk_at dksX4_right_3 11 rfl rfl)
theorem dX4_right_85 : decode cX4_right 85 = .ok (.aload_n 0, 1) := dk_42 (dk_at dksX4_right_3 14 rfl rfl)
theorem dX4_right_86 : decode cX4_right 86 = .ok (.iload 4, 2) := dk_21 4 (dk_at dksX4_right_3 15 rfl rfl)
theorem dX4_right_88 : decode cX4_right 88 = .ok (.iload 6, 2) := dk_21 6 (dk_at dksX4_right_3 17 rfl rfl)
theorem dX4_right_90 : decode cX4_right 90 = .ok (.invokevirtual 289, 3) := dk_182 1 33 (dk_at dksX4_right_3 19 rfl rfl)
theorem dX4_right_93 : decode cX4_right 93 = .ok (.ifCond .ne 6, 3) := dk_154 0 6 (dk_at dksX4_right_4 0 rfl rfl)
theorem dX4_right_96 : decode cX4_right 96 = .ok (.iconst 0, 1) := dk_3 (dk_at dksX4_right_4 3 rfl rfl)
theorem dX4_right_97 : decode cX4_right 97 = .ok (.istore 5, 2) := dk_54 5 (dk_at dksX4_right_4 4 rfl rfl)
theorem dX4_right_99 : decode cX4_right 99 = .ok (.iinc 6 1, 3) := dk_132 6 1 (dk_at dksX4_right_4 6 rfl rfl)
theorem dX4_right_102 : decode cX4_right 102 = .ok (.goto (-58), 3) := dk_167 255 198 (dk_at dksX4_right_4 9 rfl rfl)
theorem dX4_right_105 : decode cX4_right 105 = .ok (.iload 5, 2) := dk_21 5 (dk_at dksX4_right_4 12 rfl rfl)
theorem dX4_right_107 : decode cX4_right 107 = .ok (.ifCond .eq 10, 3) := dk_153 0 10 (dk_at dksX4_right_4 14 rfl rfl)
theorem dX4_right_110 : decode cX4_right 110 = .ok (.iload_n 3, 1) := dk_29 (dk_at dksX4_right_4 17 rfl rfl)
theorem dX4_right_111 : decode cX4_right 111 = .ok (.iconst 1, 1) := dk_4 (dk_at dksX4_right_4 18 rfl rfl)
theorem dX4_right_112 : decode cX4_right 112 = .ok (.iload 4, 2) := dk_21 4 (dk_at dksX4_right_4 19 rfl rfl)
theorem dX4_right_114 : decode cX4_right 114 = .ok (.ishl, 1) := dk_120 (dk_at dksX4_right_4 21 rfl rfl)
theorem dX4_right_115 : decode cX4_right 115 = .ok (.ior, 1) := dk_128 (dk_at dksX4_right_4 22 rfl rfl)
theorem dX4_right_116 : decode cX4_right 116 = .ok (.istore_n 3, 1) := dk_62 (dk_at dksX4_right_4 23 rfl rfl)
theorem dX4_right_117 : decode cX4_right 117 = .ok (.iinc 4 1, 3) := dk_132 4 1 (dk_at dksX4_right_5 0 rfl rfl)
theorem dX4_right_120 : decode cX4_right 120 = .ok (.goto (-95), 3) := dk_167 255 161 (dk_at dksX4_right_5 3 rfl rfl)
theorem dX4_right_123 : decode cX4_right 123 = .ok (.iload_n 3, 1) := dk_29 (dk_at dksX4_right_5 6 rfl rfl)
theorem dX4_right_124 : decode cX4_right 124 = .ok (.ireturn, 1) := dk_172 (dk_at dksX4_right_5 7 rfl rfl)
abbrev cX4_how : ByteArray := prog_24_method_110_code
def yX4_how : MethodName := ⟨RX4, "how", "(III)I"⟩
def dkwX4_how_5 : List UInt8 := [167, 255, 204, 2, 172]
abbrev dktX4_how_5 : List UInt8 := dkwX4_how_5 ++ []
def dkwX4_how_4 : List UInt8 := [182, 0, 130, 21, 5, 96, 46, 79, 42, 27, 182, 1, 24, 21, 4, 160, 0, 6, 21, 5, 172, 132, 5, 1]
abbrev dktX4_how_4 : List UInt8 := dkwX4_how_4 ++ dktX4_how_5
def dkwX4_how_3 : List UInt8 := [162, 0, 51, 42, 42, 28, 182, 0, 130, 182, 1, 21, 42, 180, 0, 27, 21, 5, 42, 180, 0, 17, 42, 29]
abbrev dktX4_how_3 : List UInt8 := dkwX4_how_3 ++ dktX4_how_4
def dkwX4_how_2 : List UInt8 := [182, 1, 21, 42, 27, 182, 1, 24, 21, 4, 160, 0, 5, 2, 172, 3, 54, 5, 21, 5, 16, 9]
abbrev dktX4_how_2 : List UInt8 := dkwX4_how_2 ++ dktX4_how_3
def dkwX4_how_1 : List UInt8 := [2, 172, 42, 42, 29, 182, 0, 130, 182, 1, 21, 42, 27, 182, 1, 24, 54, 4, 42, 42, 28, 182, 0, 130]
abbrev dktX4_how_1 : List UInt8 := dkwX4_how_1 ++ dktX4_how_2
def dkwX4_how_0 : List UInt8 := [42, 27, 182, 1, 30, 153, 0, 19, 42, 28, 182, 0, 142, 153, 0, 11, 42, 29, 182, 0, 142, 154, 0, 5]
abbrev dktX4_how_0 : List UInt8 := dkwX4_how_0 ++ dktX4_how_1
theorem dksX4_how_0 : cX4_how.data.toList.drop 0 = dktX4_how_0 := by decide +kernel
theorem dksX4_how_1 : cX4_how.data.toList.drop 24 = dktX4_how_1 := dk_seg dksX4_how_0 24 rfl rfl
theorem dksX4_how_2 : cX4_how.data.toList.drop 48 = dktX4_how_2 := dk_seg dksX4_how_1 24 rfl rfl
theorem dksX4_how_3 : cX4_how.data.toList.drop 70 = dktX4_how_3 := dk_seg dksX4_how_2 22 rfl rfl
theorem dksX4_how_4 : cX4_how.data.toList.drop 94 = dktX4_how_4 := dk_seg dksX4_how_3 24 rfl rfl
theorem dksX4_how_5 : cX4_how.data.toList.drop 118 = dktX4_how_5 := dk_seg dksX4_how_4 24 rfl rfl
theorem dX4_how_0 : decode cX4_how 0 = .ok (.aload_n 0, 1) := dk_42 (dk_at dksX4_how_0 0 rfl rfl)
theorem dX4_how_1 : decode cX4_how 1 = .ok (.iload_n 1, 1) := dk_27 (dk_at dksX4_how_0 1 rfl rfl)
theorem dX4_how_2 : decode cX4_how 2 = .ok (.invokevirtual 286, 3) := dk_182 1 30 (dk_at dksX4_how_0 2 rfl rfl)
theorem dX4_how_5 : decode cX4_how 5 = .ok (.ifCond .eq 19, 3) := dk_153 0 19 (dk_at dksX4_how_0 5 rfl rfl)
theorem dX4_how_8 : decode cX4_how 8 = .ok (.aload_n 0, 1) := dk_42 (dk_at dksX4_how_0 8 rfl rfl)
theorem dX4_how_9 : decode cX4_how 9 = .ok (.iload_n 2, 1) := dk_28 (dk_at dksX4_how_0 9 rfl rfl)
theorem dX4_how_10 : decode cX4_how 10 = .ok (.invokevirtual 142, 3) := dk_182 0 142 (dk_at dksX4_how_0 10 rfl rfl)
theorem dX4_how_13 : decode cX4_how 13 = .ok (.ifCond .eq 11, 3) := dk_153 0 11 (dk_at dksX4_how_0 13 rfl rfl)
theorem dX4_how_16 : decode cX4_how 16 = .ok (.aload_n 0, 1) := dk_42 (dk_at dksX4_how_0 16 rfl rfl)
theorem dX4_how_17 : decode cX4_how 17 = .ok (.iload_n 3, 1) := dk_29 (dk_at dksX4_how_0 17 rfl rfl)
theorem dX4_how_18 : decode cX4_how 18 = .ok (.invokevirtual 142, 3) := dk_182 0 142 (dk_at dksX4_how_0 18 rfl rfl)
theorem dX4_how_21 : decode cX4_how 21 = .ok (.ifCond .ne 5, 3) := dk_154 0 5 (dk_at dksX4_how_0 21 rfl rfl)
theorem dX4_how_24 : decode cX4_how 24 = .ok (.iconst (-1), 1) := dk_2 (dk_at dksX4_how_1 0 rfl rfl)
theorem dX4_how_25 : decode cX4_how 25 = .ok (.ireturn, 1) := dk_172 (dk_at dksX4_how_1 1 rfl rfl)
theorem dX4_how_26 : decode cX4_how 26 = .ok (.aload_n 0, 1) := dk_42 (dk_at dksX4_how_1 2 rfl rfl)
theorem dX4_how_27 : decode cX4_how 27 = .ok (.aload_n 0, 1) := dk_42 (dk_at dksX4_how_1 3 rfl rfl)
theorem dX4_how_28 : decode cX4_how 28 = .ok (.iload_n 3, 1) := dk_29 (dk_at dksX4_how_1 4 rfl rfl)
theorem dX4_how_29 : decode cX4_how 29 = .ok (.invokevirtual 130, 3) := dk_182 0 130 (dk_at dksX4_how_1 5 rfl rfl)
theorem dX4_how_32 : decode cX4_how 32 = .ok (.invokevirtual 277, 3) := dk_182 1 21 (dk_at dksX4_how_1 8 rfl rfl)
theorem dX4_how_35 : decode cX4_how 35 = .ok (.aload_n 0, 1) := dk_42 (dk_at dksX4_how_1 11 rfl rfl)
theorem dX4_how_36 : decode cX4_how 36 = .ok (.iload_n 1, 1) := dk_27 (dk_at dksX4_how_1 12 rfl rfl)
theorem dX4_how_37 : decode cX4_how 37 = .ok (.invokevirtual 280, 3) := dk_182 1 24 (dk_at dksX4_how_1 13 rfl rfl)
theorem dX4_how_40 : decode cX4_how 40 = .ok (.istore 4, 2) := dk_54 4 (dk_at dksX4_how_1 16 rfl rfl)
theorem dX4_how_42 : decode cX4_how 42 = .ok (.aload_n 0, 1) := dk_42 (dk_at dksX4_how_1 18 rfl rfl)
theorem dX4_how_43 : decode cX4_how 43 = .ok (.aload_n 0, 1) := dk_42 (dk_at dksX4_how_1 19 rfl rfl)
theorem dX4_how_44 : decode cX4_how 44 = .ok (.iload_n 2, 1) := dk_28 (dk_at dksX4_how_1 20 rfl rfl)
theorem dX4_how_45 : decode cX4_how 45 = .ok (.invokevirtual 130, 3) := dk_182 0 130 (dk_at dksX4_how_1 21 rfl rfl)
theorem dX4_how_48 : decode cX4_how 48 = .ok (.invokevirtual 277, 3) := dk_182 1 21 (dk_at dksX4_how_2 0 rfl rfl)
theorem dX4_how_51 : decode cX4_how 51 = .ok (.aload_n 0, 1) := dk_42 (dk_at dksX4_how_2 3 rfl rfl)
theorem dX4_how_52 : decode cX4_how 52 = .ok (.iload_n 1, 1) := dk_27 (dk_at dksX4_how_2 4 rfl rfl)
theorem dX4_how_53 : decode cX4_how 53 = .ok (.invokevirtual 280, 3) := dk_182 1 24 (dk_at dksX4_how_2 5 rfl rfl)
theorem dX4_how_56 : decode cX4_how 56 = .ok (.iload 4, 2) := dk_21 4 (dk_at dksX4_how_2 8 rfl rfl)
theorem dX4_how_58 : decode cX4_how 58 = .ok (.if_icmp .ne 5, 3) := dk_160 0 5 (dk_at dksX4_how_2 10 rfl rfl)
theorem dX4_how_61 : decode cX4_how 61 = .ok (.iconst (-1), 1) := dk_2 (dk_at dksX4_how_2 13 rfl rfl)
theorem dX4_how_62 : decode cX4_how 62 = .ok (.ireturn, 1) := dk_172 (dk_at dksX4_how_2 14 rfl rfl)
theorem dX4_how_63 : decode cX4_how 63 = .ok (.iconst 0, 1) := dk_3 (dk_at dksX4_how_2 15 rfl rfl)
theorem dX4_how_64 : decode cX4_how 64 = .ok (.istore 5, 2) := dk_54 5 (dk_at dksX4_how_2 16 rfl rfl)
theorem dX4_how_66 : decode cX4_how 66 = .ok (.iload 5, 2) := dk_21 5 (dk_at dksX4_how_2 18 rfl rfl)
theorem dX4_how_68 : decode cX4_how 68 = .ok (.bipush 9, 2) := dk_16 9 (dk_at dksX4_how_2 20 rfl rfl)
theorem dX4_how_70 : decode cX4_how 70 = .ok (.if_icmp .ge 51, 3) := dk_162 0 51 (dk_at dksX4_how_3 0 rfl rfl)
theorem dX4_how_73 : decode cX4_how 73 = .ok (.aload_n 0, 1) := dk_42 (dk_at dksX4_how_3 3 rfl rfl)
theorem dX4_how_74 : decode cX4_how 74 = .ok (.aload_n 0, 1) := dk_42 (dk_at dksX4_how_3 4 rfl rfl)
theorem dX4_how_75 : decode cX4_how 75 = .ok (.iload_n 2, 1) := dk_28 (dk_at dksX4_how_3 5 rfl rfl)
theorem dX4_how_76 : decode cX4_how 76 = .ok (.invokevirtual 130, 3) := dk_182 0 130 (dk_at dksX4_how_3 6 rfl rfl)
theorem dX4_how_79 : decode cX4_how 79 = .ok (.invokevirtual 277, 3) := dk_182 1 21 (dk_at dksX4_how_3 9 rfl rfl)
theorem dX4_how_82 : decode cX4_how 82 = .ok (.aload_n 0, 1) := dk_42 (dk_at dksX4_how_3 12 rfl rfl)
theorem dX4_how_83 : decode cX4_how 83 = .ok (.getfield 27, 3) := dk_180 0 27 (dk_at dksX4_how_3 13 rfl rfl)
theorem dX4_how_86 : decode cX4_how 86 = .ok (.iload 5, 2) := dk_21 5 (dk_at dksX4_how_3 16 rfl rfl)
theorem dX4_how_88 : decode cX4_how 88 = .ok (.aload_n 0, 1) := dk_42 (dk_at dksX4_how_3 18 rfl rfl)
theorem dX4_how_89 : decode cX4_how 89 = .ok (.getfield 17, 3) := dk_180 0 17 (dk_at dksX4_how_3 19 rfl rfl)
theorem dX4_how_92 : decode cX4_how 92 = .ok (.aload_n 0, 1) := dk_42 (dk_at dksX4_how_3 22 rfl rfl)
theorem dX4_how_93 : decode cX4_how 93 = .ok (.iload_n 3, 1) := dk_29 (dk_at dksX4_how_3 23 rfl rfl)
theorem dX4_how_94 : decode cX4_how 94 = .ok (.invokevirtual 130, 3) := dk_182 0 130 (dk_at dksX4_how_4 0 rfl rfl)
theorem dX4_how_97 : decode cX4_how 97 = .ok (.iload 5, 2) := dk_21 5 (dk_at dksX4_how_4 3 rfl rfl)
theorem dX4_how_99 : decode cX4_how 99 = .ok (.iadd, 1) := dk_96 (dk_at dksX4_how_4 5 rfl rfl)
theorem dX4_how_100 : decode cX4_how 100 = .ok (.iaload, 1) := dk_46 (dk_at dksX4_how_4 6 rfl rfl)
theorem dX4_how_101 : decode cX4_how 101 = .ok (.iastore, 1) := dk_79 (dk_at dksX4_how_4 7 rfl rfl)
theorem dX4_how_102 : decode cX4_how 102 = .ok (.aload_n 0, 1) := dk_42 (dk_at dksX4_how_4 8 rfl rfl)
theorem dX4_how_103 : decode cX4_how 103 = .ok (.iload_n 1, 1) := dk_27 (dk_at dksX4_how_4 9 rfl rfl)
theorem dX4_how_104 : decode cX4_how 104 = .ok (.invokevirtual 280, 3) := dk_182 1 24 (dk_at dksX4_how_4 10 rfl rfl)
theorem dX4_how_107 : decode cX4_how 107 = .ok (.iload 4, 2) := dk_21 4 (dk_at dksX4_how_4 13 rfl rfl)
theorem dX4_how_109 : decode cX4_how 109 = .ok (.if_icmp .ne 6, 3) := dk_160 0 6 (dk_at dksX4_how_4 15 rfl rfl)
theorem dX4_how_112 : decode cX4_how 112 = .ok (.iload 5, 2) := dk_21 5 (dk_at dksX4_how_4 18 rfl rfl)
theorem dX4_how_114 : decode cX4_how 114 = .ok (.ireturn, 1) := dk_172 (dk_at dksX4_how_4 20 rfl rfl)
theorem dX4_how_115 : decode cX4_how 115 = .ok (.iinc 5 1, 3) := dk_132 5 1 (dk_at dksX4_how_4 21 rfl rfl)
theorem dX4_how_118 : decode cX4_how 118 = .ok (.goto (-52), 3) := dk_167 255 204 (dk_at dksX4_how_5 0 rfl rfl)
theorem dX4_how_121 : decode cX4_how 121 = .ok (.iconst (-1), 1) := dk_2 (dk_at dksX4_how_5 3 rfl rfl)
theorem dX4_how_122 : decode cX4_how 122 = .ok (.ireturn, 1) := dk_172 (dk_at dksX4_how_5 4 rfl rfl)
abbrev cX4_ways : ByteArray := prog_24_method_111_code
def yX4_ways : MethodName := ⟨RX4, "ways", "(III)I"⟩
def dkwX4_ways_5 : List UInt8 := [96, 46, 120, 128, 54, 4, 132, 5, 1, 167, 255, 162, 21, 4, 172]
abbrev dktX4_ways_5 : List UInt8 := dkwX4_ways_5 ++ []
def dkwX4_ways_4 : List UInt8 := [167, 0, 10, 21, 6, 16, 100, 162, 0, 23, 21, 4, 4, 42, 180, 0, 17, 42, 21, 5, 182, 0, 130, 4]
abbrev dktX4_ways_4 : List UInt8 := dkwX4_ways_4 ++ dktX4_ways_5
def dkwX4_ways_3 : List UInt8 := [154, 0, 6, 167, 0, 51, 42, 27, 21, 5, 182, 1, 33, 54, 6, 29, 154, 0, 11, 21, 6, 154, 0, 33]
abbrev dktX4_ways_3 : List UInt8 := dkwX4_ways_3 ++ dktX4_ways_4
def dkwX4_ways_2 : List UInt8 := [42, 180, 0, 17, 42, 21, 5, 182, 0, 130, 16, 8, 96, 46, 28, 160, 0, 63, 42, 21, 5, 182, 1, 27]
abbrev dktX4_ways_2 : List UInt8 := dkwX4_ways_2 ++ dktX4_ways_3
def dkwX4_ways_1 : List UInt8 := [154, 0, 5, 2, 172, 3, 54, 4, 3, 54, 5, 21, 5, 42, 180, 0, 17, 17, 6, 218, 46, 162, 0, 87]
abbrev dktX4_ways_1 : List UInt8 := dkwX4_ways_1 ++ dktX4_ways_2
def dkwX4_ways_0 : List UInt8 := [42, 27, 182, 1, 30, 153, 0, 21, 28, 3, 6, 184, 0, 74, 153, 0, 12, 29, 3, 4, 184, 0, 74]
abbrev dktX4_ways_0 : List UInt8 := dkwX4_ways_0 ++ dktX4_ways_1
theorem dksX4_ways_0 : cX4_ways.data.toList.drop 0 = dktX4_ways_0 := by decide +kernel
theorem dksX4_ways_1 : cX4_ways.data.toList.drop 23 = dktX4_ways_1 := dk_seg dksX4_ways_0 23 rfl rfl
theorem dksX4_ways_2 : cX4_ways.data.toList.drop 47 = dktX4_ways_2 := dk_seg dksX4_ways_1 24 rfl rfl
theorem dksX4_ways_3 : cX4_ways.data.toList.drop 71 = dktX4_ways_3 := dk_seg dksX4_ways_2 24 rfl rfl
theorem dksX4_ways_4 : cX4_ways.data.toList.drop 95 = dktX4_ways_4 := dk_seg dksX4_ways_3 24 rfl rfl
theorem dksX4_ways_5 : cX4_ways.data.toList.drop 119 = dktX4_ways_5 := dk_seg dksX4_ways_4 24 rfl rfl
theorem dX4_ways_0 : decode cX4_ways 0 = .ok (.aload_n 0, 1) := dk_42 (dk_at dksX4_ways_0 0 rfl rfl)
theorem dX4_ways_1 : decode cX4_ways 1 = .ok (.iload_n 1, 1) := dk_27 (dk_at dksX4_ways_0 1 rfl rfl)
theorem dX4_ways_2 : decode cX4_ways 2 = .ok (.invokevirtual 286, 3) := dk_182 1 30 (dk_at dksX4_ways_0 2 rfl rfl)
theorem dX4_ways_5 : decode cX4_ways 5 = .ok (.ifCond .eq 21, 3) := dk_153 0 21 (dk_at dksX4_ways_0 5 rfl rfl)
theorem dX4_ways_8 : decode cX4_ways 8 = .ok (.iload_n 2, 1) := dk_28 (dk_at dksX4_ways_0 8 rfl rfl)
theorem dX4_ways_9 : decode cX4_ways 9 = .ok (.iconst 0, 1) := dk_3 (dk_at dksX4_ways_0 9 rfl rfl)
theorem dX4_ways_10 : decode cX4_ways 10 = .ok (.iconst 3, 1) := dk_6 (dk_at dksX4_ways_0 10 rfl rfl)
theorem dX4_ways_11 : decode cX4_ways 11 = .ok (.invokestatic 74, 3) := dk_184 0 74 (dk_at dksX4_ways_0 11 rfl rfl)
theorem dX4_ways_14 : decode cX4_ways 14 = .ok (.ifCond .eq 12, 3) := dk_153 0 12 (dk_at dksX4_ways_0 14 rfl rfl)
theorem dX4_ways_17 : decode cX4_ways 17 = .ok (.iload_n 3, 1) := dk_29 (dk_at dksX4_ways_0 17 rfl rfl)
theorem dX4_ways_18 : decode cX4_ways 18 = .ok (.iconst 0, 1) := dk_3 (dk_at dksX4_ways_0 18 rfl rfl)
theorem dX4_ways_19 : decode cX4_ways 19 = .ok (.iconst 1, 1) := dk_4 (dk_at dksX4_ways_0 19 rfl rfl)
theorem dX4_ways_20 : decode cX4_ways 20 = .ok (.invokestatic 74, 3) := dk_184 0 74 (dk_at dksX4_ways_0 20 rfl rfl)
theorem dX4_ways_23 : decode cX4_ways 23 = .ok (.ifCond .ne 5, 3) := dk_154 0 5 (dk_at dksX4_ways_1 0 rfl rfl)
theorem dX4_ways_26 : decode cX4_ways 26 = .ok (.iconst (-1), 1) := dk_2 (dk_at dksX4_ways_1 3 rfl rfl)
theorem dX4_ways_27 : decode cX4_ways 27 = .ok (.ireturn, 1) := dk_172 (dk_at dksX4_ways_1 4 rfl rfl)
theorem dX4_ways_28 : decode cX4_ways 28 = .ok (.iconst 0, 1) := dk_3 (dk_at dksX4_ways_1 5 rfl rfl)
theorem dX4_ways_29 : decode cX4_ways 29 = .ok (.istore 4, 2) := dk_54 4 (dk_at dksX4_ways_1 6 rfl rfl)
theorem dX4_ways_31 : decode cX4_ways 31 = .ok (.iconst 0, 1) := dk_3 (dk_at dksX4_ways_1 8 rfl rfl)
theorem dX4_ways_32 : decode cX4_ways 32 = .ok (.istore 5, 2) := dk_54 5 (dk_at dksX4_ways_1 9 rfl rfl)
theorem dX4_ways_34 : decode cX4_ways 34 = .ok (.iload 5, 2) := dk_21 5 (dk_at dksX4_ways_1 11 rfl rfl)
theorem dX4_ways_36 : decode cX4_ways 36 = .ok (.aload_n 0, 1) := dk_42 (dk_at dksX4_ways_1 13 rfl rfl)
theorem dX4_ways_37 : decode cX4_ways 37 = .ok (.getfield 17, 3) := dk_180 0 17 (dk_at dksX4_ways_1 14 rfl rfl)
theorem dX4_ways_40 : decode cX4_ways 40 = .ok (.sipush 1754, 3) := dk_17 6 218 (dk_at dksX4_ways_1 17 rfl rfl)
theorem dX4_ways_43 : decode cX4_ways 43 = .ok (.iaload, 1) := dk_46 (dk_at dksX4_ways_1 20 rfl rfl)
theorem dX4_ways_44 : decode cX4_ways 44 = .ok (.if_icmp .ge 87, 3) := dk_162 0 87 (dk_at dksX4_ways_1 21 rfl rfl)
theorem dX4_ways_47 : decode cX4_ways 47 = .ok (.aload_n 0, 1) := dk_42 (dk_at dksX4_ways_2 0 rfl rfl)
theorem dX4_ways_48 : decode cX4_ways 48 = .ok (.getfield 17, 3) := dk_180 0 17 (dk_at dksX4_ways_2 1 rfl rfl)
theorem dX4_ways_51 : decode cX4_ways 51 = .ok (.aload_n 0, 1) := dk_42 (dk_at dksX4_ways_2 4 rfl rfl)
theorem dX4_ways_52 : decode cX4_ways 52 = .ok (.iload 5, 2) := dk_21 5 (dk_at dksX4_ways_2 5 rfl rfl)
theorem dX4_ways_54 : decode cX4_ways 54 = .ok (.invokevirtual 130, 3) := dk_182 0 130 (dk_at dksX4_ways_2 7 rfl rfl)
theorem dX4_ways_57 : decode cX4_ways 57 = .ok (.bipush 8, 2) := dk_16 8 (dk_at dksX4_ways_2 10 rfl rfl)
theorem dX4_ways_59 : decode cX4_ways 59 = .ok (.iadd, 1) := dk_96 (dk_at dksX4_ways_2 12 rfl rfl)
theorem dX4_ways_60 : decode cX4_ways 60 = .ok (.iaload, 1) := dk_46 (dk_at dksX4_ways_2 13 rfl rfl)
theorem dX4_ways_61 : decode cX4_ways 61 = .ok (.iload_n 2, 1) := dk_28 (dk_at dksX4_ways_2 14 rfl rfl)
theorem dX4_ways_62 : decode cX4_ways 62 = .ok (.if_icmp .ne 63, 3) := dk_160 0 63 (dk_at dksX4_ways_2 15 rfl rfl)
theorem dX4_ways_65 : decode cX4_ways 65 = .ok (.aload_n 0, 1) := dk_42 (dk_at dksX4_ways_2 18 rfl rfl)
theorem dX4_ways_66 : decode cX4_ways 66 = .ok (.iload 5, 2) := dk_21 5 (dk_at dksX4_ways_2 19 rfl rfl)
theorem dX4_ways_68 : decode cX4_ways 68 = .ok (.invokevirtual 283, 3) := dk_182 1 27 (dk_at dksX4_ways_2 21 rfl rfl)
theorem dX4_ways_71 : decode cX4_ways 71 = .ok (.ifCond .ne 6, 3) := dk_154 0 6 (dk_at dksX4_ways_3 0 rfl rfl)
theorem dX4_ways_74 : decode cX4_ways 74 = .ok (.goto 51, 3) := dk_167 0 51 (dk_at dksX4_ways_3 3 rfl rfl)
theorem dX4_ways_77 : decode cX4_ways 77 = .ok (.aload_n 0, 1) := dk_42 (dk_at dksX4_ways_3 6 rfl rfl)
theorem dX4_ways_78 : decode cX4_ways 78 = .ok (.iload_n 1, 1) := dk_27 (dk_at dksX4_ways_3 7 rfl rfl)
theorem dX4_ways_79 : decode cX4_ways 79 = .ok (.iload 5, 2) := dk_21 5 (dk_at dksX4_ways_3 8 rfl rfl)
theorem dX4_ways_81 : decode cX4_ways 81 = .ok (.invokevirtual 289, 3) := dk_182 1 33 (dk_at dksX4_ways_3 10 rfl rfl)
theorem dX4_ways_84 : decode cX4_ways 84 = .ok (.istore 6, 2) := dk_54 6 (dk_at dksX4_ways_3 13 rfl rfl)
theorem dX4_ways_86 : decode cX4_ways 86 = .ok (.iload_n 3, 1) := dk_29 (dk_at dksX4_ways_3 15 rfl rfl)
theorem dX4_ways_87 : decode cX4_ways 87 = .ok (.ifCond .ne 11, 3) := dk_154 0 11 (dk_at dksX4_ways_3 16 rfl rfl)
theorem dX4_ways_90 : decode cX4_ways 90 = .ok (.iload 6, 2) := dk_21 6 (dk_at dksX4_ways_3 19 rfl rfl)
theorem dX4_ways_92 : decode cX4_ways 92 = .ok (.ifCond .ne 33, 3) := dk_154 0 33 (dk_at dksX4_ways_3 21 rfl rfl)
theorem dX4_ways_95 : decode cX4_ways 95 = .ok (.goto 10, 3) := dk_167 0 10 (dk_at dksX4_ways_4 0 rfl rfl)
theorem dX4_ways_98 : decode cX4_ways 98 = .ok (.iload 6, 2) := dk_21 6 (dk_at dksX4_ways_4 3 rfl rfl)
theorem dX4_ways_100 : decode cX4_ways 100 = .ok (.bipush 100, 2) := dk_16 100 (dk_at dksX4_ways_4 5 rfl rfl)
theorem dX4_ways_102 : decode cX4_ways 102 = .ok (.if_icmp .ge 23, 3) := dk_162 0 23 (dk_at dksX4_ways_4 7 rfl rfl)
theorem dX4_ways_105 : decode cX4_ways 105 = .ok (.iload 4, 2) := dk_21 4 (dk_at dksX4_ways_4 10 rfl rfl)
theorem dX4_ways_107 : decode cX4_ways 107 = .ok (.iconst 1, 1) := dk_4 (dk_at dksX4_ways_4 12 rfl rfl)
theorem dX4_ways_108 : decode cX4_ways 108 = .ok (.aload_n 0, 1) := dk_42 (dk_at dksX4_ways_4 13 rfl rfl)
theorem dX4_ways_109 : decode cX4_ways 109 = .ok (.getfield 17, 3) := dk_180 0 17 (dk_at dksX4_ways_4 14 rfl rfl)
theorem dX4_ways_112 : decode cX4_ways 112 = .ok (.aload_n 0, 1) := dk_42 (dk_at dksX4_ways_4 17 rfl rfl)
theorem dX4_ways_113 : decode cX4_ways 113 = .ok (.iload 5, 2) := dk_21 5 (dk_at dksX4_ways_4 18 rfl rfl)
theorem dX4_ways_115 : decode cX4_ways 115 = .ok (.invokevirtual 130, 3) := dk_182 0 130 (dk_at dksX4_ways_4 20 rfl rfl)
theorem dX4_ways_118 : decode cX4_ways 118 = .ok (.iconst 1, 1) := dk_4 (dk_at dksX4_ways_4 23 rfl rfl)
theorem dX4_ways_119 : decode cX4_ways 119 = .ok (.iadd, 1) := dk_96 (dk_at dksX4_ways_5 0 rfl rfl)
theorem dX4_ways_120 : decode cX4_ways 120 = .ok (.iaload, 1) := dk_46 (dk_at dksX4_ways_5 1 rfl rfl)
theorem dX4_ways_121 : decode cX4_ways 121 = .ok (.ishl, 1) := dk_120 (dk_at dksX4_ways_5 2 rfl rfl)
theorem dX4_ways_122 : decode cX4_ways 122 = .ok (.ior, 1) := dk_128 (dk_at dksX4_ways_5 3 rfl rfl)
theorem dX4_ways_123 : decode cX4_ways 123 = .ok (.istore 4, 2) := dk_54 4 (dk_at dksX4_ways_5 4 rfl rfl)
theorem dX4_ways_125 : decode cX4_ways 125 = .ok (.iinc 5 1, 3) := dk_132 5 1 (dk_at dksX4_ways_5 6 rfl rfl)
theorem dX4_ways_128 : decode cX4_ways 128 = .ok (.goto (-94), 3) := dk_167 255 162 (dk_at dksX4_ways_5 9 rfl rfl)
theorem dX4_ways_131 : decode cX4_ways 131 = .ok (.iload 4, 2) := dk_21 4 (dk_at dksX4_ways_5 12 rfl rfl)
theorem dX4_ways_133 : decode cX4_ways 133 = .ok (.ireturn, 1) := dk_172 (dk_at dksX4_ways_5 14 rfl rfl)
abbrev cX4_spoilt : ByteArray := prog_24_method_113_code
def yX4_spoilt : MethodName := ⟨RX4, "spoilt", "(I)I"⟩
def dkwX4_spoilt_0 : List UInt8 := [42, 27, 182, 0, 145, 153, 0, 11, 42, 27, 182, 1, 103, 167, 0, 4, 2, 172]
abbrev dktX4_spoilt_0 : List UInt8 := dkwX4_spoilt_0 ++ []
theorem dksX4_spoilt_0 : cX4_spoilt.data.toList.drop 0 = dktX4_spoilt_0 := by decide +kernel
theorem dX4_spoilt_0 : decode cX4_spoilt 0 = .ok (.aload_n 0, 1) := dk_42 (dk_at dksX4_spoilt_0 0 rfl rfl)
theorem dX4_spoilt_1 : decode cX4_spoilt 1 = .ok (.iload_n 1, 1) := dk_27 (dk_at dksX4_spoilt_0 1 rfl rfl)
theorem dX4_spoilt_2 : decode cX4_spoilt 2 = .ok (.invokevirtual 145, 3) := dk_182 0 145 (dk_at dksX4_spoilt_0 2 rfl rfl)
theorem dX4_spoilt_5 : decode cX4_spoilt 5 = .ok (.ifCond .eq 11, 3) := dk_153 0 11 (dk_at dksX4_spoilt_0 5 rfl rfl)
theorem dX4_spoilt_8 : decode cX4_spoilt 8 = .ok (.aload_n 0, 1) := dk_42 (dk_at dksX4_spoilt_0 8 rfl rfl)
theorem dX4_spoilt_9 : decode cX4_spoilt 9 = .ok (.iload_n 1, 1) := dk_27 (dk_at dksX4_spoilt_0 9 rfl rfl)
theorem dX4_spoilt_10 : decode cX4_spoilt 10 = .ok (.invokevirtual 359, 3) := dk_182 1 103 (dk_at dksX4_spoilt_0 10 rfl rfl)
theorem dX4_spoilt_13 : decode cX4_spoilt 13 = .ok (.goto 4, 3) := dk_167 0 4 (dk_at dksX4_spoilt_0 13 rfl rfl)
theorem dX4_spoilt_16 : decode cX4_spoilt 16 = .ok (.iconst (-1), 1) := dk_2 (dk_at dksX4_spoilt_0 16 rfl rfl)
theorem dX4_spoilt_17 : decode cX4_spoilt 17 = .ok (.ireturn, 1) := dk_172 (dk_at dksX4_spoilt_0 17 rfl rfl)
abbrev cX4_spoiltOf : ByteArray := prog_24_method_112_code
def yX4_spoiltOf : MethodName := ⟨RX4, "spoiltOf", "(I)I"⟩
def dkwX4_spoiltOf_3 : List UInt8 := [154, 0, 7, 5, 167, 0, 4, 3, 96, 172]
abbrev dktX4_spoiltOf_3 : List UInt8 := dkwX4_spoiltOf_3 ++ []
def dkwX4_spoiltOf_2 : List UInt8 := [96, 46, 4, 160, 0, 26, 42, 180, 0, 27, 4, 46, 42, 180, 0, 27, 16, 6, 46, 184, 0, 110]
abbrev dktX4_spoiltOf_2 : List UInt8 := dkwX4_spoiltOf_2 ++ dktX4_spoiltOf_3
def dkwX4_spoiltOf_1 : List UInt8 := [5, 46, 42, 180, 0, 17, 28, 4, 96, 46, 164, 0, 7, 4, 167, 0, 4, 3, 42, 180, 0, 17, 28, 5]
abbrev dktX4_spoiltOf_1 : List UInt8 := dkwX4_spoiltOf_1 ++ dktX4_spoiltOf_2
def dkwX4_spoiltOf_0 : List UInt8 := [42, 42, 27, 182, 0, 133, 182, 1, 21, 3, 6, 42, 180, 0, 27, 3, 46, 104, 96, 61, 42, 180, 0, 27]
abbrev dktX4_spoiltOf_0 : List UInt8 := dkwX4_spoiltOf_0 ++ dktX4_spoiltOf_1
theorem dksX4_spoiltOf_0 : cX4_spoiltOf.data.toList.drop 0 = dktX4_spoiltOf_0 := by decide +kernel
theorem dksX4_spoiltOf_1 : cX4_spoiltOf.data.toList.drop 24 = dktX4_spoiltOf_1 := dk_seg dksX4_spoiltOf_0 24 rfl rfl
theorem dksX4_spoiltOf_2 : cX4_spoiltOf.data.toList.drop 48 = dktX4_spoiltOf_2 := dk_seg dksX4_spoiltOf_1 24 rfl rfl
theorem dksX4_spoiltOf_3 : cX4_spoiltOf.data.toList.drop 70 = dktX4_spoiltOf_3 := dk_seg dksX4_spoiltOf_2 22 rfl rfl
theorem dX4_spoiltOf_0 : decode cX4_spoiltOf 0 = .ok (.aload_n 0, 1) := dk_42 (dk_at dksX4_spoiltOf_0 0 rfl rfl)
theorem dX4_spoiltOf_1 : decode cX4_spoiltOf 1 = .ok (.aload_n 0, 1) := dk_42 (dk_at dksX4_spoiltOf_0 1 rfl rfl)
theorem dX4_spoiltOf_2 : decode cX4_spoiltOf 2 = .ok (.iload_n 1, 1) := dk_27 (dk_at dksX4_spoiltOf_0 2 rfl rfl)
theorem dX4_spoiltOf_3 : decode cX4_spoiltOf 3 = .ok (.invokevirtual 133, 3) := dk_182 0 133 (dk_at dksX4_spoiltOf_0 3 rfl rfl)
theorem dX4_spoiltOf_6 : decode cX4_spoiltOf 6 = .ok (.invokevirtual 277, 3) := dk_182 1 21 (dk_at dksX4_spoiltOf_0 6 rfl rfl)
theorem dX4_spoiltOf_9 : decode cX4_spoiltOf 9 = .ok (.iconst 0, 1) := dk_3 (dk_at dksX4_spoiltOf_0 9 rfl rfl)
theorem dX4_spoiltOf_10 : decode cX4_spoiltOf 10 = .ok (.iconst 3, 1) := dk_6 (dk_at dksX4_spoiltOf_0 10 rfl rfl)
theorem dX4_spoiltOf_11 : decode cX4_spoiltOf 11 = .ok (.aload_n 0, 1) := dk_42 (dk_at dksX4_spoiltOf_0 11 rfl rfl)
theorem dX4_spoiltOf_12 : decode cX4_spoiltOf 12 = .ok (.getfield 27, 3) := dk_180 0 27 (dk_at dksX4_spoiltOf_0 12 rfl rfl)
theorem dX4_spoiltOf_15 : decode cX4_spoiltOf 15 = .ok (.iconst 0, 1) := dk_3 (dk_at dksX4_spoiltOf_0 15 rfl rfl)
theorem dX4_spoiltOf_16 : decode cX4_spoiltOf 16 = .ok (.iaload, 1) := dk_46 (dk_at dksX4_spoiltOf_0 16 rfl rfl)
theorem dX4_spoiltOf_17 : decode cX4_spoiltOf 17 = .ok (.imul, 1) := dk_104 (dk_at dksX4_spoiltOf_0 17 rfl rfl)
theorem dX4_spoiltOf_18 : decode cX4_spoiltOf 18 = .ok (.iadd, 1) := dk_96 (dk_at dksX4_spoiltOf_0 18 rfl rfl)
theorem dX4_spoiltOf_19 : decode cX4_spoiltOf 19 = .ok (.istore_n 2, 1) := dk_61 (dk_at dksX4_spoiltOf_0 19 rfl rfl)
theorem dX4_spoiltOf_20 : decode cX4_spoiltOf 20 = .ok (.aload_n 0, 1) := dk_42 (dk_at dksX4_spoiltOf_0 20 rfl rfl)
theorem dX4_spoiltOf_21 : decode cX4_spoiltOf 21 = .ok (.getfield 27, 3) := dk_180 0 27 (dk_at dksX4_spoiltOf_0 21 rfl rfl)
theorem dX4_spoiltOf_24 : decode cX4_spoiltOf 24 = .ok (.iconst 2, 1) := dk_5 (dk_at dksX4_spoiltOf_1 0 rfl rfl)
theorem dX4_spoiltOf_25 : decode cX4_spoiltOf 25 = .ok (.iaload, 1) := dk_46 (dk_at dksX4_spoiltOf_1 1 rfl rfl)
theorem dX4_spoiltOf_26 : decode cX4_spoiltOf 26 = .ok (.aload_n 0, 1) := dk_42 (dk_at dksX4_spoiltOf_1 2 rfl rfl)
theorem dX4_spoiltOf_27 : decode cX4_spoiltOf 27 = .ok (.getfield 17, 3) := dk_180 0 17 (dk_at dksX4_spoiltOf_1 3 rfl rfl)
theorem dX4_spoiltOf_30 : decode cX4_spoiltOf 30 = .ok (.iload_n 2, 1) := dk_28 (dk_at dksX4_spoiltOf_1 6 rfl rfl)
theorem dX4_spoiltOf_31 : decode cX4_spoiltOf 31 = .ok (.iconst 1, 1) := dk_4 (dk_at dksX4_spoiltOf_1 7 rfl rfl)
theorem dX4_spoiltOf_32 : decode cX4_spoiltOf 32 = .ok (.iadd, 1) := dk_96 (dk_at dksX4_spoiltOf_1 8 rfl rfl)
theorem dX4_spoiltOf_33 : decode cX4_spoiltOf 33 = .ok (.iaload, 1) := dk_46 (dk_at dksX4_spoiltOf_1 9 rfl rfl)
theorem dX4_spoiltOf_34 : decode cX4_spoiltOf 34 = .ok (.if_icmp .le 7, 3) := dk_164 0 7 (dk_at dksX4_spoiltOf_1 10 rfl rfl)
theorem dX4_spoiltOf_37 : decode cX4_spoiltOf 37 = .ok (.iconst 1, 1) := dk_4 (dk_at dksX4_spoiltOf_1 13 rfl rfl)
theorem dX4_spoiltOf_38 : decode cX4_spoiltOf 38 = .ok (.goto 4, 3) := dk_167 0 4 (dk_at dksX4_spoiltOf_1 14 rfl rfl)
theorem dX4_spoiltOf_41 : decode cX4_spoiltOf 41 = .ok (.iconst 0, 1) := dk_3 (dk_at dksX4_spoiltOf_1 17 rfl rfl)
theorem dX4_spoiltOf_42 : decode cX4_spoiltOf 42 = .ok (.aload_n 0, 1) := dk_42 (dk_at dksX4_spoiltOf_1 18 rfl rfl)
theorem dX4_spoiltOf_43 : decode cX4_spoiltOf 43 = .ok (.getfield 17, 3) := dk_180 0 17 (dk_at dksX4_spoiltOf_1 19 rfl rfl)
theorem dX4_spoiltOf_46 : decode cX4_spoiltOf 46 = .ok (.iload_n 2, 1) := dk_28 (dk_at dksX4_spoiltOf_1 22 rfl rfl)
theorem dX4_spoiltOf_47 : decode cX4_spoiltOf 47 = .ok (.iconst 2, 1) := dk_5 (dk_at dksX4_spoiltOf_1 23 rfl rfl)
theorem dX4_spoiltOf_48 : decode cX4_spoiltOf 48 = .ok (.iadd, 1) := dk_96 (dk_at dksX4_spoiltOf_2 0 rfl rfl)
theorem dX4_spoiltOf_49 : decode cX4_spoiltOf 49 = .ok (.iaload, 1) := dk_46 (dk_at dksX4_spoiltOf_2 1 rfl rfl)
theorem dX4_spoiltOf_50 : decode cX4_spoiltOf 50 = .ok (.iconst 1, 1) := dk_4 (dk_at dksX4_spoiltOf_2 2 rfl rfl)
theorem dX4_spoiltOf_51 : decode cX4_spoiltOf 51 = .ok (.if_icmp .ne 26, 3) := dk_160 0 26 (dk_at dksX4_spoiltOf_2 3 rfl rfl)
theorem dX4_spoiltOf_54 : decode cX4_spoiltOf 54 = .ok (.aload_n 0, 1) := dk_42 (dk_at dksX4_spoiltOf_2 6 rfl rfl)
theorem dX4_spoiltOf_55 : decode cX4_spoiltOf 55 = .ok (.getfield 27, 3) := dk_180 0 27 (dk_at dksX4_spoiltOf_2 7 rfl rfl)
theorem dX4_spoiltOf_58 : decode cX4_spoiltOf 58 = .ok (.iconst 1, 1) := dk_4 (dk_at dksX4_spoiltOf_2 10 rfl rfl)
theorem dX4_spoiltOf_59 : decode cX4_spoiltOf 59 = .ok (.iaload, 1) := dk_46 (dk_at dksX4_spoiltOf_2 11 rfl rfl)
theorem dX4_spoiltOf_60 : decode cX4_spoiltOf 60 = .ok (.aload_n 0, 1) := dk_42 (dk_at dksX4_spoiltOf_2 12 rfl rfl)
theorem dX4_spoiltOf_61 : decode cX4_spoiltOf 61 = .ok (.getfield 27, 3) := dk_180 0 27 (dk_at dksX4_spoiltOf_2 13 rfl rfl)
theorem dX4_spoiltOf_64 : decode cX4_spoiltOf 64 = .ok (.bipush 6, 2) := dk_16 6 (dk_at dksX4_spoiltOf_2 16 rfl rfl)
theorem dX4_spoiltOf_66 : decode cX4_spoiltOf 66 = .ok (.iaload, 1) := dk_46 (dk_at dksX4_spoiltOf_2 18 rfl rfl)
theorem dX4_spoiltOf_67 : decode cX4_spoiltOf 67 = .ok (.invokestatic 110, 3) := dk_184 0 110 (dk_at dksX4_spoiltOf_2 19 rfl rfl)
theorem dX4_spoiltOf_70 : decode cX4_spoiltOf 70 = .ok (.ifCond .ne 7, 3) := dk_154 0 7 (dk_at dksX4_spoiltOf_3 0 rfl rfl)
theorem dX4_spoiltOf_73 : decode cX4_spoiltOf 73 = .ok (.iconst 2, 1) := dk_5 (dk_at dksX4_spoiltOf_3 3 rfl rfl)
theorem dX4_spoiltOf_74 : decode cX4_spoiltOf 74 = .ok (.goto 4, 3) := dk_167 0 4 (dk_at dksX4_spoiltOf_3 4 rfl rfl)
theorem dX4_spoiltOf_77 : decode cX4_spoiltOf 77 = .ok (.iconst 0, 1) := dk_3 (dk_at dksX4_spoiltOf_3 7 rfl rfl)
theorem dX4_spoiltOf_78 : decode cX4_spoiltOf 78 = .ok (.iadd, 1) := dk_96 (dk_at dksX4_spoiltOf_3 8 rfl rfl)
theorem dX4_spoiltOf_79 : decode cX4_spoiltOf 79 = .ok (.ireturn, 1) := dk_172 (dk_at dksX4_spoiltOf_3 9 rfl rfl)
abbrev cX4_whole : ByteArray := prog_24_method_114_code
def yX4_whole : MethodName := ⟨RX4, "whole", "(I)I"⟩
def dkwX4_whole_2 : List UInt8 := [167, 255, 222, 2, 172]
abbrev dktX4_whole_2 : List UInt8 := dkwX4_whole_2 ++ []
def dkwX4_whole_1 : List UInt8 := [42, 28, 182, 1, 103, 154, 0, 14, 42, 27, 28, 182, 1, 66, 153, 0, 5, 28, 172, 132, 2, 1]
abbrev dktX4_whole_1 : List UInt8 := dkwX4_whole_1 ++ dktX4_whole_2
def dkwX4_whole_0 : List UInt8 := [42, 27, 182, 1, 60, 154, 0, 5, 2, 172, 3, 61, 28, 42, 180, 0, 17, 17, 6, 219, 46, 162, 0, 28]
abbrev dktX4_whole_0 : List UInt8 := dkwX4_whole_0 ++ dktX4_whole_1
theorem dksX4_whole_0 : cX4_whole.data.toList.drop 0 = dktX4_whole_0 := by decide +kernel
theorem dksX4_whole_1 : cX4_whole.data.toList.drop 24 = dktX4_whole_1 := dk_seg dksX4_whole_0 24 rfl rfl
theorem dksX4_whole_2 : cX4_whole.data.toList.drop 46 = dktX4_whole_2 := dk_seg dksX4_whole_1 22 rfl rfl
theorem dX4_whole_0 : decode cX4_whole 0 = .ok (.aload_n 0, 1) := dk_42 (dk_at dksX4_whole_0 0 rfl rfl)
theorem dX4_whole_1 : decode cX4_whole 1 = .ok (.iload_n 1, 1) := dk_27 (dk_at dksX4_whole_0 1 rfl rfl)
theorem dX4_whole_2 : decode cX4_whole 2 = .ok (.invokevirtual 316, 3) := dk_182 1 60 (dk_at dksX4_whole_0 2 rfl rfl)
theorem dX4_whole_5 : decode cX4_whole 5 = .ok (.ifCond .ne 5, 3) := dk_154 0 5 (dk_at dksX4_whole_0 5 rfl rfl)
theorem dX4_whole_8 : decode cX4_whole 8 = .ok (.iconst (-1), 1) := dk_2 (dk_at dksX4_whole_0 8 rfl rfl)
theorem dX4_whole_9 : decode cX4_whole 9 = .ok (.ireturn, 1) := dk_172 (dk_at dksX4_whole_0 9 rfl rfl)
theorem dX4_whole_10 : decode cX4_whole 10 = .ok (.iconst 0, 1) := dk_3 (dk_at dksX4_whole_0 10 rfl rfl)
theorem dX4_whole_11 : decode cX4_whole 11 = .ok (.istore_n 2, 1) := dk_61 (dk_at dksX4_whole_0 11 rfl rfl)
theorem dX4_whole_12 : decode cX4_whole 12 = .ok (.iload_n 2, 1) := dk_28 (dk_at dksX4_whole_0 12 rfl rfl)
theorem dX4_whole_13 : decode cX4_whole 13 = .ok (.aload_n 0, 1) := dk_42 (dk_at dksX4_whole_0 13 rfl rfl)
theorem dX4_whole_14 : decode cX4_whole 14 = .ok (.getfield 17, 3) := dk_180 0 17 (dk_at dksX4_whole_0 14 rfl rfl)
theorem dX4_whole_17 : decode cX4_whole 17 = .ok (.sipush 1755, 3) := dk_17 6 219 (dk_at dksX4_whole_0 17 rfl rfl)
theorem dX4_whole_20 : decode cX4_whole 20 = .ok (.iaload, 1) := dk_46 (dk_at dksX4_whole_0 20 rfl rfl)
theorem dX4_whole_21 : decode cX4_whole 21 = .ok (.if_icmp .ge 28, 3) := dk_162 0 28 (dk_at dksX4_whole_0 21 rfl rfl)
theorem dX4_whole_24 : decode cX4_whole 24 = .ok (.aload_n 0, 1) := dk_42 (dk_at dksX4_whole_1 0 rfl rfl)
theorem dX4_whole_25 : decode cX4_whole 25 = .ok (.iload_n 2, 1) := dk_28 (dk_at dksX4_whole_1 1 rfl rfl)
theorem dX4_whole_26 : decode cX4_whole 26 = .ok (.invokevirtual 359, 3) := dk_182 1 103 (dk_at dksX4_whole_1 2 rfl rfl)
theorem dX4_whole_29 : decode cX4_whole 29 = .ok (.ifCond .ne 14, 3) := dk_154 0 14 (dk_at dksX4_whole_1 5 rfl rfl)
theorem dX4_whole_32 : decode cX4_whole 32 = .ok (.aload_n 0, 1) := dk_42 (dk_at dksX4_whole_1 8 rfl rfl)
theorem dX4_whole_33 : decode cX4_whole 33 = .ok (.iload_n 1, 1) := dk_27 (dk_at dksX4_whole_1 9 rfl rfl)
theorem dX4_whole_34 : decode cX4_whole 34 = .ok (.iload_n 2, 1) := dk_28 (dk_at dksX4_whole_1 10 rfl rfl)
theorem dX4_whole_35 : decode cX4_whole 35 = .ok (.invokevirtual 322, 3) := dk_182 1 66 (dk_at dksX4_whole_1 11 rfl rfl)
theorem dX4_whole_38 : decode cX4_whole 38 = .ok (.ifCond .eq 5, 3) := dk_153 0 5 (dk_at dksX4_whole_1 14 rfl rfl)
theorem dX4_whole_41 : decode cX4_whole 41 = .ok (.iload_n 2, 1) := dk_28 (dk_at dksX4_whole_1 17 rfl rfl)
theorem dX4_whole_42 : decode cX4_whole 42 = .ok (.ireturn, 1) := dk_172 (dk_at dksX4_whole_1 18 rfl rfl)
theorem dX4_whole_43 : decode cX4_whole 43 = .ok (.iinc 2 1, 3) := dk_132 2 1 (dk_at dksX4_whole_1 19 rfl rfl)
theorem dX4_whole_46 : decode cX4_whole 46 = .ok (.goto (-34), 3) := dk_167 255 222 (dk_at dksX4_whole_2 0 rfl rfl)
theorem dX4_whole_49 : decode cX4_whole 49 = .ok (.iconst (-1), 1) := dk_2 (dk_at dksX4_whole_2 3 rfl rfl)
theorem dX4_whole_50 : decode cX4_whole 50 = .ok (.ireturn, 1) := dk_172 (dk_at dksX4_whole_2 4 rfl rfl)
abbrev cX4_commission : ByteArray := prog_24_method_116_code
def yX4_commission : MethodName := ⟨RX4, "commission", "(II)I"⟩
def dkwX4_commission_4 : List UInt8 := [96, 28, 79, 42, 180, 0, 17, 17, 6, 221, 92, 46, 4, 96, 79, 42, 29, 182, 0, 82, 172]
abbrev dktX4_commission_4 : List UInt8 := dkwX4_commission_4 ++ []
def dkwX4_commission_3 : List UInt8 := [180, 0, 17, 17, 6, 196, 5, 29, 104, 96, 27, 79, 42, 180, 0, 17, 17, 6, 196, 5, 29, 104, 96, 4]
abbrev dktX4_commission_3 : List UInt8 := dkwX4_commission_3 ++ dktX4_commission_4
def dkwX4_commission_2 : List UInt8 := [180, 0, 17, 17, 6, 221, 46, 62, 29, 16, 9, 160, 0, 10, 42, 16, 251, 182, 0, 78, 172, 42]
abbrev dktX4_commission_2 : List UInt8 := dkwX4_commission_2 ++ dktX4_commission_3
def dkwX4_commission_1 : List UInt8 := [163, 0, 15, 28, 4, 27, 184, 1, 106, 184, 0, 74, 154, 0, 9, 42, 2, 182, 0, 78, 172, 42]
abbrev dktX4_commission_1 : List UInt8 := dkwX4_commission_1 ++ dktX4_commission_2
def dkwX4_commission_0 : List UInt8 := [27, 158, 0, 38, 27, 4, 42, 180, 0, 17, 17, 6, 219, 46, 120, 162, 0, 24, 27, 184, 1, 106, 16, 9]
abbrev dktX4_commission_0 : List UInt8 := dkwX4_commission_0 ++ dktX4_commission_1
theorem dksX4_commission_0 : cX4_commission.data.toList.drop 0 = dktX4_commission_0 := by decide +kernel
theorem dksX4_commission_1 : cX4_commission.data.toList.drop 24 = dktX4_commission_1 := dk_seg dksX4_commission_0 24 rfl rfl
theorem dksX4_commission_2 : cX4_commission.data.toList.drop 46 = dktX4_commission_2 := dk_seg dksX4_commission_1 22 rfl rfl
theorem dksX4_commission_3 : cX4_commission.data.toList.drop 68 = dktX4_commission_3 := dk_seg dksX4_commission_2 22 rfl rfl
theorem dksX4_commission_4 : cX4_commission.data.toList.drop 92 = dktX4_commission_4 := dk_seg dksX4_commission_3 24 rfl rfl
theorem dX4_commission_0 : decode cX4_commission 0 = .ok (.iload_n 1, 1) := dk_27 (dk_at dksX4_commission_0 0 rfl rfl)
theorem dX4_commission_1 : decode cX4_commission 1 = .ok (.ifCond .le 38, 3) := dk_158 0 38 (dk_at dksX4_commission_0 1 rfl rfl)
theorem dX4_commission_4 : decode cX4_commission 4 = .ok (.iload_n 1, 1) := dk_27 (dk_at dksX4_commission_0 4 rfl rfl)
theorem dX4_commission_5 : decode cX4_commission 5 = .ok (.iconst 1, 1) := dk_4 (dk_at dksX4_commission_0 5 rfl rfl)
theorem dX4_commission_6 : decode cX4_commission 6 = .ok (.aload_n 0, 1) := dk_42 (dk_at dksX4_commission_0 6 rfl rfl)
theorem dX4_commission_7 : decode cX4_commission 7 = .ok (.getfield 17, 3) := dk_180 0 17 (dk_at dksX4_commission_0 7 rfl rfl)
theorem dX4_commission_10 : decode cX4_commission 10 = .ok (.sipush 1755, 3) := dk_17 6 219 (dk_at dksX4_commission_0 10 rfl rfl)
theorem dX4_commission_13 : decode cX4_commission 13 = .ok (.iaload, 1) := dk_46 (dk_at dksX4_commission_0 13 rfl rfl)
theorem dX4_commission_14 : decode cX4_commission 14 = .ok (.ishl, 1) := dk_120 (dk_at dksX4_commission_0 14 rfl rfl)
theorem dX4_commission_15 : decode cX4_commission 15 = .ok (.if_icmp .ge 24, 3) := dk_162 0 24 (dk_at dksX4_commission_0 15 rfl rfl)
theorem dX4_commission_18 : decode cX4_commission 18 = .ok (.iload_n 1, 1) := dk_27 (dk_at dksX4_commission_0 18 rfl rfl)
theorem dX4_commission_19 : decode cX4_commission 19 = .ok (.invokestatic 362, 3) := dk_184 1 106 (dk_at dksX4_commission_0 19 rfl rfl)
theorem dX4_commission_22 : decode cX4_commission 22 = .ok (.bipush 9, 2) := dk_16 9 (dk_at dksX4_commission_0 22 rfl rfl)
theorem dX4_commission_24 : decode cX4_commission 24 = .ok (.if_icmp .gt 15, 3) := dk_163 0 15 (dk_at dksX4_commission_1 0 rfl rfl)
theorem dX4_commission_27 : decode cX4_commission 27 = .ok (.iload_n 2, 1) := dk_28 (dk_at dksX4_commission_1 3 rfl rfl)
theorem dX4_commission_28 : decode cX4_commission 28 = .ok (.iconst 1, 1) := dk_4 (dk_at dksX4_commission_1 4 rfl rfl)
theorem dX4_commission_29 : decode cX4_commission 29 = .ok (.iload_n 1, 1) := dk_27 (dk_at dksX4_commission_1 5 rfl rfl)
theorem dX4_commission_30 : decode cX4_commission 30 = .ok (.invokestatic 362, 3) := dk_184 1 106 (dk_at dksX4_commission_1 6 rfl rfl)
theorem dX4_commission_33 : decode cX4_commission 33 = .ok (.invokestatic 74, 3) := dk_184 0 74 (dk_at dksX4_commission_1 9 rfl rfl)
theorem dX4_commission_36 : decode cX4_commission 36 = .ok (.ifCond .ne 9, 3) := dk_154 0 9 (dk_at dksX4_commission_1 12 rfl rfl)
theorem dX4_commission_39 : decode cX4_commission 39 = .ok (.aload_n 0, 1) := dk_42 (dk_at dksX4_commission_1 15 rfl rfl)
theorem dX4_commission_40 : decode cX4_commission 40 = .ok (.iconst (-1), 1) := dk_2 (dk_at dksX4_commission_1 16 rfl rfl)
theorem dX4_commission_41 : decode cX4_commission 41 = .ok (.invokevirtual 78, 3) := dk_182 0 78 (dk_at dksX4_commission_1 17 rfl rfl)
theorem dX4_commission_44 : decode cX4_commission 44 = .ok (.ireturn, 1) := dk_172 (dk_at dksX4_commission_1 20 rfl rfl)
theorem dX4_commission_45 : decode cX4_commission 45 = .ok (.aload_n 0, 1) := dk_42 (dk_at dksX4_commission_1 21 rfl rfl)
theorem dX4_commission_46 : decode cX4_commission 46 = .ok (.getfield 17, 3) := dk_180 0 17 (dk_at dksX4_commission_2 0 rfl rfl)
theorem dX4_commission_49 : decode cX4_commission 49 = .ok (.sipush 1757, 3) := dk_17 6 221 (dk_at dksX4_commission_2 3 rfl rfl)
theorem dX4_commission_52 : decode cX4_commission 52 = .ok (.iaload, 1) := dk_46 (dk_at dksX4_commission_2 6 rfl rfl)
theorem dX4_commission_53 : decode cX4_commission 53 = .ok (.istore_n 3, 1) := dk_62 (dk_at dksX4_commission_2 7 rfl rfl)
theorem dX4_commission_54 : decode cX4_commission 54 = .ok (.iload_n 3, 1) := dk_29 (dk_at dksX4_commission_2 8 rfl rfl)
theorem dX4_commission_55 : decode cX4_commission 55 = .ok (.bipush 9, 2) := dk_16 9 (dk_at dksX4_commission_2 9 rfl rfl)
theorem dX4_commission_57 : decode cX4_commission 57 = .ok (.if_icmp .ne 10, 3) := dk_160 0 10 (dk_at dksX4_commission_2 11 rfl rfl)
theorem dX4_commission_60 : decode cX4_commission 60 = .ok (.aload_n 0, 1) := dk_42 (dk_at dksX4_commission_2 14 rfl rfl)
theorem dX4_commission_61 : decode cX4_commission 61 = .ok (.bipush (-5), 2) := dk_16 251 (dk_at dksX4_commission_2 15 rfl rfl)
theorem dX4_commission_63 : decode cX4_commission 63 = .ok (.invokevirtual 78, 3) := dk_182 0 78 (dk_at dksX4_commission_2 17 rfl rfl)
theorem dX4_commission_66 : decode cX4_commission 66 = .ok (.ireturn, 1) := dk_172 (dk_at dksX4_commission_2 20 rfl rfl)
theorem dX4_commission_67 : decode cX4_commission 67 = .ok (.aload_n 0, 1) := dk_42 (dk_at dksX4_commission_2 21 rfl rfl)
theorem dX4_commission_68 : decode cX4_commission 68 = .ok (.getfield 17, 3) := dk_180 0 17 (dk_at dksX4_commission_3 0 rfl rfl)
theorem dX4_commission_71 : decode cX4_commission 71 = .ok (.sipush 1732, 3) := dk_17 6 196 (dk_at dksX4_commission_3 3 rfl rfl)
theorem dX4_commission_74 : decode cX4_commission 74 = .ok (.iconst 2, 1) := dk_5 (dk_at dksX4_commission_3 6 rfl rfl)
theorem dX4_commission_75 : decode cX4_commission 75 = .ok (.iload_n 3, 1) := dk_29 (dk_at dksX4_commission_3 7 rfl rfl)
theorem dX4_commission_76 : decode cX4_commission 76 = .ok (.imul, 1) := dk_104 (dk_at dksX4_commission_3 8 rfl rfl)
theorem dX4_commission_77 : decode cX4_commission 77 = .ok (.iadd, 1) := dk_96 (dk_at dksX4_commission_3 9 rfl rfl)
theorem dX4_commission_78 : decode cX4_commission 78 = .ok (.iload_n 1, 1) := dk_27 (dk_at dksX4_commission_3 10 rfl rfl)
theorem dX4_commission_79 : decode cX4_commission 79 = .ok (.iastore, 1) := dk_79 (dk_at dksX4_commission_3 11 rfl rfl)
theorem dX4_commission_80 : decode cX4_commission 80 = .ok (.aload_n 0, 1) := dk_42 (dk_at dksX4_commission_3 12 rfl rfl)
theorem dX4_commission_81 : decode cX4_commission 81 = .ok (.getfield 17, 3) := dk_180 0 17 (dk_at dksX4_commission_3 13 rfl rfl)
theorem dX4_commission_84 : decode cX4_commission 84 = .ok (.sipush 1732, 3) := dk_17 6 196 (dk_at dksX4_commission_3 16 rfl rfl)
theorem dX4_commission_87 : decode cX4_commission 87 = .ok (.iconst 2, 1) := dk_5 (dk_at dksX4_commission_3 19 rfl rfl)
theorem dX4_commission_88 : decode cX4_commission 88 = .ok (.iload_n 3, 1) := dk_29 (dk_at dksX4_commission_3 20 rfl rfl)
theorem dX4_commission_89 : decode cX4_commission 89 = .ok (.imul, 1) := dk_104 (dk_at dksX4_commission_3 21 rfl rfl)
theorem dX4_commission_90 : decode cX4_commission 90 = .ok (.iadd, 1) := dk_96 (dk_at dksX4_commission_3 22 rfl rfl)
theorem dX4_commission_91 : decode cX4_commission 91 = .ok (.iconst 1, 1) := dk_4 (dk_at dksX4_commission_3 23 rfl rfl)
theorem dX4_commission_92 : decode cX4_commission 92 = .ok (.iadd, 1) := dk_96 (dk_at dksX4_commission_4 0 rfl rfl)
theorem dX4_commission_93 : decode cX4_commission 93 = .ok (.iload_n 2, 1) := dk_28 (dk_at dksX4_commission_4 1 rfl rfl)
theorem dX4_commission_94 : decode cX4_commission 94 = .ok (.iastore, 1) := dk_79 (dk_at dksX4_commission_4 2 rfl rfl)
theorem dX4_commission_95 : decode cX4_commission 95 = .ok (.aload_n 0, 1) := dk_42 (dk_at dksX4_commission_4 3 rfl rfl)
theorem dX4_commission_96 : decode cX4_commission 96 = .ok (.getfield 17, 3) := dk_180 0 17 (dk_at dksX4_commission_4 4 rfl rfl)
theorem dX4_commission_99 : decode cX4_commission 99 = .ok (.sipush 1757, 3) := dk_17 6 221 (dk_at dksX4_commission_4 7 rfl rfl)
theorem dX4_commission_102 : decode cX4_commission 102 = .ok (.dup2, 1) := dk_92 (dk_at dksX4_commission_4 10 rfl rfl)
theorem dX4_commission_103 : decode cX4_commission 103 = .ok (.iaload, 1) := dk_46 (dk_at dksX4_commission_4 11 rfl rfl)
theorem dX4_commission_104 : decode cX4_commission 104 = .ok (.iconst 1, 1) := dk_4 (dk_at dksX4_commission_4 12 rfl rfl)
theorem dX4_commission_105 : decode cX4_commission 105 = .ok (.iadd, 1) := dk_96 (dk_at dksX4_commission_4 13 rfl rfl)
theorem dX4_commission_106 : decode cX4_commission 106 = .ok (.iastore, 1) := dk_79 (dk_at dksX4_commission_4 14 rfl rfl)
theorem dX4_commission_107 : decode cX4_commission 107 = .ok (.aload_n 0, 1) := dk_42 (dk_at dksX4_commission_4 15 rfl rfl)
theorem dX4_commission_108 : decode cX4_commission 108 = .ok (.iload_n 3, 1) := dk_29 (dk_at dksX4_commission_4 16 rfl rfl)
theorem dX4_commission_109 : decode cX4_commission 109 = .ok (.invokevirtual 82, 3) := dk_182 0 82 (dk_at dksX4_commission_4 17 rfl rfl)
theorem dX4_commission_112 : decode cX4_commission 112 = .ok (.ireturn, 1) := dk_172 (dk_at dksX4_commission_4 20 rfl rfl)
abbrev cX4_ones : ByteArray := prog_24_method_115_code
def yX4_ones : MethodName := ⟨RX4, "ones", "(I)I"⟩
def dkwX4_ones_1 : List UInt8 := [27, 172]
abbrev dktX4_ones_1 : List UInt8 := dkwX4_ones_1 ++ []
def dkwX4_ones_0 : List UInt8 := [3, 60, 3, 61, 28, 16, 12, 162, 0, 17, 27, 26, 28, 122, 4, 126, 96, 60, 132, 2, 1, 167, 255, 239]
abbrev dktX4_ones_0 : List UInt8 := dkwX4_ones_0 ++ dktX4_ones_1
theorem dksX4_ones_0 : cX4_ones.data.toList.drop 0 = dktX4_ones_0 := by decide +kernel
theorem dksX4_ones_1 : cX4_ones.data.toList.drop 24 = dktX4_ones_1 := dk_seg dksX4_ones_0 24 rfl rfl
theorem dX4_ones_0 : decode cX4_ones 0 = .ok (.iconst 0, 1) := dk_3 (dk_at dksX4_ones_0 0 rfl rfl)
theorem dX4_ones_1 : decode cX4_ones 1 = .ok (.istore_n 1, 1) := dk_60 (dk_at dksX4_ones_0 1 rfl rfl)
theorem dX4_ones_2 : decode cX4_ones 2 = .ok (.iconst 0, 1) := dk_3 (dk_at dksX4_ones_0 2 rfl rfl)
theorem dX4_ones_3 : decode cX4_ones 3 = .ok (.istore_n 2, 1) := dk_61 (dk_at dksX4_ones_0 3 rfl rfl)
theorem dX4_ones_4 : decode cX4_ones 4 = .ok (.iload_n 2, 1) := dk_28 (dk_at dksX4_ones_0 4 rfl rfl)
theorem dX4_ones_5 : decode cX4_ones 5 = .ok (.bipush 12, 2) := dk_16 12 (dk_at dksX4_ones_0 5 rfl rfl)
theorem dX4_ones_7 : decode cX4_ones 7 = .ok (.if_icmp .ge 17, 3) := dk_162 0 17 (dk_at dksX4_ones_0 7 rfl rfl)
theorem dX4_ones_10 : decode cX4_ones 10 = .ok (.iload_n 1, 1) := dk_27 (dk_at dksX4_ones_0 10 rfl rfl)
theorem dX4_ones_11 : decode cX4_ones 11 = .ok (.iload_n 0, 1) := dk_26 (dk_at dksX4_ones_0 11 rfl rfl)
theorem dX4_ones_12 : decode cX4_ones 12 = .ok (.iload_n 2, 1) := dk_28 (dk_at dksX4_ones_0 12 rfl rfl)
theorem dX4_ones_13 : decode cX4_ones 13 = .ok (.ishr, 1) := dk_122 (dk_at dksX4_ones_0 13 rfl rfl)
theorem dX4_ones_14 : decode cX4_ones 14 = .ok (.iconst 1, 1) := dk_4 (dk_at dksX4_ones_0 14 rfl rfl)
theorem dX4_ones_15 : decode cX4_ones 15 = .ok (.iand, 1) := dk_126 (dk_at dksX4_ones_0 15 rfl rfl)
theorem dX4_ones_16 : decode cX4_ones 16 = .ok (.iadd, 1) := dk_96 (dk_at dksX4_ones_0 16 rfl rfl)
theorem dX4_ones_17 : decode cX4_ones 17 = .ok (.istore_n 1, 1) := dk_60 (dk_at dksX4_ones_0 17 rfl rfl)
theorem dX4_ones_18 : decode cX4_ones 18 = .ok (.iinc 2 1, 3) := dk_132 2 1 (dk_at dksX4_ones_0 18 rfl rfl)
theorem dX4_ones_21 : decode cX4_ones 21 = .ok (.goto (-17), 3) := dk_167 255 239 (dk_at dksX4_ones_0 21 rfl rfl)
theorem dX4_ones_24 : decode cX4_ones 24 = .ok (.iload_n 1, 1) := dk_27 (dk_at dksX4_ones_1 0 rfl rfl)
theorem dX4_ones_25 : decode cX4_ones 25 = .ok (.ireturn, 1) := dk_172 (dk_at dksX4_ones_1 1 rfl rfl)
abbrev cX4_judged : ByteArray := prog_24_method_120_code
def yX4_judged : MethodName := ⟨RX4, "judged", "(III)J"⟩
def dkwX4_judged_2 : List UInt8 := [173]
abbrev dktX4_judged_2 : List UInt8 := dkwX4_judged_2 ++ []
def dkwX4_judged_1 : List UInt8 := [153, 0, 21, 42, 27, 28, 182, 1, 112, 42, 27, 182, 1, 115, 29, 184, 1, 50, 167, 0, 6, 20, 1, 46]
abbrev dktX4_judged_1 : List UInt8 := dkwX4_judged_1 ++ dktX4_judged_2
def dkwX4_judged_0 : List UInt8 := [42, 27, 182, 1, 109, 153, 0, 38, 42, 28, 182, 1, 30, 153, 0, 30, 29, 3, 4, 184, 0, 74]
abbrev dktX4_judged_0 : List UInt8 := dkwX4_judged_0 ++ dktX4_judged_1
theorem dksX4_judged_0 : cX4_judged.data.toList.drop 0 = dktX4_judged_0 := by decide +kernel
theorem dksX4_judged_1 : cX4_judged.data.toList.drop 22 = dktX4_judged_1 := dk_seg dksX4_judged_0 22 rfl rfl
theorem dksX4_judged_2 : cX4_judged.data.toList.drop 46 = dktX4_judged_2 := dk_seg dksX4_judged_1 24 rfl rfl
theorem dX4_judged_0 : decode cX4_judged 0 = .ok (.aload_n 0, 1) := dk_42 (dk_at dksX4_judged_0 0 rfl rfl)
theorem dX4_judged_1 : decode cX4_judged 1 = .ok (.iload_n 1, 1) := dk_27 (dk_at dksX4_judged_0 1 rfl rfl)
theorem dX4_judged_2 : decode cX4_judged 2 = .ok (.invokevirtual 365, 3) := dk_182 1 109 (dk_at dksX4_judged_0 2 rfl rfl)
theorem dX4_judged_5 : decode cX4_judged 5 = .ok (.ifCond .eq 38, 3) := dk_153 0 38 (dk_at dksX4_judged_0 5 rfl rfl)
theorem dX4_judged_8 : decode cX4_judged 8 = .ok (.aload_n 0, 1) := dk_42 (dk_at dksX4_judged_0 8 rfl rfl)
theorem dX4_judged_9 : decode cX4_judged 9 = .ok (.iload_n 2, 1) := dk_28 (dk_at dksX4_judged_0 9 rfl rfl)
theorem dX4_judged_10 : decode cX4_judged 10 = .ok (.invokevirtual 286, 3) := dk_182 1 30 (dk_at dksX4_judged_0 10 rfl rfl)
theorem dX4_judged_13 : decode cX4_judged 13 = .ok (.ifCond .eq 30, 3) := dk_153 0 30 (dk_at dksX4_judged_0 13 rfl rfl)
theorem dX4_judged_16 : decode cX4_judged 16 = .ok (.iload_n 3, 1) := dk_29 (dk_at dksX4_judged_0 16 rfl rfl)
theorem dX4_judged_17 : decode cX4_judged 17 = .ok (.iconst 0, 1) := dk_3 (dk_at dksX4_judged_0 17 rfl rfl)
theorem dX4_judged_18 : decode cX4_judged 18 = .ok (.iconst 1, 1) := dk_4 (dk_at dksX4_judged_0 18 rfl rfl)
theorem dX4_judged_19 : decode cX4_judged 19 = .ok (.invokestatic 74, 3) := dk_184 0 74 (dk_at dksX4_judged_0 19 rfl rfl)
theorem dX4_judged_22 : decode cX4_judged 22 = .ok (.ifCond .eq 21, 3) := dk_153 0 21 (dk_at dksX4_judged_1 0 rfl rfl)
theorem dX4_judged_25 : decode cX4_judged 25 = .ok (.aload_n 0, 1) := dk_42 (dk_at dksX4_judged_1 3 rfl rfl)
theorem dX4_judged_26 : decode cX4_judged 26 = .ok (.iload_n 1, 1) := dk_27 (dk_at dksX4_judged_1 4 rfl rfl)
theorem dX4_judged_27 : decode cX4_judged 27 = .ok (.iload_n 2, 1) := dk_28 (dk_at dksX4_judged_1 5 rfl rfl)
theorem dX4_judged_28 : decode cX4_judged 28 = .ok (.invokevirtual 368, 3) := dk_182 1 112 (dk_at dksX4_judged_1 6 rfl rfl)
theorem dX4_judged_31 : decode cX4_judged 31 = .ok (.aload_n 0, 1) := dk_42 (dk_at dksX4_judged_1 9 rfl rfl)
theorem dX4_judged_32 : decode cX4_judged 32 = .ok (.iload_n 1, 1) := dk_27 (dk_at dksX4_judged_1 10 rfl rfl)
theorem dX4_judged_33 : decode cX4_judged 33 = .ok (.invokevirtual 371, 3) := dk_182 1 115 (dk_at dksX4_judged_1 11 rfl rfl)
theorem dX4_judged_36 : decode cX4_judged 36 = .ok (.iload_n 3, 1) := dk_29 (dk_at dksX4_judged_1 14 rfl rfl)
theorem dX4_judged_37 : decode cX4_judged 37 = .ok (.invokestatic 306, 3) := dk_184 1 50 (dk_at dksX4_judged_1 15 rfl rfl)
theorem dX4_judged_40 : decode cX4_judged 40 = .ok (.goto 6, 3) := dk_167 0 6 (dk_at dksX4_judged_1 18 rfl rfl)
theorem dX4_judged_43 : decode cX4_judged 43 = .ok (.ldc2_w 302, 3) := dk_20 1 46 (dk_at dksX4_judged_1 21 rfl rfl)
theorem dX4_judged_46 : decode cX4_judged 46 = .ok (.lreturn, 1) := dk_173 (dk_at dksX4_judged_2 0 rfl rfl)
abbrev cX4_isCourt : ByteArray := prog_24_method_119_code
def yX4_isCourt : MethodName := ⟨RX4, "isCourt", "(I)Z"⟩
def dkwX4_isCourt_0 : List UInt8 := [27, 3, 42, 180, 0, 17, 17, 6, 221, 46, 4, 100, 184, 0, 74, 172]
abbrev dktX4_isCourt_0 : List UInt8 := dkwX4_isCourt_0 ++ []
theorem dksX4_isCourt_0 : cX4_isCourt.data.toList.drop 0 = dktX4_isCourt_0 := by decide +kernel
theorem dX4_isCourt_0 : decode cX4_isCourt 0 = .ok (.iload_n 1, 1) := dk_27 (dk_at dksX4_isCourt_0 0 rfl rfl)
theorem dX4_isCourt_1 : decode cX4_isCourt 1 = .ok (.iconst 0, 1) := dk_3 (dk_at dksX4_isCourt_0 1 rfl rfl)
theorem dX4_isCourt_2 : decode cX4_isCourt 2 = .ok (.aload_n 0, 1) := dk_42 (dk_at dksX4_isCourt_0 2 rfl rfl)
theorem dX4_isCourt_3 : decode cX4_isCourt 3 = .ok (.getfield 17, 3) := dk_180 0 17 (dk_at dksX4_isCourt_0 3 rfl rfl)
theorem dX4_isCourt_6 : decode cX4_isCourt 6 = .ok (.sipush 1757, 3) := dk_17 6 221 (dk_at dksX4_isCourt_0 6 rfl rfl)
theorem dX4_isCourt_9 : decode cX4_isCourt 9 = .ok (.iaload, 1) := dk_46 (dk_at dksX4_isCourt_0 9 rfl rfl)
theorem dX4_isCourt_10 : decode cX4_isCourt 10 = .ok (.iconst 1, 1) := dk_4 (dk_at dksX4_isCourt_0 10 rfl rfl)
theorem dX4_isCourt_11 : decode cX4_isCourt 11 = .ok (.isub, 1) := dk_100 (dk_at dksX4_isCourt_0 11 rfl rfl)
theorem dX4_isCourt_12 : decode cX4_isCourt 12 = .ok (.invokestatic 74, 3) := dk_184 0 74 (dk_at dksX4_isCourt_0 12 rfl rfl)
theorem dX4_isCourt_15 : decode cX4_isCourt 15 = .ok (.ireturn, 1) := dk_172 (dk_at dksX4_isCourt_0 15 rfl rfl)
abbrev cX4_turnedOf : ByteArray := prog_24_method_117_code
def yX4_turnedOf : MethodName := ⟨RX4, "turnedOf", "(II)J"⟩
def dkwX4_turnedOf_8 : List UInt8 := [173]
abbrev dktX4_turnedOf_8 : List UInt8 := dkwX4_turnedOf_8 ++ []
def dkwX4_turnedOf_7 : List UInt8 := [29, 163, 0, 21, 22, 4, 42, 180, 0, 71, 21, 6, 47, 97, 55, 4, 132, 6, 1, 167, 255, 235, 22, 4]
abbrev dktX4_turnedOf_7 : List UInt8 := dkwX4_turnedOf_7 ++ dktX4_turnedOf_8
def dkwX4_turnedOf_6 : List UInt8 := [167, 255, 153, 9, 55, 4, 42, 180, 0, 17, 17, 6, 196, 5, 27, 104, 96, 4, 96, 46, 54, 6, 21, 6]
abbrev dktX4_turnedOf_6 : List UInt8 := dkwX4_turnedOf_6 ++ dktX4_turnedOf_7
def dkwX4_turnedOf_5 : List UInt8 := [21, 6, 4, 100, 47, 21, 5, 133, 105, 167, 0, 4, 9, 97, 80, 132, 6, 255, 167, 255, 204, 132, 4, 1]
abbrev dktX4_turnedOf_5 : List UInt8 := dkwX4_turnedOf_5 ++ dktX4_turnedOf_6
def dkwX4_turnedOf_4 : List UInt8 := [42, 180, 0, 71, 21, 6, 47, 16, 100, 21, 5, 100, 133, 105, 21, 6, 158, 0, 19, 42, 180, 0, 71]
abbrev dktX4_turnedOf_4 : List UInt8 := dkwX4_turnedOf_4 ++ dktX4_turnedOf_5
def dkwX4_turnedOf_3 : List UInt8 := [21, 4, 182, 1, 36, 54, 5, 132, 3, 1, 29, 54, 6, 21, 6, 155, 0, 53, 42, 180, 0, 71, 21, 6]
abbrev dktX4_turnedOf_3 : List UInt8 := dkwX4_turnedOf_3 ++ dktX4_turnedOf_4
def dkwX4_turnedOf_2 : List UInt8 := [180, 0, 17, 17, 6, 196, 5, 27, 104, 96, 46, 21, 4, 122, 4, 126, 154, 0, 6, 167, 0, 73, 42, 28]
abbrev dktX4_turnedOf_2 : List UInt8 := dkwX4_turnedOf_2 ++ dktX4_turnedOf_3
def dkwX4_turnedOf_1 : List UInt8 := [167, 0, 4, 9, 80, 132, 4, 1, 167, 255, 229, 3, 54, 4, 21, 4, 16, 12, 162, 0, 102, 42]
abbrev dktX4_turnedOf_1 : List UInt8 := dkwX4_turnedOf_1 ++ dktX4_turnedOf_2
def dkwX4_turnedOf_0 : List UInt8 := [3, 62, 3, 54, 4, 21, 4, 16, 11, 162, 0, 26, 42, 180, 0, 71, 21, 4, 21, 4, 154, 0, 7, 10]
abbrev dktX4_turnedOf_0 : List UInt8 := dkwX4_turnedOf_0 ++ dktX4_turnedOf_1
theorem dksX4_turnedOf_0 : cX4_turnedOf.data.toList.drop 0 = dktX4_turnedOf_0 := by decide +kernel
theorem dksX4_turnedOf_1 : cX4_turnedOf.data.toList.drop 24 = dktX4_turnedOf_1 := dk_seg dksX4_turnedOf_0 24 rfl rfl
theorem dksX4_turnedOf_2 : cX4_turnedOf.data.toList.drop 46 = dktX4_turnedOf_2 := dk_seg dksX4_turnedOf_1 22 rfl rfl
theorem dksX4_turnedOf_3 : cX4_turnedOf.data.toList.drop 70 = dktX4_turnedOf_3 := dk_seg dksX4_turnedOf_2 24 rfl rfl
theorem dksX4_turnedOf_4 : cX4_turnedOf.data.toList.drop 94 = dktX4_turnedOf_4 := dk_seg dksX4_turnedOf_3 24 rfl rfl
theorem dksX4_turnedOf_5 : cX4_turnedOf.data.toList.drop 117 = dktX4_turnedOf_5 := dk_seg dksX4_turnedOf_4 23 rfl rfl
theorem dksX4_turnedOf_6 : cX4_turnedOf.data.toList.drop 141 = dktX4_turnedOf_6 := dk_seg dksX4_turnedOf_5 24 rfl rfl
theorem dksX4_turnedOf_7 : cX4_turnedOf.data.toList.drop 165 = dktX4_turnedOf_7 := dk_seg dksX4_turnedOf_6 24 rfl rfl
theorem dksX4_turnedOf_8 : cX4_turnedOf.data.toList.drop 189 = dktX4_turnedOf_8 := dk_seg dksX4_turnedOf_7 24 rfl rfl
theorem dX4_turnedOf_0 : decode cX4_turnedOf 0 = .ok (.iconst 0, 1) := dk_3 (dk_at dksX4_turnedOf_0 0 rfl rfl)
theorem dX4_turnedOf_1 : decode cX4_turnedOf 1 = .ok (.istore_n 3, 1) := dk_62 (dk_at dksX4_turnedOf_0 1 rfl rfl)
theorem dX4_turnedOf_2 : decode cX4_turnedOf 2 = .ok (.iconst 0, 1) := dk_3 (dk_at dksX4_turnedOf_0 2 rfl rfl)
theorem dX4_turnedOf_3 : decode cX4_turnedOf 3 = .ok (.istore 4, 2) := dk_54 4 (dk_at dksX4_turnedOf_0 3 rfl rfl)
theorem dX4_turnedOf_5 : decode cX4_turnedOf 5 = .ok (.iload 4, 2) := dk_21 4 (dk_at dksX4_turnedOf_0 5 rfl rfl)
theorem dX4_turnedOf_7 : decode cX4_turnedOf 7 = .ok (.bipush 11, 2) := dk_16 11 (dk_at dksX4_turnedOf_0 7 rfl rfl)
theorem dX4_turnedOf_9 : decode cX4_turnedOf 9 = .ok (.if_icmp .ge 26, 3) := dk_162 0 26 (dk_at dksX4_turnedOf_0 9 rfl rfl)
theorem dX4_turnedOf_12 : decode cX4_turnedOf 12 = .ok (.aload_n 0, 1) := dk_42 (dk_at dksX4_turnedOf_0 12 rfl rfl)
theorem dX4_turnedOf_13 : decode cX4_turnedOf 13 = .ok (.getfield 71, 3) := dk_180 0 71 (dk_at dksX4_turnedOf_0 13 rfl rfl)
theorem dX4_turnedOf_16 : decode cX4_turnedOf 16 = .ok (.iload 4, 2) := dk_21 4 (dk_at dksX4_turnedOf_0 16 rfl rfl)
theorem dX4_turnedOf_18 : decode cX4_turnedOf 18 = .ok (.iload 4, 2) := dk_21 4 (dk_at dksX4_turnedOf_0 18 rfl rfl)
theorem dX4_turnedOf_20 : decode cX4_turnedOf 20 = .ok (.ifCond .ne 7, 3) := dk_154 0 7 (dk_at dksX4_turnedOf_0 20 rfl rfl)
theorem dX4_turnedOf_23 : decode cX4_turnedOf 23 = .ok (.lconst 1, 1) := dk_10 (dk_at dksX4_turnedOf_0 23 rfl rfl)
theorem dX4_turnedOf_24 : decode cX4_turnedOf 24 = .ok (.goto 4, 3) := dk_167 0 4 (dk_at dksX4_turnedOf_1 0 rfl rfl)
theorem dX4_turnedOf_27 : decode cX4_turnedOf 27 = .ok (.lconst 0, 1) := dk_9 (dk_at dksX4_turnedOf_1 3 rfl rfl)
theorem dX4_turnedOf_28 : decode cX4_turnedOf 28 = .ok (.lastore, 1) := dk_80 (dk_at dksX4_turnedOf_1 4 rfl rfl)
theorem dX4_turnedOf_29 : decode cX4_turnedOf 29 = .ok (.iinc 4 1, 3) := dk_132 4 1 (dk_at dksX4_turnedOf_1 5 rfl rfl)
theorem dX4_turnedOf_32 : decode cX4_turnedOf 32 = .ok (.goto (-27), 3) := dk_167 255 229 (dk_at dksX4_turnedOf_1 8 rfl rfl)
theorem dX4_turnedOf_35 : decode cX4_turnedOf 35 = .ok (.iconst 0, 1) := dk_3 (dk_at dksX4_turnedOf_1 11 rfl rfl)
theorem dX4_turnedOf_36 : decode cX4_turnedOf 36 = .ok (.istore 4, 2) := dk_54 4 (dk_at dksX4_turnedOf_1 12 rfl rfl)
theorem dX4_turnedOf_38 : decode cX4_turnedOf 38 = .ok (.iload 4, 2) := dk_21 4 (dk_at dksX4_turnedOf_1 14 rfl rfl)
theorem dX4_turnedOf_40 : decode cX4_turnedOf 40 = .ok (.bipush 12, 2) := dk_16 12 (dk_at dksX4_turnedOf_1 16 rfl rfl)
theorem dX4_turnedOf_42 : decode cX4_turnedOf 42 = .ok (.if_icmp .ge 102, 3) := dk_162 0 102 (dk_at dksX4_turnedOf_1 18 rfl rfl)
theorem dX4_turnedOf_45 : decode cX4_turnedOf 45 = .ok (.aload_n 0, 1) := dk_42 (dk_at dksX4_turnedOf_1 21 rfl rfl)
theorem dX4_turnedOf_46 : decode cX4_turnedOf 46 = .ok (.getfield 17, 3) := dk_180 0 17 (dk_at dksX4_turnedOf_2 0 rfl rfl)
theorem dX4_turnedOf_49 : decode cX4_turnedOf 49 = .ok (.sipush 1732, 3) := dk_17 6 196 (dk_at dksX4_turnedOf_2 3 rfl rfl)
theorem dX4_turnedOf_52 : decode cX4_turnedOf 52 = .ok (.iconst 2, 1) := dk_5 (dk_at dksX4_turnedOf_2 6 rfl rfl)
theorem dX4_turnedOf_53 : decode cX4_turnedOf 53 = .ok (.iload_n 1, 1) := dk_27 (dk_at dksX4_turnedOf_2 7 rfl rfl)
theorem dX4_turnedOf_54 : decode cX4_turnedOf 54 = .ok (.imul, 1) := dk_104 (dk_at dksX4_turnedOf_2 8 rfl rfl)
theorem dX4_turnedOf_55 : decode cX4_turnedOf 55 = .ok (.iadd, 1) := dk_96 (dk_at dksX4_turnedOf_2 9 rfl rfl)
theorem dX4_turnedOf_56 : decode cX4_turnedOf 56 = .ok (.iaload, 1) := dk_46 (dk_at dksX4_turnedOf_2 10 rfl rfl)
theorem dX4_turnedOf_57 : decode cX4_turnedOf 57 = .ok (.iload 4, 2) := dk_21 4 (dk_at dksX4_turnedOf_2 11 rfl rfl)
theorem dX4_turnedOf_59 : decode cX4_turnedOf 59 = .ok (.ishr, 1) := dk_122 (dk_at dksX4_turnedOf_2 13 rfl rfl)
theorem dX4_turnedOf_60 : decode cX4_turnedOf 60 = .ok (.iconst 1, 1) := dk_4 (dk_at dksX4_turnedOf_2 14 rfl rfl)
theorem dX4_turnedOf_61 : decode cX4_turnedOf 61 = .ok (.iand, 1) := dk_126 (dk_at dksX4_turnedOf_2 15 rfl rfl)
theorem dX4_turnedOf_62 : decode cX4_turnedOf 62 = .ok (.ifCond .ne 6, 3) := dk_154 0 6 (dk_at dksX4_turnedOf_2 16 rfl rfl)
theorem dX4_turnedOf_65 : decode cX4_turnedOf 65 = .ok (.goto 73, 3) := dk_167 0 73 (dk_at dksX4_turnedOf_2 19 rfl rfl)
theorem dX4_turnedOf_68 : decode cX4_turnedOf 68 = .ok (.aload_n 0, 1) := dk_42 (dk_at dksX4_turnedOf_2 22 rfl rfl)
theorem dX4_turnedOf_69 : decode cX4_turnedOf 69 = .ok (.iload_n 2, 1) := dk_28 (dk_at dksX4_turnedOf_2 23 rfl rfl)
theorem dX4_turnedOf_70 : decode cX4_turnedOf 70 = .ok (.iload 4, 2) := dk_21 4 (dk_at dksX4_turnedOf_3 0 rfl rfl)
theorem dX4_turnedOf_72 : decode cX4_turnedOf 72 = .ok (.invokevirtual 292, 3) := dk_182 1 36 (dk_at dksX4_turnedOf_3 2 rfl rfl)
theorem dX4_turnedOf_75 : decode cX4_turnedOf 75 = .ok (.istore 5, 2) := dk_54 5 (dk_at dksX4_turnedOf_3 5 rfl rfl)
theorem dX4_turnedOf_77 : decode cX4_turnedOf 77 = .ok (.iinc 3 1, 3) := dk_132 3 1 (dk_at dksX4_turnedOf_3 7 rfl rfl)
theorem dX4_turnedOf_80 : decode cX4_turnedOf 80 = .ok (.iload_n 3, 1) := dk_29 (dk_at dksX4_turnedOf_3 10 rfl rfl)
theorem dX4_turnedOf_81 : decode cX4_turnedOf 81 = .ok (.istore 6, 2) := dk_54 6 (dk_at dksX4_turnedOf_3 11 rfl rfl)
theorem dX4_turnedOf_83 : decode cX4_turnedOf 83 = .ok (.iload 6, 2) := dk_21 6 (dk_at dksX4_turnedOf_3 13 rfl rfl)
theorem dX4_turnedOf_85 : decode cX4_turnedOf 85 = .ok (.ifCond .lt 53, 3) := dk_155 0 53 (dk_at dksX4_turnedOf_3 15 rfl rfl)
theorem dX4_turnedOf_88 : decode cX4_turnedOf 88 = .ok (.aload_n 0, 1) := dk_42 (dk_at dksX4_turnedOf_3 18 rfl rfl)
theorem dX4_turnedOf_89 : decode cX4_turnedOf 89 = .ok (.getfield 71, 3) := dk_180 0 71 (dk_at dksX4_turnedOf_3 19 rfl rfl)
theorem dX4_turnedOf_92 : decode cX4_turnedOf 92 = .ok (.iload 6, 2) := dk_21 6 (dk_at dksX4_turnedOf_3 22 rfl rfl)
theorem dX4_turnedOf_94 : decode cX4_turnedOf 94 = .ok (.aload_n 0, 1) := dk_42 (dk_at dksX4_turnedOf_4 0 rfl rfl)
theorem dX4_turnedOf_95 : decode cX4_turnedOf 95 = .ok (.getfield 71, 3) := dk_180 0 71 (dk_at dksX4_turnedOf_4 1 rfl rfl)
theorem dX4_turnedOf_98 : decode cX4_turnedOf 98 = .ok (.iload 6, 2) := dk_21 6 (dk_at dksX4_turnedOf_4 4 rfl rfl)
theorem dX4_turnedOf_100 : decode cX4_turnedOf 100 = .ok (.laload, 1) := dk_47 (dk_at dksX4_turnedOf_4 6 rfl rfl)
theorem dX4_turnedOf_101 : decode cX4_turnedOf 101 = .ok (.bipush 100, 2) := dk_16 100 (dk_at dksX4_turnedOf_4 7 rfl rfl)
theorem dX4_turnedOf_103 : decode cX4_turnedOf 103 = .ok (.iload 5, 2) := dk_21 5 (dk_at dksX4_turnedOf_4 9 rfl rfl)
theorem dX4_turnedOf_105 : decode cX4_turnedOf 105 = .ok (.isub, 1) := dk_100 (dk_at dksX4_turnedOf_4 11 rfl rfl)
theorem dX4_turnedOf_106 : decode cX4_turnedOf 106 = .ok (.i2l, 1) := dk_133 (dk_at dksX4_turnedOf_4 12 rfl rfl)
theorem dX4_turnedOf_107 : decode cX4_turnedOf 107 = .ok (.lmul, 1) := dk_105 (dk_at dksX4_turnedOf_4 13 rfl rfl)
theorem dX4_turnedOf_108 : decode cX4_turnedOf 108 = .ok (.iload 6, 2) := dk_21 6 (dk_at dksX4_turnedOf_4 14 rfl rfl)
theorem dX4_turnedOf_110 : decode cX4_turnedOf 110 = .ok (.ifCond .le 19, 3) := dk_158 0 19 (dk_at dksX4_turnedOf_4 16 rfl rfl)
theorem dX4_turnedOf_113 : decode cX4_turnedOf 113 = .ok (.aload_n 0, 1) := dk_42 (dk_at dksX4_turnedOf_4 19 rfl rfl)
theorem dX4_turnedOf_114 : decode cX4_turnedOf 114 = .ok (.getfield 71, 3) := dk_180 0 71 (dk_at dksX4_turnedOf_4 20 rfl rfl)
theorem dX4_turnedOf_117 : decode cX4_turnedOf 117 = .ok (.iload 6, 2) := dk_21 6 (dk_at dksX4_turnedOf_5 0 rfl rfl)
theorem dX4_turnedOf_119 : decode cX4_turnedOf 119 = .ok (.iconst 1, 1) := dk_4 (dk_at dksX4_turnedOf_5 2 rfl rfl)
theorem dX4_turnedOf_120 : decode cX4_turnedOf 120 = .ok (.isub, 1) := dk_100 (dk_at dksX4_turnedOf_5 3 rfl rfl)
theorem dX4_turnedOf_121 : decode cX4_turnedOf 121 = .ok (.laload, 1) := dk_47 (dk_at dksX4_turnedOf_5 4 rfl rfl)
theorem dX4_turnedOf_122 : decode cX4_turnedOf 122 = .ok (.iload 5, 2) := dk_21 5 (dk_at dksX4_turnedOf_5 5 rfl rfl)
theorem dX4_turnedOf_124 : decode cX4_turnedOf 124 = .ok (.i2l, 1) := dk_133 (dk_at dksX4_turnedOf_5 7 rfl rfl)
theorem dX4_turnedOf_125 : decode cX4_turnedOf 125 = .ok (.lmul, 1) := dk_105 (dk_at dksX4_turnedOf_5 8 rfl rfl)
theorem dX4_turnedOf_126 : decode cX4_turnedOf 126 = .ok (.goto 4, 3) := dk_167 0 4 (dk_at dksX4_turnedOf_5 9 rfl rfl)
theorem dX4_turnedOf_129 : decode cX4_turnedOf 129 = .ok (.lconst 0, 1) := dk_9 (dk_at dksX4_turnedOf_5 12 rfl rfl)
theorem dX4_turnedOf_130 : decode cX4_turnedOf 130 = .ok (.ladd, 1) := dk_97 (dk_at dksX4_turnedOf_5 13 rfl rfl)
theorem dX4_turnedOf_131 : decode cX4_turnedOf 131 = .ok (.lastore, 1) := dk_80 (dk_at dksX4_turnedOf_5 14 rfl rfl)
theorem dX4_turnedOf_132 : decode cX4_turnedOf 132 = .ok (.iinc 6 (-1), 3) := dk_132 6 255 (dk_at dksX4_turnedOf_5 15 rfl rfl)
theorem dX4_turnedOf_135 : decode cX4_turnedOf 135 = .ok (.goto (-52), 3) := dk_167 255 204 (dk_at dksX4_turnedOf_5 18 rfl rfl)
theorem dX4_turnedOf_138 : decode cX4_turnedOf 138 = .ok (.iinc 4 1, 3) := dk_132 4 1 (dk_at dksX4_turnedOf_5 21 rfl rfl)
theorem dX4_turnedOf_141 : decode cX4_turnedOf 141 = .ok (.goto (-103), 3) := dk_167 255 153 (dk_at dksX4_turnedOf_6 0 rfl rfl)
theorem dX4_turnedOf_144 : decode cX4_turnedOf 144 = .ok (.lconst 0, 1) := dk_9 (dk_at dksX4_turnedOf_6 3 rfl rfl)
theorem dX4_turnedOf_145 : decode cX4_turnedOf 145 = .ok (.lstore 4, 2) := dk_55 4 (dk_at dksX4_turnedOf_6 4 rfl rfl)
theorem dX4_turnedOf_147 : decode cX4_turnedOf 147 = .ok (.aload_n 0, 1) := dk_42 (dk_at dksX4_turnedOf_6 6 rfl rfl)
theorem dX4_turnedOf_148 : decode cX4_turnedOf 148 = .ok (.getfield 17, 3) := dk_180 0 17 (dk_at dksX4_turnedOf_6 7 rfl rfl)
theorem dX4_turnedOf_151 : decode cX4_turnedOf 151 = .ok (.sipush 1732, 3) := dk_17 6 196 (dk_at dksX4_turnedOf_6 10 rfl rfl)
theorem dX4_turnedOf_154 : decode cX4_turnedOf 154 = .ok (.iconst 2, 1) := dk_5 (dk_at dksX4_turnedOf_6 13 rfl rfl)
theorem dX4_turnedOf_155 : decode cX4_turnedOf 155 = .ok (.iload_n 1, 1) := dk_27 (dk_at dksX4_turnedOf_6 14 rfl rfl)
theorem dX4_turnedOf_156 : decode cX4_turnedOf 156 = .ok (.imul, 1) := dk_104 (dk_at dksX4_turnedOf_6 15 rfl rfl)
theorem dX4_turnedOf_157 : decode cX4_turnedOf 157 = .ok (.iadd, 1) := dk_96 (dk_at dksX4_turnedOf_6 16 rfl rfl)
theorem dX4_turnedOf_158 : decode cX4_turnedOf 158 = .ok (.iconst 1, 1) := dk_4 (dk_at dksX4_turnedOf_6 17 rfl rfl)
theorem dX4_turnedOf_159 : decode cX4_turnedOf 159 = .ok (.iadd, 1) := dk_96 (dk_at dksX4_turnedOf_6 18 rfl rfl)
theorem dX4_turnedOf_160 : decode cX4_turnedOf 160 = .ok (.iaload, 1) := dk_46 (dk_at dksX4_turnedOf_6 19 rfl rfl)
theorem dX4_turnedOf_161 : decode cX4_turnedOf 161 = .ok (.istore 6, 2) := dk_54 6 (dk_at dksX4_turnedOf_6 20 rfl rfl)
theorem dX4_turnedOf_163 : decode cX4_turnedOf 163 = .ok (.iload 6, 2) := dk_21 6 (dk_at dksX4_turnedOf_6 22 rfl rfl)
theorem dX4_turnedOf_165 : decode cX4_turnedOf 165 = .ok (.iload_n 3, 1) := dk_29 (dk_at dksX4_turnedOf_7 0 rfl rfl)
theorem dX4_turnedOf_166 : decode cX4_turnedOf 166 = .ok (.if_icmp .gt 21, 3) := dk_163 0 21 (dk_at dksX4_turnedOf_7 1 rfl rfl)
theorem dX4_turnedOf_169 : decode cX4_turnedOf 169 = .ok (.lload 4, 2) := dk_22 4 (dk_at dksX4_turnedOf_7 4 rfl rfl)
theorem dX4_turnedOf_171 : decode cX4_turnedOf 171 = .ok (.aload_n 0, 1) := dk_42 (dk_at dksX4_turnedOf_7 6 rfl rfl)
theorem dX4_turnedOf_172 : decode cX4_turnedOf 172 = .ok (.getfield 71, 3) := dk_180 0 71 (dk_at dksX4_turnedOf_7 7 rfl rfl)
theorem dX4_turnedOf_175 : decode cX4_turnedOf 175 = .ok (.iload 6, 2) := dk_21 6 (dk_at dksX4_turnedOf_7 10 rfl rfl)
theorem dX4_turnedOf_177 : decode cX4_turnedOf 177 = .ok (.laload, 1) := dk_47 (dk_at dksX4_turnedOf_7 12 rfl rfl)
theorem dX4_turnedOf_178 : decode cX4_turnedOf 178 = .ok (.ladd, 1) := dk_97 (dk_at dksX4_turnedOf_7 13 rfl rfl)
theorem dX4_turnedOf_179 : decode cX4_turnedOf 179 = .ok (.lstore 4, 2) := dk_55 4 (dk_at dksX4_turnedOf_7 14 rfl rfl)
theorem dX4_turnedOf_181 : decode cX4_turnedOf 181 = .ok (.iinc 6 1, 3) := dk_132 6 1 (dk_at dksX4_turnedOf_7 16 rfl rfl)
theorem dX4_turnedOf_184 : decode cX4_turnedOf 184 = .ok (.goto (-21), 3) := dk_167 255 235 (dk_at dksX4_turnedOf_7 19 rfl rfl)
theorem dX4_turnedOf_187 : decode cX4_turnedOf 187 = .ok (.lload 4, 2) := dk_22 4 (dk_at dksX4_turnedOf_7 22 rfl rfl)
theorem dX4_turnedOf_189 : decode cX4_turnedOf 189 = .ok (.lreturn, 1) := dk_173 (dk_at dksX4_turnedOf_8 0 rfl rfl)
abbrev cX4_hundreds : ByteArray := prog_24_method_118_code
def yX4_hundreds : MethodName := ⟨RX4, "hundreds", "(I)J"⟩
def dkwX4_hundreds_0 : List UInt8 := [16, 100, 42, 180, 0, 17, 17, 6, 196, 5, 27, 104, 96, 46, 184, 1, 106, 184, 1, 82, 173]
abbrev dktX4_hundreds_0 : List UInt8 := dkwX4_hundreds_0 ++ []
theorem dksX4_hundreds_0 : cX4_hundreds.data.toList.drop 0 = dktX4_hundreds_0 := by decide +kernel
theorem dX4_hundreds_0 : decode cX4_hundreds 0 = .ok (.bipush 100, 2) := dk_16 100 (dk_at dksX4_hundreds_0 0 rfl rfl)
theorem dX4_hundreds_2 : decode cX4_hundreds 2 = .ok (.aload_n 0, 1) := dk_42 (dk_at dksX4_hundreds_0 2 rfl rfl)
theorem dX4_hundreds_3 : decode cX4_hundreds 3 = .ok (.getfield 17, 3) := dk_180 0 17 (dk_at dksX4_hundreds_0 3 rfl rfl)
theorem dX4_hundreds_6 : decode cX4_hundreds 6 = .ok (.sipush 1732, 3) := dk_17 6 196 (dk_at dksX4_hundreds_0 6 rfl rfl)
theorem dX4_hundreds_9 : decode cX4_hundreds 9 = .ok (.iconst 2, 1) := dk_5 (dk_at dksX4_hundreds_0 9 rfl rfl)
theorem dX4_hundreds_10 : decode cX4_hundreds 10 = .ok (.iload_n 1, 1) := dk_27 (dk_at dksX4_hundreds_0 10 rfl rfl)
theorem dX4_hundreds_11 : decode cX4_hundreds 11 = .ok (.imul, 1) := dk_104 (dk_at dksX4_hundreds_0 11 rfl rfl)
theorem dX4_hundreds_12 : decode cX4_hundreds 12 = .ok (.iadd, 1) := dk_96 (dk_at dksX4_hundreds_0 12 rfl rfl)
theorem dX4_hundreds_13 : decode cX4_hundreds 13 = .ok (.iaload, 1) := dk_46 (dk_at dksX4_hundreds_0 13 rfl rfl)
theorem dX4_hundreds_14 : decode cX4_hundreds 14 = .ok (.invokestatic 362, 3) := dk_184 1 106 (dk_at dksX4_hundreds_0 14 rfl rfl)
theorem dX4_hundreds_17 : decode cX4_hundreds 17 = .ok (.invokestatic 338, 3) := dk_184 1 82 (dk_at dksX4_hundreds_0 17 rfl rfl)
theorem dX4_hundreds_20 : decode cX4_hundreds 20 = .ok (.lreturn, 1) := dk_173 (dk_at dksX4_hundreds_0 20 rfl rfl)
abbrev cX4_leans : ByteArray := prog_24_method_121_code
def yX4_leans : MethodName := ⟨RX4, "leans", "(III)I"⟩
def dkwX4_leans_4 : List UInt8 := [153, 0, 7, 4, 167, 0, 4, 2, 172]
abbrev dktX4_leans_4 : List UInt8 := dkwX4_leans_4 ++ []
def dkwX4_leans_3 : List UInt8 := [155, 0, 7, 4, 167, 0, 4, 3, 54, 5, 21, 4, 21, 5, 159, 0, 7, 3, 167, 0, 13, 21, 4]
abbrev dktX4_leans_3 : List UInt8 := dkwX4_leans_3 ++ dktX4_leans_4
def dkwX4_leans_2 : List UInt8 := [167, 0, 4, 3, 54, 4, 42, 27, 29, 182, 1, 112, 42, 27, 182, 1, 115, 20, 1, 119, 109, 148]
abbrev dktX4_leans_2 : List UInt8 := dkwX4_leans_2 ++ dktX4_leans_3
def dkwX4_leans_1 : List UInt8 := [17, 252, 24, 172, 42, 27, 28, 182, 1, 112, 42, 27, 182, 1, 115, 20, 1, 119, 109, 148, 155, 0, 7, 4]
abbrev dktX4_leans_1 : List UInt8 := dkwX4_leans_1 ++ dktX4_leans_2
def dkwX4_leans_0 : List UInt8 := [42, 27, 182, 1, 109, 153, 0, 19, 42, 28, 182, 1, 30, 153, 0, 11, 42, 29, 182, 1, 30, 154, 0, 7]
abbrev dktX4_leans_0 : List UInt8 := dkwX4_leans_0 ++ dktX4_leans_1
theorem dksX4_leans_0 : cX4_leans.data.toList.drop 0 = dktX4_leans_0 := by decide +kernel
theorem dksX4_leans_1 : cX4_leans.data.toList.drop 24 = dktX4_leans_1 := dk_seg dksX4_leans_0 24 rfl rfl
theorem dksX4_leans_2 : cX4_leans.data.toList.drop 48 = dktX4_leans_2 := dk_seg dksX4_leans_1 24 rfl rfl
theorem dksX4_leans_3 : cX4_leans.data.toList.drop 70 = dktX4_leans_3 := dk_seg dksX4_leans_2 22 rfl rfl
theorem dksX4_leans_4 : cX4_leans.data.toList.drop 93 = dktX4_leans_4 := dk_seg dksX4_leans_3 23 rfl rfl
theorem dX4_leans_0 : decode cX4_leans 0 = .ok (.aload_n 0, 1) := dk_42 (dk_at dksX4_leans_0 0 rfl rfl)
theorem dX4_leans_1 : decode cX4_leans 1 = .ok (.iload_n 1, 1) := dk_27 (dk_at dksX4_leans_0 1 rfl rfl)
theorem dX4_leans_2 : decode cX4_leans 2 = .ok (.invokevirtual 365, 3) := dk_182 1 109 (dk_at dksX4_leans_0 2 rfl rfl)
theorem dX4_leans_5 : decode cX4_leans 5 = .ok (.ifCond .eq 19, 3) := dk_153 0 19 (dk_at dksX4_leans_0 5 rfl rfl)
theorem dX4_leans_8 : decode cX4_leans 8 = .ok (.aload_n 0, 1) := dk_42 (dk_at dksX4_leans_0 8 rfl rfl)
theorem dX4_leans_9 : decode cX4_leans 9 = .ok (.iload_n 2, 1) := dk_28 (dk_at dksX4_leans_0 9 rfl rfl)
theorem dX4_leans_10 : decode cX4_leans 10 = .ok (.invokevirtual 286, 3) := dk_182 1 30 (dk_at dksX4_leans_0 10 rfl rfl)
theorem dX4_leans_13 : decode cX4_leans 13 = .ok (.ifCond .eq 11, 3) := dk_153 0 11 (dk_at dksX4_leans_0 13 rfl rfl)
theorem dX4_leans_16 : decode cX4_leans 16 = .ok (.aload_n 0, 1) := dk_42 (dk_at dksX4_leans_0 16 rfl rfl)
theorem dX4_leans_17 : decode cX4_leans 17 = .ok (.iload_n 3, 1) := dk_29 (dk_at dksX4_leans_0 17 rfl rfl)
theorem dX4_leans_18 : decode cX4_leans 18 = .ok (.invokevirtual 286, 3) := dk_182 1 30 (dk_at dksX4_leans_0 18 rfl rfl)
theorem dX4_leans_21 : decode cX4_leans 21 = .ok (.ifCond .ne 7, 3) := dk_154 0 7 (dk_at dksX4_leans_0 21 rfl rfl)
theorem dX4_leans_24 : decode cX4_leans 24 = .ok (.sipush (-1000), 3) := dk_17 252 24 (dk_at dksX4_leans_1 0 rfl rfl)
theorem dX4_leans_27 : decode cX4_leans 27 = .ok (.ireturn, 1) := dk_172 (dk_at dksX4_leans_1 3 rfl rfl)
theorem dX4_leans_28 : decode cX4_leans 28 = .ok (.aload_n 0, 1) := dk_42 (dk_at dksX4_leans_1 4 rfl rfl)
theorem dX4_leans_29 : decode cX4_leans 29 = .ok (.iload_n 1, 1) := dk_27 (dk_at dksX4_leans_1 5 rfl rfl)
theorem dX4_leans_30 : decode cX4_leans 30 = .ok (.iload_n 2, 1) := dk_28 (dk_at dksX4_leans_1 6 rfl rfl)
theorem dX4_leans_31 : decode cX4_leans 31 = .ok (.invokevirtual 368, 3) := dk_182 1 112 (dk_at dksX4_leans_1 7 rfl rfl)
theorem dX4_leans_34 : decode cX4_leans 34 = .ok (.aload_n 0, 1) := dk_42 (dk_at dksX4_leans_1 10 rfl rfl)
theorem dX4_leans_35 : decode cX4_leans 35 = .ok (.iload_n 1, 1) := dk_27 (dk_at dksX4_leans_1 11 rfl rfl)
theorem dX4_leans_36 : decode cX4_leans 36 = .ok (.invokevirtual 371, 3) := dk_182 1 115 (dk_at dksX4_leans_1 12 rfl rfl)
theorem dX4_leans_39 : decode cX4_leans 39 = .ok (.ldc2_w 375, 3) := dk_20 1 119 (dk_at dksX4_leans_1 15 rfl rfl)
theorem dX4_leans_42 : decode cX4_leans 42 = .ok (.ldiv, 1) := dk_109 (dk_at dksX4_leans_1 18 rfl rfl)
theorem dX4_leans_43 : decode cX4_leans 43 = .ok (.lcmp, 1) := dk_148 (dk_at dksX4_leans_1 19 rfl rfl)
theorem dX4_leans_44 : decode cX4_leans 44 = .ok (.ifCond .lt 7, 3) := dk_155 0 7 (dk_at dksX4_leans_1 20 rfl rfl)
theorem dX4_leans_47 : decode cX4_leans 47 = .ok (.iconst 1, 1) := dk_4 (dk_at dksX4_leans_1 23 rfl rfl)
theorem dX4_leans_48 : decode cX4_leans 48 = .ok (.goto 4, 3) := dk_167 0 4 (dk_at dksX4_leans_2 0 rfl rfl)
theorem dX4_leans_51 : decode cX4_leans 51 = .ok (.iconst 0, 1) := dk_3 (dk_at dksX4_leans_2 3 rfl rfl)
theorem dX4_leans_52 : decode cX4_leans 52 = .ok (.istore 4, 2) := dk_54 4 (dk_at dksX4_leans_2 4 rfl rfl)
theorem dX4_leans_54 : decode cX4_leans 54 = .ok (.aload_n 0, 1) := dk_42 (dk_at dksX4_leans_2 6 rfl rfl)
theorem dX4_leans_55 : decode cX4_leans 55 = .ok (.iload_n 1, 1) := dk_27 (dk_at dksX4_leans_2 7 rfl rfl)
theorem dX4_leans_56 : decode cX4_leans 56 = .ok (.iload_n 3, 1) := dk_29 (dk_at dksX4_leans_2 8 rfl rfl)
theorem dX4_leans_57 : decode cX4_leans 57 = .ok (.invokevirtual 368, 3) := dk_182 1 112 (dk_at dksX4_leans_2 9 rfl rfl)
theorem dX4_leans_60 : decode cX4_leans 60 = .ok (.aload_n 0, 1) := dk_42 (dk_at dksX4_leans_2 12 rfl rfl)
theorem dX4_leans_61 : decode cX4_leans 61 = .ok (.iload_n 1, 1) := dk_27 (dk_at dksX4_leans_2 13 rfl rfl)
theorem dX4_leans_62 : decode cX4_leans 62 = .ok (.invokevirtual 371, 3) := dk_182 1 115 (dk_at dksX4_leans_2 14 rfl rfl)
theorem dX4_leans_65 : decode cX4_leans 65 = .ok (.ldc2_w 375, 3) := dk_20 1 119 (dk_at dksX4_leans_2 17 rfl rfl)
theorem dX4_leans_68 : decode cX4_leans 68 = .ok (.ldiv, 1) := dk_109 (dk_at dksX4_leans_2 20 rfl rfl)
theorem dX4_leans_69 : decode cX4_leans 69 = .ok (.lcmp, 1) := dk_148 (dk_at dksX4_leans_2 21 rfl rfl)
theorem dX4_leans_70 : decode cX4_leans 70 = .ok (.ifCond .lt 7, 3) := dk_155 0 7 (dk_at dksX4_leans_3 0 rfl rfl)
theorem dX4_leans_73 : decode cX4_leans 73 = .ok (.iconst 1, 1) := dk_4 (dk_at dksX4_leans_3 3 rfl rfl)
theorem dX4_leans_74 : decode cX4_leans 74 = .ok (.goto 4, 3) := dk_167 0 4 (dk_at dksX4_leans_3 4 rfl rfl)
theorem dX4_leans_77 : decode cX4_leans 77 = .ok (.iconst 0, 1) := dk_3 (dk_at dksX4_leans_3 7 rfl rfl)
theorem dX4_leans_78 : decode cX4_leans 78 = .ok (.istore 5, 2) := dk_54 5 (dk_at dksX4_leans_3 8 rfl rfl)
theorem dX4_leans_80 : decode cX4_leans 80 = .ok (.iload 4, 2) := dk_21 4 (dk_at dksX4_leans_3 10 rfl rfl)
theorem dX4_leans_82 : decode cX4_leans 82 = .ok (.iload 5, 2) := dk_21 5 (dk_at dksX4_leans_3 12 rfl rfl)
theorem dX4_leans_84 : decode cX4_leans 84 = .ok (.if_icmp .eq 7, 3) := dk_159 0 7 (dk_at dksX4_leans_3 14 rfl rfl)
theorem dX4_leans_87 : decode cX4_leans 87 = .ok (.iconst 0, 1) := dk_3 (dk_at dksX4_leans_3 17 rfl rfl)
theorem dX4_leans_88 : decode cX4_leans 88 = .ok (.goto 13, 3) := dk_167 0 13 (dk_at dksX4_leans_3 18 rfl rfl)
theorem dX4_leans_91 : decode cX4_leans 91 = .ok (.iload 4, 2) := dk_21 4 (dk_at dksX4_leans_3 21 rfl rfl)
theorem dX4_leans_93 : decode cX4_leans 93 = .ok (.ifCond .eq 7, 3) := dk_153 0 7 (dk_at dksX4_leans_4 0 rfl rfl)
theorem dX4_leans_96 : decode cX4_leans 96 = .ok (.iconst 1, 1) := dk_4 (dk_at dksX4_leans_4 3 rfl rfl)
theorem dX4_leans_97 : decode cX4_leans 97 = .ok (.goto 4, 3) := dk_167 0 4 (dk_at dksX4_leans_4 4 rfl rfl)
theorem dX4_leans_100 : decode cX4_leans 100 = .ok (.iconst (-1), 1) := dk_2 (dk_at dksX4_leans_4 7 rfl rfl)
theorem dX4_leans_101 : decode cX4_leans 101 = .ok (.ireturn, 1) := dk_172 (dk_at dksX4_leans_4 8 rfl rfl)
abbrev cX4_shape : ByteArray := prog_24_method_122_code
def yX4_shape : MethodName := ⟨RX4, "shape", "(IIII)I"⟩
def dkwX4_shape_6 : List UInt8 := [172]
abbrev dktX4_shape_6 : List UInt8 := dkwX4_shape_6 ++ []
def dkwX4_shape_5 : List UInt8 := [16, 40, 16, 8, 27, 104, 96, 29, 96, 46, 133, 167, 0, 4, 9, 21, 5, 133, 21, 4, 184, 1, 50, 136]
abbrev dktX4_shape_5 : List UInt8 := dkwX4_shape_5 ++ dktX4_shape_6
def dkwX4_shape_4 : List UInt8 := [167, 255, 205, 21, 5, 154, 0, 5, 2, 172, 42, 29, 8, 182, 0, 101, 28, 160, 0, 21, 42, 180, 0, 17]
abbrev dktX4_shape_4 : List UInt8 := dkwX4_shape_4 ++ dktX4_shape_5
def dkwX4_shape_3 : List UInt8 := [180, 0, 17, 16, 40, 16, 8, 27, 104, 96, 21, 6, 96, 46, 167, 0, 4, 3, 96, 54, 5, 132, 6, 1]
abbrev dktX4_shape_3 : List UInt8 := dkwX4_shape_3 ++ dktX4_shape_4
def dkwX4_shape_2 : List UInt8 := [180, 0, 17, 17, 6, 216, 46, 162, 0, 44, 21, 5, 42, 21, 6, 8, 182, 0, 101, 28, 160, 0, 21, 42]
abbrev dktX4_shape_2 : List UInt8 := dkwX4_shape_2 ++ dktX4_shape_3
def dkwX4_shape_1 : List UInt8 := [153, 0, 13, 21, 4, 3, 4, 184, 0, 74, 154, 0, 5, 2, 172, 3, 54, 5, 3, 54, 6, 21, 6, 42]
abbrev dktX4_shape_1 : List UInt8 := dkwX4_shape_1 ++ dktX4_shape_2
def dkwX4_shape_0 : List UInt8 := [27, 3, 16, 11, 184, 0, 74, 153, 0, 30, 28, 3, 6, 184, 0, 74, 153, 0, 21, 42, 29, 182, 0, 85]
abbrev dktX4_shape_0 : List UInt8 := dkwX4_shape_0 ++ dktX4_shape_1
theorem dksX4_shape_0 : cX4_shape.data.toList.drop 0 = dktX4_shape_0 := by decide +kernel
theorem dksX4_shape_1 : cX4_shape.data.toList.drop 24 = dktX4_shape_1 := dk_seg dksX4_shape_0 24 rfl rfl
theorem dksX4_shape_2 : cX4_shape.data.toList.drop 48 = dktX4_shape_2 := dk_seg dksX4_shape_1 24 rfl rfl
theorem dksX4_shape_3 : cX4_shape.data.toList.drop 72 = dktX4_shape_3 := dk_seg dksX4_shape_2 24 rfl rfl
theorem dksX4_shape_4 : cX4_shape.data.toList.drop 96 = dktX4_shape_4 := dk_seg dksX4_shape_3 24 rfl rfl
theorem dksX4_shape_5 : cX4_shape.data.toList.drop 120 = dktX4_shape_5 := dk_seg dksX4_shape_4 24 rfl rfl
theorem dksX4_shape_6 : cX4_shape.data.toList.drop 144 = dktX4_shape_6 := dk_seg dksX4_shape_5 24 rfl rfl
theorem dX4_shape_0 : decode cX4_shape 0 = .ok (.iload_n 1, 1) := dk_27 (dk_at dksX4_shape_0 0 rfl rfl)
theorem dX4_shape_1 : decode cX4_shape 1 = .ok (.iconst 0, 1) := dk_3 (dk_at dksX4_shape_0 1 rfl rfl)
theorem dX4_shape_2 : decode cX4_shape 2 = .ok (.bipush 11, 2) := dk_16 11 (dk_at dksX4_shape_0 2 rfl rfl)
theorem dX4_shape_4 : decode cX4_shape 4 = .ok (.invokestatic 74, 3) := dk_184 0 74 (dk_at dksX4_shape_0 4 rfl rfl)
theorem dX4_shape_7 : decode cX4_shape 7 = .ok (.ifCond .eq 30, 3) := dk_153 0 30 (dk_at dksX4_shape_0 7 rfl rfl)
theorem dX4_shape_10 : decode cX4_shape 10 = .ok (.iload_n 2, 1) := dk_28 (dk_at dksX4_shape_0 10 rfl rfl)
theorem dX4_shape_11 : decode cX4_shape 11 = .ok (.iconst 0, 1) := dk_3 (dk_at dksX4_shape_0 11 rfl rfl)
theorem dX4_shape_12 : decode cX4_shape 12 = .ok (.iconst 3, 1) := dk_6 (dk_at dksX4_shape_0 12 rfl rfl)
theorem dX4_shape_13 : decode cX4_shape 13 = .ok (.invokestatic 74, 3) := dk_184 0 74 (dk_at dksX4_shape_0 13 rfl rfl)
theorem dX4_shape_16 : decode cX4_shape 16 = .ok (.ifCond .eq 21, 3) := dk_153 0 21 (dk_at dksX4_shape_0 16 rfl rfl)
theorem dX4_shape_19 : decode cX4_shape 19 = .ok (.aload_n 0, 1) := dk_42 (dk_at dksX4_shape_0 19 rfl rfl)
theorem dX4_shape_20 : decode cX4_shape 20 = .ok (.iload_n 3, 1) := dk_29 (dk_at dksX4_shape_0 20 rfl rfl)
theorem dX4_shape_21 : decode cX4_shape 21 = .ok (.invokevirtual 85, 3) := dk_182 0 85 (dk_at dksX4_shape_0 21 rfl rfl)
theorem dX4_shape_24 : decode cX4_shape 24 = .ok (.ifCond .eq 13, 3) := dk_153 0 13 (dk_at dksX4_shape_1 0 rfl rfl)
theorem dX4_shape_27 : decode cX4_shape 27 = .ok (.iload 4, 2) := dk_21 4 (dk_at dksX4_shape_1 3 rfl rfl)
theorem dX4_shape_29 : decode cX4_shape 29 = .ok (.iconst 0, 1) := dk_3 (dk_at dksX4_shape_1 5 rfl rfl)
theorem dX4_shape_30 : decode cX4_shape 30 = .ok (.iconst 1, 1) := dk_4 (dk_at dksX4_shape_1 6 rfl rfl)
theorem dX4_shape_31 : decode cX4_shape 31 = .ok (.invokestatic 74, 3) := dk_184 0 74 (dk_at dksX4_shape_1 7 rfl rfl)
theorem dX4_shape_34 : decode cX4_shape 34 = .ok (.ifCond .ne 5, 3) := dk_154 0 5 (dk_at dksX4_shape_1 10 rfl rfl)
theorem dX4_shape_37 : decode cX4_shape 37 = .ok (.iconst (-1), 1) := dk_2 (dk_at dksX4_shape_1 13 rfl rfl)
theorem dX4_shape_38 : decode cX4_shape 38 = .ok (.ireturn, 1) := dk_172 (dk_at dksX4_shape_1 14 rfl rfl)
theorem dX4_shape_39 : decode cX4_shape 39 = .ok (.iconst 0, 1) := dk_3 (dk_at dksX4_shape_1 15 rfl rfl)
theorem dX4_shape_40 : decode cX4_shape 40 = .ok (.istore 5, 2) := dk_54 5 (dk_at dksX4_shape_1 16 rfl rfl)
theorem dX4_shape_42 : decode cX4_shape 42 = .ok (.iconst 0, 1) := dk_3 (dk_at dksX4_shape_1 18 rfl rfl)
theorem dX4_shape_43 : decode cX4_shape 43 = .ok (.istore 6, 2) := dk_54 6 (dk_at dksX4_shape_1 19 rfl rfl)
theorem dX4_shape_45 : decode cX4_shape 45 = .ok (.iload 6, 2) := dk_21 6 (dk_at dksX4_shape_1 21 rfl rfl)
theorem dX4_shape_47 : decode cX4_shape 47 = .ok (.aload_n 0, 1) := dk_42 (dk_at dksX4_shape_1 23 rfl rfl)
theorem dX4_shape_48 : decode cX4_shape 48 = .ok (.getfield 17, 3) := dk_180 0 17 (dk_at dksX4_shape_2 0 rfl rfl)
theorem dX4_shape_51 : decode cX4_shape 51 = .ok (.sipush 1752, 3) := dk_17 6 216 (dk_at dksX4_shape_2 3 rfl rfl)
theorem dX4_shape_54 : decode cX4_shape 54 = .ok (.iaload, 1) := dk_46 (dk_at dksX4_shape_2 6 rfl rfl)
theorem dX4_shape_55 : decode cX4_shape 55 = .ok (.if_icmp .ge 44, 3) := dk_162 0 44 (dk_at dksX4_shape_2 7 rfl rfl)
theorem dX4_shape_58 : decode cX4_shape 58 = .ok (.iload 5, 2) := dk_21 5 (dk_at dksX4_shape_2 10 rfl rfl)
theorem dX4_shape_60 : decode cX4_shape 60 = .ok (.aload_n 0, 1) := dk_42 (dk_at dksX4_shape_2 12 rfl rfl)
theorem dX4_shape_61 : decode cX4_shape 61 = .ok (.iload 6, 2) := dk_21 6 (dk_at dksX4_shape_2 13 rfl rfl)
theorem dX4_shape_63 : decode cX4_shape 63 = .ok (.iconst 5, 1) := dk_8 (dk_at dksX4_shape_2 15 rfl rfl)
theorem dX4_shape_64 : decode cX4_shape 64 = .ok (.invokevirtual 101, 3) := dk_182 0 101 (dk_at dksX4_shape_2 16 rfl rfl)
theorem dX4_shape_67 : decode cX4_shape 67 = .ok (.iload_n 2, 1) := dk_28 (dk_at dksX4_shape_2 19 rfl rfl)
theorem dX4_shape_68 : decode cX4_shape 68 = .ok (.if_icmp .ne 21, 3) := dk_160 0 21 (dk_at dksX4_shape_2 20 rfl rfl)
theorem dX4_shape_71 : decode cX4_shape 71 = .ok (.aload_n 0, 1) := dk_42 (dk_at dksX4_shape_2 23 rfl rfl)
theorem dX4_shape_72 : decode cX4_shape 72 = .ok (.getfield 17, 3) := dk_180 0 17 (dk_at dksX4_shape_3 0 rfl rfl)
theorem dX4_shape_75 : decode cX4_shape 75 = .ok (.bipush 40, 2) := dk_16 40 (dk_at dksX4_shape_3 3 rfl rfl)
theorem dX4_shape_77 : decode cX4_shape 77 = .ok (.bipush 8, 2) := dk_16 8 (dk_at dksX4_shape_3 5 rfl rfl)
theorem dX4_shape_79 : decode cX4_shape 79 = .ok (.iload_n 1, 1) := dk_27 (dk_at dksX4_shape_3 7 rfl rfl)
theorem dX4_shape_80 : decode cX4_shape 80 = .ok (.imul, 1) := dk_104 (dk_at dksX4_shape_3 8 rfl rfl)
theorem dX4_shape_81 : decode cX4_shape 81 = .ok (.iadd, 1) := dk_96 (dk_at dksX4_shape_3 9 rfl rfl)
theorem dX4_shape_82 : decode cX4_shape 82 = .ok (.iload 6, 2) := dk_21 6 (dk_at dksX4_shape_3 10 rfl rfl)
theorem dX4_shape_84 : decode cX4_shape 84 = .ok (.iadd, 1) := dk_96 (dk_at dksX4_shape_3 12 rfl rfl)
theorem dX4_shape_85 : decode cX4_shape 85 = .ok (.iaload, 1) := dk_46 (dk_at dksX4_shape_3 13 rfl rfl)
theorem dX4_shape_86 : decode cX4_shape 86 = .ok (.goto 4, 3) := dk_167 0 4 (dk_at dksX4_shape_3 14 rfl rfl)
theorem dX4_shape_89 : decode cX4_shape 89 = .ok (.iconst 0, 1) := dk_3 (dk_at dksX4_shape_3 17 rfl rfl)
theorem dX4_shape_90 : decode cX4_shape 90 = .ok (.iadd, 1) := dk_96 (dk_at dksX4_shape_3 18 rfl rfl)
theorem dX4_shape_91 : decode cX4_shape 91 = .ok (.istore 5, 2) := dk_54 5 (dk_at dksX4_shape_3 19 rfl rfl)
theorem dX4_shape_93 : decode cX4_shape 93 = .ok (.iinc 6 1, 3) := dk_132 6 1 (dk_at dksX4_shape_3 21 rfl rfl)
theorem dX4_shape_96 : decode cX4_shape 96 = .ok (.goto (-51), 3) := dk_167 255 205 (dk_at dksX4_shape_4 0 rfl rfl)
theorem dX4_shape_99 : decode cX4_shape 99 = .ok (.iload 5, 2) := dk_21 5 (dk_at dksX4_shape_4 3 rfl rfl)
theorem dX4_shape_101 : decode cX4_shape 101 = .ok (.ifCond .ne 5, 3) := dk_154 0 5 (dk_at dksX4_shape_4 5 rfl rfl)
theorem dX4_shape_104 : decode cX4_shape 104 = .ok (.iconst (-1), 1) := dk_2 (dk_at dksX4_shape_4 8 rfl rfl)
theorem dX4_shape_105 : decode cX4_shape 105 = .ok (.ireturn, 1) := dk_172 (dk_at dksX4_shape_4 9 rfl rfl)
theorem dX4_shape_106 : decode cX4_shape 106 = .ok (.aload_n 0, 1) := dk_42 (dk_at dksX4_shape_4 10 rfl rfl)
theorem dX4_shape_107 : decode cX4_shape 107 = .ok (.iload_n 3, 1) := dk_29 (dk_at dksX4_shape_4 11 rfl rfl)
theorem dX4_shape_108 : decode cX4_shape 108 = .ok (.iconst 5, 1) := dk_8 (dk_at dksX4_shape_4 12 rfl rfl)
theorem dX4_shape_109 : decode cX4_shape 109 = .ok (.invokevirtual 101, 3) := dk_182 0 101 (dk_at dksX4_shape_4 13 rfl rfl)
theorem dX4_shape_112 : decode cX4_shape 112 = .ok (.iload_n 2, 1) := dk_28 (dk_at dksX4_shape_4 16 rfl rfl)
theorem dX4_shape_113 : decode cX4_shape 113 = .ok (.if_icmp .ne 21, 3) := dk_160 0 21 (dk_at dksX4_shape_4 17 rfl rfl)
theorem dX4_shape_116 : decode cX4_shape 116 = .ok (.aload_n 0, 1) := dk_42 (dk_at dksX4_shape_4 20 rfl rfl)
theorem dX4_shape_117 : decode cX4_shape 117 = .ok (.getfield 17, 3) := dk_180 0 17 (dk_at dksX4_shape_4 21 rfl rfl)
theorem dX4_shape_120 : decode cX4_shape 120 = .ok (.bipush 40, 2) := dk_16 40 (dk_at dksX4_shape_5 0 rfl rfl)
theorem dX4_shape_122 : decode cX4_shape 122 = .ok (.bipush 8, 2) := dk_16 8 (dk_at dksX4_shape_5 2 rfl rfl)
theorem dX4_shape_124 : decode cX4_shape 124 = .ok (.iload_n 1, 1) := dk_27 (dk_at dksX4_shape_5 4 rfl rfl)
theorem dX4_shape_125 : decode cX4_shape 125 = .ok (.imul, 1) := dk_104 (dk_at dksX4_shape_5 5 rfl rfl)
theorem dX4_shape_126 : decode cX4_shape 126 = .ok (.iadd, 1) := dk_96 (dk_at dksX4_shape_5 6 rfl rfl)
theorem dX4_shape_127 : decode cX4_shape 127 = .ok (.iload_n 3, 1) := dk_29 (dk_at dksX4_shape_5 7 rfl rfl)
theorem dX4_shape_128 : decode cX4_shape 128 = .ok (.iadd, 1) := dk_96 (dk_at dksX4_shape_5 8 rfl rfl)
theorem dX4_shape_129 : decode cX4_shape 129 = .ok (.iaload, 1) := dk_46 (dk_at dksX4_shape_5 9 rfl rfl)
theorem dX4_shape_130 : decode cX4_shape 130 = .ok (.i2l, 1) := dk_133 (dk_at dksX4_shape_5 10 rfl rfl)
theorem dX4_shape_131 : decode cX4_shape 131 = .ok (.goto 4, 3) := dk_167 0 4 (dk_at dksX4_shape_5 11 rfl rfl)
theorem dX4_shape_134 : decode cX4_shape 134 = .ok (.lconst 0, 1) := dk_9 (dk_at dksX4_shape_5 14 rfl rfl)
theorem dX4_shape_135 : decode cX4_shape 135 = .ok (.iload 5, 2) := dk_21 5 (dk_at dksX4_shape_5 15 rfl rfl)
theorem dX4_shape_137 : decode cX4_shape 137 = .ok (.i2l, 1) := dk_133 (dk_at dksX4_shape_5 17 rfl rfl)
theorem dX4_shape_138 : decode cX4_shape 138 = .ok (.iload 4, 2) := dk_21 4 (dk_at dksX4_shape_5 18 rfl rfl)
theorem dX4_shape_140 : decode cX4_shape 140 = .ok (.invokestatic 306, 3) := dk_184 1 50 (dk_at dksX4_shape_5 20 rfl rfl)
theorem dX4_shape_143 : decode cX4_shape 143 = .ok (.l2i, 1) := dk_136 (dk_at dksX4_shape_5 23 rfl rfl)
theorem dX4_shape_144 : decode cX4_shape 144 = .ok (.ireturn, 1) := dk_172 (dk_at dksX4_shape_6 0 rfl rfl)
abbrev cX4_count : ByteArray := prog_24_method_123_code
def yX4_count : MethodName := ⟨RX4, "count", "(I)I"⟩
def dkwX4_count_5 : List UInt8 := [180, 0, 7, 27, 16, 7, 100, 46, 172, 42, 180, 0, 7, 27, 16, 6, 100, 46, 172, 2, 172]
abbrev dktX4_count_5 : List UInt8 := dkwX4_count_5 ++ []
def dkwX4_count_4 : List UInt8 := [180, 0, 17, 17, 6, 220, 46, 172, 42, 180, 0, 17, 17, 6, 221, 46, 172, 42, 180, 0, 136, 172, 42]
abbrev dktX4_count_4 : List UInt8 := dkwX4_count_4 ++ dktX4_count_5
def dkwX4_count_3 : List UInt8 := [17, 6, 217, 46, 172, 42, 180, 0, 17, 17, 6, 218, 46, 172, 42, 180, 0, 17, 17, 6, 219, 46, 172, 42]
abbrev dktX4_count_3 : List UInt8 := dkwX4_count_3 ++ dktX4_count_4
def dkwX4_count_2 : List UInt8 := [42, 180, 0, 17, 17, 6, 214, 46, 172, 42, 180, 0, 17, 17, 6, 216, 46, 172, 42, 180, 0, 17]
abbrev dktX4_count_2 : List UInt8 := dkwX4_count_2 ++ dktX4_count_3
def dkwX4_count_1 : List UInt8 := [170, 0, 0, 0, 0, 0, 155, 0, 0, 0, 0, 0, 0, 0, 12, 0, 0, 0, 67, 0, 0, 0, 76, 0, 0, 0, 85, 0, 0, 0, 94, 0, 0, 0, 103, 0, 0, 0, 112, 0, 0, 0, 121, 0, 0, 0, 130, 0, 0, 0, 135, 0, 0, 0, 135, 0, 0, 0, 135, 0, 0, 0, 145, 0, 0, 0, 145]
abbrev dktX4_count_1 : List UInt8 := dkwX4_count_1 ++ dktX4_count_2
def dkwX4_count_0 : List UInt8 := [27]
abbrev dktX4_count_0 : List UInt8 := dkwX4_count_0 ++ dktX4_count_1
theorem dksX4_count_0 : cX4_count.data.toList.drop 0 = dktX4_count_0 := by decide +kernel
theorem dksX4_count_1 : cX4_count.data.toList.drop 1 = dktX4_count_1 := dk_seg dksX4_count_0 1 rfl rfl
theorem dksX4_count_2 : cX4_count.data.toList.drop 68 = dktX4_count_2 := dk_seg dksX4_count_1 67 rfl rfl
theorem dksX4_count_3 : cX4_count.data.toList.drop 90 = dktX4_count_3 := dk_seg dksX4_count_2 22 rfl rfl
theorem dksX4_count_4 : cX4_count.data.toList.drop 114 = dktX4_count_4 := dk_seg dksX4_count_3 24 rfl rfl
theorem dksX4_count_5 : cX4_count.data.toList.drop 137 = dktX4_count_5 := dk_seg dksX4_count_4 23 rfl rfl
theorem dX4_count_0 : decode cX4_count 0 = .ok (.iload_n 1, 1) := dk_27 (dk_at dksX4_count_0 0 rfl rfl)
theorem dX4_count_1 : decode cX4_count 1 = .ok (.tableswitch 155 0 12 #[67, 76, 85, 94, 103, 112, 121, 130, 135, 135, 135, 145, 145], 67) := by decide +kernel
theorem dX4_count_68 : decode cX4_count 68 = .ok (.aload_n 0, 1) := dk_42 (dk_at dksX4_count_2 0 rfl rfl)
theorem dX4_count_69 : decode cX4_count 69 = .ok (.getfield 17, 3) := dk_180 0 17 (dk_at dksX4_count_2 1 rfl rfl)
theorem dX4_count_72 : decode cX4_count 72 = .ok (.sipush 1750, 3) := dk_17 6 214 (dk_at dksX4_count_2 4 rfl rfl)
theorem dX4_count_75 : decode cX4_count 75 = .ok (.iaload, 1) := dk_46 (dk_at dksX4_count_2 7 rfl rfl)
theorem dX4_count_76 : decode cX4_count 76 = .ok (.ireturn, 1) := dk_172 (dk_at dksX4_count_2 8 rfl rfl)
theorem dX4_count_77 : decode cX4_count 77 = .ok (.aload_n 0, 1) := dk_42 (dk_at dksX4_count_2 9 rfl rfl)
theorem dX4_count_78 : decode cX4_count 78 = .ok (.getfield 17, 3) := dk_180 0 17 (dk_at dksX4_count_2 10 rfl rfl)
theorem dX4_count_81 : decode cX4_count 81 = .ok (.sipush 1752, 3) := dk_17 6 216 (dk_at dksX4_count_2 13 rfl rfl)
theorem dX4_count_84 : decode cX4_count 84 = .ok (.iaload, 1) := dk_46 (dk_at dksX4_count_2 16 rfl rfl)
theorem dX4_count_85 : decode cX4_count 85 = .ok (.ireturn, 1) := dk_172 (dk_at dksX4_count_2 17 rfl rfl)
theorem dX4_count_86 : decode cX4_count 86 = .ok (.aload_n 0, 1) := dk_42 (dk_at dksX4_count_2 18 rfl rfl)
theorem dX4_count_87 : decode cX4_count 87 = .ok (.getfield 17, 3) := dk_180 0 17 (dk_at dksX4_count_2 19 rfl rfl)
theorem dX4_count_90 : decode cX4_count 90 = .ok (.sipush 1753, 3) := dk_17 6 217 (dk_at dksX4_count_3 0 rfl rfl)
theorem dX4_count_93 : decode cX4_count 93 = .ok (.iaload, 1) := dk_46 (dk_at dksX4_count_3 3 rfl rfl)
theorem dX4_count_94 : decode cX4_count 94 = .ok (.ireturn, 1) := dk_172 (dk_at dksX4_count_3 4 rfl rfl)
theorem dX4_count_95 : decode cX4_count 95 = .ok (.aload_n 0, 1) := dk_42 (dk_at dksX4_count_3 5 rfl rfl)
theorem dX4_count_96 : decode cX4_count 96 = .ok (.getfield 17, 3) := dk_180 0 17 (dk_at dksX4_count_3 6 rfl rfl)
theorem dX4_count_99 : decode cX4_count 99 = .ok (.sipush 1754, 3) := dk_17 6 218 (dk_at dksX4_count_3 9 rfl rfl)
theorem dX4_count_102 : decode cX4_count 102 = .ok (.iaload, 1) := dk_46 (dk_at dksX4_count_3 12 rfl rfl)
theorem dX4_count_103 : decode cX4_count 103 = .ok (.ireturn, 1) := dk_172 (dk_at dksX4_count_3 13 rfl rfl)
theorem dX4_count_104 : decode cX4_count 104 = .ok (.aload_n 0, 1) := dk_42 (dk_at dksX4_count_3 14 rfl rfl)
theorem dX4_count_105 : decode cX4_count 105 = .ok (.getfield 17, 3) := dk_180 0 17 (dk_at dksX4_count_3 15 rfl rfl)
theorem dX4_count_108 : decode cX4_count 108 = .ok (.sipush 1755, 3) := dk_17 6 219 (dk_at dksX4_count_3 18 rfl rfl)
theorem dX4_count_111 : decode cX4_count 111 = .ok (.iaload, 1) := dk_46 (dk_at dksX4_count_3 21 rfl rfl)
theorem dX4_count_112 : decode cX4_count 112 = .ok (.ireturn, 1) := dk_172 (dk_at dksX4_count_3 22 rfl rfl)
theorem dX4_count_113 : decode cX4_count 113 = .ok (.aload_n 0, 1) := dk_42 (dk_at dksX4_count_3 23 rfl rfl)
theorem dX4_count_114 : decode cX4_count 114 = .ok (.getfield 17, 3) := dk_180 0 17 (dk_at dksX4_count_4 0 rfl rfl)
theorem dX4_count_117 : decode cX4_count 117 = .ok (.sipush 1756, 3) := dk_17 6 220 (dk_at dksX4_count_4 3 rfl rfl)
theorem dX4_count_120 : decode cX4_count 120 = .ok (.iaload, 1) := dk_46 (dk_at dksX4_count_4 6 rfl rfl)
theorem dX4_count_121 : decode cX4_count 121 = .ok (.ireturn, 1) := dk_172 (dk_at dksX4_count_4 7 rfl rfl)
theorem dX4_count_122 : decode cX4_count 122 = .ok (.aload_n 0, 1) := dk_42 (dk_at dksX4_count_4 8 rfl rfl)
theorem dX4_count_123 : decode cX4_count 123 = .ok (.getfield 17, 3) := dk_180 0 17 (dk_at dksX4_count_4 9 rfl rfl)
theorem dX4_count_126 : decode cX4_count 126 = .ok (.sipush 1757, 3) := dk_17 6 221 (dk_at dksX4_count_4 12 rfl rfl)
theorem dX4_count_129 : decode cX4_count 129 = .ok (.iaload, 1) := dk_46 (dk_at dksX4_count_4 15 rfl rfl)
theorem dX4_count_130 : decode cX4_count 130 = .ok (.ireturn, 1) := dk_172 (dk_at dksX4_count_4 16 rfl rfl)
theorem dX4_count_131 : decode cX4_count 131 = .ok (.aload_n 0, 1) := dk_42 (dk_at dksX4_count_4 17 rfl rfl)
theorem dX4_count_132 : decode cX4_count 132 = .ok (.getfield 136, 3) := dk_180 0 136 (dk_at dksX4_count_4 18 rfl rfl)
theorem dX4_count_135 : decode cX4_count 135 = .ok (.ireturn, 1) := dk_172 (dk_at dksX4_count_4 21 rfl rfl)
theorem dX4_count_136 : decode cX4_count 136 = .ok (.aload_n 0, 1) := dk_42 (dk_at dksX4_count_4 22 rfl rfl)
theorem dX4_count_137 : decode cX4_count 137 = .ok (.getfield 7, 3) := dk_180 0 7 (dk_at dksX4_count_5 0 rfl rfl)
theorem dX4_count_140 : decode cX4_count 140 = .ok (.iload_n 1, 1) := dk_27 (dk_at dksX4_count_5 3 rfl rfl)
theorem dX4_count_141 : decode cX4_count 141 = .ok (.bipush 7, 2) := dk_16 7 (dk_at dksX4_count_5 4 rfl rfl)
theorem dX4_count_143 : decode cX4_count 143 = .ok (.isub, 1) := dk_100 (dk_at dksX4_count_5 6 rfl rfl)
theorem dX4_count_144 : decode cX4_count 144 = .ok (.iaload, 1) := dk_46 (dk_at dksX4_count_5 7 rfl rfl)
theorem dX4_count_145 : decode cX4_count 145 = .ok (.ireturn, 1) := dk_172 (dk_at dksX4_count_5 8 rfl rfl)
theorem dX4_count_146 : decode cX4_count 146 = .ok (.aload_n 0, 1) := dk_42 (dk_at dksX4_count_5 9 rfl rfl)
theorem dX4_count_147 : decode cX4_count 147 = .ok (.getfield 7, 3) := dk_180 0 7 (dk_at dksX4_count_5 10 rfl rfl)
theorem dX4_count_150 : decode cX4_count 150 = .ok (.iload_n 1, 1) := dk_27 (dk_at dksX4_count_5 13 rfl rfl)
theorem dX4_count_151 : decode cX4_count 151 = .ok (.bipush 6, 2) := dk_16 6 (dk_at dksX4_count_5 14 rfl rfl)
theorem dX4_count_153 : decode cX4_count 153 = .ok (.isub, 1) := dk_100 (dk_at dksX4_count_5 16 rfl rfl)
theorem dX4_count_154 : decode cX4_count 154 = .ok (.iaload, 1) := dk_46 (dk_at dksX4_count_5 17 rfl rfl)
theorem dX4_count_155 : decode cX4_count 155 = .ok (.ireturn, 1) := dk_172 (dk_at dksX4_count_5 18 rfl rfl)
theorem dX4_count_156 : decode cX4_count 156 = .ok (.iconst (-1), 1) := dk_2 (dk_at dksX4_count_5 19 rfl rfl)
theorem dX4_count_157 : decode cX4_count 157 = .ok (.ireturn, 1) := dk_172 (dk_at dksX4_count_5 20 rfl rfl)
abbrev cX4_status : ByteArray := prog_24_method_124_code
def yX4_status : MethodName := ⟨RX4, "status", "()I"⟩
theorem dX4_status_0 : decode cX4_status 0 = .ok (.aload_n 0, 1) := by decide +kernel
theorem dX4_status_1 : decode cX4_status 1 = .ok (.getfield 3, 3) := by decide +kernel
theorem dX4_status_4 : decode cX4_status 4 = .ok (.ireturn, 1) := by decide +kernel
theorem q109 : (Jvm.Cond.initialized "BrothFlasksModel") ∈ lw_all := lw_g (lw_at lw_m1 5 rfl) rfl
theorem q1468 : (Jvm.Cond.instantiable "BrothFlasksModel" (30 : Nat)) ∈ lw_all := lw_g (lw_at lw_m6 164 rfl) rfl
theorem q1470 : (Jvm.Cond.instanceMethod ({ cls := "BrothFlasksModel", name := "<init>", desc := "()V" } : Jvm.MethodName)) ∈ lw_all := lw_g (lw_at lw_m6 166 rfl) rfl
theorem q1471 : (Jvm.Cond.code ({ cls := "BrothFlasksModel", name := "<init>", desc := "()V" } : Jvm.MethodName) prog_24_method_4_code (2 : Nat) (Option.none : Option Jvm.ClassFile.FieldType)) ∈ lw_all := lw_g (lw_at lw_m6 167 rfl) rfl
theorem q1472 : (Jvm.Cond.methodLink "BrothFlasksModel" (11 : Nat) ({ cls := "java/lang/Object", name := "<init>", desc := "()V" } : Jvm.MethodName)) ∈ lw_all := lw_g (lw_at lw_m6 168 rfl) rfl
theorem q1473 : (Jvm.Cond.fieldLink "BrothFlasksModel" (3 : Nat) "BrothFlasksModel" "status" "I") ∈ lw_all := lw_g (lw_at lw_m6 169 rfl) rfl
theorem q1474 : (Jvm.Cond.fieldLink "BrothFlasksModel" (7 : Nat) "BrothFlasksModel" "refused" "[I") ∈ lw_all := lw_g (lw_at lw_m6 170 rfl) rfl
theorem q1475 : (Jvm.Cond.fieldLink "BrothFlasksModel" (17 : Nat) "BrothFlasksModel" "kept" "[I") ∈ lw_all := lw_g (lw_at lw_m6 171 rfl) rfl
theorem q1476 : (Jvm.Cond.fieldLink "BrothFlasksModel" (20 : Nat) "BrothFlasksModel" "images" "[I") ∈ lw_all := lw_g (lw_at lw_m6 172 rfl) rfl
theorem q1477 : (Jvm.Cond.fieldLink "BrothFlasksModel" (23 : Nat) "BrothFlasksModel" "hasImage" "[Z") ∈ lw_all := lw_g (lw_at lw_m6 173 rfl) rfl
theorem q1478 : (Jvm.Cond.fieldLink "BrothFlasksModel" (27 : Nat) "BrothFlasksModel" "now" "[I") ∈ lw_all := lw_g (lw_at lw_m6 174 rfl) rfl
theorem q1479 : (Jvm.Cond.fieldLink "BrothFlasksModel" (30 : Nat) "BrothFlasksModel" "words" "[B") ∈ lw_all := lw_g (lw_at lw_m6 175 rfl) rfl
theorem q1480 : (Jvm.Cond.fieldLink "BrothFlasksModel" (34 : Nat) "BrothFlasksModel" "tape" "[B") ∈ lw_all := lw_g (lw_at lw_m6 176 rfl) rfl
theorem q1481 : (Jvm.Cond.fieldLink "BrothFlasksModel" (37 : Nat) "BrothFlasksModel" "five" "[I") ∈ lw_all := lw_g (lw_at lw_m6 177 rfl) rfl
theorem q1482 : (Jvm.Cond.fieldLink "BrothFlasksModel" (136 : Nat) "BrothFlasksModel" "taped" "I") ∈ lw_all := lw_g (lw_at lw_m6 178 rfl) rfl
theorem q1483 : (Jvm.Cond.fieldLink "BrothFlasksModel" (40 : Nat) "BrothFlasksModel" "fault" "I") ∈ lw_all := lw_g (lw_at lw_m6 179 rfl) rfl
theorem q1484 : (Jvm.Cond.fieldLink "BrothFlasksModel" (43 : Nat) "BrothFlasksModel" "code" "[I") ∈ lw_all := lw_g (lw_at lw_m6 180 rfl) rfl
theorem q1485 : (Jvm.Cond.fieldLink "BrothFlasksModel" (46 : Nat) "BrothFlasksModel" "value" "[I") ∈ lw_all := lw_g (lw_at lw_m6 181 rfl) rfl
theorem q1486 : (Jvm.Cond.fieldLink "BrothFlasksModel" (49 : Nat) "BrothFlasksModel" "placed" "[I") ∈ lw_all := lw_g (lw_at lw_m6 182 rfl) rfl
theorem q1487 : (Jvm.Cond.fieldLink "BrothFlasksModel" (148 : Nat) "BrothFlasksModel" "tokens" "I") ∈ lw_all := lw_g (lw_at lw_m6 183 rfl) rfl
theorem q1488 : (Jvm.Cond.fieldLink "BrothFlasksModel" (167 : Nat) "BrothFlasksModel" "token" "I") ∈ lw_all := lw_g (lw_at lw_m6 184 rfl) rfl
theorem q1489 : (Jvm.Cond.fieldLink "BrothFlasksModel" (176 : Nat) "BrothFlasksModel" "leaves" "I") ∈ lw_all := lw_g (lw_at lw_m6 185 rfl) rfl
theorem q1490 : (Jvm.Cond.fieldLink "BrothFlasksModel" (160 : Nat) "BrothFlasksModel" "bad" "I") ∈ lw_all := lw_g (lw_at lw_m6 186 rfl) rfl
theorem q1491 : (Jvm.Cond.fieldLink "BrothFlasksModel" (220 : Nat) "BrothFlasksModel" "go" "I") ∈ lw_all := lw_g (lw_at lw_m6 187 rfl) rfl
theorem q1492 : (Jvm.Cond.fieldLink "BrothFlasksModel" (217 : Nat) "BrothFlasksModel" "goEnd" "I") ∈ lw_all := lw_g (lw_at lw_m6 188 rfl) rfl
theorem q1493 : (Jvm.Cond.fieldLink "BrothFlasksModel" (230 : Nat) "BrothFlasksModel" "broken" "Z") ∈ lw_all := lw_g (lw_at lw_m6 189 rfl) rfl
theorem q1494 : (Jvm.Cond.fieldLink "BrothFlasksModel" (267 : Nat) "BrothFlasksModel" "clauses" "I") ∈ lw_all := lw_g (lw_at lw_m6 190 rfl) rfl
theorem q1495 : (Jvm.Cond.fieldLink "BrothFlasksModel" (52 : Nat) "BrothFlasksModel" "head" "[I") ∈ lw_all := lw_g (lw_at lw_m6 191 rfl) rfl
theorem q1496 : (Jvm.Cond.fieldLink "BrothFlasksModel" (55 : Nat) "BrothFlasksModel" "holds" "[Z") ∈ lw_all := lw_g (lw_at lw_m6 192 rfl) rfl
theorem q1497 : (Jvm.Cond.fieldLink "BrothFlasksModel" (58 : Nat) "BrothFlasksModel" "says" "[J") ∈ lw_all := lw_g (lw_at lw_m6 193 rfl) rfl
theorem q1498 : (Jvm.Cond.fieldLink "BrothFlasksModel" (62 : Nat) "BrothFlasksModel" "by" "[I") ∈ lw_all := lw_g (lw_at lw_m6 194 rfl) rfl
theorem q1499 : (Jvm.Cond.fieldLink "BrothFlasksModel" (65 : Nat) "BrothFlasksModel" "fewest" "[I") ∈ lw_all := lw_g (lw_at lw_m6 195 rfl) rfl
theorem q1500 : (Jvm.Cond.fieldLink "BrothFlasksModel" (68 : Nat) "BrothFlasksModel" "saysTurned" "[I") ∈ lw_all := lw_g (lw_at lw_m6 196 rfl) rfl
theorem q1501 : (Jvm.Cond.fieldLink "BrothFlasksModel" (328 : Nat) "BrothFlasksModel" "first" "I") ∈ lw_all := lw_g (lw_at lw_m6 197 rfl) rfl
theorem q1502 : (Jvm.Cond.fieldLink "BrothFlasksModel" (71 : Nat) "BrothFlasksModel" "chances" "[J") ∈ lw_all := lw_g (lw_at lw_m6 198 rfl) rfl
theorem q1503 : (Jvm.Cond.lays "BrothFlasksModel" "BrothFlasksModel" "status" "I") ∈ lw_all := lw_g (lw_at lw_m6 199 rfl) rfl
theorem q1504 : (Jvm.Cond.soleField "BrothFlasksModel" "status") ∈ lw_all := lw_g (lw_at lw_m6 200 rfl) rfl
theorem q1505 : (Jvm.Cond.laysFinal "BrothFlasksModel" "BrothFlasksModel" "refused" "[I") ∈ lw_all := lw_g (lw_at lw_m6 201 rfl) rfl
theorem q1506 : (Jvm.Cond.soleField "BrothFlasksModel" "refused") ∈ lw_all := lw_g (lw_at lw_m6 202 rfl) rfl
theorem q1507 : (Jvm.Cond.laysFinal "BrothFlasksModel" "BrothFlasksModel" "kept" "[I") ∈ lw_all := lw_g (lw_at lw_m6 203 rfl) rfl
theorem q1508 : (Jvm.Cond.soleField "BrothFlasksModel" "kept") ∈ lw_all := lw_g (lw_at lw_m6 204 rfl) rfl
theorem q1509 : (Jvm.Cond.laysFinal "BrothFlasksModel" "BrothFlasksModel" "images" "[I") ∈ lw_all := lw_g (lw_at lw_m6 205 rfl) rfl
theorem q1510 : (Jvm.Cond.soleField "BrothFlasksModel" "images") ∈ lw_all := lw_g (lw_at lw_m6 206 rfl) rfl
theorem q1511 : (Jvm.Cond.laysFinal "BrothFlasksModel" "BrothFlasksModel" "hasImage" "[Z") ∈ lw_all := lw_g (lw_at lw_m6 207 rfl) rfl
theorem q1512 : (Jvm.Cond.soleField "BrothFlasksModel" "hasImage") ∈ lw_all := lw_g (lw_at lw_m6 208 rfl) rfl
theorem q1513 : (Jvm.Cond.laysFinal "BrothFlasksModel" "BrothFlasksModel" "now" "[I") ∈ lw_all := lw_g (lw_at lw_m6 209 rfl) rfl
theorem q1514 : (Jvm.Cond.soleField "BrothFlasksModel" "now") ∈ lw_all := lw_g (lw_at lw_m6 210 rfl) rfl
theorem q1515 : (Jvm.Cond.laysFinal "BrothFlasksModel" "BrothFlasksModel" "words" "[B") ∈ lw_all := lw_g (lw_at lw_m6 211 rfl) rfl
theorem q1516 : (Jvm.Cond.soleField "BrothFlasksModel" "words") ∈ lw_all := lw_g (lw_at lw_m6 212 rfl) rfl
theorem q1517 : (Jvm.Cond.laysFinal "BrothFlasksModel" "BrothFlasksModel" "tape" "[B") ∈ lw_all := lw_g (lw_at lw_m6 213 rfl) rfl
theorem q1518 : (Jvm.Cond.soleField "BrothFlasksModel" "tape") ∈ lw_all := lw_g (lw_at lw_m6 214 rfl) rfl
theorem q1519 : (Jvm.Cond.laysFinal "BrothFlasksModel" "BrothFlasksModel" "five" "[I") ∈ lw_all := lw_g (lw_at lw_m6 215 rfl) rfl
theorem q1520 : (Jvm.Cond.soleField "BrothFlasksModel" "five") ∈ lw_all := lw_g (lw_at lw_m6 216 rfl) rfl
theorem q1521 : (Jvm.Cond.lays "BrothFlasksModel" "BrothFlasksModel" "taped" "I") ∈ lw_all := lw_g (lw_at lw_m6 217 rfl) rfl
theorem q1522 : (Jvm.Cond.soleField "BrothFlasksModel" "taped") ∈ lw_all := lw_g (lw_at lw_m6 218 rfl) rfl
theorem q1523 : (Jvm.Cond.lays "BrothFlasksModel" "BrothFlasksModel" "fault" "I") ∈ lw_all := lw_g (lw_at lw_m6 219 rfl) rfl
theorem q1524 : (Jvm.Cond.soleField "BrothFlasksModel" "fault") ∈ lw_all := lw_g (lw_at lw_m6 220 rfl) rfl
theorem q1525 : (Jvm.Cond.laysFinal "BrothFlasksModel" "BrothFlasksModel" "code" "[I") ∈ lw_all := lw_g (lw_at lw_m6 221 rfl) rfl
theorem q1526 : (Jvm.Cond.soleField "BrothFlasksModel" "code") ∈ lw_all := lw_g (lw_at lw_m6 222 rfl) rfl
theorem q1527 : (Jvm.Cond.laysFinal "BrothFlasksModel" "BrothFlasksModel" "value" "[I") ∈ lw_all := lw_g (lw_at lw_m6 223 rfl) rfl
theorem q1528 : (Jvm.Cond.soleField "BrothFlasksModel" "value") ∈ lw_all := lw_g (lw_at lw_m6 224 rfl) rfl
theorem q1529 : (Jvm.Cond.laysFinal "BrothFlasksModel" "BrothFlasksModel" "placed" "[I") ∈ lw_all := lw_g (lw_at lw_m6 225 rfl) rfl
theorem q1530 : (Jvm.Cond.soleField "BrothFlasksModel" "placed") ∈ lw_all := lw_g (lw_at lw_m6 226 rfl) rfl
theorem q1531 : (Jvm.Cond.lays "BrothFlasksModel" "BrothFlasksModel" "tokens" "I") ∈ lw_all := lw_g (lw_at lw_m6 227 rfl) rfl
theorem q1532 : (Jvm.Cond.soleField "BrothFlasksModel" "tokens") ∈ lw_all := lw_g (lw_at lw_m6 228 rfl) rfl
theorem q1533 : (Jvm.Cond.lays "BrothFlasksModel" "BrothFlasksModel" "token" "I") ∈ lw_all := lw_g (lw_at lw_m6 229 rfl) rfl
theorem q1534 : (Jvm.Cond.soleField "BrothFlasksModel" "token") ∈ lw_all := lw_g (lw_at lw_m6 230 rfl) rfl
theorem q1535 : (Jvm.Cond.lays "BrothFlasksModel" "BrothFlasksModel" "leaves" "I") ∈ lw_all := lw_g (lw_at lw_m6 231 rfl) rfl
theorem q1536 : (Jvm.Cond.soleField "BrothFlasksModel" "leaves") ∈ lw_all := lw_g (lw_at lw_m6 232 rfl) rfl
theorem q1537 : (Jvm.Cond.lays "BrothFlasksModel" "BrothFlasksModel" "bad" "I") ∈ lw_all := lw_g (lw_at lw_m6 233 rfl) rfl
theorem q1538 : (Jvm.Cond.soleField "BrothFlasksModel" "bad") ∈ lw_all := lw_g (lw_at lw_m6 234 rfl) rfl
theorem q1539 : (Jvm.Cond.lays "BrothFlasksModel" "BrothFlasksModel" "go" "I") ∈ lw_all := lw_g (lw_at lw_m6 235 rfl) rfl
theorem q1540 : (Jvm.Cond.soleField "BrothFlasksModel" "go") ∈ lw_all := lw_g (lw_at lw_m6 236 rfl) rfl
theorem q1541 : (Jvm.Cond.lays "BrothFlasksModel" "BrothFlasksModel" "goEnd" "I") ∈ lw_all := lw_g (lw_at lw_m6 237 rfl) rfl
theorem q1542 : (Jvm.Cond.soleField "BrothFlasksModel" "goEnd") ∈ lw_all := lw_g (lw_at lw_m6 238 rfl) rfl
theorem q1543 : (Jvm.Cond.lays "BrothFlasksModel" "BrothFlasksModel" "broken" "Z") ∈ lw_all := lw_g (lw_at lw_m6 239 rfl) rfl
theorem q1544 : (Jvm.Cond.soleField "BrothFlasksModel" "broken") ∈ lw_all := lw_g (lw_at lw_m7 0 rfl) rfl
theorem q1545 : (Jvm.Cond.lays "BrothFlasksModel" "BrothFlasksModel" "clauses" "I") ∈ lw_all := lw_g (lw_at lw_m7 1 rfl) rfl
theorem q1546 : (Jvm.Cond.soleField "BrothFlasksModel" "clauses") ∈ lw_all := lw_g (lw_at lw_m7 2 rfl) rfl
theorem q1547 : (Jvm.Cond.laysFinal "BrothFlasksModel" "BrothFlasksModel" "head" "[I") ∈ lw_all := lw_g (lw_at lw_m7 3 rfl) rfl
theorem q1548 : (Jvm.Cond.soleField "BrothFlasksModel" "head") ∈ lw_all := lw_g (lw_at lw_m7 4 rfl) rfl
theorem q1549 : (Jvm.Cond.laysFinal "BrothFlasksModel" "BrothFlasksModel" "holds" "[Z") ∈ lw_all := lw_g (lw_at lw_m7 5 rfl) rfl
theorem q1550 : (Jvm.Cond.soleField "BrothFlasksModel" "holds") ∈ lw_all := lw_g (lw_at lw_m7 6 rfl) rfl
theorem q1551 : (Jvm.Cond.laysFinal "BrothFlasksModel" "BrothFlasksModel" "says" "[J") ∈ lw_all := lw_g (lw_at lw_m7 7 rfl) rfl
theorem q1552 : (Jvm.Cond.soleField "BrothFlasksModel" "says") ∈ lw_all := lw_g (lw_at lw_m7 8 rfl) rfl
theorem q1553 : (Jvm.Cond.laysFinal "BrothFlasksModel" "BrothFlasksModel" "by" "[I") ∈ lw_all := lw_g (lw_at lw_m7 9 rfl) rfl
theorem q1554 : (Jvm.Cond.soleField "BrothFlasksModel" "by") ∈ lw_all := lw_g (lw_at lw_m7 10 rfl) rfl
theorem q1555 : (Jvm.Cond.laysFinal "BrothFlasksModel" "BrothFlasksModel" "fewest" "[I") ∈ lw_all := lw_g (lw_at lw_m7 11 rfl) rfl
theorem q1556 : (Jvm.Cond.soleField "BrothFlasksModel" "fewest") ∈ lw_all := lw_g (lw_at lw_m7 12 rfl) rfl
theorem q1557 : (Jvm.Cond.laysFinal "BrothFlasksModel" "BrothFlasksModel" "saysTurned" "[I") ∈ lw_all := lw_g (lw_at lw_m7 13 rfl) rfl
theorem q1558 : (Jvm.Cond.soleField "BrothFlasksModel" "saysTurned") ∈ lw_all := lw_g (lw_at lw_m7 14 rfl) rfl
theorem q1559 : (Jvm.Cond.lays "BrothFlasksModel" "BrothFlasksModel" "first" "I") ∈ lw_all := lw_g (lw_at lw_m7 15 rfl) rfl
theorem q1560 : (Jvm.Cond.soleField "BrothFlasksModel" "first") ∈ lw_all := lw_g (lw_at lw_m7 16 rfl) rfl
theorem q1561 : (Jvm.Cond.laysFinal "BrothFlasksModel" "BrothFlasksModel" "chances" "[J") ∈ lw_all := lw_g (lw_at lw_m7 17 rfl) rfl
theorem q1562 : (Jvm.Cond.soleField "BrothFlasksModel" "chances") ∈ lw_all := lw_g (lw_at lw_m7 18 rfl) rfl
theorem q1563 : (Jvm.Cond.superclass "BrothFlasksModel" "java/lang/Object") ∈ lw_all := lw_g (lw_at lw_m7 19 rfl) rfl
theorem q1566 : (Jvm.Cond.instanceMethod ({ cls := "BrothFlasksModel", name := "image", desc := "(I)I" } : Jvm.MethodName)) ∈ lw_all := lw_g (lw_at lw_m7 22 rfl) rfl
theorem q1567 : (Jvm.Cond.selects "BrothFlasksModel" ({ cls := "BrothFlasksModel", name := "image", desc := "(I)I" } : Jvm.MethodName) ({ cls := "BrothFlasksModel", name := "image", desc := "(I)I" } : Jvm.MethodName)) ∈ lw_all := lw_g (lw_at lw_m7 23 rfl) rfl
theorem q1568 : (Jvm.Cond.code ({ cls := "BrothFlasksModel", name := "image", desc := "(I)I" } : Jvm.MethodName) prog_24_method_5_code (3 : Nat) (Option.some Jvm.ClassFile.FieldType.int)) ∈ lw_all := lw_g (lw_at lw_m7 24 rfl) rfl
theorem q1569 : (Jvm.Cond.methodLink "BrothFlasksModel" (74 : Nat) ({ cls := "BrothFlasksModel", name := "in", desc := "(III)Z" } : Jvm.MethodName)) ∈ lw_all := lw_g (lw_at lw_m7 25 rfl) rfl
theorem q1570 : (Jvm.Cond.static ({ cls := "BrothFlasksModel", name := "in", desc := "(III)Z" } : Jvm.MethodName)) ∈ lw_all := lw_g (lw_at lw_m7 26 rfl) rfl
theorem q1571 : (Jvm.Cond.code ({ cls := "BrothFlasksModel", name := "in", desc := "(III)Z" } : Jvm.MethodName) prog_24_method_1_code (3 : Nat) (Option.some Jvm.ClassFile.FieldType.boolean)) ∈ lw_all := lw_g (lw_at lw_m7 27 rfl) rfl
theorem q1572 : (Jvm.Cond.methodLink "BrothFlasksModel" (78 : Nat) ({ cls := "BrothFlasksModel", name := "refuses", desc := "(I)I" } : Jvm.MethodName)) ∈ lw_all := lw_g (lw_at lw_m7 28 rfl) rfl
theorem q1573 : (Jvm.Cond.privateMethod ({ cls := "BrothFlasksModel", name := "refuses", desc := "(I)I" } : Jvm.MethodName)) ∈ lw_tbl := lw_at lw_m7 29 rfl
theorem q1574 : (Jvm.Cond.instanceMethod ({ cls := "BrothFlasksModel", name := "refuses", desc := "(I)I" } : Jvm.MethodName)) ∈ lw_all := lw_g (lw_at lw_m7 30 rfl) rfl
theorem q1575 : (Jvm.Cond.code ({ cls := "BrothFlasksModel", name := "refuses", desc := "(I)I" } : Jvm.MethodName) prog_24_method_2_code (2 : Nat) (Option.some Jvm.ClassFile.FieldType.int)) ∈ lw_all := lw_g (lw_at lw_m7 31 rfl) rfl
theorem q1576 : (Jvm.Cond.methodLink "BrothFlasksModel" (82 : Nat) ({ cls := "BrothFlasksModel", name := "good", desc := "(I)I" } : Jvm.MethodName)) ∈ lw_all := lw_g (lw_at lw_m7 32 rfl) rfl
theorem q1577 : (Jvm.Cond.privateMethod ({ cls := "BrothFlasksModel", name := "good", desc := "(I)I" } : Jvm.MethodName)) ∈ lw_tbl := lw_at lw_m7 33 rfl
theorem q1578 : (Jvm.Cond.instanceMethod ({ cls := "BrothFlasksModel", name := "good", desc := "(I)I" } : Jvm.MethodName)) ∈ lw_all := lw_g (lw_at lw_m7 34 rfl) rfl
theorem q1579 : (Jvm.Cond.code ({ cls := "BrothFlasksModel", name := "good", desc := "(I)I" } : Jvm.MethodName) prog_24_method_3_code (2 : Nat) (Option.some Jvm.ClassFile.FieldType.int)) ∈ lw_all := lw_g (lw_at lw_m7 35 rfl) rfl
theorem q1581 : (Jvm.Cond.instanceMethod ({ cls := "BrothFlasksModel", name := "back", desc := "(I)I" } : Jvm.MethodName)) ∈ lw_all := lw_g (lw_at lw_m7 37 rfl) rfl
theorem q1582 : (Jvm.Cond.selects "BrothFlasksModel" ({ cls := "BrothFlasksModel", name := "back", desc := "(I)I" } : Jvm.MethodName) ({ cls := "BrothFlasksModel", name := "back", desc := "(I)I" } : Jvm.MethodName)) ∈ lw_all := lw_g (lw_at lw_m7 38 rfl) rfl
theorem q1583 : (Jvm.Cond.code ({ cls := "BrothFlasksModel", name := "back", desc := "(I)I" } : Jvm.MethodName) prog_24_method_6_code (3 : Nat) (Option.some Jvm.ClassFile.FieldType.int)) ∈ lw_all := lw_g (lw_at lw_m7 39 rfl) rfl
theorem q1585 : (Jvm.Cond.instanceMethod ({ cls := "BrothFlasksModel", name := "kind", desc := "(IIIIII)I" } : Jvm.MethodName)) ∈ lw_all := lw_g (lw_at lw_m7 41 rfl) rfl
theorem q1586 : (Jvm.Cond.selects "BrothFlasksModel" ({ cls := "BrothFlasksModel", name := "kind", desc := "(IIIIII)I" } : Jvm.MethodName) ({ cls := "BrothFlasksModel", name := "kind", desc := "(IIIIII)I" } : Jvm.MethodName)) ∈ lw_all := lw_g (lw_at lw_m7 42 rfl) rfl
theorem q1587 : (Jvm.Cond.code ({ cls := "BrothFlasksModel", name := "kind", desc := "(IIIIII)I" } : Jvm.MethodName) prog_24_method_15_code (10 : Nat) (Option.some Jvm.ClassFile.FieldType.int)) ∈ lw_all := lw_g (lw_at lw_m7 43 rfl) rfl
theorem q1589 : (Jvm.Cond.instanceMethod ({ cls := "BrothFlasksModel", name := "broth", desc := "(IIII)I" } : Jvm.MethodName)) ∈ lw_all := lw_g (lw_at lw_m7 45 rfl) rfl
theorem q1590 : (Jvm.Cond.selects "BrothFlasksModel" ({ cls := "BrothFlasksModel", name := "broth", desc := "(IIII)I" } : Jvm.MethodName) ({ cls := "BrothFlasksModel", name := "broth", desc := "(IIII)I" } : Jvm.MethodName)) ∈ lw_all := lw_g (lw_at lw_m7 46 rfl) rfl
theorem q1591 : (Jvm.Cond.code ({ cls := "BrothFlasksModel", name := "broth", desc := "(IIII)I" } : Jvm.MethodName) prog_24_method_16_code (5 : Nat) (Option.some Jvm.ClassFile.FieldType.int)) ∈ lw_all := lw_g (lw_at lw_m7 47 rfl) rfl
theorem q1593 : (Jvm.Cond.instanceMethod ({ cls := "BrothFlasksModel", name := "lets", desc := "(III)I" } : Jvm.MethodName)) ∈ lw_all := lw_g (lw_at lw_m7 49 rfl) rfl
theorem q1594 : (Jvm.Cond.selects "BrothFlasksModel" ({ cls := "BrothFlasksModel", name := "lets", desc := "(III)I" } : Jvm.MethodName) ({ cls := "BrothFlasksModel", name := "lets", desc := "(III)I" } : Jvm.MethodName)) ∈ lw_all := lw_g (lw_at lw_m7 50 rfl) rfl
theorem q1595 : (Jvm.Cond.code ({ cls := "BrothFlasksModel", name := "lets", desc := "(III)I" } : Jvm.MethodName) prog_24_method_17_code (6 : Nat) (Option.some Jvm.ClassFile.FieldType.int)) ∈ lw_all := lw_g (lw_at lw_m7 51 rfl) rfl
theorem q1597 : (Jvm.Cond.instanceMethod ({ cls := "BrothFlasksModel", name := "weigh", desc := "(III)I" } : Jvm.MethodName)) ∈ lw_all := lw_g (lw_at lw_m7 53 rfl) rfl
theorem q1598 : (Jvm.Cond.selects "BrothFlasksModel" ({ cls := "BrothFlasksModel", name := "weigh", desc := "(III)I" } : Jvm.MethodName) ({ cls := "BrothFlasksModel", name := "weigh", desc := "(III)I" } : Jvm.MethodName)) ∈ lw_all := lw_g (lw_at lw_m7 54 rfl) rfl
theorem q1599 : (Jvm.Cond.code ({ cls := "BrothFlasksModel", name := "weigh", desc := "(III)I" } : Jvm.MethodName) prog_24_method_18_code (6 : Nat) (Option.some Jvm.ClassFile.FieldType.int)) ∈ lw_all := lw_g (lw_at lw_m7 55 rfl) rfl
theorem q1600 : (Jvm.Cond.methodLink "BrothFlasksModel" (85 : Nat) ({ cls := "BrothFlasksModel", name := "isKind", desc := "(I)Z" } : Jvm.MethodName)) ∈ lw_all := lw_g (lw_at lw_m7 56 rfl) rfl
theorem q1601 : (Jvm.Cond.privateMethod ({ cls := "BrothFlasksModel", name := "isKind", desc := "(I)Z" } : Jvm.MethodName)) ∈ lw_tbl := lw_at lw_m7 57 rfl
theorem q1602 : (Jvm.Cond.instanceMethod ({ cls := "BrothFlasksModel", name := "isKind", desc := "(I)Z" } : Jvm.MethodName)) ∈ lw_all := lw_g (lw_at lw_m7 58 rfl) rfl
theorem q1603 : (Jvm.Cond.code ({ cls := "BrothFlasksModel", name := "isKind", desc := "(I)Z" } : Jvm.MethodName) prog_24_method_7_code (2 : Nat) (Option.some Jvm.ClassFile.FieldType.boolean)) ∈ lw_all := lw_g (lw_at lw_m7 59 rfl) rfl
theorem q1605 : (Jvm.Cond.instanceMethod ({ cls := "BrothFlasksModel", name := "seed", desc := "(I)I" } : Jvm.MethodName)) ∈ lw_all := lw_g (lw_at lw_m7 61 rfl) rfl
theorem q1606 : (Jvm.Cond.selects "BrothFlasksModel" ({ cls := "BrothFlasksModel", name := "seed", desc := "(I)I" } : Jvm.MethodName) ({ cls := "BrothFlasksModel", name := "seed", desc := "(I)I" } : Jvm.MethodName)) ∈ lw_all := lw_g (lw_at lw_m7 62 rfl) rfl
theorem q1607 : (Jvm.Cond.code ({ cls := "BrothFlasksModel", name := "seed", desc := "(I)I" } : Jvm.MethodName) prog_24_method_19_code (2 : Nat) (Option.some Jvm.ClassFile.FieldType.int)) ∈ lw_all := lw_g (lw_at lw_m7 63 rfl) rfl
theorem q1608 : (Jvm.Cond.constant "BrothFlasksModel" (89 : Nat) (1000000 : Int32)) ∈ lw_all := lw_g (lw_at lw_m7 64 rfl) rfl
theorem q1610 : (Jvm.Cond.instanceMethod ({ cls := "BrothFlasksModel", name := "flask", desc := "(IIII)I" } : Jvm.MethodName)) ∈ lw_all := lw_g (lw_at lw_m7 66 rfl) rfl
theorem q1611 : (Jvm.Cond.selects "BrothFlasksModel" ({ cls := "BrothFlasksModel", name := "flask", desc := "(IIII)I" } : Jvm.MethodName) ({ cls := "BrothFlasksModel", name := "flask", desc := "(IIII)I" } : Jvm.MethodName)) ∈ lw_all := lw_g (lw_at lw_m7 67 rfl) rfl
theorem q1612 : (Jvm.Cond.code ({ cls := "BrothFlasksModel", name := "flask", desc := "(IIII)I" } : Jvm.MethodName) prog_24_method_20_code (7 : Nat) (Option.some Jvm.ClassFile.FieldType.int)) ∈ lw_all := lw_g (lw_at lw_m7 68 rfl) rfl
theorem q1613 : (Jvm.Cond.methodLink "BrothFlasksModel" (90 : Nat) ({ cls := "BrothFlasksModel", name := "sets", desc := "(III)V" } : Jvm.MethodName)) ∈ lw_all := lw_g (lw_at lw_m7 69 rfl) rfl
theorem q1614 : (Jvm.Cond.privateMethod ({ cls := "BrothFlasksModel", name := "sets", desc := "(III)V" } : Jvm.MethodName)) ∈ lw_tbl := lw_at lw_m7 70 rfl
theorem q1615 : (Jvm.Cond.instanceMethod ({ cls := "BrothFlasksModel", name := "sets", desc := "(III)V" } : Jvm.MethodName)) ∈ lw_all := lw_g (lw_at lw_m7 71 rfl) rfl
theorem q1616 : (Jvm.Cond.code ({ cls := "BrothFlasksModel", name := "sets", desc := "(III)V" } : Jvm.MethodName) prog_24_method_14_code (4 : Nat) (Option.none : Option Jvm.ClassFile.FieldType)) ∈ lw_all := lw_g (lw_at lw_m7 72 rfl) rfl
theorem q1618 : (Jvm.Cond.instanceMethod ({ cls := "BrothFlasksModel", name := "heat", desc := "(III)I" } : Jvm.MethodName)) ∈ lw_all := lw_g (lw_at lw_m7 74 rfl) rfl
theorem q1619 : (Jvm.Cond.selects "BrothFlasksModel" ({ cls := "BrothFlasksModel", name := "heat", desc := "(III)I" } : Jvm.MethodName) ({ cls := "BrothFlasksModel", name := "heat", desc := "(III)I" } : Jvm.MethodName)) ∈ lw_all := lw_g (lw_at lw_m7 75 rfl) rfl
theorem q1620 : (Jvm.Cond.code ({ cls := "BrothFlasksModel", name := "heat", desc := "(III)I" } : Jvm.MethodName) prog_24_method_21_code (7 : Nat) (Option.some Jvm.ClassFile.FieldType.int)) ∈ lw_all := lw_g (lw_at lw_m7 76 rfl) rfl
theorem q1621 : (Jvm.Cond.methodLink "BrothFlasksModel" (94 : Nat) ({ cls := "BrothFlasksModel", name := "isFlask", desc := "(I)Z" } : Jvm.MethodName)) ∈ lw_all := lw_g (lw_at lw_m7 77 rfl) rfl
theorem q1622 : (Jvm.Cond.privateMethod ({ cls := "BrothFlasksModel", name := "isFlask", desc := "(I)Z" } : Jvm.MethodName)) ∈ lw_tbl := lw_at lw_m7 78 rfl
theorem q1623 : (Jvm.Cond.instanceMethod ({ cls := "BrothFlasksModel", name := "isFlask", desc := "(I)Z" } : Jvm.MethodName)) ∈ lw_all := lw_g (lw_at lw_m7 79 rfl) rfl
theorem q1624 : (Jvm.Cond.code ({ cls := "BrothFlasksModel", name := "isFlask", desc := "(I)Z" } : Jvm.MethodName) prog_24_method_8_code (2 : Nat) (Option.some Jvm.ClassFile.FieldType.boolean)) ∈ lw_all := lw_g (lw_at lw_m7 80 rfl) rfl
theorem q1625 : (Jvm.Cond.methodLink "BrothFlasksModel" (97 : Nat) ({ cls := "BrothFlasksModel", name := "flaskOf", desc := "(II)I" } : Jvm.MethodName)) ∈ lw_all := lw_g (lw_at lw_m7 81 rfl) rfl
theorem q1626 : (Jvm.Cond.privateMethod ({ cls := "BrothFlasksModel", name := "flaskOf", desc := "(II)I" } : Jvm.MethodName)) ∈ lw_tbl := lw_at lw_m7 82 rfl
theorem q1627 : (Jvm.Cond.instanceMethod ({ cls := "BrothFlasksModel", name := "flaskOf", desc := "(II)I" } : Jvm.MethodName)) ∈ lw_all := lw_g (lw_at lw_m7 83 rfl) rfl
theorem q1628 : (Jvm.Cond.code ({ cls := "BrothFlasksModel", name := "flaskOf", desc := "(II)I" } : Jvm.MethodName) prog_24_method_13_code (3 : Nat) (Option.some Jvm.ClassFile.FieldType.int)) ∈ lw_all := lw_g (lw_at lw_m7 84 rfl) rfl
theorem q1629 : (Jvm.Cond.methodLink "BrothFlasksModel" (101 : Nat) ({ cls := "BrothFlasksModel", name := "kindOf", desc := "(II)I" } : Jvm.MethodName)) ∈ lw_all := lw_g (lw_at lw_m7 85 rfl) rfl
theorem q1630 : (Jvm.Cond.privateMethod ({ cls := "BrothFlasksModel", name := "kindOf", desc := "(II)I" } : Jvm.MethodName)) ∈ lw_tbl := lw_at lw_m7 86 rfl
theorem q1631 : (Jvm.Cond.instanceMethod ({ cls := "BrothFlasksModel", name := "kindOf", desc := "(II)I" } : Jvm.MethodName)) ∈ lw_all := lw_g (lw_at lw_m7 87 rfl) rfl
theorem q1632 : (Jvm.Cond.code ({ cls := "BrothFlasksModel", name := "kindOf", desc := "(II)I" } : Jvm.MethodName) prog_24_method_12_code (3 : Nat) (Option.some Jvm.ClassFile.FieldType.int)) ∈ lw_all := lw_g (lw_at lw_m7 88 rfl) rfl
theorem q1634 : (Jvm.Cond.instanceMethod ({ cls := "BrothFlasksModel", name := "move", desc := "(II)I" } : Jvm.MethodName)) ∈ lw_all := lw_g (lw_at lw_m7 90 rfl) rfl
theorem q1635 : (Jvm.Cond.selects "BrothFlasksModel" ({ cls := "BrothFlasksModel", name := "move", desc := "(II)I" } : Jvm.MethodName) ({ cls := "BrothFlasksModel", name := "move", desc := "(II)I" } : Jvm.MethodName)) ∈ lw_all := lw_g (lw_at lw_m7 91 rfl) rfl
theorem q1636 : (Jvm.Cond.code ({ cls := "BrothFlasksModel", name := "move", desc := "(II)I" } : Jvm.MethodName) prog_24_method_22_code (3 : Nat) (Option.some Jvm.ClassFile.FieldType.int)) ∈ lw_all := lw_g (lw_at lw_m7 92 rfl) rfl
theorem q1638 : (Jvm.Cond.instanceMethod ({ cls := "BrothFlasksModel", name := "open", desc := "(II)I" } : Jvm.MethodName)) ∈ lw_all := lw_g (lw_at lw_m7 94 rfl) rfl
theorem q1639 : (Jvm.Cond.selects "BrothFlasksModel" ({ cls := "BrothFlasksModel", name := "open", desc := "(II)I" } : Jvm.MethodName) ({ cls := "BrothFlasksModel", name := "open", desc := "(II)I" } : Jvm.MethodName)) ∈ lw_all := lw_g (lw_at lw_m7 95 rfl) rfl
theorem q1640 : (Jvm.Cond.code ({ cls := "BrothFlasksModel", name := "open", desc := "(II)I" } : Jvm.MethodName) prog_24_method_23_code (3 : Nat) (Option.some Jvm.ClassFile.FieldType.int)) ∈ lw_all := lw_g (lw_at lw_m7 96 rfl) rfl
theorem q1642 : (Jvm.Cond.instanceMethod ({ cls := "BrothFlasksModel", name := "tip", desc := "(I)I" } : Jvm.MethodName)) ∈ lw_all := lw_g (lw_at lw_m7 98 rfl) rfl
theorem q1643 : (Jvm.Cond.selects "BrothFlasksModel" ({ cls := "BrothFlasksModel", name := "tip", desc := "(I)I" } : Jvm.MethodName) ({ cls := "BrothFlasksModel", name := "tip", desc := "(I)I" } : Jvm.MethodName)) ∈ lw_all := lw_g (lw_at lw_m7 99 rfl) rfl
theorem q1644 : (Jvm.Cond.code ({ cls := "BrothFlasksModel", name := "tip", desc := "(I)I" } : Jvm.MethodName) prog_24_method_24_code (2 : Nat) (Option.some Jvm.ClassFile.FieldType.int)) ∈ lw_all := lw_g (lw_at lw_m7 100 rfl) rfl
theorem q1646 : (Jvm.Cond.instanceMethod ({ cls := "BrothFlasksModel", name := "go", desc := "(I)I" } : Jvm.MethodName)) ∈ lw_all := lw_g (lw_at lw_m7 102 rfl) rfl
theorem q1647 : (Jvm.Cond.selects "BrothFlasksModel" ({ cls := "BrothFlasksModel", name := "go", desc := "(I)I" } : Jvm.MethodName) ({ cls := "BrothFlasksModel", name := "go", desc := "(I)I" } : Jvm.MethodName)) ∈ lw_all := lw_g (lw_at lw_m7 103 rfl) rfl
theorem q1648 : (Jvm.Cond.code ({ cls := "BrothFlasksModel", name := "go", desc := "(I)I" } : Jvm.MethodName) prog_24_method_29_code (4 : Nat) (Option.some Jvm.ClassFile.FieldType.int)) ∈ lw_all := lw_g (lw_at lw_m7 104 rfl) rfl
theorem q1649 : (Jvm.Cond.methodLink "BrothFlasksModel" (117 : Nat) ({ cls := "BrothFlasksModel", name := "falls", desc := "(I)V" } : Jvm.MethodName)) ∈ lw_all := lw_g (lw_at lw_m7 105 rfl) rfl
theorem q1650 : (Jvm.Cond.privateMethod ({ cls := "BrothFlasksModel", name := "falls", desc := "(I)V" } : Jvm.MethodName)) ∈ lw_tbl := lw_at lw_m7 106 rfl
theorem q1651 : (Jvm.Cond.instanceMethod ({ cls := "BrothFlasksModel", name := "falls", desc := "(I)V" } : Jvm.MethodName)) ∈ lw_all := lw_g (lw_at lw_m7 107 rfl) rfl
theorem q1652 : (Jvm.Cond.code ({ cls := "BrothFlasksModel", name := "falls", desc := "(I)V" } : Jvm.MethodName) prog_24_method_27_code (10 : Nat) (Option.none : Option Jvm.ClassFile.FieldType)) ∈ lw_all := lw_g (lw_at lw_m7 108 rfl) rfl
theorem q1653 : (Jvm.Cond.methodLink "BrothFlasksModel" (110 : Nat) ({ cls := "BrothFlasksModel", name := "hasAir", desc := "(II)Z" } : Jvm.MethodName)) ∈ lw_all := lw_g (lw_at lw_m7 109 rfl) rfl
theorem q1654 : (Jvm.Cond.static ({ cls := "BrothFlasksModel", name := "hasAir", desc := "(II)Z" } : Jvm.MethodName)) ∈ lw_all := lw_g (lw_at lw_m7 110 rfl) rfl
theorem q1655 : (Jvm.Cond.code ({ cls := "BrothFlasksModel", name := "hasAir", desc := "(II)Z" } : Jvm.MethodName) prog_24_method_26_code (2 : Nat) (Option.some Jvm.ClassFile.FieldType.boolean)) ∈ lw_all := lw_g (lw_at lw_m7 111 rfl) rfl
theorem q1656 : (Jvm.Cond.methodLink "BrothFlasksModel" (114 : Nat) ({ cls := "BrothFlasksModel", name := "draws", desc := "(I)I" } : Jvm.MethodName)) ∈ lw_all := lw_g (lw_at lw_m7 112 rfl) rfl
theorem q1657 : (Jvm.Cond.privateMethod ({ cls := "BrothFlasksModel", name := "draws", desc := "(I)I" } : Jvm.MethodName)) ∈ lw_tbl := lw_at lw_m7 113 rfl
theorem q1658 : (Jvm.Cond.instanceMethod ({ cls := "BrothFlasksModel", name := "draws", desc := "(I)I" } : Jvm.MethodName)) ∈ lw_all := lw_g (lw_at lw_m7 114 rfl) rfl
theorem q1659 : (Jvm.Cond.code ({ cls := "BrothFlasksModel", name := "draws", desc := "(I)I" } : Jvm.MethodName) prog_24_method_25_code (2 : Nat) (Option.some Jvm.ClassFile.FieldType.int)) ∈ lw_all := lw_g (lw_at lw_m7 115 rfl) rfl
theorem q1660 : (Jvm.Cond.constantLong "BrothFlasksModel" (104 : Nat) (1103 : Int64)) ∈ lw_all := lw_g (lw_at lw_m7 116 rfl) rfl
theorem q1661 : (Jvm.Cond.constantLong "BrothFlasksModel" (106 : Nat) (12345 : Int64)) ∈ lw_all := lw_g (lw_at lw_m7 117 rfl) rfl
theorem q1662 : (Jvm.Cond.constantLong "BrothFlasksModel" (108 : Nat) (1000003 : Int64)) ∈ lw_all := lw_g (lw_at lw_m7 118 rfl) rfl
theorem q1663 : (Jvm.Cond.methodLink "BrothFlasksModel" (121 : Nat) ({ cls := "BrothFlasksModel", name := "turns", desc := "(I)V" } : Jvm.MethodName)) ∈ lw_all := lw_g (lw_at lw_m7 119 rfl) rfl
theorem q1664 : (Jvm.Cond.privateMethod ({ cls := "BrothFlasksModel", name := "turns", desc := "(I)V" } : Jvm.MethodName)) ∈ lw_tbl := lw_at lw_m7 120 rfl
theorem q1665 : (Jvm.Cond.instanceMethod ({ cls := "BrothFlasksModel", name := "turns", desc := "(I)V" } : Jvm.MethodName)) ∈ lw_all := lw_g (lw_at lw_m7 121 rfl) rfl
theorem q1666 : (Jvm.Cond.code ({ cls := "BrothFlasksModel", name := "turns", desc := "(I)V" } : Jvm.MethodName) prog_24_method_28_code (9 : Nat) (Option.none : Option Jvm.ClassFile.FieldType)) ∈ lw_all := lw_g (lw_at lw_m7 122 rfl) rfl
theorem q1668 : (Jvm.Cond.instanceMethod ({ cls := "BrothFlasksModel", name := "tells", desc := "(II)I" } : Jvm.MethodName)) ∈ lw_all := lw_g (lw_at lw_m7 124 rfl) rfl
theorem q1669 : (Jvm.Cond.selects "BrothFlasksModel" ({ cls := "BrothFlasksModel", name := "tells", desc := "(II)I" } : Jvm.MethodName) ({ cls := "BrothFlasksModel", name := "tells", desc := "(II)I" } : Jvm.MethodName)) ∈ lw_all := lw_g (lw_at lw_m7 125 rfl) rfl
theorem q1670 : (Jvm.Cond.code ({ cls := "BrothFlasksModel", name := "tells", desc := "(II)I" } : Jvm.MethodName) prog_24_method_35_code (3 : Nat) (Option.some Jvm.ClassFile.FieldType.int)) ∈ lw_all := lw_g (lw_at lw_m7 126 rfl) rfl
theorem q1671 : (Jvm.Cond.methodLink "BrothFlasksModel" (127 : Nat) ({ cls := "BrothFlasksModel", name := "takesFlask", desc := "(I)V" } : Jvm.MethodName)) ∈ lw_all := lw_g (lw_at lw_m7 127 rfl) rfl
theorem q1672 : (Jvm.Cond.privateMethod ({ cls := "BrothFlasksModel", name := "takesFlask", desc := "(I)V" } : Jvm.MethodName)) ∈ lw_tbl := lw_at lw_m7 128 rfl
theorem q1673 : (Jvm.Cond.instanceMethod ({ cls := "BrothFlasksModel", name := "takesFlask", desc := "(I)V" } : Jvm.MethodName)) ∈ lw_all := lw_g (lw_at lw_m7 129 rfl) rfl
theorem q1674 : (Jvm.Cond.code ({ cls := "BrothFlasksModel", name := "takesFlask", desc := "(I)V" } : Jvm.MethodName) prog_24_method_31_code (3 : Nat) (Option.none : Option Jvm.ClassFile.FieldType)) ∈ lw_all := lw_g (lw_at lw_m7 130 rfl) rfl
theorem q1675 : (Jvm.Cond.methodLink "BrothFlasksModel" (124 : Nat) ({ cls := "BrothFlasksModel", name := "least", desc := "(II)I" } : Jvm.MethodName)) ∈ lw_all := lw_g (lw_at lw_m7 131 rfl) rfl
theorem q1676 : (Jvm.Cond.static ({ cls := "BrothFlasksModel", name := "least", desc := "(II)I" } : Jvm.MethodName)) ∈ lw_all := lw_g (lw_at lw_m7 132 rfl) rfl
theorem q1677 : (Jvm.Cond.code ({ cls := "BrothFlasksModel", name := "least", desc := "(II)I" } : Jvm.MethodName) prog_24_method_30_code (2 : Nat) (Option.some Jvm.ClassFile.FieldType.int)) ∈ lw_all := lw_g (lw_at lw_m7 133 rfl) rfl
theorem q1679 : (Jvm.Cond.instanceMethod ({ cls := "BrothFlasksModel", name := "look", desc := "(I)I" } : Jvm.MethodName)) ∈ lw_all := lw_g (lw_at lw_m7 135 rfl) rfl
theorem q1680 : (Jvm.Cond.selects "BrothFlasksModel" ({ cls := "BrothFlasksModel", name := "look", desc := "(I)I" } : Jvm.MethodName) ({ cls := "BrothFlasksModel", name := "look", desc := "(I)I" } : Jvm.MethodName)) ∈ lw_all := lw_g (lw_at lw_m7 136 rfl) rfl
theorem q1681 : (Jvm.Cond.code ({ cls := "BrothFlasksModel", name := "look", desc := "(I)I" } : Jvm.MethodName) prog_24_method_36_code (4 : Nat) (Option.some Jvm.ClassFile.FieldType.int)) ∈ lw_all := lw_g (lw_at lw_m7 137 rfl) rfl
theorem q1682 : (Jvm.Cond.methodLink "BrothFlasksModel" (130 : Nat) ({ cls := "BrothFlasksModel", name := "lookAt", desc := "(I)I" } : Jvm.MethodName)) ∈ lw_all := lw_g (lw_at lw_m7 138 rfl) rfl
theorem q1683 : (Jvm.Cond.privateMethod ({ cls := "BrothFlasksModel", name := "lookAt", desc := "(I)I" } : Jvm.MethodName)) ∈ lw_tbl := lw_at lw_m7 139 rfl
theorem q1684 : (Jvm.Cond.instanceMethod ({ cls := "BrothFlasksModel", name := "lookAt", desc := "(I)I" } : Jvm.MethodName)) ∈ lw_all := lw_g (lw_at lw_m7 140 rfl) rfl
theorem q1685 : (Jvm.Cond.code ({ cls := "BrothFlasksModel", name := "lookAt", desc := "(I)I" } : Jvm.MethodName) prog_24_method_33_code (2 : Nat) (Option.some Jvm.ClassFile.FieldType.int)) ∈ lw_all := lw_g (lw_at lw_m7 141 rfl) rfl
theorem q1687 : (Jvm.Cond.instanceMethod ({ cls := "BrothFlasksModel", name := "trial", desc := "(I)I" } : Jvm.MethodName)) ∈ lw_all := lw_g (lw_at lw_m7 143 rfl) rfl
theorem q1688 : (Jvm.Cond.selects "BrothFlasksModel" ({ cls := "BrothFlasksModel", name := "trial", desc := "(I)I" } : Jvm.MethodName) ({ cls := "BrothFlasksModel", name := "trial", desc := "(I)I" } : Jvm.MethodName)) ∈ lw_all := lw_g (lw_at lw_m7 144 rfl) rfl
theorem q1689 : (Jvm.Cond.code ({ cls := "BrothFlasksModel", name := "trial", desc := "(I)I" } : Jvm.MethodName) prog_24_method_37_code (4 : Nat) (Option.some Jvm.ClassFile.FieldType.int)) ∈ lw_all := lw_g (lw_at lw_m7 145 rfl) rfl
theorem q1690 : (Jvm.Cond.methodLink "BrothFlasksModel" (133 : Nat) ({ cls := "BrothFlasksModel", name := "trialAt", desc := "(I)I" } : Jvm.MethodName)) ∈ lw_all := lw_g (lw_at lw_m7 146 rfl) rfl
theorem q1691 : (Jvm.Cond.privateMethod ({ cls := "BrothFlasksModel", name := "trialAt", desc := "(I)I" } : Jvm.MethodName)) ∈ lw_tbl := lw_at lw_m7 147 rfl
theorem q1692 : (Jvm.Cond.instanceMethod ({ cls := "BrothFlasksModel", name := "trialAt", desc := "(I)I" } : Jvm.MethodName)) ∈ lw_all := lw_g (lw_at lw_m7 148 rfl) rfl
theorem q1693 : (Jvm.Cond.code ({ cls := "BrothFlasksModel", name := "trialAt", desc := "(I)I" } : Jvm.MethodName) prog_24_method_34_code (2 : Nat) (Option.some Jvm.ClassFile.FieldType.int)) ∈ lw_all := lw_g (lw_at lw_m7 149 rfl) rfl
theorem q1695 : (Jvm.Cond.instanceMethod ({ cls := "BrothFlasksModel", name := "row", desc := "(I)I" } : Jvm.MethodName)) ∈ lw_all := lw_g (lw_at lw_m7 151 rfl) rfl
theorem q1696 : (Jvm.Cond.selects "BrothFlasksModel" ({ cls := "BrothFlasksModel", name := "row", desc := "(I)I" } : Jvm.MethodName) ({ cls := "BrothFlasksModel", name := "row", desc := "(I)I" } : Jvm.MethodName)) ∈ lw_all := lw_g (lw_at lw_m7 152 rfl) rfl
theorem q1697 : (Jvm.Cond.code ({ cls := "BrothFlasksModel", name := "row", desc := "(I)I" } : Jvm.MethodName) prog_24_method_39_code (9 : Nat) (Option.some Jvm.ClassFile.FieldType.int)) ∈ lw_all := lw_g (lw_at lw_m7 153 rfl) rfl
theorem q1698 : (Jvm.Cond.methodLink "BrothFlasksModel" (139 : Nat) ({ cls := "BrothFlasksModel", name := "isCase", desc := "(II)Z" } : Jvm.MethodName)) ∈ lw_all := lw_g (lw_at lw_m7 154 rfl) rfl
theorem q1699 : (Jvm.Cond.static ({ cls := "BrothFlasksModel", name := "isCase", desc := "(II)Z" } : Jvm.MethodName)) ∈ lw_all := lw_g (lw_at lw_m7 155 rfl) rfl
theorem q1700 : (Jvm.Cond.code ({ cls := "BrothFlasksModel", name := "isCase", desc := "(II)Z" } : Jvm.MethodName) prog_24_method_38_code (2 : Nat) (Option.some Jvm.ClassFile.FieldType.boolean)) ∈ lw_all := lw_g (lw_at lw_m7 156 rfl) rfl
theorem q1702 : (Jvm.Cond.instanceMethod ({ cls := "BrothFlasksModel", name := "of", desc := "(III)I" } : Jvm.MethodName)) ∈ lw_all := lw_g (lw_at lw_m7 158 rfl) rfl
theorem q1703 : (Jvm.Cond.selects "BrothFlasksModel" ({ cls := "BrothFlasksModel", name := "of", desc := "(III)I" } : Jvm.MethodName) ({ cls := "BrothFlasksModel", name := "of", desc := "(III)I" } : Jvm.MethodName)) ∈ lw_all := lw_g (lw_at lw_m7 159 rfl) rfl
theorem q1704 : (Jvm.Cond.code ({ cls := "BrothFlasksModel", name := "of", desc := "(III)I" } : Jvm.MethodName) prog_24_method_40_code (4 : Nat) (Option.some Jvm.ClassFile.FieldType.int)) ∈ lw_all := lw_g (lw_at lw_m7 160 rfl) rfl
theorem q1705 : (Jvm.Cond.methodLink "BrothFlasksModel" (142 : Nat) ({ cls := "BrothFlasksModel", name := "isLook", desc := "(I)Z" } : Jvm.MethodName)) ∈ lw_all := lw_g (lw_at lw_m7 161 rfl) rfl
theorem q1706 : (Jvm.Cond.privateMethod ({ cls := "BrothFlasksModel", name := "isLook", desc := "(I)Z" } : Jvm.MethodName)) ∈ lw_tbl := lw_at lw_m7 162 rfl
theorem q1707 : (Jvm.Cond.instanceMethod ({ cls := "BrothFlasksModel", name := "isLook", desc := "(I)Z" } : Jvm.MethodName)) ∈ lw_all := lw_g (lw_at lw_m7 163 rfl) rfl
theorem q1708 : (Jvm.Cond.code ({ cls := "BrothFlasksModel", name := "isLook", desc := "(I)Z" } : Jvm.MethodName) prog_24_method_9_code (2 : Nat) (Option.some Jvm.ClassFile.FieldType.boolean)) ∈ lw_all := lw_g (lw_at lw_m7 164 rfl) rfl
theorem q1709 : (Jvm.Cond.methodLink "BrothFlasksModel" (145 : Nat) ({ cls := "BrothFlasksModel", name := "isTrial", desc := "(I)Z" } : Jvm.MethodName)) ∈ lw_all := lw_g (lw_at lw_m7 165 rfl) rfl
theorem q1710 : (Jvm.Cond.privateMethod ({ cls := "BrothFlasksModel", name := "isTrial", desc := "(I)Z" } : Jvm.MethodName)) ∈ lw_tbl := lw_at lw_m7 166 rfl
theorem q1711 : (Jvm.Cond.instanceMethod ({ cls := "BrothFlasksModel", name := "isTrial", desc := "(I)Z" } : Jvm.MethodName)) ∈ lw_all := lw_g (lw_at lw_m7 167 rfl) rfl
theorem q1712 : (Jvm.Cond.code ({ cls := "BrothFlasksModel", name := "isTrial", desc := "(I)Z" } : Jvm.MethodName) prog_24_method_10_code (2 : Nat) (Option.some Jvm.ClassFile.FieldType.boolean)) ∈ lw_all := lw_g (lw_at lw_m7 168 rfl) rfl
theorem q1714 : (Jvm.Cond.instanceMethod ({ cls := "BrothFlasksModel", name := "feed", desc := "(IIIII)I" } : Jvm.MethodName)) ∈ lw_all := lw_g (lw_at lw_m7 170 rfl) rfl
theorem q1715 : (Jvm.Cond.selects "BrothFlasksModel" ({ cls := "BrothFlasksModel", name := "feed", desc := "(IIIII)I" } : Jvm.MethodName) ({ cls := "BrothFlasksModel", name := "feed", desc := "(IIIII)I" } : Jvm.MethodName)) ∈ lw_all := lw_g (lw_at lw_m7 171 rfl) rfl
theorem q1716 : (Jvm.Cond.code ({ cls := "BrothFlasksModel", name := "feed", desc := "(IIIII)I" } : Jvm.MethodName) prog_24_method_41_code (7 : Nat) (Option.some Jvm.ClassFile.FieldType.int)) ∈ lw_all := lw_g (lw_at lw_m7 172 rfl) rfl
theorem q1718 : (Jvm.Cond.instanceMethod ({ cls := "BrothFlasksModel", name := "end", desc := "(I)I" } : Jvm.MethodName)) ∈ lw_all := lw_g (lw_at lw_m7 174 rfl) rfl
theorem q1719 : (Jvm.Cond.selects "BrothFlasksModel" ({ cls := "BrothFlasksModel", name := "end", desc := "(I)I" } : Jvm.MethodName) ({ cls := "BrothFlasksModel", name := "end", desc := "(I)I" } : Jvm.MethodName)) ∈ lw_all := lw_g (lw_at lw_m7 175 rfl) rfl
theorem q1720 : (Jvm.Cond.code ({ cls := "BrothFlasksModel", name := "end", desc := "(I)I" } : Jvm.MethodName) prog_24_method_42_code (2 : Nat) (Option.some Jvm.ClassFile.FieldType.int)) ∈ lw_all := lw_g (lw_at lw_m7 176 rfl) rfl
theorem q1722 : (Jvm.Cond.instanceMethod ({ cls := "BrothFlasksModel", name := "text", desc := "()I" } : Jvm.MethodName)) ∈ lw_all := lw_g (lw_at lw_m7 178 rfl) rfl
theorem q1723 : (Jvm.Cond.selects "BrothFlasksModel" ({ cls := "BrothFlasksModel", name := "text", desc := "()I" } : Jvm.MethodName) ({ cls := "BrothFlasksModel", name := "text", desc := "()I" } : Jvm.MethodName)) ∈ lw_all := lw_g (lw_at lw_m7 179 rfl) rfl
theorem q1724 : (Jvm.Cond.code ({ cls := "BrothFlasksModel", name := "text", desc := "()I" } : Jvm.MethodName) prog_24_method_61_code (3 : Nat) (Option.some Jvm.ClassFile.FieldType.int)) ∈ lw_all := lw_g (lw_at lw_m7 180 rfl) rfl
theorem q1725 : (Jvm.Cond.methodLink "BrothFlasksModel" (214 : Nat) ({ cls := "BrothFlasksModel", name := "reads", desc := "()Z" } : Jvm.MethodName)) ∈ lw_all := lw_g (lw_at lw_m7 181 rfl) rfl
theorem q1726 : (Jvm.Cond.privateMethod ({ cls := "BrothFlasksModel", name := "reads", desc := "()Z" } : Jvm.MethodName)) ∈ lw_tbl := lw_at lw_m7 182 rfl
theorem q1727 : (Jvm.Cond.instanceMethod ({ cls := "BrothFlasksModel", name := "reads", desc := "()Z" } : Jvm.MethodName)) ∈ lw_all := lw_g (lw_at lw_m7 183 rfl) rfl
theorem q1728 : (Jvm.Cond.code ({ cls := "BrothFlasksModel", name := "reads", desc := "()Z" } : Jvm.MethodName) prog_24_method_60_code (2 : Nat) (Option.some Jvm.ClassFile.FieldType.boolean)) ∈ lw_all := lw_g (lw_at lw_m7 184 rfl) rfl
theorem q1729 : (Jvm.Cond.methodLink "BrothFlasksModel" (208 : Nat) ({ cls := "BrothFlasksModel", name := "cuts", desc := "(I)V" } : Jvm.MethodName)) ∈ lw_all := lw_g (lw_at lw_m7 185 rfl) rfl
theorem q1730 : (Jvm.Cond.privateMethod ({ cls := "BrothFlasksModel", name := "cuts", desc := "(I)V" } : Jvm.MethodName)) ∈ lw_tbl := lw_at lw_m7 186 rfl
theorem q1731 : (Jvm.Cond.instanceMethod ({ cls := "BrothFlasksModel", name := "cuts", desc := "(I)V" } : Jvm.MethodName)) ∈ lw_all := lw_g (lw_at lw_m7 187 rfl) rfl
theorem q1732 : (Jvm.Cond.code ({ cls := "BrothFlasksModel", name := "cuts", desc := "(I)V" } : Jvm.MethodName) prog_24_method_46_code (6 : Nat) (Option.none : Option Jvm.ClassFile.FieldType)) ∈ lw_all := lw_g (lw_at lw_m7 188 rfl) rfl
theorem q1733 : (Jvm.Cond.methodLink "BrothFlasksModel" (151 : Nat) ({ cls := "BrothFlasksModel", name := "isSmall", desc := "(I)Z" } : Jvm.MethodName)) ∈ lw_all := lw_g (lw_at lw_m7 189 rfl) rfl
theorem q1734 : (Jvm.Cond.static ({ cls := "BrothFlasksModel", name := "isSmall", desc := "(I)Z" } : Jvm.MethodName)) ∈ lw_all := lw_g (lw_at lw_m7 190 rfl) rfl
theorem q1735 : (Jvm.Cond.code ({ cls := "BrothFlasksModel", name := "isSmall", desc := "(I)Z" } : Jvm.MethodName) prog_24_method_43_code (1 : Nat) (Option.some Jvm.ClassFile.FieldType.boolean)) ∈ lw_all := lw_g (lw_at lw_m7 191 rfl) rfl
theorem q1736 : (Jvm.Cond.methodLink "BrothFlasksModel" (154 : Nat) ({ cls := "BrothFlasksModel", name := "isDigit", desc := "(I)Z" } : Jvm.MethodName)) ∈ lw_all := lw_g (lw_at lw_m7 192 rfl) rfl
theorem q1737 : (Jvm.Cond.static ({ cls := "BrothFlasksModel", name := "isDigit", desc := "(I)Z" } : Jvm.MethodName)) ∈ lw_all := lw_g (lw_at lw_m7 193 rfl) rfl
theorem q1738 : (Jvm.Cond.code ({ cls := "BrothFlasksModel", name := "isDigit", desc := "(I)Z" } : Jvm.MethodName) prog_24_method_44_code (1 : Nat) (Option.some Jvm.ClassFile.FieldType.boolean)) ∈ lw_all := lw_g (lw_at lw_m7 194 rfl) rfl
theorem q1739 : (Jvm.Cond.methodLink "BrothFlasksModel" (157 : Nat) ({ cls := "BrothFlasksModel", name := "wordOf", desc := "(II)I" } : Jvm.MethodName)) ∈ lw_all := lw_g (lw_at lw_m7 195 rfl) rfl
theorem q1740 : (Jvm.Cond.privateMethod ({ cls := "BrothFlasksModel", name := "wordOf", desc := "(II)I" } : Jvm.MethodName)) ∈ lw_tbl := lw_at lw_m7 196 rfl
theorem q1741 : (Jvm.Cond.instanceMethod ({ cls := "BrothFlasksModel", name := "wordOf", desc := "(II)I" } : Jvm.MethodName)) ∈ lw_all := lw_g (lw_at lw_m7 197 rfl) rfl
theorem q1742 : (Jvm.Cond.code ({ cls := "BrothFlasksModel", name := "wordOf", desc := "(II)I" } : Jvm.MethodName) prog_24_method_45_code (8 : Nat) (Option.some Jvm.ClassFile.FieldType.int)) ∈ lw_all := lw_g (lw_at lw_m7 198 rfl) rfl
theorem q1743 : (Jvm.Cond.methodLink "BrothFlasksModel" (211 : Nat) ({ cls := "BrothFlasksModel", name := "readClause", desc := "()V" } : Jvm.MethodName)) ∈ lw_all := lw_g (lw_at lw_m7 199 rfl) rfl
theorem q1744 : (Jvm.Cond.privateMethod ({ cls := "BrothFlasksModel", name := "readClause", desc := "()V" } : Jvm.MethodName)) ∈ lw_tbl := lw_at lw_m7 200 rfl
theorem q1745 : (Jvm.Cond.instanceMethod ({ cls := "BrothFlasksModel", name := "readClause", desc := "()V" } : Jvm.MethodName)) ∈ lw_all := lw_g (lw_at lw_m7 201 rfl) rfl
theorem q1746 : (Jvm.Cond.code ({ cls := "BrothFlasksModel", name := "readClause", desc := "()V" } : Jvm.MethodName) prog_24_method_53_code (1 : Nat) (Option.none : Option Jvm.ClassFile.FieldType)) ∈ lw_all := lw_g (lw_at lw_m7 202 rfl) rfl
theorem q1747 : (Jvm.Cond.methodLink "BrothFlasksModel" (170 : Nat) ({ cls := "BrothFlasksModel", name := "takes", desc := "(I)Z" } : Jvm.MethodName)) ∈ lw_all := lw_g (lw_at lw_m7 203 rfl) rfl
theorem q1748 : (Jvm.Cond.privateMethod ({ cls := "BrothFlasksModel", name := "takes", desc := "(I)Z" } : Jvm.MethodName)) ∈ lw_tbl := lw_at lw_m7 204 rfl
theorem q1749 : (Jvm.Cond.instanceMethod ({ cls := "BrothFlasksModel", name := "takes", desc := "(I)Z" } : Jvm.MethodName)) ∈ lw_all := lw_g (lw_at lw_m7 205 rfl) rfl
theorem q1750 : (Jvm.Cond.code ({ cls := "BrothFlasksModel", name := "takes", desc := "(I)Z" } : Jvm.MethodName) prog_24_method_49_code (3 : Nat) (Option.some Jvm.ClassFile.FieldType.boolean)) ∈ lw_all := lw_g (lw_at lw_m7 206 rfl) rfl
theorem q1751 : (Jvm.Cond.methodLink "BrothFlasksModel" (163 : Nat) ({ cls := "BrothFlasksModel", name := "fine", desc := "()Z" } : Jvm.MethodName)) ∈ lw_all := lw_g (lw_at lw_m7 207 rfl) rfl
theorem q1752 : (Jvm.Cond.privateMethod ({ cls := "BrothFlasksModel", name := "fine", desc := "()Z" } : Jvm.MethodName)) ∈ lw_tbl := lw_at lw_m7 208 rfl
theorem q1753 : (Jvm.Cond.instanceMethod ({ cls := "BrothFlasksModel", name := "fine", desc := "()Z" } : Jvm.MethodName)) ∈ lw_all := lw_g (lw_at lw_m7 209 rfl) rfl
theorem q1754 : (Jvm.Cond.code ({ cls := "BrothFlasksModel", name := "fine", desc := "()Z" } : Jvm.MethodName) prog_24_method_47_code (1 : Nat) (Option.some Jvm.ClassFile.FieldType.boolean)) ∈ lw_all := lw_g (lw_at lw_m7 210 rfl) rfl
theorem q1755 : (Jvm.Cond.methodLink "BrothFlasksModel" (179 : Nat) ({ cls := "BrothFlasksModel", name := "readSum", desc := "(I)V" } : Jvm.MethodName)) ∈ lw_all := lw_g (lw_at lw_m7 211 rfl) rfl
theorem q1756 : (Jvm.Cond.privateMethod ({ cls := "BrothFlasksModel", name := "readSum", desc := "(I)V" } : Jvm.MethodName)) ∈ lw_tbl := lw_at lw_m7 212 rfl
theorem q1757 : (Jvm.Cond.instanceMethod ({ cls := "BrothFlasksModel", name := "readSum", desc := "(I)V" } : Jvm.MethodName)) ∈ lw_all := lw_g (lw_at lw_m7 213 rfl) rfl
theorem q1758 : (Jvm.Cond.code ({ cls := "BrothFlasksModel", name := "readSum", desc := "(I)V" } : Jvm.MethodName) prog_24_method_57_code (2 : Nat) (Option.none : Option Jvm.ClassFile.FieldType)) ∈ lw_all := lw_g (lw_at lw_m7 214 rfl) rfl
theorem q1759 : (Jvm.Cond.methodLink "BrothFlasksModel" (201 : Nat) ({ cls := "BrothFlasksModel", name := "readTerm", desc := "(I)V" } : Jvm.MethodName)) ∈ lw_all := lw_g (lw_at lw_m7 215 rfl) rfl
theorem q1760 : (Jvm.Cond.privateMethod ({ cls := "BrothFlasksModel", name := "readTerm", desc := "(I)V" } : Jvm.MethodName)) ∈ lw_tbl := lw_at lw_m7 216 rfl
theorem q1761 : (Jvm.Cond.instanceMethod ({ cls := "BrothFlasksModel", name := "readTerm", desc := "(I)V" } : Jvm.MethodName)) ∈ lw_all := lw_g (lw_at lw_m7 217 rfl) rfl
theorem q1762 : (Jvm.Cond.code ({ cls := "BrothFlasksModel", name := "readTerm", desc := "(I)V" } : Jvm.MethodName) prog_24_method_58_code (2 : Nat) (Option.none : Option Jvm.ClassFile.FieldType)) ∈ lw_all := lw_g (lw_at lw_m7 218 rfl) rfl
theorem q1763 : (Jvm.Cond.methodLink "BrothFlasksModel" (204 : Nat) ({ cls := "BrothFlasksModel", name := "readPart", desc := "(I)V" } : Jvm.MethodName)) ∈ lw_all := lw_g (lw_at lw_m7 219 rfl) rfl
theorem q1764 : (Jvm.Cond.privateMethod ({ cls := "BrothFlasksModel", name := "readPart", desc := "(I)V" } : Jvm.MethodName)) ∈ lw_tbl := lw_at lw_m7 220 rfl
theorem q1765 : (Jvm.Cond.instanceMethod ({ cls := "BrothFlasksModel", name := "readPart", desc := "(I)V" } : Jvm.MethodName)) ∈ lw_all := lw_g (lw_at lw_m7 221 rfl) rfl
theorem q1766 : (Jvm.Cond.code ({ cls := "BrothFlasksModel", name := "readPart", desc := "(I)V" } : Jvm.MethodName) prog_24_method_59_code (3 : Nat) (Option.none : Option Jvm.ClassFile.FieldType)) ∈ lw_all := lw_g (lw_at lw_m7 222 rfl) rfl
theorem q1767 : (Jvm.Cond.methodLink "BrothFlasksModel" (194 : Nat) ({ cls := "BrothFlasksModel", name := "sign", desc := "(C)I" } : Jvm.MethodName)) ∈ lw_all := lw_g (lw_at lw_m7 223 rfl) rfl
theorem q1768 : (Jvm.Cond.static ({ cls := "BrothFlasksModel", name := "sign", desc := "(C)I" } : Jvm.MethodName)) ∈ lw_all := lw_g (lw_at lw_m7 224 rfl) rfl
theorem q1769 : (Jvm.Cond.code ({ cls := "BrothFlasksModel", name := "sign", desc := "(C)I" } : Jvm.MethodName) prog_24_method_52_code (1 : Nat) (Option.some Jvm.ClassFile.FieldType.int)) ∈ lw_all := lw_g (lw_at lw_m7 225 rfl) rfl
theorem q1770 : (Jvm.Cond.methodLink "BrothFlasksModel" (173 : Nat) ({ cls := "BrothFlasksModel", name := "faults", desc := "()V" } : Jvm.MethodName)) ∈ lw_all := lw_g (lw_at lw_m7 226 rfl) rfl
theorem q1771 : (Jvm.Cond.privateMethod ({ cls := "BrothFlasksModel", name := "faults", desc := "()V" } : Jvm.MethodName)) ∈ lw_tbl := lw_at lw_m7 227 rfl
theorem q1772 : (Jvm.Cond.instanceMethod ({ cls := "BrothFlasksModel", name := "faults", desc := "()V" } : Jvm.MethodName)) ∈ lw_all := lw_g (lw_at lw_m7 228 rfl) rfl
theorem q1773 : (Jvm.Cond.code ({ cls := "BrothFlasksModel", name := "faults", desc := "()V" } : Jvm.MethodName) prog_24_method_48_code (1 : Nat) (Option.none : Option Jvm.ClassFile.FieldType)) ∈ lw_all := lw_g (lw_at lw_m7 229 rfl) rfl
theorem q1774 : (Jvm.Cond.methodLink "BrothFlasksModel" (182 : Nat) ({ cls := "BrothFlasksModel", name := "must", desc := "(I)V" } : Jvm.MethodName)) ∈ lw_all := lw_g (lw_at lw_m7 230 rfl) rfl
theorem q1775 : (Jvm.Cond.privateMethod ({ cls := "BrothFlasksModel", name := "must", desc := "(I)V" } : Jvm.MethodName)) ∈ lw_tbl := lw_at lw_m7 231 rfl
theorem q1776 : (Jvm.Cond.instanceMethod ({ cls := "BrothFlasksModel", name := "must", desc := "(I)V" } : Jvm.MethodName)) ∈ lw_all := lw_g (lw_at lw_m7 232 rfl) rfl
theorem q1777 : (Jvm.Cond.code ({ cls := "BrothFlasksModel", name := "must", desc := "(I)V" } : Jvm.MethodName) prog_24_method_50_code (2 : Nat) (Option.none : Option Jvm.ClassFile.FieldType)) ∈ lw_all := lw_g (lw_at lw_m7 233 rfl) rfl
theorem q1778 : (Jvm.Cond.constant "BrothFlasksModel" (207 : Nat) (100000 : Int32)) ∈ lw_all := lw_g (lw_at lw_m7 234 rfl) rfl
theorem q1779 : (Jvm.Cond.methodLink "BrothFlasksModel" (198 : Nat) ({ cls := "BrothFlasksModel", name := "leaf", desc := "()V" } : Jvm.MethodName)) ∈ lw_all := lw_g (lw_at lw_m7 235 rfl) rfl
theorem q1780 : (Jvm.Cond.privateMethod ({ cls := "BrothFlasksModel", name := "leaf", desc := "()V" } : Jvm.MethodName)) ∈ lw_tbl := lw_at lw_m7 236 rfl
theorem q1781 : (Jvm.Cond.instanceMethod ({ cls := "BrothFlasksModel", name := "leaf", desc := "()V" } : Jvm.MethodName)) ∈ lw_all := lw_g (lw_at lw_m7 237 rfl) rfl
theorem q1782 : (Jvm.Cond.code ({ cls := "BrothFlasksModel", name := "leaf", desc := "()V" } : Jvm.MethodName) prog_24_method_51_code (1 : Nat) (Option.none : Option Jvm.ClassFile.FieldType)) ∈ lw_all := lw_g (lw_at lw_m7 238 rfl) rfl
theorem q1783 : (Jvm.Cond.methodLink "BrothFlasksModel" (185 : Nat) ({ cls := "BrothFlasksModel", name := "readTest", desc := "(I)V" } : Jvm.MethodName)) ∈ lw_all := lw_g (lw_at lw_m7 239 rfl) rfl
theorem q1784 : (Jvm.Cond.privateMethod ({ cls := "BrothFlasksModel", name := "readTest", desc := "(I)V" } : Jvm.MethodName)) ∈ lw_tbl := lw_at lw_m8 0 rfl
theorem q1785 : (Jvm.Cond.instanceMethod ({ cls := "BrothFlasksModel", name := "readTest", desc := "(I)V" } : Jvm.MethodName)) ∈ lw_all := lw_g (lw_at lw_m8 1 rfl) rfl
theorem q1786 : (Jvm.Cond.code ({ cls := "BrothFlasksModel", name := "readTest", desc := "(I)V" } : Jvm.MethodName) prog_24_method_54_code (2 : Nat) (Option.none : Option Jvm.ClassFile.FieldType)) ∈ lw_all := lw_g (lw_at lw_m8 2 rfl) rfl
theorem q1787 : (Jvm.Cond.methodLink "BrothFlasksModel" (188 : Nat) ({ cls := "BrothFlasksModel", name := "readBoth", desc := "(I)V" } : Jvm.MethodName)) ∈ lw_all := lw_g (lw_at lw_m8 3 rfl) rfl
theorem q1788 : (Jvm.Cond.privateMethod ({ cls := "BrothFlasksModel", name := "readBoth", desc := "(I)V" } : Jvm.MethodName)) ∈ lw_tbl := lw_at lw_m8 4 rfl
theorem q1789 : (Jvm.Cond.instanceMethod ({ cls := "BrothFlasksModel", name := "readBoth", desc := "(I)V" } : Jvm.MethodName)) ∈ lw_all := lw_g (lw_at lw_m8 5 rfl) rfl
theorem q1790 : (Jvm.Cond.code ({ cls := "BrothFlasksModel", name := "readBoth", desc := "(I)V" } : Jvm.MethodName) prog_24_method_55_code (2 : Nat) (Option.none : Option Jvm.ClassFile.FieldType)) ∈ lw_all := lw_g (lw_at lw_m8 6 rfl) rfl
theorem q1791 : (Jvm.Cond.methodLink "BrothFlasksModel" (191 : Nat) ({ cls := "BrothFlasksModel", name := "readPlain", desc := "(I)V" } : Jvm.MethodName)) ∈ lw_all := lw_g (lw_at lw_m8 7 rfl) rfl
theorem q1792 : (Jvm.Cond.privateMethod ({ cls := "BrothFlasksModel", name := "readPlain", desc := "(I)V" } : Jvm.MethodName)) ∈ lw_tbl := lw_at lw_m8 8 rfl
theorem q1793 : (Jvm.Cond.instanceMethod ({ cls := "BrothFlasksModel", name := "readPlain", desc := "(I)V" } : Jvm.MethodName)) ∈ lw_all := lw_g (lw_at lw_m8 9 rfl) rfl
theorem q1794 : (Jvm.Cond.code ({ cls := "BrothFlasksModel", name := "readPlain", desc := "(I)V" } : Jvm.MethodName) prog_24_method_56_code (4 : Nat) (Option.none : Option Jvm.ClassFile.FieldType)) ∈ lw_all := lw_g (lw_at lw_m8 10 rfl) rfl
theorem q1796 : (Jvm.Cond.instanceMethod ({ cls := "BrothFlasksModel", name := "fault", desc := "()I" } : Jvm.MethodName)) ∈ lw_all := lw_g (lw_at lw_m8 12 rfl) rfl
theorem q1797 : (Jvm.Cond.selects "BrothFlasksModel" ({ cls := "BrothFlasksModel", name := "fault", desc := "()I" } : Jvm.MethodName) ({ cls := "BrothFlasksModel", name := "fault", desc := "()I" } : Jvm.MethodName)) ∈ lw_all := lw_g (lw_at lw_m8 13 rfl) rfl
theorem q1798 : (Jvm.Cond.code ({ cls := "BrothFlasksModel", name := "fault", desc := "()I" } : Jvm.MethodName) prog_24_method_62_code (1 : Nat) (Option.some Jvm.ClassFile.FieldType.int)) ∈ lw_all := lw_g (lw_at lw_m8 14 rfl) rfl
theorem q1800 : (Jvm.Cond.instanceMethod ({ cls := "BrothFlasksModel", name := "odds", desc := "(III)I" } : Jvm.MethodName)) ∈ lw_all := lw_g (lw_at lw_m8 16 rfl) rfl
theorem q1801 : (Jvm.Cond.selects "BrothFlasksModel" ({ cls := "BrothFlasksModel", name := "odds", desc := "(III)I" } : Jvm.MethodName) ({ cls := "BrothFlasksModel", name := "odds", desc := "(III)I" } : Jvm.MethodName)) ∈ lw_all := lw_g (lw_at lw_m8 17 rfl) rfl
theorem q1802 : (Jvm.Cond.code ({ cls := "BrothFlasksModel", name := "odds", desc := "(III)I" } : Jvm.MethodName) prog_24_method_80_code (4 : Nat) (Option.some Jvm.ClassFile.FieldType.int)) ∈ lw_all := lw_g (lw_at lw_m8 18 rfl) rfl
theorem q1803 : (Jvm.Cond.methodLink "BrothFlasksModel" (286 : Nat) ({ cls := "BrothFlasksModel", name := "isText", desc := "(I)Z" } : Jvm.MethodName)) ∈ lw_all := lw_g (lw_at lw_m8 19 rfl) rfl
theorem q1804 : (Jvm.Cond.privateMethod ({ cls := "BrothFlasksModel", name := "isText", desc := "(I)Z" } : Jvm.MethodName)) ∈ lw_tbl := lw_at lw_m8 20 rfl
theorem q1805 : (Jvm.Cond.instanceMethod ({ cls := "BrothFlasksModel", name := "isText", desc := "(I)Z" } : Jvm.MethodName)) ∈ lw_all := lw_g (lw_at lw_m8 21 rfl) rfl
theorem q1806 : (Jvm.Cond.code ({ cls := "BrothFlasksModel", name := "isText", desc := "(I)Z" } : Jvm.MethodName) prog_24_method_11_code (2 : Nat) (Option.some Jvm.ClassFile.FieldType.boolean)) ∈ lw_all := lw_g (lw_at lw_m8 22 rfl) rfl
theorem q1807 : (Jvm.Cond.methodLink "BrothFlasksModel" (289 : Nat) ({ cls := "BrothFlasksModel", name := "oddsOfLook", desc := "(II)I" } : Jvm.MethodName)) ∈ lw_all := lw_g (lw_at lw_m8 23 rfl) rfl
theorem q1808 : (Jvm.Cond.privateMethod ({ cls := "BrothFlasksModel", name := "oddsOfLook", desc := "(II)I" } : Jvm.MethodName)) ∈ lw_tbl := lw_at lw_m8 24 rfl
theorem q1809 : (Jvm.Cond.instanceMethod ({ cls := "BrothFlasksModel", name := "oddsOfLook", desc := "(II)I" } : Jvm.MethodName)) ∈ lw_all := lw_g (lw_at lw_m8 25 rfl) rfl
theorem q1810 : (Jvm.Cond.code ({ cls := "BrothFlasksModel", name := "oddsOfLook", desc := "(II)I" } : Jvm.MethodName) prog_24_method_79_code (4 : Nat) (Option.some Jvm.ClassFile.FieldType.int)) ∈ lw_all := lw_g (lw_at lw_m8 26 rfl) rfl
theorem q1811 : (Jvm.Cond.methodLink "BrothFlasksModel" (277 : Nat) ({ cls := "BrothFlasksModel", name := "takesRow", desc := "(I)V" } : Jvm.MethodName)) ∈ lw_all := lw_g (lw_at lw_m8 27 rfl) rfl
theorem q1812 : (Jvm.Cond.privateMethod ({ cls := "BrothFlasksModel", name := "takesRow", desc := "(I)V" } : Jvm.MethodName)) ∈ lw_tbl := lw_at lw_m8 28 rfl
theorem q1813 : (Jvm.Cond.instanceMethod ({ cls := "BrothFlasksModel", name := "takesRow", desc := "(I)V" } : Jvm.MethodName)) ∈ lw_all := lw_g (lw_at lw_m8 29 rfl) rfl
theorem q1814 : (Jvm.Cond.code ({ cls := "BrothFlasksModel", name := "takesRow", desc := "(I)V" } : Jvm.MethodName) prog_24_method_32_code (3 : Nat) (Option.none : Option Jvm.ClassFile.FieldType)) ∈ lw_all := lw_g (lw_at lw_m8 30 rfl) rfl
theorem q1815 : (Jvm.Cond.methodLink "BrothFlasksModel" (280 : Nat) ({ cls := "BrothFlasksModel", name := "oddsOf", desc := "(I)I" } : Jvm.MethodName)) ∈ lw_all := lw_g (lw_at lw_m8 31 rfl) rfl
theorem q1816 : (Jvm.Cond.privateMethod ({ cls := "BrothFlasksModel", name := "oddsOf", desc := "(I)I" } : Jvm.MethodName)) ∈ lw_tbl := lw_at lw_m8 32 rfl
theorem q1817 : (Jvm.Cond.instanceMethod ({ cls := "BrothFlasksModel", name := "oddsOf", desc := "(I)I" } : Jvm.MethodName)) ∈ lw_all := lw_g (lw_at lw_m8 33 rfl) rfl
theorem q1818 : (Jvm.Cond.code ({ cls := "BrothFlasksModel", name := "oddsOf", desc := "(I)I" } : Jvm.MethodName) prog_24_method_76_code (4 : Nat) (Option.some Jvm.ClassFile.FieldType.int)) ∈ lw_all := lw_g (lw_at lw_m8 34 rfl) rfl
theorem q1819 : (Jvm.Cond.methodLink "BrothFlasksModel" (270 : Nat) ({ cls := "BrothFlasksModel", name := "asks", desc := "(I)V" } : Jvm.MethodName)) ∈ lw_all := lw_g (lw_at lw_m8 35 rfl) rfl
theorem q1820 : (Jvm.Cond.privateMethod ({ cls := "BrothFlasksModel", name := "asks", desc := "(I)V" } : Jvm.MethodName)) ∈ lw_tbl := lw_at lw_m8 36 rfl
theorem q1821 : (Jvm.Cond.instanceMethod ({ cls := "BrothFlasksModel", name := "asks", desc := "(I)V" } : Jvm.MethodName)) ∈ lw_all := lw_g (lw_at lw_m8 37 rfl) rfl
theorem q1822 : (Jvm.Cond.code ({ cls := "BrothFlasksModel", name := "asks", desc := "(I)V" } : Jvm.MethodName) prog_24_method_74_code (4 : Nat) (Option.none : Option Jvm.ClassFile.FieldType)) ∈ lw_all := lw_g (lw_at lw_m8 38 rfl) rfl
theorem q1823 : (Jvm.Cond.methodLink "BrothFlasksModel" (223 : Nat) ({ cls := "BrothFlasksModel", name := "codeAt", desc := "(I)I" } : Jvm.MethodName)) ∈ lw_all := lw_g (lw_at lw_m8 39 rfl) rfl
theorem q1824 : (Jvm.Cond.privateMethod ({ cls := "BrothFlasksModel", name := "codeAt", desc := "(I)I" } : Jvm.MethodName)) ∈ lw_tbl := lw_at lw_m8 40 rfl
theorem q1825 : (Jvm.Cond.instanceMethod ({ cls := "BrothFlasksModel", name := "codeAt", desc := "(I)I" } : Jvm.MethodName)) ∈ lw_all := lw_g (lw_at lw_m8 41 rfl) rfl
theorem q1826 : (Jvm.Cond.code ({ cls := "BrothFlasksModel", name := "codeAt", desc := "(I)I" } : Jvm.MethodName) prog_24_method_63_code (2 : Nat) (Option.some Jvm.ClassFile.FieldType.int)) ∈ lw_all := lw_g (lw_at lw_m8 42 rfl) rfl
theorem q1827 : (Jvm.Cond.methodLink "BrothFlasksModel" (248 : Nat) ({ cls := "BrothFlasksModel", name := "sumOf", desc := "(Z)J" } : Jvm.MethodName)) ∈ lw_all := lw_g (lw_at lw_m8 43 rfl) rfl
theorem q1828 : (Jvm.Cond.privateMethod ({ cls := "BrothFlasksModel", name := "sumOf", desc := "(Z)J" } : Jvm.MethodName)) ∈ lw_tbl := lw_at lw_m8 44 rfl
theorem q1829 : (Jvm.Cond.instanceMethod ({ cls := "BrothFlasksModel", name := "sumOf", desc := "(Z)J" } : Jvm.MethodName)) ∈ lw_all := lw_g (lw_at lw_m8 45 rfl) rfl
theorem q1830 : (Jvm.Cond.code ({ cls := "BrothFlasksModel", name := "sumOf", desc := "(Z)J" } : Jvm.MethodName) prog_24_method_66_code (7 : Nat) (Option.some Jvm.ClassFile.FieldType.long)) ∈ lw_all := lw_g (lw_at lw_m8 46 rfl) rfl
theorem q1831 : (Jvm.Cond.methodLink "BrothFlasksModel" (234 : Nat) ({ cls := "BrothFlasksModel", name := "termOf", desc := "(Z)J" } : Jvm.MethodName)) ∈ lw_all := lw_g (lw_at lw_m8 47 rfl) rfl
theorem q1832 : (Jvm.Cond.privateMethod ({ cls := "BrothFlasksModel", name := "termOf", desc := "(Z)J" } : Jvm.MethodName)) ∈ lw_tbl := lw_at lw_m8 48 rfl
theorem q1833 : (Jvm.Cond.instanceMethod ({ cls := "BrothFlasksModel", name := "termOf", desc := "(Z)J" } : Jvm.MethodName)) ∈ lw_all := lw_g (lw_at lw_m8 49 rfl) rfl
theorem q1834 : (Jvm.Cond.code ({ cls := "BrothFlasksModel", name := "termOf", desc := "(Z)J" } : Jvm.MethodName) prog_24_method_67_code (7 : Nat) (Option.some Jvm.ClassFile.FieldType.long)) ∈ lw_all := lw_g (lw_at lw_m8 50 rfl) rfl
theorem q1835 : (Jvm.Cond.methodLink "BrothFlasksModel" (242 : Nat) ({ cls := "BrothFlasksModel", name := "partOf", desc := "(Z)J" } : Jvm.MethodName)) ∈ lw_all := lw_g (lw_at lw_m8 51 rfl) rfl
theorem q1836 : (Jvm.Cond.privateMethod ({ cls := "BrothFlasksModel", name := "partOf", desc := "(Z)J" } : Jvm.MethodName)) ∈ lw_tbl := lw_at lw_m8 52 rfl
theorem q1837 : (Jvm.Cond.instanceMethod ({ cls := "BrothFlasksModel", name := "partOf", desc := "(Z)J" } : Jvm.MethodName)) ∈ lw_all := lw_g (lw_at lw_m8 53 rfl) rfl
theorem q1838 : (Jvm.Cond.code ({ cls := "BrothFlasksModel", name := "partOf", desc := "(Z)J" } : Jvm.MethodName) prog_24_method_68_code (4 : Nat) (Option.some Jvm.ClassFile.FieldType.long)) ∈ lw_all := lw_g (lw_at lw_m8 54 rfl) rfl
theorem q1839 : (Jvm.Cond.methodLink "BrothFlasksModel" (245 : Nat) ({ cls := "BrothFlasksModel", name := "passes", desc := "(I)Z" } : Jvm.MethodName)) ∈ lw_all := lw_g (lw_at lw_m8 55 rfl) rfl
theorem q1840 : (Jvm.Cond.privateMethod ({ cls := "BrothFlasksModel", name := "passes", desc := "(I)Z" } : Jvm.MethodName)) ∈ lw_tbl := lw_at lw_m8 56 rfl
theorem q1841 : (Jvm.Cond.instanceMethod ({ cls := "BrothFlasksModel", name := "passes", desc := "(I)Z" } : Jvm.MethodName)) ∈ lw_all := lw_g (lw_at lw_m8 57 rfl) rfl
theorem q1842 : (Jvm.Cond.code ({ cls := "BrothFlasksModel", name := "passes", desc := "(I)Z" } : Jvm.MethodName) prog_24_method_64_code (3 : Nat) (Option.some Jvm.ClassFile.FieldType.boolean)) ∈ lw_all := lw_g (lw_at lw_m8 58 rfl) rfl
theorem q1843 : (Jvm.Cond.methodLink "BrothFlasksModel" (238 : Nat) ({ cls := "BrothFlasksModel", name := "bounded", desc := "(JZ)J" } : Jvm.MethodName)) ∈ lw_all := lw_g (lw_at lw_m8 59 rfl) rfl
theorem q1844 : (Jvm.Cond.privateMethod ({ cls := "BrothFlasksModel", name := "bounded", desc := "(JZ)J" } : Jvm.MethodName)) ∈ lw_tbl := lw_at lw_m8 60 rfl
theorem q1845 : (Jvm.Cond.instanceMethod ({ cls := "BrothFlasksModel", name := "bounded", desc := "(JZ)J" } : Jvm.MethodName)) ∈ lw_all := lw_g (lw_at lw_m8 61 rfl) rfl
theorem q1846 : (Jvm.Cond.code ({ cls := "BrothFlasksModel", name := "bounded", desc := "(JZ)J" } : Jvm.MethodName) prog_24_method_65_code (4 : Nat) (Option.some Jvm.ClassFile.FieldType.long)) ∈ lw_all := lw_g (lw_at lw_m8 62 rfl) rfl
theorem q1847 : (Jvm.Cond.constantLong "BrothFlasksModel" (226 : Nat) (1000000000 : Int64)) ∈ lw_all := lw_g (lw_at lw_m8 63 rfl) rfl
theorem q1848 : (Jvm.Cond.constantLong "BrothFlasksModel" (228 : Nat) (-1000000000 : Int64)) ∈ lw_all := lw_g (lw_at lw_m8 64 rfl) rfl
theorem q1849 : (Jvm.Cond.methodLink "BrothFlasksModel" (261 : Nat) ({ cls := "BrothFlasksModel", name := "testOf", desc := "(Z)Z" } : Jvm.MethodName)) ∈ lw_all := lw_g (lw_at lw_m8 65 rfl) rfl
theorem q1850 : (Jvm.Cond.privateMethod ({ cls := "BrothFlasksModel", name := "testOf", desc := "(Z)Z" } : Jvm.MethodName)) ∈ lw_tbl := lw_at lw_m8 66 rfl
theorem q1851 : (Jvm.Cond.instanceMethod ({ cls := "BrothFlasksModel", name := "testOf", desc := "(Z)Z" } : Jvm.MethodName)) ∈ lw_all := lw_g (lw_at lw_m8 67 rfl) rfl
theorem q1852 : (Jvm.Cond.code ({ cls := "BrothFlasksModel", name := "testOf", desc := "(Z)Z" } : Jvm.MethodName) prog_24_method_69_code (4 : Nat) (Option.some Jvm.ClassFile.FieldType.boolean)) ∈ lw_all := lw_g (lw_at lw_m8 68 rfl) rfl
theorem q1853 : (Jvm.Cond.methodLink "BrothFlasksModel" (251 : Nat) ({ cls := "BrothFlasksModel", name := "bothOf", desc := "(Z)Z" } : Jvm.MethodName)) ∈ lw_all := lw_g (lw_at lw_m8 69 rfl) rfl
theorem q1854 : (Jvm.Cond.privateMethod ({ cls := "BrothFlasksModel", name := "bothOf", desc := "(Z)Z" } : Jvm.MethodName)) ∈ lw_tbl := lw_at lw_m8 70 rfl
theorem q1855 : (Jvm.Cond.instanceMethod ({ cls := "BrothFlasksModel", name := "bothOf", desc := "(Z)Z" } : Jvm.MethodName)) ∈ lw_all := lw_g (lw_at lw_m8 71 rfl) rfl
theorem q1856 : (Jvm.Cond.code ({ cls := "BrothFlasksModel", name := "bothOf", desc := "(Z)Z" } : Jvm.MethodName) prog_24_method_70_code (4 : Nat) (Option.some Jvm.ClassFile.FieldType.boolean)) ∈ lw_all := lw_g (lw_at lw_m8 72 rfl) rfl
theorem q1857 : (Jvm.Cond.methodLink "BrothFlasksModel" (255 : Nat) ({ cls := "BrothFlasksModel", name := "plainOf", desc := "(Z)Z" } : Jvm.MethodName)) ∈ lw_all := lw_g (lw_at lw_m8 73 rfl) rfl
theorem q1858 : (Jvm.Cond.privateMethod ({ cls := "BrothFlasksModel", name := "plainOf", desc := "(Z)Z" } : Jvm.MethodName)) ∈ lw_tbl := lw_at lw_m8 74 rfl
theorem q1859 : (Jvm.Cond.instanceMethod ({ cls := "BrothFlasksModel", name := "plainOf", desc := "(Z)Z" } : Jvm.MethodName)) ∈ lw_all := lw_g (lw_at lw_m8 75 rfl) rfl
theorem q1860 : (Jvm.Cond.code ({ cls := "BrothFlasksModel", name := "plainOf", desc := "(Z)Z" } : Jvm.MethodName) prog_24_method_71_code (3 : Nat) (Option.some Jvm.ClassFile.FieldType.boolean)) ∈ lw_all := lw_g (lw_at lw_m8 76 rfl) rfl
theorem q1861 : (Jvm.Cond.methodLink "BrothFlasksModel" (258 : Nat) ({ cls := "BrothFlasksModel", name := "positiveOf", desc := "(Z)Z" } : Jvm.MethodName)) ∈ lw_all := lw_g (lw_at lw_m8 77 rfl) rfl
theorem q1862 : (Jvm.Cond.privateMethod ({ cls := "BrothFlasksModel", name := "positiveOf", desc := "(Z)Z" } : Jvm.MethodName)) ∈ lw_tbl := lw_at lw_m8 78 rfl
theorem q1863 : (Jvm.Cond.instanceMethod ({ cls := "BrothFlasksModel", name := "positiveOf", desc := "(Z)Z" } : Jvm.MethodName)) ∈ lw_all := lw_g (lw_at lw_m8 79 rfl) rfl
theorem q1864 : (Jvm.Cond.code ({ cls := "BrothFlasksModel", name := "positiveOf", desc := "(Z)Z" } : Jvm.MethodName) prog_24_method_73_code (8 : Nat) (Option.some Jvm.ClassFile.FieldType.boolean)) ∈ lw_all := lw_g (lw_at lw_m8 80 rfl) rfl
theorem q1865 : (Jvm.Cond.methodLink "BrothFlasksModel" (264 : Nat) ({ cls := "BrothFlasksModel", name := "flagged", desc := "(I)Z" } : Jvm.MethodName)) ∈ lw_all := lw_g (lw_at lw_m8 81 rfl) rfl
theorem q1866 : (Jvm.Cond.privateMethod ({ cls := "BrothFlasksModel", name := "flagged", desc := "(I)Z" } : Jvm.MethodName)) ∈ lw_tbl := lw_at lw_m8 82 rfl
theorem q1867 : (Jvm.Cond.instanceMethod ({ cls := "BrothFlasksModel", name := "flagged", desc := "(I)Z" } : Jvm.MethodName)) ∈ lw_all := lw_g (lw_at lw_m8 83 rfl) rfl
theorem q1868 : (Jvm.Cond.code ({ cls := "BrothFlasksModel", name := "flagged", desc := "(I)Z" } : Jvm.MethodName) prog_24_method_72_code (2 : Nat) (Option.some Jvm.ClassFile.FieldType.boolean)) ∈ lw_all := lw_g (lw_at lw_m8 84 rfl) rfl
theorem q1869 : (Jvm.Cond.methodLink "BrothFlasksModel" (273 : Nat) ({ cls := "BrothFlasksModel", name := "near", desc := "(JI)I" } : Jvm.MethodName)) ∈ lw_all := lw_g (lw_at lw_m8 85 rfl) rfl
theorem q1870 : (Jvm.Cond.static ({ cls := "BrothFlasksModel", name := "near", desc := "(JI)I" } : Jvm.MethodName)) ∈ lw_all := lw_g (lw_at lw_m8 86 rfl) rfl
theorem q1871 : (Jvm.Cond.code ({ cls := "BrothFlasksModel", name := "near", desc := "(JI)I" } : Jvm.MethodName) prog_24_method_75_code (3 : Nat) (Option.some Jvm.ClassFile.FieldType.int)) ∈ lw_all := lw_g (lw_at lw_m8 87 rfl) rfl
theorem q1872 : (Jvm.Cond.methodLink "BrothFlasksModel" (283 : Nat) ({ cls := "BrothFlasksModel", name := "seenAt", desc := "(I)I" } : Jvm.MethodName)) ∈ lw_all := lw_g (lw_at lw_m8 88 rfl) rfl
theorem q1873 : (Jvm.Cond.privateMethod ({ cls := "BrothFlasksModel", name := "seenAt", desc := "(I)I" } : Jvm.MethodName)) ∈ lw_tbl := lw_at lw_m8 89 rfl
theorem q1874 : (Jvm.Cond.instanceMethod ({ cls := "BrothFlasksModel", name := "seenAt", desc := "(I)I" } : Jvm.MethodName)) ∈ lw_all := lw_g (lw_at lw_m8 90 rfl) rfl
theorem q1875 : (Jvm.Cond.code ({ cls := "BrothFlasksModel", name := "seenAt", desc := "(I)I" } : Jvm.MethodName) prog_24_method_78_code (2 : Nat) (Option.some Jvm.ClassFile.FieldType.int)) ∈ lw_all := lw_g (lw_at lw_m8 91 rfl) rfl
theorem q1876 : (Jvm.Cond.methodLink "BrothFlasksModel" (292 : Nat) ({ cls := "BrothFlasksModel", name := "oddsOfTrial", desc := "(II)I" } : Jvm.MethodName)) ∈ lw_all := lw_g (lw_at lw_m8 92 rfl) rfl
theorem q1877 : (Jvm.Cond.privateMethod ({ cls := "BrothFlasksModel", name := "oddsOfTrial", desc := "(II)I" } : Jvm.MethodName)) ∈ lw_tbl := lw_at lw_m8 93 rfl
theorem q1878 : (Jvm.Cond.instanceMethod ({ cls := "BrothFlasksModel", name := "oddsOfTrial", desc := "(II)I" } : Jvm.MethodName)) ∈ lw_all := lw_g (lw_at lw_m8 94 rfl) rfl
theorem q1879 : (Jvm.Cond.code ({ cls := "BrothFlasksModel", name := "oddsOfTrial", desc := "(II)I" } : Jvm.MethodName) prog_24_method_77_code (3 : Nat) (Option.some Jvm.ClassFile.FieldType.int)) ∈ lw_all := lw_g (lw_at lw_m8 95 rfl) rfl
theorem q1881 : (Jvm.Cond.instanceMethod ({ cls := "BrothFlasksModel", name := "fair", desc := "(II)I" } : Jvm.MethodName)) ∈ lw_all := lw_g (lw_at lw_m8 97 rfl) rfl
theorem q1882 : (Jvm.Cond.selects "BrothFlasksModel" ({ cls := "BrothFlasksModel", name := "fair", desc := "(II)I" } : Jvm.MethodName) ({ cls := "BrothFlasksModel", name := "fair", desc := "(II)I" } : Jvm.MethodName)) ∈ lw_all := lw_g (lw_at lw_m8 98 rfl) rfl
theorem q1883 : (Jvm.Cond.code ({ cls := "BrothFlasksModel", name := "fair", desc := "(II)I" } : Jvm.MethodName) prog_24_method_82_code (3 : Nat) (Option.some Jvm.ClassFile.FieldType.int)) ∈ lw_all := lw_g (lw_at lw_m8 99 rfl) rfl
theorem q1884 : (Jvm.Cond.methodLink "BrothFlasksModel" (295 : Nat) ({ cls := "BrothFlasksModel", name := "isFair", desc := "(II)Z" } : Jvm.MethodName)) ∈ lw_all := lw_g (lw_at lw_m8 100 rfl) rfl
theorem q1885 : (Jvm.Cond.privateMethod ({ cls := "BrothFlasksModel", name := "isFair", desc := "(II)Z" } : Jvm.MethodName)) ∈ lw_tbl := lw_at lw_m8 101 rfl
theorem q1886 : (Jvm.Cond.instanceMethod ({ cls := "BrothFlasksModel", name := "isFair", desc := "(II)Z" } : Jvm.MethodName)) ∈ lw_all := lw_g (lw_at lw_m8 102 rfl) rfl
theorem q1887 : (Jvm.Cond.code ({ cls := "BrothFlasksModel", name := "isFair", desc := "(II)Z" } : Jvm.MethodName) prog_24_method_81_code (5 : Nat) (Option.some Jvm.ClassFile.FieldType.boolean)) ∈ lw_all := lw_g (lw_at lw_m8 103 rfl) rfl
theorem q1889 : (Jvm.Cond.instanceMethod ({ cls := "BrothFlasksModel", name := "outBy", desc := "(II)I" } : Jvm.MethodName)) ∈ lw_all := lw_g (lw_at lw_m8 105 rfl) rfl
theorem q1890 : (Jvm.Cond.selects "BrothFlasksModel" ({ cls := "BrothFlasksModel", name := "outBy", desc := "(II)I" } : Jvm.MethodName) ({ cls := "BrothFlasksModel", name := "outBy", desc := "(II)I" } : Jvm.MethodName)) ∈ lw_all := lw_g (lw_at lw_m8 106 rfl) rfl
theorem q1891 : (Jvm.Cond.code ({ cls := "BrothFlasksModel", name := "outBy", desc := "(II)I" } : Jvm.MethodName) prog_24_method_83_code (5 : Nat) (Option.some Jvm.ClassFile.FieldType.int)) ∈ lw_all := lw_g (lw_at lw_m8 107 rfl) rfl
theorem q1893 : (Jvm.Cond.instanceMethod ({ cls := "BrothFlasksModel", name := "worth", desc := "(IIII)J" } : Jvm.MethodName)) ∈ lw_all := lw_g (lw_at lw_m8 109 rfl) rfl
theorem q1894 : (Jvm.Cond.selects "BrothFlasksModel" ({ cls := "BrothFlasksModel", name := "worth", desc := "(IIII)J" } : Jvm.MethodName) ({ cls := "BrothFlasksModel", name := "worth", desc := "(IIII)J" } : Jvm.MethodName)) ∈ lw_all := lw_g (lw_at lw_m8 110 rfl) rfl
theorem q1895 : (Jvm.Cond.code ({ cls := "BrothFlasksModel", name := "worth", desc := "(IIII)J" } : Jvm.MethodName) prog_24_method_86_code (10 : Nat) (Option.some Jvm.ClassFile.FieldType.long)) ∈ lw_all := lw_g (lw_at lw_m8 111 rfl) rfl
theorem q1896 : (Jvm.Cond.constantLong "BrothFlasksModel" (302 : Nat) (-1 : Int64)) ∈ lw_all := lw_g (lw_at lw_m8 112 rfl) rfl
theorem q1897 : (Jvm.Cond.constantLong "BrothFlasksModel" (304 : Nat) (100 : Int64)) ∈ lw_all := lw_g (lw_at lw_m8 113 rfl) rfl
theorem q1898 : (Jvm.Cond.methodLink "BrothFlasksModel" (306 : Nat) ({ cls := "BrothFlasksModel", name := "part", desc := "(JJI)J" } : Jvm.MethodName)) ∈ lw_all := lw_g (lw_at lw_m8 114 rfl) rfl
theorem q1899 : (Jvm.Cond.static ({ cls := "BrothFlasksModel", name := "part", desc := "(JJI)J" } : Jvm.MethodName)) ∈ lw_all := lw_g (lw_at lw_m8 115 rfl) rfl
theorem q1900 : (Jvm.Cond.code ({ cls := "BrothFlasksModel", name := "part", desc := "(JJI)J" } : Jvm.MethodName) prog_24_method_85_code (7 : Nat) (Option.some Jvm.ClassFile.FieldType.long)) ∈ lw_all := lw_g (lw_at lw_m8 116 rfl) rfl
theorem q1901 : (Jvm.Cond.methodLink "BrothFlasksModel" (298 : Nat) ({ cls := "BrothFlasksModel", name := "common", desc := "(JJ)J" } : Jvm.MethodName)) ∈ lw_all := lw_g (lw_at lw_m8 117 rfl) rfl
theorem q1902 : (Jvm.Cond.static ({ cls := "BrothFlasksModel", name := "common", desc := "(JJ)J" } : Jvm.MethodName)) ∈ lw_all := lw_g (lw_at lw_m8 118 rfl) rfl
theorem q1903 : (Jvm.Cond.code ({ cls := "BrothFlasksModel", name := "common", desc := "(JJ)J" } : Jvm.MethodName) prog_24_method_84_code (10 : Nat) (Option.some Jvm.ClassFile.FieldType.long)) ∈ lw_all := lw_g (lw_at lw_m8 119 rfl) rfl
theorem q1905 : (Jvm.Cond.instanceMethod ({ cls := "BrothFlasksModel", name := "answer", desc := "(II)I" } : Jvm.MethodName)) ∈ lw_all := lw_g (lw_at lw_m8 121 rfl) rfl
theorem q1906 : (Jvm.Cond.selects "BrothFlasksModel" ({ cls := "BrothFlasksModel", name := "answer", desc := "(II)I" } : Jvm.MethodName) ({ cls := "BrothFlasksModel", name := "answer", desc := "(II)I" } : Jvm.MethodName)) ∈ lw_all := lw_g (lw_at lw_m8 122 rfl) rfl
theorem q1907 : (Jvm.Cond.code ({ cls := "BrothFlasksModel", name := "answer", desc := "(II)I" } : Jvm.MethodName) prog_24_method_88_code (3 : Nat) (Option.some Jvm.ClassFile.FieldType.int)) ∈ lw_all := lw_g (lw_at lw_m8 123 rfl) rfl
theorem q1908 : (Jvm.Cond.methodLink "BrothFlasksModel" (310 : Nat) ({ cls := "BrothFlasksModel", name := "price", desc := "(II)I" } : Jvm.MethodName)) ∈ lw_all := lw_g (lw_at lw_m8 124 rfl) rfl
theorem q1909 : (Jvm.Cond.privateMethod ({ cls := "BrothFlasksModel", name := "price", desc := "(II)I" } : Jvm.MethodName)) ∈ lw_tbl := lw_at lw_m8 125 rfl
theorem q1910 : (Jvm.Cond.instanceMethod ({ cls := "BrothFlasksModel", name := "price", desc := "(II)I" } : Jvm.MethodName)) ∈ lw_all := lw_g (lw_at lw_m8 126 rfl) rfl
theorem q1911 : (Jvm.Cond.code ({ cls := "BrothFlasksModel", name := "price", desc := "(II)I" } : Jvm.MethodName) prog_24_method_87_code (6 : Nat) (Option.some Jvm.ClassFile.FieldType.int)) ∈ lw_all := lw_g (lw_at lw_m8 127 rfl) rfl
theorem q1913 : (Jvm.Cond.instanceMethod ({ cls := "BrothFlasksModel", name := "saves", desc := "(I)I" } : Jvm.MethodName)) ∈ lw_all := lw_g (lw_at lw_m8 129 rfl) rfl
theorem q1914 : (Jvm.Cond.selects "BrothFlasksModel" ({ cls := "BrothFlasksModel", name := "saves", desc := "(I)I" } : Jvm.MethodName) ({ cls := "BrothFlasksModel", name := "saves", desc := "(I)I" } : Jvm.MethodName)) ∈ lw_all := lw_g (lw_at lw_m8 130 rfl) rfl
theorem q1915 : (Jvm.Cond.code ({ cls := "BrothFlasksModel", name := "saves", desc := "(I)I" } : Jvm.MethodName) prog_24_method_89_code (5 : Nat) (Option.some Jvm.ClassFile.FieldType.int)) ∈ lw_all := lw_g (lw_at lw_m8 131 rfl) rfl
theorem q1916 : (Jvm.Cond.methodLink "BrothFlasksModel" (313 : Nat) ({ cls := "BrothFlasksModel", name := "answer", desc := "(II)I" } : Jvm.MethodName)) ∈ lw_all := lw_g (lw_at lw_m8 132 rfl) rfl
theorem q1918 : (Jvm.Cond.instanceMethod ({ cls := "BrothFlasksModel", name := "all", desc := "(I)I" } : Jvm.MethodName)) ∈ lw_all := lw_g (lw_at lw_m8 134 rfl) rfl
theorem q1919 : (Jvm.Cond.selects "BrothFlasksModel" ({ cls := "BrothFlasksModel", name := "all", desc := "(I)I" } : Jvm.MethodName) ({ cls := "BrothFlasksModel", name := "all", desc := "(I)I" } : Jvm.MethodName)) ∈ lw_all := lw_g (lw_at lw_m8 135 rfl) rfl
theorem q1920 : (Jvm.Cond.code ({ cls := "BrothFlasksModel", name := "all", desc := "(I)I" } : Jvm.MethodName) prog_24_method_90_code (6 : Nat) (Option.some Jvm.ClassFile.FieldType.int)) ∈ lw_all := lw_g (lw_at lw_m8 136 rfl) rfl
theorem q1922 : (Jvm.Cond.instanceMethod ({ cls := "BrothFlasksModel", name := "parting", desc := "(II)I" } : Jvm.MethodName)) ∈ lw_all := lw_g (lw_at lw_m8 138 rfl) rfl
theorem q1923 : (Jvm.Cond.selects "BrothFlasksModel" ({ cls := "BrothFlasksModel", name := "parting", desc := "(II)I" } : Jvm.MethodName) ({ cls := "BrothFlasksModel", name := "parting", desc := "(II)I" } : Jvm.MethodName)) ∈ lw_all := lw_g (lw_at lw_m8 139 rfl) rfl
theorem q1924 : (Jvm.Cond.code ({ cls := "BrothFlasksModel", name := "parting", desc := "(II)I" } : Jvm.MethodName) prog_24_method_93_code (3 : Nat) (Option.some Jvm.ClassFile.FieldType.int)) ∈ lw_all := lw_g (lw_at lw_m8 140 rfl) rfl
theorem q1925 : (Jvm.Cond.methodLink "BrothFlasksModel" (316 : Nat) ({ cls := "BrothFlasksModel", name := "areTexts", desc := "(I)Z" } : Jvm.MethodName)) ∈ lw_all := lw_g (lw_at lw_m8 141 rfl) rfl
theorem q1926 : (Jvm.Cond.privateMethod ({ cls := "BrothFlasksModel", name := "areTexts", desc := "(I)Z" } : Jvm.MethodName)) ∈ lw_tbl := lw_at lw_m8 142 rfl
theorem q1927 : (Jvm.Cond.instanceMethod ({ cls := "BrothFlasksModel", name := "areTexts", desc := "(I)Z" } : Jvm.MethodName)) ∈ lw_all := lw_g (lw_at lw_m8 143 rfl) rfl
theorem q1928 : (Jvm.Cond.code ({ cls := "BrothFlasksModel", name := "areTexts", desc := "(I)Z" } : Jvm.MethodName) prog_24_method_91_code (2 : Nat) (Option.some Jvm.ClassFile.FieldType.boolean)) ∈ lw_all := lw_g (lw_at lw_m8 144 rfl) rfl
theorem q1929 : (Jvm.Cond.methodLink "BrothFlasksModel" (319 : Nat) ({ cls := "BrothFlasksModel", name := "partingOf", desc := "(II)I" } : Jvm.MethodName)) ∈ lw_all := lw_g (lw_at lw_m8 145 rfl) rfl
theorem q1930 : (Jvm.Cond.privateMethod ({ cls := "BrothFlasksModel", name := "partingOf", desc := "(II)I" } : Jvm.MethodName)) ∈ lw_tbl := lw_at lw_m8 146 rfl
theorem q1931 : (Jvm.Cond.instanceMethod ({ cls := "BrothFlasksModel", name := "partingOf", desc := "(II)I" } : Jvm.MethodName)) ∈ lw_all := lw_g (lw_at lw_m8 147 rfl) rfl
theorem q1932 : (Jvm.Cond.code ({ cls := "BrothFlasksModel", name := "partingOf", desc := "(II)I" } : Jvm.MethodName) prog_24_method_92_code (7 : Nat) (Option.some Jvm.ClassFile.FieldType.int)) ∈ lw_all := lw_g (lw_at lw_m8 148 rfl) rfl
theorem q1934 : (Jvm.Cond.instanceMethod ({ cls := "BrothFlasksModel", name := "next", desc := "(I)I" } : Jvm.MethodName)) ∈ lw_all := lw_g (lw_at lw_m8 150 rfl) rfl
theorem q1935 : (Jvm.Cond.selects "BrothFlasksModel" ({ cls := "BrothFlasksModel", name := "next", desc := "(I)I" } : Jvm.MethodName) ({ cls := "BrothFlasksModel", name := "next", desc := "(I)I" } : Jvm.MethodName)) ∈ lw_all := lw_g (lw_at lw_m8 151 rfl) rfl
theorem q1936 : (Jvm.Cond.code ({ cls := "BrothFlasksModel", name := "next", desc := "(I)I" } : Jvm.MethodName) prog_24_method_95_code (6 : Nat) (Option.some Jvm.ClassFile.FieldType.int)) ∈ lw_all := lw_g (lw_at lw_m8 152 rfl) rfl
theorem q1937 : (Jvm.Cond.methodLink "BrothFlasksModel" (322 : Nat) ({ cls := "BrothFlasksModel", name := "areFair", desc := "(II)Z" } : Jvm.MethodName)) ∈ lw_all := lw_g (lw_at lw_m8 153 rfl) rfl
theorem q1938 : (Jvm.Cond.privateMethod ({ cls := "BrothFlasksModel", name := "areFair", desc := "(II)Z" } : Jvm.MethodName)) ∈ lw_tbl := lw_at lw_m8 154 rfl
theorem q1939 : (Jvm.Cond.instanceMethod ({ cls := "BrothFlasksModel", name := "areFair", desc := "(II)Z" } : Jvm.MethodName)) ∈ lw_all := lw_g (lw_at lw_m8 155 rfl) rfl
theorem q1940 : (Jvm.Cond.code ({ cls := "BrothFlasksModel", name := "areFair", desc := "(II)Z" } : Jvm.MethodName) prog_24_method_94_code (4 : Nat) (Option.some Jvm.ClassFile.FieldType.boolean)) ∈ lw_all := lw_g (lw_at lw_m8 156 rfl) rfl
theorem q1942 : (Jvm.Cond.instanceMethod ({ cls := "BrothFlasksModel", name := "telling", desc := "(II)I" } : Jvm.MethodName)) ∈ lw_all := lw_g (lw_at lw_m8 158 rfl) rfl
theorem q1943 : (Jvm.Cond.selects "BrothFlasksModel" ({ cls := "BrothFlasksModel", name := "telling", desc := "(II)I" } : Jvm.MethodName) ({ cls := "BrothFlasksModel", name := "telling", desc := "(II)I" } : Jvm.MethodName)) ∈ lw_all := lw_g (lw_at lw_m8 159 rfl) rfl
theorem q1944 : (Jvm.Cond.code ({ cls := "BrothFlasksModel", name := "telling", desc := "(II)I" } : Jvm.MethodName) prog_24_method_98_code (4 : Nat) (Option.some Jvm.ClassFile.FieldType.int)) ∈ lw_all := lw_g (lw_at lw_m8 160 rfl) rfl
theorem q1945 : (Jvm.Cond.methodLink "BrothFlasksModel" (331 : Nat) ({ cls := "BrothFlasksModel", name := "tellingOf", desc := "(I)I" } : Jvm.MethodName)) ∈ lw_all := lw_g (lw_at lw_m8 161 rfl) rfl
theorem q1946 : (Jvm.Cond.privateMethod ({ cls := "BrothFlasksModel", name := "tellingOf", desc := "(I)I" } : Jvm.MethodName)) ∈ lw_tbl := lw_at lw_m8 162 rfl
theorem q1947 : (Jvm.Cond.instanceMethod ({ cls := "BrothFlasksModel", name := "tellingOf", desc := "(I)I" } : Jvm.MethodName)) ∈ lw_all := lw_g (lw_at lw_m8 163 rfl) rfl
theorem q1948 : (Jvm.Cond.code ({ cls := "BrothFlasksModel", name := "tellingOf", desc := "(I)I" } : Jvm.MethodName) prog_24_method_97_code (8 : Nat) (Option.some Jvm.ClassFile.FieldType.int)) ∈ lw_all := lw_g (lw_at lw_m8 164 rfl) rfl
theorem q1949 : (Jvm.Cond.methodLink "BrothFlasksModel" (325 : Nat) ({ cls := "BrothFlasksModel", name := "lays", desc := "(I)V" } : Jvm.MethodName)) ∈ lw_all := lw_g (lw_at lw_m8 165 rfl) rfl
theorem q1950 : (Jvm.Cond.privateMethod ({ cls := "BrothFlasksModel", name := "lays", desc := "(I)V" } : Jvm.MethodName)) ∈ lw_tbl := lw_at lw_m8 166 rfl
theorem q1951 : (Jvm.Cond.instanceMethod ({ cls := "BrothFlasksModel", name := "lays", desc := "(I)V" } : Jvm.MethodName)) ∈ lw_all := lw_g (lw_at lw_m8 167 rfl) rfl
theorem q1952 : (Jvm.Cond.code ({ cls := "BrothFlasksModel", name := "lays", desc := "(I)V" } : Jvm.MethodName) prog_24_method_96_code (7 : Nat) (Option.none : Option Jvm.ClassFile.FieldType)) ∈ lw_all := lw_g (lw_at lw_m8 168 rfl) rfl
theorem q1954 : (Jvm.Cond.instanceMethod ({ cls := "BrothFlasksModel", name := "span", desc := "(III)I" } : Jvm.MethodName)) ∈ lw_all := lw_g (lw_at lw_m8 170 rfl) rfl
theorem q1955 : (Jvm.Cond.selects "BrothFlasksModel" ({ cls := "BrothFlasksModel", name := "span", desc := "(III)I" } : Jvm.MethodName) ({ cls := "BrothFlasksModel", name := "span", desc := "(III)I" } : Jvm.MethodName)) ∈ lw_all := lw_g (lw_at lw_m8 171 rfl) rfl
theorem q1956 : (Jvm.Cond.code ({ cls := "BrothFlasksModel", name := "span", desc := "(III)I" } : Jvm.MethodName) prog_24_method_103_code (13 : Nat) (Option.some Jvm.ClassFile.FieldType.int)) ∈ lw_all := lw_g (lw_at lw_m8 172 rfl) rfl
theorem q1957 : (Jvm.Cond.methodLink "BrothFlasksModel" (345 : Nat) ({ cls := "BrothFlasksModel", name := "just", desc := "(III)J" } : Jvm.MethodName)) ∈ lw_all := lw_g (lw_at lw_m8 173 rfl) rfl
theorem q1958 : (Jvm.Cond.static ({ cls := "BrothFlasksModel", name := "just", desc := "(III)J" } : Jvm.MethodName)) ∈ lw_all := lw_g (lw_at lw_m8 174 rfl) rfl
theorem q1959 : (Jvm.Cond.code ({ cls := "BrothFlasksModel", name := "just", desc := "(III)J" } : Jvm.MethodName) prog_24_method_101_code (3 : Nat) (Option.some Jvm.ClassFile.FieldType.long)) ∈ lw_all := lw_g (lw_at lw_m8 175 rfl) rfl
theorem q1960 : (Jvm.Cond.methodLink "BrothFlasksModel" (334 : Nat) ({ cls := "BrothFlasksModel", name := "choose", desc := "(II)J" } : Jvm.MethodName)) ∈ lw_all := lw_g (lw_at lw_m8 176 rfl) rfl
theorem q1961 : (Jvm.Cond.static ({ cls := "BrothFlasksModel", name := "choose", desc := "(II)J" } : Jvm.MethodName)) ∈ lw_all := lw_g (lw_at lw_m8 177 rfl) rfl
theorem q1962 : (Jvm.Cond.code ({ cls := "BrothFlasksModel", name := "choose", desc := "(II)J" } : Jvm.MethodName) prog_24_method_100_code (5 : Nat) (Option.some Jvm.ClassFile.FieldType.long)) ∈ lw_all := lw_g (lw_at lw_m8 178 rfl) rfl
theorem q1963 : (Jvm.Cond.methodLink "BrothFlasksModel" (338 : Nat) ({ cls := "BrothFlasksModel", name := "power", desc := "(II)J" } : Jvm.MethodName)) ∈ lw_all := lw_g (lw_at lw_m8 179 rfl) rfl
theorem q1964 : (Jvm.Cond.static ({ cls := "BrothFlasksModel", name := "power", desc := "(II)J" } : Jvm.MethodName)) ∈ lw_all := lw_g (lw_at lw_m8 180 rfl) rfl
theorem q1965 : (Jvm.Cond.code ({ cls := "BrothFlasksModel", name := "power", desc := "(II)J" } : Jvm.MethodName) prog_24_method_99_code (5 : Nat) (Option.some Jvm.ClassFile.FieldType.long)) ∈ lw_all := lw_g (lw_at lw_m8 181 rfl) rfl
theorem q1966 : (Jvm.Cond.methodLink "BrothFlasksModel" (349 : Nat) ({ cls := "BrothFlasksModel", name := "isATwentieth", desc := "(JI)Z" } : Jvm.MethodName)) ∈ lw_all := lw_g (lw_at lw_m8 182 rfl) rfl
theorem q1967 : (Jvm.Cond.static ({ cls := "BrothFlasksModel", name := "isATwentieth", desc := "(JI)Z" } : Jvm.MethodName)) ∈ lw_all := lw_g (lw_at lw_m8 183 rfl) rfl
theorem q1968 : (Jvm.Cond.code ({ cls := "BrothFlasksModel", name := "isATwentieth", desc := "(JI)Z" } : Jvm.MethodName) prog_24_method_102_code (3 : Nat) (Option.some Jvm.ClassFile.FieldType.boolean)) ∈ lw_all := lw_g (lw_at lw_m8 184 rfl) rfl
theorem q1969 : (Jvm.Cond.constantLong "BrothFlasksModel" (341 : Nat) (20 : Int64)) ∈ lw_all := lw_g (lw_at lw_m8 185 rfl) rfl
theorem q1970 : (Jvm.Cond.constantLong "BrothFlasksModel" (343 : Nat) (10 : Int64)) ∈ lw_all := lw_g (lw_at lw_m8 186 rfl) rfl
theorem q1972 : (Jvm.Cond.instanceMethod ({ cls := "BrothFlasksModel", name := "need", desc := "(II)I" } : Jvm.MethodName)) ∈ lw_all := lw_g (lw_at lw_m8 188 rfl) rfl
theorem q1973 : (Jvm.Cond.selects "BrothFlasksModel" ({ cls := "BrothFlasksModel", name := "need", desc := "(II)I" } : Jvm.MethodName) ({ cls := "BrothFlasksModel", name := "need", desc := "(II)I" } : Jvm.MethodName)) ∈ lw_all := lw_g (lw_at lw_m8 189 rfl) rfl
theorem q1974 : (Jvm.Cond.code ({ cls := "BrothFlasksModel", name := "need", desc := "(II)I" } : Jvm.MethodName) prog_24_method_104_code (4 : Nat) (Option.some Jvm.ClassFile.FieldType.int)) ∈ lw_all := lw_g (lw_at lw_m8 190 rfl) rfl
theorem q1976 : (Jvm.Cond.instanceMethod ({ cls := "BrothFlasksModel", name := "bound", desc := "(I)I" } : Jvm.MethodName)) ∈ lw_all := lw_g (lw_at lw_m8 192 rfl) rfl
theorem q1977 : (Jvm.Cond.selects "BrothFlasksModel" ({ cls := "BrothFlasksModel", name := "bound", desc := "(I)I" } : Jvm.MethodName) ({ cls := "BrothFlasksModel", name := "bound", desc := "(I)I" } : Jvm.MethodName)) ∈ lw_all := lw_g (lw_at lw_m8 193 rfl) rfl
theorem q1978 : (Jvm.Cond.code ({ cls := "BrothFlasksModel", name := "bound", desc := "(I)I" } : Jvm.MethodName) prog_24_method_105_code (4 : Nat) (Option.some Jvm.ClassFile.FieldType.int)) ∈ lw_all := lw_g (lw_at lw_m8 194 rfl) rfl
theorem q1980 : (Jvm.Cond.instanceMethod ({ cls := "BrothFlasksModel", name := "outlive", desc := "(III)I" } : Jvm.MethodName)) ∈ lw_all := lw_g (lw_at lw_m8 196 rfl) rfl
theorem q1981 : (Jvm.Cond.selects "BrothFlasksModel" ({ cls := "BrothFlasksModel", name := "outlive", desc := "(III)I" } : Jvm.MethodName) ({ cls := "BrothFlasksModel", name := "outlive", desc := "(III)I" } : Jvm.MethodName)) ∈ lw_all := lw_g (lw_at lw_m8 197 rfl) rfl
theorem q1982 : (Jvm.Cond.code ({ cls := "BrothFlasksModel", name := "outlive", desc := "(III)I" } : Jvm.MethodName) prog_24_method_108_code (8 : Nat) (Option.some Jvm.ClassFile.FieldType.int)) ∈ lw_all := lw_g (lw_at lw_m8 198 rfl) rfl
theorem q1983 : (Jvm.Cond.methodLink "BrothFlasksModel" (356 : Nat) ({ cls := "BrothFlasksModel", name := "fits", desc := "(III)Z" } : Jvm.MethodName)) ∈ lw_all := lw_g (lw_at lw_m8 199 rfl) rfl
theorem q1984 : (Jvm.Cond.privateMethod ({ cls := "BrothFlasksModel", name := "fits", desc := "(III)Z" } : Jvm.MethodName)) ∈ lw_tbl := lw_at lw_m8 200 rfl
theorem q1985 : (Jvm.Cond.instanceMethod ({ cls := "BrothFlasksModel", name := "fits", desc := "(III)Z" } : Jvm.MethodName)) ∈ lw_all := lw_g (lw_at lw_m8 201 rfl) rfl
theorem q1986 : (Jvm.Cond.code ({ cls := "BrothFlasksModel", name := "fits", desc := "(III)Z" } : Jvm.MethodName) prog_24_method_107_code (8 : Nat) (Option.some Jvm.ClassFile.FieldType.boolean)) ∈ lw_all := lw_g (lw_at lw_m8 202 rfl) rfl
theorem q1987 : (Jvm.Cond.methodLink "BrothFlasksModel" (353 : Nat) ({ cls := "BrothFlasksModel", name := "suits", desc := "(II)Z" } : Jvm.MethodName)) ∈ lw_all := lw_g (lw_at lw_m8 203 rfl) rfl
theorem q1988 : (Jvm.Cond.privateMethod ({ cls := "BrothFlasksModel", name := "suits", desc := "(II)Z" } : Jvm.MethodName)) ∈ lw_tbl := lw_at lw_m8 204 rfl
theorem q1989 : (Jvm.Cond.instanceMethod ({ cls := "BrothFlasksModel", name := "suits", desc := "(II)Z" } : Jvm.MethodName)) ∈ lw_all := lw_g (lw_at lw_m8 205 rfl) rfl
theorem q1990 : (Jvm.Cond.code ({ cls := "BrothFlasksModel", name := "suits", desc := "(II)Z" } : Jvm.MethodName) prog_24_method_106_code (4 : Nat) (Option.some Jvm.ClassFile.FieldType.boolean)) ∈ lw_all := lw_g (lw_at lw_m8 206 rfl) rfl
theorem q1992 : (Jvm.Cond.instanceMethod ({ cls := "BrothFlasksModel", name := "right", desc := "(II)I" } : Jvm.MethodName)) ∈ lw_all := lw_g (lw_at lw_m8 208 rfl) rfl
theorem q1993 : (Jvm.Cond.selects "BrothFlasksModel" ({ cls := "BrothFlasksModel", name := "right", desc := "(II)I" } : Jvm.MethodName) ({ cls := "BrothFlasksModel", name := "right", desc := "(II)I" } : Jvm.MethodName)) ∈ lw_all := lw_g (lw_at lw_m8 209 rfl) rfl
theorem q1994 : (Jvm.Cond.code ({ cls := "BrothFlasksModel", name := "right", desc := "(II)I" } : Jvm.MethodName) prog_24_method_109_code (8 : Nat) (Option.some Jvm.ClassFile.FieldType.int)) ∈ lw_all := lw_g (lw_at lw_m8 210 rfl) rfl
theorem q1996 : (Jvm.Cond.instanceMethod ({ cls := "BrothFlasksModel", name := "how", desc := "(III)I" } : Jvm.MethodName)) ∈ lw_all := lw_g (lw_at lw_m8 212 rfl) rfl
theorem q1997 : (Jvm.Cond.selects "BrothFlasksModel" ({ cls := "BrothFlasksModel", name := "how", desc := "(III)I" } : Jvm.MethodName) ({ cls := "BrothFlasksModel", name := "how", desc := "(III)I" } : Jvm.MethodName)) ∈ lw_all := lw_g (lw_at lw_m8 213 rfl) rfl
theorem q1998 : (Jvm.Cond.code ({ cls := "BrothFlasksModel", name := "how", desc := "(III)I" } : Jvm.MethodName) prog_24_method_110_code (6 : Nat) (Option.some Jvm.ClassFile.FieldType.int)) ∈ lw_all := lw_g (lw_at lw_m8 214 rfl) rfl
theorem q2000 : (Jvm.Cond.instanceMethod ({ cls := "BrothFlasksModel", name := "ways", desc := "(III)I" } : Jvm.MethodName)) ∈ lw_all := lw_g (lw_at lw_m8 216 rfl) rfl
theorem q2001 : (Jvm.Cond.selects "BrothFlasksModel" ({ cls := "BrothFlasksModel", name := "ways", desc := "(III)I" } : Jvm.MethodName) ({ cls := "BrothFlasksModel", name := "ways", desc := "(III)I" } : Jvm.MethodName)) ∈ lw_all := lw_g (lw_at lw_m8 217 rfl) rfl
theorem q2002 : (Jvm.Cond.code ({ cls := "BrothFlasksModel", name := "ways", desc := "(III)I" } : Jvm.MethodName) prog_24_method_111_code (7 : Nat) (Option.some Jvm.ClassFile.FieldType.int)) ∈ lw_all := lw_g (lw_at lw_m8 218 rfl) rfl
theorem q2004 : (Jvm.Cond.instanceMethod ({ cls := "BrothFlasksModel", name := "spoilt", desc := "(I)I" } : Jvm.MethodName)) ∈ lw_all := lw_g (lw_at lw_m8 220 rfl) rfl
theorem q2005 : (Jvm.Cond.selects "BrothFlasksModel" ({ cls := "BrothFlasksModel", name := "spoilt", desc := "(I)I" } : Jvm.MethodName) ({ cls := "BrothFlasksModel", name := "spoilt", desc := "(I)I" } : Jvm.MethodName)) ∈ lw_all := lw_g (lw_at lw_m8 221 rfl) rfl
theorem q2006 : (Jvm.Cond.code ({ cls := "BrothFlasksModel", name := "spoilt", desc := "(I)I" } : Jvm.MethodName) prog_24_method_113_code (2 : Nat) (Option.some Jvm.ClassFile.FieldType.int)) ∈ lw_all := lw_g (lw_at lw_m8 222 rfl) rfl
theorem q2007 : (Jvm.Cond.methodLink "BrothFlasksModel" (359 : Nat) ({ cls := "BrothFlasksModel", name := "spoiltOf", desc := "(I)I" } : Jvm.MethodName)) ∈ lw_all := lw_g (lw_at lw_m8 223 rfl) rfl
theorem q2008 : (Jvm.Cond.privateMethod ({ cls := "BrothFlasksModel", name := "spoiltOf", desc := "(I)I" } : Jvm.MethodName)) ∈ lw_tbl := lw_at lw_m8 224 rfl
theorem q2009 : (Jvm.Cond.instanceMethod ({ cls := "BrothFlasksModel", name := "spoiltOf", desc := "(I)I" } : Jvm.MethodName)) ∈ lw_all := lw_g (lw_at lw_m8 225 rfl) rfl
theorem q2010 : (Jvm.Cond.code ({ cls := "BrothFlasksModel", name := "spoiltOf", desc := "(I)I" } : Jvm.MethodName) prog_24_method_112_code (3 : Nat) (Option.some Jvm.ClassFile.FieldType.int)) ∈ lw_all := lw_g (lw_at lw_m8 226 rfl) rfl
theorem q2012 : (Jvm.Cond.instanceMethod ({ cls := "BrothFlasksModel", name := "whole", desc := "(I)I" } : Jvm.MethodName)) ∈ lw_all := lw_g (lw_at lw_m8 228 rfl) rfl
theorem q2013 : (Jvm.Cond.selects "BrothFlasksModel" ({ cls := "BrothFlasksModel", name := "whole", desc := "(I)I" } : Jvm.MethodName) ({ cls := "BrothFlasksModel", name := "whole", desc := "(I)I" } : Jvm.MethodName)) ∈ lw_all := lw_g (lw_at lw_m8 229 rfl) rfl
theorem q2014 : (Jvm.Cond.code ({ cls := "BrothFlasksModel", name := "whole", desc := "(I)I" } : Jvm.MethodName) prog_24_method_114_code (3 : Nat) (Option.some Jvm.ClassFile.FieldType.int)) ∈ lw_all := lw_g (lw_at lw_m8 230 rfl) rfl
theorem q2016 : (Jvm.Cond.instanceMethod ({ cls := "BrothFlasksModel", name := "commission", desc := "(II)I" } : Jvm.MethodName)) ∈ lw_all := lw_g (lw_at lw_m8 232 rfl) rfl
theorem q2017 : (Jvm.Cond.selects "BrothFlasksModel" ({ cls := "BrothFlasksModel", name := "commission", desc := "(II)I" } : Jvm.MethodName) ({ cls := "BrothFlasksModel", name := "commission", desc := "(II)I" } : Jvm.MethodName)) ∈ lw_all := lw_g (lw_at lw_m8 233 rfl) rfl
theorem q2018 : (Jvm.Cond.code ({ cls := "BrothFlasksModel", name := "commission", desc := "(II)I" } : Jvm.MethodName) prog_24_method_116_code (4 : Nat) (Option.some Jvm.ClassFile.FieldType.int)) ∈ lw_all := lw_g (lw_at lw_m8 234 rfl) rfl
theorem q2019 : (Jvm.Cond.methodLink "BrothFlasksModel" (362 : Nat) ({ cls := "BrothFlasksModel", name := "ones", desc := "(I)I" } : Jvm.MethodName)) ∈ lw_all := lw_g (lw_at lw_m8 235 rfl) rfl
theorem q2020 : (Jvm.Cond.static ({ cls := "BrothFlasksModel", name := "ones", desc := "(I)I" } : Jvm.MethodName)) ∈ lw_all := lw_g (lw_at lw_m8 236 rfl) rfl
theorem q2021 : (Jvm.Cond.code ({ cls := "BrothFlasksModel", name := "ones", desc := "(I)I" } : Jvm.MethodName) prog_24_method_115_code (3 : Nat) (Option.some Jvm.ClassFile.FieldType.int)) ∈ lw_all := lw_g (lw_at lw_m8 237 rfl) rfl
theorem q2023 : (Jvm.Cond.instanceMethod ({ cls := "BrothFlasksModel", name := "judged", desc := "(III)J" } : Jvm.MethodName)) ∈ lw_all := lw_g (lw_at lw_m8 239 rfl) rfl
theorem q2024 : (Jvm.Cond.selects "BrothFlasksModel" ({ cls := "BrothFlasksModel", name := "judged", desc := "(III)J" } : Jvm.MethodName) ({ cls := "BrothFlasksModel", name := "judged", desc := "(III)J" } : Jvm.MethodName)) ∈ lw_all := lw_g (lw_at lw_m9 0 rfl) rfl
theorem q2025 : (Jvm.Cond.code ({ cls := "BrothFlasksModel", name := "judged", desc := "(III)J" } : Jvm.MethodName) prog_24_method_120_code (4 : Nat) (Option.some Jvm.ClassFile.FieldType.long)) ∈ lw_all := lw_g (lw_at lw_m9 1 rfl) rfl
theorem q2026 : (Jvm.Cond.methodLink "BrothFlasksModel" (365 : Nat) ({ cls := "BrothFlasksModel", name := "isCourt", desc := "(I)Z" } : Jvm.MethodName)) ∈ lw_all := lw_g (lw_at lw_m9 2 rfl) rfl
theorem q2027 : (Jvm.Cond.privateMethod ({ cls := "BrothFlasksModel", name := "isCourt", desc := "(I)Z" } : Jvm.MethodName)) ∈ lw_tbl := lw_at lw_m9 3 rfl
theorem q2028 : (Jvm.Cond.instanceMethod ({ cls := "BrothFlasksModel", name := "isCourt", desc := "(I)Z" } : Jvm.MethodName)) ∈ lw_all := lw_g (lw_at lw_m9 4 rfl) rfl
theorem q2029 : (Jvm.Cond.code ({ cls := "BrothFlasksModel", name := "isCourt", desc := "(I)Z" } : Jvm.MethodName) prog_24_method_119_code (2 : Nat) (Option.some Jvm.ClassFile.FieldType.boolean)) ∈ lw_all := lw_g (lw_at lw_m9 5 rfl) rfl
theorem q2030 : (Jvm.Cond.methodLink "BrothFlasksModel" (368 : Nat) ({ cls := "BrothFlasksModel", name := "turnedOf", desc := "(II)J" } : Jvm.MethodName)) ∈ lw_all := lw_g (lw_at lw_m9 6 rfl) rfl
theorem q2031 : (Jvm.Cond.privateMethod ({ cls := "BrothFlasksModel", name := "turnedOf", desc := "(II)J" } : Jvm.MethodName)) ∈ lw_tbl := lw_at lw_m9 7 rfl
theorem q2032 : (Jvm.Cond.instanceMethod ({ cls := "BrothFlasksModel", name := "turnedOf", desc := "(II)J" } : Jvm.MethodName)) ∈ lw_all := lw_g (lw_at lw_m9 8 rfl) rfl
theorem q2033 : (Jvm.Cond.code ({ cls := "BrothFlasksModel", name := "turnedOf", desc := "(II)J" } : Jvm.MethodName) prog_24_method_117_code (7 : Nat) (Option.some Jvm.ClassFile.FieldType.long)) ∈ lw_all := lw_g (lw_at lw_m9 9 rfl) rfl
theorem q2034 : (Jvm.Cond.methodLink "BrothFlasksModel" (371 : Nat) ({ cls := "BrothFlasksModel", name := "hundreds", desc := "(I)J" } : Jvm.MethodName)) ∈ lw_all := lw_g (lw_at lw_m9 10 rfl) rfl
theorem q2035 : (Jvm.Cond.privateMethod ({ cls := "BrothFlasksModel", name := "hundreds", desc := "(I)J" } : Jvm.MethodName)) ∈ lw_tbl := lw_at lw_m9 11 rfl
theorem q2036 : (Jvm.Cond.instanceMethod ({ cls := "BrothFlasksModel", name := "hundreds", desc := "(I)J" } : Jvm.MethodName)) ∈ lw_all := lw_g (lw_at lw_m9 12 rfl) rfl
theorem q2037 : (Jvm.Cond.code ({ cls := "BrothFlasksModel", name := "hundreds", desc := "(I)J" } : Jvm.MethodName) prog_24_method_118_code (2 : Nat) (Option.some Jvm.ClassFile.FieldType.long)) ∈ lw_all := lw_g (lw_at lw_m9 13 rfl) rfl
theorem q2039 : (Jvm.Cond.instanceMethod ({ cls := "BrothFlasksModel", name := "leans", desc := "(III)I" } : Jvm.MethodName)) ∈ lw_all := lw_g (lw_at lw_m9 15 rfl) rfl
theorem q2040 : (Jvm.Cond.selects "BrothFlasksModel" ({ cls := "BrothFlasksModel", name := "leans", desc := "(III)I" } : Jvm.MethodName) ({ cls := "BrothFlasksModel", name := "leans", desc := "(III)I" } : Jvm.MethodName)) ∈ lw_all := lw_g (lw_at lw_m9 16 rfl) rfl
theorem q2041 : (Jvm.Cond.code ({ cls := "BrothFlasksModel", name := "leans", desc := "(III)I" } : Jvm.MethodName) prog_24_method_121_code (6 : Nat) (Option.some Jvm.ClassFile.FieldType.int)) ∈ lw_all := lw_g (lw_at lw_m9 17 rfl) rfl
theorem q2042 : (Jvm.Cond.constantLong "BrothFlasksModel" (375 : Nat) (2 : Int64)) ∈ lw_all := lw_g (lw_at lw_m9 18 rfl) rfl
theorem q2044 : (Jvm.Cond.instanceMethod ({ cls := "BrothFlasksModel", name := "shape", desc := "(IIII)I" } : Jvm.MethodName)) ∈ lw_all := lw_g (lw_at lw_m9 20 rfl) rfl
theorem q2045 : (Jvm.Cond.selects "BrothFlasksModel" ({ cls := "BrothFlasksModel", name := "shape", desc := "(IIII)I" } : Jvm.MethodName) ({ cls := "BrothFlasksModel", name := "shape", desc := "(IIII)I" } : Jvm.MethodName)) ∈ lw_all := lw_g (lw_at lw_m9 21 rfl) rfl
theorem q2046 : (Jvm.Cond.code ({ cls := "BrothFlasksModel", name := "shape", desc := "(IIII)I" } : Jvm.MethodName) prog_24_method_122_code (7 : Nat) (Option.some Jvm.ClassFile.FieldType.int)) ∈ lw_all := lw_g (lw_at lw_m9 22 rfl) rfl
theorem q2048 : (Jvm.Cond.instanceMethod ({ cls := "BrothFlasksModel", name := "count", desc := "(I)I" } : Jvm.MethodName)) ∈ lw_all := lw_g (lw_at lw_m9 24 rfl) rfl
theorem q2049 : (Jvm.Cond.selects "BrothFlasksModel" ({ cls := "BrothFlasksModel", name := "count", desc := "(I)I" } : Jvm.MethodName) ({ cls := "BrothFlasksModel", name := "count", desc := "(I)I" } : Jvm.MethodName)) ∈ lw_all := lw_g (lw_at lw_m9 25 rfl) rfl
theorem q2050 : (Jvm.Cond.code ({ cls := "BrothFlasksModel", name := "count", desc := "(I)I" } : Jvm.MethodName) prog_24_method_123_code (2 : Nat) (Option.some Jvm.ClassFile.FieldType.int)) ∈ lw_all := lw_g (lw_at lw_m9 26 rfl) rfl
theorem q2052 : (Jvm.Cond.instanceMethod ({ cls := "BrothFlasksModel", name := "status", desc := "()I" } : Jvm.MethodName)) ∈ lw_all := lw_g (lw_at lw_m9 28 rfl) rfl
theorem q2053 : (Jvm.Cond.selects "BrothFlasksModel" ({ cls := "BrothFlasksModel", name := "status", desc := "()I" } : Jvm.MethodName) ({ cls := "BrothFlasksModel", name := "status", desc := "()I" } : Jvm.MethodName)) ∈ lw_all := lw_g (lw_at lw_m9 29 rfl) rfl
theorem q2054 : (Jvm.Cond.code ({ cls := "BrothFlasksModel", name := "status", desc := "()I" } : Jvm.MethodName) prog_24_method_124_code (1 : Nat) (Option.some Jvm.ClassFile.FieldType.int)) ∈ lw_all := lw_g (lw_at lw_m9 30 rfl) rfl
theorem in_X4 : ∀ w ∈ wsX40, w ∈ lw_all := lw_in wsX40 [1503, 1505, 1507, 1509, 1511, 1513, 1515, 1517, 1519, 1521, 1523, 1525, 1527, 1529, 1531, 1533, 1535, 1537, 1539, 1541, 1543, 1545, 1547, 1549, 1551, 1553, 1555, 1557, 1559, 1561] (by decide +kernel) (by decide +kernel)
