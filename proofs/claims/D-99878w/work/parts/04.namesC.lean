/-! BlushLampsModel -/
set_option maxRecDepth 100000
def RX10 : String := "BlushLampsModel"
def TX10 : u_T := fun k => match k with
  | 0 => ("BlushLampsModel", "thrown", "I", false)
  | 1 => ("BlushLampsModel", "tape", "[B", true)
  | 2 => ("BlushLampsModel", "taped", "I", false)
  | 3 => ("BlushLampsModel", "text", "[B", true)
  | 4 => ("BlushLampsModel", "size", "I", false)
  | 5 => ("BlushLampsModel", "tKind", "[I", true)
  | 6 => ("BlushLampsModel", "tPlace", "[I", true)
  | 7 => ("BlushLampsModel", "tValue", "[I", true)
  | 8 => ("BlushLampsModel", "tName", "[J", true)
  | 9 => ("BlushLampsModel", "keys", "[J", true)
  | 10 => ("BlushLampsModel", "tokens", "I", false)
  | 11 => ("BlushLampsModel", "t", "I", false)
  | 12 => ("BlushLampsModel", "open", "I", false)
  | 13 => ("BlushLampsModel", "fault", "I", false)
  | 14 => ("BlushLampsModel", "faultPlace", "I", false)
  | 15 => ("BlushLampsModel", "worst", "I", false)
  | 16 => ("BlushLampsModel", "worstPlace", "I", false)
  | 17 => ("BlushLampsModel", "place", "I", false)
  | 18 => ("BlushLampsModel", "live", "I", false)
  | 19 => ("BlushLampsModel", "side", "I", false)
  | 20 => ("BlushLampsModel", "names", "I", false)
  | 21 => ("BlushLampsModel", "nameOf", "[J", true)
  | 22 => ("BlushLampsModel", "nameAt", "[I", true)
  | 23 => ("BlushLampsModel", "corners", "[I", true)
  | 24 => ("BlushLampsModel", "streets", "[I", true)
  | 25 => ("BlushLampsModel", "oneOf", "[I", true)
  | 26 => ("BlushLampsModel", "otherOf", "[I", true)
  | 27 => ("BlushLampsModel", "longOf", "[I", true)
  | 28 => ("BlushLampsModel", "youngs", "[I", true)
  | 29 => ("BlushLampsModel", "ageOf", "[I", true)
  | 30 => ("BlushLampsModel", "temperOf", "[I", true)
  | 31 => ("BlushLampsModel", "cornerTold", "[I", true)
  | 32 => ("BlushLampsModel", "wordMany", "[I", true)
  | 33 => ("BlushLampsModel", "heatTold", "[I", true)
  | 34 => ("BlushLampsModel", "lighterTold", "[I", true)
  | 35 => ("BlushLampsModel", "draught", "[I", true)
  | 36 => ("BlushLampsModel", "seed", "[I", true)
  | 37 => ("BlushLampsModel", "lawFirst", "[I", true)
  | 38 => ("BlushLampsModel", "lawLast", "[I", true)
  | 39 => ("BlushLampsModel", "branches", "I", false)
  | 40 => ("BlushLampsModel", "hasTest", "[Z", true)
  | 41 => ("BlushLampsModel", "testFrom", "[I", true)
  | 42 => ("BlushLampsModel", "testMid", "[I", true)
  | 43 => ("BlushLampsModel", "testTo", "[I", true)
  | 44 => ("BlushLampsModel", "termTo", "[I", true)
  | 45 => ("BlushLampsModel", "codes", "I", false)
  | 46 => ("BlushLampsModel", "code", "[I", true)
  | 47 => ("BlushLampsModel", "codeInt", "[I", true)
  | 48 => ("BlushLampsModel", "waits", "[I", true)
  | 49 => ("BlushLampsModel", "waiting", "I", false)
  | 50 => ("BlushLampsModel", "variables", "[I", true)
  | 51 => ("BlushLampsModel", "pile", "[I", true)
  | 52 => ("BlushLampsModel", "isBroken", "Z", false)
  | 53 => ("BlushLampsModel", "now", "[I", true)
  | 54 => ("BlushLampsModel", "row", "[I", true)
  | 55 => ("BlushLampsModel", "lots", "I", false)
  | 56 => ("BlushLampsModel", "isStill", "Z", false)
  | 57 => ("BlushLampsModel", "coolsNow", "[I", true)
  | 58 => ("BlushLampsModel", "leavesNow", "[Z", true)
  | 59 => ("BlushLampsModel", "lights", "[I", true)
  | 60 => ("BlushLampsModel", "undos", "I", false)
  | 61 => ("BlushLampsModel", "history", "[I", true)
  | 62 => ("BlushLampsModel", "bestAt", "[I", true)
  | 63 => ("BlushLampsModel", "farOf", "[I", true)
  | 64 => ("BlushLampsModel", "roundBy", "[I", true)
  | 65 => ("BlushLampsModel", "stepsBy", "[I", true)
  | 66 => ("BlushLampsModel", "tolds", "I", false)
  | 67 => ("BlushLampsModel", "toldWho", "[I", true)
  | 68 => ("BlushLampsModel", "toldBy", "[I", true)
  | 69 => ("BlushLampsModel", "toldSo", "[Z", true)
  | 70 => ("BlushLampsModel", "isHeld", "[Z", true)
  | _ => ("BlushLampsModel", "heldRows", "[I", true)
def tyX10 : Nat → FieldType := fun k => match k with
  | 0 => .int
  | 1 => .array .byte
  | 2 => .int
  | 3 => .array .byte
  | 4 => .int
  | 5 => .array .int
  | 6 => .array .int
  | 7 => .array .int
  | 8 => .array .long
  | 9 => .array .long
  | 10 => .int
  | 11 => .int
  | 12 => .int
  | 13 => .int
  | 14 => .int
  | 15 => .int
  | 16 => .int
  | 17 => .int
  | 18 => .int
  | 19 => .int
  | 20 => .int
  | 21 => .array .long
  | 22 => .array .int
  | 23 => .array .int
  | 24 => .array .int
  | 25 => .array .int
  | 26 => .array .int
  | 27 => .array .int
  | 28 => .array .int
  | 29 => .array .int
  | 30 => .array .int
  | 31 => .array .int
  | 32 => .array .int
  | 33 => .array .int
  | 34 => .array .int
  | 35 => .array .int
  | 36 => .array .int
  | 37 => .array .int
  | 38 => .array .int
  | 39 => .int
  | 40 => .array .boolean
  | 41 => .array .int
  | 42 => .array .int
  | 43 => .array .int
  | 44 => .array .int
  | 45 => .int
  | 46 => .array .int
  | 47 => .array .int
  | 48 => .array .int
  | 49 => .int
  | 50 => .array .int
  | 51 => .array .int
  | 52 => .boolean
  | 53 => .array .int
  | 54 => .array .int
  | 55 => .int
  | 56 => .boolean
  | 57 => .array .int
  | 58 => .array .boolean
  | 59 => .array .int
  | 60 => .int
  | 61 => .array .int
  | 62 => .array .int
  | 63 => .array .int
  | 64 => .array .int
  | 65 => .array .int
  | 66 => .int
  | 67 => .array .int
  | 68 => .array .int
  | 69 => .array .boolean
  | 70 => .array .boolean
  | _ => .array .int
abbrev wsX100 : List Cond := u_ws RX10 TX10 72
set_option maxRecDepth 100000 in
theorem nmX10 : ∀ a, a < 72 → ∀ b, b < 72 → a ≠ b → (TX10 a).2.1 ≠ (TX10 b).2.1 := by decide +kernel
set_option maxRecDepth 100000 in
theorem tyX10_ok : ∀ k, k < 72 → parseFieldDescriptor (TX10 k).2.2.1 = some (tyX10 k) := by decide +kernel
abbrev cX10_init : ByteArray := prog_22_method_2_code
def yX10_init : MethodName := ⟨RX10, "<init>", "()V"⟩
def dkwX10_init_39 : List UInt8 := [16, 111, 16, 108, 16, 100, 3, 3, 3, 184, 0, 174, 80, 42, 182, 0, 178, 42, 182, 0, 181, 177]
abbrev dktX10_init_39 : List UInt8 := dkwX10_init_39 ++ []
def dkwX10_init_38 : List UInt8 := [16, 119, 16, 104, 16, 105, 16, 99, 16, 104, 3, 3, 184, 0, 174, 80, 42, 180, 0, 34, 16, 22, 16, 116]
abbrev dktX10_init_38 : List UInt8 := dkwX10_init_38 ++ dktX10_init_39
def dkwX10_init_37 : List UInt8 := [16, 20, 16, 103, 16, 108, 16, 111, 16, 119, 3, 3, 3, 184, 0, 174, 80, 42, 180, 0, 34, 16, 21]
abbrev dktX10_init_37 : List UInt8 := dkwX10_init_37 ++ dktX10_init_38
def dkwX10_init_36 : List UInt8 := [180, 0, 34, 16, 19, 16, 104, 16, 111, 16, 117, 16, 114, 3, 3, 3, 184, 0, 174, 80, 42, 180, 0, 34]
abbrev dktX10_init_36 : List UInt8 := dkwX10_init_36 ++ dktX10_init_37
def dkwX10_init_35 : List UInt8 := [80, 42, 180, 0, 34, 16, 18, 16, 115, 16, 105, 16, 110, 16, 99, 16, 101, 3, 3, 184, 0, 174, 80, 42]
abbrev dktX10_init_35 : List UInt8 := dkwX10_init_35 ++ dktX10_init_36
def dkwX10_init_34 : List UInt8 := [184, 0, 174, 80, 42, 180, 0, 34, 16, 17, 16, 119, 16, 111, 16, 114, 16, 110, 3, 3, 3, 184, 0, 174]
abbrev dktX10_init_34 : List UInt8 := dkwX10_init_34 ++ dktX10_init_35
def dkwX10_init_33 : List UInt8 := [3, 184, 0, 174, 80, 42, 180, 0, 34, 16, 16, 16, 116, 16, 101, 16, 109, 16, 112, 16, 101, 16, 114, 3]
abbrev dktX10_init_33 : List UInt8 := dkwX10_init_33 ++ dktX10_init_34
def dkwX10_init_32 : List UInt8 := [16, 116, 3, 3, 3, 184, 0, 174, 80, 42, 180, 0, 34, 16, 15, 16, 97, 16, 103, 16, 101, 3, 3, 3]
abbrev dktX10_init_32 : List UInt8 := dkwX10_init_32 ++ dktX10_init_33
def dkwX10_init_31 : List UInt8 := [16, 115, 16, 101, 3, 3, 3, 184, 0, 174, 80, 42, 180, 0, 34, 16, 14, 16, 104, 16, 101, 16, 97]
abbrev dktX10_init_31 : List UInt8 := dkwX10_init_31 ++ dktX10_init_32
def dkwX10_init_30 : List UInt8 := [16, 104, 16, 101, 16, 110, 3, 3, 3, 184, 0, 174, 80, 42, 180, 0, 34, 16, 13, 16, 101, 16, 108]
abbrev dktX10_init_30 : List UInt8 := dkwX10_init_30 ++ dktX10_init_31
def dkwX10_init_29 : List UInt8 := [16, 11, 16, 105, 16, 102, 3, 3, 3, 3, 3, 184, 0, 174, 80, 42, 180, 0, 34, 16, 12, 16, 116]
abbrev dktX10_init_29 : List UInt8 := dkwX10_init_29 ++ dktX10_init_30
def dkwX10_init_28 : List UInt8 := [180, 0, 34, 16, 10, 16, 115, 16, 101, 16, 101, 16, 100, 3, 3, 3, 184, 0, 174, 80, 42, 180, 0, 34]
abbrev dktX10_init_28 : List UInt8 := dkwX10_init_28 ++ dktX10_init_29
def dkwX10_init_27 : List UInt8 := [180, 0, 34, 16, 9, 16, 100, 16, 114, 16, 97, 16, 117, 16, 103, 16, 104, 16, 116, 184, 0, 174, 80, 42]
abbrev dktX10_init_27 : List UInt8 := dkwX10_init_27 ++ dktX10_init_28
def dkwX10_init_26 : List UInt8 := [180, 0, 34, 16, 8, 16, 108, 16, 101, 16, 97, 16, 118, 16, 101, 16, 115, 3, 184, 0, 174, 80, 42]
abbrev dktX10_init_26 : List UInt8 := dkwX10_init_26 ++ dktX10_init_27
def dkwX10_init_25 : List UInt8 := [180, 0, 34, 16, 7, 16, 99, 16, 111, 16, 111, 16, 108, 16, 115, 3, 3, 184, 0, 174, 80, 42]
abbrev dktX10_init_25 : List UInt8 := dkwX10_init_25 ++ dktX10_init_26
def dkwX10_init_24 : List UInt8 := [80, 42, 180, 0, 34, 16, 6, 16, 119, 16, 101, 16, 97, 16, 114, 16, 115, 3, 3, 184, 0, 174, 80, 42]
abbrev dktX10_init_24 : List UInt8 := dkwX10_init_24 ++ dktX10_init_25
def dkwX10_init_23 : List UInt8 := [184, 0, 174, 80, 42, 180, 0, 34, 8, 16, 103, 16, 108, 16, 111, 16, 119, 16, 115, 3, 3, 184, 0, 174]
abbrev dktX10_init_23 : List UInt8 := dkwX10_init_23 ++ dktX10_init_24
def dkwX10_init_22 : List UInt8 := [184, 0, 174, 80, 42, 180, 0, 34, 7, 16, 108, 16, 105, 16, 103, 16, 104, 16, 116, 16, 101, 16, 114]
abbrev dktX10_init_22 : List UInt8 := dkwX10_init_22 ++ dktX10_init_23
def dkwX10_init_21 : List UInt8 := [3, 3, 184, 0, 174, 80, 42, 180, 0, 34, 6, 16, 119, 16, 111, 16, 114, 16, 100, 3, 3, 3]
abbrev dktX10_init_21 : List UInt8 := dkwX10_init_21 ++ dktX10_init_22
def dkwX10_init_20 : List UInt8 := [16, 101, 16, 116, 3, 184, 0, 174, 80, 42, 180, 0, 34, 5, 16, 121, 16, 111, 16, 117, 16, 110, 16, 103]
abbrev dktX10_init_20 : List UInt8 := dkwX10_init_20 ++ dktX10_init_21
def dkwX10_init_19 : List UInt8 := [16, 110, 16, 101, 16, 114, 3, 184, 0, 174, 80, 42, 180, 0, 34, 4, 16, 115, 16, 116, 16, 114, 16, 101]
abbrev dktX10_init_19 : List UInt8 := dkwX10_init_19 ++ dktX10_init_20
def dkwX10_init_18 : List UInt8 := [181, 0, 167, 42, 3, 182, 0, 170, 42, 4, 182, 0, 170, 42, 180, 0, 34, 3, 16, 99, 16, 111, 16, 114]
abbrev dktX10_init_18 : List UInt8 := dkwX10_init_18 ++ dktX10_init_19
def dkwX10_init_17 : List UInt8 := [181, 0, 158, 42, 16, 20, 188, 4, 181, 0, 161, 42, 6, 188, 4, 181, 0, 164, 42, 17, 0, 144, 188, 10]
abbrev dktX10_init_17 : List UInt8 := dkwX10_init_17 ++ dktX10_init_18
def dkwX10_init_16 : List UInt8 := [181, 0, 149, 42, 16, 49, 188, 10, 181, 0, 152, 42, 16, 20, 188, 10, 181, 0, 155, 42, 16, 20, 188, 10]
abbrev dktX10_init_16 : List UInt8 := dkwX10_init_16 ++ dktX10_init_17
def dkwX10_init_15 : List UInt8 := [42, 16, 6, 188, 10, 181, 0, 143, 42, 16, 7, 188, 10, 181, 0, 146, 42, 17, 3, 128, 188, 10]
abbrev dktX10_init_15 : List UInt8 := dkwX10_init_15 ++ dktX10_init_16
def dkwX10_init_14 : List UInt8 := [16, 6, 188, 4, 181, 0, 134, 42, 16, 12, 188, 10, 181, 0, 137, 42, 17, 7, 128, 188, 10, 181, 0, 140]
abbrev dktX10_init_14 : List UInt8 := dkwX10_init_14 ++ dktX10_init_15
def dkwX10_init_13 : List UInt8 := [16, 48, 188, 10, 181, 0, 125, 42, 16, 48, 188, 10, 181, 0, 128, 42, 16, 6, 188, 10, 181, 0, 131, 42]
abbrev dktX10_init_13 : List UInt8 := dkwX10_init_13 ++ dktX10_init_14
def dkwX10_init_12 : List UInt8 := [188, 10, 181, 0, 116, 42, 16, 9, 188, 10, 181, 0, 119, 42, 17, 1, 144, 188, 10, 181, 0, 122, 42]
abbrev dktX10_init_12 : List UInt8 := dkwX10_init_12 ++ dktX10_init_13
def dkwX10_init_11 : List UInt8 := [181, 0, 107, 42, 17, 3, 72, 188, 10, 181, 0, 110, 42, 17, 3, 72, 188, 10, 181, 0, 113, 42, 16, 64]
abbrev dktX10_init_11 : List UInt8 := dkwX10_init_11 ++ dktX10_init_12
def dkwX10_init_10 : List UInt8 := [17, 1, 4, 188, 10, 181, 0, 101, 42, 17, 1, 4, 188, 10, 181, 0, 104, 42, 17, 1, 4, 188, 10]
abbrev dktX10_init_10 : List UInt8 := dkwX10_init_10 ++ dktX10_init_11
def dkwX10_init_9 : List UInt8 := [181, 0, 91, 42, 17, 1, 4, 188, 4, 181, 0, 94, 42, 17, 1, 4, 188, 10, 181, 0, 98, 42]
abbrev dktX10_init_9 : List UInt8 := dkwX10_init_9 ++ dktX10_init_10
def dkwX10_init_8 : List UInt8 := [181, 0, 82, 42, 5, 188, 10, 181, 0, 85, 42, 16, 8, 188, 10, 181, 0, 88, 42, 16, 8, 188, 10]
abbrev dktX10_init_8 : List UInt8 := dkwX10_init_8 ++ dktX10_init_9
def dkwX10_init_7 : List UInt8 := [181, 0, 73, 42, 16, 10, 188, 10, 181, 0, 76, 42, 5, 188, 10, 181, 0, 79, 42, 5, 188, 10]
abbrev dktX10_init_7 : List UInt8 := dkwX10_init_7 ++ dktX10_init_8
def dkwX10_init_6 : List UInt8 := [181, 0, 64, 42, 16, 12, 188, 10, 181, 0, 67, 42, 16, 12, 188, 10, 181, 0, 70, 42, 5, 188, 10]
abbrev dktX10_init_6 : List UInt8 := dkwX10_init_6 ++ dktX10_init_7
def dkwX10_init_5 : List UInt8 := [181, 0, 55, 42, 16, 20, 188, 10, 181, 0, 58, 42, 5, 188, 10, 181, 0, 61, 42, 16, 12, 188, 10]
abbrev dktX10_init_5 : List UInt8 := dkwX10_init_5 ++ dktX10_init_6
def dkwX10_init_4 : List UInt8 := [181, 0, 46, 42, 5, 188, 10, 181, 0, 49, 42, 16, 20, 188, 10, 181, 0, 52, 42, 16, 20, 188, 10]
abbrev dktX10_init_4 : List UInt8 := dkwX10_init_4 ++ dktX10_init_5
def dkwX10_init_3 : List UInt8 := [181, 0, 37, 42, 16, 18, 188, 11, 181, 0, 40, 42, 16, 18, 188, 10, 181, 0, 43, 42, 5, 188, 10]
abbrev dktX10_init_3 : List UInt8 := dkwX10_init_3 ++ dktX10_init_4
def dkwX10_init_2 : List UInt8 := [181, 0, 27, 42, 17, 1, 147, 188, 11, 181, 0, 30, 42, 16, 23, 188, 11, 181, 0, 34, 42, 2]
abbrev dktX10_init_2 : List UInt8 := dkwX10_init_2 ++ dktX10_init_3
def dkwX10_init_1 : List UInt8 := [17, 1, 147, 188, 10, 181, 0, 20, 42, 17, 1, 147, 188, 10, 181, 0, 24, 42, 17, 1, 147, 188, 10]
abbrev dktX10_init_1 : List UInt8 := dkwX10_init_1 ++ dktX10_init_2
def dkwX10_init_0 : List UInt8 := [42, 183, 0, 7, 42, 17, 7, 208, 188, 8, 181, 0, 13, 42, 17, 7, 208, 188, 8, 181, 0, 17, 42]
abbrev dktX10_init_0 : List UInt8 := dkwX10_init_0 ++ dktX10_init_1
theorem dksX10_init_0 : cX10_init.data.toList.drop 0 = dktX10_init_0 := by decide +kernel
theorem dksX10_init_1 : cX10_init.data.toList.drop 23 = dktX10_init_1 := dk_seg dksX10_init_0 23 rfl rfl
theorem dksX10_init_2 : cX10_init.data.toList.drop 46 = dktX10_init_2 := dk_seg dksX10_init_1 23 rfl rfl
theorem dksX10_init_3 : cX10_init.data.toList.drop 68 = dktX10_init_3 := dk_seg dksX10_init_2 22 rfl rfl
theorem dksX10_init_4 : cX10_init.data.toList.drop 91 = dktX10_init_4 := dk_seg dksX10_init_3 23 rfl rfl
theorem dksX10_init_5 : cX10_init.data.toList.drop 114 = dktX10_init_5 := dk_seg dksX10_init_4 23 rfl rfl
theorem dksX10_init_6 : cX10_init.data.toList.drop 137 = dktX10_init_6 := dk_seg dksX10_init_5 23 rfl rfl
theorem dksX10_init_7 : cX10_init.data.toList.drop 160 = dktX10_init_7 := dk_seg dksX10_init_6 23 rfl rfl
theorem dksX10_init_8 : cX10_init.data.toList.drop 182 = dktX10_init_8 := dk_seg dksX10_init_7 22 rfl rfl
theorem dksX10_init_9 : cX10_init.data.toList.drop 205 = dktX10_init_9 := dk_seg dksX10_init_8 23 rfl rfl
theorem dksX10_init_10 : cX10_init.data.toList.drop 227 = dktX10_init_10 := dk_seg dksX10_init_9 22 rfl rfl
theorem dksX10_init_11 : cX10_init.data.toList.drop 250 = dktX10_init_11 := dk_seg dksX10_init_10 23 rfl rfl
theorem dksX10_init_12 : cX10_init.data.toList.drop 274 = dktX10_init_12 := dk_seg dksX10_init_11 24 rfl rfl
theorem dksX10_init_13 : cX10_init.data.toList.drop 297 = dktX10_init_13 := dk_seg dksX10_init_12 23 rfl rfl
theorem dksX10_init_14 : cX10_init.data.toList.drop 321 = dktX10_init_14 := dk_seg dksX10_init_13 24 rfl rfl
theorem dksX10_init_15 : cX10_init.data.toList.drop 345 = dktX10_init_15 := dk_seg dksX10_init_14 24 rfl rfl
theorem dksX10_init_16 : cX10_init.data.toList.drop 367 = dktX10_init_16 := dk_seg dksX10_init_15 22 rfl rfl
theorem dksX10_init_17 : cX10_init.data.toList.drop 391 = dktX10_init_17 := dk_seg dksX10_init_16 24 rfl rfl
theorem dksX10_init_18 : cX10_init.data.toList.drop 415 = dktX10_init_18 := dk_seg dksX10_init_17 24 rfl rfl
theorem dksX10_init_19 : cX10_init.data.toList.drop 439 = dktX10_init_19 := dk_seg dksX10_init_18 24 rfl rfl
theorem dksX10_init_20 : cX10_init.data.toList.drop 463 = dktX10_init_20 := dk_seg dksX10_init_19 24 rfl rfl
theorem dksX10_init_21 : cX10_init.data.toList.drop 487 = dktX10_init_21 := dk_seg dksX10_init_20 24 rfl rfl
theorem dksX10_init_22 : cX10_init.data.toList.drop 509 = dktX10_init_22 := dk_seg dksX10_init_21 22 rfl rfl
theorem dksX10_init_23 : cX10_init.data.toList.drop 532 = dktX10_init_23 := dk_seg dksX10_init_22 23 rfl rfl
theorem dksX10_init_24 : cX10_init.data.toList.drop 556 = dktX10_init_24 := dk_seg dksX10_init_23 24 rfl rfl
theorem dksX10_init_25 : cX10_init.data.toList.drop 580 = dktX10_init_25 := dk_seg dksX10_init_24 24 rfl rfl
theorem dksX10_init_26 : cX10_init.data.toList.drop 602 = dktX10_init_26 := dk_seg dksX10_init_25 22 rfl rfl
theorem dksX10_init_27 : cX10_init.data.toList.drop 625 = dktX10_init_27 := dk_seg dksX10_init_26 23 rfl rfl
theorem dksX10_init_28 : cX10_init.data.toList.drop 649 = dktX10_init_28 := dk_seg dksX10_init_27 24 rfl rfl
theorem dksX10_init_29 : cX10_init.data.toList.drop 673 = dktX10_init_29 := dk_seg dksX10_init_28 24 rfl rfl
theorem dksX10_init_30 : cX10_init.data.toList.drop 696 = dktX10_init_30 := dk_seg dksX10_init_29 23 rfl rfl
theorem dksX10_init_31 : cX10_init.data.toList.drop 719 = dktX10_init_31 := dk_seg dksX10_init_30 23 rfl rfl
theorem dksX10_init_32 : cX10_init.data.toList.drop 742 = dktX10_init_32 := dk_seg dksX10_init_31 23 rfl rfl
theorem dksX10_init_33 : cX10_init.data.toList.drop 766 = dktX10_init_33 := dk_seg dksX10_init_32 24 rfl rfl
theorem dksX10_init_34 : cX10_init.data.toList.drop 790 = dktX10_init_34 := dk_seg dksX10_init_33 24 rfl rfl
theorem dksX10_init_35 : cX10_init.data.toList.drop 814 = dktX10_init_35 := dk_seg dksX10_init_34 24 rfl rfl
theorem dksX10_init_36 : cX10_init.data.toList.drop 838 = dktX10_init_36 := dk_seg dksX10_init_35 24 rfl rfl
theorem dksX10_init_37 : cX10_init.data.toList.drop 862 = dktX10_init_37 := dk_seg dksX10_init_36 24 rfl rfl
theorem dksX10_init_38 : cX10_init.data.toList.drop 885 = dktX10_init_38 := dk_seg dksX10_init_37 23 rfl rfl
theorem dksX10_init_39 : cX10_init.data.toList.drop 909 = dktX10_init_39 := dk_seg dksX10_init_38 24 rfl rfl
theorem dX10_init_0 : decode cX10_init 0 = .ok (.aload_n 0, 1) := dk_42 (dk_at dksX10_init_0 0 rfl rfl)
theorem dX10_init_1 : decode cX10_init 1 = .ok (.invokespecial 7, 3) := dk_183 0 7 (dk_at dksX10_init_0 1 rfl rfl)
theorem dX10_init_4 : decode cX10_init 4 = .ok (.aload_n 0, 1) := dk_42 (dk_at dksX10_init_0 4 rfl rfl)
theorem dX10_init_5 : decode cX10_init 5 = .ok (.sipush 2000, 3) := dk_17 7 208 (dk_at dksX10_init_0 5 rfl rfl)
theorem dX10_init_8 : decode cX10_init 8 = .ok (.newarray .byte, 2) := dk_188_8 (dk_at dksX10_init_0 8 rfl rfl)
theorem dX10_init_10 : decode cX10_init 10 = .ok (.putfield 13, 3) := dk_181 0 13 (dk_at dksX10_init_0 10 rfl rfl)
theorem dX10_init_13 : decode cX10_init 13 = .ok (.aload_n 0, 1) := dk_42 (dk_at dksX10_init_0 13 rfl rfl)
theorem dX10_init_14 : decode cX10_init 14 = .ok (.sipush 2000, 3) := dk_17 7 208 (dk_at dksX10_init_0 14 rfl rfl)
theorem dX10_init_17 : decode cX10_init 17 = .ok (.newarray .byte, 2) := dk_188_8 (dk_at dksX10_init_0 17 rfl rfl)
theorem dX10_init_19 : decode cX10_init 19 = .ok (.putfield 17, 3) := dk_181 0 17 (dk_at dksX10_init_0 19 rfl rfl)
theorem dX10_init_22 : decode cX10_init 22 = .ok (.aload_n 0, 1) := dk_42 (dk_at dksX10_init_0 22 rfl rfl)
theorem dX10_init_23 : decode cX10_init 23 = .ok (.sipush 403, 3) := dk_17 1 147 (dk_at dksX10_init_1 0 rfl rfl)
theorem dX10_init_26 : decode cX10_init 26 = .ok (.newarray .int, 2) := dk_188_10 (dk_at dksX10_init_1 3 rfl rfl)
theorem dX10_init_28 : decode cX10_init 28 = .ok (.putfield 20, 3) := dk_181 0 20 (dk_at dksX10_init_1 5 rfl rfl)
theorem dX10_init_31 : decode cX10_init 31 = .ok (.aload_n 0, 1) := dk_42 (dk_at dksX10_init_1 8 rfl rfl)
theorem dX10_init_32 : decode cX10_init 32 = .ok (.sipush 403, 3) := dk_17 1 147 (dk_at dksX10_init_1 9 rfl rfl)
theorem dX10_init_35 : decode cX10_init 35 = .ok (.newarray .int, 2) := dk_188_10 (dk_at dksX10_init_1 12 rfl rfl)
theorem dX10_init_37 : decode cX10_init 37 = .ok (.putfield 24, 3) := dk_181 0 24 (dk_at dksX10_init_1 14 rfl rfl)
theorem dX10_init_40 : decode cX10_init 40 = .ok (.aload_n 0, 1) := dk_42 (dk_at dksX10_init_1 17 rfl rfl)
theorem dX10_init_41 : decode cX10_init 41 = .ok (.sipush 403, 3) := dk_17 1 147 (dk_at dksX10_init_1 18 rfl rfl)
theorem dX10_init_44 : decode cX10_init 44 = .ok (.newarray .int, 2) := dk_188_10 (dk_at dksX10_init_1 21 rfl rfl)
theorem dX10_init_46 : decode cX10_init 46 = .ok (.putfield 27, 3) := dk_181 0 27 (dk_at dksX10_init_2 0 rfl rfl)
theorem dX10_init_49 : decode cX10_init 49 = .ok (.aload_n 0, 1) := dk_42 (dk_at dksX10_init_2 3 rfl rfl)
theorem dX10_init_50 : decode cX10_init 50 = .ok (.sipush 403, 3) := dk_17 1 147 (dk_at dksX10_init_2 4 rfl rfl)
theorem dX10_init_53 : decode cX10_init 53 = .ok (.newarray .long, 2) := dk_188_11 (dk_at dksX10_init_2 7 rfl rfl)
theorem dX10_init_55 : decode cX10_init 55 = .ok (.putfield 30, 3) := dk_181 0 30 (dk_at dksX10_init_2 9 rfl rfl)
theorem dX10_init_58 : decode cX10_init 58 = .ok (.aload_n 0, 1) := dk_42 (dk_at dksX10_init_2 12 rfl rfl)
theorem dX10_init_59 : decode cX10_init 59 = .ok (.bipush 23, 2) := dk_16 23 (dk_at dksX10_init_2 13 rfl rfl)
theorem dX10_init_61 : decode cX10_init 61 = .ok (.newarray .long, 2) := dk_188_11 (dk_at dksX10_init_2 15 rfl rfl)
theorem dX10_init_63 : decode cX10_init 63 = .ok (.putfield 34, 3) := dk_181 0 34 (dk_at dksX10_init_2 17 rfl rfl)
theorem dX10_init_66 : decode cX10_init 66 = .ok (.aload_n 0, 1) := dk_42 (dk_at dksX10_init_2 20 rfl rfl)
theorem dX10_init_67 : decode cX10_init 67 = .ok (.iconst (-1), 1) := dk_2 (dk_at dksX10_init_2 21 rfl rfl)
theorem dX10_init_68 : decode cX10_init 68 = .ok (.putfield 37, 3) := dk_181 0 37 (dk_at dksX10_init_3 0 rfl rfl)
theorem dX10_init_71 : decode cX10_init 71 = .ok (.aload_n 0, 1) := dk_42 (dk_at dksX10_init_3 3 rfl rfl)
theorem dX10_init_72 : decode cX10_init 72 = .ok (.bipush 18, 2) := dk_16 18 (dk_at dksX10_init_3 4 rfl rfl)
theorem dX10_init_74 : decode cX10_init 74 = .ok (.newarray .long, 2) := dk_188_11 (dk_at dksX10_init_3 6 rfl rfl)
theorem dX10_init_76 : decode cX10_init 76 = .ok (.putfield 40, 3) := dk_181 0 40 (dk_at dksX10_init_3 8 rfl rfl)
theorem dX10_init_79 : decode cX10_init 79 = .ok (.aload_n 0, 1) := dk_42 (dk_at dksX10_init_3 11 rfl rfl)
theorem dX10_init_80 : decode cX10_init 80 = .ok (.bipush 18, 2) := dk_16 18 (dk_at dksX10_init_3 12 rfl rfl)
theorem dX10_init_82 : decode cX10_init 82 = .ok (.newarray .int, 2) := dk_188_10 (dk_at dksX10_init_3 14 rfl rfl)
theorem dX10_init_84 : decode cX10_init 84 = .ok (.putfield 43, 3) := dk_181 0 43 (dk_at dksX10_init_3 16 rfl rfl)
theorem dX10_init_87 : decode cX10_init 87 = .ok (.aload_n 0, 1) := dk_42 (dk_at dksX10_init_3 19 rfl rfl)
theorem dX10_init_88 : decode cX10_init 88 = .ok (.iconst 2, 1) := dk_5 (dk_at dksX10_init_3 20 rfl rfl)
theorem dX10_init_89 : decode cX10_init 89 = .ok (.newarray .int, 2) := dk_188_10 (dk_at dksX10_init_3 21 rfl rfl)
theorem dX10_init_91 : decode cX10_init 91 = .ok (.putfield 46, 3) := dk_181 0 46 (dk_at dksX10_init_4 0 rfl rfl)
theorem dX10_init_94 : decode cX10_init 94 = .ok (.aload_n 0, 1) := dk_42 (dk_at dksX10_init_4 3 rfl rfl)
theorem dX10_init_95 : decode cX10_init 95 = .ok (.iconst 2, 1) := dk_5 (dk_at dksX10_init_4 4 rfl rfl)
theorem dX10_init_96 : decode cX10_init 96 = .ok (.newarray .int, 2) := dk_188_10 (dk_at dksX10_init_4 5 rfl rfl)
theorem dX10_init_98 : decode cX10_init 98 = .ok (.putfield 49, 3) := dk_181 0 49 (dk_at dksX10_init_4 7 rfl rfl)
theorem dX10_init_101 : decode cX10_init 101 = .ok (.aload_n 0, 1) := dk_42 (dk_at dksX10_init_4 10 rfl rfl)
theorem dX10_init_102 : decode cX10_init 102 = .ok (.bipush 20, 2) := dk_16 20 (dk_at dksX10_init_4 11 rfl rfl)
theorem dX10_init_104 : decode cX10_init 104 = .ok (.newarray .int, 2) := dk_188_10 (dk_at dksX10_init_4 13 rfl rfl)
theorem dX10_init_106 : decode cX10_init 106 = .ok (.putfield 52, 3) := dk_181 0 52 (dk_at dksX10_init_4 15 rfl rfl)
theorem dX10_init_109 : decode cX10_init 109 = .ok (.aload_n 0, 1) := dk_42 (dk_at dksX10_init_4 18 rfl rfl)
theorem dX10_init_110 : decode cX10_init 110 = .ok (.bipush 20, 2) := dk_16 20 (dk_at dksX10_init_4 19 rfl rfl)
theorem dX10_init_112 : decode cX10_init 112 = .ok (.newarray .int, 2) := dk_188_10 (dk_at dksX10_init_4 21 rfl rfl)
theorem dX10_init_114 : decode cX10_init 114 = .ok (.putfield 55, 3) := dk_181 0 55 (dk_at dksX10_init_5 0 rfl rfl)
theorem dX10_init_117 : decode cX10_init 117 = .ok (.aload_n 0, 1) := dk_42 (dk_at dksX10_init_5 3 rfl rfl)
theorem dX10_init_118 : decode cX10_init 118 = .ok (.bipush 20, 2) := dk_16 20 (dk_at dksX10_init_5 4 rfl rfl)
theorem dX10_init_120 : decode cX10_init 120 = .ok (.newarray .int, 2) := dk_188_10 (dk_at dksX10_init_5 6 rfl rfl)
theorem dX10_init_122 : decode cX10_init 122 = .ok (.putfield 58, 3) := dk_181 0 58 (dk_at dksX10_init_5 8 rfl rfl)
theorem dX10_init_125 : decode cX10_init 125 = .ok (.aload_n 0, 1) := dk_42 (dk_at dksX10_init_5 11 rfl rfl)
theorem dX10_init_126 : decode cX10_init 126 = .ok (.iconst 2, 1) := dk_5 (dk_at dksX10_init_5 12 rfl rfl)
theorem dX10_init_127 : decode cX10_init 127 = .ok (.newarray .int, 2) := dk_188_10 (dk_at dksX10_init_5 13 rfl rfl)
theorem dX10_init_129 : decode cX10_init 129 = .ok (.putfield 61, 3) := dk_181 0 61 (dk_at dksX10_init_5 15 rfl rfl)
theorem dX10_init_132 : decode cX10_init 132 = .ok (.aload_n 0, 1) := dk_42 (dk_at dksX10_init_5 18 rfl rfl)
theorem dX10_init_133 : decode cX10_init 133 = .ok (.bipush 12, 2) := dk_16 12 (dk_at dksX10_init_5 19 rfl rfl)
theorem dX10_init_135 : decode cX10_init 135 = .ok (.newarray .int, 2) := dk_188_10 (dk_at dksX10_init_5 21 rfl rfl)
theorem dX10_init_137 : decode cX10_init 137 = .ok (.putfield 64, 3) := dk_181 0 64 (dk_at dksX10_init_6 0 rfl rfl)
theorem dX10_init_140 : decode cX10_init 140 = .ok (.aload_n 0, 1) := dk_42 (dk_at dksX10_init_6 3 rfl rfl)
theorem dX10_init_141 : decode cX10_init 141 = .ok (.bipush 12, 2) := dk_16 12 (dk_at dksX10_init_6 4 rfl rfl)
theorem dX10_init_143 : decode cX10_init 143 = .ok (.newarray .int, 2) := dk_188_10 (dk_at dksX10_init_6 6 rfl rfl)
theorem dX10_init_145 : decode cX10_init 145 = .ok (.putfield 67, 3) := dk_181 0 67 (dk_at dksX10_init_6 8 rfl rfl)
theorem dX10_init_148 : decode cX10_init 148 = .ok (.aload_n 0, 1) := dk_42 (dk_at dksX10_init_6 11 rfl rfl)
theorem dX10_init_149 : decode cX10_init 149 = .ok (.bipush 12, 2) := dk_16 12 (dk_at dksX10_init_6 12 rfl rfl)
theorem dX10_init_151 : decode cX10_init 151 = .ok (.newarray .int, 2) := dk_188_10 (dk_at dksX10_init_6 14 rfl rfl)
theorem dX10_init_153 : decode cX10_init 153 = .ok (.putfield 70, 3) := dk_181 0 70 (dk_at dksX10_init_6 16 rfl rfl)
theorem dX10_init_156 : decode cX10_init 156 = .ok (.aload_n 0, 1) := dk_42 (dk_at dksX10_init_6 19 rfl rfl)
theorem dX10_init_157 : decode cX10_init 157 = .ok (.iconst 2, 1) := dk_5 (dk_at dksX10_init_6 20 rfl rfl)
theorem dX10_init_158 : decode cX10_init 158 = .ok (.newarray .int, 2) := dk_188_10 (dk_at dksX10_init_6 21 rfl rfl)
theorem dX10_init_160 : decode cX10_init 160 = .ok (.putfield 73, 3) := dk_181 0 73 (dk_at dksX10_init_7 0 rfl rfl)
theorem dX10_init_163 : decode cX10_init 163 = .ok (.aload_n 0, 1) := dk_42 (dk_at dksX10_init_7 3 rfl rfl)
theorem dX10_init_164 : decode cX10_init 164 = .ok (.bipush 10, 2) := dk_16 10 (dk_at dksX10_init_7 4 rfl rfl)
theorem dX10_init_166 : decode cX10_init 166 = .ok (.newarray .int, 2) := dk_188_10 (dk_at dksX10_init_7 6 rfl rfl)
theorem dX10_init_168 : decode cX10_init 168 = .ok (.putfield 76, 3) := dk_181 0 76 (dk_at dksX10_init_7 8 rfl rfl)
theorem dX10_init_171 : decode cX10_init 171 = .ok (.aload_n 0, 1) := dk_42 (dk_at dksX10_init_7 11 rfl rfl)
theorem dX10_init_172 : decode cX10_init 172 = .ok (.iconst 2, 1) := dk_5 (dk_at dksX10_init_7 12 rfl rfl)
theorem dX10_init_173 : decode cX10_init 173 = .ok (.newarray .int, 2) := dk_188_10 (dk_at dksX10_init_7 13 rfl rfl)
theorem dX10_init_175 : decode cX10_init 175 = .ok (.putfield 79, 3) := dk_181 0 79 (dk_at dksX10_init_7 15 rfl rfl)
theorem dX10_init_178 : decode cX10_init 178 = .ok (.aload_n 0, 1) := dk_42 (dk_at dksX10_init_7 18 rfl rfl)
theorem dX10_init_179 : decode cX10_init 179 = .ok (.iconst 2, 1) := dk_5 (dk_at dksX10_init_7 19 rfl rfl)
theorem dX10_init_180 : decode cX10_init 180 = .ok (.newarray .int, 2) := dk_188_10 (dk_at dksX10_init_7 20 rfl rfl)
theorem dX10_init_182 : decode cX10_init 182 = .ok (.putfield 82, 3) := dk_181 0 82 (dk_at dksX10_init_8 0 rfl rfl)
theorem dX10_init_185 : decode cX10_init 185 = .ok (.aload_n 0, 1) := dk_42 (dk_at dksX10_init_8 3 rfl rfl)
theorem dX10_init_186 : decode cX10_init 186 = .ok (.iconst 2, 1) := dk_5 (dk_at dksX10_init_8 4 rfl rfl)
theorem dX10_init_187 : decode cX10_init 187 = .ok (.newarray .int, 2) := dk_188_10 (dk_at dksX10_init_8 5 rfl rfl)
theorem dX10_init_189 : decode cX10_init 189 = .ok (.putfield 85, 3) := dk_181 0 85 (dk_at dksX10_init_8 7 rfl rfl)
theorem dX10_init_192 : decode cX10_init 192 = .ok (.aload_n 0, 1) := dk_42 (dk_at dksX10_init_8 10 rfl rfl)
theorem dX10_init_193 : decode cX10_init 193 = .ok (.bipush 8, 2) := dk_16 8 (dk_at dksX10_init_8 11 rfl rfl)
theorem dX10_init_195 : decode cX10_init 195 = .ok (.newarray .int, 2) := dk_188_10 (dk_at dksX10_init_8 13 rfl rfl)
theorem dX10_init_197 : decode cX10_init 197 = .ok (.putfield 88, 3) := dk_181 0 88 (dk_at dksX10_init_8 15 rfl rfl)
theorem dX10_init_200 : decode cX10_init 200 = .ok (.aload_n 0, 1) := dk_42 (dk_at dksX10_init_8 18 rfl rfl)
theorem dX10_init_201 : decode cX10_init 201 = .ok (.bipush 8, 2) := dk_16 8 (dk_at dksX10_init_8 19 rfl rfl)
theorem dX10_init_203 : decode cX10_init 203 = .ok (.newarray .int, 2) := dk_188_10 (dk_at dksX10_init_8 21 rfl rfl)
theorem dX10_init_205 : decode cX10_init 205 = .ok (.putfield 91, 3) := dk_181 0 91 (dk_at dksX10_init_9 0 rfl rfl)
theorem dX10_init_208 : decode cX10_init 208 = .ok (.aload_n 0, 1) := dk_42 (dk_at dksX10_init_9 3 rfl rfl)
theorem dX10_init_209 : decode cX10_init 209 = .ok (.sipush 260, 3) := dk_17 1 4 (dk_at dksX10_init_9 4 rfl rfl)
theorem dX10_init_212 : decode cX10_init 212 = .ok (.newarray .boolean, 2) := dk_188_4 (dk_at dksX10_init_9 7 rfl rfl)
theorem dX10_init_214 : decode cX10_init 214 = .ok (.putfield 94, 3) := dk_181 0 94 (dk_at dksX10_init_9 9 rfl rfl)
theorem dX10_init_217 : decode cX10_init 217 = .ok (.aload_n 0, 1) := dk_42 (dk_at dksX10_init_9 12 rfl rfl)
theorem dX10_init_218 : decode cX10_init 218 = .ok (.sipush 260, 3) := dk_17 1 4 (dk_at dksX10_init_9 13 rfl rfl)
theorem dX10_init_221 : decode cX10_init 221 = .ok (.newarray .int, 2) := dk_188_10 (dk_at dksX10_init_9 16 rfl rfl)
theorem dX10_init_223 : decode cX10_init 223 = .ok (.putfield 98, 3) := dk_181 0 98 (dk_at dksX10_init_9 18 rfl rfl)
theorem dX10_init_226 : decode cX10_init 226 = .ok (.aload_n 0, 1) := dk_42 (dk_at dksX10_init_9 21 rfl rfl)
theorem dX10_init_227 : decode cX10_init 227 = .ok (.sipush 260, 3) := dk_17 1 4 (dk_at dksX10_init_10 0 rfl rfl)
theorem dX10_init_230 : decode cX10_init 230 = .ok (.newarray .int, 2) := dk_188_10 (dk_at dksX10_init_10 3 rfl rfl)
theorem dX10_init_232 : decode cX10_init 232 = .ok (.putfield 101, 3) := dk_181 0 101 (dk_at dksX10_init_10 5 rfl rfl)
theorem dX10_init_235 : decode cX10_init 235 = .ok (.aload_n 0, 1) := dk_42 (dk_at dksX10_init_10 8 rfl rfl)
theorem dX10_init_236 : decode cX10_init 236 = .ok (.sipush 260, 3) := dk_17 1 4 (dk_at dksX10_init_10 9 rfl rfl)
theorem dX10_init_239 : decode cX10_init 239 = .ok (.newarray .int, 2) := dk_188_10 (dk_at dksX10_init_10 12 rfl rfl)
theorem dX10_init_241 : decode cX10_init 241 = .ok (.putfield 104, 3) := dk_181 0 104 (dk_at dksX10_init_10 14 rfl rfl)
theorem dX10_init_244 : decode cX10_init 244 = .ok (.aload_n 0, 1) := dk_42 (dk_at dksX10_init_10 17 rfl rfl)
theorem dX10_init_245 : decode cX10_init 245 = .ok (.sipush 260, 3) := dk_17 1 4 (dk_at dksX10_init_10 18 rfl rfl)
theorem dX10_init_248 : decode cX10_init 248 = .ok (.newarray .int, 2) := dk_188_10 (dk_at dksX10_init_10 21 rfl rfl)
theorem dX10_init_250 : decode cX10_init 250 = .ok (.putfield 107, 3) := dk_181 0 107 (dk_at dksX10_init_11 0 rfl rfl)
theorem dX10_init_253 : decode cX10_init 253 = .ok (.aload_n 0, 1) := dk_42 (dk_at dksX10_init_11 3 rfl rfl)
theorem dX10_init_254 : decode cX10_init 254 = .ok (.sipush 840, 3) := dk_17 3 72 (dk_at dksX10_init_11 4 rfl rfl)
theorem dX10_init_257 : decode cX10_init 257 = .ok (.newarray .int, 2) := dk_188_10 (dk_at dksX10_init_11 7 rfl rfl)
theorem dX10_init_259 : decode cX10_init 259 = .ok (.putfield 110, 3) := dk_181 0 110 (dk_at dksX10_init_11 9 rfl rfl)
theorem dX10_init_262 : decode cX10_init 262 = .ok (.aload_n 0, 1) := dk_42 (dk_at dksX10_init_11 12 rfl rfl)
theorem dX10_init_263 : decode cX10_init 263 = .ok (.sipush 840, 3) := dk_17 3 72 (dk_at dksX10_init_11 13 rfl rfl)
theorem dX10_init_266 : decode cX10_init 266 = .ok (.newarray .int, 2) := dk_188_10 (dk_at dksX10_init_11 16 rfl rfl)
theorem dX10_init_268 : decode cX10_init 268 = .ok (.putfield 113, 3) := dk_181 0 113 (dk_at dksX10_init_11 18 rfl rfl)
theorem dX10_init_271 : decode cX10_init 271 = .ok (.aload_n 0, 1) := dk_42 (dk_at dksX10_init_11 21 rfl rfl)
theorem dX10_init_272 : decode cX10_init 272 = .ok (.bipush 64, 2) := dk_16 64 (dk_at dksX10_init_11 22 rfl rfl)
theorem dX10_init_274 : decode cX10_init 274 = .ok (.newarray .int, 2) := dk_188_10 (dk_at dksX10_init_12 0 rfl rfl)
theorem dX10_init_276 : decode cX10_init 276 = .ok (.putfield 116, 3) := dk_181 0 116 (dk_at dksX10_init_12 2 rfl rfl)
theorem dX10_init_279 : decode cX10_init 279 = .ok (.aload_n 0, 1) := dk_42 (dk_at dksX10_init_12 5 rfl rfl)
theorem dX10_init_280 : decode cX10_init 280 = .ok (.bipush 9, 2) := dk_16 9 (dk_at dksX10_init_12 6 rfl rfl)
theorem dX10_init_282 : decode cX10_init 282 = .ok (.newarray .int, 2) := dk_188_10 (dk_at dksX10_init_12 8 rfl rfl)
theorem dX10_init_284 : decode cX10_init 284 = .ok (.putfield 119, 3) := dk_181 0 119 (dk_at dksX10_init_12 10 rfl rfl)
theorem dX10_init_287 : decode cX10_init 287 = .ok (.aload_n 0, 1) := dk_42 (dk_at dksX10_init_12 13 rfl rfl)
theorem dX10_init_288 : decode cX10_init 288 = .ok (.sipush 400, 3) := dk_17 1 144 (dk_at dksX10_init_12 14 rfl rfl)
theorem dX10_init_291 : decode cX10_init 291 = .ok (.newarray .int, 2) := dk_188_10 (dk_at dksX10_init_12 17 rfl rfl)
theorem dX10_init_293 : decode cX10_init 293 = .ok (.putfield 122, 3) := dk_181 0 122 (dk_at dksX10_init_12 19 rfl rfl)
theorem dX10_init_296 : decode cX10_init 296 = .ok (.aload_n 0, 1) := dk_42 (dk_at dksX10_init_12 22 rfl rfl)
theorem dX10_init_297 : decode cX10_init 297 = .ok (.bipush 48, 2) := dk_16 48 (dk_at dksX10_init_13 0 rfl rfl)
theorem dX10_init_299 : decode cX10_init 299 = .ok (.newarray .int, 2) := dk_188_10 (dk_at dksX10_init_13 2 rfl rfl)
theorem dX10_init_301 : decode cX10_init 301 = .ok (.putfield 125, 3) := dk_181 0 125 (dk_at dksX10_init_13 4 rfl rfl)
theorem dX10_init_304 : decode cX10_init 304 = .ok (.aload_n 0, 1) := dk_42 (dk_at dksX10_init_13 7 rfl rfl)
theorem dX10_init_305 : decode cX10_init 305 = .ok (.bipush 48, 2) := dk_16 48 (dk_at dksX10_init_13 8 rfl rfl)
theorem dX10_init_307 : decode cX10_init 307 = .ok (.newarray .int, 2) := dk_188_10 (dk_at dksX10_init_13 10 rfl rfl)
theorem dX10_init_309 : decode cX10_init 309 = .ok (.putfield 128, 3) := dk_181 0 128 (dk_at dksX10_init_13 12 rfl rfl)
theorem dX10_init_312 : decode cX10_init 312 = .ok (.aload_n 0, 1) := dk_42 (dk_at dksX10_init_13 15 rfl rfl)
theorem dX10_init_313 : decode cX10_init 313 = .ok (.bipush 6, 2) := dk_16 6 (dk_at dksX10_init_13 16 rfl rfl)
theorem dX10_init_315 : decode cX10_init 315 = .ok (.newarray .int, 2) := dk_188_10 (dk_at dksX10_init_13 18 rfl rfl)
theorem dX10_init_317 : decode cX10_init 317 = .ok (.putfield 131, 3) := dk_181 0 131 (dk_at dksX10_init_13 20 rfl rfl)
theorem dX10_init_320 : decode cX10_init 320 = .ok (.aload_n 0, 1) := dk_42 (dk_at dksX10_init_13 23 rfl rfl)
theorem dX10_init_321 : decode cX10_init 321 = .ok (.bipush 6, 2) := dk_16 6 (dk_at dksX10_init_14 0 rfl rfl)
theorem dX10_init_323 : decode cX10_init 323 = .ok (.newarray .boolean, 2) := dk_188_4 (dk_at dksX10_init_14 2 rfl rfl)
theorem dX10_init_325 : decode cX10_init 325 = .ok (.putfield 134, 3) := dk_181 0 134 (dk_at dksX10_init_14 4 rfl rfl)
theorem dX10_init_328 : decode cX10_init 328 = .ok (.aload_n 0, 1) := dk_42 (dk_at dksX10_init_14 7 rfl rfl)
theorem dX10_init_329 : decode cX10_init 329 = .ok (.bipush 12, 2) := dk_16 12 (dk_at dksX10_init_14 8 rfl rfl)
theorem dX10_init_331 : decode cX10_init 331 = .ok (.newarray .int, 2) := dk_188_10 (dk_at dksX10_init_14 10 rfl rfl)
theorem dX10_init_333 : decode cX10_init 333 = .ok (.putfield 137, 3) := dk_181 0 137 (dk_at dksX10_init_14 12 rfl rfl)
theorem dX10_init_336 : decode cX10_init 336 = .ok (.aload_n 0, 1) := dk_42 (dk_at dksX10_init_14 15 rfl rfl)
theorem dX10_init_337 : decode cX10_init 337 = .ok (.sipush 1920, 3) := dk_17 7 128 (dk_at dksX10_init_14 16 rfl rfl)
theorem dX10_init_340 : decode cX10_init 340 = .ok (.newarray .int, 2) := dk_188_10 (dk_at dksX10_init_14 19 rfl rfl)
theorem dX10_init_342 : decode cX10_init 342 = .ok (.putfield 140, 3) := dk_181 0 140 (dk_at dksX10_init_14 21 rfl rfl)
theorem dX10_init_345 : decode cX10_init 345 = .ok (.aload_n 0, 1) := dk_42 (dk_at dksX10_init_15 0 rfl rfl)
theorem dX10_init_346 : decode cX10_init 346 = .ok (.bipush 6, 2) := dk_16 6 (dk_at dksX10_init_15 1 rfl rfl)
theorem dX10_init_348 : decode cX10_init 348 = .ok (.newarray .int, 2) := dk_188_10 (dk_at dksX10_init_15 3 rfl rfl)
theorem dX10_init_350 : decode cX10_init 350 = .ok (.putfield 143, 3) := dk_181 0 143 (dk_at dksX10_init_15 5 rfl rfl)
theorem dX10_init_353 : decode cX10_init 353 = .ok (.aload_n 0, 1) := dk_42 (dk_at dksX10_init_15 8 rfl rfl)
theorem dX10_init_354 : decode cX10_init 354 = .ok (.bipush 7, 2) := dk_16 7 (dk_at dksX10_init_15 9 rfl rfl)
theorem dX10_init_356 : decode cX10_init 356 = .ok (.newarray .int, 2) := dk_188_10 (dk_at dksX10_init_15 11 rfl rfl)
theorem dX10_init_358 : decode cX10_init 358 = .ok (.putfield 146, 3) := dk_181 0 146 (dk_at dksX10_init_15 13 rfl rfl)
theorem dX10_init_361 : decode cX10_init 361 = .ok (.aload_n 0, 1) := dk_42 (dk_at dksX10_init_15 16 rfl rfl)
theorem dX10_init_362 : decode cX10_init 362 = .ok (.sipush 896, 3) := dk_17 3 128 (dk_at dksX10_init_15 17 rfl rfl)
theorem dX10_init_365 : decode cX10_init 365 = .ok (.newarray .int, 2) := dk_188_10 (dk_at dksX10_init_15 20 rfl rfl)
theorem dX10_init_367 : decode cX10_init 367 = .ok (.putfield 149, 3) := dk_181 0 149 (dk_at dksX10_init_16 0 rfl rfl)
theorem dX10_init_370 : decode cX10_init 370 = .ok (.aload_n 0, 1) := dk_42 (dk_at dksX10_init_16 3 rfl rfl)
theorem dX10_init_371 : decode cX10_init 371 = .ok (.bipush 49, 2) := dk_16 49 (dk_at dksX10_init_16 4 rfl rfl)
theorem dX10_init_373 : decode cX10_init 373 = .ok (.newarray .int, 2) := dk_188_10 (dk_at dksX10_init_16 6 rfl rfl)
theorem dX10_init_375 : decode cX10_init 375 = .ok (.putfield 152, 3) := dk_181 0 152 (dk_at dksX10_init_16 8 rfl rfl)
theorem dX10_init_378 : decode cX10_init 378 = .ok (.aload_n 0, 1) := dk_42 (dk_at dksX10_init_16 11 rfl rfl)
theorem dX10_init_379 : decode cX10_init 379 = .ok (.bipush 20, 2) := dk_16 20 (dk_at dksX10_init_16 12 rfl rfl)
theorem dX10_init_381 : decode cX10_init 381 = .ok (.newarray .int, 2) := dk_188_10 (dk_at dksX10_init_16 14 rfl rfl)
theorem dX10_init_383 : decode cX10_init 383 = .ok (.putfield 155, 3) := dk_181 0 155 (dk_at dksX10_init_16 16 rfl rfl)
theorem dX10_init_386 : decode cX10_init 386 = .ok (.aload_n 0, 1) := dk_42 (dk_at dksX10_init_16 19 rfl rfl)
theorem dX10_init_387 : decode cX10_init 387 = .ok (.bipush 20, 2) := dk_16 20 (dk_at dksX10_init_16 20 rfl rfl)
theorem dX10_init_389 : decode cX10_init 389 = .ok (.newarray .int, 2) := dk_188_10 (dk_at dksX10_init_16 22 rfl rfl)
theorem dX10_init_391 : decode cX10_init 391 = .ok (.putfield 158, 3) := dk_181 0 158 (dk_at dksX10_init_17 0 rfl rfl)
theorem dX10_init_394 : decode cX10_init 394 = .ok (.aload_n 0, 1) := dk_42 (dk_at dksX10_init_17 3 rfl rfl)
theorem dX10_init_395 : decode cX10_init 395 = .ok (.bipush 20, 2) := dk_16 20 (dk_at dksX10_init_17 4 rfl rfl)
theorem dX10_init_397 : decode cX10_init 397 = .ok (.newarray .boolean, 2) := dk_188_4 (dk_at dksX10_init_17 6 rfl rfl)
theorem dX10_init_399 : decode cX10_init 399 = .ok (.putfield 161, 3) := dk_181 0 161 (dk_at dksX10_init_17 8 rfl rfl)
theorem dX10_init_402 : decode cX10_init 402 = .ok (.aload_n 0, 1) := dk_42 (dk_at dksX10_init_17 11 rfl rfl)
theorem dX10_init_403 : decode cX10_init 403 = .ok (.iconst 3, 1) := dk_6 (dk_at dksX10_init_17 12 rfl rfl)
theorem dX10_init_404 : decode cX10_init 404 = .ok (.newarray .boolean, 2) := dk_188_4 (dk_at dksX10_init_17 13 rfl rfl)
theorem dX10_init_406 : decode cX10_init 406 = .ok (.putfield 164, 3) := dk_181 0 164 (dk_at dksX10_init_17 15 rfl rfl)
theorem dX10_init_409 : decode cX10_init 409 = .ok (.aload_n 0, 1) := dk_42 (dk_at dksX10_init_17 18 rfl rfl)
theorem dX10_init_410 : decode cX10_init 410 = .ok (.sipush 144, 3) := dk_17 0 144 (dk_at dksX10_init_17 19 rfl rfl)
theorem dX10_init_413 : decode cX10_init 413 = .ok (.newarray .int, 2) := dk_188_10 (dk_at dksX10_init_17 22 rfl rfl)
theorem dX10_init_415 : decode cX10_init 415 = .ok (.putfield 167, 3) := dk_181 0 167 (dk_at dksX10_init_18 0 rfl rfl)
theorem dX10_init_418 : decode cX10_init 418 = .ok (.aload_n 0, 1) := dk_42 (dk_at dksX10_init_18 3 rfl rfl)
theorem dX10_init_419 : decode cX10_init 419 = .ok (.iconst 0, 1) := dk_3 (dk_at dksX10_init_18 4 rfl rfl)
theorem dX10_init_420 : decode cX10_init 420 = .ok (.invokevirtual 170, 3) := dk_182 0 170 (dk_at dksX10_init_18 5 rfl rfl)
theorem dX10_init_423 : decode cX10_init 423 = .ok (.aload_n 0, 1) := dk_42 (dk_at dksX10_init_18 8 rfl rfl)
theorem dX10_init_424 : decode cX10_init 424 = .ok (.iconst 1, 1) := dk_4 (dk_at dksX10_init_18 9 rfl rfl)
theorem dX10_init_425 : decode cX10_init 425 = .ok (.invokevirtual 170, 3) := dk_182 0 170 (dk_at dksX10_init_18 10 rfl rfl)
theorem dX10_init_428 : decode cX10_init 428 = .ok (.aload_n 0, 1) := dk_42 (dk_at dksX10_init_18 13 rfl rfl)
theorem dX10_init_429 : decode cX10_init 429 = .ok (.getfield 34, 3) := dk_180 0 34 (dk_at dksX10_init_18 14 rfl rfl)
theorem dX10_init_432 : decode cX10_init 432 = .ok (.iconst 0, 1) := dk_3 (dk_at dksX10_init_18 17 rfl rfl)
theorem dX10_init_433 : decode cX10_init 433 = .ok (.bipush 99, 2) := dk_16 99 (dk_at dksX10_init_18 18 rfl rfl)
theorem dX10_init_435 : decode cX10_init 435 = .ok (.bipush 111, 2) := dk_16 111 (dk_at dksX10_init_18 20 rfl rfl)
theorem dX10_init_437 : decode cX10_init 437 = .ok (.bipush 114, 2) := dk_16 114 (dk_at dksX10_init_18 22 rfl rfl)
theorem dX10_init_439 : decode cX10_init 439 = .ok (.bipush 110, 2) := dk_16 110 (dk_at dksX10_init_19 0 rfl rfl)
theorem dX10_init_441 : decode cX10_init 441 = .ok (.bipush 101, 2) := dk_16 101 (dk_at dksX10_init_19 2 rfl rfl)
theorem dX10_init_443 : decode cX10_init 443 = .ok (.bipush 114, 2) := dk_16 114 (dk_at dksX10_init_19 4 rfl rfl)
theorem dX10_init_445 : decode cX10_init 445 = .ok (.iconst 0, 1) := dk_3 (dk_at dksX10_init_19 6 rfl rfl)
theorem dX10_init_446 : decode cX10_init 446 = .ok (.invokestatic 174, 3) := dk_184 0 174 (dk_at dksX10_init_19 7 rfl rfl)
theorem dX10_init_449 : decode cX10_init 449 = .ok (.lastore, 1) := dk_80 (dk_at dksX10_init_19 10 rfl rfl)
theorem dX10_init_450 : decode cX10_init 450 = .ok (.aload_n 0, 1) := dk_42 (dk_at dksX10_init_19 11 rfl rfl)
theorem dX10_init_451 : decode cX10_init 451 = .ok (.getfield 34, 3) := dk_180 0 34 (dk_at dksX10_init_19 12 rfl rfl)
theorem dX10_init_454 : decode cX10_init 454 = .ok (.iconst 1, 1) := dk_4 (dk_at dksX10_init_19 15 rfl rfl)
theorem dX10_init_455 : decode cX10_init 455 = .ok (.bipush 115, 2) := dk_16 115 (dk_at dksX10_init_19 16 rfl rfl)
theorem dX10_init_457 : decode cX10_init 457 = .ok (.bipush 116, 2) := dk_16 116 (dk_at dksX10_init_19 18 rfl rfl)
theorem dX10_init_459 : decode cX10_init 459 = .ok (.bipush 114, 2) := dk_16 114 (dk_at dksX10_init_19 20 rfl rfl)
theorem dX10_init_461 : decode cX10_init 461 = .ok (.bipush 101, 2) := dk_16 101 (dk_at dksX10_init_19 22 rfl rfl)
theorem dX10_init_463 : decode cX10_init 463 = .ok (.bipush 101, 2) := dk_16 101 (dk_at dksX10_init_20 0 rfl rfl)
theorem dX10_init_465 : decode cX10_init 465 = .ok (.bipush 116, 2) := dk_16 116 (dk_at dksX10_init_20 2 rfl rfl)
theorem dX10_init_467 : decode cX10_init 467 = .ok (.iconst 0, 1) := dk_3 (dk_at dksX10_init_20 4 rfl rfl)
theorem dX10_init_468 : decode cX10_init 468 = .ok (.invokestatic 174, 3) := dk_184 0 174 (dk_at dksX10_init_20 5 rfl rfl)
theorem dX10_init_471 : decode cX10_init 471 = .ok (.lastore, 1) := dk_80 (dk_at dksX10_init_20 8 rfl rfl)
theorem dX10_init_472 : decode cX10_init 472 = .ok (.aload_n 0, 1) := dk_42 (dk_at dksX10_init_20 9 rfl rfl)
theorem dX10_init_473 : decode cX10_init 473 = .ok (.getfield 34, 3) := dk_180 0 34 (dk_at dksX10_init_20 10 rfl rfl)
theorem dX10_init_476 : decode cX10_init 476 = .ok (.iconst 2, 1) := dk_5 (dk_at dksX10_init_20 13 rfl rfl)
theorem dX10_init_477 : decode cX10_init 477 = .ok (.bipush 121, 2) := dk_16 121 (dk_at dksX10_init_20 14 rfl rfl)
theorem dX10_init_479 : decode cX10_init 479 = .ok (.bipush 111, 2) := dk_16 111 (dk_at dksX10_init_20 16 rfl rfl)
theorem dX10_init_481 : decode cX10_init 481 = .ok (.bipush 117, 2) := dk_16 117 (dk_at dksX10_init_20 18 rfl rfl)
theorem dX10_init_483 : decode cX10_init 483 = .ok (.bipush 110, 2) := dk_16 110 (dk_at dksX10_init_20 20 rfl rfl)
theorem dX10_init_485 : decode cX10_init 485 = .ok (.bipush 103, 2) := dk_16 103 (dk_at dksX10_init_20 22 rfl rfl)
theorem dX10_init_487 : decode cX10_init 487 = .ok (.iconst 0, 1) := dk_3 (dk_at dksX10_init_21 0 rfl rfl)
theorem dX10_init_488 : decode cX10_init 488 = .ok (.iconst 0, 1) := dk_3 (dk_at dksX10_init_21 1 rfl rfl)
theorem dX10_init_489 : decode cX10_init 489 = .ok (.invokestatic 174, 3) := dk_184 0 174 (dk_at dksX10_init_21 2 rfl rfl)
theorem dX10_init_492 : decode cX10_init 492 = .ok (.lastore, 1) := dk_80 (dk_at dksX10_init_21 5 rfl rfl)
theorem dX10_init_493 : decode cX10_init 493 = .ok (.aload_n 0, 1) := dk_42 (dk_at dksX10_init_21 6 rfl rfl)
theorem dX10_init_494 : decode cX10_init 494 = .ok (.getfield 34, 3) := dk_180 0 34 (dk_at dksX10_init_21 7 rfl rfl)
theorem dX10_init_497 : decode cX10_init 497 = .ok (.iconst 3, 1) := dk_6 (dk_at dksX10_init_21 10 rfl rfl)
theorem dX10_init_498 : decode cX10_init 498 = .ok (.bipush 119, 2) := dk_16 119 (dk_at dksX10_init_21 11 rfl rfl)
theorem dX10_init_500 : decode cX10_init 500 = .ok (.bipush 111, 2) := dk_16 111 (dk_at dksX10_init_21 13 rfl rfl)
theorem dX10_init_502 : decode cX10_init 502 = .ok (.bipush 114, 2) := dk_16 114 (dk_at dksX10_init_21 15 rfl rfl)
theorem dX10_init_504 : decode cX10_init 504 = .ok (.bipush 100, 2) := dk_16 100 (dk_at dksX10_init_21 17 rfl rfl)
theorem dX10_init_506 : decode cX10_init 506 = .ok (.iconst 0, 1) := dk_3 (dk_at dksX10_init_21 19 rfl rfl)
theorem dX10_init_507 : decode cX10_init 507 = .ok (.iconst 0, 1) := dk_3 (dk_at dksX10_init_21 20 rfl rfl)
theorem dX10_init_508 : decode cX10_init 508 = .ok (.iconst 0, 1) := dk_3 (dk_at dksX10_init_21 21 rfl rfl)
theorem dX10_init_509 : decode cX10_init 509 = .ok (.invokestatic 174, 3) := dk_184 0 174 (dk_at dksX10_init_22 0 rfl rfl)
theorem dX10_init_512 : decode cX10_init 512 = .ok (.lastore, 1) := dk_80 (dk_at dksX10_init_22 3 rfl rfl)
theorem dX10_init_513 : decode cX10_init 513 = .ok (.aload_n 0, 1) := dk_42 (dk_at dksX10_init_22 4 rfl rfl)
theorem dX10_init_514 : decode cX10_init 514 = .ok (.getfield 34, 3) := dk_180 0 34 (dk_at dksX10_init_22 5 rfl rfl)
theorem dX10_init_517 : decode cX10_init 517 = .ok (.iconst 4, 1) := dk_7 (dk_at dksX10_init_22 8 rfl rfl)
theorem dX10_init_518 : decode cX10_init 518 = .ok (.bipush 108, 2) := dk_16 108 (dk_at dksX10_init_22 9 rfl rfl)
theorem dX10_init_520 : decode cX10_init 520 = .ok (.bipush 105, 2) := dk_16 105 (dk_at dksX10_init_22 11 rfl rfl)
theorem dX10_init_522 : decode cX10_init 522 = .ok (.bipush 103, 2) := dk_16 103 (dk_at dksX10_init_22 13 rfl rfl)
theorem dX10_init_524 : decode cX10_init 524 = .ok (.bipush 104, 2) := dk_16 104 (dk_at dksX10_init_22 15 rfl rfl)
theorem dX10_init_526 : decode cX10_init 526 = .ok (.bipush 116, 2) := dk_16 116 (dk_at dksX10_init_22 17 rfl rfl)
theorem dX10_init_528 : decode cX10_init 528 = .ok (.bipush 101, 2) := dk_16 101 (dk_at dksX10_init_22 19 rfl rfl)
theorem dX10_init_530 : decode cX10_init 530 = .ok (.bipush 114, 2) := dk_16 114 (dk_at dksX10_init_22 21 rfl rfl)
theorem dX10_init_532 : decode cX10_init 532 = .ok (.invokestatic 174, 3) := dk_184 0 174 (dk_at dksX10_init_23 0 rfl rfl)
theorem dX10_init_535 : decode cX10_init 535 = .ok (.lastore, 1) := dk_80 (dk_at dksX10_init_23 3 rfl rfl)
theorem dX10_init_536 : decode cX10_init 536 = .ok (.aload_n 0, 1) := dk_42 (dk_at dksX10_init_23 4 rfl rfl)
theorem dX10_init_537 : decode cX10_init 537 = .ok (.getfield 34, 3) := dk_180 0 34 (dk_at dksX10_init_23 5 rfl rfl)
theorem dX10_init_540 : decode cX10_init 540 = .ok (.iconst 5, 1) := dk_8 (dk_at dksX10_init_23 8 rfl rfl)
theorem dX10_init_541 : decode cX10_init 541 = .ok (.bipush 103, 2) := dk_16 103 (dk_at dksX10_init_23 9 rfl rfl)
theorem dX10_init_543 : decode cX10_init 543 = .ok (.bipush 108, 2) := dk_16 108 (dk_at dksX10_init_23 11 rfl rfl)
theorem dX10_init_545 : decode cX10_init 545 = .ok (.bipush 111, 2) := dk_16 111 (dk_at dksX10_init_23 13 rfl rfl)
theorem dX10_init_547 : decode cX10_init 547 = .ok (.bipush 119, 2) := dk_16 119 (dk_at dksX10_init_23 15 rfl rfl)
theorem dX10_init_549 : decode cX10_init 549 = .ok (.bipush 115, 2) := dk_16 115 (dk_at dksX10_init_23 17 rfl rfl)
theorem dX10_init_551 : decode cX10_init 551 = .ok (.iconst 0, 1) := dk_3 (dk_at dksX10_init_23 19 rfl rfl)
theorem dX10_init_552 : decode cX10_init 552 = .ok (.iconst 0, 1) := dk_3 (dk_at dksX10_init_23 20 rfl rfl)
theorem dX10_init_553 : decode cX10_init 553 = .ok (.invokestatic 174, 3) := dk_184 0 174 (dk_at dksX10_init_23 21 rfl rfl)
theorem dX10_init_556 : decode cX10_init 556 = .ok (.lastore, 1) := dk_80 (dk_at dksX10_init_24 0 rfl rfl)
theorem dX10_init_557 : decode cX10_init 557 = .ok (.aload_n 0, 1) := dk_42 (dk_at dksX10_init_24 1 rfl rfl)
theorem dX10_init_558 : decode cX10_init 558 = .ok (.getfield 34, 3) := dk_180 0 34 (dk_at dksX10_init_24 2 rfl rfl)
theorem dX10_init_561 : decode cX10_init 561 = .ok (.bipush 6, 2) := dk_16 6 (dk_at dksX10_init_24 5 rfl rfl)
theorem dX10_init_563 : decode cX10_init 563 = .ok (.bipush 119, 2) := dk_16 119 (dk_at dksX10_init_24 7 rfl rfl)
theorem dX10_init_565 : decode cX10_init 565 = .ok (.bipush 101, 2) := dk_16 101 (dk_at dksX10_init_24 9 rfl rfl)
theorem dX10_init_567 : decode cX10_init 567 = .ok (.bipush 97, 2) := dk_16 97 (dk_at dksX10_init_24 11 rfl rfl)
theorem dX10_init_569 : decode cX10_init 569 = .ok (.bipush 114, 2) := dk_16 114 (dk_at dksX10_init_24 13 rfl rfl)
theorem dX10_init_571 : decode cX10_init 571 = .ok (.bipush 115, 2) := dk_16 115 (dk_at dksX10_init_24 15 rfl rfl)
theorem dX10_init_573 : decode cX10_init 573 = .ok (.iconst 0, 1) := dk_3 (dk_at dksX10_init_24 17 rfl rfl)
theorem dX10_init_574 : decode cX10_init 574 = .ok (.iconst 0, 1) := dk_3 (dk_at dksX10_init_24 18 rfl rfl)
theorem dX10_init_575 : decode cX10_init 575 = .ok (.invokestatic 174, 3) := dk_184 0 174 (dk_at dksX10_init_24 19 rfl rfl)
theorem dX10_init_578 : decode cX10_init 578 = .ok (.lastore, 1) := dk_80 (dk_at dksX10_init_24 22 rfl rfl)
theorem dX10_init_579 : decode cX10_init 579 = .ok (.aload_n 0, 1) := dk_42 (dk_at dksX10_init_24 23 rfl rfl)
theorem dX10_init_580 : decode cX10_init 580 = .ok (.getfield 34, 3) := dk_180 0 34 (dk_at dksX10_init_25 0 rfl rfl)
theorem dX10_init_583 : decode cX10_init 583 = .ok (.bipush 7, 2) := dk_16 7 (dk_at dksX10_init_25 3 rfl rfl)
theorem dX10_init_585 : decode cX10_init 585 = .ok (.bipush 99, 2) := dk_16 99 (dk_at dksX10_init_25 5 rfl rfl)
theorem dX10_init_587 : decode cX10_init 587 = .ok (.bipush 111, 2) := dk_16 111 (dk_at dksX10_init_25 7 rfl rfl)
theorem dX10_init_589 : decode cX10_init 589 = .ok (.bipush 111, 2) := dk_16 111 (dk_at dksX10_init_25 9 rfl rfl)
theorem dX10_init_591 : decode cX10_init 591 = .ok (.bipush 108, 2) := dk_16 108 (dk_at dksX10_init_25 11 rfl rfl)
theorem dX10_init_593 : decode cX10_init 593 = .ok (.bipush 115, 2) := dk_16 115 (dk_at dksX10_init_25 13 rfl rfl)
theorem dX10_init_595 : decode cX10_init 595 = .ok (.iconst 0, 1) := dk_3 (dk_at dksX10_init_25 15 rfl rfl)
theorem dX10_init_596 : decode cX10_init 596 = .ok (.iconst 0, 1) := dk_3 (dk_at dksX10_init_25 16 rfl rfl)
theorem dX10_init_597 : decode cX10_init 597 = .ok (.invokestatic 174, 3) := dk_184 0 174 (dk_at dksX10_init_25 17 rfl rfl)
theorem dX10_init_600 : decode cX10_init 600 = .ok (.lastore, 1) := dk_80 (dk_at dksX10_init_25 20 rfl rfl)
theorem dX10_init_601 : decode cX10_init 601 = .ok (.aload_n 0, 1) := dk_42 (dk_at dksX10_init_25 21 rfl rfl)
theorem dX10_init_602 : decode cX10_init 602 = .ok (.getfield 34, 3) := dk_180 0 34 (dk_at dksX10_init_26 0 rfl rfl)
theorem dX10_init_605 : decode cX10_init 605 = .ok (.bipush 8, 2) := dk_16 8 (dk_at dksX10_init_26 3 rfl rfl)
theorem dX10_init_607 : decode cX10_init 607 = .ok (.bipush 108, 2) := dk_16 108 (dk_at dksX10_init_26 5 rfl rfl)
theorem dX10_init_609 : decode cX10_init 609 = .ok (.bipush 101, 2) := dk_16 101 (dk_at dksX10_init_26 7 rfl rfl)
theorem dX10_init_611 : decode cX10_init 611 = .ok (.bipush 97, 2) := dk_16 97 (dk_at dksX10_init_26 9 rfl rfl)
theorem dX10_init_613 : decode cX10_init 613 = .ok (.bipush 118, 2) := dk_16 118 (dk_at dksX10_init_26 11 rfl rfl)
theorem dX10_init_615 : decode cX10_init 615 = .ok (.bipush 101, 2) := dk_16 101 (dk_at dksX10_init_26 13 rfl rfl)
theorem dX10_init_617 : decode cX10_init 617 = .ok (.bipush 115, 2) := dk_16 115 (dk_at dksX10_init_26 15 rfl rfl)
theorem dX10_init_619 : decode cX10_init 619 = .ok (.iconst 0, 1) := dk_3 (dk_at dksX10_init_26 17 rfl rfl)
theorem dX10_init_620 : decode cX10_init 620 = .ok (.invokestatic 174, 3) := dk_184 0 174 (dk_at dksX10_init_26 18 rfl rfl)
theorem dX10_init_623 : decode cX10_init 623 = .ok (.lastore, 1) := dk_80 (dk_at dksX10_init_26 21 rfl rfl)
theorem dX10_init_624 : decode cX10_init 624 = .ok (.aload_n 0, 1) := dk_42 (dk_at dksX10_init_26 22 rfl rfl)
theorem dX10_init_625 : decode cX10_init 625 = .ok (.getfield 34, 3) := dk_180 0 34 (dk_at dksX10_init_27 0 rfl rfl)
theorem dX10_init_628 : decode cX10_init 628 = .ok (.bipush 9, 2) := dk_16 9 (dk_at dksX10_init_27 3 rfl rfl)
theorem dX10_init_630 : decode cX10_init 630 = .ok (.bipush 100, 2) := dk_16 100 (dk_at dksX10_init_27 5 rfl rfl)
theorem dX10_init_632 : decode cX10_init 632 = .ok (.bipush 114, 2) := dk_16 114 (dk_at dksX10_init_27 7 rfl rfl)
theorem dX10_init_634 : decode cX10_init 634 = .ok (.bipush 97, 2) := dk_16 97 (dk_at dksX10_init_27 9 rfl rfl)
theorem dX10_init_636 : decode cX10_init 636 = .ok (.bipush 117, 2) := dk_16 117 (dk_at dksX10_init_27 11 rfl rfl)
theorem dX10_init_638 : decode cX10_init 638 = .ok (.bipush 103, 2) := dk_16 103 (dk_at dksX10_init_27 13 rfl rfl)
theorem dX10_init_640 : decode cX10_init 640 = .ok (.bipush 104, 2) := dk_16 104 (dk_at dksX10_init_27 15 rfl rfl)
theorem dX10_init_642 : decode cX10_init 642 = .ok (.bipush 116, 2) := dk_16 116 (dk_at dksX10_init_27 17 rfl rfl)
theorem dX10_init_644 : decode cX10_init 644 = .ok (.invokestatic 174, 3) := dk_184 0 174 (dk_at dksX10_init_27 19 rfl rfl)
theorem dX10_init_647 : decode cX10_init 647 = .ok (.lastore, 1) := dk_80 (dk_at dksX10_init_27 22 rfl rfl)
theorem dX10_init_648 : decode cX10_init 648 = .ok (.aload_n 0, 1) := dk_42 (dk_at dksX10_init_27 23 rfl rfl)
theorem dX10_init_649 : decode cX10_init 649 = .ok (.getfield 34, 3) := dk_180 0 34 (dk_at dksX10_init_28 0 rfl rfl)
theorem dX10_init_652 : decode cX10_init 652 = .ok (.bipush 10, 2) := dk_16 10 (dk_at dksX10_init_28 3 rfl rfl)
theorem dX10_init_654 : decode cX10_init 654 = .ok (.bipush 115, 2) := dk_16 115 (dk_at dksX10_init_28 5 rfl rfl)
theorem dX10_init_656 : decode cX10_init 656 = .ok (.bipush 101, 2) := dk_16 101 (dk_at dksX10_init_28 7 rfl rfl)
theorem dX10_init_658 : decode cX10_init 658 = .ok (.bipush 101, 2) := dk_16 101 (dk_at dksX10_init_28 9 rfl rfl)
theorem dX10_init_660 : decode cX10_init 660 = .ok (.bipush 100, 2) := dk_16 100 (dk_at dksX10_init_28 11 rfl rfl)
theorem dX10_init_662 : decode cX10_init 662 = .ok (.iconst 0, 1) := dk_3 (dk_at dksX10_init_28 13 rfl rfl)
theorem dX10_init_663 : decode cX10_init 663 = .ok (.iconst 0, 1) := dk_3 (dk_at dksX10_init_28 14 rfl rfl)
theorem dX10_init_664 : decode cX10_init 664 = .ok (.iconst 0, 1) := dk_3 (dk_at dksX10_init_28 15 rfl rfl)
theorem dX10_init_665 : decode cX10_init 665 = .ok (.invokestatic 174, 3) := dk_184 0 174 (dk_at dksX10_init_28 16 rfl rfl)
theorem dX10_init_668 : decode cX10_init 668 = .ok (.lastore, 1) := dk_80 (dk_at dksX10_init_28 19 rfl rfl)
theorem dX10_init_669 : decode cX10_init 669 = .ok (.aload_n 0, 1) := dk_42 (dk_at dksX10_init_28 20 rfl rfl)
theorem dX10_init_670 : decode cX10_init 670 = .ok (.getfield 34, 3) := dk_180 0 34 (dk_at dksX10_init_28 21 rfl rfl)
theorem dX10_init_673 : decode cX10_init 673 = .ok (.bipush 11, 2) := dk_16 11 (dk_at dksX10_init_29 0 rfl rfl)
theorem dX10_init_675 : decode cX10_init 675 = .ok (.bipush 105, 2) := dk_16 105 (dk_at dksX10_init_29 2 rfl rfl)
theorem dX10_init_677 : decode cX10_init 677 = .ok (.bipush 102, 2) := dk_16 102 (dk_at dksX10_init_29 4 rfl rfl)
theorem dX10_init_679 : decode cX10_init 679 = .ok (.iconst 0, 1) := dk_3 (dk_at dksX10_init_29 6 rfl rfl)
theorem dX10_init_680 : decode cX10_init 680 = .ok (.iconst 0, 1) := dk_3 (dk_at dksX10_init_29 7 rfl rfl)
theorem dX10_init_681 : decode cX10_init 681 = .ok (.iconst 0, 1) := dk_3 (dk_at dksX10_init_29 8 rfl rfl)
theorem dX10_init_682 : decode cX10_init 682 = .ok (.iconst 0, 1) := dk_3 (dk_at dksX10_init_29 9 rfl rfl)
theorem dX10_init_683 : decode cX10_init 683 = .ok (.iconst 0, 1) := dk_3 (dk_at dksX10_init_29 10 rfl rfl)
theorem dX10_init_684 : decode cX10_init 684 = .ok (.invokestatic 174, 3) := dk_184 0 174 (dk_at dksX10_init_29 11 rfl rfl)
theorem dX10_init_687 : decode cX10_init 687 = .ok (.lastore, 1) := dk_80 (dk_at dksX10_init_29 14 rfl rfl)
theorem dX10_init_688 : decode cX10_init 688 = .ok (.aload_n 0, 1) := dk_42 (dk_at dksX10_init_29 15 rfl rfl)
theorem dX10_init_689 : decode cX10_init 689 = .ok (.getfield 34, 3) := dk_180 0 34 (dk_at dksX10_init_29 16 rfl rfl)
theorem dX10_init_692 : decode cX10_init 692 = .ok (.bipush 12, 2) := dk_16 12 (dk_at dksX10_init_29 19 rfl rfl)
theorem dX10_init_694 : decode cX10_init 694 = .ok (.bipush 116, 2) := dk_16 116 (dk_at dksX10_init_29 21 rfl rfl)
theorem dX10_init_696 : decode cX10_init 696 = .ok (.bipush 104, 2) := dk_16 104 (dk_at dksX10_init_30 0 rfl rfl)
theorem dX10_init_698 : decode cX10_init 698 = .ok (.bipush 101, 2) := dk_16 101 (dk_at dksX10_init_30 2 rfl rfl)
theorem dX10_init_700 : decode cX10_init 700 = .ok (.bipush 110, 2) := dk_16 110 (dk_at dksX10_init_30 4 rfl rfl)
theorem dX10_init_702 : decode cX10_init 702 = .ok (.iconst 0, 1) := dk_3 (dk_at dksX10_init_30 6 rfl rfl)
theorem dX10_init_703 : decode cX10_init 703 = .ok (.iconst 0, 1) := dk_3 (dk_at dksX10_init_30 7 rfl rfl)
theorem dX10_init_704 : decode cX10_init 704 = .ok (.iconst 0, 1) := dk_3 (dk_at dksX10_init_30 8 rfl rfl)
theorem dX10_init_705 : decode cX10_init 705 = .ok (.invokestatic 174, 3) := dk_184 0 174 (dk_at dksX10_init_30 9 rfl rfl)
theorem dX10_init_708 : decode cX10_init 708 = .ok (.lastore, 1) := dk_80 (dk_at dksX10_init_30 12 rfl rfl)
theorem dX10_init_709 : decode cX10_init 709 = .ok (.aload_n 0, 1) := dk_42 (dk_at dksX10_init_30 13 rfl rfl)
theorem dX10_init_710 : decode cX10_init 710 = .ok (.getfield 34, 3) := dk_180 0 34 (dk_at dksX10_init_30 14 rfl rfl)
theorem dX10_init_713 : decode cX10_init 713 = .ok (.bipush 13, 2) := dk_16 13 (dk_at dksX10_init_30 17 rfl rfl)
theorem dX10_init_715 : decode cX10_init 715 = .ok (.bipush 101, 2) := dk_16 101 (dk_at dksX10_init_30 19 rfl rfl)
theorem dX10_init_717 : decode cX10_init 717 = .ok (.bipush 108, 2) := dk_16 108 (dk_at dksX10_init_30 21 rfl rfl)
theorem dX10_init_719 : decode cX10_init 719 = .ok (.bipush 115, 2) := dk_16 115 (dk_at dksX10_init_31 0 rfl rfl)
theorem dX10_init_721 : decode cX10_init 721 = .ok (.bipush 101, 2) := dk_16 101 (dk_at dksX10_init_31 2 rfl rfl)
theorem dX10_init_723 : decode cX10_init 723 = .ok (.iconst 0, 1) := dk_3 (dk_at dksX10_init_31 4 rfl rfl)
theorem dX10_init_724 : decode cX10_init 724 = .ok (.iconst 0, 1) := dk_3 (dk_at dksX10_init_31 5 rfl rfl)
theorem dX10_init_725 : decode cX10_init 725 = .ok (.iconst 0, 1) := dk_3 (dk_at dksX10_init_31 6 rfl rfl)
theorem dX10_init_726 : decode cX10_init 726 = .ok (.invokestatic 174, 3) := dk_184 0 174 (dk_at dksX10_init_31 7 rfl rfl)
theorem dX10_init_729 : decode cX10_init 729 = .ok (.lastore, 1) := dk_80 (dk_at dksX10_init_31 10 rfl rfl)
theorem dX10_init_730 : decode cX10_init 730 = .ok (.aload_n 0, 1) := dk_42 (dk_at dksX10_init_31 11 rfl rfl)
theorem dX10_init_731 : decode cX10_init 731 = .ok (.getfield 34, 3) := dk_180 0 34 (dk_at dksX10_init_31 12 rfl rfl)
theorem dX10_init_734 : decode cX10_init 734 = .ok (.bipush 14, 2) := dk_16 14 (dk_at dksX10_init_31 15 rfl rfl)
theorem dX10_init_736 : decode cX10_init 736 = .ok (.bipush 104, 2) := dk_16 104 (dk_at dksX10_init_31 17 rfl rfl)
theorem dX10_init_738 : decode cX10_init 738 = .ok (.bipush 101, 2) := dk_16 101 (dk_at dksX10_init_31 19 rfl rfl)
theorem dX10_init_740 : decode cX10_init 740 = .ok (.bipush 97, 2) := dk_16 97 (dk_at dksX10_init_31 21 rfl rfl)
theorem dX10_init_742 : decode cX10_init 742 = .ok (.bipush 116, 2) := dk_16 116 (dk_at dksX10_init_32 0 rfl rfl)
theorem dX10_init_744 : decode cX10_init 744 = .ok (.iconst 0, 1) := dk_3 (dk_at dksX10_init_32 2 rfl rfl)
theorem dX10_init_745 : decode cX10_init 745 = .ok (.iconst 0, 1) := dk_3 (dk_at dksX10_init_32 3 rfl rfl)
theorem dX10_init_746 : decode cX10_init 746 = .ok (.iconst 0, 1) := dk_3 (dk_at dksX10_init_32 4 rfl rfl)
theorem dX10_init_747 : decode cX10_init 747 = .ok (.invokestatic 174, 3) := dk_184 0 174 (dk_at dksX10_init_32 5 rfl rfl)
theorem dX10_init_750 : decode cX10_init 750 = .ok (.lastore, 1) := dk_80 (dk_at dksX10_init_32 8 rfl rfl)
theorem dX10_init_751 : decode cX10_init 751 = .ok (.aload_n 0, 1) := dk_42 (dk_at dksX10_init_32 9 rfl rfl)
theorem dX10_init_752 : decode cX10_init 752 = .ok (.getfield 34, 3) := dk_180 0 34 (dk_at dksX10_init_32 10 rfl rfl)
theorem dX10_init_755 : decode cX10_init 755 = .ok (.bipush 15, 2) := dk_16 15 (dk_at dksX10_init_32 13 rfl rfl)
theorem dX10_init_757 : decode cX10_init 757 = .ok (.bipush 97, 2) := dk_16 97 (dk_at dksX10_init_32 15 rfl rfl)
theorem dX10_init_759 : decode cX10_init 759 = .ok (.bipush 103, 2) := dk_16 103 (dk_at dksX10_init_32 17 rfl rfl)
theorem dX10_init_761 : decode cX10_init 761 = .ok (.bipush 101, 2) := dk_16 101 (dk_at dksX10_init_32 19 rfl rfl)
theorem dX10_init_763 : decode cX10_init 763 = .ok (.iconst 0, 1) := dk_3 (dk_at dksX10_init_32 21 rfl rfl)
theorem dX10_init_764 : decode cX10_init 764 = .ok (.iconst 0, 1) := dk_3 (dk_at dksX10_init_32 22 rfl rfl)
theorem dX10_init_765 : decode cX10_init 765 = .ok (.iconst 0, 1) := dk_3 (dk_at dksX10_init_32 23 rfl rfl)
theorem dX10_init_766 : decode cX10_init 766 = .ok (.iconst 0, 1) := dk_3 (dk_at dksX10_init_33 0 rfl rfl)
theorem dX10_init_767 : decode cX10_init 767 = .ok (.invokestatic 174, 3) := dk_184 0 174 (dk_at dksX10_init_33 1 rfl rfl)
theorem dX10_init_770 : decode cX10_init 770 = .ok (.lastore, 1) := dk_80 (dk_at dksX10_init_33 4 rfl rfl)
theorem dX10_init_771 : decode cX10_init 771 = .ok (.aload_n 0, 1) := dk_42 (dk_at dksX10_init_33 5 rfl rfl)
theorem dX10_init_772 : decode cX10_init 772 = .ok (.getfield 34, 3) := dk_180 0 34 (dk_at dksX10_init_33 6 rfl rfl)
theorem dX10_init_775 : decode cX10_init 775 = .ok (.bipush 16, 2) := dk_16 16 (dk_at dksX10_init_33 9 rfl rfl)
theorem dX10_init_777 : decode cX10_init 777 = .ok (.bipush 116, 2) := dk_16 116 (dk_at dksX10_init_33 11 rfl rfl)
theorem dX10_init_779 : decode cX10_init 779 = .ok (.bipush 101, 2) := dk_16 101 (dk_at dksX10_init_33 13 rfl rfl)
theorem dX10_init_781 : decode cX10_init 781 = .ok (.bipush 109, 2) := dk_16 109 (dk_at dksX10_init_33 15 rfl rfl)
theorem dX10_init_783 : decode cX10_init 783 = .ok (.bipush 112, 2) := dk_16 112 (dk_at dksX10_init_33 17 rfl rfl)
theorem dX10_init_785 : decode cX10_init 785 = .ok (.bipush 101, 2) := dk_16 101 (dk_at dksX10_init_33 19 rfl rfl)
theorem dX10_init_787 : decode cX10_init 787 = .ok (.bipush 114, 2) := dk_16 114 (dk_at dksX10_init_33 21 rfl rfl)
theorem dX10_init_789 : decode cX10_init 789 = .ok (.iconst 0, 1) := dk_3 (dk_at dksX10_init_33 23 rfl rfl)
theorem dX10_init_790 : decode cX10_init 790 = .ok (.invokestatic 174, 3) := dk_184 0 174 (dk_at dksX10_init_34 0 rfl rfl)
theorem dX10_init_793 : decode cX10_init 793 = .ok (.lastore, 1) := dk_80 (dk_at dksX10_init_34 3 rfl rfl)
theorem dX10_init_794 : decode cX10_init 794 = .ok (.aload_n 0, 1) := dk_42 (dk_at dksX10_init_34 4 rfl rfl)
theorem dX10_init_795 : decode cX10_init 795 = .ok (.getfield 34, 3) := dk_180 0 34 (dk_at dksX10_init_34 5 rfl rfl)
theorem dX10_init_798 : decode cX10_init 798 = .ok (.bipush 17, 2) := dk_16 17 (dk_at dksX10_init_34 8 rfl rfl)
theorem dX10_init_800 : decode cX10_init 800 = .ok (.bipush 119, 2) := dk_16 119 (dk_at dksX10_init_34 10 rfl rfl)
theorem dX10_init_802 : decode cX10_init 802 = .ok (.bipush 111, 2) := dk_16 111 (dk_at dksX10_init_34 12 rfl rfl)
theorem dX10_init_804 : decode cX10_init 804 = .ok (.bipush 114, 2) := dk_16 114 (dk_at dksX10_init_34 14 rfl rfl)
theorem dX10_init_806 : decode cX10_init 806 = .ok (.bipush 110, 2) := dk_16 110 (dk_at dksX10_init_34 16 rfl rfl)
theorem dX10_init_808 : decode cX10_init 808 = .ok (.iconst 0, 1) := dk_3 (dk_at dksX10_init_34 18 rfl rfl)
theorem dX10_init_809 : decode cX10_init 809 = .ok (.iconst 0, 1) := dk_3 (dk_at dksX10_init_34 19 rfl rfl)
theorem dX10_init_810 : decode cX10_init 810 = .ok (.iconst 0, 1) := dk_3 (dk_at dksX10_init_34 20 rfl rfl)
theorem dX10_init_811 : decode cX10_init 811 = .ok (.invokestatic 174, 3) := dk_184 0 174 (dk_at dksX10_init_34 21 rfl rfl)
theorem dX10_init_814 : decode cX10_init 814 = .ok (.lastore, 1) := dk_80 (dk_at dksX10_init_35 0 rfl rfl)
theorem dX10_init_815 : decode cX10_init 815 = .ok (.aload_n 0, 1) := dk_42 (dk_at dksX10_init_35 1 rfl rfl)
theorem dX10_init_816 : decode cX10_init 816 = .ok (.getfield 34, 3) := dk_180 0 34 (dk_at dksX10_init_35 2 rfl rfl)
theorem dX10_init_819 : decode cX10_init 819 = .ok (.bipush 18, 2) := dk_16 18 (dk_at dksX10_init_35 5 rfl rfl)
theorem dX10_init_821 : decode cX10_init 821 = .ok (.bipush 115, 2) := dk_16 115 (dk_at dksX10_init_35 7 rfl rfl)
theorem dX10_init_823 : decode cX10_init 823 = .ok (.bipush 105, 2) := dk_16 105 (dk_at dksX10_init_35 9 rfl rfl)
theorem dX10_init_825 : decode cX10_init 825 = .ok (.bipush 110, 2) := dk_16 110 (dk_at dksX10_init_35 11 rfl rfl)
theorem dX10_init_827 : decode cX10_init 827 = .ok (.bipush 99, 2) := dk_16 99 (dk_at dksX10_init_35 13 rfl rfl)
theorem dX10_init_829 : decode cX10_init 829 = .ok (.bipush 101, 2) := dk_16 101 (dk_at dksX10_init_35 15 rfl rfl)
theorem dX10_init_831 : decode cX10_init 831 = .ok (.iconst 0, 1) := dk_3 (dk_at dksX10_init_35 17 rfl rfl)
theorem dX10_init_832 : decode cX10_init 832 = .ok (.iconst 0, 1) := dk_3 (dk_at dksX10_init_35 18 rfl rfl)
theorem dX10_init_833 : decode cX10_init 833 = .ok (.invokestatic 174, 3) := dk_184 0 174 (dk_at dksX10_init_35 19 rfl rfl)
theorem dX10_init_836 : decode cX10_init 836 = .ok (.lastore, 1) := dk_80 (dk_at dksX10_init_35 22 rfl rfl)
theorem dX10_init_837 : decode cX10_init 837 = .ok (.aload_n 0, 1) := dk_42 (dk_at dksX10_init_35 23 rfl rfl)
theorem dX10_init_838 : decode cX10_init 838 = .ok (.getfield 34, 3) := dk_180 0 34 (dk_at dksX10_init_36 0 rfl rfl)
theorem dX10_init_841 : decode cX10_init 841 = .ok (.bipush 19, 2) := dk_16 19 (dk_at dksX10_init_36 3 rfl rfl)
theorem dX10_init_843 : decode cX10_init 843 = .ok (.bipush 104, 2) := dk_16 104 (dk_at dksX10_init_36 5 rfl rfl)
theorem dX10_init_845 : decode cX10_init 845 = .ok (.bipush 111, 2) := dk_16 111 (dk_at dksX10_init_36 7 rfl rfl)
theorem dX10_init_847 : decode cX10_init 847 = .ok (.bipush 117, 2) := dk_16 117 (dk_at dksX10_init_36 9 rfl rfl)
theorem dX10_init_849 : decode cX10_init 849 = .ok (.bipush 114, 2) := dk_16 114 (dk_at dksX10_init_36 11 rfl rfl)
theorem dX10_init_851 : decode cX10_init 851 = .ok (.iconst 0, 1) := dk_3 (dk_at dksX10_init_36 13 rfl rfl)
theorem dX10_init_852 : decode cX10_init 852 = .ok (.iconst 0, 1) := dk_3 (dk_at dksX10_init_36 14 rfl rfl)
theorem dX10_init_853 : decode cX10_init 853 = .ok (.iconst 0, 1) := dk_3 (dk_at dksX10_init_36 15 rfl rfl)
theorem dX10_init_854 : decode cX10_init 854 = .ok (.invokestatic 174, 3) := dk_184 0 174 (dk_at dksX10_init_36 16 rfl rfl)
theorem dX10_init_857 : decode cX10_init 857 = .ok (.lastore, 1) := dk_80 (dk_at dksX10_init_36 19 rfl rfl)
theorem dX10_init_858 : decode cX10_init 858 = .ok (.aload_n 0, 1) := dk_42 (dk_at dksX10_init_36 20 rfl rfl)
theorem dX10_init_859 : decode cX10_init 859 = .ok (.getfield 34, 3) := dk_180 0 34 (dk_at dksX10_init_36 21 rfl rfl)
theorem dX10_init_862 : decode cX10_init 862 = .ok (.bipush 20, 2) := dk_16 20 (dk_at dksX10_init_37 0 rfl rfl)
theorem dX10_init_864 : decode cX10_init 864 = .ok (.bipush 103, 2) := dk_16 103 (dk_at dksX10_init_37 2 rfl rfl)
theorem dX10_init_866 : decode cX10_init 866 = .ok (.bipush 108, 2) := dk_16 108 (dk_at dksX10_init_37 4 rfl rfl)
theorem dX10_init_868 : decode cX10_init 868 = .ok (.bipush 111, 2) := dk_16 111 (dk_at dksX10_init_37 6 rfl rfl)
theorem dX10_init_870 : decode cX10_init 870 = .ok (.bipush 119, 2) := dk_16 119 (dk_at dksX10_init_37 8 rfl rfl)
theorem dX10_init_872 : decode cX10_init 872 = .ok (.iconst 0, 1) := dk_3 (dk_at dksX10_init_37 10 rfl rfl)
theorem dX10_init_873 : decode cX10_init 873 = .ok (.iconst 0, 1) := dk_3 (dk_at dksX10_init_37 11 rfl rfl)
theorem dX10_init_874 : decode cX10_init 874 = .ok (.iconst 0, 1) := dk_3 (dk_at dksX10_init_37 12 rfl rfl)
theorem dX10_init_875 : decode cX10_init 875 = .ok (.invokestatic 174, 3) := dk_184 0 174 (dk_at dksX10_init_37 13 rfl rfl)
theorem dX10_init_878 : decode cX10_init 878 = .ok (.lastore, 1) := dk_80 (dk_at dksX10_init_37 16 rfl rfl)
theorem dX10_init_879 : decode cX10_init 879 = .ok (.aload_n 0, 1) := dk_42 (dk_at dksX10_init_37 17 rfl rfl)
theorem dX10_init_880 : decode cX10_init 880 = .ok (.getfield 34, 3) := dk_180 0 34 (dk_at dksX10_init_37 18 rfl rfl)
theorem dX10_init_883 : decode cX10_init 883 = .ok (.bipush 21, 2) := dk_16 21 (dk_at dksX10_init_37 21 rfl rfl)
theorem dX10_init_885 : decode cX10_init 885 = .ok (.bipush 119, 2) := dk_16 119 (dk_at dksX10_init_38 0 rfl rfl)
theorem dX10_init_887 : decode cX10_init 887 = .ok (.bipush 104, 2) := dk_16 104 (dk_at dksX10_init_38 2 rfl rfl)
theorem dX10_init_889 : decode cX10_init 889 = .ok (.bipush 105, 2) := dk_16 105 (dk_at dksX10_init_38 4 rfl rfl)
theorem dX10_init_891 : decode cX10_init 891 = .ok (.bipush 99, 2) := dk_16 99 (dk_at dksX10_init_38 6 rfl rfl)
theorem dX10_init_893 : decode cX10_init 893 = .ok (.bipush 104, 2) := dk_16 104 (dk_at dksX10_init_38 8 rfl rfl)
theorem dX10_init_895 : decode cX10_init 895 = .ok (.iconst 0, 1) := dk_3 (dk_at dksX10_init_38 10 rfl rfl)
theorem dX10_init_896 : decode cX10_init 896 = .ok (.iconst 0, 1) := dk_3 (dk_at dksX10_init_38 11 rfl rfl)
theorem dX10_init_897 : decode cX10_init 897 = .ok (.invokestatic 174, 3) := dk_184 0 174 (dk_at dksX10_init_38 12 rfl rfl)
theorem dX10_init_900 : decode cX10_init 900 = .ok (.lastore, 1) := dk_80 (dk_at dksX10_init_38 15 rfl rfl)
theorem dX10_init_901 : decode cX10_init 901 = .ok (.aload_n 0, 1) := dk_42 (dk_at dksX10_init_38 16 rfl rfl)
theorem dX10_init_902 : decode cX10_init 902 = .ok (.getfield 34, 3) := dk_180 0 34 (dk_at dksX10_init_38 17 rfl rfl)
theorem dX10_init_905 : decode cX10_init 905 = .ok (.bipush 22, 2) := dk_16 22 (dk_at dksX10_init_38 20 rfl rfl)
theorem dX10_init_907 : decode cX10_init 907 = .ok (.bipush 116, 2) := dk_16 116 (dk_at dksX10_init_38 22 rfl rfl)
theorem dX10_init_909 : decode cX10_init 909 = .ok (.bipush 111, 2) := dk_16 111 (dk_at dksX10_init_39 0 rfl rfl)
theorem dX10_init_911 : decode cX10_init 911 = .ok (.bipush 108, 2) := dk_16 108 (dk_at dksX10_init_39 2 rfl rfl)
theorem dX10_init_913 : decode cX10_init 913 = .ok (.bipush 100, 2) := dk_16 100 (dk_at dksX10_init_39 4 rfl rfl)
theorem dX10_init_915 : decode cX10_init 915 = .ok (.iconst 0, 1) := dk_3 (dk_at dksX10_init_39 6 rfl rfl)
theorem dX10_init_916 : decode cX10_init 916 = .ok (.iconst 0, 1) := dk_3 (dk_at dksX10_init_39 7 rfl rfl)
theorem dX10_init_917 : decode cX10_init 917 = .ok (.iconst 0, 1) := dk_3 (dk_at dksX10_init_39 8 rfl rfl)
theorem dX10_init_918 : decode cX10_init 918 = .ok (.invokestatic 174, 3) := dk_184 0 174 (dk_at dksX10_init_39 9 rfl rfl)
theorem dX10_init_921 : decode cX10_init 921 = .ok (.lastore, 1) := dk_80 (dk_at dksX10_init_39 12 rfl rfl)
theorem dX10_init_922 : decode cX10_init 922 = .ok (.aload_n 0, 1) := dk_42 (dk_at dksX10_init_39 13 rfl rfl)
theorem dX10_init_923 : decode cX10_init 923 = .ok (.invokevirtual 178, 3) := dk_182 0 178 (dk_at dksX10_init_39 14 rfl rfl)
theorem dX10_init_926 : decode cX10_init 926 = .ok (.aload_n 0, 1) := dk_42 (dk_at dksX10_init_39 17 rfl rfl)
theorem dX10_init_927 : decode cX10_init 927 = .ok (.invokevirtual 181, 3) := dk_182 0 181 (dk_at dksX10_init_39 18 rfl rfl)
theorem dX10_init_930 : decode cX10_init 930 = .ok (.return_, 1) := dk_177 (dk_at dksX10_init_39 21 rfl rfl)
abbrev cX10_plain : ByteArray := prog_22_method_19_code
def yX10_plain : MethodName := ⟨RX10, "plain", "(I)V"⟩
def dkwX10_plain_3 : List UInt8 := [180, 0, 91, 7, 27, 104, 28, 96, 3, 79, 132, 2, 1, 167, 255, 226, 177]
abbrev dktX10_plain_3 : List UInt8 := dkwX10_plain_3 ++ []
def dkwX10_plain_2 : List UInt8 := [27, 3, 79, 3, 61, 28, 7, 162, 0, 31, 42, 180, 0, 88, 7, 27, 104, 28, 96, 3, 79, 42]
abbrev dktX10_plain_2 : List UInt8 := dkwX10_plain_2 ++ dktX10_plain_3
def dkwX10_plain_1 : List UInt8 := [180, 0, 73, 27, 3, 79, 42, 180, 0, 79, 27, 3, 79, 42, 180, 0, 82, 27, 3, 79, 42, 180, 0, 85]
abbrev dktX10_plain_1 : List UInt8 := dkwX10_plain_1 ++ dktX10_plain_2
def dkwX10_plain_0 : List UInt8 := [42, 180, 0, 46, 27, 3, 79, 42, 180, 0, 49, 27, 3, 79, 42, 180, 0, 61, 27, 3, 79, 42]
abbrev dktX10_plain_0 : List UInt8 := dkwX10_plain_0 ++ dktX10_plain_1
theorem dksX10_plain_0 : cX10_plain.data.toList.drop 0 = dktX10_plain_0 := by decide +kernel
theorem dksX10_plain_1 : cX10_plain.data.toList.drop 22 = dktX10_plain_1 := dk_seg dksX10_plain_0 22 rfl rfl
theorem dksX10_plain_2 : cX10_plain.data.toList.drop 46 = dktX10_plain_2 := dk_seg dksX10_plain_1 24 rfl rfl
theorem dksX10_plain_3 : cX10_plain.data.toList.drop 68 = dktX10_plain_3 := dk_seg dksX10_plain_2 22 rfl rfl
theorem dX10_plain_0 : decode cX10_plain 0 = .ok (.aload_n 0, 1) := dk_42 (dk_at dksX10_plain_0 0 rfl rfl)
theorem dX10_plain_1 : decode cX10_plain 1 = .ok (.getfield 46, 3) := dk_180 0 46 (dk_at dksX10_plain_0 1 rfl rfl)
theorem dX10_plain_4 : decode cX10_plain 4 = .ok (.iload_n 1, 1) := dk_27 (dk_at dksX10_plain_0 4 rfl rfl)
theorem dX10_plain_5 : decode cX10_plain 5 = .ok (.iconst 0, 1) := dk_3 (dk_at dksX10_plain_0 5 rfl rfl)
theorem dX10_plain_6 : decode cX10_plain 6 = .ok (.iastore, 1) := dk_79 (dk_at dksX10_plain_0 6 rfl rfl)
theorem dX10_plain_7 : decode cX10_plain 7 = .ok (.aload_n 0, 1) := dk_42 (dk_at dksX10_plain_0 7 rfl rfl)
theorem dX10_plain_8 : decode cX10_plain 8 = .ok (.getfield 49, 3) := dk_180 0 49 (dk_at dksX10_plain_0 8 rfl rfl)
theorem dX10_plain_11 : decode cX10_plain 11 = .ok (.iload_n 1, 1) := dk_27 (dk_at dksX10_plain_0 11 rfl rfl)
theorem dX10_plain_12 : decode cX10_plain 12 = .ok (.iconst 0, 1) := dk_3 (dk_at dksX10_plain_0 12 rfl rfl)
theorem dX10_plain_13 : decode cX10_plain 13 = .ok (.iastore, 1) := dk_79 (dk_at dksX10_plain_0 13 rfl rfl)
theorem dX10_plain_14 : decode cX10_plain 14 = .ok (.aload_n 0, 1) := dk_42 (dk_at dksX10_plain_0 14 rfl rfl)
theorem dX10_plain_15 : decode cX10_plain 15 = .ok (.getfield 61, 3) := dk_180 0 61 (dk_at dksX10_plain_0 15 rfl rfl)
theorem dX10_plain_18 : decode cX10_plain 18 = .ok (.iload_n 1, 1) := dk_27 (dk_at dksX10_plain_0 18 rfl rfl)
theorem dX10_plain_19 : decode cX10_plain 19 = .ok (.iconst 0, 1) := dk_3 (dk_at dksX10_plain_0 19 rfl rfl)
theorem dX10_plain_20 : decode cX10_plain 20 = .ok (.iastore, 1) := dk_79 (dk_at dksX10_plain_0 20 rfl rfl)
theorem dX10_plain_21 : decode cX10_plain 21 = .ok (.aload_n 0, 1) := dk_42 (dk_at dksX10_plain_0 21 rfl rfl)
theorem dX10_plain_22 : decode cX10_plain 22 = .ok (.getfield 73, 3) := dk_180 0 73 (dk_at dksX10_plain_1 0 rfl rfl)
theorem dX10_plain_25 : decode cX10_plain 25 = .ok (.iload_n 1, 1) := dk_27 (dk_at dksX10_plain_1 3 rfl rfl)
theorem dX10_plain_26 : decode cX10_plain 26 = .ok (.iconst 0, 1) := dk_3 (dk_at dksX10_plain_1 4 rfl rfl)
theorem dX10_plain_27 : decode cX10_plain 27 = .ok (.iastore, 1) := dk_79 (dk_at dksX10_plain_1 5 rfl rfl)
theorem dX10_plain_28 : decode cX10_plain 28 = .ok (.aload_n 0, 1) := dk_42 (dk_at dksX10_plain_1 6 rfl rfl)
theorem dX10_plain_29 : decode cX10_plain 29 = .ok (.getfield 79, 3) := dk_180 0 79 (dk_at dksX10_plain_1 7 rfl rfl)
theorem dX10_plain_32 : decode cX10_plain 32 = .ok (.iload_n 1, 1) := dk_27 (dk_at dksX10_plain_1 10 rfl rfl)
theorem dX10_plain_33 : decode cX10_plain 33 = .ok (.iconst 0, 1) := dk_3 (dk_at dksX10_plain_1 11 rfl rfl)
theorem dX10_plain_34 : decode cX10_plain 34 = .ok (.iastore, 1) := dk_79 (dk_at dksX10_plain_1 12 rfl rfl)
theorem dX10_plain_35 : decode cX10_plain 35 = .ok (.aload_n 0, 1) := dk_42 (dk_at dksX10_plain_1 13 rfl rfl)
theorem dX10_plain_36 : decode cX10_plain 36 = .ok (.getfield 82, 3) := dk_180 0 82 (dk_at dksX10_plain_1 14 rfl rfl)
theorem dX10_plain_39 : decode cX10_plain 39 = .ok (.iload_n 1, 1) := dk_27 (dk_at dksX10_plain_1 17 rfl rfl)
theorem dX10_plain_40 : decode cX10_plain 40 = .ok (.iconst 0, 1) := dk_3 (dk_at dksX10_plain_1 18 rfl rfl)
theorem dX10_plain_41 : decode cX10_plain 41 = .ok (.iastore, 1) := dk_79 (dk_at dksX10_plain_1 19 rfl rfl)
theorem dX10_plain_42 : decode cX10_plain 42 = .ok (.aload_n 0, 1) := dk_42 (dk_at dksX10_plain_1 20 rfl rfl)
theorem dX10_plain_43 : decode cX10_plain 43 = .ok (.getfield 85, 3) := dk_180 0 85 (dk_at dksX10_plain_1 21 rfl rfl)
theorem dX10_plain_46 : decode cX10_plain 46 = .ok (.iload_n 1, 1) := dk_27 (dk_at dksX10_plain_2 0 rfl rfl)
theorem dX10_plain_47 : decode cX10_plain 47 = .ok (.iconst 0, 1) := dk_3 (dk_at dksX10_plain_2 1 rfl rfl)
theorem dX10_plain_48 : decode cX10_plain 48 = .ok (.iastore, 1) := dk_79 (dk_at dksX10_plain_2 2 rfl rfl)
theorem dX10_plain_49 : decode cX10_plain 49 = .ok (.iconst 0, 1) := dk_3 (dk_at dksX10_plain_2 3 rfl rfl)
theorem dX10_plain_50 : decode cX10_plain 50 = .ok (.istore_n 2, 1) := dk_61 (dk_at dksX10_plain_2 4 rfl rfl)
theorem dX10_plain_51 : decode cX10_plain 51 = .ok (.iload_n 2, 1) := dk_28 (dk_at dksX10_plain_2 5 rfl rfl)
theorem dX10_plain_52 : decode cX10_plain 52 = .ok (.iconst 4, 1) := dk_7 (dk_at dksX10_plain_2 6 rfl rfl)
theorem dX10_plain_53 : decode cX10_plain 53 = .ok (.if_icmp .ge 31, 3) := dk_162 0 31 (dk_at dksX10_plain_2 7 rfl rfl)
theorem dX10_plain_56 : decode cX10_plain 56 = .ok (.aload_n 0, 1) := dk_42 (dk_at dksX10_plain_2 10 rfl rfl)
theorem dX10_plain_57 : decode cX10_plain 57 = .ok (.getfield 88, 3) := dk_180 0 88 (dk_at dksX10_plain_2 11 rfl rfl)
theorem dX10_plain_60 : decode cX10_plain 60 = .ok (.iconst 4, 1) := dk_7 (dk_at dksX10_plain_2 14 rfl rfl)
theorem dX10_plain_61 : decode cX10_plain 61 = .ok (.iload_n 1, 1) := dk_27 (dk_at dksX10_plain_2 15 rfl rfl)
theorem dX10_plain_62 : decode cX10_plain 62 = .ok (.imul, 1) := dk_104 (dk_at dksX10_plain_2 16 rfl rfl)
theorem dX10_plain_63 : decode cX10_plain 63 = .ok (.iload_n 2, 1) := dk_28 (dk_at dksX10_plain_2 17 rfl rfl)
theorem dX10_plain_64 : decode cX10_plain 64 = .ok (.iadd, 1) := dk_96 (dk_at dksX10_plain_2 18 rfl rfl)
theorem dX10_plain_65 : decode cX10_plain 65 = .ok (.iconst 0, 1) := dk_3 (dk_at dksX10_plain_2 19 rfl rfl)
theorem dX10_plain_66 : decode cX10_plain 66 = .ok (.iastore, 1) := dk_79 (dk_at dksX10_plain_2 20 rfl rfl)
theorem dX10_plain_67 : decode cX10_plain 67 = .ok (.aload_n 0, 1) := dk_42 (dk_at dksX10_plain_2 21 rfl rfl)
theorem dX10_plain_68 : decode cX10_plain 68 = .ok (.getfield 91, 3) := dk_180 0 91 (dk_at dksX10_plain_3 0 rfl rfl)
theorem dX10_plain_71 : decode cX10_plain 71 = .ok (.iconst 4, 1) := dk_7 (dk_at dksX10_plain_3 3 rfl rfl)
theorem dX10_plain_72 : decode cX10_plain 72 = .ok (.iload_n 1, 1) := dk_27 (dk_at dksX10_plain_3 4 rfl rfl)
theorem dX10_plain_73 : decode cX10_plain 73 = .ok (.imul, 1) := dk_104 (dk_at dksX10_plain_3 5 rfl rfl)
theorem dX10_plain_74 : decode cX10_plain 74 = .ok (.iload_n 2, 1) := dk_28 (dk_at dksX10_plain_3 6 rfl rfl)
theorem dX10_plain_75 : decode cX10_plain 75 = .ok (.iadd, 1) := dk_96 (dk_at dksX10_plain_3 7 rfl rfl)
theorem dX10_plain_76 : decode cX10_plain 76 = .ok (.iconst 0, 1) := dk_3 (dk_at dksX10_plain_3 8 rfl rfl)
theorem dX10_plain_77 : decode cX10_plain 77 = .ok (.iastore, 1) := dk_79 (dk_at dksX10_plain_3 9 rfl rfl)
theorem dX10_plain_78 : decode cX10_plain 78 = .ok (.iinc 2 1, 3) := dk_132 2 1 (dk_at dksX10_plain_3 10 rfl rfl)
theorem dX10_plain_81 : decode cX10_plain 81 = .ok (.goto (-30), 3) := dk_167 255 226 (dk_at dksX10_plain_3 13 rfl rfl)
theorem dX10_plain_84 : decode cX10_plain 84 = .ok (.return_, 1) := dk_177 (dk_at dksX10_plain_3 16 rfl rfl)
abbrev cX10_word : ByteArray := prog_22_method_10_code
def yX10_word : MethodName := ⟨RX10, "word", "(IIIIIII)J"⟩
def dkwX10_word_1 : List UInt8 := [184, 0, 195, 21, 6, 184, 0, 195, 173]
abbrev dktX10_word_1 : List UInt8 := dkwX10_word_1 ++ []
def dkwX10_word_0 : List UInt8 := [9, 26, 184, 0, 195, 27, 184, 0, 195, 28, 184, 0, 195, 29, 184, 0, 195, 21, 4, 184, 0, 195, 21, 5]
abbrev dktX10_word_0 : List UInt8 := dkwX10_word_0 ++ dktX10_word_1
theorem dksX10_word_0 : cX10_word.data.toList.drop 0 = dktX10_word_0 := by decide +kernel
theorem dksX10_word_1 : cX10_word.data.toList.drop 24 = dktX10_word_1 := dk_seg dksX10_word_0 24 rfl rfl
theorem dX10_word_0 : decode cX10_word 0 = .ok (.lconst 0, 1) := dk_9 (dk_at dksX10_word_0 0 rfl rfl)
theorem dX10_word_1 : decode cX10_word 1 = .ok (.iload_n 0, 1) := dk_26 (dk_at dksX10_word_0 1 rfl rfl)
theorem dX10_word_2 : decode cX10_word 2 = .ok (.invokestatic 195, 3) := dk_184 0 195 (dk_at dksX10_word_0 2 rfl rfl)
theorem dX10_word_5 : decode cX10_word 5 = .ok (.iload_n 1, 1) := dk_27 (dk_at dksX10_word_0 5 rfl rfl)
theorem dX10_word_6 : decode cX10_word 6 = .ok (.invokestatic 195, 3) := dk_184 0 195 (dk_at dksX10_word_0 6 rfl rfl)
theorem dX10_word_9 : decode cX10_word 9 = .ok (.iload_n 2, 1) := dk_28 (dk_at dksX10_word_0 9 rfl rfl)
theorem dX10_word_10 : decode cX10_word 10 = .ok (.invokestatic 195, 3) := dk_184 0 195 (dk_at dksX10_word_0 10 rfl rfl)
theorem dX10_word_13 : decode cX10_word 13 = .ok (.iload_n 3, 1) := dk_29 (dk_at dksX10_word_0 13 rfl rfl)
theorem dX10_word_14 : decode cX10_word 14 = .ok (.invokestatic 195, 3) := dk_184 0 195 (dk_at dksX10_word_0 14 rfl rfl)
theorem dX10_word_17 : decode cX10_word 17 = .ok (.iload 4, 2) := dk_21 4 (dk_at dksX10_word_0 17 rfl rfl)
theorem dX10_word_19 : decode cX10_word 19 = .ok (.invokestatic 195, 3) := dk_184 0 195 (dk_at dksX10_word_0 19 rfl rfl)
theorem dX10_word_22 : decode cX10_word 22 = .ok (.iload 5, 2) := dk_21 5 (dk_at dksX10_word_0 22 rfl rfl)
theorem dX10_word_24 : decode cX10_word 24 = .ok (.invokestatic 195, 3) := dk_184 0 195 (dk_at dksX10_word_1 0 rfl rfl)
theorem dX10_word_27 : decode cX10_word 27 = .ok (.iload 6, 2) := dk_21 6 (dk_at dksX10_word_1 3 rfl rfl)
theorem dX10_word_29 : decode cX10_word 29 = .ok (.invokestatic 195, 3) := dk_184 0 195 (dk_at dksX10_word_1 5 rfl rfl)
theorem dX10_word_32 : decode cX10_word 32 = .ok (.lreturn, 1) := dk_173 (dk_at dksX10_word_1 8 rfl rfl)
abbrev cX10_appends : ByteArray := prog_22_method_9_code
def yX10_appends : MethodName := ⟨RX10, "appends", "(JI)J"⟩
def dkwX10_appends_0 : List UInt8 := [28, 154, 0, 7, 30, 167, 0, 16, 20, 0, 193, 30, 105, 28, 16, 97, 100, 4, 96, 133, 97, 173]
abbrev dktX10_appends_0 : List UInt8 := dkwX10_appends_0 ++ []
theorem dksX10_appends_0 : cX10_appends.data.toList.drop 0 = dktX10_appends_0 := by decide +kernel
theorem dX10_appends_0 : decode cX10_appends 0 = .ok (.iload_n 2, 1) := dk_28 (dk_at dksX10_appends_0 0 rfl rfl)
theorem dX10_appends_1 : decode cX10_appends 1 = .ok (.ifCond .ne 7, 3) := dk_154 0 7 (dk_at dksX10_appends_0 1 rfl rfl)
theorem dX10_appends_4 : decode cX10_appends 4 = .ok (.lload_n 0, 1) := dk_30 (dk_at dksX10_appends_0 4 rfl rfl)
theorem dX10_appends_5 : decode cX10_appends 5 = .ok (.goto 16, 3) := dk_167 0 16 (dk_at dksX10_appends_0 5 rfl rfl)
theorem dX10_appends_8 : decode cX10_appends 8 = .ok (.ldc2_w 193, 3) := dk_20 0 193 (dk_at dksX10_appends_0 8 rfl rfl)
theorem dX10_appends_11 : decode cX10_appends 11 = .ok (.lload_n 0, 1) := dk_30 (dk_at dksX10_appends_0 11 rfl rfl)
theorem dX10_appends_12 : decode cX10_appends 12 = .ok (.lmul, 1) := dk_105 (dk_at dksX10_appends_0 12 rfl rfl)
theorem dX10_appends_13 : decode cX10_appends 13 = .ok (.iload_n 2, 1) := dk_28 (dk_at dksX10_appends_0 13 rfl rfl)
theorem dX10_appends_14 : decode cX10_appends 14 = .ok (.bipush 97, 2) := dk_16 97 (dk_at dksX10_appends_0 14 rfl rfl)
theorem dX10_appends_16 : decode cX10_appends 16 = .ok (.isub, 1) := dk_100 (dk_at dksX10_appends_0 16 rfl rfl)
theorem dX10_appends_17 : decode cX10_appends 17 = .ok (.iconst 1, 1) := dk_4 (dk_at dksX10_appends_0 17 rfl rfl)
theorem dX10_appends_18 : decode cX10_appends 18 = .ok (.iadd, 1) := dk_96 (dk_at dksX10_appends_0 18 rfl rfl)
theorem dX10_appends_19 : decode cX10_appends 19 = .ok (.i2l, 1) := dk_133 (dk_at dksX10_appends_0 19 rfl rfl)
theorem dX10_appends_20 : decode cX10_appends 20 = .ok (.ladd, 1) := dk_97 (dk_at dksX10_appends_0 20 rfl rfl)
theorem dX10_appends_21 : decode cX10_appends 21 = .ok (.lreturn, 1) := dk_173 (dk_at dksX10_appends_0 21 rfl rfl)
abbrev cX10_begins : ByteArray := prog_22_method_46_code
def yX10_begins : MethodName := ⟨RX10, "begins", "()V"⟩
def dkwX10_begins_6 : List UInt8 := [180, 0, 85, 42, 180, 0, 251, 46, 181, 1, 85, 42, 3, 181, 1, 88, 177]
abbrev dktX10_begins_6 : List UInt8 := dkwX10_begins_6 ++ []
def dkwX10_begins_5 : List UInt8 := [180, 0, 251, 46, 154, 0, 8, 16, 254, 167, 0, 12, 42, 180, 0, 79, 42, 180, 0, 251, 46, 79, 42, 42]
abbrev dktX10_begins_5 : List UInt8 := dkwX10_begins_5 ++ dktX10_begins_6
def dkwX10_begins_4 : List UInt8 := [104, 27, 96, 46, 79, 132, 1, 1, 167, 255, 218, 42, 180, 0, 128, 16, 46, 42, 180, 0, 46, 42]
abbrev dktX10_begins_4 : List UInt8 := dkwX10_begins_4 ++ dktX10_begins_5
def dkwX10_begins_3 : List UInt8 := [180, 0, 251, 46, 162, 0, 31, 42, 180, 0, 128, 16, 36, 27, 96, 42, 180, 0, 76, 8, 42, 180, 0, 251]
abbrev dktX10_begins_3 : List UInt8 := dkwX10_begins_3 ++ dktX10_begins_4
def dkwX10_begins_2 : List UInt8 := [180, 0, 251, 104, 27, 96, 46, 79, 132, 1, 1, 167, 255, 220, 3, 60, 27, 42, 180, 0, 73, 42]
abbrev dktX10_begins_2 : List UInt8 := dkwX10_begins_2 ++ dktX10_begins_3
def dkwX10_begins_1 : List UInt8 := [42, 180, 0, 61, 42, 180, 0, 251, 46, 162, 0, 29, 42, 180, 0, 128, 27, 42, 180, 0, 70, 16, 6, 42]
abbrev dktX10_begins_1 : List UInt8 := dkwX10_begins_1 ++ dktX10_begins_2
def dkwX10_begins_0 : List UInt8 := [3, 60, 27, 16, 48, 162, 0, 16, 42, 180, 0, 128, 27, 3, 79, 132, 1, 1, 167, 255, 240, 3, 60, 27]
abbrev dktX10_begins_0 : List UInt8 := dkwX10_begins_0 ++ dktX10_begins_1
theorem dksX10_begins_0 : cX10_begins.data.toList.drop 0 = dktX10_begins_0 := by decide +kernel
theorem dksX10_begins_1 : cX10_begins.data.toList.drop 24 = dktX10_begins_1 := dk_seg dksX10_begins_0 24 rfl rfl
theorem dksX10_begins_2 : cX10_begins.data.toList.drop 48 = dktX10_begins_2 := dk_seg dksX10_begins_1 24 rfl rfl
theorem dksX10_begins_3 : cX10_begins.data.toList.drop 70 = dktX10_begins_3 := dk_seg dksX10_begins_2 22 rfl rfl
theorem dksX10_begins_4 : cX10_begins.data.toList.drop 94 = dktX10_begins_4 := dk_seg dksX10_begins_3 24 rfl rfl
theorem dksX10_begins_5 : cX10_begins.data.toList.drop 116 = dktX10_begins_5 := dk_seg dksX10_begins_4 22 rfl rfl
theorem dksX10_begins_6 : cX10_begins.data.toList.drop 140 = dktX10_begins_6 := dk_seg dksX10_begins_5 24 rfl rfl
theorem dX10_begins_0 : decode cX10_begins 0 = .ok (.iconst 0, 1) := dk_3 (dk_at dksX10_begins_0 0 rfl rfl)
theorem dX10_begins_1 : decode cX10_begins 1 = .ok (.istore_n 1, 1) := dk_60 (dk_at dksX10_begins_0 1 rfl rfl)
theorem dX10_begins_2 : decode cX10_begins 2 = .ok (.iload_n 1, 1) := dk_27 (dk_at dksX10_begins_0 2 rfl rfl)
theorem dX10_begins_3 : decode cX10_begins 3 = .ok (.bipush 48, 2) := dk_16 48 (dk_at dksX10_begins_0 3 rfl rfl)
theorem dX10_begins_5 : decode cX10_begins 5 = .ok (.if_icmp .ge 16, 3) := dk_162 0 16 (dk_at dksX10_begins_0 5 rfl rfl)
theorem dX10_begins_8 : decode cX10_begins 8 = .ok (.aload_n 0, 1) := dk_42 (dk_at dksX10_begins_0 8 rfl rfl)
theorem dX10_begins_9 : decode cX10_begins 9 = .ok (.getfield 128, 3) := dk_180 0 128 (dk_at dksX10_begins_0 9 rfl rfl)
theorem dX10_begins_12 : decode cX10_begins 12 = .ok (.iload_n 1, 1) := dk_27 (dk_at dksX10_begins_0 12 rfl rfl)
theorem dX10_begins_13 : decode cX10_begins 13 = .ok (.iconst 0, 1) := dk_3 (dk_at dksX10_begins_0 13 rfl rfl)
theorem dX10_begins_14 : decode cX10_begins 14 = .ok (.iastore, 1) := dk_79 (dk_at dksX10_begins_0 14 rfl rfl)
theorem dX10_begins_15 : decode cX10_begins 15 = .ok (.iinc 1 1, 3) := dk_132 1 1 (dk_at dksX10_begins_0 15 rfl rfl)
theorem dX10_begins_18 : decode cX10_begins 18 = .ok (.goto (-16), 3) := dk_167 255 240 (dk_at dksX10_begins_0 18 rfl rfl)
theorem dX10_begins_21 : decode cX10_begins 21 = .ok (.iconst 0, 1) := dk_3 (dk_at dksX10_begins_0 21 rfl rfl)
theorem dX10_begins_22 : decode cX10_begins 22 = .ok (.istore_n 1, 1) := dk_60 (dk_at dksX10_begins_0 22 rfl rfl)
theorem dX10_begins_23 : decode cX10_begins 23 = .ok (.iload_n 1, 1) := dk_27 (dk_at dksX10_begins_0 23 rfl rfl)
theorem dX10_begins_24 : decode cX10_begins 24 = .ok (.aload_n 0, 1) := dk_42 (dk_at dksX10_begins_1 0 rfl rfl)
theorem dX10_begins_25 : decode cX10_begins 25 = .ok (.getfield 61, 3) := dk_180 0 61 (dk_at dksX10_begins_1 1 rfl rfl)
theorem dX10_begins_28 : decode cX10_begins 28 = .ok (.aload_n 0, 1) := dk_42 (dk_at dksX10_begins_1 4 rfl rfl)
theorem dX10_begins_29 : decode cX10_begins 29 = .ok (.getfield 251, 3) := dk_180 0 251 (dk_at dksX10_begins_1 5 rfl rfl)
theorem dX10_begins_32 : decode cX10_begins 32 = .ok (.iaload, 1) := dk_46 (dk_at dksX10_begins_1 8 rfl rfl)
theorem dX10_begins_33 : decode cX10_begins 33 = .ok (.if_icmp .ge 29, 3) := dk_162 0 29 (dk_at dksX10_begins_1 9 rfl rfl)
theorem dX10_begins_36 : decode cX10_begins 36 = .ok (.aload_n 0, 1) := dk_42 (dk_at dksX10_begins_1 12 rfl rfl)
theorem dX10_begins_37 : decode cX10_begins 37 = .ok (.getfield 128, 3) := dk_180 0 128 (dk_at dksX10_begins_1 13 rfl rfl)
theorem dX10_begins_40 : decode cX10_begins 40 = .ok (.iload_n 1, 1) := dk_27 (dk_at dksX10_begins_1 16 rfl rfl)
theorem dX10_begins_41 : decode cX10_begins 41 = .ok (.aload_n 0, 1) := dk_42 (dk_at dksX10_begins_1 17 rfl rfl)
theorem dX10_begins_42 : decode cX10_begins 42 = .ok (.getfield 70, 3) := dk_180 0 70 (dk_at dksX10_begins_1 18 rfl rfl)
theorem dX10_begins_45 : decode cX10_begins 45 = .ok (.bipush 6, 2) := dk_16 6 (dk_at dksX10_begins_1 21 rfl rfl)
theorem dX10_begins_47 : decode cX10_begins 47 = .ok (.aload_n 0, 1) := dk_42 (dk_at dksX10_begins_1 23 rfl rfl)
theorem dX10_begins_48 : decode cX10_begins 48 = .ok (.getfield 251, 3) := dk_180 0 251 (dk_at dksX10_begins_2 0 rfl rfl)
theorem dX10_begins_51 : decode cX10_begins 51 = .ok (.imul, 1) := dk_104 (dk_at dksX10_begins_2 3 rfl rfl)
theorem dX10_begins_52 : decode cX10_begins 52 = .ok (.iload_n 1, 1) := dk_27 (dk_at dksX10_begins_2 4 rfl rfl)
theorem dX10_begins_53 : decode cX10_begins 53 = .ok (.iadd, 1) := dk_96 (dk_at dksX10_begins_2 5 rfl rfl)
theorem dX10_begins_54 : decode cX10_begins 54 = .ok (.iaload, 1) := dk_46 (dk_at dksX10_begins_2 6 rfl rfl)
theorem dX10_begins_55 : decode cX10_begins 55 = .ok (.iastore, 1) := dk_79 (dk_at dksX10_begins_2 7 rfl rfl)
theorem dX10_begins_56 : decode cX10_begins 56 = .ok (.iinc 1 1, 3) := dk_132 1 1 (dk_at dksX10_begins_2 8 rfl rfl)
theorem dX10_begins_59 : decode cX10_begins 59 = .ok (.goto (-36), 3) := dk_167 255 220 (dk_at dksX10_begins_2 11 rfl rfl)
theorem dX10_begins_62 : decode cX10_begins 62 = .ok (.iconst 0, 1) := dk_3 (dk_at dksX10_begins_2 14 rfl rfl)
theorem dX10_begins_63 : decode cX10_begins 63 = .ok (.istore_n 1, 1) := dk_60 (dk_at dksX10_begins_2 15 rfl rfl)
theorem dX10_begins_64 : decode cX10_begins 64 = .ok (.iload_n 1, 1) := dk_27 (dk_at dksX10_begins_2 16 rfl rfl)
theorem dX10_begins_65 : decode cX10_begins 65 = .ok (.aload_n 0, 1) := dk_42 (dk_at dksX10_begins_2 17 rfl rfl)
theorem dX10_begins_66 : decode cX10_begins 66 = .ok (.getfield 73, 3) := dk_180 0 73 (dk_at dksX10_begins_2 18 rfl rfl)
theorem dX10_begins_69 : decode cX10_begins 69 = .ok (.aload_n 0, 1) := dk_42 (dk_at dksX10_begins_2 21 rfl rfl)
theorem dX10_begins_70 : decode cX10_begins 70 = .ok (.getfield 251, 3) := dk_180 0 251 (dk_at dksX10_begins_3 0 rfl rfl)
theorem dX10_begins_73 : decode cX10_begins 73 = .ok (.iaload, 1) := dk_46 (dk_at dksX10_begins_3 3 rfl rfl)
theorem dX10_begins_74 : decode cX10_begins 74 = .ok (.if_icmp .ge 31, 3) := dk_162 0 31 (dk_at dksX10_begins_3 4 rfl rfl)
theorem dX10_begins_77 : decode cX10_begins 77 = .ok (.aload_n 0, 1) := dk_42 (dk_at dksX10_begins_3 7 rfl rfl)
theorem dX10_begins_78 : decode cX10_begins 78 = .ok (.getfield 128, 3) := dk_180 0 128 (dk_at dksX10_begins_3 8 rfl rfl)
theorem dX10_begins_81 : decode cX10_begins 81 = .ok (.bipush 36, 2) := dk_16 36 (dk_at dksX10_begins_3 11 rfl rfl)
theorem dX10_begins_83 : decode cX10_begins 83 = .ok (.iload_n 1, 1) := dk_27 (dk_at dksX10_begins_3 13 rfl rfl)
theorem dX10_begins_84 : decode cX10_begins 84 = .ok (.iadd, 1) := dk_96 (dk_at dksX10_begins_3 14 rfl rfl)
theorem dX10_begins_85 : decode cX10_begins 85 = .ok (.aload_n 0, 1) := dk_42 (dk_at dksX10_begins_3 15 rfl rfl)
theorem dX10_begins_86 : decode cX10_begins 86 = .ok (.getfield 76, 3) := dk_180 0 76 (dk_at dksX10_begins_3 16 rfl rfl)
theorem dX10_begins_89 : decode cX10_begins 89 = .ok (.iconst 5, 1) := dk_8 (dk_at dksX10_begins_3 19 rfl rfl)
theorem dX10_begins_90 : decode cX10_begins 90 = .ok (.aload_n 0, 1) := dk_42 (dk_at dksX10_begins_3 20 rfl rfl)
theorem dX10_begins_91 : decode cX10_begins 91 = .ok (.getfield 251, 3) := dk_180 0 251 (dk_at dksX10_begins_3 21 rfl rfl)
theorem dX10_begins_94 : decode cX10_begins 94 = .ok (.imul, 1) := dk_104 (dk_at dksX10_begins_4 0 rfl rfl)
theorem dX10_begins_95 : decode cX10_begins 95 = .ok (.iload_n 1, 1) := dk_27 (dk_at dksX10_begins_4 1 rfl rfl)
theorem dX10_begins_96 : decode cX10_begins 96 = .ok (.iadd, 1) := dk_96 (dk_at dksX10_begins_4 2 rfl rfl)
theorem dX10_begins_97 : decode cX10_begins 97 = .ok (.iaload, 1) := dk_46 (dk_at dksX10_begins_4 3 rfl rfl)
theorem dX10_begins_98 : decode cX10_begins 98 = .ok (.iastore, 1) := dk_79 (dk_at dksX10_begins_4 4 rfl rfl)
theorem dX10_begins_99 : decode cX10_begins 99 = .ok (.iinc 1 1, 3) := dk_132 1 1 (dk_at dksX10_begins_4 5 rfl rfl)
theorem dX10_begins_102 : decode cX10_begins 102 = .ok (.goto (-38), 3) := dk_167 255 218 (dk_at dksX10_begins_4 8 rfl rfl)
theorem dX10_begins_105 : decode cX10_begins 105 = .ok (.aload_n 0, 1) := dk_42 (dk_at dksX10_begins_4 11 rfl rfl)
theorem dX10_begins_106 : decode cX10_begins 106 = .ok (.getfield 128, 3) := dk_180 0 128 (dk_at dksX10_begins_4 12 rfl rfl)
theorem dX10_begins_109 : decode cX10_begins 109 = .ok (.bipush 46, 2) := dk_16 46 (dk_at dksX10_begins_4 15 rfl rfl)
theorem dX10_begins_111 : decode cX10_begins 111 = .ok (.aload_n 0, 1) := dk_42 (dk_at dksX10_begins_4 17 rfl rfl)
theorem dX10_begins_112 : decode cX10_begins 112 = .ok (.getfield 46, 3) := dk_180 0 46 (dk_at dksX10_begins_4 18 rfl rfl)
theorem dX10_begins_115 : decode cX10_begins 115 = .ok (.aload_n 0, 1) := dk_42 (dk_at dksX10_begins_4 21 rfl rfl)
theorem dX10_begins_116 : decode cX10_begins 116 = .ok (.getfield 251, 3) := dk_180 0 251 (dk_at dksX10_begins_5 0 rfl rfl)
theorem dX10_begins_119 : decode cX10_begins 119 = .ok (.iaload, 1) := dk_46 (dk_at dksX10_begins_5 3 rfl rfl)
theorem dX10_begins_120 : decode cX10_begins 120 = .ok (.ifCond .ne 8, 3) := dk_154 0 8 (dk_at dksX10_begins_5 4 rfl rfl)
theorem dX10_begins_123 : decode cX10_begins 123 = .ok (.bipush (-2), 2) := dk_16 254 (dk_at dksX10_begins_5 7 rfl rfl)
theorem dX10_begins_125 : decode cX10_begins 125 = .ok (.goto 12, 3) := dk_167 0 12 (dk_at dksX10_begins_5 9 rfl rfl)
theorem dX10_begins_128 : decode cX10_begins 128 = .ok (.aload_n 0, 1) := dk_42 (dk_at dksX10_begins_5 12 rfl rfl)
theorem dX10_begins_129 : decode cX10_begins 129 = .ok (.getfield 79, 3) := dk_180 0 79 (dk_at dksX10_begins_5 13 rfl rfl)
theorem dX10_begins_132 : decode cX10_begins 132 = .ok (.aload_n 0, 1) := dk_42 (dk_at dksX10_begins_5 16 rfl rfl)
theorem dX10_begins_133 : decode cX10_begins 133 = .ok (.getfield 251, 3) := dk_180 0 251 (dk_at dksX10_begins_5 17 rfl rfl)
theorem dX10_begins_136 : decode cX10_begins 136 = .ok (.iaload, 1) := dk_46 (dk_at dksX10_begins_5 20 rfl rfl)
theorem dX10_begins_137 : decode cX10_begins 137 = .ok (.iastore, 1) := dk_79 (dk_at dksX10_begins_5 21 rfl rfl)
theorem dX10_begins_138 : decode cX10_begins 138 = .ok (.aload_n 0, 1) := dk_42 (dk_at dksX10_begins_5 22 rfl rfl)
theorem dX10_begins_139 : decode cX10_begins 139 = .ok (.aload_n 0, 1) := dk_42 (dk_at dksX10_begins_5 23 rfl rfl)
theorem dX10_begins_140 : decode cX10_begins 140 = .ok (.getfield 85, 3) := dk_180 0 85 (dk_at dksX10_begins_6 0 rfl rfl)
theorem dX10_begins_143 : decode cX10_begins 143 = .ok (.aload_n 0, 1) := dk_42 (dk_at dksX10_begins_6 3 rfl rfl)
theorem dX10_begins_144 : decode cX10_begins 144 = .ok (.getfield 251, 3) := dk_180 0 251 (dk_at dksX10_begins_6 4 rfl rfl)
theorem dX10_begins_147 : decode cX10_begins 147 = .ok (.iaload, 1) := dk_46 (dk_at dksX10_begins_6 7 rfl rfl)
theorem dX10_begins_148 : decode cX10_begins 148 = .ok (.putfield 341, 3) := dk_181 1 85 (dk_at dksX10_begins_6 8 rfl rfl)
theorem dX10_begins_151 : decode cX10_begins 151 = .ok (.aload_n 0, 1) := dk_42 (dk_at dksX10_begins_6 11 rfl rfl)
theorem dX10_begins_152 : decode cX10_begins 152 = .ok (.iconst 0, 1) := dk_3 (dk_at dksX10_begins_6 12 rfl rfl)
theorem dX10_begins_153 : decode cX10_begins 153 = .ok (.putfield 344, 3) := dk_181 1 88 (dk_at dksX10_begins_6 13 rfl rfl)
theorem dX10_begins_156 : decode cX10_begins 156 = .ok (.return_, 1) := dk_177 (dk_at dksX10_begins_6 16 rfl rfl)
abbrev cX10_keepsRow : ByteArray := prog_22_method_47_code
def yX10_keepsRow : MethodName := ⟨RX10, "keepsRow", "()V"⟩
def dkwX10_keepsRow_1 : List UInt8 := [167, 255, 235, 177]
abbrev dktX10_keepsRow_1 : List UInt8 := dkwX10_keepsRow_1 ++ []
def dkwX10_keepsRow_0 : List UInt8 := [3, 60, 27, 16, 48, 162, 0, 21, 42, 180, 0, 125, 27, 42, 180, 0, 128, 27, 46, 79, 132, 1, 1]
abbrev dktX10_keepsRow_0 : List UInt8 := dkwX10_keepsRow_0 ++ dktX10_keepsRow_1
theorem dksX10_keepsRow_0 : cX10_keepsRow.data.toList.drop 0 = dktX10_keepsRow_0 := by decide +kernel
theorem dksX10_keepsRow_1 : cX10_keepsRow.data.toList.drop 23 = dktX10_keepsRow_1 := dk_seg dksX10_keepsRow_0 23 rfl rfl
theorem dX10_keepsRow_0 : decode cX10_keepsRow 0 = .ok (.iconst 0, 1) := dk_3 (dk_at dksX10_keepsRow_0 0 rfl rfl)
theorem dX10_keepsRow_1 : decode cX10_keepsRow 1 = .ok (.istore_n 1, 1) := dk_60 (dk_at dksX10_keepsRow_0 1 rfl rfl)
theorem dX10_keepsRow_2 : decode cX10_keepsRow 2 = .ok (.iload_n 1, 1) := dk_27 (dk_at dksX10_keepsRow_0 2 rfl rfl)
theorem dX10_keepsRow_3 : decode cX10_keepsRow 3 = .ok (.bipush 48, 2) := dk_16 48 (dk_at dksX10_keepsRow_0 3 rfl rfl)
theorem dX10_keepsRow_5 : decode cX10_keepsRow 5 = .ok (.if_icmp .ge 21, 3) := dk_162 0 21 (dk_at dksX10_keepsRow_0 5 rfl rfl)
theorem dX10_keepsRow_8 : decode cX10_keepsRow 8 = .ok (.aload_n 0, 1) := dk_42 (dk_at dksX10_keepsRow_0 8 rfl rfl)
theorem dX10_keepsRow_9 : decode cX10_keepsRow 9 = .ok (.getfield 125, 3) := dk_180 0 125 (dk_at dksX10_keepsRow_0 9 rfl rfl)
theorem dX10_keepsRow_12 : decode cX10_keepsRow 12 = .ok (.iload_n 1, 1) := dk_27 (dk_at dksX10_keepsRow_0 12 rfl rfl)
theorem dX10_keepsRow_13 : decode cX10_keepsRow 13 = .ok (.aload_n 0, 1) := dk_42 (dk_at dksX10_keepsRow_0 13 rfl rfl)
theorem dX10_keepsRow_14 : decode cX10_keepsRow 14 = .ok (.getfield 128, 3) := dk_180 0 128 (dk_at dksX10_keepsRow_0 14 rfl rfl)
theorem dX10_keepsRow_17 : decode cX10_keepsRow 17 = .ok (.iload_n 1, 1) := dk_27 (dk_at dksX10_keepsRow_0 17 rfl rfl)
theorem dX10_keepsRow_18 : decode cX10_keepsRow 18 = .ok (.iaload, 1) := dk_46 (dk_at dksX10_keepsRow_0 18 rfl rfl)
theorem dX10_keepsRow_19 : decode cX10_keepsRow 19 = .ok (.iastore, 1) := dk_79 (dk_at dksX10_keepsRow_0 19 rfl rfl)
theorem dX10_keepsRow_20 : decode cX10_keepsRow 20 = .ok (.iinc 1 1, 3) := dk_132 1 1 (dk_at dksX10_keepsRow_0 20 rfl rfl)
theorem dX10_keepsRow_23 : decode cX10_keepsRow 23 = .ok (.goto (-21), 3) := dk_167 255 235 (dk_at dksX10_keepsRow_1 0 rfl rfl)
theorem dX10_keepsRow_26 : decode cX10_keepsRow 26 = .ok (.return_, 1) := dk_177 (dk_at dksX10_keepsRow_1 3 rfl rfl)
abbrev cX10_feed : ByteArray := prog_22_method_3_code
def yX10_feed : MethodName := ⟨RX10, "feed", "(IIIII)I"⟩
def dkwX10_feed_2 : List UInt8 := [172]
abbrev dktX10_feed_2 : List UInt8 := dkwX10_feed_2 ++ []
def dkwX10_feed_1 : List UInt8 := [182, 0, 187, 42, 29, 182, 0, 187, 42, 21, 4, 182, 0, 187, 42, 21, 5, 182, 0, 187, 42, 180, 0, 184]
abbrev dktX10_feed_1 : List UInt8 := dkwX10_feed_1 ++ dktX10_feed_2
def dkwX10_feed_0 : List UInt8 := [42, 180, 0, 184, 16, 20, 96, 17, 7, 208, 164, 0, 5, 2, 172, 42, 27, 182, 0, 187, 42, 28]
abbrev dktX10_feed_0 : List UInt8 := dkwX10_feed_0 ++ dktX10_feed_1
theorem dksX10_feed_0 : cX10_feed.data.toList.drop 0 = dktX10_feed_0 := by decide +kernel
theorem dksX10_feed_1 : cX10_feed.data.toList.drop 22 = dktX10_feed_1 := dk_seg dksX10_feed_0 22 rfl rfl
theorem dksX10_feed_2 : cX10_feed.data.toList.drop 46 = dktX10_feed_2 := dk_seg dksX10_feed_1 24 rfl rfl
theorem dX10_feed_0 : decode cX10_feed 0 = .ok (.aload_n 0, 1) := dk_42 (dk_at dksX10_feed_0 0 rfl rfl)
theorem dX10_feed_1 : decode cX10_feed 1 = .ok (.getfield 184, 3) := dk_180 0 184 (dk_at dksX10_feed_0 1 rfl rfl)
theorem dX10_feed_4 : decode cX10_feed 4 = .ok (.bipush 20, 2) := dk_16 20 (dk_at dksX10_feed_0 4 rfl rfl)
theorem dX10_feed_6 : decode cX10_feed 6 = .ok (.iadd, 1) := dk_96 (dk_at dksX10_feed_0 6 rfl rfl)
theorem dX10_feed_7 : decode cX10_feed 7 = .ok (.sipush 2000, 3) := dk_17 7 208 (dk_at dksX10_feed_0 7 rfl rfl)
theorem dX10_feed_10 : decode cX10_feed 10 = .ok (.if_icmp .le 5, 3) := dk_164 0 5 (dk_at dksX10_feed_0 10 rfl rfl)
theorem dX10_feed_13 : decode cX10_feed 13 = .ok (.iconst (-1), 1) := dk_2 (dk_at dksX10_feed_0 13 rfl rfl)
theorem dX10_feed_14 : decode cX10_feed 14 = .ok (.ireturn, 1) := dk_172 (dk_at dksX10_feed_0 14 rfl rfl)
theorem dX10_feed_15 : decode cX10_feed 15 = .ok (.aload_n 0, 1) := dk_42 (dk_at dksX10_feed_0 15 rfl rfl)
theorem dX10_feed_16 : decode cX10_feed 16 = .ok (.iload_n 1, 1) := dk_27 (dk_at dksX10_feed_0 16 rfl rfl)
theorem dX10_feed_17 : decode cX10_feed 17 = .ok (.invokevirtual 187, 3) := dk_182 0 187 (dk_at dksX10_feed_0 17 rfl rfl)
theorem dX10_feed_20 : decode cX10_feed 20 = .ok (.aload_n 0, 1) := dk_42 (dk_at dksX10_feed_0 20 rfl rfl)
theorem dX10_feed_21 : decode cX10_feed 21 = .ok (.iload_n 2, 1) := dk_28 (dk_at dksX10_feed_0 21 rfl rfl)
theorem dX10_feed_22 : decode cX10_feed 22 = .ok (.invokevirtual 187, 3) := dk_182 0 187 (dk_at dksX10_feed_1 0 rfl rfl)
theorem dX10_feed_25 : decode cX10_feed 25 = .ok (.aload_n 0, 1) := dk_42 (dk_at dksX10_feed_1 3 rfl rfl)
theorem dX10_feed_26 : decode cX10_feed 26 = .ok (.iload_n 3, 1) := dk_29 (dk_at dksX10_feed_1 4 rfl rfl)
theorem dX10_feed_27 : decode cX10_feed 27 = .ok (.invokevirtual 187, 3) := dk_182 0 187 (dk_at dksX10_feed_1 5 rfl rfl)
theorem dX10_feed_30 : decode cX10_feed 30 = .ok (.aload_n 0, 1) := dk_42 (dk_at dksX10_feed_1 8 rfl rfl)
theorem dX10_feed_31 : decode cX10_feed 31 = .ok (.iload 4, 2) := dk_21 4 (dk_at dksX10_feed_1 9 rfl rfl)
theorem dX10_feed_33 : decode cX10_feed 33 = .ok (.invokevirtual 187, 3) := dk_182 0 187 (dk_at dksX10_feed_1 11 rfl rfl)
theorem dX10_feed_36 : decode cX10_feed 36 = .ok (.aload_n 0, 1) := dk_42 (dk_at dksX10_feed_1 14 rfl rfl)
theorem dX10_feed_37 : decode cX10_feed 37 = .ok (.iload 5, 2) := dk_21 5 (dk_at dksX10_feed_1 15 rfl rfl)
theorem dX10_feed_39 : decode cX10_feed 39 = .ok (.invokevirtual 187, 3) := dk_182 0 187 (dk_at dksX10_feed_1 17 rfl rfl)
theorem dX10_feed_42 : decode cX10_feed 42 = .ok (.aload_n 0, 1) := dk_42 (dk_at dksX10_feed_1 20 rfl rfl)
theorem dX10_feed_43 : decode cX10_feed 43 = .ok (.getfield 184, 3) := dk_180 0 184 (dk_at dksX10_feed_1 21 rfl rfl)
theorem dX10_feed_46 : decode cX10_feed 46 = .ok (.ireturn, 1) := dk_172 (dk_at dksX10_feed_2 0 rfl rfl)
abbrev cX10_put : ByteArray := prog_22_method_4_code
def yX10_put : MethodName := ⟨RX10, "put", "(I)V"⟩
def dkwX10_put_1 : List UInt8 := [180, 0, 184, 4, 96, 181, 0, 184, 132, 2, 248, 167, 255, 226, 177]
abbrev dktX10_put_1 : List UInt8 := dkwX10_put_1 ++ []
def dkwX10_put_0 : List UInt8 := [16, 24, 61, 28, 155, 0, 32, 42, 180, 0, 13, 42, 180, 0, 184, 27, 28, 122, 145, 84, 42, 89]
abbrev dktX10_put_0 : List UInt8 := dkwX10_put_0 ++ dktX10_put_1
theorem dksX10_put_0 : cX10_put.data.toList.drop 0 = dktX10_put_0 := by decide +kernel
theorem dksX10_put_1 : cX10_put.data.toList.drop 22 = dktX10_put_1 := dk_seg dksX10_put_0 22 rfl rfl
theorem dX10_put_0 : decode cX10_put 0 = .ok (.bipush 24, 2) := dk_16 24 (dk_at dksX10_put_0 0 rfl rfl)
theorem dX10_put_2 : decode cX10_put 2 = .ok (.istore_n 2, 1) := dk_61 (dk_at dksX10_put_0 2 rfl rfl)
theorem dX10_put_3 : decode cX10_put 3 = .ok (.iload_n 2, 1) := dk_28 (dk_at dksX10_put_0 3 rfl rfl)
theorem dX10_put_4 : decode cX10_put 4 = .ok (.ifCond .lt 32, 3) := dk_155 0 32 (dk_at dksX10_put_0 4 rfl rfl)
theorem dX10_put_7 : decode cX10_put 7 = .ok (.aload_n 0, 1) := dk_42 (dk_at dksX10_put_0 7 rfl rfl)
theorem dX10_put_8 : decode cX10_put 8 = .ok (.getfield 13, 3) := dk_180 0 13 (dk_at dksX10_put_0 8 rfl rfl)
theorem dX10_put_11 : decode cX10_put 11 = .ok (.aload_n 0, 1) := dk_42 (dk_at dksX10_put_0 11 rfl rfl)
theorem dX10_put_12 : decode cX10_put 12 = .ok (.getfield 184, 3) := dk_180 0 184 (dk_at dksX10_put_0 12 rfl rfl)
theorem dX10_put_15 : decode cX10_put 15 = .ok (.iload_n 1, 1) := dk_27 (dk_at dksX10_put_0 15 rfl rfl)
theorem dX10_put_16 : decode cX10_put 16 = .ok (.iload_n 2, 1) := dk_28 (dk_at dksX10_put_0 16 rfl rfl)
theorem dX10_put_17 : decode cX10_put 17 = .ok (.ishr, 1) := dk_122 (dk_at dksX10_put_0 17 rfl rfl)
theorem dX10_put_18 : decode cX10_put 18 = .ok (.i2b, 1) := dk_145 (dk_at dksX10_put_0 18 rfl rfl)
theorem dX10_put_19 : decode cX10_put 19 = .ok (.bastore, 1) := dk_84 (dk_at dksX10_put_0 19 rfl rfl)
theorem dX10_put_20 : decode cX10_put 20 = .ok (.aload_n 0, 1) := dk_42 (dk_at dksX10_put_0 20 rfl rfl)
theorem dX10_put_21 : decode cX10_put 21 = .ok (.dup, 1) := dk_89 (dk_at dksX10_put_0 21 rfl rfl)
theorem dX10_put_22 : decode cX10_put 22 = .ok (.getfield 184, 3) := dk_180 0 184 (dk_at dksX10_put_1 0 rfl rfl)
theorem dX10_put_25 : decode cX10_put 25 = .ok (.iconst 1, 1) := dk_4 (dk_at dksX10_put_1 3 rfl rfl)
theorem dX10_put_26 : decode cX10_put 26 = .ok (.iadd, 1) := dk_96 (dk_at dksX10_put_1 4 rfl rfl)
theorem dX10_put_27 : decode cX10_put 27 = .ok (.putfield 184, 3) := dk_181 0 184 (dk_at dksX10_put_1 5 rfl rfl)
theorem dX10_put_30 : decode cX10_put 30 = .ok (.iinc 2 (-8), 3) := dk_132 2 248 (dk_at dksX10_put_1 8 rfl rfl)
theorem dX10_put_33 : decode cX10_put 33 = .ok (.goto (-30), 3) := dk_167 255 226 (dk_at dksX10_put_1 11 rfl rfl)
theorem dX10_put_36 : decode cX10_put 36 = .ok (.return_, 1) := dk_177 (dk_at dksX10_put_1 14 rfl rfl)
abbrev cX10_back : ByteArray := prog_22_method_5_code
def yX10_back : MethodName := ⟨RX10, "back", "(I)I"⟩
def dkwX10_back_1 : List UInt8 := [42, 180, 0, 184, 172]
abbrev dktX10_back_1 : List UInt8 := dkwX10_back_1 ++ []
def dkwX10_back_0 : List UInt8 := [27, 155, 0, 11, 27, 42, 180, 0, 184, 164, 0, 5, 2, 172, 42, 89, 180, 0, 184, 27, 100, 181, 0, 184]
abbrev dktX10_back_0 : List UInt8 := dkwX10_back_0 ++ dktX10_back_1
theorem dksX10_back_0 : cX10_back.data.toList.drop 0 = dktX10_back_0 := by decide +kernel
theorem dksX10_back_1 : cX10_back.data.toList.drop 24 = dktX10_back_1 := dk_seg dksX10_back_0 24 rfl rfl
theorem dX10_back_0 : decode cX10_back 0 = .ok (.iload_n 1, 1) := dk_27 (dk_at dksX10_back_0 0 rfl rfl)
theorem dX10_back_1 : decode cX10_back 1 = .ok (.ifCond .lt 11, 3) := dk_155 0 11 (dk_at dksX10_back_0 1 rfl rfl)
theorem dX10_back_4 : decode cX10_back 4 = .ok (.iload_n 1, 1) := dk_27 (dk_at dksX10_back_0 4 rfl rfl)
theorem dX10_back_5 : decode cX10_back 5 = .ok (.aload_n 0, 1) := dk_42 (dk_at dksX10_back_0 5 rfl rfl)
theorem dX10_back_6 : decode cX10_back 6 = .ok (.getfield 184, 3) := dk_180 0 184 (dk_at dksX10_back_0 6 rfl rfl)
theorem dX10_back_9 : decode cX10_back 9 = .ok (.if_icmp .le 5, 3) := dk_164 0 5 (dk_at dksX10_back_0 9 rfl rfl)
theorem dX10_back_12 : decode cX10_back 12 = .ok (.iconst (-1), 1) := dk_2 (dk_at dksX10_back_0 12 rfl rfl)
theorem dX10_back_13 : decode cX10_back 13 = .ok (.ireturn, 1) := dk_172 (dk_at dksX10_back_0 13 rfl rfl)
theorem dX10_back_14 : decode cX10_back 14 = .ok (.aload_n 0, 1) := dk_42 (dk_at dksX10_back_0 14 rfl rfl)
theorem dX10_back_15 : decode cX10_back 15 = .ok (.dup, 1) := dk_89 (dk_at dksX10_back_0 15 rfl rfl)
theorem dX10_back_16 : decode cX10_back 16 = .ok (.getfield 184, 3) := dk_180 0 184 (dk_at dksX10_back_0 16 rfl rfl)
theorem dX10_back_19 : decode cX10_back 19 = .ok (.iload_n 1, 1) := dk_27 (dk_at dksX10_back_0 19 rfl rfl)
theorem dX10_back_20 : decode cX10_back 20 = .ok (.isub, 1) := dk_100 (dk_at dksX10_back_0 20 rfl rfl)
theorem dX10_back_21 : decode cX10_back 21 = .ok (.putfield 184, 3) := dk_181 0 184 (dk_at dksX10_back_0 21 rfl rfl)
theorem dX10_back_24 : decode cX10_back 24 = .ok (.aload_n 0, 1) := dk_42 (dk_at dksX10_back_1 0 rfl rfl)
theorem dX10_back_25 : decode cX10_back 25 = .ok (.getfield 184, 3) := dk_180 0 184 (dk_at dksX10_back_1 1 rfl rfl)
theorem dX10_back_28 : decode cX10_back 28 = .ok (.ireturn, 1) := dk_172 (dk_at dksX10_back_1 4 rfl rfl)
abbrev cX10_read : ByteArray := prog_22_method_20_code
def yX10_read : MethodName := ⟨RX10, "read", "()I"⟩
def dkwX10_read_10 : List UInt8 := [132, 1, 1, 167, 255, 241, 3, 172]
abbrev dktX10_read_10 : List UInt8 := dkwX10_read_10 ++ []
def dkwX10_read_9 : List UInt8 := [181, 1, 13, 42, 3, 181, 1, 16, 3, 60, 27, 6, 162, 0, 16, 42, 180, 0, 164, 27, 3, 84]
abbrev dktX10_read_9 : List UInt8 := dkwX10_read_9 ++ dktX10_read_10
def dkwX10_read_8 : List UInt8 := [180, 0, 230, 172, 42, 42, 180, 0, 254, 181, 0, 251, 42, 182, 0, 178, 42, 182, 0, 181, 42, 3]
abbrev dktX10_read_8 : List UInt8 := dkwX10_read_8 ++ dktX10_read_9
def dkwX10_read_7 : List UInt8 := [2, 181, 0, 37, 42, 180, 0, 221, 158, 0, 8, 42, 180, 0, 221, 172, 42, 180, 0, 230, 158, 0, 8, 42]
abbrev dktX10_read_7 : List UInt8 := dkwX10_read_7 ++ dktX10_read_8
def dkwX10_read_6 : List UInt8 := [158, 0, 10, 42, 180, 0, 227, 167, 0, 18, 42, 180, 0, 230, 158, 0, 10, 42, 180, 0, 233, 167, 0, 4]
abbrev dktX10_read_6 : List UInt8 := dkwX10_read_6 ++ dktX10_read_7
def dkwX10_read_5 : List UInt8 := [154, 0, 18, 42, 3, 182, 0, 239, 154, 0, 10, 42, 182, 1, 10, 167, 255, 237, 42, 42, 180, 0, 221]
abbrev dktX10_read_5 : List UInt8 := dkwX10_read_5 ++ dktX10_read_6
def dkwX10_read_4 : List UInt8 := [180, 0, 254, 104, 181, 1, 4, 42, 17, 1, 164, 42, 180, 0, 254, 104, 181, 1, 7, 42, 180, 0, 221]
abbrev dktX10_read_4 : List UInt8 := dkwX10_read_4 ++ dktX10_read_5
def dkwX10_read_3 : List UInt8 := [100, 181, 0, 254, 42, 3, 181, 1, 1, 42, 42, 180, 0, 254, 182, 0, 170, 42, 17, 0, 130, 42]
abbrev dktX10_read_3 : List UInt8 := dkwX10_read_3 ++ dktX10_read_4
def dkwX10_read_2 : List UInt8 := [181, 0, 224, 42, 3, 181, 0, 248, 42, 3, 181, 0, 221, 42, 3, 181, 0, 230, 42, 4, 42, 180, 0, 251]
abbrev dktX10_read_2 : List UInt8 := dkwX10_read_2 ++ dktX10_read_3
def dkwX10_read_1 : List UInt8 := [180, 0, 13, 27, 51, 84, 132, 1, 1, 167, 255, 233, 42, 3, 181, 0, 184, 42, 182, 0, 245, 42, 3]
abbrev dktX10_read_1 : List UInt8 := dkwX10_read_1 ++ dktX10_read_2
def dkwX10_read_0 : List UInt8 := [42, 42, 180, 0, 184, 181, 0, 190, 3, 60, 27, 42, 180, 0, 190, 162, 0, 21, 42, 180, 0, 17, 27, 42]
abbrev dktX10_read_0 : List UInt8 := dkwX10_read_0 ++ dktX10_read_1
theorem dksX10_read_0 : cX10_read.data.toList.drop 0 = dktX10_read_0 := by decide +kernel
theorem dksX10_read_1 : cX10_read.data.toList.drop 24 = dktX10_read_1 := dk_seg dksX10_read_0 24 rfl rfl
theorem dksX10_read_2 : cX10_read.data.toList.drop 47 = dktX10_read_2 := dk_seg dksX10_read_1 23 rfl rfl
theorem dksX10_read_3 : cX10_read.data.toList.drop 71 = dktX10_read_3 := dk_seg dksX10_read_2 24 rfl rfl
theorem dksX10_read_4 : cX10_read.data.toList.drop 93 = dktX10_read_4 := dk_seg dksX10_read_3 22 rfl rfl
theorem dksX10_read_5 : cX10_read.data.toList.drop 116 = dktX10_read_5 := dk_seg dksX10_read_4 23 rfl rfl
theorem dksX10_read_6 : cX10_read.data.toList.drop 139 = dktX10_read_6 := dk_seg dksX10_read_5 23 rfl rfl
theorem dksX10_read_7 : cX10_read.data.toList.drop 163 = dktX10_read_7 := dk_seg dksX10_read_6 24 rfl rfl
theorem dksX10_read_8 : cX10_read.data.toList.drop 187 = dktX10_read_8 := dk_seg dksX10_read_7 24 rfl rfl
theorem dksX10_read_9 : cX10_read.data.toList.drop 209 = dktX10_read_9 := dk_seg dksX10_read_8 22 rfl rfl
theorem dksX10_read_10 : cX10_read.data.toList.drop 231 = dktX10_read_10 := dk_seg dksX10_read_9 22 rfl rfl
theorem dX10_read_0 : decode cX10_read 0 = .ok (.aload_n 0, 1) := dk_42 (dk_at dksX10_read_0 0 rfl rfl)
theorem dX10_read_1 : decode cX10_read 1 = .ok (.aload_n 0, 1) := dk_42 (dk_at dksX10_read_0 1 rfl rfl)
theorem dX10_read_2 : decode cX10_read 2 = .ok (.getfield 184, 3) := dk_180 0 184 (dk_at dksX10_read_0 2 rfl rfl)
theorem dX10_read_5 : decode cX10_read 5 = .ok (.putfield 190, 3) := dk_181 0 190 (dk_at dksX10_read_0 5 rfl rfl)
theorem dX10_read_8 : decode cX10_read 8 = .ok (.iconst 0, 1) := dk_3 (dk_at dksX10_read_0 8 rfl rfl)
theorem dX10_read_9 : decode cX10_read 9 = .ok (.istore_n 1, 1) := dk_60 (dk_at dksX10_read_0 9 rfl rfl)
theorem dX10_read_10 : decode cX10_read 10 = .ok (.iload_n 1, 1) := dk_27 (dk_at dksX10_read_0 10 rfl rfl)
theorem dX10_read_11 : decode cX10_read 11 = .ok (.aload_n 0, 1) := dk_42 (dk_at dksX10_read_0 11 rfl rfl)
theorem dX10_read_12 : decode cX10_read 12 = .ok (.getfield 190, 3) := dk_180 0 190 (dk_at dksX10_read_0 12 rfl rfl)
theorem dX10_read_15 : decode cX10_read 15 = .ok (.if_icmp .ge 21, 3) := dk_162 0 21 (dk_at dksX10_read_0 15 rfl rfl)
theorem dX10_read_18 : decode cX10_read 18 = .ok (.aload_n 0, 1) := dk_42 (dk_at dksX10_read_0 18 rfl rfl)
theorem dX10_read_19 : decode cX10_read 19 = .ok (.getfield 17, 3) := dk_180 0 17 (dk_at dksX10_read_0 19 rfl rfl)
theorem dX10_read_22 : decode cX10_read 22 = .ok (.iload_n 1, 1) := dk_27 (dk_at dksX10_read_0 22 rfl rfl)
theorem dX10_read_23 : decode cX10_read 23 = .ok (.aload_n 0, 1) := dk_42 (dk_at dksX10_read_0 23 rfl rfl)
theorem dX10_read_24 : decode cX10_read 24 = .ok (.getfield 13, 3) := dk_180 0 13 (dk_at dksX10_read_1 0 rfl rfl)
theorem dX10_read_27 : decode cX10_read 27 = .ok (.iload_n 1, 1) := dk_27 (dk_at dksX10_read_1 3 rfl rfl)
theorem dX10_read_28 : decode cX10_read 28 = .ok (.baload, 1) := dk_51 (dk_at dksX10_read_1 4 rfl rfl)
theorem dX10_read_29 : decode cX10_read 29 = .ok (.bastore, 1) := dk_84 (dk_at dksX10_read_1 5 rfl rfl)
theorem dX10_read_30 : decode cX10_read 30 = .ok (.iinc 1 1, 3) := dk_132 1 1 (dk_at dksX10_read_1 6 rfl rfl)
theorem dX10_read_33 : decode cX10_read 33 = .ok (.goto (-23), 3) := dk_167 255 233 (dk_at dksX10_read_1 9 rfl rfl)
theorem dX10_read_36 : decode cX10_read 36 = .ok (.aload_n 0, 1) := dk_42 (dk_at dksX10_read_1 12 rfl rfl)
theorem dX10_read_37 : decode cX10_read 37 = .ok (.iconst 0, 1) := dk_3 (dk_at dksX10_read_1 13 rfl rfl)
theorem dX10_read_38 : decode cX10_read 38 = .ok (.putfield 184, 3) := dk_181 0 184 (dk_at dksX10_read_1 14 rfl rfl)
theorem dX10_read_41 : decode cX10_read 41 = .ok (.aload_n 0, 1) := dk_42 (dk_at dksX10_read_1 17 rfl rfl)
theorem dX10_read_42 : decode cX10_read 42 = .ok (.invokevirtual 245, 3) := dk_182 0 245 (dk_at dksX10_read_1 18 rfl rfl)
theorem dX10_read_45 : decode cX10_read 45 = .ok (.aload_n 0, 1) := dk_42 (dk_at dksX10_read_1 21 rfl rfl)
theorem dX10_read_46 : decode cX10_read 46 = .ok (.iconst 0, 1) := dk_3 (dk_at dksX10_read_1 22 rfl rfl)
theorem dX10_read_47 : decode cX10_read 47 = .ok (.putfield 224, 3) := dk_181 0 224 (dk_at dksX10_read_2 0 rfl rfl)
theorem dX10_read_50 : decode cX10_read 50 = .ok (.aload_n 0, 1) := dk_42 (dk_at dksX10_read_2 3 rfl rfl)
theorem dX10_read_51 : decode cX10_read 51 = .ok (.iconst 0, 1) := dk_3 (dk_at dksX10_read_2 4 rfl rfl)
theorem dX10_read_52 : decode cX10_read 52 = .ok (.putfield 248, 3) := dk_181 0 248 (dk_at dksX10_read_2 5 rfl rfl)
theorem dX10_read_55 : decode cX10_read 55 = .ok (.aload_n 0, 1) := dk_42 (dk_at dksX10_read_2 8 rfl rfl)
theorem dX10_read_56 : decode cX10_read 56 = .ok (.iconst 0, 1) := dk_3 (dk_at dksX10_read_2 9 rfl rfl)
theorem dX10_read_57 : decode cX10_read 57 = .ok (.putfield 221, 3) := dk_181 0 221 (dk_at dksX10_read_2 10 rfl rfl)
theorem dX10_read_60 : decode cX10_read 60 = .ok (.aload_n 0, 1) := dk_42 (dk_at dksX10_read_2 13 rfl rfl)
theorem dX10_read_61 : decode cX10_read 61 = .ok (.iconst 0, 1) := dk_3 (dk_at dksX10_read_2 14 rfl rfl)
theorem dX10_read_62 : decode cX10_read 62 = .ok (.putfield 230, 3) := dk_181 0 230 (dk_at dksX10_read_2 15 rfl rfl)
theorem dX10_read_65 : decode cX10_read 65 = .ok (.aload_n 0, 1) := dk_42 (dk_at dksX10_read_2 18 rfl rfl)
theorem dX10_read_66 : decode cX10_read 66 = .ok (.iconst 1, 1) := dk_4 (dk_at dksX10_read_2 19 rfl rfl)
theorem dX10_read_67 : decode cX10_read 67 = .ok (.aload_n 0, 1) := dk_42 (dk_at dksX10_read_2 20 rfl rfl)
theorem dX10_read_68 : decode cX10_read 68 = .ok (.getfield 251, 3) := dk_180 0 251 (dk_at dksX10_read_2 21 rfl rfl)
theorem dX10_read_71 : decode cX10_read 71 = .ok (.isub, 1) := dk_100 (dk_at dksX10_read_3 0 rfl rfl)
theorem dX10_read_72 : decode cX10_read 72 = .ok (.putfield 254, 3) := dk_181 0 254 (dk_at dksX10_read_3 1 rfl rfl)
theorem dX10_read_75 : decode cX10_read 75 = .ok (.aload_n 0, 1) := dk_42 (dk_at dksX10_read_3 4 rfl rfl)
theorem dX10_read_76 : decode cX10_read 76 = .ok (.iconst 0, 1) := dk_3 (dk_at dksX10_read_3 5 rfl rfl)
theorem dX10_read_77 : decode cX10_read 77 = .ok (.putfield 257, 3) := dk_181 1 1 (dk_at dksX10_read_3 6 rfl rfl)
theorem dX10_read_80 : decode cX10_read 80 = .ok (.aload_n 0, 1) := dk_42 (dk_at dksX10_read_3 9 rfl rfl)
theorem dX10_read_81 : decode cX10_read 81 = .ok (.aload_n 0, 1) := dk_42 (dk_at dksX10_read_3 10 rfl rfl)
theorem dX10_read_82 : decode cX10_read 82 = .ok (.getfield 254, 3) := dk_180 0 254 (dk_at dksX10_read_3 11 rfl rfl)
theorem dX10_read_85 : decode cX10_read 85 = .ok (.invokevirtual 170, 3) := dk_182 0 170 (dk_at dksX10_read_3 14 rfl rfl)
theorem dX10_read_88 : decode cX10_read 88 = .ok (.aload_n 0, 1) := dk_42 (dk_at dksX10_read_3 17 rfl rfl)
theorem dX10_read_89 : decode cX10_read 89 = .ok (.sipush 130, 3) := dk_17 0 130 (dk_at dksX10_read_3 18 rfl rfl)
theorem dX10_read_92 : decode cX10_read 92 = .ok (.aload_n 0, 1) := dk_42 (dk_at dksX10_read_3 21 rfl rfl)
theorem dX10_read_93 : decode cX10_read 93 = .ok (.getfield 254, 3) := dk_180 0 254 (dk_at dksX10_read_4 0 rfl rfl)
theorem dX10_read_96 : decode cX10_read 96 = .ok (.imul, 1) := dk_104 (dk_at dksX10_read_4 3 rfl rfl)
theorem dX10_read_97 : decode cX10_read 97 = .ok (.putfield 260, 3) := dk_181 1 4 (dk_at dksX10_read_4 4 rfl rfl)
theorem dX10_read_100 : decode cX10_read 100 = .ok (.aload_n 0, 1) := dk_42 (dk_at dksX10_read_4 7 rfl rfl)
theorem dX10_read_101 : decode cX10_read 101 = .ok (.sipush 420, 3) := dk_17 1 164 (dk_at dksX10_read_4 8 rfl rfl)
theorem dX10_read_104 : decode cX10_read 104 = .ok (.aload_n 0, 1) := dk_42 (dk_at dksX10_read_4 11 rfl rfl)
theorem dX10_read_105 : decode cX10_read 105 = .ok (.getfield 254, 3) := dk_180 0 254 (dk_at dksX10_read_4 12 rfl rfl)
theorem dX10_read_108 : decode cX10_read 108 = .ok (.imul, 1) := dk_104 (dk_at dksX10_read_4 15 rfl rfl)
theorem dX10_read_109 : decode cX10_read 109 = .ok (.putfield 263, 3) := dk_181 1 7 (dk_at dksX10_read_4 16 rfl rfl)
theorem dX10_read_112 : decode cX10_read 112 = .ok (.aload_n 0, 1) := dk_42 (dk_at dksX10_read_4 19 rfl rfl)
theorem dX10_read_113 : decode cX10_read 113 = .ok (.getfield 221, 3) := dk_180 0 221 (dk_at dksX10_read_4 20 rfl rfl)
theorem dX10_read_116 : decode cX10_read 116 = .ok (.ifCond .ne 18, 3) := dk_154 0 18 (dk_at dksX10_read_5 0 rfl rfl)
theorem dX10_read_119 : decode cX10_read 119 = .ok (.aload_n 0, 1) := dk_42 (dk_at dksX10_read_5 3 rfl rfl)
theorem dX10_read_120 : decode cX10_read 120 = .ok (.iconst 0, 1) := dk_3 (dk_at dksX10_read_5 4 rfl rfl)
theorem dX10_read_121 : decode cX10_read 121 = .ok (.invokevirtual 239, 3) := dk_182 0 239 (dk_at dksX10_read_5 5 rfl rfl)
theorem dX10_read_124 : decode cX10_read 124 = .ok (.ifCond .ne 10, 3) := dk_154 0 10 (dk_at dksX10_read_5 8 rfl rfl)
theorem dX10_read_127 : decode cX10_read 127 = .ok (.aload_n 0, 1) := dk_42 (dk_at dksX10_read_5 11 rfl rfl)
theorem dX10_read_128 : decode cX10_read 128 = .ok (.invokevirtual 266, 3) := dk_182 1 10 (dk_at dksX10_read_5 12 rfl rfl)
theorem dX10_read_131 : decode cX10_read 131 = .ok (.goto (-19), 3) := dk_167 255 237 (dk_at dksX10_read_5 15 rfl rfl)
theorem dX10_read_134 : decode cX10_read 134 = .ok (.aload_n 0, 1) := dk_42 (dk_at dksX10_read_5 18 rfl rfl)
theorem dX10_read_135 : decode cX10_read 135 = .ok (.aload_n 0, 1) := dk_42 (dk_at dksX10_read_5 19 rfl rfl)
theorem dX10_read_136 : decode cX10_read 136 = .ok (.getfield 221, 3) := dk_180 0 221 (dk_at dksX10_read_5 20 rfl rfl)
theorem dX10_read_139 : decode cX10_read 139 = .ok (.ifCond .le 10, 3) := dk_158 0 10 (dk_at dksX10_read_6 0 rfl rfl)
theorem dX10_read_142 : decode cX10_read 142 = .ok (.aload_n 0, 1) := dk_42 (dk_at dksX10_read_6 3 rfl rfl)
theorem dX10_read_143 : decode cX10_read 143 = .ok (.getfield 227, 3) := dk_180 0 227 (dk_at dksX10_read_6 4 rfl rfl)
theorem dX10_read_146 : decode cX10_read 146 = .ok (.goto 18, 3) := dk_167 0 18 (dk_at dksX10_read_6 7 rfl rfl)
theorem dX10_read_149 : decode cX10_read 149 = .ok (.aload_n 0, 1) := dk_42 (dk_at dksX10_read_6 10 rfl rfl)
theorem dX10_read_150 : decode cX10_read 150 = .ok (.getfield 230, 3) := dk_180 0 230 (dk_at dksX10_read_6 11 rfl rfl)
theorem dX10_read_153 : decode cX10_read 153 = .ok (.ifCond .le 10, 3) := dk_158 0 10 (dk_at dksX10_read_6 14 rfl rfl)
theorem dX10_read_156 : decode cX10_read 156 = .ok (.aload_n 0, 1) := dk_42 (dk_at dksX10_read_6 17 rfl rfl)
theorem dX10_read_157 : decode cX10_read 157 = .ok (.getfield 233, 3) := dk_180 0 233 (dk_at dksX10_read_6 18 rfl rfl)
theorem dX10_read_160 : decode cX10_read 160 = .ok (.goto 4, 3) := dk_167 0 4 (dk_at dksX10_read_6 21 rfl rfl)
theorem dX10_read_163 : decode cX10_read 163 = .ok (.iconst (-1), 1) := dk_2 (dk_at dksX10_read_7 0 rfl rfl)
theorem dX10_read_164 : decode cX10_read 164 = .ok (.putfield 37, 3) := dk_181 0 37 (dk_at dksX10_read_7 1 rfl rfl)
theorem dX10_read_167 : decode cX10_read 167 = .ok (.aload_n 0, 1) := dk_42 (dk_at dksX10_read_7 4 rfl rfl)
theorem dX10_read_168 : decode cX10_read 168 = .ok (.getfield 221, 3) := dk_180 0 221 (dk_at dksX10_read_7 5 rfl rfl)
theorem dX10_read_171 : decode cX10_read 171 = .ok (.ifCond .le 8, 3) := dk_158 0 8 (dk_at dksX10_read_7 8 rfl rfl)
theorem dX10_read_174 : decode cX10_read 174 = .ok (.aload_n 0, 1) := dk_42 (dk_at dksX10_read_7 11 rfl rfl)
theorem dX10_read_175 : decode cX10_read 175 = .ok (.getfield 221, 3) := dk_180 0 221 (dk_at dksX10_read_7 12 rfl rfl)
theorem dX10_read_178 : decode cX10_read 178 = .ok (.ireturn, 1) := dk_172 (dk_at dksX10_read_7 15 rfl rfl)
theorem dX10_read_179 : decode cX10_read 179 = .ok (.aload_n 0, 1) := dk_42 (dk_at dksX10_read_7 16 rfl rfl)
theorem dX10_read_180 : decode cX10_read 180 = .ok (.getfield 230, 3) := dk_180 0 230 (dk_at dksX10_read_7 17 rfl rfl)
theorem dX10_read_183 : decode cX10_read 183 = .ok (.ifCond .le 8, 3) := dk_158 0 8 (dk_at dksX10_read_7 20 rfl rfl)
theorem dX10_read_186 : decode cX10_read 186 = .ok (.aload_n 0, 1) := dk_42 (dk_at dksX10_read_7 23 rfl rfl)
theorem dX10_read_187 : decode cX10_read 187 = .ok (.getfield 230, 3) := dk_180 0 230 (dk_at dksX10_read_8 0 rfl rfl)
theorem dX10_read_190 : decode cX10_read 190 = .ok (.ireturn, 1) := dk_172 (dk_at dksX10_read_8 3 rfl rfl)
theorem dX10_read_191 : decode cX10_read 191 = .ok (.aload_n 0, 1) := dk_42 (dk_at dksX10_read_8 4 rfl rfl)
theorem dX10_read_192 : decode cX10_read 192 = .ok (.aload_n 0, 1) := dk_42 (dk_at dksX10_read_8 5 rfl rfl)
theorem dX10_read_193 : decode cX10_read 193 = .ok (.getfield 254, 3) := dk_180 0 254 (dk_at dksX10_read_8 6 rfl rfl)
theorem dX10_read_196 : decode cX10_read 196 = .ok (.putfield 251, 3) := dk_181 0 251 (dk_at dksX10_read_8 9 rfl rfl)
theorem dX10_read_199 : decode cX10_read 199 = .ok (.aload_n 0, 1) := dk_42 (dk_at dksX10_read_8 12 rfl rfl)
theorem dX10_read_200 : decode cX10_read 200 = .ok (.invokevirtual 178, 3) := dk_182 0 178 (dk_at dksX10_read_8 13 rfl rfl)
theorem dX10_read_203 : decode cX10_read 203 = .ok (.aload_n 0, 1) := dk_42 (dk_at dksX10_read_8 16 rfl rfl)
theorem dX10_read_204 : decode cX10_read 204 = .ok (.invokevirtual 181, 3) := dk_182 0 181 (dk_at dksX10_read_8 17 rfl rfl)
theorem dX10_read_207 : decode cX10_read 207 = .ok (.aload_n 0, 1) := dk_42 (dk_at dksX10_read_8 20 rfl rfl)
theorem dX10_read_208 : decode cX10_read 208 = .ok (.iconst 0, 1) := dk_3 (dk_at dksX10_read_8 21 rfl rfl)
theorem dX10_read_209 : decode cX10_read 209 = .ok (.putfield 269, 3) := dk_181 1 13 (dk_at dksX10_read_9 0 rfl rfl)
theorem dX10_read_212 : decode cX10_read 212 = .ok (.aload_n 0, 1) := dk_42 (dk_at dksX10_read_9 3 rfl rfl)
theorem dX10_read_213 : decode cX10_read 213 = .ok (.iconst 0, 1) := dk_3 (dk_at dksX10_read_9 4 rfl rfl)
theorem dX10_read_214 : decode cX10_read 214 = .ok (.putfield 272, 3) := dk_181 1 16 (dk_at dksX10_read_9 5 rfl rfl)
theorem dX10_read_217 : decode cX10_read 217 = .ok (.iconst 0, 1) := dk_3 (dk_at dksX10_read_9 8 rfl rfl)
theorem dX10_read_218 : decode cX10_read 218 = .ok (.istore_n 1, 1) := dk_60 (dk_at dksX10_read_9 9 rfl rfl)
theorem dX10_read_219 : decode cX10_read 219 = .ok (.iload_n 1, 1) := dk_27 (dk_at dksX10_read_9 10 rfl rfl)
theorem dX10_read_220 : decode cX10_read 220 = .ok (.iconst 3, 1) := dk_6 (dk_at dksX10_read_9 11 rfl rfl)
theorem dX10_read_221 : decode cX10_read 221 = .ok (.if_icmp .ge 16, 3) := dk_162 0 16 (dk_at dksX10_read_9 12 rfl rfl)
theorem dX10_read_224 : decode cX10_read 224 = .ok (.aload_n 0, 1) := dk_42 (dk_at dksX10_read_9 15 rfl rfl)
theorem dX10_read_225 : decode cX10_read 225 = .ok (.getfield 164, 3) := dk_180 0 164 (dk_at dksX10_read_9 16 rfl rfl)
theorem dX10_read_228 : decode cX10_read 228 = .ok (.iload_n 1, 1) := dk_27 (dk_at dksX10_read_9 19 rfl rfl)
theorem dX10_read_229 : decode cX10_read 229 = .ok (.iconst 0, 1) := dk_3 (dk_at dksX10_read_9 20 rfl rfl)
theorem dX10_read_230 : decode cX10_read 230 = .ok (.bastore, 1) := dk_84 (dk_at dksX10_read_9 21 rfl rfl)
theorem dX10_read_231 : decode cX10_read 231 = .ok (.iinc 1 1, 3) := dk_132 1 1 (dk_at dksX10_read_10 0 rfl rfl)
theorem dX10_read_234 : decode cX10_read 234 = .ok (.goto (-15), 3) := dk_167 255 241 (dk_at dksX10_read_10 3 rfl rfl)
theorem dX10_read_237 : decode cX10_read 237 = .ok (.iconst 0, 1) := dk_3 (dk_at dksX10_read_10 6 rfl rfl)
theorem dX10_read_238 : decode cX10_read 238 = .ok (.ireturn, 1) := dk_172 (dk_at dksX10_read_10 7 rfl rfl)
abbrev cX10_cutsUp : ByteArray := prog_22_method_12_code
def yX10_cutsUp : MethodName := ⟨RX10, "cutsUp", "()V"⟩
def dkwX10_cutsUp_12 : List UInt8 := [4, 96, 182, 0, 202, 182, 0, 217, 96, 60, 167, 254, 228, 177]
abbrev dktX10_cutsUp_12 : List UInt8 := dkwX10_cutsUp_12 ++ []
def dkwX10_cutsUp_11 : List UInt8 := [167, 0, 4, 5, 27, 21, 4, 9, 182, 0, 206, 27, 29, 96, 60, 167, 0, 19, 27, 42, 27, 28, 42, 27]
abbrev dktX10_cutsUp_11 : List UInt8 := dkwX10_cutsUp_11 ++ dktX10_cutsUp_12
def dkwX10_cutsUp_10 : List UInt8 := [96, 182, 0, 202, 96, 16, 48, 100, 54, 4, 132, 3, 1, 167, 255, 217, 42, 29, 7, 164, 0, 7, 6]
abbrev dktX10_cutsUp_10 : List UInt8 := dkwX10_cutsUp_10 ++ dktX10_cutsUp_11
def dkwX10_cutsUp_9 : List UInt8 := [29, 96, 182, 0, 202, 184, 0, 214, 153, 0, 32, 29, 7, 162, 0, 21, 16, 10, 21, 4, 104, 42, 27, 29]
abbrev dktX10_cutsUp_9 : List UInt8 := dkwX10_cutsUp_9 ++ dktX10_cutsUp_10
def dkwX10_cutsUp_8 : List UInt8 := [182, 0, 206, 27, 29, 96, 60, 167, 0, 98, 28, 184, 0, 214, 153, 0, 75, 3, 62, 3, 54, 4, 42, 27]
abbrev dktX10_cutsUp_8 : List UInt8 := dkwX10_cutsUp_8 ++ dktX10_cutsUp_9
def dkwX10_cutsUp_7 : List UInt8 := [154, 0, 10, 16, 20, 21, 7, 96, 54, 6, 132, 7, 1, 167, 255, 226, 42, 21, 6, 27, 3, 22, 4]
abbrev dktX10_cutsUp_7 : List UInt8 := dkwX10_cutsUp_7 ++ dktX10_cutsUp_8
def dkwX10_cutsUp_6 : List UInt8 := [163, 0, 39, 3, 54, 7, 21, 7, 16, 23, 162, 0, 29, 42, 180, 0, 34, 21, 7, 47, 22, 4, 148]
abbrev dktX10_cutsUp_6 : List UInt8 := dkwX10_cutsUp_6 ++ dktX10_cutsUp_7
def dkwX10_cutsUp_5 : List UInt8 := [55, 4, 132, 3, 1, 167, 255, 220, 29, 16, 8, 164, 0, 7, 6, 167, 0, 4, 4, 54, 6, 29, 16, 8]
abbrev dktX10_cutsUp_5 : List UInt8 := dkwX10_cutsUp_5 ++ dktX10_cutsUp_6
def dkwX10_cutsUp_4 : List UInt8 := [184, 0, 210, 153, 0, 29, 29, 16, 8, 162, 0, 17, 22, 4, 42, 27, 29, 96, 182, 0, 202, 184, 0, 195]
abbrev dktX10_cutsUp_4 : List UInt8 := dkwX10_cutsUp_4 ++ dktX10_cutsUp_5
def dkwX10_cutsUp_3 : List UInt8 := [167, 0, 221, 28, 184, 0, 210, 153, 0, 119, 3, 62, 9, 55, 4, 42, 27, 29, 96, 182, 0, 202]
abbrev dktX10_cutsUp_3 : List UInt8 := dkwX10_cutsUp_3 ++ dktX10_cutsUp_4
def dkwX10_cutsUp_2 : List UInt8 := [159, 0, 21, 28, 16, 10, 159, 0, 15, 28, 16, 13, 159, 0, 9, 28, 16, 32, 160, 0, 9, 132, 1, 1]
abbrev dktX10_cutsUp_2 : List UInt8 := dkwX10_cutsUp_2 ++ dktX10_cutsUp_3
def dkwX10_cutsUp_1 : List UInt8 := [42, 180, 0, 190, 161, 0, 15, 42, 3, 42, 180, 0, 190, 3, 9, 182, 0, 206, 177, 28, 16, 9]
abbrev dktX10_cutsUp_1 : List UInt8 := dkwX10_cutsUp_1 ++ dktX10_cutsUp_2
def dkwX10_cutsUp_0 : List UInt8 := [42, 3, 181, 0, 199, 3, 60, 42, 180, 0, 199, 17, 1, 144, 163, 1, 24, 42, 27, 182, 0, 202, 61, 27]
abbrev dktX10_cutsUp_0 : List UInt8 := dkwX10_cutsUp_0 ++ dktX10_cutsUp_1
theorem dksX10_cutsUp_0 : cX10_cutsUp.data.toList.drop 0 = dktX10_cutsUp_0 := by decide +kernel
theorem dksX10_cutsUp_1 : cX10_cutsUp.data.toList.drop 24 = dktX10_cutsUp_1 := dk_seg dksX10_cutsUp_0 24 rfl rfl
theorem dksX10_cutsUp_2 : cX10_cutsUp.data.toList.drop 46 = dktX10_cutsUp_2 := dk_seg dksX10_cutsUp_1 22 rfl rfl
theorem dksX10_cutsUp_3 : cX10_cutsUp.data.toList.drop 70 = dktX10_cutsUp_3 := dk_seg dksX10_cutsUp_2 24 rfl rfl
theorem dksX10_cutsUp_4 : cX10_cutsUp.data.toList.drop 92 = dktX10_cutsUp_4 := dk_seg dksX10_cutsUp_3 22 rfl rfl
theorem dksX10_cutsUp_5 : cX10_cutsUp.data.toList.drop 116 = dktX10_cutsUp_5 := dk_seg dksX10_cutsUp_4 24 rfl rfl
theorem dksX10_cutsUp_6 : cX10_cutsUp.data.toList.drop 140 = dktX10_cutsUp_6 := dk_seg dksX10_cutsUp_5 24 rfl rfl
theorem dksX10_cutsUp_7 : cX10_cutsUp.data.toList.drop 163 = dktX10_cutsUp_7 := dk_seg dksX10_cutsUp_6 23 rfl rfl
theorem dksX10_cutsUp_8 : cX10_cutsUp.data.toList.drop 186 = dktX10_cutsUp_8 := dk_seg dksX10_cutsUp_7 23 rfl rfl
theorem dksX10_cutsUp_9 : cX10_cutsUp.data.toList.drop 210 = dktX10_cutsUp_9 := dk_seg dksX10_cutsUp_8 24 rfl rfl
theorem dksX10_cutsUp_10 : cX10_cutsUp.data.toList.drop 234 = dktX10_cutsUp_10 := dk_seg dksX10_cutsUp_9 24 rfl rfl
theorem dksX10_cutsUp_11 : cX10_cutsUp.data.toList.drop 257 = dktX10_cutsUp_11 := dk_seg dksX10_cutsUp_10 23 rfl rfl
theorem dksX10_cutsUp_12 : cX10_cutsUp.data.toList.drop 281 = dktX10_cutsUp_12 := dk_seg dksX10_cutsUp_11 24 rfl rfl
theorem dX10_cutsUp_0 : decode cX10_cutsUp 0 = .ok (.aload_n 0, 1) := dk_42 (dk_at dksX10_cutsUp_0 0 rfl rfl)
theorem dX10_cutsUp_1 : decode cX10_cutsUp 1 = .ok (.iconst 0, 1) := dk_3 (dk_at dksX10_cutsUp_0 1 rfl rfl)
theorem dX10_cutsUp_2 : decode cX10_cutsUp 2 = .ok (.putfield 199, 3) := dk_181 0 199 (dk_at dksX10_cutsUp_0 2 rfl rfl)
theorem dX10_cutsUp_5 : decode cX10_cutsUp 5 = .ok (.iconst 0, 1) := dk_3 (dk_at dksX10_cutsUp_0 5 rfl rfl)
theorem dX10_cutsUp_6 : decode cX10_cutsUp 6 = .ok (.istore_n 1, 1) := dk_60 (dk_at dksX10_cutsUp_0 6 rfl rfl)
theorem dX10_cutsUp_7 : decode cX10_cutsUp 7 = .ok (.aload_n 0, 1) := dk_42 (dk_at dksX10_cutsUp_0 7 rfl rfl)
theorem dX10_cutsUp_8 : decode cX10_cutsUp 8 = .ok (.getfield 199, 3) := dk_180 0 199 (dk_at dksX10_cutsUp_0 8 rfl rfl)
theorem dX10_cutsUp_11 : decode cX10_cutsUp 11 = .ok (.sipush 400, 3) := dk_17 1 144 (dk_at dksX10_cutsUp_0 11 rfl rfl)
theorem dX10_cutsUp_14 : decode cX10_cutsUp 14 = .ok (.if_icmp .gt 280, 3) := dk_163 1 24 (dk_at dksX10_cutsUp_0 14 rfl rfl)
theorem dX10_cutsUp_17 : decode cX10_cutsUp 17 = .ok (.aload_n 0, 1) := dk_42 (dk_at dksX10_cutsUp_0 17 rfl rfl)
theorem dX10_cutsUp_18 : decode cX10_cutsUp 18 = .ok (.iload_n 1, 1) := dk_27 (dk_at dksX10_cutsUp_0 18 rfl rfl)
theorem dX10_cutsUp_19 : decode cX10_cutsUp 19 = .ok (.invokevirtual 202, 3) := dk_182 0 202 (dk_at dksX10_cutsUp_0 19 rfl rfl)
theorem dX10_cutsUp_22 : decode cX10_cutsUp 22 = .ok (.istore_n 2, 1) := dk_61 (dk_at dksX10_cutsUp_0 22 rfl rfl)
theorem dX10_cutsUp_23 : decode cX10_cutsUp 23 = .ok (.iload_n 1, 1) := dk_27 (dk_at dksX10_cutsUp_0 23 rfl rfl)
theorem dX10_cutsUp_24 : decode cX10_cutsUp 24 = .ok (.aload_n 0, 1) := dk_42 (dk_at dksX10_cutsUp_1 0 rfl rfl)
theorem dX10_cutsUp_25 : decode cX10_cutsUp 25 = .ok (.getfield 190, 3) := dk_180 0 190 (dk_at dksX10_cutsUp_1 1 rfl rfl)
theorem dX10_cutsUp_28 : decode cX10_cutsUp 28 = .ok (.if_icmp .lt 15, 3) := dk_161 0 15 (dk_at dksX10_cutsUp_1 4 rfl rfl)
theorem dX10_cutsUp_31 : decode cX10_cutsUp 31 = .ok (.aload_n 0, 1) := dk_42 (dk_at dksX10_cutsUp_1 7 rfl rfl)
theorem dX10_cutsUp_32 : decode cX10_cutsUp 32 = .ok (.iconst 0, 1) := dk_3 (dk_at dksX10_cutsUp_1 8 rfl rfl)
theorem dX10_cutsUp_33 : decode cX10_cutsUp 33 = .ok (.aload_n 0, 1) := dk_42 (dk_at dksX10_cutsUp_1 9 rfl rfl)
theorem dX10_cutsUp_34 : decode cX10_cutsUp 34 = .ok (.getfield 190, 3) := dk_180 0 190 (dk_at dksX10_cutsUp_1 10 rfl rfl)
theorem dX10_cutsUp_37 : decode cX10_cutsUp 37 = .ok (.iconst 0, 1) := dk_3 (dk_at dksX10_cutsUp_1 13 rfl rfl)
theorem dX10_cutsUp_38 : decode cX10_cutsUp 38 = .ok (.lconst 0, 1) := dk_9 (dk_at dksX10_cutsUp_1 14 rfl rfl)
theorem dX10_cutsUp_39 : decode cX10_cutsUp 39 = .ok (.invokevirtual 206, 3) := dk_182 0 206 (dk_at dksX10_cutsUp_1 15 rfl rfl)
theorem dX10_cutsUp_42 : decode cX10_cutsUp 42 = .ok (.return_, 1) := dk_177 (dk_at dksX10_cutsUp_1 18 rfl rfl)
theorem dX10_cutsUp_43 : decode cX10_cutsUp 43 = .ok (.iload_n 2, 1) := dk_28 (dk_at dksX10_cutsUp_1 19 rfl rfl)
theorem dX10_cutsUp_44 : decode cX10_cutsUp 44 = .ok (.bipush 9, 2) := dk_16 9 (dk_at dksX10_cutsUp_1 20 rfl rfl)
theorem dX10_cutsUp_46 : decode cX10_cutsUp 46 = .ok (.if_icmp .eq 21, 3) := dk_159 0 21 (dk_at dksX10_cutsUp_2 0 rfl rfl)
theorem dX10_cutsUp_49 : decode cX10_cutsUp 49 = .ok (.iload_n 2, 1) := dk_28 (dk_at dksX10_cutsUp_2 3 rfl rfl)
theorem dX10_cutsUp_50 : decode cX10_cutsUp 50 = .ok (.bipush 10, 2) := dk_16 10 (dk_at dksX10_cutsUp_2 4 rfl rfl)
theorem dX10_cutsUp_52 : decode cX10_cutsUp 52 = .ok (.if_icmp .eq 15, 3) := dk_159 0 15 (dk_at dksX10_cutsUp_2 6 rfl rfl)
theorem dX10_cutsUp_55 : decode cX10_cutsUp 55 = .ok (.iload_n 2, 1) := dk_28 (dk_at dksX10_cutsUp_2 9 rfl rfl)
theorem dX10_cutsUp_56 : decode cX10_cutsUp 56 = .ok (.bipush 13, 2) := dk_16 13 (dk_at dksX10_cutsUp_2 10 rfl rfl)
theorem dX10_cutsUp_58 : decode cX10_cutsUp 58 = .ok (.if_icmp .eq 9, 3) := dk_159 0 9 (dk_at dksX10_cutsUp_2 12 rfl rfl)
theorem dX10_cutsUp_61 : decode cX10_cutsUp 61 = .ok (.iload_n 2, 1) := dk_28 (dk_at dksX10_cutsUp_2 15 rfl rfl)
theorem dX10_cutsUp_62 : decode cX10_cutsUp 62 = .ok (.bipush 32, 2) := dk_16 32 (dk_at dksX10_cutsUp_2 16 rfl rfl)
theorem dX10_cutsUp_64 : decode cX10_cutsUp 64 = .ok (.if_icmp .ne 9, 3) := dk_160 0 9 (dk_at dksX10_cutsUp_2 18 rfl rfl)
theorem dX10_cutsUp_67 : decode cX10_cutsUp 67 = .ok (.iinc 1 1, 3) := dk_132 1 1 (dk_at dksX10_cutsUp_2 21 rfl rfl)
theorem dX10_cutsUp_70 : decode cX10_cutsUp 70 = .ok (.goto 221, 3) := dk_167 0 221 (dk_at dksX10_cutsUp_3 0 rfl rfl)
theorem dX10_cutsUp_73 : decode cX10_cutsUp 73 = .ok (.iload_n 2, 1) := dk_28 (dk_at dksX10_cutsUp_3 3 rfl rfl)
theorem dX10_cutsUp_74 : decode cX10_cutsUp 74 = .ok (.invokestatic 210, 3) := dk_184 0 210 (dk_at dksX10_cutsUp_3 4 rfl rfl)
theorem dX10_cutsUp_77 : decode cX10_cutsUp 77 = .ok (.ifCond .eq 119, 3) := dk_153 0 119 (dk_at dksX10_cutsUp_3 7 rfl rfl)
theorem dX10_cutsUp_80 : decode cX10_cutsUp 80 = .ok (.iconst 0, 1) := dk_3 (dk_at dksX10_cutsUp_3 10 rfl rfl)
theorem dX10_cutsUp_81 : decode cX10_cutsUp 81 = .ok (.istore_n 3, 1) := dk_62 (dk_at dksX10_cutsUp_3 11 rfl rfl)
theorem dX10_cutsUp_82 : decode cX10_cutsUp 82 = .ok (.lconst 0, 1) := dk_9 (dk_at dksX10_cutsUp_3 12 rfl rfl)
theorem dX10_cutsUp_83 : decode cX10_cutsUp 83 = .ok (.lstore 4, 2) := dk_55 4 (dk_at dksX10_cutsUp_3 13 rfl rfl)
theorem dX10_cutsUp_85 : decode cX10_cutsUp 85 = .ok (.aload_n 0, 1) := dk_42 (dk_at dksX10_cutsUp_3 15 rfl rfl)
theorem dX10_cutsUp_86 : decode cX10_cutsUp 86 = .ok (.iload_n 1, 1) := dk_27 (dk_at dksX10_cutsUp_3 16 rfl rfl)
theorem dX10_cutsUp_87 : decode cX10_cutsUp 87 = .ok (.iload_n 3, 1) := dk_29 (dk_at dksX10_cutsUp_3 17 rfl rfl)
theorem dX10_cutsUp_88 : decode cX10_cutsUp 88 = .ok (.iadd, 1) := dk_96 (dk_at dksX10_cutsUp_3 18 rfl rfl)
theorem dX10_cutsUp_89 : decode cX10_cutsUp 89 = .ok (.invokevirtual 202, 3) := dk_182 0 202 (dk_at dksX10_cutsUp_3 19 rfl rfl)
theorem dX10_cutsUp_92 : decode cX10_cutsUp 92 = .ok (.invokestatic 210, 3) := dk_184 0 210 (dk_at dksX10_cutsUp_4 0 rfl rfl)
theorem dX10_cutsUp_95 : decode cX10_cutsUp 95 = .ok (.ifCond .eq 29, 3) := dk_153 0 29 (dk_at dksX10_cutsUp_4 3 rfl rfl)
theorem dX10_cutsUp_98 : decode cX10_cutsUp 98 = .ok (.iload_n 3, 1) := dk_29 (dk_at dksX10_cutsUp_4 6 rfl rfl)
theorem dX10_cutsUp_99 : decode cX10_cutsUp 99 = .ok (.bipush 8, 2) := dk_16 8 (dk_at dksX10_cutsUp_4 7 rfl rfl)
theorem dX10_cutsUp_101 : decode cX10_cutsUp 101 = .ok (.if_icmp .ge 17, 3) := dk_162 0 17 (dk_at dksX10_cutsUp_4 9 rfl rfl)
theorem dX10_cutsUp_104 : decode cX10_cutsUp 104 = .ok (.lload 4, 2) := dk_22 4 (dk_at dksX10_cutsUp_4 12 rfl rfl)
theorem dX10_cutsUp_106 : decode cX10_cutsUp 106 = .ok (.aload_n 0, 1) := dk_42 (dk_at dksX10_cutsUp_4 14 rfl rfl)
theorem dX10_cutsUp_107 : decode cX10_cutsUp 107 = .ok (.iload_n 1, 1) := dk_27 (dk_at dksX10_cutsUp_4 15 rfl rfl)
theorem dX10_cutsUp_108 : decode cX10_cutsUp 108 = .ok (.iload_n 3, 1) := dk_29 (dk_at dksX10_cutsUp_4 16 rfl rfl)
theorem dX10_cutsUp_109 : decode cX10_cutsUp 109 = .ok (.iadd, 1) := dk_96 (dk_at dksX10_cutsUp_4 17 rfl rfl)
theorem dX10_cutsUp_110 : decode cX10_cutsUp 110 = .ok (.invokevirtual 202, 3) := dk_182 0 202 (dk_at dksX10_cutsUp_4 18 rfl rfl)
theorem dX10_cutsUp_113 : decode cX10_cutsUp 113 = .ok (.invokestatic 195, 3) := dk_184 0 195 (dk_at dksX10_cutsUp_4 21 rfl rfl)
theorem dX10_cutsUp_116 : decode cX10_cutsUp 116 = .ok (.lstore 4, 2) := dk_55 4 (dk_at dksX10_cutsUp_5 0 rfl rfl)
theorem dX10_cutsUp_118 : decode cX10_cutsUp 118 = .ok (.iinc 3 1, 3) := dk_132 3 1 (dk_at dksX10_cutsUp_5 2 rfl rfl)
theorem dX10_cutsUp_121 : decode cX10_cutsUp 121 = .ok (.goto (-36), 3) := dk_167 255 220 (dk_at dksX10_cutsUp_5 5 rfl rfl)
theorem dX10_cutsUp_124 : decode cX10_cutsUp 124 = .ok (.iload_n 3, 1) := dk_29 (dk_at dksX10_cutsUp_5 8 rfl rfl)
theorem dX10_cutsUp_125 : decode cX10_cutsUp 125 = .ok (.bipush 8, 2) := dk_16 8 (dk_at dksX10_cutsUp_5 9 rfl rfl)
theorem dX10_cutsUp_127 : decode cX10_cutsUp 127 = .ok (.if_icmp .le 7, 3) := dk_164 0 7 (dk_at dksX10_cutsUp_5 11 rfl rfl)
theorem dX10_cutsUp_130 : decode cX10_cutsUp 130 = .ok (.iconst 3, 1) := dk_6 (dk_at dksX10_cutsUp_5 14 rfl rfl)
theorem dX10_cutsUp_131 : decode cX10_cutsUp 131 = .ok (.goto 4, 3) := dk_167 0 4 (dk_at dksX10_cutsUp_5 15 rfl rfl)
theorem dX10_cutsUp_134 : decode cX10_cutsUp 134 = .ok (.iconst 1, 1) := dk_4 (dk_at dksX10_cutsUp_5 18 rfl rfl)
theorem dX10_cutsUp_135 : decode cX10_cutsUp 135 = .ok (.istore 6, 2) := dk_54 6 (dk_at dksX10_cutsUp_5 19 rfl rfl)
theorem dX10_cutsUp_137 : decode cX10_cutsUp 137 = .ok (.iload_n 3, 1) := dk_29 (dk_at dksX10_cutsUp_5 21 rfl rfl)
theorem dX10_cutsUp_138 : decode cX10_cutsUp 138 = .ok (.bipush 8, 2) := dk_16 8 (dk_at dksX10_cutsUp_5 22 rfl rfl)
theorem dX10_cutsUp_140 : decode cX10_cutsUp 140 = .ok (.if_icmp .gt 39, 3) := dk_163 0 39 (dk_at dksX10_cutsUp_6 0 rfl rfl)
theorem dX10_cutsUp_143 : decode cX10_cutsUp 143 = .ok (.iconst 0, 1) := dk_3 (dk_at dksX10_cutsUp_6 3 rfl rfl)
theorem dX10_cutsUp_144 : decode cX10_cutsUp 144 = .ok (.istore 7, 2) := dk_54 7 (dk_at dksX10_cutsUp_6 4 rfl rfl)
theorem dX10_cutsUp_146 : decode cX10_cutsUp 146 = .ok (.iload 7, 2) := dk_21 7 (dk_at dksX10_cutsUp_6 6 rfl rfl)
theorem dX10_cutsUp_148 : decode cX10_cutsUp 148 = .ok (.bipush 23, 2) := dk_16 23 (dk_at dksX10_cutsUp_6 8 rfl rfl)
theorem dX10_cutsUp_150 : decode cX10_cutsUp 150 = .ok (.if_icmp .ge 29, 3) := dk_162 0 29 (dk_at dksX10_cutsUp_6 10 rfl rfl)
theorem dX10_cutsUp_153 : decode cX10_cutsUp 153 = .ok (.aload_n 0, 1) := dk_42 (dk_at dksX10_cutsUp_6 13 rfl rfl)
theorem dX10_cutsUp_154 : decode cX10_cutsUp 154 = .ok (.getfield 34, 3) := dk_180 0 34 (dk_at dksX10_cutsUp_6 14 rfl rfl)
theorem dX10_cutsUp_157 : decode cX10_cutsUp 157 = .ok (.iload 7, 2) := dk_21 7 (dk_at dksX10_cutsUp_6 17 rfl rfl)
theorem dX10_cutsUp_159 : decode cX10_cutsUp 159 = .ok (.laload, 1) := dk_47 (dk_at dksX10_cutsUp_6 19 rfl rfl)
theorem dX10_cutsUp_160 : decode cX10_cutsUp 160 = .ok (.lload 4, 2) := dk_22 4 (dk_at dksX10_cutsUp_6 20 rfl rfl)
theorem dX10_cutsUp_162 : decode cX10_cutsUp 162 = .ok (.lcmp, 1) := dk_148 (dk_at dksX10_cutsUp_6 22 rfl rfl)
theorem dX10_cutsUp_163 : decode cX10_cutsUp 163 = .ok (.ifCond .ne 10, 3) := dk_154 0 10 (dk_at dksX10_cutsUp_7 0 rfl rfl)
theorem dX10_cutsUp_166 : decode cX10_cutsUp 166 = .ok (.bipush 20, 2) := dk_16 20 (dk_at dksX10_cutsUp_7 3 rfl rfl)
theorem dX10_cutsUp_168 : decode cX10_cutsUp 168 = .ok (.iload 7, 2) := dk_21 7 (dk_at dksX10_cutsUp_7 5 rfl rfl)
theorem dX10_cutsUp_170 : decode cX10_cutsUp 170 = .ok (.iadd, 1) := dk_96 (dk_at dksX10_cutsUp_7 7 rfl rfl)
theorem dX10_cutsUp_171 : decode cX10_cutsUp 171 = .ok (.istore 6, 2) := dk_54 6 (dk_at dksX10_cutsUp_7 8 rfl rfl)
theorem dX10_cutsUp_173 : decode cX10_cutsUp 173 = .ok (.iinc 7 1, 3) := dk_132 7 1 (dk_at dksX10_cutsUp_7 10 rfl rfl)
theorem dX10_cutsUp_176 : decode cX10_cutsUp 176 = .ok (.goto (-30), 3) := dk_167 255 226 (dk_at dksX10_cutsUp_7 13 rfl rfl)
theorem dX10_cutsUp_179 : decode cX10_cutsUp 179 = .ok (.aload_n 0, 1) := dk_42 (dk_at dksX10_cutsUp_7 16 rfl rfl)
theorem dX10_cutsUp_180 : decode cX10_cutsUp 180 = .ok (.iload 6, 2) := dk_21 6 (dk_at dksX10_cutsUp_7 17 rfl rfl)
theorem dX10_cutsUp_182 : decode cX10_cutsUp 182 = .ok (.iload_n 1, 1) := dk_27 (dk_at dksX10_cutsUp_7 19 rfl rfl)
theorem dX10_cutsUp_183 : decode cX10_cutsUp 183 = .ok (.iconst 0, 1) := dk_3 (dk_at dksX10_cutsUp_7 20 rfl rfl)
theorem dX10_cutsUp_184 : decode cX10_cutsUp 184 = .ok (.lload 4, 2) := dk_22 4 (dk_at dksX10_cutsUp_7 21 rfl rfl)
theorem dX10_cutsUp_186 : decode cX10_cutsUp 186 = .ok (.invokevirtual 206, 3) := dk_182 0 206 (dk_at dksX10_cutsUp_8 0 rfl rfl)
theorem dX10_cutsUp_189 : decode cX10_cutsUp 189 = .ok (.iload_n 1, 1) := dk_27 (dk_at dksX10_cutsUp_8 3 rfl rfl)
theorem dX10_cutsUp_190 : decode cX10_cutsUp 190 = .ok (.iload_n 3, 1) := dk_29 (dk_at dksX10_cutsUp_8 4 rfl rfl)
theorem dX10_cutsUp_191 : decode cX10_cutsUp 191 = .ok (.iadd, 1) := dk_96 (dk_at dksX10_cutsUp_8 5 rfl rfl)
theorem dX10_cutsUp_192 : decode cX10_cutsUp 192 = .ok (.istore_n 1, 1) := dk_60 (dk_at dksX10_cutsUp_8 6 rfl rfl)
theorem dX10_cutsUp_193 : decode cX10_cutsUp 193 = .ok (.goto 98, 3) := dk_167 0 98 (dk_at dksX10_cutsUp_8 7 rfl rfl)
theorem dX10_cutsUp_196 : decode cX10_cutsUp 196 = .ok (.iload_n 2, 1) := dk_28 (dk_at dksX10_cutsUp_8 10 rfl rfl)
theorem dX10_cutsUp_197 : decode cX10_cutsUp 197 = .ok (.invokestatic 214, 3) := dk_184 0 214 (dk_at dksX10_cutsUp_8 11 rfl rfl)
theorem dX10_cutsUp_200 : decode cX10_cutsUp 200 = .ok (.ifCond .eq 75, 3) := dk_153 0 75 (dk_at dksX10_cutsUp_8 14 rfl rfl)
theorem dX10_cutsUp_203 : decode cX10_cutsUp 203 = .ok (.iconst 0, 1) := dk_3 (dk_at dksX10_cutsUp_8 17 rfl rfl)
theorem dX10_cutsUp_204 : decode cX10_cutsUp 204 = .ok (.istore_n 3, 1) := dk_62 (dk_at dksX10_cutsUp_8 18 rfl rfl)
theorem dX10_cutsUp_205 : decode cX10_cutsUp 205 = .ok (.iconst 0, 1) := dk_3 (dk_at dksX10_cutsUp_8 19 rfl rfl)
theorem dX10_cutsUp_206 : decode cX10_cutsUp 206 = .ok (.istore 4, 2) := dk_54 4 (dk_at dksX10_cutsUp_8 20 rfl rfl)
theorem dX10_cutsUp_208 : decode cX10_cutsUp 208 = .ok (.aload_n 0, 1) := dk_42 (dk_at dksX10_cutsUp_8 22 rfl rfl)
theorem dX10_cutsUp_209 : decode cX10_cutsUp 209 = .ok (.iload_n 1, 1) := dk_27 (dk_at dksX10_cutsUp_8 23 rfl rfl)
theorem dX10_cutsUp_210 : decode cX10_cutsUp 210 = .ok (.iload_n 3, 1) := dk_29 (dk_at dksX10_cutsUp_9 0 rfl rfl)
theorem dX10_cutsUp_211 : decode cX10_cutsUp 211 = .ok (.iadd, 1) := dk_96 (dk_at dksX10_cutsUp_9 1 rfl rfl)
theorem dX10_cutsUp_212 : decode cX10_cutsUp 212 = .ok (.invokevirtual 202, 3) := dk_182 0 202 (dk_at dksX10_cutsUp_9 2 rfl rfl)
theorem dX10_cutsUp_215 : decode cX10_cutsUp 215 = .ok (.invokestatic 214, 3) := dk_184 0 214 (dk_at dksX10_cutsUp_9 5 rfl rfl)
theorem dX10_cutsUp_218 : decode cX10_cutsUp 218 = .ok (.ifCond .eq 32, 3) := dk_153 0 32 (dk_at dksX10_cutsUp_9 8 rfl rfl)
theorem dX10_cutsUp_221 : decode cX10_cutsUp 221 = .ok (.iload_n 3, 1) := dk_29 (dk_at dksX10_cutsUp_9 11 rfl rfl)
theorem dX10_cutsUp_222 : decode cX10_cutsUp 222 = .ok (.iconst 4, 1) := dk_7 (dk_at dksX10_cutsUp_9 12 rfl rfl)
theorem dX10_cutsUp_223 : decode cX10_cutsUp 223 = .ok (.if_icmp .ge 21, 3) := dk_162 0 21 (dk_at dksX10_cutsUp_9 13 rfl rfl)
theorem dX10_cutsUp_226 : decode cX10_cutsUp 226 = .ok (.bipush 10, 2) := dk_16 10 (dk_at dksX10_cutsUp_9 16 rfl rfl)
theorem dX10_cutsUp_228 : decode cX10_cutsUp 228 = .ok (.iload 4, 2) := dk_21 4 (dk_at dksX10_cutsUp_9 18 rfl rfl)
theorem dX10_cutsUp_230 : decode cX10_cutsUp 230 = .ok (.imul, 1) := dk_104 (dk_at dksX10_cutsUp_9 20 rfl rfl)
theorem dX10_cutsUp_231 : decode cX10_cutsUp 231 = .ok (.aload_n 0, 1) := dk_42 (dk_at dksX10_cutsUp_9 21 rfl rfl)
theorem dX10_cutsUp_232 : decode cX10_cutsUp 232 = .ok (.iload_n 1, 1) := dk_27 (dk_at dksX10_cutsUp_9 22 rfl rfl)
theorem dX10_cutsUp_233 : decode cX10_cutsUp 233 = .ok (.iload_n 3, 1) := dk_29 (dk_at dksX10_cutsUp_9 23 rfl rfl)
theorem dX10_cutsUp_234 : decode cX10_cutsUp 234 = .ok (.iadd, 1) := dk_96 (dk_at dksX10_cutsUp_10 0 rfl rfl)
theorem dX10_cutsUp_235 : decode cX10_cutsUp 235 = .ok (.invokevirtual 202, 3) := dk_182 0 202 (dk_at dksX10_cutsUp_10 1 rfl rfl)
theorem dX10_cutsUp_238 : decode cX10_cutsUp 238 = .ok (.iadd, 1) := dk_96 (dk_at dksX10_cutsUp_10 4 rfl rfl)
theorem dX10_cutsUp_239 : decode cX10_cutsUp 239 = .ok (.bipush 48, 2) := dk_16 48 (dk_at dksX10_cutsUp_10 5 rfl rfl)
theorem dX10_cutsUp_241 : decode cX10_cutsUp 241 = .ok (.isub, 1) := dk_100 (dk_at dksX10_cutsUp_10 7 rfl rfl)
theorem dX10_cutsUp_242 : decode cX10_cutsUp 242 = .ok (.istore 4, 2) := dk_54 4 (dk_at dksX10_cutsUp_10 8 rfl rfl)
theorem dX10_cutsUp_244 : decode cX10_cutsUp 244 = .ok (.iinc 3 1, 3) := dk_132 3 1 (dk_at dksX10_cutsUp_10 10 rfl rfl)
theorem dX10_cutsUp_247 : decode cX10_cutsUp 247 = .ok (.goto (-39), 3) := dk_167 255 217 (dk_at dksX10_cutsUp_10 13 rfl rfl)
theorem dX10_cutsUp_250 : decode cX10_cutsUp 250 = .ok (.aload_n 0, 1) := dk_42 (dk_at dksX10_cutsUp_10 16 rfl rfl)
theorem dX10_cutsUp_251 : decode cX10_cutsUp 251 = .ok (.iload_n 3, 1) := dk_29 (dk_at dksX10_cutsUp_10 17 rfl rfl)
theorem dX10_cutsUp_252 : decode cX10_cutsUp 252 = .ok (.iconst 4, 1) := dk_7 (dk_at dksX10_cutsUp_10 18 rfl rfl)
theorem dX10_cutsUp_253 : decode cX10_cutsUp 253 = .ok (.if_icmp .le 7, 3) := dk_164 0 7 (dk_at dksX10_cutsUp_10 19 rfl rfl)
theorem dX10_cutsUp_256 : decode cX10_cutsUp 256 = .ok (.iconst 3, 1) := dk_6 (dk_at dksX10_cutsUp_10 22 rfl rfl)
theorem dX10_cutsUp_257 : decode cX10_cutsUp 257 = .ok (.goto 4, 3) := dk_167 0 4 (dk_at dksX10_cutsUp_11 0 rfl rfl)
theorem dX10_cutsUp_260 : decode cX10_cutsUp 260 = .ok (.iconst 2, 1) := dk_5 (dk_at dksX10_cutsUp_11 3 rfl rfl)
theorem dX10_cutsUp_261 : decode cX10_cutsUp 261 = .ok (.iload_n 1, 1) := dk_27 (dk_at dksX10_cutsUp_11 4 rfl rfl)
theorem dX10_cutsUp_262 : decode cX10_cutsUp 262 = .ok (.iload 4, 2) := dk_21 4 (dk_at dksX10_cutsUp_11 5 rfl rfl)
theorem dX10_cutsUp_264 : decode cX10_cutsUp 264 = .ok (.lconst 0, 1) := dk_9 (dk_at dksX10_cutsUp_11 7 rfl rfl)
theorem dX10_cutsUp_265 : decode cX10_cutsUp 265 = .ok (.invokevirtual 206, 3) := dk_182 0 206 (dk_at dksX10_cutsUp_11 8 rfl rfl)
theorem dX10_cutsUp_268 : decode cX10_cutsUp 268 = .ok (.iload_n 1, 1) := dk_27 (dk_at dksX10_cutsUp_11 11 rfl rfl)
theorem dX10_cutsUp_269 : decode cX10_cutsUp 269 = .ok (.iload_n 3, 1) := dk_29 (dk_at dksX10_cutsUp_11 12 rfl rfl)
theorem dX10_cutsUp_270 : decode cX10_cutsUp 270 = .ok (.iadd, 1) := dk_96 (dk_at dksX10_cutsUp_11 13 rfl rfl)
theorem dX10_cutsUp_271 : decode cX10_cutsUp 271 = .ok (.istore_n 1, 1) := dk_60 (dk_at dksX10_cutsUp_11 14 rfl rfl)
theorem dX10_cutsUp_272 : decode cX10_cutsUp 272 = .ok (.goto 19, 3) := dk_167 0 19 (dk_at dksX10_cutsUp_11 15 rfl rfl)
theorem dX10_cutsUp_275 : decode cX10_cutsUp 275 = .ok (.iload_n 1, 1) := dk_27 (dk_at dksX10_cutsUp_11 18 rfl rfl)
theorem dX10_cutsUp_276 : decode cX10_cutsUp 276 = .ok (.aload_n 0, 1) := dk_42 (dk_at dksX10_cutsUp_11 19 rfl rfl)
theorem dX10_cutsUp_277 : decode cX10_cutsUp 277 = .ok (.iload_n 1, 1) := dk_27 (dk_at dksX10_cutsUp_11 20 rfl rfl)
theorem dX10_cutsUp_278 : decode cX10_cutsUp 278 = .ok (.iload_n 2, 1) := dk_28 (dk_at dksX10_cutsUp_11 21 rfl rfl)
theorem dX10_cutsUp_279 : decode cX10_cutsUp 279 = .ok (.aload_n 0, 1) := dk_42 (dk_at dksX10_cutsUp_11 22 rfl rfl)
theorem dX10_cutsUp_280 : decode cX10_cutsUp 280 = .ok (.iload_n 1, 1) := dk_27 (dk_at dksX10_cutsUp_11 23 rfl rfl)
theorem dX10_cutsUp_281 : decode cX10_cutsUp 281 = .ok (.iconst 1, 1) := dk_4 (dk_at dksX10_cutsUp_12 0 rfl rfl)
theorem dX10_cutsUp_282 : decode cX10_cutsUp 282 = .ok (.iadd, 1) := dk_96 (dk_at dksX10_cutsUp_12 1 rfl rfl)
theorem dX10_cutsUp_283 : decode cX10_cutsUp 283 = .ok (.invokevirtual 202, 3) := dk_182 0 202 (dk_at dksX10_cutsUp_12 2 rfl rfl)
theorem dX10_cutsUp_286 : decode cX10_cutsUp 286 = .ok (.invokevirtual 217, 3) := dk_182 0 217 (dk_at dksX10_cutsUp_12 5 rfl rfl)
theorem dX10_cutsUp_289 : decode cX10_cutsUp 289 = .ok (.iadd, 1) := dk_96 (dk_at dksX10_cutsUp_12 8 rfl rfl)
theorem dX10_cutsUp_290 : decode cX10_cutsUp 290 = .ok (.istore_n 1, 1) := dk_60 (dk_at dksX10_cutsUp_12 9 rfl rfl)
theorem dX10_cutsUp_291 : decode cX10_cutsUp 291 = .ok (.goto (-284), 3) := dk_167 254 228 (dk_at dksX10_cutsUp_12 10 rfl rfl)
theorem dX10_cutsUp_294 : decode cX10_cutsUp 294 = .ok (.return_, 1) := dk_177 (dk_at dksX10_cutsUp_12 13 rfl rfl)
abbrev cX10_byteAt : ByteArray := prog_22_method_6_code
def yX10_byteAt : MethodName := ⟨RX10, "byteAt", "(I)I"⟩
def dkwX10_byteAt_0 : List UInt8 := [27, 42, 180, 0, 190, 162, 0, 16, 42, 180, 0, 17, 27, 51, 17, 0, 255, 126, 167, 0, 4, 3, 172]
abbrev dktX10_byteAt_0 : List UInt8 := dkwX10_byteAt_0 ++ []
theorem dksX10_byteAt_0 : cX10_byteAt.data.toList.drop 0 = dktX10_byteAt_0 := by decide +kernel
theorem dX10_byteAt_0 : decode cX10_byteAt 0 = .ok (.iload_n 1, 1) := dk_27 (dk_at dksX10_byteAt_0 0 rfl rfl)
theorem dX10_byteAt_1 : decode cX10_byteAt 1 = .ok (.aload_n 0, 1) := dk_42 (dk_at dksX10_byteAt_0 1 rfl rfl)
theorem dX10_byteAt_2 : decode cX10_byteAt 2 = .ok (.getfield 190, 3) := dk_180 0 190 (dk_at dksX10_byteAt_0 2 rfl rfl)
theorem dX10_byteAt_5 : decode cX10_byteAt 5 = .ok (.if_icmp .ge 16, 3) := dk_162 0 16 (dk_at dksX10_byteAt_0 5 rfl rfl)
theorem dX10_byteAt_8 : decode cX10_byteAt 8 = .ok (.aload_n 0, 1) := dk_42 (dk_at dksX10_byteAt_0 8 rfl rfl)
theorem dX10_byteAt_9 : decode cX10_byteAt 9 = .ok (.getfield 17, 3) := dk_180 0 17 (dk_at dksX10_byteAt_0 9 rfl rfl)
theorem dX10_byteAt_12 : decode cX10_byteAt 12 = .ok (.iload_n 1, 1) := dk_27 (dk_at dksX10_byteAt_0 12 rfl rfl)
theorem dX10_byteAt_13 : decode cX10_byteAt 13 = .ok (.baload, 1) := dk_51 (dk_at dksX10_byteAt_0 13 rfl rfl)
theorem dX10_byteAt_14 : decode cX10_byteAt 14 = .ok (.sipush 255, 3) := dk_17 0 255 (dk_at dksX10_byteAt_0 14 rfl rfl)
theorem dX10_byteAt_17 : decode cX10_byteAt 17 = .ok (.iand, 1) := dk_126 (dk_at dksX10_byteAt_0 17 rfl rfl)
theorem dX10_byteAt_18 : decode cX10_byteAt 18 = .ok (.goto 4, 3) := dk_167 0 4 (dk_at dksX10_byteAt_0 18 rfl rfl)
theorem dX10_byteAt_21 : decode cX10_byteAt 21 = .ok (.iconst 0, 1) := dk_3 (dk_at dksX10_byteAt_0 21 rfl rfl)
theorem dX10_byteAt_22 : decode cX10_byteAt 22 = .ok (.ireturn, 1) := dk_172 (dk_at dksX10_byteAt_0 22 rfl rfl)
abbrev cX10_token : ByteArray := prog_22_method_11_code
def yX10_token : MethodName := ⟨RX10, "token", "(IIIJ)V"⟩
def dkwX10_token_2 : List UInt8 := [181, 0, 199, 177]
abbrev dktX10_token_2 : List UInt8 := dkwX10_token_2 ++ []
def dkwX10_token_1 : List UInt8 := [42, 180, 0, 199, 29, 79, 42, 180, 0, 30, 42, 180, 0, 199, 22, 4, 80, 42, 89, 180, 0, 199, 4, 96]
abbrev dktX10_token_1 : List UInt8 := dkwX10_token_1 ++ dktX10_token_2
def dkwX10_token_0 : List UInt8 := [42, 180, 0, 20, 42, 180, 0, 199, 27, 79, 42, 180, 0, 24, 42, 180, 0, 199, 28, 79, 42, 180, 0, 27]
abbrev dktX10_token_0 : List UInt8 := dkwX10_token_0 ++ dktX10_token_1
theorem dksX10_token_0 : cX10_token.data.toList.drop 0 = dktX10_token_0 := by decide +kernel
theorem dksX10_token_1 : cX10_token.data.toList.drop 24 = dktX10_token_1 := dk_seg dksX10_token_0 24 rfl rfl
theorem dksX10_token_2 : cX10_token.data.toList.drop 48 = dktX10_token_2 := dk_seg dksX10_token_1 24 rfl rfl
theorem dX10_token_0 : decode cX10_token 0 = .ok (.aload_n 0, 1) := dk_42 (dk_at dksX10_token_0 0 rfl rfl)
theorem dX10_token_1 : decode cX10_token 1 = .ok (.getfield 20, 3) := dk_180 0 20 (dk_at dksX10_token_0 1 rfl rfl)
theorem dX10_token_4 : decode cX10_token 4 = .ok (.aload_n 0, 1) := dk_42 (dk_at dksX10_token_0 4 rfl rfl)
theorem dX10_token_5 : decode cX10_token 5 = .ok (.getfield 199, 3) := dk_180 0 199 (dk_at dksX10_token_0 5 rfl rfl)
theorem dX10_token_8 : decode cX10_token 8 = .ok (.iload_n 1, 1) := dk_27 (dk_at dksX10_token_0 8 rfl rfl)
theorem dX10_token_9 : decode cX10_token 9 = .ok (.iastore, 1) := dk_79 (dk_at dksX10_token_0 9 rfl rfl)
theorem dX10_token_10 : decode cX10_token 10 = .ok (.aload_n 0, 1) := dk_42 (dk_at dksX10_token_0 10 rfl rfl)
theorem dX10_token_11 : decode cX10_token 11 = .ok (.getfield 24, 3) := dk_180 0 24 (dk_at dksX10_token_0 11 rfl rfl)
theorem dX10_token_14 : decode cX10_token 14 = .ok (.aload_n 0, 1) := dk_42 (dk_at dksX10_token_0 14 rfl rfl)
theorem dX10_token_15 : decode cX10_token 15 = .ok (.getfield 199, 3) := dk_180 0 199 (dk_at dksX10_token_0 15 rfl rfl)
theorem dX10_token_18 : decode cX10_token 18 = .ok (.iload_n 2, 1) := dk_28 (dk_at dksX10_token_0 18 rfl rfl)
theorem dX10_token_19 : decode cX10_token 19 = .ok (.iastore, 1) := dk_79 (dk_at dksX10_token_0 19 rfl rfl)
theorem dX10_token_20 : decode cX10_token 20 = .ok (.aload_n 0, 1) := dk_42 (dk_at dksX10_token_0 20 rfl rfl)
theorem dX10_token_21 : decode cX10_token 21 = .ok (.getfield 27, 3) := dk_180 0 27 (dk_at dksX10_token_0 21 rfl rfl)
theorem dX10_token_24 : decode cX10_token 24 = .ok (.aload_n 0, 1) := dk_42 (dk_at dksX10_token_1 0 rfl rfl)
theorem dX10_token_25 : decode cX10_token 25 = .ok (.getfield 199, 3) := dk_180 0 199 (dk_at dksX10_token_1 1 rfl rfl)
theorem dX10_token_28 : decode cX10_token 28 = .ok (.iload_n 3, 1) := dk_29 (dk_at dksX10_token_1 4 rfl rfl)
theorem dX10_token_29 : decode cX10_token 29 = .ok (.iastore, 1) := dk_79 (dk_at dksX10_token_1 5 rfl rfl)
theorem dX10_token_30 : decode cX10_token 30 = .ok (.aload_n 0, 1) := dk_42 (dk_at dksX10_token_1 6 rfl rfl)
theorem dX10_token_31 : decode cX10_token 31 = .ok (.getfield 30, 3) := dk_180 0 30 (dk_at dksX10_token_1 7 rfl rfl)
theorem dX10_token_34 : decode cX10_token 34 = .ok (.aload_n 0, 1) := dk_42 (dk_at dksX10_token_1 10 rfl rfl)
theorem dX10_token_35 : decode cX10_token 35 = .ok (.getfield 199, 3) := dk_180 0 199 (dk_at dksX10_token_1 11 rfl rfl)
theorem dX10_token_38 : decode cX10_token 38 = .ok (.lload 4, 2) := dk_22 4 (dk_at dksX10_token_1 14 rfl rfl)
theorem dX10_token_40 : decode cX10_token 40 = .ok (.lastore, 1) := dk_80 (dk_at dksX10_token_1 16 rfl rfl)
theorem dX10_token_41 : decode cX10_token 41 = .ok (.aload_n 0, 1) := dk_42 (dk_at dksX10_token_1 17 rfl rfl)
theorem dX10_token_42 : decode cX10_token 42 = .ok (.dup, 1) := dk_89 (dk_at dksX10_token_1 18 rfl rfl)
theorem dX10_token_43 : decode cX10_token 43 = .ok (.getfield 199, 3) := dk_180 0 199 (dk_at dksX10_token_1 19 rfl rfl)
theorem dX10_token_46 : decode cX10_token 46 = .ok (.iconst 1, 1) := dk_4 (dk_at dksX10_token_1 22 rfl rfl)
theorem dX10_token_47 : decode cX10_token 47 = .ok (.iadd, 1) := dk_96 (dk_at dksX10_token_1 23 rfl rfl)
theorem dX10_token_48 : decode cX10_token 48 = .ok (.putfield 199, 3) := dk_181 0 199 (dk_at dksX10_token_2 0 rfl rfl)
theorem dX10_token_51 : decode cX10_token 51 = .ok (.return_, 1) := dk_177 (dk_at dksX10_token_2 3 rfl rfl)
abbrev cX10_isLetter : ByteArray := prog_22_method_8_code
def yX10_isLetter : MethodName := ⟨RX10, "isLetter", "(I)Z"⟩
def dkwX10_isLetter_0 : List UInt8 := [26, 16, 97, 161, 0, 13, 26, 16, 122, 163, 0, 7, 4, 167, 0, 4, 3, 172]
abbrev dktX10_isLetter_0 : List UInt8 := dkwX10_isLetter_0 ++ []
theorem dksX10_isLetter_0 : cX10_isLetter.data.toList.drop 0 = dktX10_isLetter_0 := by decide +kernel
theorem dX10_isLetter_0 : decode cX10_isLetter 0 = .ok (.iload_n 0, 1) := dk_26 (dk_at dksX10_isLetter_0 0 rfl rfl)
theorem dX10_isLetter_1 : decode cX10_isLetter 1 = .ok (.bipush 97, 2) := dk_16 97 (dk_at dksX10_isLetter_0 1 rfl rfl)
theorem dX10_isLetter_3 : decode cX10_isLetter 3 = .ok (.if_icmp .lt 13, 3) := dk_161 0 13 (dk_at dksX10_isLetter_0 3 rfl rfl)
theorem dX10_isLetter_6 : decode cX10_isLetter 6 = .ok (.iload_n 0, 1) := dk_26 (dk_at dksX10_isLetter_0 6 rfl rfl)
theorem dX10_isLetter_7 : decode cX10_isLetter 7 = .ok (.bipush 122, 2) := dk_16 122 (dk_at dksX10_isLetter_0 7 rfl rfl)
theorem dX10_isLetter_9 : decode cX10_isLetter 9 = .ok (.if_icmp .gt 7, 3) := dk_163 0 7 (dk_at dksX10_isLetter_0 9 rfl rfl)
theorem dX10_isLetter_12 : decode cX10_isLetter 12 = .ok (.iconst 1, 1) := dk_4 (dk_at dksX10_isLetter_0 12 rfl rfl)
theorem dX10_isLetter_13 : decode cX10_isLetter 13 = .ok (.goto 4, 3) := dk_167 0 4 (dk_at dksX10_isLetter_0 13 rfl rfl)
theorem dX10_isLetter_16 : decode cX10_isLetter 16 = .ok (.iconst 0, 1) := dk_3 (dk_at dksX10_isLetter_0 16 rfl rfl)
theorem dX10_isLetter_17 : decode cX10_isLetter 17 = .ok (.ireturn, 1) := dk_172 (dk_at dksX10_isLetter_0 17 rfl rfl)
abbrev cX10_isDigit : ByteArray := prog_22_method_7_code
def yX10_isDigit : MethodName := ⟨RX10, "isDigit", "(I)Z"⟩
def dkwX10_isDigit_0 : List UInt8 := [26, 16, 48, 161, 0, 13, 26, 16, 57, 163, 0, 7, 4, 167, 0, 4, 3, 172]
abbrev dktX10_isDigit_0 : List UInt8 := dkwX10_isDigit_0 ++ []
theorem dksX10_isDigit_0 : cX10_isDigit.data.toList.drop 0 = dktX10_isDigit_0 := by decide +kernel
theorem dX10_isDigit_0 : decode cX10_isDigit 0 = .ok (.iload_n 0, 1) := dk_26 (dk_at dksX10_isDigit_0 0 rfl rfl)
theorem dX10_isDigit_1 : decode cX10_isDigit 1 = .ok (.bipush 48, 2) := dk_16 48 (dk_at dksX10_isDigit_0 1 rfl rfl)
theorem dX10_isDigit_3 : decode cX10_isDigit 3 = .ok (.if_icmp .lt 13, 3) := dk_161 0 13 (dk_at dksX10_isDigit_0 3 rfl rfl)
theorem dX10_isDigit_6 : decode cX10_isDigit 6 = .ok (.iload_n 0, 1) := dk_26 (dk_at dksX10_isDigit_0 6 rfl rfl)
theorem dX10_isDigit_7 : decode cX10_isDigit 7 = .ok (.bipush 57, 2) := dk_16 57 (dk_at dksX10_isDigit_0 7 rfl rfl)
theorem dX10_isDigit_9 : decode cX10_isDigit 9 = .ok (.if_icmp .gt 7, 3) := dk_163 0 7 (dk_at dksX10_isDigit_0 9 rfl rfl)
theorem dX10_isDigit_12 : decode cX10_isDigit 12 = .ok (.iconst 1, 1) := dk_4 (dk_at dksX10_isDigit_0 12 rfl rfl)
theorem dX10_isDigit_13 : decode cX10_isDigit 13 = .ok (.goto 4, 3) := dk_167 0 4 (dk_at dksX10_isDigit_0 13 rfl rfl)
theorem dX10_isDigit_16 : decode cX10_isDigit 16 = .ok (.iconst 0, 1) := dk_3 (dk_at dksX10_isDigit_0 16 rfl rfl)
theorem dX10_isDigit_17 : decode cX10_isDigit 17 = .ok (.ireturn, 1) := dk_172 (dk_at dksX10_isDigit_0 17 rfl rfl)
abbrev cX10_sign : ByteArray := prog_22_method_13_code
def yX10_sign : MethodName := ⟨RX10, "sign", "(III)I"⟩
def dkwX10_sign_4 : List UInt8 := [16, 13, 54, 4, 42, 21, 4, 27, 3, 9, 182, 0, 206, 4, 172]
abbrev dktX10_sign_4 : List UInt8 := dkwX10_sign_4 ++ []
def dkwX10_sign_3 : List UInt8 := [160, 0, 7, 16, 10, 54, 4, 28, 16, 47, 160, 0, 7, 16, 15, 54, 4, 28, 16, 60, 160, 0, 7]
abbrev dktX10_sign_3 : List UInt8 := dkwX10_sign_3 ++ dktX10_sign_4
def dkwX10_sign_2 : List UInt8 := [16, 43, 160, 0, 7, 16, 8, 54, 4, 28, 16, 45, 160, 0, 7, 16, 9, 54, 4, 28, 16, 42]
abbrev dktX10_sign_2 : List UInt8 := dkwX10_sign_2 ++ dktX10_sign_3
def dkwX10_sign_1 : List UInt8 := [160, 0, 8, 16, 6, 167, 0, 15, 28, 16, 41, 160, 0, 8, 16, 7, 167, 0, 4, 6, 54, 4, 28]
abbrev dktX10_sign_1 : List UInt8 := dkwX10_sign_1 ++ dktX10_sign_2
def dkwX10_sign_0 : List UInt8 := [28, 16, 59, 160, 0, 7, 7, 167, 0, 36, 28, 16, 61, 160, 0, 7, 8, 167, 0, 26, 28, 16, 40]
abbrev dktX10_sign_0 : List UInt8 := dkwX10_sign_0 ++ dktX10_sign_1
theorem dksX10_sign_0 : cX10_sign.data.toList.drop 0 = dktX10_sign_0 := by decide +kernel
theorem dksX10_sign_1 : cX10_sign.data.toList.drop 23 = dktX10_sign_1 := dk_seg dksX10_sign_0 23 rfl rfl
theorem dksX10_sign_2 : cX10_sign.data.toList.drop 46 = dktX10_sign_2 := dk_seg dksX10_sign_1 23 rfl rfl
theorem dksX10_sign_3 : cX10_sign.data.toList.drop 68 = dktX10_sign_3 := dk_seg dksX10_sign_2 22 rfl rfl
theorem dksX10_sign_4 : cX10_sign.data.toList.drop 91 = dktX10_sign_4 := dk_seg dksX10_sign_3 23 rfl rfl
theorem dX10_sign_0 : decode cX10_sign 0 = .ok (.iload_n 2, 1) := dk_28 (dk_at dksX10_sign_0 0 rfl rfl)
theorem dX10_sign_1 : decode cX10_sign 1 = .ok (.bipush 59, 2) := dk_16 59 (dk_at dksX10_sign_0 1 rfl rfl)
theorem dX10_sign_3 : decode cX10_sign 3 = .ok (.if_icmp .ne 7, 3) := dk_160 0 7 (dk_at dksX10_sign_0 3 rfl rfl)
theorem dX10_sign_6 : decode cX10_sign 6 = .ok (.iconst 4, 1) := dk_7 (dk_at dksX10_sign_0 6 rfl rfl)
theorem dX10_sign_7 : decode cX10_sign 7 = .ok (.goto 36, 3) := dk_167 0 36 (dk_at dksX10_sign_0 7 rfl rfl)
theorem dX10_sign_10 : decode cX10_sign 10 = .ok (.iload_n 2, 1) := dk_28 (dk_at dksX10_sign_0 10 rfl rfl)
theorem dX10_sign_11 : decode cX10_sign 11 = .ok (.bipush 61, 2) := dk_16 61 (dk_at dksX10_sign_0 11 rfl rfl)
theorem dX10_sign_13 : decode cX10_sign 13 = .ok (.if_icmp .ne 7, 3) := dk_160 0 7 (dk_at dksX10_sign_0 13 rfl rfl)
theorem dX10_sign_16 : decode cX10_sign 16 = .ok (.iconst 5, 1) := dk_8 (dk_at dksX10_sign_0 16 rfl rfl)
theorem dX10_sign_17 : decode cX10_sign 17 = .ok (.goto 26, 3) := dk_167 0 26 (dk_at dksX10_sign_0 17 rfl rfl)
theorem dX10_sign_20 : decode cX10_sign 20 = .ok (.iload_n 2, 1) := dk_28 (dk_at dksX10_sign_0 20 rfl rfl)
theorem dX10_sign_21 : decode cX10_sign 21 = .ok (.bipush 40, 2) := dk_16 40 (dk_at dksX10_sign_0 21 rfl rfl)
theorem dX10_sign_23 : decode cX10_sign 23 = .ok (.if_icmp .ne 8, 3) := dk_160 0 8 (dk_at dksX10_sign_1 0 rfl rfl)
theorem dX10_sign_26 : decode cX10_sign 26 = .ok (.bipush 6, 2) := dk_16 6 (dk_at dksX10_sign_1 3 rfl rfl)
theorem dX10_sign_28 : decode cX10_sign 28 = .ok (.goto 15, 3) := dk_167 0 15 (dk_at dksX10_sign_1 5 rfl rfl)
theorem dX10_sign_31 : decode cX10_sign 31 = .ok (.iload_n 2, 1) := dk_28 (dk_at dksX10_sign_1 8 rfl rfl)
theorem dX10_sign_32 : decode cX10_sign 32 = .ok (.bipush 41, 2) := dk_16 41 (dk_at dksX10_sign_1 9 rfl rfl)
theorem dX10_sign_34 : decode cX10_sign 34 = .ok (.if_icmp .ne 8, 3) := dk_160 0 8 (dk_at dksX10_sign_1 11 rfl rfl)
theorem dX10_sign_37 : decode cX10_sign 37 = .ok (.bipush 7, 2) := dk_16 7 (dk_at dksX10_sign_1 14 rfl rfl)
theorem dX10_sign_39 : decode cX10_sign 39 = .ok (.goto 4, 3) := dk_167 0 4 (dk_at dksX10_sign_1 16 rfl rfl)
theorem dX10_sign_42 : decode cX10_sign 42 = .ok (.iconst 3, 1) := dk_6 (dk_at dksX10_sign_1 19 rfl rfl)
theorem dX10_sign_43 : decode cX10_sign 43 = .ok (.istore 4, 2) := dk_54 4 (dk_at dksX10_sign_1 20 rfl rfl)
theorem dX10_sign_45 : decode cX10_sign 45 = .ok (.iload_n 2, 1) := dk_28 (dk_at dksX10_sign_1 22 rfl rfl)
theorem dX10_sign_46 : decode cX10_sign 46 = .ok (.bipush 43, 2) := dk_16 43 (dk_at dksX10_sign_2 0 rfl rfl)
theorem dX10_sign_48 : decode cX10_sign 48 = .ok (.if_icmp .ne 7, 3) := dk_160 0 7 (dk_at dksX10_sign_2 2 rfl rfl)
theorem dX10_sign_51 : decode cX10_sign 51 = .ok (.bipush 8, 2) := dk_16 8 (dk_at dksX10_sign_2 5 rfl rfl)
theorem dX10_sign_53 : decode cX10_sign 53 = .ok (.istore 4, 2) := dk_54 4 (dk_at dksX10_sign_2 7 rfl rfl)
theorem dX10_sign_55 : decode cX10_sign 55 = .ok (.iload_n 2, 1) := dk_28 (dk_at dksX10_sign_2 9 rfl rfl)
theorem dX10_sign_56 : decode cX10_sign 56 = .ok (.bipush 45, 2) := dk_16 45 (dk_at dksX10_sign_2 10 rfl rfl)
theorem dX10_sign_58 : decode cX10_sign 58 = .ok (.if_icmp .ne 7, 3) := dk_160 0 7 (dk_at dksX10_sign_2 12 rfl rfl)
theorem dX10_sign_61 : decode cX10_sign 61 = .ok (.bipush 9, 2) := dk_16 9 (dk_at dksX10_sign_2 15 rfl rfl)
theorem dX10_sign_63 : decode cX10_sign 63 = .ok (.istore 4, 2) := dk_54 4 (dk_at dksX10_sign_2 17 rfl rfl)
theorem dX10_sign_65 : decode cX10_sign 65 = .ok (.iload_n 2, 1) := dk_28 (dk_at dksX10_sign_2 19 rfl rfl)
theorem dX10_sign_66 : decode cX10_sign 66 = .ok (.bipush 42, 2) := dk_16 42 (dk_at dksX10_sign_2 20 rfl rfl)
theorem dX10_sign_68 : decode cX10_sign 68 = .ok (.if_icmp .ne 7, 3) := dk_160 0 7 (dk_at dksX10_sign_3 0 rfl rfl)
theorem dX10_sign_71 : decode cX10_sign 71 = .ok (.bipush 10, 2) := dk_16 10 (dk_at dksX10_sign_3 3 rfl rfl)
theorem dX10_sign_73 : decode cX10_sign 73 = .ok (.istore 4, 2) := dk_54 4 (dk_at dksX10_sign_3 5 rfl rfl)
theorem dX10_sign_75 : decode cX10_sign 75 = .ok (.iload_n 2, 1) := dk_28 (dk_at dksX10_sign_3 7 rfl rfl)
theorem dX10_sign_76 : decode cX10_sign 76 = .ok (.bipush 47, 2) := dk_16 47 (dk_at dksX10_sign_3 8 rfl rfl)
theorem dX10_sign_78 : decode cX10_sign 78 = .ok (.if_icmp .ne 7, 3) := dk_160 0 7 (dk_at dksX10_sign_3 10 rfl rfl)
theorem dX10_sign_81 : decode cX10_sign 81 = .ok (.bipush 15, 2) := dk_16 15 (dk_at dksX10_sign_3 13 rfl rfl)
theorem dX10_sign_83 : decode cX10_sign 83 = .ok (.istore 4, 2) := dk_54 4 (dk_at dksX10_sign_3 15 rfl rfl)
theorem dX10_sign_85 : decode cX10_sign 85 = .ok (.iload_n 2, 1) := dk_28 (dk_at dksX10_sign_3 17 rfl rfl)
theorem dX10_sign_86 : decode cX10_sign 86 = .ok (.bipush 60, 2) := dk_16 60 (dk_at dksX10_sign_3 18 rfl rfl)
theorem dX10_sign_88 : decode cX10_sign 88 = .ok (.if_icmp .ne 7, 3) := dk_160 0 7 (dk_at dksX10_sign_3 20 rfl rfl)
theorem dX10_sign_91 : decode cX10_sign 91 = .ok (.bipush 13, 2) := dk_16 13 (dk_at dksX10_sign_4 0 rfl rfl)
theorem dX10_sign_93 : decode cX10_sign 93 = .ok (.istore 4, 2) := dk_54 4 (dk_at dksX10_sign_4 2 rfl rfl)
theorem dX10_sign_95 : decode cX10_sign 95 = .ok (.aload_n 0, 1) := dk_42 (dk_at dksX10_sign_4 4 rfl rfl)
theorem dX10_sign_96 : decode cX10_sign 96 = .ok (.iload 4, 2) := dk_21 4 (dk_at dksX10_sign_4 5 rfl rfl)
theorem dX10_sign_98 : decode cX10_sign 98 = .ok (.iload_n 1, 1) := dk_27 (dk_at dksX10_sign_4 7 rfl rfl)
theorem dX10_sign_99 : decode cX10_sign 99 = .ok (.iconst 0, 1) := dk_3 (dk_at dksX10_sign_4 8 rfl rfl)
theorem dX10_sign_100 : decode cX10_sign 100 = .ok (.lconst 0, 1) := dk_9 (dk_at dksX10_sign_4 9 rfl rfl)
theorem dX10_sign_101 : decode cX10_sign 101 = .ok (.invokevirtual 206, 3) := dk_182 0 206 (dk_at dksX10_sign_4 10 rfl rfl)
theorem dX10_sign_104 : decode cX10_sign 104 = .ok (.iconst 1, 1) := dk_4 (dk_at dksX10_sign_4 13 rfl rfl)
theorem dX10_sign_105 : decode cX10_sign 105 = .ok (.ireturn, 1) := dk_172 (dk_at dksX10_sign_4 14 rfl rfl)
abbrev cX10_is : ByteArray := prog_22_method_14_code
def yX10_is : MethodName := ⟨RX10, "is", "(I)Z"⟩
def dkwX10_is_1 : List UInt8 := [3, 172]
abbrev dktX10_is_1 : List UInt8 := dkwX10_is_1 ++ []
def dkwX10_is_0 : List UInt8 := [42, 180, 0, 221, 154, 0, 20, 42, 180, 0, 20, 42, 180, 0, 224, 46, 27, 160, 0, 7, 4, 167, 0, 4]
abbrev dktX10_is_0 : List UInt8 := dkwX10_is_0 ++ dktX10_is_1
theorem dksX10_is_0 : cX10_is.data.toList.drop 0 = dktX10_is_0 := by decide +kernel
theorem dksX10_is_1 : cX10_is.data.toList.drop 24 = dktX10_is_1 := dk_seg dksX10_is_0 24 rfl rfl
theorem dX10_is_0 : decode cX10_is 0 = .ok (.aload_n 0, 1) := dk_42 (dk_at dksX10_is_0 0 rfl rfl)
theorem dX10_is_1 : decode cX10_is 1 = .ok (.getfield 221, 3) := dk_180 0 221 (dk_at dksX10_is_0 1 rfl rfl)
theorem dX10_is_4 : decode cX10_is 4 = .ok (.ifCond .ne 20, 3) := dk_154 0 20 (dk_at dksX10_is_0 4 rfl rfl)
theorem dX10_is_7 : decode cX10_is 7 = .ok (.aload_n 0, 1) := dk_42 (dk_at dksX10_is_0 7 rfl rfl)
theorem dX10_is_8 : decode cX10_is 8 = .ok (.getfield 20, 3) := dk_180 0 20 (dk_at dksX10_is_0 8 rfl rfl)
theorem dX10_is_11 : decode cX10_is 11 = .ok (.aload_n 0, 1) := dk_42 (dk_at dksX10_is_0 11 rfl rfl)
theorem dX10_is_12 : decode cX10_is 12 = .ok (.getfield 224, 3) := dk_180 0 224 (dk_at dksX10_is_0 12 rfl rfl)
theorem dX10_is_15 : decode cX10_is 15 = .ok (.iaload, 1) := dk_46 (dk_at dksX10_is_0 15 rfl rfl)
theorem dX10_is_16 : decode cX10_is 16 = .ok (.iload_n 1, 1) := dk_27 (dk_at dksX10_is_0 16 rfl rfl)
theorem dX10_is_17 : decode cX10_is 17 = .ok (.if_icmp .ne 7, 3) := dk_160 0 7 (dk_at dksX10_is_0 17 rfl rfl)
theorem dX10_is_20 : decode cX10_is 20 = .ok (.iconst 1, 1) := dk_4 (dk_at dksX10_is_0 20 rfl rfl)
theorem dX10_is_21 : decode cX10_is 21 = .ok (.goto 4, 3) := dk_167 0 4 (dk_at dksX10_is_0 21 rfl rfl)
theorem dX10_is_24 : decode cX10_is 24 = .ok (.iconst 0, 1) := dk_3 (dk_at dksX10_is_1 0 rfl rfl)
theorem dX10_is_25 : decode cX10_is 25 = .ok (.ireturn, 1) := dk_172 (dk_at dksX10_is_1 1 rfl rfl)
abbrev cX10_tellOne : ByteArray := prog_22_method_24_code
def yX10_tellOne : MethodName := ⟨RX10, "tellOne", "()V"⟩
def dkwX10_tellOne_15 : List UInt8 := [180, 0, 221, 158, 0, 4, 177, 42, 182, 0, 242, 42, 27, 182, 1, 49, 177]
abbrev dktX10_tellOne_15 : List UInt8 := dkwX10_tellOne_15 ++ []
def dkwX10_tellOne_14 : List UInt8 := [155, 0, 17, 42, 180, 0, 20, 42, 180, 0, 224, 46, 16, 28, 164, 0, 8, 42, 4, 182, 0, 236, 42]
abbrev dktX10_tellOne_14 : List UInt8 := dkwX10_tellOne_14 ++ dktX10_tellOne_15
def dkwX10_tellOne_13 : List UInt8 := [17, 39, 15, 182, 1, 46, 79, 167, 0, 56, 42, 180, 0, 20, 42, 180, 0, 224, 46, 16, 25, 100, 60, 27]
abbrev dktX10_tellOne_13 : List UInt8 := dkwX10_tellOne_13 ++ dktX10_tellOne_14
def dkwX10_tellOne_12 : List UInt8 := [180, 0, 254, 42, 16, 100, 182, 1, 46, 79, 167, 0, 75, 42, 180, 0, 85, 42, 180, 0, 254, 42]
abbrev dktX10_tellOne_12 : List UInt8 := dkwX10_tellOne_12 ++ dktX10_tellOne_13
def dkwX10_tellOne_11 : List UInt8 := [42, 180, 0, 254, 42, 182, 1, 43, 79, 42, 7, 182, 1, 23, 167, 0, 93, 42, 180, 0, 82, 42]
abbrev dktX10_tellOne_11 : List UInt8 := dkwX10_tellOne_11 ++ dktX10_tellOne_12
def dkwX10_tellOne_10 : List UInt8 := [42, 180, 0, 73, 42, 180, 0, 254, 92, 46, 4, 96, 79, 167, 0, 118, 42, 182, 0, 242, 42, 180, 0, 79]
abbrev dktX10_tellOne_10 : List UInt8 := dkwX10_tellOne_10 ++ dktX10_tellOne_11
def dkwX10_tellOne_9 : List UInt8 := [46, 96, 42, 3, 16, 99, 182, 1, 19, 79, 42, 27, 16, 10, 182, 1, 34, 42, 180, 0, 221, 154, 0, 134]
abbrev dktX10_tellOne_9 : List UInt8 := dkwX10_tellOne_9 ++ dktX10_tellOne_10
def dkwX10_tellOne_8 : List UInt8 := [177, 42, 182, 1, 30, 60, 42, 180, 0, 76, 8, 42, 180, 0, 254, 104, 42, 180, 0, 73, 42, 180, 0, 254]
abbrev dktX10_tellOne_8 : List UInt8 := dkwX10_tellOne_8 ++ dktX10_tellOne_9
def dkwX10_tellOne_7 : List UInt8 := [167, 0, 203, 42, 42, 180, 0, 73, 42, 180, 0, 254, 46, 8, 182, 1, 26, 42, 180, 0, 221, 158, 0, 4]
abbrev dktX10_tellOne_7 : List UInt8 := dkwX10_tellOne_7 ++ dktX10_tellOne_8
def dkwX10_tellOne_6 : List UInt8 := [180, 0, 61, 42, 180, 0, 254, 46, 16, 6, 182, 1, 26, 42, 180, 0, 221, 154, 0, 210, 42, 182, 1, 40]
abbrev dktX10_tellOne_6 : List UInt8 := dkwX10_tellOne_6 ++ dktX10_tellOne_7
def dkwX10_tellOne_5 : List UInt8 := [46, 16, 10, 182, 1, 26, 42, 180, 0, 221, 154, 0, 239, 42, 182, 1, 37, 167, 0, 232, 42, 42]
abbrev dktX10_tellOne_5 : List UInt8 := dkwX10_tellOne_5 ++ dktX10_tellOne_6
def dkwX10_tellOne_4 : List UInt8 := [180, 0, 46, 42, 180, 0, 254, 92, 46, 4, 96, 79, 167, 1, 5, 42, 42, 180, 0, 49, 42, 180, 0, 254]
abbrev dktX10_tellOne_4 : List UInt8 := dkwX10_tellOne_4 ++ dktX10_tellOne_5
def dkwX10_tellOne_3 : List UInt8 := [42, 182, 1, 30, 42, 180, 0, 46, 42, 180, 0, 254, 46, 182, 1, 34, 42, 180, 0, 221, 154, 1, 21, 42]
abbrev dktX10_tellOne_3 : List UInt8 := dkwX10_tellOne_3 ++ dktX10_tellOne_4
def dkwX10_tellOne_2 : List UInt8 := [42, 42, 180, 0, 46, 42, 180, 0, 254, 46, 16, 7, 182, 1, 26, 42, 180, 0, 221, 158, 0, 4, 177, 42]
abbrev dktX10_tellOne_2 : List UInt8 := dkwX10_tellOne_2 ++ dktX10_tellOne_3
def dkwX10_tellOne_1 : List UInt8 := [170, 0, 0, 0, 0, 1, 71, 0, 0, 0, 20, 0, 0, 0, 30, 0, 0, 0, 59, 0, 0, 0, 122, 0, 0, 0, 151, 0, 0, 0, 180, 0, 0, 1, 9, 0, 0, 1, 71, 0, 0, 1, 71, 0, 0, 1, 71, 0, 0, 1, 71, 0, 0, 1, 34, 0, 0, 1, 52]
abbrev dktX10_tellOne_1 : List UInt8 := dkwX10_tellOne_1 ++ dktX10_tellOne_2
def dkwX10_tellOne_0 : List UInt8 := [42, 180, 0, 20, 42, 180, 0, 224, 46]
abbrev dktX10_tellOne_0 : List UInt8 := dkwX10_tellOne_0 ++ dktX10_tellOne_1
theorem dksX10_tellOne_0 : cX10_tellOne.data.toList.drop 0 = dktX10_tellOne_0 := by decide +kernel
theorem dksX10_tellOne_1 : cX10_tellOne.data.toList.drop 9 = dktX10_tellOne_1 := dk_seg dksX10_tellOne_0 9 rfl rfl
theorem dksX10_tellOne_2 : cX10_tellOne.data.toList.drop 68 = dktX10_tellOne_2 := dk_seg dksX10_tellOne_1 59 rfl rfl
theorem dksX10_tellOne_3 : cX10_tellOne.data.toList.drop 92 = dktX10_tellOne_3 := dk_seg dksX10_tellOne_2 24 rfl rfl
theorem dksX10_tellOne_4 : cX10_tellOne.data.toList.drop 116 = dktX10_tellOne_4 := dk_seg dksX10_tellOne_3 24 rfl rfl
theorem dksX10_tellOne_5 : cX10_tellOne.data.toList.drop 140 = dktX10_tellOne_5 := dk_seg dksX10_tellOne_4 24 rfl rfl
theorem dksX10_tellOne_6 : cX10_tellOne.data.toList.drop 162 = dktX10_tellOne_6 := dk_seg dksX10_tellOne_5 22 rfl rfl
theorem dksX10_tellOne_7 : cX10_tellOne.data.toList.drop 186 = dktX10_tellOne_7 := dk_seg dksX10_tellOne_6 24 rfl rfl
theorem dksX10_tellOne_8 : cX10_tellOne.data.toList.drop 210 = dktX10_tellOne_8 := dk_seg dksX10_tellOne_7 24 rfl rfl
theorem dksX10_tellOne_9 : cX10_tellOne.data.toList.drop 234 = dktX10_tellOne_9 := dk_seg dksX10_tellOne_8 24 rfl rfl
theorem dksX10_tellOne_10 : cX10_tellOne.data.toList.drop 258 = dktX10_tellOne_10 := dk_seg dksX10_tellOne_9 24 rfl rfl
theorem dksX10_tellOne_11 : cX10_tellOne.data.toList.drop 282 = dktX10_tellOne_11 := dk_seg dksX10_tellOne_10 24 rfl rfl
theorem dksX10_tellOne_12 : cX10_tellOne.data.toList.drop 304 = dktX10_tellOne_12 := dk_seg dksX10_tellOne_11 22 rfl rfl
theorem dksX10_tellOne_13 : cX10_tellOne.data.toList.drop 326 = dktX10_tellOne_13 := dk_seg dksX10_tellOne_12 22 rfl rfl
theorem dksX10_tellOne_14 : cX10_tellOne.data.toList.drop 350 = dktX10_tellOne_14 := dk_seg dksX10_tellOne_13 24 rfl rfl
theorem dksX10_tellOne_15 : cX10_tellOne.data.toList.drop 373 = dktX10_tellOne_15 := dk_seg dksX10_tellOne_14 23 rfl rfl
theorem dX10_tellOne_0 : decode cX10_tellOne 0 = .ok (.aload_n 0, 1) := dk_42 (dk_at dksX10_tellOne_0 0 rfl rfl)
theorem dX10_tellOne_1 : decode cX10_tellOne 1 = .ok (.getfield 20, 3) := dk_180 0 20 (dk_at dksX10_tellOne_0 1 rfl rfl)
theorem dX10_tellOne_4 : decode cX10_tellOne 4 = .ok (.aload_n 0, 1) := dk_42 (dk_at dksX10_tellOne_0 4 rfl rfl)
theorem dX10_tellOne_5 : decode cX10_tellOne 5 = .ok (.getfield 224, 3) := dk_180 0 224 (dk_at dksX10_tellOne_0 5 rfl rfl)
theorem dX10_tellOne_8 : decode cX10_tellOne 8 = .ok (.iaload, 1) := dk_46 (dk_at dksX10_tellOne_0 8 rfl rfl)
theorem dX10_tellOne_9 : decode cX10_tellOne 9 = .ok (.tableswitch 327 20 30 #[59, 122, 151, 180, 265, 327, 327, 327, 327, 290, 308], 59) := by decide +kernel
theorem dX10_tellOne_68 : decode cX10_tellOne 68 = .ok (.aload_n 0, 1) := dk_42 (dk_at dksX10_tellOne_2 0 rfl rfl)
theorem dX10_tellOne_69 : decode cX10_tellOne 69 = .ok (.aload_n 0, 1) := dk_42 (dk_at dksX10_tellOne_2 1 rfl rfl)
theorem dX10_tellOne_70 : decode cX10_tellOne 70 = .ok (.getfield 46, 3) := dk_180 0 46 (dk_at dksX10_tellOne_2 2 rfl rfl)
theorem dX10_tellOne_73 : decode cX10_tellOne 73 = .ok (.aload_n 0, 1) := dk_42 (dk_at dksX10_tellOne_2 5 rfl rfl)
theorem dX10_tellOne_74 : decode cX10_tellOne 74 = .ok (.getfield 254, 3) := dk_180 0 254 (dk_at dksX10_tellOne_2 6 rfl rfl)
theorem dX10_tellOne_77 : decode cX10_tellOne 77 = .ok (.iaload, 1) := dk_46 (dk_at dksX10_tellOne_2 9 rfl rfl)
theorem dX10_tellOne_78 : decode cX10_tellOne 78 = .ok (.bipush 7, 2) := dk_16 7 (dk_at dksX10_tellOne_2 10 rfl rfl)
theorem dX10_tellOne_80 : decode cX10_tellOne 80 = .ok (.invokevirtual 282, 3) := dk_182 1 26 (dk_at dksX10_tellOne_2 12 rfl rfl)
theorem dX10_tellOne_83 : decode cX10_tellOne 83 = .ok (.aload_n 0, 1) := dk_42 (dk_at dksX10_tellOne_2 15 rfl rfl)
theorem dX10_tellOne_84 : decode cX10_tellOne 84 = .ok (.getfield 221, 3) := dk_180 0 221 (dk_at dksX10_tellOne_2 16 rfl rfl)
theorem dX10_tellOne_87 : decode cX10_tellOne 87 = .ok (.ifCond .le 4, 3) := dk_158 0 4 (dk_at dksX10_tellOne_2 19 rfl rfl)
theorem dX10_tellOne_90 : decode cX10_tellOne 90 = .ok (.return_, 1) := dk_177 (dk_at dksX10_tellOne_2 22 rfl rfl)
theorem dX10_tellOne_91 : decode cX10_tellOne 91 = .ok (.aload_n 0, 1) := dk_42 (dk_at dksX10_tellOne_2 23 rfl rfl)
theorem dX10_tellOne_92 : decode cX10_tellOne 92 = .ok (.aload_n 0, 1) := dk_42 (dk_at dksX10_tellOne_3 0 rfl rfl)
theorem dX10_tellOne_93 : decode cX10_tellOne 93 = .ok (.invokevirtual 286, 3) := dk_182 1 30 (dk_at dksX10_tellOne_3 1 rfl rfl)
theorem dX10_tellOne_96 : decode cX10_tellOne 96 = .ok (.aload_n 0, 1) := dk_42 (dk_at dksX10_tellOne_3 4 rfl rfl)
theorem dX10_tellOne_97 : decode cX10_tellOne 97 = .ok (.getfield 46, 3) := dk_180 0 46 (dk_at dksX10_tellOne_3 5 rfl rfl)
theorem dX10_tellOne_100 : decode cX10_tellOne 100 = .ok (.aload_n 0, 1) := dk_42 (dk_at dksX10_tellOne_3 8 rfl rfl)
theorem dX10_tellOne_101 : decode cX10_tellOne 101 = .ok (.getfield 254, 3) := dk_180 0 254 (dk_at dksX10_tellOne_3 9 rfl rfl)
theorem dX10_tellOne_104 : decode cX10_tellOne 104 = .ok (.iaload, 1) := dk_46 (dk_at dksX10_tellOne_3 12 rfl rfl)
theorem dX10_tellOne_105 : decode cX10_tellOne 105 = .ok (.invokevirtual 290, 3) := dk_182 1 34 (dk_at dksX10_tellOne_3 13 rfl rfl)
theorem dX10_tellOne_108 : decode cX10_tellOne 108 = .ok (.aload_n 0, 1) := dk_42 (dk_at dksX10_tellOne_3 16 rfl rfl)
theorem dX10_tellOne_109 : decode cX10_tellOne 109 = .ok (.getfield 221, 3) := dk_180 0 221 (dk_at dksX10_tellOne_3 17 rfl rfl)
theorem dX10_tellOne_112 : decode cX10_tellOne 112 = .ok (.ifCond .ne 277, 3) := dk_154 1 21 (dk_at dksX10_tellOne_3 20 rfl rfl)
theorem dX10_tellOne_115 : decode cX10_tellOne 115 = .ok (.aload_n 0, 1) := dk_42 (dk_at dksX10_tellOne_3 23 rfl rfl)
theorem dX10_tellOne_116 : decode cX10_tellOne 116 = .ok (.getfield 46, 3) := dk_180 0 46 (dk_at dksX10_tellOne_4 0 rfl rfl)
theorem dX10_tellOne_119 : decode cX10_tellOne 119 = .ok (.aload_n 0, 1) := dk_42 (dk_at dksX10_tellOne_4 3 rfl rfl)
theorem dX10_tellOne_120 : decode cX10_tellOne 120 = .ok (.getfield 254, 3) := dk_180 0 254 (dk_at dksX10_tellOne_4 4 rfl rfl)
theorem dX10_tellOne_123 : decode cX10_tellOne 123 = .ok (.dup2, 1) := dk_92 (dk_at dksX10_tellOne_4 7 rfl rfl)
theorem dX10_tellOne_124 : decode cX10_tellOne 124 = .ok (.iaload, 1) := dk_46 (dk_at dksX10_tellOne_4 8 rfl rfl)
theorem dX10_tellOne_125 : decode cX10_tellOne 125 = .ok (.iconst 1, 1) := dk_4 (dk_at dksX10_tellOne_4 9 rfl rfl)
theorem dX10_tellOne_126 : decode cX10_tellOne 126 = .ok (.iadd, 1) := dk_96 (dk_at dksX10_tellOne_4 10 rfl rfl)
theorem dX10_tellOne_127 : decode cX10_tellOne 127 = .ok (.iastore, 1) := dk_79 (dk_at dksX10_tellOne_4 11 rfl rfl)
theorem dX10_tellOne_128 : decode cX10_tellOne 128 = .ok (.goto 261, 3) := dk_167 1 5 (dk_at dksX10_tellOne_4 12 rfl rfl)
theorem dX10_tellOne_131 : decode cX10_tellOne 131 = .ok (.aload_n 0, 1) := dk_42 (dk_at dksX10_tellOne_4 15 rfl rfl)
theorem dX10_tellOne_132 : decode cX10_tellOne 132 = .ok (.aload_n 0, 1) := dk_42 (dk_at dksX10_tellOne_4 16 rfl rfl)
theorem dX10_tellOne_133 : decode cX10_tellOne 133 = .ok (.getfield 49, 3) := dk_180 0 49 (dk_at dksX10_tellOne_4 17 rfl rfl)
theorem dX10_tellOne_136 : decode cX10_tellOne 136 = .ok (.aload_n 0, 1) := dk_42 (dk_at dksX10_tellOne_4 20 rfl rfl)
theorem dX10_tellOne_137 : decode cX10_tellOne 137 = .ok (.getfield 254, 3) := dk_180 0 254 (dk_at dksX10_tellOne_4 21 rfl rfl)
theorem dX10_tellOne_140 : decode cX10_tellOne 140 = .ok (.iaload, 1) := dk_46 (dk_at dksX10_tellOne_5 0 rfl rfl)
theorem dX10_tellOne_141 : decode cX10_tellOne 141 = .ok (.bipush 10, 2) := dk_16 10 (dk_at dksX10_tellOne_5 1 rfl rfl)
theorem dX10_tellOne_143 : decode cX10_tellOne 143 = .ok (.invokevirtual 282, 3) := dk_182 1 26 (dk_at dksX10_tellOne_5 3 rfl rfl)
theorem dX10_tellOne_146 : decode cX10_tellOne 146 = .ok (.aload_n 0, 1) := dk_42 (dk_at dksX10_tellOne_5 6 rfl rfl)
theorem dX10_tellOne_147 : decode cX10_tellOne 147 = .ok (.getfield 221, 3) := dk_180 0 221 (dk_at dksX10_tellOne_5 7 rfl rfl)
theorem dX10_tellOne_150 : decode cX10_tellOne 150 = .ok (.ifCond .ne 239, 3) := dk_154 0 239 (dk_at dksX10_tellOne_5 10 rfl rfl)
theorem dX10_tellOne_153 : decode cX10_tellOne 153 = .ok (.aload_n 0, 1) := dk_42 (dk_at dksX10_tellOne_5 13 rfl rfl)
theorem dX10_tellOne_154 : decode cX10_tellOne 154 = .ok (.invokevirtual 293, 3) := dk_182 1 37 (dk_at dksX10_tellOne_5 14 rfl rfl)
theorem dX10_tellOne_157 : decode cX10_tellOne 157 = .ok (.goto 232, 3) := dk_167 0 232 (dk_at dksX10_tellOne_5 17 rfl rfl)
theorem dX10_tellOne_160 : decode cX10_tellOne 160 = .ok (.aload_n 0, 1) := dk_42 (dk_at dksX10_tellOne_5 20 rfl rfl)
theorem dX10_tellOne_161 : decode cX10_tellOne 161 = .ok (.aload_n 0, 1) := dk_42 (dk_at dksX10_tellOne_5 21 rfl rfl)
theorem dX10_tellOne_162 : decode cX10_tellOne 162 = .ok (.getfield 61, 3) := dk_180 0 61 (dk_at dksX10_tellOne_6 0 rfl rfl)
theorem dX10_tellOne_165 : decode cX10_tellOne 165 = .ok (.aload_n 0, 1) := dk_42 (dk_at dksX10_tellOne_6 3 rfl rfl)
theorem dX10_tellOne_166 : decode cX10_tellOne 166 = .ok (.getfield 254, 3) := dk_180 0 254 (dk_at dksX10_tellOne_6 4 rfl rfl)
theorem dX10_tellOne_169 : decode cX10_tellOne 169 = .ok (.iaload, 1) := dk_46 (dk_at dksX10_tellOne_6 7 rfl rfl)
theorem dX10_tellOne_170 : decode cX10_tellOne 170 = .ok (.bipush 6, 2) := dk_16 6 (dk_at dksX10_tellOne_6 8 rfl rfl)
theorem dX10_tellOne_172 : decode cX10_tellOne 172 = .ok (.invokevirtual 282, 3) := dk_182 1 26 (dk_at dksX10_tellOne_6 10 rfl rfl)
theorem dX10_tellOne_175 : decode cX10_tellOne 175 = .ok (.aload_n 0, 1) := dk_42 (dk_at dksX10_tellOne_6 13 rfl rfl)
theorem dX10_tellOne_176 : decode cX10_tellOne 176 = .ok (.getfield 221, 3) := dk_180 0 221 (dk_at dksX10_tellOne_6 14 rfl rfl)
theorem dX10_tellOne_179 : decode cX10_tellOne 179 = .ok (.ifCond .ne 210, 3) := dk_154 0 210 (dk_at dksX10_tellOne_6 17 rfl rfl)
theorem dX10_tellOne_182 : decode cX10_tellOne 182 = .ok (.aload_n 0, 1) := dk_42 (dk_at dksX10_tellOne_6 20 rfl rfl)
theorem dX10_tellOne_183 : decode cX10_tellOne 183 = .ok (.invokevirtual 296, 3) := dk_182 1 40 (dk_at dksX10_tellOne_6 21 rfl rfl)
theorem dX10_tellOne_186 : decode cX10_tellOne 186 = .ok (.goto 203, 3) := dk_167 0 203 (dk_at dksX10_tellOne_7 0 rfl rfl)
theorem dX10_tellOne_189 : decode cX10_tellOne 189 = .ok (.aload_n 0, 1) := dk_42 (dk_at dksX10_tellOne_7 3 rfl rfl)
theorem dX10_tellOne_190 : decode cX10_tellOne 190 = .ok (.aload_n 0, 1) := dk_42 (dk_at dksX10_tellOne_7 4 rfl rfl)
theorem dX10_tellOne_191 : decode cX10_tellOne 191 = .ok (.getfield 73, 3) := dk_180 0 73 (dk_at dksX10_tellOne_7 5 rfl rfl)
theorem dX10_tellOne_194 : decode cX10_tellOne 194 = .ok (.aload_n 0, 1) := dk_42 (dk_at dksX10_tellOne_7 8 rfl rfl)
theorem dX10_tellOne_195 : decode cX10_tellOne 195 = .ok (.getfield 254, 3) := dk_180 0 254 (dk_at dksX10_tellOne_7 9 rfl rfl)
theorem dX10_tellOne_198 : decode cX10_tellOne 198 = .ok (.iaload, 1) := dk_46 (dk_at dksX10_tellOne_7 12 rfl rfl)
theorem dX10_tellOne_199 : decode cX10_tellOne 199 = .ok (.iconst 5, 1) := dk_8 (dk_at dksX10_tellOne_7 13 rfl rfl)
theorem dX10_tellOne_200 : decode cX10_tellOne 200 = .ok (.invokevirtual 282, 3) := dk_182 1 26 (dk_at dksX10_tellOne_7 14 rfl rfl)
theorem dX10_tellOne_203 : decode cX10_tellOne 203 = .ok (.aload_n 0, 1) := dk_42 (dk_at dksX10_tellOne_7 17 rfl rfl)
theorem dX10_tellOne_204 : decode cX10_tellOne 204 = .ok (.getfield 221, 3) := dk_180 0 221 (dk_at dksX10_tellOne_7 18 rfl rfl)
theorem dX10_tellOne_207 : decode cX10_tellOne 207 = .ok (.ifCond .le 4, 3) := dk_158 0 4 (dk_at dksX10_tellOne_7 21 rfl rfl)
theorem dX10_tellOne_210 : decode cX10_tellOne 210 = .ok (.return_, 1) := dk_177 (dk_at dksX10_tellOne_8 0 rfl rfl)
theorem dX10_tellOne_211 : decode cX10_tellOne 211 = .ok (.aload_n 0, 1) := dk_42 (dk_at dksX10_tellOne_8 1 rfl rfl)
theorem dX10_tellOne_212 : decode cX10_tellOne 212 = .ok (.invokevirtual 286, 3) := dk_182 1 30 (dk_at dksX10_tellOne_8 2 rfl rfl)
theorem dX10_tellOne_215 : decode cX10_tellOne 215 = .ok (.istore_n 1, 1) := dk_60 (dk_at dksX10_tellOne_8 5 rfl rfl)
theorem dX10_tellOne_216 : decode cX10_tellOne 216 = .ok (.aload_n 0, 1) := dk_42 (dk_at dksX10_tellOne_8 6 rfl rfl)
theorem dX10_tellOne_217 : decode cX10_tellOne 217 = .ok (.getfield 76, 3) := dk_180 0 76 (dk_at dksX10_tellOne_8 7 rfl rfl)
theorem dX10_tellOne_220 : decode cX10_tellOne 220 = .ok (.iconst 5, 1) := dk_8 (dk_at dksX10_tellOne_8 10 rfl rfl)
theorem dX10_tellOne_221 : decode cX10_tellOne 221 = .ok (.aload_n 0, 1) := dk_42 (dk_at dksX10_tellOne_8 11 rfl rfl)
theorem dX10_tellOne_222 : decode cX10_tellOne 222 = .ok (.getfield 254, 3) := dk_180 0 254 (dk_at dksX10_tellOne_8 12 rfl rfl)
theorem dX10_tellOne_225 : decode cX10_tellOne 225 = .ok (.imul, 1) := dk_104 (dk_at dksX10_tellOne_8 15 rfl rfl)
theorem dX10_tellOne_226 : decode cX10_tellOne 226 = .ok (.aload_n 0, 1) := dk_42 (dk_at dksX10_tellOne_8 16 rfl rfl)
theorem dX10_tellOne_227 : decode cX10_tellOne 227 = .ok (.getfield 73, 3) := dk_180 0 73 (dk_at dksX10_tellOne_8 17 rfl rfl)
theorem dX10_tellOne_230 : decode cX10_tellOne 230 = .ok (.aload_n 0, 1) := dk_42 (dk_at dksX10_tellOne_8 20 rfl rfl)
theorem dX10_tellOne_231 : decode cX10_tellOne 231 = .ok (.getfield 254, 3) := dk_180 0 254 (dk_at dksX10_tellOne_8 21 rfl rfl)
theorem dX10_tellOne_234 : decode cX10_tellOne 234 = .ok (.iaload, 1) := dk_46 (dk_at dksX10_tellOne_9 0 rfl rfl)
theorem dX10_tellOne_235 : decode cX10_tellOne 235 = .ok (.iadd, 1) := dk_96 (dk_at dksX10_tellOne_9 1 rfl rfl)
theorem dX10_tellOne_236 : decode cX10_tellOne 236 = .ok (.aload_n 0, 1) := dk_42 (dk_at dksX10_tellOne_9 2 rfl rfl)
theorem dX10_tellOne_237 : decode cX10_tellOne 237 = .ok (.iconst 0, 1) := dk_3 (dk_at dksX10_tellOne_9 3 rfl rfl)
theorem dX10_tellOne_238 : decode cX10_tellOne 238 = .ok (.bipush 99, 2) := dk_16 99 (dk_at dksX10_tellOne_9 4 rfl rfl)
theorem dX10_tellOne_240 : decode cX10_tellOne 240 = .ok (.invokevirtual 275, 3) := dk_182 1 19 (dk_at dksX10_tellOne_9 6 rfl rfl)
theorem dX10_tellOne_243 : decode cX10_tellOne 243 = .ok (.iastore, 1) := dk_79 (dk_at dksX10_tellOne_9 9 rfl rfl)
theorem dX10_tellOne_244 : decode cX10_tellOne 244 = .ok (.aload_n 0, 1) := dk_42 (dk_at dksX10_tellOne_9 10 rfl rfl)
theorem dX10_tellOne_245 : decode cX10_tellOne 245 = .ok (.iload_n 1, 1) := dk_27 (dk_at dksX10_tellOne_9 11 rfl rfl)
theorem dX10_tellOne_246 : decode cX10_tellOne 246 = .ok (.bipush 10, 2) := dk_16 10 (dk_at dksX10_tellOne_9 12 rfl rfl)
theorem dX10_tellOne_248 : decode cX10_tellOne 248 = .ok (.invokevirtual 290, 3) := dk_182 1 34 (dk_at dksX10_tellOne_9 14 rfl rfl)
theorem dX10_tellOne_251 : decode cX10_tellOne 251 = .ok (.aload_n 0, 1) := dk_42 (dk_at dksX10_tellOne_9 17 rfl rfl)
theorem dX10_tellOne_252 : decode cX10_tellOne 252 = .ok (.getfield 221, 3) := dk_180 0 221 (dk_at dksX10_tellOne_9 18 rfl rfl)
theorem dX10_tellOne_255 : decode cX10_tellOne 255 = .ok (.ifCond .ne 134, 3) := dk_154 0 134 (dk_at dksX10_tellOne_9 21 rfl rfl)
theorem dX10_tellOne_258 : decode cX10_tellOne 258 = .ok (.aload_n 0, 1) := dk_42 (dk_at dksX10_tellOne_10 0 rfl rfl)
theorem dX10_tellOne_259 : decode cX10_tellOne 259 = .ok (.getfield 73, 3) := dk_180 0 73 (dk_at dksX10_tellOne_10 1 rfl rfl)
theorem dX10_tellOne_262 : decode cX10_tellOne 262 = .ok (.aload_n 0, 1) := dk_42 (dk_at dksX10_tellOne_10 4 rfl rfl)
theorem dX10_tellOne_263 : decode cX10_tellOne 263 = .ok (.getfield 254, 3) := dk_180 0 254 (dk_at dksX10_tellOne_10 5 rfl rfl)
theorem dX10_tellOne_266 : decode cX10_tellOne 266 = .ok (.dup2, 1) := dk_92 (dk_at dksX10_tellOne_10 8 rfl rfl)
theorem dX10_tellOne_267 : decode cX10_tellOne 267 = .ok (.iaload, 1) := dk_46 (dk_at dksX10_tellOne_10 9 rfl rfl)
theorem dX10_tellOne_268 : decode cX10_tellOne 268 = .ok (.iconst 1, 1) := dk_4 (dk_at dksX10_tellOne_10 10 rfl rfl)
theorem dX10_tellOne_269 : decode cX10_tellOne 269 = .ok (.iadd, 1) := dk_96 (dk_at dksX10_tellOne_10 11 rfl rfl)
theorem dX10_tellOne_270 : decode cX10_tellOne 270 = .ok (.iastore, 1) := dk_79 (dk_at dksX10_tellOne_10 12 rfl rfl)
theorem dX10_tellOne_271 : decode cX10_tellOne 271 = .ok (.goto 118, 3) := dk_167 0 118 (dk_at dksX10_tellOne_10 13 rfl rfl)
theorem dX10_tellOne_274 : decode cX10_tellOne 274 = .ok (.aload_n 0, 1) := dk_42 (dk_at dksX10_tellOne_10 16 rfl rfl)
theorem dX10_tellOne_275 : decode cX10_tellOne 275 = .ok (.invokevirtual 242, 3) := dk_182 0 242 (dk_at dksX10_tellOne_10 17 rfl rfl)
theorem dX10_tellOne_278 : decode cX10_tellOne 278 = .ok (.aload_n 0, 1) := dk_42 (dk_at dksX10_tellOne_10 20 rfl rfl)
theorem dX10_tellOne_279 : decode cX10_tellOne 279 = .ok (.getfield 79, 3) := dk_180 0 79 (dk_at dksX10_tellOne_10 21 rfl rfl)
theorem dX10_tellOne_282 : decode cX10_tellOne 282 = .ok (.aload_n 0, 1) := dk_42 (dk_at dksX10_tellOne_11 0 rfl rfl)
theorem dX10_tellOne_283 : decode cX10_tellOne 283 = .ok (.getfield 254, 3) := dk_180 0 254 (dk_at dksX10_tellOne_11 1 rfl rfl)
theorem dX10_tellOne_286 : decode cX10_tellOne 286 = .ok (.aload_n 0, 1) := dk_42 (dk_at dksX10_tellOne_11 4 rfl rfl)
theorem dX10_tellOne_287 : decode cX10_tellOne 287 = .ok (.invokevirtual 299, 3) := dk_182 1 43 (dk_at dksX10_tellOne_11 5 rfl rfl)
theorem dX10_tellOne_290 : decode cX10_tellOne 290 = .ok (.iastore, 1) := dk_79 (dk_at dksX10_tellOne_11 8 rfl rfl)
theorem dX10_tellOne_291 : decode cX10_tellOne 291 = .ok (.aload_n 0, 1) := dk_42 (dk_at dksX10_tellOne_11 9 rfl rfl)
theorem dX10_tellOne_292 : decode cX10_tellOne 292 = .ok (.iconst 4, 1) := dk_7 (dk_at dksX10_tellOne_11 10 rfl rfl)
theorem dX10_tellOne_293 : decode cX10_tellOne 293 = .ok (.invokevirtual 279, 3) := dk_182 1 23 (dk_at dksX10_tellOne_11 11 rfl rfl)
theorem dX10_tellOne_296 : decode cX10_tellOne 296 = .ok (.goto 93, 3) := dk_167 0 93 (dk_at dksX10_tellOne_11 14 rfl rfl)
theorem dX10_tellOne_299 : decode cX10_tellOne 299 = .ok (.aload_n 0, 1) := dk_42 (dk_at dksX10_tellOne_11 17 rfl rfl)
theorem dX10_tellOne_300 : decode cX10_tellOne 300 = .ok (.getfield 82, 3) := dk_180 0 82 (dk_at dksX10_tellOne_11 18 rfl rfl)
theorem dX10_tellOne_303 : decode cX10_tellOne 303 = .ok (.aload_n 0, 1) := dk_42 (dk_at dksX10_tellOne_11 21 rfl rfl)
theorem dX10_tellOne_304 : decode cX10_tellOne 304 = .ok (.getfield 254, 3) := dk_180 0 254 (dk_at dksX10_tellOne_12 0 rfl rfl)
theorem dX10_tellOne_307 : decode cX10_tellOne 307 = .ok (.aload_n 0, 1) := dk_42 (dk_at dksX10_tellOne_12 3 rfl rfl)
theorem dX10_tellOne_308 : decode cX10_tellOne 308 = .ok (.bipush 100, 2) := dk_16 100 (dk_at dksX10_tellOne_12 4 rfl rfl)
theorem dX10_tellOne_310 : decode cX10_tellOne 310 = .ok (.invokevirtual 302, 3) := dk_182 1 46 (dk_at dksX10_tellOne_12 6 rfl rfl)
theorem dX10_tellOne_313 : decode cX10_tellOne 313 = .ok (.iastore, 1) := dk_79 (dk_at dksX10_tellOne_12 9 rfl rfl)
theorem dX10_tellOne_314 : decode cX10_tellOne 314 = .ok (.goto 75, 3) := dk_167 0 75 (dk_at dksX10_tellOne_12 10 rfl rfl)
theorem dX10_tellOne_317 : decode cX10_tellOne 317 = .ok (.aload_n 0, 1) := dk_42 (dk_at dksX10_tellOne_12 13 rfl rfl)
theorem dX10_tellOne_318 : decode cX10_tellOne 318 = .ok (.getfield 85, 3) := dk_180 0 85 (dk_at dksX10_tellOne_12 14 rfl rfl)
theorem dX10_tellOne_321 : decode cX10_tellOne 321 = .ok (.aload_n 0, 1) := dk_42 (dk_at dksX10_tellOne_12 17 rfl rfl)
theorem dX10_tellOne_322 : decode cX10_tellOne 322 = .ok (.getfield 254, 3) := dk_180 0 254 (dk_at dksX10_tellOne_12 18 rfl rfl)
theorem dX10_tellOne_325 : decode cX10_tellOne 325 = .ok (.aload_n 0, 1) := dk_42 (dk_at dksX10_tellOne_12 21 rfl rfl)
theorem dX10_tellOne_326 : decode cX10_tellOne 326 = .ok (.sipush 9999, 3) := dk_17 39 15 (dk_at dksX10_tellOne_13 0 rfl rfl)
theorem dX10_tellOne_329 : decode cX10_tellOne 329 = .ok (.invokevirtual 302, 3) := dk_182 1 46 (dk_at dksX10_tellOne_13 3 rfl rfl)
theorem dX10_tellOne_332 : decode cX10_tellOne 332 = .ok (.iastore, 1) := dk_79 (dk_at dksX10_tellOne_13 6 rfl rfl)
theorem dX10_tellOne_333 : decode cX10_tellOne 333 = .ok (.goto 56, 3) := dk_167 0 56 (dk_at dksX10_tellOne_13 7 rfl rfl)
theorem dX10_tellOne_336 : decode cX10_tellOne 336 = .ok (.aload_n 0, 1) := dk_42 (dk_at dksX10_tellOne_13 10 rfl rfl)
theorem dX10_tellOne_337 : decode cX10_tellOne 337 = .ok (.getfield 20, 3) := dk_180 0 20 (dk_at dksX10_tellOne_13 11 rfl rfl)
theorem dX10_tellOne_340 : decode cX10_tellOne 340 = .ok (.aload_n 0, 1) := dk_42 (dk_at dksX10_tellOne_13 14 rfl rfl)
theorem dX10_tellOne_341 : decode cX10_tellOne 341 = .ok (.getfield 224, 3) := dk_180 0 224 (dk_at dksX10_tellOne_13 15 rfl rfl)
theorem dX10_tellOne_344 : decode cX10_tellOne 344 = .ok (.iaload, 1) := dk_46 (dk_at dksX10_tellOne_13 18 rfl rfl)
theorem dX10_tellOne_345 : decode cX10_tellOne 345 = .ok (.bipush 25, 2) := dk_16 25 (dk_at dksX10_tellOne_13 19 rfl rfl)
theorem dX10_tellOne_347 : decode cX10_tellOne 347 = .ok (.isub, 1) := dk_100 (dk_at dksX10_tellOne_13 21 rfl rfl)
theorem dX10_tellOne_348 : decode cX10_tellOne 348 = .ok (.istore_n 1, 1) := dk_60 (dk_at dksX10_tellOne_13 22 rfl rfl)
theorem dX10_tellOne_349 : decode cX10_tellOne 349 = .ok (.iload_n 1, 1) := dk_27 (dk_at dksX10_tellOne_13 23 rfl rfl)
theorem dX10_tellOne_350 : decode cX10_tellOne 350 = .ok (.ifCond .lt 17, 3) := dk_155 0 17 (dk_at dksX10_tellOne_14 0 rfl rfl)
theorem dX10_tellOne_353 : decode cX10_tellOne 353 = .ok (.aload_n 0, 1) := dk_42 (dk_at dksX10_tellOne_14 3 rfl rfl)
theorem dX10_tellOne_354 : decode cX10_tellOne 354 = .ok (.getfield 20, 3) := dk_180 0 20 (dk_at dksX10_tellOne_14 4 rfl rfl)
theorem dX10_tellOne_357 : decode cX10_tellOne 357 = .ok (.aload_n 0, 1) := dk_42 (dk_at dksX10_tellOne_14 7 rfl rfl)
theorem dX10_tellOne_358 : decode cX10_tellOne 358 = .ok (.getfield 224, 3) := dk_180 0 224 (dk_at dksX10_tellOne_14 8 rfl rfl)
theorem dX10_tellOne_361 : decode cX10_tellOne 361 = .ok (.iaload, 1) := dk_46 (dk_at dksX10_tellOne_14 11 rfl rfl)
theorem dX10_tellOne_362 : decode cX10_tellOne 362 = .ok (.bipush 28, 2) := dk_16 28 (dk_at dksX10_tellOne_14 12 rfl rfl)
theorem dX10_tellOne_364 : decode cX10_tellOne 364 = .ok (.if_icmp .le 8, 3) := dk_164 0 8 (dk_at dksX10_tellOne_14 14 rfl rfl)
theorem dX10_tellOne_367 : decode cX10_tellOne 367 = .ok (.aload_n 0, 1) := dk_42 (dk_at dksX10_tellOne_14 17 rfl rfl)
theorem dX10_tellOne_368 : decode cX10_tellOne 368 = .ok (.iconst 1, 1) := dk_4 (dk_at dksX10_tellOne_14 18 rfl rfl)
theorem dX10_tellOne_369 : decode cX10_tellOne 369 = .ok (.invokevirtual 236, 3) := dk_182 0 236 (dk_at dksX10_tellOne_14 19 rfl rfl)
theorem dX10_tellOne_372 : decode cX10_tellOne 372 = .ok (.aload_n 0, 1) := dk_42 (dk_at dksX10_tellOne_14 22 rfl rfl)
theorem dX10_tellOne_373 : decode cX10_tellOne 373 = .ok (.getfield 221, 3) := dk_180 0 221 (dk_at dksX10_tellOne_15 0 rfl rfl)
theorem dX10_tellOne_376 : decode cX10_tellOne 376 = .ok (.ifCond .le 4, 3) := dk_158 0 4 (dk_at dksX10_tellOne_15 3 rfl rfl)
theorem dX10_tellOne_379 : decode cX10_tellOne 379 = .ok (.return_, 1) := dk_177 (dk_at dksX10_tellOne_15 6 rfl rfl)
theorem dX10_tellOne_380 : decode cX10_tellOne 380 = .ok (.aload_n 0, 1) := dk_42 (dk_at dksX10_tellOne_15 7 rfl rfl)
theorem dX10_tellOne_381 : decode cX10_tellOne 381 = .ok (.invokevirtual 242, 3) := dk_182 0 242 (dk_at dksX10_tellOne_15 8 rfl rfl)
theorem dX10_tellOne_384 : decode cX10_tellOne 384 = .ok (.aload_n 0, 1) := dk_42 (dk_at dksX10_tellOne_15 11 rfl rfl)
theorem dX10_tellOne_385 : decode cX10_tellOne 385 = .ok (.iload_n 1, 1) := dk_27 (dk_at dksX10_tellOne_15 12 rfl rfl)
theorem dX10_tellOne_386 : decode cX10_tellOne 386 = .ok (.invokevirtual 305, 3) := dk_182 1 49 (dk_at dksX10_tellOne_15 13 rfl rfl)
theorem dX10_tellOne_389 : decode cX10_tellOne 389 = .ok (.return_, 1) := dk_177 (dk_at dksX10_tellOne_15 16 rfl rfl)
abbrev cX10_roomFor : ByteArray := prog_22_method_22_code
def yX10_roomFor : MethodName := ⟨RX10, "roomFor", "(II)V"⟩
def dkwX10_roomFor_0 : List UInt8 := [27, 28, 160, 0, 8, 42, 5, 182, 0, 236, 42, 180, 0, 221, 154, 0, 7, 42, 182, 0, 242, 177]
abbrev dktX10_roomFor_0 : List UInt8 := dkwX10_roomFor_0 ++ []
theorem dksX10_roomFor_0 : cX10_roomFor.data.toList.drop 0 = dktX10_roomFor_0 := by decide +kernel
theorem dX10_roomFor_0 : decode cX10_roomFor 0 = .ok (.iload_n 1, 1) := dk_27 (dk_at dksX10_roomFor_0 0 rfl rfl)
theorem dX10_roomFor_1 : decode cX10_roomFor 1 = .ok (.iload_n 2, 1) := dk_28 (dk_at dksX10_roomFor_0 1 rfl rfl)
theorem dX10_roomFor_2 : decode cX10_roomFor 2 = .ok (.if_icmp .ne 8, 3) := dk_160 0 8 (dk_at dksX10_roomFor_0 2 rfl rfl)
theorem dX10_roomFor_5 : decode cX10_roomFor 5 = .ok (.aload_n 0, 1) := dk_42 (dk_at dksX10_roomFor_0 5 rfl rfl)
theorem dX10_roomFor_6 : decode cX10_roomFor 6 = .ok (.iconst 2, 1) := dk_5 (dk_at dksX10_roomFor_0 6 rfl rfl)
theorem dX10_roomFor_7 : decode cX10_roomFor 7 = .ok (.invokevirtual 236, 3) := dk_182 0 236 (dk_at dksX10_roomFor_0 7 rfl rfl)
theorem dX10_roomFor_10 : decode cX10_roomFor 10 = .ok (.aload_n 0, 1) := dk_42 (dk_at dksX10_roomFor_0 10 rfl rfl)
theorem dX10_roomFor_11 : decode cX10_roomFor 11 = .ok (.getfield 221, 3) := dk_180 0 221 (dk_at dksX10_roomFor_0 11 rfl rfl)
theorem dX10_roomFor_14 : decode cX10_roomFor 14 = .ok (.ifCond .ne 7, 3) := dk_154 0 7 (dk_at dksX10_roomFor_0 14 rfl rfl)
theorem dX10_roomFor_17 : decode cX10_roomFor 17 = .ok (.aload_n 0, 1) := dk_42 (dk_at dksX10_roomFor_0 17 rfl rfl)
theorem dX10_roomFor_18 : decode cX10_roomFor 18 = .ok (.invokevirtual 242, 3) := dk_182 0 242 (dk_at dksX10_roomFor_0 18 rfl rfl)
theorem dX10_roomFor_21 : decode cX10_roomFor 21 = .ok (.return_, 1) := dk_177 (dk_at dksX10_roomFor_0 21 rfl rfl)
abbrev cX10_fail : ByteArray := prog_22_method_15_code
def yX10_fail : MethodName := ⟨RX10, "fail", "(I)V"⟩
def dkwX10_fail_1 : List UInt8 := [181, 0, 227, 177]
abbrev dktX10_fail_1 : List UInt8 := dkwX10_fail_1 ++ []
def dkwX10_fail_0 : List UInt8 := [42, 180, 0, 221, 158, 0, 4, 177, 42, 27, 181, 0, 221, 42, 42, 180, 0, 24, 42, 180, 0, 224, 46]
abbrev dktX10_fail_0 : List UInt8 := dkwX10_fail_0 ++ dktX10_fail_1
theorem dksX10_fail_0 : cX10_fail.data.toList.drop 0 = dktX10_fail_0 := by decide +kernel
theorem dksX10_fail_1 : cX10_fail.data.toList.drop 23 = dktX10_fail_1 := dk_seg dksX10_fail_0 23 rfl rfl
theorem dX10_fail_0 : decode cX10_fail 0 = .ok (.aload_n 0, 1) := dk_42 (dk_at dksX10_fail_0 0 rfl rfl)
theorem dX10_fail_1 : decode cX10_fail 1 = .ok (.getfield 221, 3) := dk_180 0 221 (dk_at dksX10_fail_0 1 rfl rfl)
theorem dX10_fail_4 : decode cX10_fail 4 = .ok (.ifCond .le 4, 3) := dk_158 0 4 (dk_at dksX10_fail_0 4 rfl rfl)
theorem dX10_fail_7 : decode cX10_fail 7 = .ok (.return_, 1) := dk_177 (dk_at dksX10_fail_0 7 rfl rfl)
theorem dX10_fail_8 : decode cX10_fail 8 = .ok (.aload_n 0, 1) := dk_42 (dk_at dksX10_fail_0 8 rfl rfl)
theorem dX10_fail_9 : decode cX10_fail 9 = .ok (.iload_n 1, 1) := dk_27 (dk_at dksX10_fail_0 9 rfl rfl)
theorem dX10_fail_10 : decode cX10_fail 10 = .ok (.putfield 221, 3) := dk_181 0 221 (dk_at dksX10_fail_0 10 rfl rfl)
theorem dX10_fail_13 : decode cX10_fail 13 = .ok (.aload_n 0, 1) := dk_42 (dk_at dksX10_fail_0 13 rfl rfl)
theorem dX10_fail_14 : decode cX10_fail 14 = .ok (.aload_n 0, 1) := dk_42 (dk_at dksX10_fail_0 14 rfl rfl)
theorem dX10_fail_15 : decode cX10_fail 15 = .ok (.getfield 24, 3) := dk_180 0 24 (dk_at dksX10_fail_0 15 rfl rfl)
theorem dX10_fail_18 : decode cX10_fail 18 = .ok (.aload_n 0, 1) := dk_42 (dk_at dksX10_fail_0 18 rfl rfl)
theorem dX10_fail_19 : decode cX10_fail 19 = .ok (.getfield 224, 3) := dk_180 0 224 (dk_at dksX10_fail_0 19 rfl rfl)
theorem dX10_fail_22 : decode cX10_fail 22 = .ok (.iaload, 1) := dk_46 (dk_at dksX10_fail_0 22 rfl rfl)
theorem dX10_fail_23 : decode cX10_fail 23 = .ok (.putfield 227, 3) := dk_181 0 227 (dk_at dksX10_fail_1 0 rfl rfl)
theorem dX10_fail_26 : decode cX10_fail 26 = .ok (.return_, 1) := dk_177 (dk_at dksX10_fail_1 3 rfl rfl)
abbrev cX10_goesOn : ByteArray := prog_22_method_17_code
def yX10_goesOn : MethodName := ⟨RX10, "goesOn", "()V"⟩
def dkwX10_goesOn_1 : List UInt8 := [96, 181, 0, 224, 177]
abbrev dktX10_goesOn_1 : List UInt8 := dkwX10_goesOn_1 ++ []
def dkwX10_goesOn_0 : List UInt8 := [42, 180, 0, 224, 17, 1, 144, 160, 0, 11, 42, 5, 182, 0, 236, 167, 0, 13, 42, 89, 180, 0, 224, 4]
abbrev dktX10_goesOn_0 : List UInt8 := dkwX10_goesOn_0 ++ dktX10_goesOn_1
theorem dksX10_goesOn_0 : cX10_goesOn.data.toList.drop 0 = dktX10_goesOn_0 := by decide +kernel
theorem dksX10_goesOn_1 : cX10_goesOn.data.toList.drop 24 = dktX10_goesOn_1 := dk_seg dksX10_goesOn_0 24 rfl rfl
theorem dX10_goesOn_0 : decode cX10_goesOn 0 = .ok (.aload_n 0, 1) := dk_42 (dk_at dksX10_goesOn_0 0 rfl rfl)
theorem dX10_goesOn_1 : decode cX10_goesOn 1 = .ok (.getfield 224, 3) := dk_180 0 224 (dk_at dksX10_goesOn_0 1 rfl rfl)
theorem dX10_goesOn_4 : decode cX10_goesOn 4 = .ok (.sipush 400, 3) := dk_17 1 144 (dk_at dksX10_goesOn_0 4 rfl rfl)
theorem dX10_goesOn_7 : decode cX10_goesOn 7 = .ok (.if_icmp .ne 11, 3) := dk_160 0 11 (dk_at dksX10_goesOn_0 7 rfl rfl)
theorem dX10_goesOn_10 : decode cX10_goesOn 10 = .ok (.aload_n 0, 1) := dk_42 (dk_at dksX10_goesOn_0 10 rfl rfl)
theorem dX10_goesOn_11 : decode cX10_goesOn 11 = .ok (.iconst 2, 1) := dk_5 (dk_at dksX10_goesOn_0 11 rfl rfl)
theorem dX10_goesOn_12 : decode cX10_goesOn 12 = .ok (.invokevirtual 236, 3) := dk_182 0 236 (dk_at dksX10_goesOn_0 12 rfl rfl)
theorem dX10_goesOn_15 : decode cX10_goesOn 15 = .ok (.goto 13, 3) := dk_167 0 13 (dk_at dksX10_goesOn_0 15 rfl rfl)
theorem dX10_goesOn_18 : decode cX10_goesOn 18 = .ok (.aload_n 0, 1) := dk_42 (dk_at dksX10_goesOn_0 18 rfl rfl)
theorem dX10_goesOn_19 : decode cX10_goesOn 19 = .ok (.dup, 1) := dk_89 (dk_at dksX10_goesOn_0 19 rfl rfl)
theorem dX10_goesOn_20 : decode cX10_goesOn 20 = .ok (.getfield 224, 3) := dk_180 0 224 (dk_at dksX10_goesOn_0 20 rfl rfl)
theorem dX10_goesOn_23 : decode cX10_goesOn 23 = .ok (.iconst 1, 1) := dk_4 (dk_at dksX10_goesOn_0 23 rfl rfl)
theorem dX10_goesOn_24 : decode cX10_goesOn 24 = .ok (.iadd, 1) := dk_96 (dk_at dksX10_goesOn_1 0 rfl rfl)
theorem dX10_goesOn_25 : decode cX10_goesOn 25 = .ok (.putfield 224, 3) := dk_181 0 224 (dk_at dksX10_goesOn_1 1 rfl rfl)
theorem dX10_goesOn_28 : decode cX10_goesOn 28 = .ok (.return_, 1) := dk_177 (dk_at dksX10_goesOn_1 4 rfl rfl)
abbrev cX10_named : ByteArray := prog_22_method_25_code
def yX10_named : MethodName := ⟨RX10, "named", "()I"⟩
def dkwX10_named_2 : List UInt8 := [182, 1, 52, 132, 2, 1, 167, 255, 216, 27, 172]
abbrev dktX10_named_2 : List UInt8 := dkwX10_named_2 ++ []
def dkwX10_named_1 : List UInt8 := [154, 0, 31, 42, 180, 0, 40, 28, 47, 42, 180, 0, 30, 27, 47, 148, 154, 0, 9, 42, 6, 27]
abbrev dktX10_named_1 : List UInt8 := dkwX10_named_1 ++ dktX10_named_2
def dkwX10_named_0 : List UInt8 := [42, 180, 0, 224, 60, 42, 4, 182, 1, 23, 3, 61, 28, 42, 180, 1, 1, 162, 0, 38, 42, 180, 0, 221]
abbrev dktX10_named_0 : List UInt8 := dkwX10_named_0 ++ dktX10_named_1
theorem dksX10_named_0 : cX10_named.data.toList.drop 0 = dktX10_named_0 := by decide +kernel
theorem dksX10_named_1 : cX10_named.data.toList.drop 24 = dktX10_named_1 := dk_seg dksX10_named_0 24 rfl rfl
theorem dksX10_named_2 : cX10_named.data.toList.drop 46 = dktX10_named_2 := dk_seg dksX10_named_1 22 rfl rfl
theorem dX10_named_0 : decode cX10_named 0 = .ok (.aload_n 0, 1) := dk_42 (dk_at dksX10_named_0 0 rfl rfl)
theorem dX10_named_1 : decode cX10_named 1 = .ok (.getfield 224, 3) := dk_180 0 224 (dk_at dksX10_named_0 1 rfl rfl)
theorem dX10_named_4 : decode cX10_named 4 = .ok (.istore_n 1, 1) := dk_60 (dk_at dksX10_named_0 4 rfl rfl)
theorem dX10_named_5 : decode cX10_named 5 = .ok (.aload_n 0, 1) := dk_42 (dk_at dksX10_named_0 5 rfl rfl)
theorem dX10_named_6 : decode cX10_named 6 = .ok (.iconst 1, 1) := dk_4 (dk_at dksX10_named_0 6 rfl rfl)
theorem dX10_named_7 : decode cX10_named 7 = .ok (.invokevirtual 279, 3) := dk_182 1 23 (dk_at dksX10_named_0 7 rfl rfl)
theorem dX10_named_10 : decode cX10_named 10 = .ok (.iconst 0, 1) := dk_3 (dk_at dksX10_named_0 10 rfl rfl)
theorem dX10_named_11 : decode cX10_named 11 = .ok (.istore_n 2, 1) := dk_61 (dk_at dksX10_named_0 11 rfl rfl)
theorem dX10_named_12 : decode cX10_named 12 = .ok (.iload_n 2, 1) := dk_28 (dk_at dksX10_named_0 12 rfl rfl)
theorem dX10_named_13 : decode cX10_named 13 = .ok (.aload_n 0, 1) := dk_42 (dk_at dksX10_named_0 13 rfl rfl)
theorem dX10_named_14 : decode cX10_named 14 = .ok (.getfield 257, 3) := dk_180 1 1 (dk_at dksX10_named_0 14 rfl rfl)
theorem dX10_named_17 : decode cX10_named 17 = .ok (.if_icmp .ge 38, 3) := dk_162 0 38 (dk_at dksX10_named_0 17 rfl rfl)
theorem dX10_named_20 : decode cX10_named 20 = .ok (.aload_n 0, 1) := dk_42 (dk_at dksX10_named_0 20 rfl rfl)
theorem dX10_named_21 : decode cX10_named 21 = .ok (.getfield 221, 3) := dk_180 0 221 (dk_at dksX10_named_0 21 rfl rfl)
theorem dX10_named_24 : decode cX10_named 24 = .ok (.ifCond .ne 31, 3) := dk_154 0 31 (dk_at dksX10_named_1 0 rfl rfl)
theorem dX10_named_27 : decode cX10_named 27 = .ok (.aload_n 0, 1) := dk_42 (dk_at dksX10_named_1 3 rfl rfl)
theorem dX10_named_28 : decode cX10_named 28 = .ok (.getfield 40, 3) := dk_180 0 40 (dk_at dksX10_named_1 4 rfl rfl)
theorem dX10_named_31 : decode cX10_named 31 = .ok (.iload_n 2, 1) := dk_28 (dk_at dksX10_named_1 7 rfl rfl)
theorem dX10_named_32 : decode cX10_named 32 = .ok (.laload, 1) := dk_47 (dk_at dksX10_named_1 8 rfl rfl)
theorem dX10_named_33 : decode cX10_named 33 = .ok (.aload_n 0, 1) := dk_42 (dk_at dksX10_named_1 9 rfl rfl)
theorem dX10_named_34 : decode cX10_named 34 = .ok (.getfield 30, 3) := dk_180 0 30 (dk_at dksX10_named_1 10 rfl rfl)
theorem dX10_named_37 : decode cX10_named 37 = .ok (.iload_n 1, 1) := dk_27 (dk_at dksX10_named_1 13 rfl rfl)
theorem dX10_named_38 : decode cX10_named 38 = .ok (.laload, 1) := dk_47 (dk_at dksX10_named_1 14 rfl rfl)
theorem dX10_named_39 : decode cX10_named 39 = .ok (.lcmp, 1) := dk_148 (dk_at dksX10_named_1 15 rfl rfl)
theorem dX10_named_40 : decode cX10_named 40 = .ok (.ifCond .ne 9, 3) := dk_154 0 9 (dk_at dksX10_named_1 16 rfl rfl)
theorem dX10_named_43 : decode cX10_named 43 = .ok (.aload_n 0, 1) := dk_42 (dk_at dksX10_named_1 19 rfl rfl)
theorem dX10_named_44 : decode cX10_named 44 = .ok (.iconst 3, 1) := dk_6 (dk_at dksX10_named_1 20 rfl rfl)
theorem dX10_named_45 : decode cX10_named 45 = .ok (.iload_n 1, 1) := dk_27 (dk_at dksX10_named_1 21 rfl rfl)
theorem dX10_named_46 : decode cX10_named 46 = .ok (.invokevirtual 308, 3) := dk_182 1 52 (dk_at dksX10_named_2 0 rfl rfl)
theorem dX10_named_49 : decode cX10_named 49 = .ok (.iinc 2 1, 3) := dk_132 2 1 (dk_at dksX10_named_2 3 rfl rfl)
theorem dX10_named_52 : decode cX10_named 52 = .ok (.goto (-40), 3) := dk_167 255 216 (dk_at dksX10_named_2 6 rfl rfl)
theorem dX10_named_55 : decode cX10_named 55 = .ok (.iload_n 1, 1) := dk_27 (dk_at dksX10_named_2 9 rfl rfl)
theorem dX10_named_56 : decode cX10_named 56 = .ok (.ireturn, 1) := dk_172 (dk_at dksX10_named_2 10 rfl rfl)
abbrev cX10_must : ByteArray := prog_22_method_18_code
def yX10_must : MethodName := ⟨RX10, "must", "(I)V"⟩
def dkwX10_must_0 : List UInt8 := [42, 27, 182, 0, 239, 153, 0, 10, 42, 182, 0, 242, 167, 0, 8, 42, 4, 182, 0, 236, 177]
abbrev dktX10_must_0 : List UInt8 := dkwX10_must_0 ++ []
theorem dksX10_must_0 : cX10_must.data.toList.drop 0 = dktX10_must_0 := by decide +kernel
theorem dX10_must_0 : decode cX10_must 0 = .ok (.aload_n 0, 1) := dk_42 (dk_at dksX10_must_0 0 rfl rfl)
theorem dX10_must_1 : decode cX10_must 1 = .ok (.iload_n 1, 1) := dk_27 (dk_at dksX10_must_0 1 rfl rfl)
theorem dX10_must_2 : decode cX10_must 2 = .ok (.invokevirtual 239, 3) := dk_182 0 239 (dk_at dksX10_must_0 2 rfl rfl)
theorem dX10_must_5 : decode cX10_must 5 = .ok (.ifCond .eq 10, 3) := dk_153 0 10 (dk_at dksX10_must_0 5 rfl rfl)
theorem dX10_must_8 : decode cX10_must 8 = .ok (.aload_n 0, 1) := dk_42 (dk_at dksX10_must_0 8 rfl rfl)
theorem dX10_must_9 : decode cX10_must 9 = .ok (.invokevirtual 242, 3) := dk_182 0 242 (dk_at dksX10_must_0 9 rfl rfl)
theorem dX10_must_12 : decode cX10_must 12 = .ok (.goto 8, 3) := dk_167 0 8 (dk_at dksX10_must_0 12 rfl rfl)
theorem dX10_must_15 : decode cX10_must 15 = .ok (.aload_n 0, 1) := dk_42 (dk_at dksX10_must_0 15 rfl rfl)
theorem dX10_must_16 : decode cX10_must 16 = .ok (.iconst 1, 1) := dk_4 (dk_at dksX10_must_0 16 rfl rfl)
theorem dX10_must_17 : decode cX10_must 17 = .ok (.invokevirtual 236, 3) := dk_182 0 236 (dk_at dksX10_must_0 17 rfl rfl)
theorem dX10_must_20 : decode cX10_must 20 = .ok (.return_, 1) := dk_177 (dk_at dksX10_must_0 20 rfl rfl)
abbrev cX10_wrong : ByteArray := prog_22_method_16_code
def yX10_wrong : MethodName := ⟨RX10, "wrong", "(II)V"⟩
def dkwX10_wrong_2 : List UInt8 := [27, 181, 0, 230, 42, 29, 181, 0, 233, 177]
abbrev dktX10_wrong_2 : List UInt8 := dkwX10_wrong_2 ++ []
def dkwX10_wrong_1 : List UInt8 := [180, 0, 233, 163, 0, 19, 29, 42, 180, 0, 233, 160, 0, 12, 27, 42, 180, 0, 230, 161, 0, 4, 177, 42]
abbrev dktX10_wrong_1 : List UInt8 := dkwX10_wrong_1 ++ dktX10_wrong_2
def dkwX10_wrong_0 : List UInt8 := [42, 180, 0, 24, 28, 46, 62, 42, 180, 0, 221, 157, 0, 34, 42, 180, 0, 230, 153, 0, 28, 29, 42]
abbrev dktX10_wrong_0 : List UInt8 := dkwX10_wrong_0 ++ dktX10_wrong_1
theorem dksX10_wrong_0 : cX10_wrong.data.toList.drop 0 = dktX10_wrong_0 := by decide +kernel
theorem dksX10_wrong_1 : cX10_wrong.data.toList.drop 23 = dktX10_wrong_1 := dk_seg dksX10_wrong_0 23 rfl rfl
theorem dksX10_wrong_2 : cX10_wrong.data.toList.drop 47 = dktX10_wrong_2 := dk_seg dksX10_wrong_1 24 rfl rfl
theorem dX10_wrong_0 : decode cX10_wrong 0 = .ok (.aload_n 0, 1) := dk_42 (dk_at dksX10_wrong_0 0 rfl rfl)
theorem dX10_wrong_1 : decode cX10_wrong 1 = .ok (.getfield 24, 3) := dk_180 0 24 (dk_at dksX10_wrong_0 1 rfl rfl)
theorem dX10_wrong_4 : decode cX10_wrong 4 = .ok (.iload_n 2, 1) := dk_28 (dk_at dksX10_wrong_0 4 rfl rfl)
theorem dX10_wrong_5 : decode cX10_wrong 5 = .ok (.iaload, 1) := dk_46 (dk_at dksX10_wrong_0 5 rfl rfl)
theorem dX10_wrong_6 : decode cX10_wrong 6 = .ok (.istore_n 3, 1) := dk_62 (dk_at dksX10_wrong_0 6 rfl rfl)
theorem dX10_wrong_7 : decode cX10_wrong 7 = .ok (.aload_n 0, 1) := dk_42 (dk_at dksX10_wrong_0 7 rfl rfl)
theorem dX10_wrong_8 : decode cX10_wrong 8 = .ok (.getfield 221, 3) := dk_180 0 221 (dk_at dksX10_wrong_0 8 rfl rfl)
theorem dX10_wrong_11 : decode cX10_wrong 11 = .ok (.ifCond .gt 34, 3) := dk_157 0 34 (dk_at dksX10_wrong_0 11 rfl rfl)
theorem dX10_wrong_14 : decode cX10_wrong 14 = .ok (.aload_n 0, 1) := dk_42 (dk_at dksX10_wrong_0 14 rfl rfl)
theorem dX10_wrong_15 : decode cX10_wrong 15 = .ok (.getfield 230, 3) := dk_180 0 230 (dk_at dksX10_wrong_0 15 rfl rfl)
theorem dX10_wrong_18 : decode cX10_wrong 18 = .ok (.ifCond .eq 28, 3) := dk_153 0 28 (dk_at dksX10_wrong_0 18 rfl rfl)
theorem dX10_wrong_21 : decode cX10_wrong 21 = .ok (.iload_n 3, 1) := dk_29 (dk_at dksX10_wrong_0 21 rfl rfl)
theorem dX10_wrong_22 : decode cX10_wrong 22 = .ok (.aload_n 0, 1) := dk_42 (dk_at dksX10_wrong_0 22 rfl rfl)
theorem dX10_wrong_23 : decode cX10_wrong 23 = .ok (.getfield 233, 3) := dk_180 0 233 (dk_at dksX10_wrong_1 0 rfl rfl)
theorem dX10_wrong_26 : decode cX10_wrong 26 = .ok (.if_icmp .gt 19, 3) := dk_163 0 19 (dk_at dksX10_wrong_1 3 rfl rfl)
theorem dX10_wrong_29 : decode cX10_wrong 29 = .ok (.iload_n 3, 1) := dk_29 (dk_at dksX10_wrong_1 6 rfl rfl)
theorem dX10_wrong_30 : decode cX10_wrong 30 = .ok (.aload_n 0, 1) := dk_42 (dk_at dksX10_wrong_1 7 rfl rfl)
theorem dX10_wrong_31 : decode cX10_wrong 31 = .ok (.getfield 233, 3) := dk_180 0 233 (dk_at dksX10_wrong_1 8 rfl rfl)
theorem dX10_wrong_34 : decode cX10_wrong 34 = .ok (.if_icmp .ne 12, 3) := dk_160 0 12 (dk_at dksX10_wrong_1 11 rfl rfl)
theorem dX10_wrong_37 : decode cX10_wrong 37 = .ok (.iload_n 1, 1) := dk_27 (dk_at dksX10_wrong_1 14 rfl rfl)
theorem dX10_wrong_38 : decode cX10_wrong 38 = .ok (.aload_n 0, 1) := dk_42 (dk_at dksX10_wrong_1 15 rfl rfl)
theorem dX10_wrong_39 : decode cX10_wrong 39 = .ok (.getfield 230, 3) := dk_180 0 230 (dk_at dksX10_wrong_1 16 rfl rfl)
theorem dX10_wrong_42 : decode cX10_wrong 42 = .ok (.if_icmp .lt 4, 3) := dk_161 0 4 (dk_at dksX10_wrong_1 19 rfl rfl)
theorem dX10_wrong_45 : decode cX10_wrong 45 = .ok (.return_, 1) := dk_177 (dk_at dksX10_wrong_1 22 rfl rfl)
theorem dX10_wrong_46 : decode cX10_wrong 46 = .ok (.aload_n 0, 1) := dk_42 (dk_at dksX10_wrong_1 23 rfl rfl)
theorem dX10_wrong_47 : decode cX10_wrong 47 = .ok (.iload_n 1, 1) := dk_27 (dk_at dksX10_wrong_2 0 rfl rfl)
theorem dX10_wrong_48 : decode cX10_wrong 48 = .ok (.putfield 230, 3) := dk_181 0 230 (dk_at dksX10_wrong_2 1 rfl rfl)
theorem dX10_wrong_51 : decode cX10_wrong 51 = .ok (.aload_n 0, 1) := dk_42 (dk_at dksX10_wrong_2 4 rfl rfl)
theorem dX10_wrong_52 : decode cX10_wrong 52 = .ok (.iload_n 3, 1) := dk_29 (dk_at dksX10_wrong_2 5 rfl rfl)
theorem dX10_wrong_53 : decode cX10_wrong 53 = .ok (.putfield 233, 3) := dk_181 0 233 (dk_at dksX10_wrong_2 6 rfl rfl)
theorem dX10_wrong_56 : decode cX10_wrong 56 = .ok (.return_, 1) := dk_177 (dk_at dksX10_wrong_2 9 rfl rfl)
abbrev cX10_endsName : ByteArray := prog_22_method_26_code
def yX10_endsName : MethodName := ⟨RX10, "endsName", "(II)V"⟩
def dkwX10_endsName_2 : List UInt8 := [181, 1, 1, 177]
abbrev dktX10_endsName_2 : List UInt8 := dkwX10_endsName_2 ++ []
def dkwX10_endsName_1 : List UInt8 := [180, 0, 30, 27, 47, 80, 42, 180, 0, 43, 42, 180, 1, 1, 28, 79, 42, 89, 180, 1, 1, 4, 96]
abbrev dktX10_endsName_1 : List UInt8 := dkwX10_endsName_1 ++ dktX10_endsName_2
def dkwX10_endsName_0 : List UInt8 := [42, 7, 182, 1, 23, 42, 180, 0, 221, 158, 0, 4, 177, 42, 180, 0, 40, 42, 180, 1, 1, 42]
abbrev dktX10_endsName_0 : List UInt8 := dkwX10_endsName_0 ++ dktX10_endsName_1
theorem dksX10_endsName_0 : cX10_endsName.data.toList.drop 0 = dktX10_endsName_0 := by decide +kernel
theorem dksX10_endsName_1 : cX10_endsName.data.toList.drop 22 = dktX10_endsName_1 := dk_seg dksX10_endsName_0 22 rfl rfl
theorem dksX10_endsName_2 : cX10_endsName.data.toList.drop 45 = dktX10_endsName_2 := dk_seg dksX10_endsName_1 23 rfl rfl
theorem dX10_endsName_0 : decode cX10_endsName 0 = .ok (.aload_n 0, 1) := dk_42 (dk_at dksX10_endsName_0 0 rfl rfl)
theorem dX10_endsName_1 : decode cX10_endsName 1 = .ok (.iconst 4, 1) := dk_7 (dk_at dksX10_endsName_0 1 rfl rfl)
theorem dX10_endsName_2 : decode cX10_endsName 2 = .ok (.invokevirtual 279, 3) := dk_182 1 23 (dk_at dksX10_endsName_0 2 rfl rfl)
theorem dX10_endsName_5 : decode cX10_endsName 5 = .ok (.aload_n 0, 1) := dk_42 (dk_at dksX10_endsName_0 5 rfl rfl)
theorem dX10_endsName_6 : decode cX10_endsName 6 = .ok (.getfield 221, 3) := dk_180 0 221 (dk_at dksX10_endsName_0 6 rfl rfl)
theorem dX10_endsName_9 : decode cX10_endsName 9 = .ok (.ifCond .le 4, 3) := dk_158 0 4 (dk_at dksX10_endsName_0 9 rfl rfl)
theorem dX10_endsName_12 : decode cX10_endsName 12 = .ok (.return_, 1) := dk_177 (dk_at dksX10_endsName_0 12 rfl rfl)
theorem dX10_endsName_13 : decode cX10_endsName 13 = .ok (.aload_n 0, 1) := dk_42 (dk_at dksX10_endsName_0 13 rfl rfl)
theorem dX10_endsName_14 : decode cX10_endsName 14 = .ok (.getfield 40, 3) := dk_180 0 40 (dk_at dksX10_endsName_0 14 rfl rfl)
theorem dX10_endsName_17 : decode cX10_endsName 17 = .ok (.aload_n 0, 1) := dk_42 (dk_at dksX10_endsName_0 17 rfl rfl)
theorem dX10_endsName_18 : decode cX10_endsName 18 = .ok (.getfield 257, 3) := dk_180 1 1 (dk_at dksX10_endsName_0 18 rfl rfl)
theorem dX10_endsName_21 : decode cX10_endsName 21 = .ok (.aload_n 0, 1) := dk_42 (dk_at dksX10_endsName_0 21 rfl rfl)
theorem dX10_endsName_22 : decode cX10_endsName 22 = .ok (.getfield 30, 3) := dk_180 0 30 (dk_at dksX10_endsName_1 0 rfl rfl)
theorem dX10_endsName_25 : decode cX10_endsName 25 = .ok (.iload_n 1, 1) := dk_27 (dk_at dksX10_endsName_1 3 rfl rfl)
theorem dX10_endsName_26 : decode cX10_endsName 26 = .ok (.laload, 1) := dk_47 (dk_at dksX10_endsName_1 4 rfl rfl)
theorem dX10_endsName_27 : decode cX10_endsName 27 = .ok (.lastore, 1) := dk_80 (dk_at dksX10_endsName_1 5 rfl rfl)
theorem dX10_endsName_28 : decode cX10_endsName 28 = .ok (.aload_n 0, 1) := dk_42 (dk_at dksX10_endsName_1 6 rfl rfl)
theorem dX10_endsName_29 : decode cX10_endsName 29 = .ok (.getfield 43, 3) := dk_180 0 43 (dk_at dksX10_endsName_1 7 rfl rfl)
theorem dX10_endsName_32 : decode cX10_endsName 32 = .ok (.aload_n 0, 1) := dk_42 (dk_at dksX10_endsName_1 10 rfl rfl)
theorem dX10_endsName_33 : decode cX10_endsName 33 = .ok (.getfield 257, 3) := dk_180 1 1 (dk_at dksX10_endsName_1 11 rfl rfl)
theorem dX10_endsName_36 : decode cX10_endsName 36 = .ok (.iload_n 2, 1) := dk_28 (dk_at dksX10_endsName_1 14 rfl rfl)
theorem dX10_endsName_37 : decode cX10_endsName 37 = .ok (.iastore, 1) := dk_79 (dk_at dksX10_endsName_1 15 rfl rfl)
theorem dX10_endsName_38 : decode cX10_endsName 38 = .ok (.aload_n 0, 1) := dk_42 (dk_at dksX10_endsName_1 16 rfl rfl)
theorem dX10_endsName_39 : decode cX10_endsName 39 = .ok (.dup, 1) := dk_89 (dk_at dksX10_endsName_1 17 rfl rfl)
theorem dX10_endsName_40 : decode cX10_endsName 40 = .ok (.getfield 257, 3) := dk_180 1 1 (dk_at dksX10_endsName_1 18 rfl rfl)
theorem dX10_endsName_43 : decode cX10_endsName 43 = .ok (.iconst 1, 1) := dk_4 (dk_at dksX10_endsName_1 21 rfl rfl)
theorem dX10_endsName_44 : decode cX10_endsName 44 = .ok (.iadd, 1) := dk_96 (dk_at dksX10_endsName_1 22 rfl rfl)
theorem dX10_endsName_45 : decode cX10_endsName 45 = .ok (.putfield 257, 3) := dk_181 1 1 (dk_at dksX10_endsName_2 0 rfl rfl)
theorem dX10_endsName_48 : decode cX10_endsName 48 = .ok (.return_, 1) := dk_177 (dk_at dksX10_endsName_2 3 rfl rfl)
abbrev cX10_tellStreet : ByteArray := prog_22_method_29_code
def yX10_tellStreet : MethodName := ⟨RX10, "tellStreet", "()V"⟩
def dkwX10_tellStreet_4 : List UInt8 := [182, 1, 23, 42, 180, 0, 221, 154, 0, 16, 42, 180, 0, 49, 42, 180, 0, 254, 92, 46, 4, 96, 79, 177]
abbrev dktX10_tellStreet_4 : List UInt8 := dkwX10_tellStreet_4 ++ []
def dkwX10_tellStreet_3 : List UInt8 := [160, 0, 9, 42, 6, 28, 182, 1, 52, 42, 180, 0, 58, 27, 42, 4, 16, 99, 182, 1, 19, 79, 42, 7]
abbrev dktX10_tellStreet_3 : List UInt8 := dkwX10_tellStreet_3 ++ dktX10_tellStreet_4
def dkwX10_tellStreet_2 : List UInt8 := [154, 0, 33, 42, 180, 0, 52, 27, 46, 155, 0, 24, 42, 180, 0, 52, 27, 46, 42, 180, 0, 55, 27, 46]
abbrev dktX10_tellStreet_2 : List UInt8 := dkwX10_tellStreet_2 ++ dktX10_tellStreet_3
def dkwX10_tellStreet_1 : List UInt8 := [182, 1, 43, 79, 42, 180, 0, 224, 61, 42, 180, 0, 55, 27, 42, 182, 1, 43, 79, 42, 180, 0, 221]
abbrev dktX10_tellStreet_1 : List UInt8 := dkwX10_tellStreet_1 ++ dktX10_tellStreet_2
def dkwX10_tellStreet_0 : List UInt8 := [16, 10, 42, 180, 0, 254, 104, 42, 180, 0, 49, 42, 180, 0, 254, 46, 96, 60, 42, 180, 0, 52, 27, 42]
abbrev dktX10_tellStreet_0 : List UInt8 := dkwX10_tellStreet_0 ++ dktX10_tellStreet_1
theorem dksX10_tellStreet_0 : cX10_tellStreet.data.toList.drop 0 = dktX10_tellStreet_0 := by decide +kernel
theorem dksX10_tellStreet_1 : cX10_tellStreet.data.toList.drop 24 = dktX10_tellStreet_1 := dk_seg dksX10_tellStreet_0 24 rfl rfl
theorem dksX10_tellStreet_2 : cX10_tellStreet.data.toList.drop 47 = dktX10_tellStreet_2 := dk_seg dksX10_tellStreet_1 23 rfl rfl
theorem dksX10_tellStreet_3 : cX10_tellStreet.data.toList.drop 71 = dktX10_tellStreet_3 := dk_seg dksX10_tellStreet_2 24 rfl rfl
theorem dksX10_tellStreet_4 : cX10_tellStreet.data.toList.drop 95 = dktX10_tellStreet_4 := dk_seg dksX10_tellStreet_3 24 rfl rfl
theorem dX10_tellStreet_0 : decode cX10_tellStreet 0 = .ok (.bipush 10, 2) := dk_16 10 (dk_at dksX10_tellStreet_0 0 rfl rfl)
theorem dX10_tellStreet_2 : decode cX10_tellStreet 2 = .ok (.aload_n 0, 1) := dk_42 (dk_at dksX10_tellStreet_0 2 rfl rfl)
theorem dX10_tellStreet_3 : decode cX10_tellStreet 3 = .ok (.getfield 254, 3) := dk_180 0 254 (dk_at dksX10_tellStreet_0 3 rfl rfl)
theorem dX10_tellStreet_6 : decode cX10_tellStreet 6 = .ok (.imul, 1) := dk_104 (dk_at dksX10_tellStreet_0 6 rfl rfl)
theorem dX10_tellStreet_7 : decode cX10_tellStreet 7 = .ok (.aload_n 0, 1) := dk_42 (dk_at dksX10_tellStreet_0 7 rfl rfl)
theorem dX10_tellStreet_8 : decode cX10_tellStreet 8 = .ok (.getfield 49, 3) := dk_180 0 49 (dk_at dksX10_tellStreet_0 8 rfl rfl)
theorem dX10_tellStreet_11 : decode cX10_tellStreet 11 = .ok (.aload_n 0, 1) := dk_42 (dk_at dksX10_tellStreet_0 11 rfl rfl)
theorem dX10_tellStreet_12 : decode cX10_tellStreet 12 = .ok (.getfield 254, 3) := dk_180 0 254 (dk_at dksX10_tellStreet_0 12 rfl rfl)
theorem dX10_tellStreet_15 : decode cX10_tellStreet 15 = .ok (.iaload, 1) := dk_46 (dk_at dksX10_tellStreet_0 15 rfl rfl)
theorem dX10_tellStreet_16 : decode cX10_tellStreet 16 = .ok (.iadd, 1) := dk_96 (dk_at dksX10_tellStreet_0 16 rfl rfl)
theorem dX10_tellStreet_17 : decode cX10_tellStreet 17 = .ok (.istore_n 1, 1) := dk_60 (dk_at dksX10_tellStreet_0 17 rfl rfl)
theorem dX10_tellStreet_18 : decode cX10_tellStreet 18 = .ok (.aload_n 0, 1) := dk_42 (dk_at dksX10_tellStreet_0 18 rfl rfl)
theorem dX10_tellStreet_19 : decode cX10_tellStreet 19 = .ok (.getfield 52, 3) := dk_180 0 52 (dk_at dksX10_tellStreet_0 19 rfl rfl)
theorem dX10_tellStreet_22 : decode cX10_tellStreet 22 = .ok (.iload_n 1, 1) := dk_27 (dk_at dksX10_tellStreet_0 22 rfl rfl)
theorem dX10_tellStreet_23 : decode cX10_tellStreet 23 = .ok (.aload_n 0, 1) := dk_42 (dk_at dksX10_tellStreet_0 23 rfl rfl)
theorem dX10_tellStreet_24 : decode cX10_tellStreet 24 = .ok (.invokevirtual 299, 3) := dk_182 1 43 (dk_at dksX10_tellStreet_1 0 rfl rfl)
theorem dX10_tellStreet_27 : decode cX10_tellStreet 27 = .ok (.iastore, 1) := dk_79 (dk_at dksX10_tellStreet_1 3 rfl rfl)
theorem dX10_tellStreet_28 : decode cX10_tellStreet 28 = .ok (.aload_n 0, 1) := dk_42 (dk_at dksX10_tellStreet_1 4 rfl rfl)
theorem dX10_tellStreet_29 : decode cX10_tellStreet 29 = .ok (.getfield 224, 3) := dk_180 0 224 (dk_at dksX10_tellStreet_1 5 rfl rfl)
theorem dX10_tellStreet_32 : decode cX10_tellStreet 32 = .ok (.istore_n 2, 1) := dk_61 (dk_at dksX10_tellStreet_1 8 rfl rfl)
theorem dX10_tellStreet_33 : decode cX10_tellStreet 33 = .ok (.aload_n 0, 1) := dk_42 (dk_at dksX10_tellStreet_1 9 rfl rfl)
theorem dX10_tellStreet_34 : decode cX10_tellStreet 34 = .ok (.getfield 55, 3) := dk_180 0 55 (dk_at dksX10_tellStreet_1 10 rfl rfl)
theorem dX10_tellStreet_37 : decode cX10_tellStreet 37 = .ok (.iload_n 1, 1) := dk_27 (dk_at dksX10_tellStreet_1 13 rfl rfl)
theorem dX10_tellStreet_38 : decode cX10_tellStreet 38 = .ok (.aload_n 0, 1) := dk_42 (dk_at dksX10_tellStreet_1 14 rfl rfl)
theorem dX10_tellStreet_39 : decode cX10_tellStreet 39 = .ok (.invokevirtual 299, 3) := dk_182 1 43 (dk_at dksX10_tellStreet_1 15 rfl rfl)
theorem dX10_tellStreet_42 : decode cX10_tellStreet 42 = .ok (.iastore, 1) := dk_79 (dk_at dksX10_tellStreet_1 18 rfl rfl)
theorem dX10_tellStreet_43 : decode cX10_tellStreet 43 = .ok (.aload_n 0, 1) := dk_42 (dk_at dksX10_tellStreet_1 19 rfl rfl)
theorem dX10_tellStreet_44 : decode cX10_tellStreet 44 = .ok (.getfield 221, 3) := dk_180 0 221 (dk_at dksX10_tellStreet_1 20 rfl rfl)
theorem dX10_tellStreet_47 : decode cX10_tellStreet 47 = .ok (.ifCond .ne 33, 3) := dk_154 0 33 (dk_at dksX10_tellStreet_2 0 rfl rfl)
theorem dX10_tellStreet_50 : decode cX10_tellStreet 50 = .ok (.aload_n 0, 1) := dk_42 (dk_at dksX10_tellStreet_2 3 rfl rfl)
theorem dX10_tellStreet_51 : decode cX10_tellStreet 51 = .ok (.getfield 52, 3) := dk_180 0 52 (dk_at dksX10_tellStreet_2 4 rfl rfl)
theorem dX10_tellStreet_54 : decode cX10_tellStreet 54 = .ok (.iload_n 1, 1) := dk_27 (dk_at dksX10_tellStreet_2 7 rfl rfl)
theorem dX10_tellStreet_55 : decode cX10_tellStreet 55 = .ok (.iaload, 1) := dk_46 (dk_at dksX10_tellStreet_2 8 rfl rfl)
theorem dX10_tellStreet_56 : decode cX10_tellStreet 56 = .ok (.ifCond .lt 24, 3) := dk_155 0 24 (dk_at dksX10_tellStreet_2 9 rfl rfl)
theorem dX10_tellStreet_59 : decode cX10_tellStreet 59 = .ok (.aload_n 0, 1) := dk_42 (dk_at dksX10_tellStreet_2 12 rfl rfl)
theorem dX10_tellStreet_60 : decode cX10_tellStreet 60 = .ok (.getfield 52, 3) := dk_180 0 52 (dk_at dksX10_tellStreet_2 13 rfl rfl)
theorem dX10_tellStreet_63 : decode cX10_tellStreet 63 = .ok (.iload_n 1, 1) := dk_27 (dk_at dksX10_tellStreet_2 16 rfl rfl)
theorem dX10_tellStreet_64 : decode cX10_tellStreet 64 = .ok (.iaload, 1) := dk_46 (dk_at dksX10_tellStreet_2 17 rfl rfl)
theorem dX10_tellStreet_65 : decode cX10_tellStreet 65 = .ok (.aload_n 0, 1) := dk_42 (dk_at dksX10_tellStreet_2 18 rfl rfl)
theorem dX10_tellStreet_66 : decode cX10_tellStreet 66 = .ok (.getfield 55, 3) := dk_180 0 55 (dk_at dksX10_tellStreet_2 19 rfl rfl)
theorem dX10_tellStreet_69 : decode cX10_tellStreet 69 = .ok (.iload_n 1, 1) := dk_27 (dk_at dksX10_tellStreet_2 22 rfl rfl)
theorem dX10_tellStreet_70 : decode cX10_tellStreet 70 = .ok (.iaload, 1) := dk_46 (dk_at dksX10_tellStreet_2 23 rfl rfl)
theorem dX10_tellStreet_71 : decode cX10_tellStreet 71 = .ok (.if_icmp .ne 9, 3) := dk_160 0 9 (dk_at dksX10_tellStreet_3 0 rfl rfl)
theorem dX10_tellStreet_74 : decode cX10_tellStreet 74 = .ok (.aload_n 0, 1) := dk_42 (dk_at dksX10_tellStreet_3 3 rfl rfl)
theorem dX10_tellStreet_75 : decode cX10_tellStreet 75 = .ok (.iconst 3, 1) := dk_6 (dk_at dksX10_tellStreet_3 4 rfl rfl)
theorem dX10_tellStreet_76 : decode cX10_tellStreet 76 = .ok (.iload_n 2, 1) := dk_28 (dk_at dksX10_tellStreet_3 5 rfl rfl)
theorem dX10_tellStreet_77 : decode cX10_tellStreet 77 = .ok (.invokevirtual 308, 3) := dk_182 1 52 (dk_at dksX10_tellStreet_3 6 rfl rfl)
theorem dX10_tellStreet_80 : decode cX10_tellStreet 80 = .ok (.aload_n 0, 1) := dk_42 (dk_at dksX10_tellStreet_3 9 rfl rfl)
theorem dX10_tellStreet_81 : decode cX10_tellStreet 81 = .ok (.getfield 58, 3) := dk_180 0 58 (dk_at dksX10_tellStreet_3 10 rfl rfl)
theorem dX10_tellStreet_84 : decode cX10_tellStreet 84 = .ok (.iload_n 1, 1) := dk_27 (dk_at dksX10_tellStreet_3 13 rfl rfl)
theorem dX10_tellStreet_85 : decode cX10_tellStreet 85 = .ok (.aload_n 0, 1) := dk_42 (dk_at dksX10_tellStreet_3 14 rfl rfl)
theorem dX10_tellStreet_86 : decode cX10_tellStreet 86 = .ok (.iconst 1, 1) := dk_4 (dk_at dksX10_tellStreet_3 15 rfl rfl)
theorem dX10_tellStreet_87 : decode cX10_tellStreet 87 = .ok (.bipush 99, 2) := dk_16 99 (dk_at dksX10_tellStreet_3 16 rfl rfl)
theorem dX10_tellStreet_89 : decode cX10_tellStreet 89 = .ok (.invokevirtual 275, 3) := dk_182 1 19 (dk_at dksX10_tellStreet_3 18 rfl rfl)
theorem dX10_tellStreet_92 : decode cX10_tellStreet 92 = .ok (.iastore, 1) := dk_79 (dk_at dksX10_tellStreet_3 21 rfl rfl)
theorem dX10_tellStreet_93 : decode cX10_tellStreet 93 = .ok (.aload_n 0, 1) := dk_42 (dk_at dksX10_tellStreet_3 22 rfl rfl)
theorem dX10_tellStreet_94 : decode cX10_tellStreet 94 = .ok (.iconst 4, 1) := dk_7 (dk_at dksX10_tellStreet_3 23 rfl rfl)
theorem dX10_tellStreet_95 : decode cX10_tellStreet 95 = .ok (.invokevirtual 279, 3) := dk_182 1 23 (dk_at dksX10_tellStreet_4 0 rfl rfl)
theorem dX10_tellStreet_98 : decode cX10_tellStreet 98 = .ok (.aload_n 0, 1) := dk_42 (dk_at dksX10_tellStreet_4 3 rfl rfl)
theorem dX10_tellStreet_99 : decode cX10_tellStreet 99 = .ok (.getfield 221, 3) := dk_180 0 221 (dk_at dksX10_tellStreet_4 4 rfl rfl)
theorem dX10_tellStreet_102 : decode cX10_tellStreet 102 = .ok (.ifCond .ne 16, 3) := dk_154 0 16 (dk_at dksX10_tellStreet_4 7 rfl rfl)
theorem dX10_tellStreet_105 : decode cX10_tellStreet 105 = .ok (.aload_n 0, 1) := dk_42 (dk_at dksX10_tellStreet_4 10 rfl rfl)
theorem dX10_tellStreet_106 : decode cX10_tellStreet 106 = .ok (.getfield 49, 3) := dk_180 0 49 (dk_at dksX10_tellStreet_4 11 rfl rfl)
theorem dX10_tellStreet_109 : decode cX10_tellStreet 109 = .ok (.aload_n 0, 1) := dk_42 (dk_at dksX10_tellStreet_4 14 rfl rfl)
theorem dX10_tellStreet_110 : decode cX10_tellStreet 110 = .ok (.getfield 254, 3) := dk_180 0 254 (dk_at dksX10_tellStreet_4 15 rfl rfl)
theorem dX10_tellStreet_113 : decode cX10_tellStreet 113 = .ok (.dup2, 1) := dk_92 (dk_at dksX10_tellStreet_4 18 rfl rfl)
theorem dX10_tellStreet_114 : decode cX10_tellStreet 114 = .ok (.iaload, 1) := dk_46 (dk_at dksX10_tellStreet_4 19 rfl rfl)
theorem dX10_tellStreet_115 : decode cX10_tellStreet 115 = .ok (.iconst 1, 1) := dk_4 (dk_at dksX10_tellStreet_4 20 rfl rfl)
theorem dX10_tellStreet_116 : decode cX10_tellStreet 116 = .ok (.iadd, 1) := dk_96 (dk_at dksX10_tellStreet_4 21 rfl rfl)
theorem dX10_tellStreet_117 : decode cX10_tellStreet 117 = .ok (.iastore, 1) := dk_79 (dk_at dksX10_tellStreet_4 22 rfl rfl)
theorem dX10_tellStreet_118 : decode cX10_tellStreet 118 = .ok (.return_, 1) := dk_177 (dk_at dksX10_tellStreet_4 23 rfl rfl)
abbrev cX10_known : ByteArray := prog_22_method_27_code
def yX10_known : MethodName := ⟨RX10, "known", "()I"⟩
def dkwX10_known_3 : List UInt8 := [7, 27, 182, 1, 52, 2, 172]
abbrev dktX10_known_3 : List UInt8 := dkwX10_known_3 ++ []
def dkwX10_known_2 : List UInt8 := [180, 0, 43, 28, 46, 16, 10, 162, 0, 10, 42, 180, 0, 43, 28, 46, 172, 132, 2, 1, 167, 255, 211, 42]
abbrev dktX10_known_2 : List UInt8 := dkwX10_known_2 ++ dktX10_known_3
def dkwX10_known_1 : List UInt8 := [180, 1, 1, 162, 0, 43, 42, 180, 0, 40, 28, 47, 42, 180, 0, 30, 27, 47, 148, 154, 0, 21, 42]
abbrev dktX10_known_1 : List UInt8 := dkwX10_known_1 ++ dktX10_known_2
def dkwX10_known_0 : List UInt8 := [42, 180, 0, 224, 60, 42, 4, 182, 1, 23, 42, 180, 0, 221, 158, 0, 5, 2, 172, 3, 61, 28, 42]
abbrev dktX10_known_0 : List UInt8 := dkwX10_known_0 ++ dktX10_known_1
theorem dksX10_known_0 : cX10_known.data.toList.drop 0 = dktX10_known_0 := by decide +kernel
theorem dksX10_known_1 : cX10_known.data.toList.drop 23 = dktX10_known_1 := dk_seg dksX10_known_0 23 rfl rfl
theorem dksX10_known_2 : cX10_known.data.toList.drop 46 = dktX10_known_2 := dk_seg dksX10_known_1 23 rfl rfl
theorem dksX10_known_3 : cX10_known.data.toList.drop 70 = dktX10_known_3 := dk_seg dksX10_known_2 24 rfl rfl
theorem dX10_known_0 : decode cX10_known 0 = .ok (.aload_n 0, 1) := dk_42 (dk_at dksX10_known_0 0 rfl rfl)
theorem dX10_known_1 : decode cX10_known 1 = .ok (.getfield 224, 3) := dk_180 0 224 (dk_at dksX10_known_0 1 rfl rfl)
theorem dX10_known_4 : decode cX10_known 4 = .ok (.istore_n 1, 1) := dk_60 (dk_at dksX10_known_0 4 rfl rfl)
theorem dX10_known_5 : decode cX10_known 5 = .ok (.aload_n 0, 1) := dk_42 (dk_at dksX10_known_0 5 rfl rfl)
theorem dX10_known_6 : decode cX10_known 6 = .ok (.iconst 1, 1) := dk_4 (dk_at dksX10_known_0 6 rfl rfl)
theorem dX10_known_7 : decode cX10_known 7 = .ok (.invokevirtual 279, 3) := dk_182 1 23 (dk_at dksX10_known_0 7 rfl rfl)
theorem dX10_known_10 : decode cX10_known 10 = .ok (.aload_n 0, 1) := dk_42 (dk_at dksX10_known_0 10 rfl rfl)
theorem dX10_known_11 : decode cX10_known 11 = .ok (.getfield 221, 3) := dk_180 0 221 (dk_at dksX10_known_0 11 rfl rfl)
theorem dX10_known_14 : decode cX10_known 14 = .ok (.ifCond .le 5, 3) := dk_158 0 5 (dk_at dksX10_known_0 14 rfl rfl)
theorem dX10_known_17 : decode cX10_known 17 = .ok (.iconst (-1), 1) := dk_2 (dk_at dksX10_known_0 17 rfl rfl)
theorem dX10_known_18 : decode cX10_known 18 = .ok (.ireturn, 1) := dk_172 (dk_at dksX10_known_0 18 rfl rfl)
theorem dX10_known_19 : decode cX10_known 19 = .ok (.iconst 0, 1) := dk_3 (dk_at dksX10_known_0 19 rfl rfl)
theorem dX10_known_20 : decode cX10_known 20 = .ok (.istore_n 2, 1) := dk_61 (dk_at dksX10_known_0 20 rfl rfl)
theorem dX10_known_21 : decode cX10_known 21 = .ok (.iload_n 2, 1) := dk_28 (dk_at dksX10_known_0 21 rfl rfl)
theorem dX10_known_22 : decode cX10_known 22 = .ok (.aload_n 0, 1) := dk_42 (dk_at dksX10_known_0 22 rfl rfl)
theorem dX10_known_23 : decode cX10_known 23 = .ok (.getfield 257, 3) := dk_180 1 1 (dk_at dksX10_known_1 0 rfl rfl)
theorem dX10_known_26 : decode cX10_known 26 = .ok (.if_icmp .ge 43, 3) := dk_162 0 43 (dk_at dksX10_known_1 3 rfl rfl)
theorem dX10_known_29 : decode cX10_known 29 = .ok (.aload_n 0, 1) := dk_42 (dk_at dksX10_known_1 6 rfl rfl)
theorem dX10_known_30 : decode cX10_known 30 = .ok (.getfield 40, 3) := dk_180 0 40 (dk_at dksX10_known_1 7 rfl rfl)
theorem dX10_known_33 : decode cX10_known 33 = .ok (.iload_n 2, 1) := dk_28 (dk_at dksX10_known_1 10 rfl rfl)
theorem dX10_known_34 : decode cX10_known 34 = .ok (.laload, 1) := dk_47 (dk_at dksX10_known_1 11 rfl rfl)
theorem dX10_known_35 : decode cX10_known 35 = .ok (.aload_n 0, 1) := dk_42 (dk_at dksX10_known_1 12 rfl rfl)
theorem dX10_known_36 : decode cX10_known 36 = .ok (.getfield 30, 3) := dk_180 0 30 (dk_at dksX10_known_1 13 rfl rfl)
theorem dX10_known_39 : decode cX10_known 39 = .ok (.iload_n 1, 1) := dk_27 (dk_at dksX10_known_1 16 rfl rfl)
theorem dX10_known_40 : decode cX10_known 40 = .ok (.laload, 1) := dk_47 (dk_at dksX10_known_1 17 rfl rfl)
theorem dX10_known_41 : decode cX10_known 41 = .ok (.lcmp, 1) := dk_148 (dk_at dksX10_known_1 18 rfl rfl)
theorem dX10_known_42 : decode cX10_known 42 = .ok (.ifCond .ne 21, 3) := dk_154 0 21 (dk_at dksX10_known_1 19 rfl rfl)
theorem dX10_known_45 : decode cX10_known 45 = .ok (.aload_n 0, 1) := dk_42 (dk_at dksX10_known_1 22 rfl rfl)
theorem dX10_known_46 : decode cX10_known 46 = .ok (.getfield 43, 3) := dk_180 0 43 (dk_at dksX10_known_2 0 rfl rfl)
theorem dX10_known_49 : decode cX10_known 49 = .ok (.iload_n 2, 1) := dk_28 (dk_at dksX10_known_2 3 rfl rfl)
theorem dX10_known_50 : decode cX10_known 50 = .ok (.iaload, 1) := dk_46 (dk_at dksX10_known_2 4 rfl rfl)
theorem dX10_known_51 : decode cX10_known 51 = .ok (.bipush 10, 2) := dk_16 10 (dk_at dksX10_known_2 5 rfl rfl)
theorem dX10_known_53 : decode cX10_known 53 = .ok (.if_icmp .ge 10, 3) := dk_162 0 10 (dk_at dksX10_known_2 7 rfl rfl)
theorem dX10_known_56 : decode cX10_known 56 = .ok (.aload_n 0, 1) := dk_42 (dk_at dksX10_known_2 10 rfl rfl)
theorem dX10_known_57 : decode cX10_known 57 = .ok (.getfield 43, 3) := dk_180 0 43 (dk_at dksX10_known_2 11 rfl rfl)
theorem dX10_known_60 : decode cX10_known 60 = .ok (.iload_n 2, 1) := dk_28 (dk_at dksX10_known_2 14 rfl rfl)
theorem dX10_known_61 : decode cX10_known 61 = .ok (.iaload, 1) := dk_46 (dk_at dksX10_known_2 15 rfl rfl)
theorem dX10_known_62 : decode cX10_known 62 = .ok (.ireturn, 1) := dk_172 (dk_at dksX10_known_2 16 rfl rfl)
theorem dX10_known_63 : decode cX10_known 63 = .ok (.iinc 2 1, 3) := dk_132 2 1 (dk_at dksX10_known_2 17 rfl rfl)
theorem dX10_known_66 : decode cX10_known 66 = .ok (.goto (-45), 3) := dk_167 255 211 (dk_at dksX10_known_2 20 rfl rfl)
theorem dX10_known_69 : decode cX10_known 69 = .ok (.aload_n 0, 1) := dk_42 (dk_at dksX10_known_2 23 rfl rfl)
theorem dX10_known_70 : decode cX10_known 70 = .ok (.iconst 4, 1) := dk_7 (dk_at dksX10_known_3 0 rfl rfl)
theorem dX10_known_71 : decode cX10_known 71 = .ok (.iload_n 1, 1) := dk_27 (dk_at dksX10_known_3 1 rfl rfl)
theorem dX10_known_72 : decode cX10_known 72 = .ok (.invokevirtual 308, 3) := dk_182 1 52 (dk_at dksX10_known_3 2 rfl rfl)
theorem dX10_known_75 : decode cX10_known 75 = .ok (.iconst (-1), 1) := dk_2 (dk_at dksX10_known_3 5 rfl rfl)
theorem dX10_known_76 : decode cX10_known 76 = .ok (.ireturn, 1) := dk_172 (dk_at dksX10_known_3 6 rfl rfl)
abbrev cX10_bounded : ByteArray := prog_22_method_28_code
def yX10_bounded : MethodName := ⟨RX10, "bounded", "(II)I"⟩
def dkwX10_bounded_2 : List UInt8 := [180, 0, 224, 182, 1, 52, 42, 182, 0, 242, 29, 172]
abbrev dktX10_bounded_2 : List UInt8 := dkwX10_bounded_2 ++ []
def dkwX10_bounded_1 : List UInt8 := [180, 0, 27, 42, 180, 0, 224, 46, 62, 29, 27, 161, 0, 8, 29, 28, 164, 0, 12, 42, 8, 42]
abbrev dktX10_bounded_1 : List UInt8 := dkwX10_bounded_1 ++ dktX10_bounded_2
def dkwX10_bounded_0 : List UInt8 := [42, 180, 0, 221, 157, 0, 11, 42, 5, 182, 0, 239, 154, 0, 10, 42, 4, 182, 0, 236, 27, 172, 42]
abbrev dktX10_bounded_0 : List UInt8 := dkwX10_bounded_0 ++ dktX10_bounded_1
theorem dksX10_bounded_0 : cX10_bounded.data.toList.drop 0 = dktX10_bounded_0 := by decide +kernel
theorem dksX10_bounded_1 : cX10_bounded.data.toList.drop 23 = dktX10_bounded_1 := dk_seg dksX10_bounded_0 23 rfl rfl
theorem dksX10_bounded_2 : cX10_bounded.data.toList.drop 45 = dktX10_bounded_2 := dk_seg dksX10_bounded_1 22 rfl rfl
theorem dX10_bounded_0 : decode cX10_bounded 0 = .ok (.aload_n 0, 1) := dk_42 (dk_at dksX10_bounded_0 0 rfl rfl)
theorem dX10_bounded_1 : decode cX10_bounded 1 = .ok (.getfield 221, 3) := dk_180 0 221 (dk_at dksX10_bounded_0 1 rfl rfl)
theorem dX10_bounded_4 : decode cX10_bounded 4 = .ok (.ifCond .gt 11, 3) := dk_157 0 11 (dk_at dksX10_bounded_0 4 rfl rfl)
theorem dX10_bounded_7 : decode cX10_bounded 7 = .ok (.aload_n 0, 1) := dk_42 (dk_at dksX10_bounded_0 7 rfl rfl)
theorem dX10_bounded_8 : decode cX10_bounded 8 = .ok (.iconst 2, 1) := dk_5 (dk_at dksX10_bounded_0 8 rfl rfl)
theorem dX10_bounded_9 : decode cX10_bounded 9 = .ok (.invokevirtual 239, 3) := dk_182 0 239 (dk_at dksX10_bounded_0 9 rfl rfl)
theorem dX10_bounded_12 : decode cX10_bounded 12 = .ok (.ifCond .ne 10, 3) := dk_154 0 10 (dk_at dksX10_bounded_0 12 rfl rfl)
theorem dX10_bounded_15 : decode cX10_bounded 15 = .ok (.aload_n 0, 1) := dk_42 (dk_at dksX10_bounded_0 15 rfl rfl)
theorem dX10_bounded_16 : decode cX10_bounded 16 = .ok (.iconst 1, 1) := dk_4 (dk_at dksX10_bounded_0 16 rfl rfl)
theorem dX10_bounded_17 : decode cX10_bounded 17 = .ok (.invokevirtual 236, 3) := dk_182 0 236 (dk_at dksX10_bounded_0 17 rfl rfl)
theorem dX10_bounded_20 : decode cX10_bounded 20 = .ok (.iload_n 1, 1) := dk_27 (dk_at dksX10_bounded_0 20 rfl rfl)
theorem dX10_bounded_21 : decode cX10_bounded 21 = .ok (.ireturn, 1) := dk_172 (dk_at dksX10_bounded_0 21 rfl rfl)
theorem dX10_bounded_22 : decode cX10_bounded 22 = .ok (.aload_n 0, 1) := dk_42 (dk_at dksX10_bounded_0 22 rfl rfl)
theorem dX10_bounded_23 : decode cX10_bounded 23 = .ok (.getfield 27, 3) := dk_180 0 27 (dk_at dksX10_bounded_1 0 rfl rfl)
theorem dX10_bounded_26 : decode cX10_bounded 26 = .ok (.aload_n 0, 1) := dk_42 (dk_at dksX10_bounded_1 3 rfl rfl)
theorem dX10_bounded_27 : decode cX10_bounded 27 = .ok (.getfield 224, 3) := dk_180 0 224 (dk_at dksX10_bounded_1 4 rfl rfl)
theorem dX10_bounded_30 : decode cX10_bounded 30 = .ok (.iaload, 1) := dk_46 (dk_at dksX10_bounded_1 7 rfl rfl)
theorem dX10_bounded_31 : decode cX10_bounded 31 = .ok (.istore_n 3, 1) := dk_62 (dk_at dksX10_bounded_1 8 rfl rfl)
theorem dX10_bounded_32 : decode cX10_bounded 32 = .ok (.iload_n 3, 1) := dk_29 (dk_at dksX10_bounded_1 9 rfl rfl)
theorem dX10_bounded_33 : decode cX10_bounded 33 = .ok (.iload_n 1, 1) := dk_27 (dk_at dksX10_bounded_1 10 rfl rfl)
theorem dX10_bounded_34 : decode cX10_bounded 34 = .ok (.if_icmp .lt 8, 3) := dk_161 0 8 (dk_at dksX10_bounded_1 11 rfl rfl)
theorem dX10_bounded_37 : decode cX10_bounded 37 = .ok (.iload_n 3, 1) := dk_29 (dk_at dksX10_bounded_1 14 rfl rfl)
theorem dX10_bounded_38 : decode cX10_bounded 38 = .ok (.iload_n 2, 1) := dk_28 (dk_at dksX10_bounded_1 15 rfl rfl)
theorem dX10_bounded_39 : decode cX10_bounded 39 = .ok (.if_icmp .le 12, 3) := dk_164 0 12 (dk_at dksX10_bounded_1 16 rfl rfl)
theorem dX10_bounded_42 : decode cX10_bounded 42 = .ok (.aload_n 0, 1) := dk_42 (dk_at dksX10_bounded_1 19 rfl rfl)
theorem dX10_bounded_43 : decode cX10_bounded 43 = .ok (.iconst 5, 1) := dk_8 (dk_at dksX10_bounded_1 20 rfl rfl)
theorem dX10_bounded_44 : decode cX10_bounded 44 = .ok (.aload_n 0, 1) := dk_42 (dk_at dksX10_bounded_1 21 rfl rfl)
theorem dX10_bounded_45 : decode cX10_bounded 45 = .ok (.getfield 224, 3) := dk_180 0 224 (dk_at dksX10_bounded_2 0 rfl rfl)
theorem dX10_bounded_48 : decode cX10_bounded 48 = .ok (.invokevirtual 308, 3) := dk_182 1 52 (dk_at dksX10_bounded_2 3 rfl rfl)
theorem dX10_bounded_51 : decode cX10_bounded 51 = .ok (.aload_n 0, 1) := dk_42 (dk_at dksX10_bounded_2 6 rfl rfl)
theorem dX10_bounded_52 : decode cX10_bounded 52 = .ok (.invokevirtual 242, 3) := dk_182 0 242 (dk_at dksX10_bounded_2 7 rfl rfl)
theorem dX10_bounded_55 : decode cX10_bounded 55 = .ok (.iload_n 3, 1) := dk_29 (dk_at dksX10_bounded_2 10 rfl rfl)
theorem dX10_bounded_56 : decode cX10_bounded 56 = .ok (.ireturn, 1) := dk_172 (dk_at dksX10_bounded_2 11 rfl rfl)
abbrev cX10_tellYoung : ByteArray := prog_22_method_30_code
def yX10_tellYoung : MethodName := ⟨RX10, "tellYoung", "()V"⟩
def dkwX10_tellYoung_3 : List UInt8 := [180, 0, 221, 154, 0, 16, 42, 180, 0, 61, 42, 180, 0, 254, 92, 46, 4, 96, 79, 177]
abbrev dktX10_tellYoung_3 : List UInt8 := dkwX10_tellYoung_3 ++ []
def dkwX10_tellYoung_2 : List UInt8 := [182, 1, 19, 79, 42, 180, 0, 70, 27, 42, 182, 1, 43, 79, 42, 28, 16, 10, 182, 1, 34, 42]
abbrev dktX10_tellYoung_2 : List UInt8 := dkwX10_tellYoung_2 ++ dktX10_tellYoung_3
def dkwX10_tellYoung_1 : List UInt8 := [180, 0, 64, 27, 42, 16, 10, 16, 40, 182, 1, 19, 79, 42, 180, 0, 67, 27, 42, 3, 16, 9]
abbrev dktX10_tellYoung_1 : List UInt8 := dkwX10_tellYoung_1 ++ dktX10_tellYoung_2
def dkwX10_tellYoung_0 : List UInt8 := [16, 6, 42, 180, 0, 254, 104, 42, 180, 0, 61, 42, 180, 0, 254, 46, 96, 60, 42, 182, 1, 30, 61, 42]
abbrev dktX10_tellYoung_0 : List UInt8 := dkwX10_tellYoung_0 ++ dktX10_tellYoung_1
theorem dksX10_tellYoung_0 : cX10_tellYoung.data.toList.drop 0 = dktX10_tellYoung_0 := by decide +kernel
theorem dksX10_tellYoung_1 : cX10_tellYoung.data.toList.drop 24 = dktX10_tellYoung_1 := dk_seg dksX10_tellYoung_0 24 rfl rfl
theorem dksX10_tellYoung_2 : cX10_tellYoung.data.toList.drop 46 = dktX10_tellYoung_2 := dk_seg dksX10_tellYoung_1 22 rfl rfl
theorem dksX10_tellYoung_3 : cX10_tellYoung.data.toList.drop 68 = dktX10_tellYoung_3 := dk_seg dksX10_tellYoung_2 22 rfl rfl
theorem dX10_tellYoung_0 : decode cX10_tellYoung 0 = .ok (.bipush 6, 2) := dk_16 6 (dk_at dksX10_tellYoung_0 0 rfl rfl)
theorem dX10_tellYoung_2 : decode cX10_tellYoung 2 = .ok (.aload_n 0, 1) := dk_42 (dk_at dksX10_tellYoung_0 2 rfl rfl)
theorem dX10_tellYoung_3 : decode cX10_tellYoung 3 = .ok (.getfield 254, 3) := dk_180 0 254 (dk_at dksX10_tellYoung_0 3 rfl rfl)
theorem dX10_tellYoung_6 : decode cX10_tellYoung 6 = .ok (.imul, 1) := dk_104 (dk_at dksX10_tellYoung_0 6 rfl rfl)
theorem dX10_tellYoung_7 : decode cX10_tellYoung 7 = .ok (.aload_n 0, 1) := dk_42 (dk_at dksX10_tellYoung_0 7 rfl rfl)
theorem dX10_tellYoung_8 : decode cX10_tellYoung 8 = .ok (.getfield 61, 3) := dk_180 0 61 (dk_at dksX10_tellYoung_0 8 rfl rfl)
theorem dX10_tellYoung_11 : decode cX10_tellYoung 11 = .ok (.aload_n 0, 1) := dk_42 (dk_at dksX10_tellYoung_0 11 rfl rfl)
theorem dX10_tellYoung_12 : decode cX10_tellYoung 12 = .ok (.getfield 254, 3) := dk_180 0 254 (dk_at dksX10_tellYoung_0 12 rfl rfl)
theorem dX10_tellYoung_15 : decode cX10_tellYoung 15 = .ok (.iaload, 1) := dk_46 (dk_at dksX10_tellYoung_0 15 rfl rfl)
theorem dX10_tellYoung_16 : decode cX10_tellYoung 16 = .ok (.iadd, 1) := dk_96 (dk_at dksX10_tellYoung_0 16 rfl rfl)
theorem dX10_tellYoung_17 : decode cX10_tellYoung 17 = .ok (.istore_n 1, 1) := dk_60 (dk_at dksX10_tellYoung_0 17 rfl rfl)
theorem dX10_tellYoung_18 : decode cX10_tellYoung 18 = .ok (.aload_n 0, 1) := dk_42 (dk_at dksX10_tellYoung_0 18 rfl rfl)
theorem dX10_tellYoung_19 : decode cX10_tellYoung 19 = .ok (.invokevirtual 286, 3) := dk_182 1 30 (dk_at dksX10_tellYoung_0 19 rfl rfl)
theorem dX10_tellYoung_22 : decode cX10_tellYoung 22 = .ok (.istore_n 2, 1) := dk_61 (dk_at dksX10_tellYoung_0 22 rfl rfl)
theorem dX10_tellYoung_23 : decode cX10_tellYoung 23 = .ok (.aload_n 0, 1) := dk_42 (dk_at dksX10_tellYoung_0 23 rfl rfl)
theorem dX10_tellYoung_24 : decode cX10_tellYoung 24 = .ok (.getfield 64, 3) := dk_180 0 64 (dk_at dksX10_tellYoung_1 0 rfl rfl)
theorem dX10_tellYoung_27 : decode cX10_tellYoung 27 = .ok (.iload_n 1, 1) := dk_27 (dk_at dksX10_tellYoung_1 3 rfl rfl)
theorem dX10_tellYoung_28 : decode cX10_tellYoung 28 = .ok (.aload_n 0, 1) := dk_42 (dk_at dksX10_tellYoung_1 4 rfl rfl)
theorem dX10_tellYoung_29 : decode cX10_tellYoung 29 = .ok (.bipush 10, 2) := dk_16 10 (dk_at dksX10_tellYoung_1 5 rfl rfl)
theorem dX10_tellYoung_31 : decode cX10_tellYoung 31 = .ok (.bipush 40, 2) := dk_16 40 (dk_at dksX10_tellYoung_1 7 rfl rfl)
theorem dX10_tellYoung_33 : decode cX10_tellYoung 33 = .ok (.invokevirtual 275, 3) := dk_182 1 19 (dk_at dksX10_tellYoung_1 9 rfl rfl)
theorem dX10_tellYoung_36 : decode cX10_tellYoung 36 = .ok (.iastore, 1) := dk_79 (dk_at dksX10_tellYoung_1 12 rfl rfl)
theorem dX10_tellYoung_37 : decode cX10_tellYoung 37 = .ok (.aload_n 0, 1) := dk_42 (dk_at dksX10_tellYoung_1 13 rfl rfl)
theorem dX10_tellYoung_38 : decode cX10_tellYoung 38 = .ok (.getfield 67, 3) := dk_180 0 67 (dk_at dksX10_tellYoung_1 14 rfl rfl)
theorem dX10_tellYoung_41 : decode cX10_tellYoung 41 = .ok (.iload_n 1, 1) := dk_27 (dk_at dksX10_tellYoung_1 17 rfl rfl)
theorem dX10_tellYoung_42 : decode cX10_tellYoung 42 = .ok (.aload_n 0, 1) := dk_42 (dk_at dksX10_tellYoung_1 18 rfl rfl)
theorem dX10_tellYoung_43 : decode cX10_tellYoung 43 = .ok (.iconst 0, 1) := dk_3 (dk_at dksX10_tellYoung_1 19 rfl rfl)
theorem dX10_tellYoung_44 : decode cX10_tellYoung 44 = .ok (.bipush 9, 2) := dk_16 9 (dk_at dksX10_tellYoung_1 20 rfl rfl)
theorem dX10_tellYoung_46 : decode cX10_tellYoung 46 = .ok (.invokevirtual 275, 3) := dk_182 1 19 (dk_at dksX10_tellYoung_2 0 rfl rfl)
theorem dX10_tellYoung_49 : decode cX10_tellYoung 49 = .ok (.iastore, 1) := dk_79 (dk_at dksX10_tellYoung_2 3 rfl rfl)
theorem dX10_tellYoung_50 : decode cX10_tellYoung 50 = .ok (.aload_n 0, 1) := dk_42 (dk_at dksX10_tellYoung_2 4 rfl rfl)
theorem dX10_tellYoung_51 : decode cX10_tellYoung 51 = .ok (.getfield 70, 3) := dk_180 0 70 (dk_at dksX10_tellYoung_2 5 rfl rfl)
theorem dX10_tellYoung_54 : decode cX10_tellYoung 54 = .ok (.iload_n 1, 1) := dk_27 (dk_at dksX10_tellYoung_2 8 rfl rfl)
theorem dX10_tellYoung_55 : decode cX10_tellYoung 55 = .ok (.aload_n 0, 1) := dk_42 (dk_at dksX10_tellYoung_2 9 rfl rfl)
theorem dX10_tellYoung_56 : decode cX10_tellYoung 56 = .ok (.invokevirtual 299, 3) := dk_182 1 43 (dk_at dksX10_tellYoung_2 10 rfl rfl)
theorem dX10_tellYoung_59 : decode cX10_tellYoung 59 = .ok (.iastore, 1) := dk_79 (dk_at dksX10_tellYoung_2 13 rfl rfl)
theorem dX10_tellYoung_60 : decode cX10_tellYoung 60 = .ok (.aload_n 0, 1) := dk_42 (dk_at dksX10_tellYoung_2 14 rfl rfl)
theorem dX10_tellYoung_61 : decode cX10_tellYoung 61 = .ok (.iload_n 2, 1) := dk_28 (dk_at dksX10_tellYoung_2 15 rfl rfl)
theorem dX10_tellYoung_62 : decode cX10_tellYoung 62 = .ok (.bipush 10, 2) := dk_16 10 (dk_at dksX10_tellYoung_2 16 rfl rfl)
theorem dX10_tellYoung_64 : decode cX10_tellYoung 64 = .ok (.invokevirtual 290, 3) := dk_182 1 34 (dk_at dksX10_tellYoung_2 18 rfl rfl)
theorem dX10_tellYoung_67 : decode cX10_tellYoung 67 = .ok (.aload_n 0, 1) := dk_42 (dk_at dksX10_tellYoung_2 21 rfl rfl)
theorem dX10_tellYoung_68 : decode cX10_tellYoung 68 = .ok (.getfield 221, 3) := dk_180 0 221 (dk_at dksX10_tellYoung_3 0 rfl rfl)
theorem dX10_tellYoung_71 : decode cX10_tellYoung 71 = .ok (.ifCond .ne 16, 3) := dk_154 0 16 (dk_at dksX10_tellYoung_3 3 rfl rfl)
theorem dX10_tellYoung_74 : decode cX10_tellYoung 74 = .ok (.aload_n 0, 1) := dk_42 (dk_at dksX10_tellYoung_3 6 rfl rfl)
theorem dX10_tellYoung_75 : decode cX10_tellYoung 75 = .ok (.getfield 61, 3) := dk_180 0 61 (dk_at dksX10_tellYoung_3 7 rfl rfl)
theorem dX10_tellYoung_78 : decode cX10_tellYoung 78 = .ok (.aload_n 0, 1) := dk_42 (dk_at dksX10_tellYoung_3 10 rfl rfl)
theorem dX10_tellYoung_79 : decode cX10_tellYoung 79 = .ok (.getfield 254, 3) := dk_180 0 254 (dk_at dksX10_tellYoung_3 11 rfl rfl)
theorem dX10_tellYoung_82 : decode cX10_tellYoung 82 = .ok (.dup2, 1) := dk_92 (dk_at dksX10_tellYoung_3 14 rfl rfl)
theorem dX10_tellYoung_83 : decode cX10_tellYoung 83 = .ok (.iaload, 1) := dk_46 (dk_at dksX10_tellYoung_3 15 rfl rfl)
theorem dX10_tellYoung_84 : decode cX10_tellYoung 84 = .ok (.iconst 1, 1) := dk_4 (dk_at dksX10_tellYoung_3 16 rfl rfl)
theorem dX10_tellYoung_85 : decode cX10_tellYoung 85 = .ok (.iadd, 1) := dk_96 (dk_at dksX10_tellYoung_3 17 rfl rfl)
theorem dX10_tellYoung_86 : decode cX10_tellYoung 86 = .ok (.iastore, 1) := dk_79 (dk_at dksX10_tellYoung_3 18 rfl rfl)
theorem dX10_tellYoung_87 : decode cX10_tellYoung 87 = .ok (.return_, 1) := dk_177 (dk_at dksX10_tellYoung_3 19 rfl rfl)
abbrev cX10_toldInt : ByteArray := prog_22_method_23_code
def yX10_toldInt : MethodName := ⟨RX10, "toldInt", "(I)I"⟩
def dkwX10_toldInt_0 : List UInt8 := [42, 182, 0, 242, 42, 3, 27, 182, 1, 19, 61, 42, 7, 182, 1, 23, 28, 172]
abbrev dktX10_toldInt_0 : List UInt8 := dkwX10_toldInt_0 ++ []
theorem dksX10_toldInt_0 : cX10_toldInt.data.toList.drop 0 = dktX10_toldInt_0 := by decide +kernel
theorem dX10_toldInt_0 : decode cX10_toldInt 0 = .ok (.aload_n 0, 1) := dk_42 (dk_at dksX10_toldInt_0 0 rfl rfl)
theorem dX10_toldInt_1 : decode cX10_toldInt 1 = .ok (.invokevirtual 242, 3) := dk_182 0 242 (dk_at dksX10_toldInt_0 1 rfl rfl)
theorem dX10_toldInt_4 : decode cX10_toldInt 4 = .ok (.aload_n 0, 1) := dk_42 (dk_at dksX10_toldInt_0 4 rfl rfl)
theorem dX10_toldInt_5 : decode cX10_toldInt 5 = .ok (.iconst 0, 1) := dk_3 (dk_at dksX10_toldInt_0 5 rfl rfl)
theorem dX10_toldInt_6 : decode cX10_toldInt 6 = .ok (.iload_n 1, 1) := dk_27 (dk_at dksX10_toldInt_0 6 rfl rfl)
theorem dX10_toldInt_7 : decode cX10_toldInt 7 = .ok (.invokevirtual 275, 3) := dk_182 1 19 (dk_at dksX10_toldInt_0 7 rfl rfl)
theorem dX10_toldInt_10 : decode cX10_toldInt 10 = .ok (.istore_n 2, 1) := dk_61 (dk_at dksX10_toldInt_0 10 rfl rfl)
theorem dX10_toldInt_11 : decode cX10_toldInt 11 = .ok (.aload_n 0, 1) := dk_42 (dk_at dksX10_toldInt_0 11 rfl rfl)
theorem dX10_toldInt_12 : decode cX10_toldInt 12 = .ok (.iconst 4, 1) := dk_7 (dk_at dksX10_toldInt_0 12 rfl rfl)
theorem dX10_toldInt_13 : decode cX10_toldInt 13 = .ok (.invokevirtual 279, 3) := dk_182 1 23 (dk_at dksX10_toldInt_0 13 rfl rfl)
theorem dX10_toldInt_16 : decode cX10_toldInt 16 = .ok (.iload_n 2, 1) := dk_28 (dk_at dksX10_toldInt_0 16 rfl rfl)
theorem dX10_toldInt_17 : decode cX10_toldInt 17 = .ok (.ireturn, 1) := dk_172 (dk_at dksX10_toldInt_0 17 rfl rfl)
abbrev cX10_tellLaw : ByteArray := prog_22_method_31_code
def yX10_tellLaw : MethodName := ⟨RX10, "tellLaw", "(I)V"⟩
def dkwX10_tellLaw_8 : List UInt8 := [180, 1, 4, 79, 177]
abbrev dktX10_tellLaw_8 : List UInt8 := dkwX10_tellLaw_8 ++ []
def dkwX10_tellLaw_7 : List UInt8 := [42, 180, 0, 254, 104, 27, 96, 28, 79, 42, 180, 0, 91, 7, 42, 180, 0, 254, 104, 27, 96, 42]
abbrev dktX10_tellLaw_7 : List UInt8 := dkwX10_tellLaw_7 ++ dktX10_tellLaw_8
def dkwX10_tellLaw_6 : List UInt8 := [3, 84, 42, 182, 1, 58, 42, 7, 182, 1, 23, 42, 180, 0, 221, 158, 0, 4, 177, 42, 180, 0, 88, 7]
abbrev dktX10_tellLaw_6 : List UInt8 := dkwX10_tellLaw_6 ++ dktX10_tellLaw_7
def dkwX10_tellLaw_5 : List UInt8 := [182, 1, 23, 42, 182, 1, 58, 42, 16, 33, 182, 1, 23, 167, 255, 142, 42, 180, 0, 94, 42, 180, 1, 4]
abbrev dktX10_tellLaw_5 : List UInt8 := dkwX10_tellLaw_5 ++ dktX10_tellLaw_6
def dkwX10_tellLaw_4 : List UInt8 := [180, 1, 4, 42, 180, 1, 7, 79, 42, 180, 0, 221, 154, 0, 7, 42, 182, 1, 55, 42, 16, 32]
abbrev dktX10_tellLaw_4 : List UInt8 := dkwX10_tellLaw_4 ++ dktX10_tellLaw_5
def dkwX10_tellLaw_3 : List UInt8 := [180, 1, 4, 42, 180, 1, 7, 79, 42, 182, 1, 55, 42, 16, 13, 182, 1, 23, 42, 180, 0, 101, 42]
abbrev dktX10_tellLaw_3 : List UInt8 := dkwX10_tellLaw_3 ++ dktX10_tellLaw_4
def dkwX10_tellLaw_2 : List UInt8 := [132, 3, 1, 42, 182, 0, 242, 42, 180, 0, 94, 42, 180, 1, 4, 4, 84, 42, 180, 0, 98, 42]
abbrev dktX10_tellLaw_2 : List UInt8 := dkwX10_tellLaw_2 ++ dktX10_tellLaw_3
def dkwX10_tellLaw_1 : List UInt8 := [182, 0, 239, 153, 0, 104, 29, 7, 160, 0, 8, 42, 5, 182, 0, 236, 42, 180, 0, 221, 158, 0, 4, 177]
abbrev dktX10_tellLaw_1 : List UInt8 := dkwX10_tellLaw_1 ++ dktX10_tellLaw_2
def dkwX10_tellLaw_0 : List UInt8 := [42, 8, 182, 1, 23, 42, 180, 1, 4, 61, 3, 62, 42, 180, 0, 221, 154, 0, 113, 42, 16, 31]
abbrev dktX10_tellLaw_0 : List UInt8 := dkwX10_tellLaw_0 ++ dktX10_tellLaw_1
theorem dksX10_tellLaw_0 : cX10_tellLaw.data.toList.drop 0 = dktX10_tellLaw_0 := by decide +kernel
theorem dksX10_tellLaw_1 : cX10_tellLaw.data.toList.drop 22 = dktX10_tellLaw_1 := dk_seg dksX10_tellLaw_0 22 rfl rfl
theorem dksX10_tellLaw_2 : cX10_tellLaw.data.toList.drop 46 = dktX10_tellLaw_2 := dk_seg dksX10_tellLaw_1 24 rfl rfl
theorem dksX10_tellLaw_3 : cX10_tellLaw.data.toList.drop 68 = dktX10_tellLaw_3 := dk_seg dksX10_tellLaw_2 22 rfl rfl
theorem dksX10_tellLaw_4 : cX10_tellLaw.data.toList.drop 91 = dktX10_tellLaw_4 := dk_seg dksX10_tellLaw_3 23 rfl rfl
theorem dksX10_tellLaw_5 : cX10_tellLaw.data.toList.drop 113 = dktX10_tellLaw_5 := dk_seg dksX10_tellLaw_4 22 rfl rfl
theorem dksX10_tellLaw_6 : cX10_tellLaw.data.toList.drop 137 = dktX10_tellLaw_6 := dk_seg dksX10_tellLaw_5 24 rfl rfl
theorem dksX10_tellLaw_7 : cX10_tellLaw.data.toList.drop 161 = dktX10_tellLaw_7 := dk_seg dksX10_tellLaw_6 24 rfl rfl
theorem dksX10_tellLaw_8 : cX10_tellLaw.data.toList.drop 183 = dktX10_tellLaw_8 := dk_seg dksX10_tellLaw_7 22 rfl rfl
theorem dX10_tellLaw_0 : decode cX10_tellLaw 0 = .ok (.aload_n 0, 1) := dk_42 (dk_at dksX10_tellLaw_0 0 rfl rfl)
theorem dX10_tellLaw_1 : decode cX10_tellLaw 1 = .ok (.iconst 5, 1) := dk_8 (dk_at dksX10_tellLaw_0 1 rfl rfl)
theorem dX10_tellLaw_2 : decode cX10_tellLaw 2 = .ok (.invokevirtual 279, 3) := dk_182 1 23 (dk_at dksX10_tellLaw_0 2 rfl rfl)
theorem dX10_tellLaw_5 : decode cX10_tellLaw 5 = .ok (.aload_n 0, 1) := dk_42 (dk_at dksX10_tellLaw_0 5 rfl rfl)
theorem dX10_tellLaw_6 : decode cX10_tellLaw 6 = .ok (.getfield 260, 3) := dk_180 1 4 (dk_at dksX10_tellLaw_0 6 rfl rfl)
theorem dX10_tellLaw_9 : decode cX10_tellLaw 9 = .ok (.istore_n 2, 1) := dk_61 (dk_at dksX10_tellLaw_0 9 rfl rfl)
theorem dX10_tellLaw_10 : decode cX10_tellLaw 10 = .ok (.iconst 0, 1) := dk_3 (dk_at dksX10_tellLaw_0 10 rfl rfl)
theorem dX10_tellLaw_11 : decode cX10_tellLaw 11 = .ok (.istore_n 3, 1) := dk_62 (dk_at dksX10_tellLaw_0 11 rfl rfl)
theorem dX10_tellLaw_12 : decode cX10_tellLaw 12 = .ok (.aload_n 0, 1) := dk_42 (dk_at dksX10_tellLaw_0 12 rfl rfl)
theorem dX10_tellLaw_13 : decode cX10_tellLaw 13 = .ok (.getfield 221, 3) := dk_180 0 221 (dk_at dksX10_tellLaw_0 13 rfl rfl)
theorem dX10_tellLaw_16 : decode cX10_tellLaw 16 = .ok (.ifCond .ne 113, 3) := dk_154 0 113 (dk_at dksX10_tellLaw_0 16 rfl rfl)
theorem dX10_tellLaw_19 : decode cX10_tellLaw 19 = .ok (.aload_n 0, 1) := dk_42 (dk_at dksX10_tellLaw_0 19 rfl rfl)
theorem dX10_tellLaw_20 : decode cX10_tellLaw 20 = .ok (.bipush 31, 2) := dk_16 31 (dk_at dksX10_tellLaw_0 20 rfl rfl)
theorem dX10_tellLaw_22 : decode cX10_tellLaw 22 = .ok (.invokevirtual 239, 3) := dk_182 0 239 (dk_at dksX10_tellLaw_1 0 rfl rfl)
theorem dX10_tellLaw_25 : decode cX10_tellLaw 25 = .ok (.ifCond .eq 104, 3) := dk_153 0 104 (dk_at dksX10_tellLaw_1 3 rfl rfl)
theorem dX10_tellLaw_28 : decode cX10_tellLaw 28 = .ok (.iload_n 3, 1) := dk_29 (dk_at dksX10_tellLaw_1 6 rfl rfl)
theorem dX10_tellLaw_29 : decode cX10_tellLaw 29 = .ok (.iconst 4, 1) := dk_7 (dk_at dksX10_tellLaw_1 7 rfl rfl)
theorem dX10_tellLaw_30 : decode cX10_tellLaw 30 = .ok (.if_icmp .ne 8, 3) := dk_160 0 8 (dk_at dksX10_tellLaw_1 8 rfl rfl)
theorem dX10_tellLaw_33 : decode cX10_tellLaw 33 = .ok (.aload_n 0, 1) := dk_42 (dk_at dksX10_tellLaw_1 11 rfl rfl)
theorem dX10_tellLaw_34 : decode cX10_tellLaw 34 = .ok (.iconst 2, 1) := dk_5 (dk_at dksX10_tellLaw_1 12 rfl rfl)
theorem dX10_tellLaw_35 : decode cX10_tellLaw 35 = .ok (.invokevirtual 236, 3) := dk_182 0 236 (dk_at dksX10_tellLaw_1 13 rfl rfl)
theorem dX10_tellLaw_38 : decode cX10_tellLaw 38 = .ok (.aload_n 0, 1) := dk_42 (dk_at dksX10_tellLaw_1 16 rfl rfl)
theorem dX10_tellLaw_39 : decode cX10_tellLaw 39 = .ok (.getfield 221, 3) := dk_180 0 221 (dk_at dksX10_tellLaw_1 17 rfl rfl)
theorem dX10_tellLaw_42 : decode cX10_tellLaw 42 = .ok (.ifCond .le 4, 3) := dk_158 0 4 (dk_at dksX10_tellLaw_1 20 rfl rfl)
theorem dX10_tellLaw_45 : decode cX10_tellLaw 45 = .ok (.return_, 1) := dk_177 (dk_at dksX10_tellLaw_1 23 rfl rfl)
theorem dX10_tellLaw_46 : decode cX10_tellLaw 46 = .ok (.iinc 3 1, 3) := dk_132 3 1 (dk_at dksX10_tellLaw_2 0 rfl rfl)
theorem dX10_tellLaw_49 : decode cX10_tellLaw 49 = .ok (.aload_n 0, 1) := dk_42 (dk_at dksX10_tellLaw_2 3 rfl rfl)
theorem dX10_tellLaw_50 : decode cX10_tellLaw 50 = .ok (.invokevirtual 242, 3) := dk_182 0 242 (dk_at dksX10_tellLaw_2 4 rfl rfl)
theorem dX10_tellLaw_53 : decode cX10_tellLaw 53 = .ok (.aload_n 0, 1) := dk_42 (dk_at dksX10_tellLaw_2 7 rfl rfl)
theorem dX10_tellLaw_54 : decode cX10_tellLaw 54 = .ok (.getfield 94, 3) := dk_180 0 94 (dk_at dksX10_tellLaw_2 8 rfl rfl)
theorem dX10_tellLaw_57 : decode cX10_tellLaw 57 = .ok (.aload_n 0, 1) := dk_42 (dk_at dksX10_tellLaw_2 11 rfl rfl)
theorem dX10_tellLaw_58 : decode cX10_tellLaw 58 = .ok (.getfield 260, 3) := dk_180 1 4 (dk_at dksX10_tellLaw_2 12 rfl rfl)
theorem dX10_tellLaw_61 : decode cX10_tellLaw 61 = .ok (.iconst 1, 1) := dk_4 (dk_at dksX10_tellLaw_2 15 rfl rfl)
theorem dX10_tellLaw_62 : decode cX10_tellLaw 62 = .ok (.bastore, 1) := dk_84 (dk_at dksX10_tellLaw_2 16 rfl rfl)
theorem dX10_tellLaw_63 : decode cX10_tellLaw 63 = .ok (.aload_n 0, 1) := dk_42 (dk_at dksX10_tellLaw_2 17 rfl rfl)
theorem dX10_tellLaw_64 : decode cX10_tellLaw 64 = .ok (.getfield 98, 3) := dk_180 0 98 (dk_at dksX10_tellLaw_2 18 rfl rfl)
theorem dX10_tellLaw_67 : decode cX10_tellLaw 67 = .ok (.aload_n 0, 1) := dk_42 (dk_at dksX10_tellLaw_2 21 rfl rfl)
theorem dX10_tellLaw_68 : decode cX10_tellLaw 68 = .ok (.getfield 260, 3) := dk_180 1 4 (dk_at dksX10_tellLaw_3 0 rfl rfl)
theorem dX10_tellLaw_71 : decode cX10_tellLaw 71 = .ok (.aload_n 0, 1) := dk_42 (dk_at dksX10_tellLaw_3 3 rfl rfl)
theorem dX10_tellLaw_72 : decode cX10_tellLaw 72 = .ok (.getfield 263, 3) := dk_180 1 7 (dk_at dksX10_tellLaw_3 4 rfl rfl)
theorem dX10_tellLaw_75 : decode cX10_tellLaw 75 = .ok (.iastore, 1) := dk_79 (dk_at dksX10_tellLaw_3 7 rfl rfl)
theorem dX10_tellLaw_76 : decode cX10_tellLaw 76 = .ok (.aload_n 0, 1) := dk_42 (dk_at dksX10_tellLaw_3 8 rfl rfl)
theorem dX10_tellLaw_77 : decode cX10_tellLaw 77 = .ok (.invokevirtual 311, 3) := dk_182 1 55 (dk_at dksX10_tellLaw_3 9 rfl rfl)
theorem dX10_tellLaw_80 : decode cX10_tellLaw 80 = .ok (.aload_n 0, 1) := dk_42 (dk_at dksX10_tellLaw_3 12 rfl rfl)
theorem dX10_tellLaw_81 : decode cX10_tellLaw 81 = .ok (.bipush 13, 2) := dk_16 13 (dk_at dksX10_tellLaw_3 13 rfl rfl)
theorem dX10_tellLaw_83 : decode cX10_tellLaw 83 = .ok (.invokevirtual 279, 3) := dk_182 1 23 (dk_at dksX10_tellLaw_3 15 rfl rfl)
theorem dX10_tellLaw_86 : decode cX10_tellLaw 86 = .ok (.aload_n 0, 1) := dk_42 (dk_at dksX10_tellLaw_3 18 rfl rfl)
theorem dX10_tellLaw_87 : decode cX10_tellLaw 87 = .ok (.getfield 101, 3) := dk_180 0 101 (dk_at dksX10_tellLaw_3 19 rfl rfl)
theorem dX10_tellLaw_90 : decode cX10_tellLaw 90 = .ok (.aload_n 0, 1) := dk_42 (dk_at dksX10_tellLaw_3 22 rfl rfl)
theorem dX10_tellLaw_91 : decode cX10_tellLaw 91 = .ok (.getfield 260, 3) := dk_180 1 4 (dk_at dksX10_tellLaw_4 0 rfl rfl)
theorem dX10_tellLaw_94 : decode cX10_tellLaw 94 = .ok (.aload_n 0, 1) := dk_42 (dk_at dksX10_tellLaw_4 3 rfl rfl)
theorem dX10_tellLaw_95 : decode cX10_tellLaw 95 = .ok (.getfield 263, 3) := dk_180 1 7 (dk_at dksX10_tellLaw_4 4 rfl rfl)
theorem dX10_tellLaw_98 : decode cX10_tellLaw 98 = .ok (.iastore, 1) := dk_79 (dk_at dksX10_tellLaw_4 7 rfl rfl)
theorem dX10_tellLaw_99 : decode cX10_tellLaw 99 = .ok (.aload_n 0, 1) := dk_42 (dk_at dksX10_tellLaw_4 8 rfl rfl)
theorem dX10_tellLaw_100 : decode cX10_tellLaw 100 = .ok (.getfield 221, 3) := dk_180 0 221 (dk_at dksX10_tellLaw_4 9 rfl rfl)
theorem dX10_tellLaw_103 : decode cX10_tellLaw 103 = .ok (.ifCond .ne 7, 3) := dk_154 0 7 (dk_at dksX10_tellLaw_4 12 rfl rfl)
theorem dX10_tellLaw_106 : decode cX10_tellLaw 106 = .ok (.aload_n 0, 1) := dk_42 (dk_at dksX10_tellLaw_4 15 rfl rfl)
theorem dX10_tellLaw_107 : decode cX10_tellLaw 107 = .ok (.invokevirtual 311, 3) := dk_182 1 55 (dk_at dksX10_tellLaw_4 16 rfl rfl)
theorem dX10_tellLaw_110 : decode cX10_tellLaw 110 = .ok (.aload_n 0, 1) := dk_42 (dk_at dksX10_tellLaw_4 19 rfl rfl)
theorem dX10_tellLaw_111 : decode cX10_tellLaw 111 = .ok (.bipush 32, 2) := dk_16 32 (dk_at dksX10_tellLaw_4 20 rfl rfl)
theorem dX10_tellLaw_113 : decode cX10_tellLaw 113 = .ok (.invokevirtual 279, 3) := dk_182 1 23 (dk_at dksX10_tellLaw_5 0 rfl rfl)
theorem dX10_tellLaw_116 : decode cX10_tellLaw 116 = .ok (.aload_n 0, 1) := dk_42 (dk_at dksX10_tellLaw_5 3 rfl rfl)
theorem dX10_tellLaw_117 : decode cX10_tellLaw 117 = .ok (.invokevirtual 314, 3) := dk_182 1 58 (dk_at dksX10_tellLaw_5 4 rfl rfl)
theorem dX10_tellLaw_120 : decode cX10_tellLaw 120 = .ok (.aload_n 0, 1) := dk_42 (dk_at dksX10_tellLaw_5 7 rfl rfl)
theorem dX10_tellLaw_121 : decode cX10_tellLaw 121 = .ok (.bipush 33, 2) := dk_16 33 (dk_at dksX10_tellLaw_5 8 rfl rfl)
theorem dX10_tellLaw_123 : decode cX10_tellLaw 123 = .ok (.invokevirtual 279, 3) := dk_182 1 23 (dk_at dksX10_tellLaw_5 10 rfl rfl)
theorem dX10_tellLaw_126 : decode cX10_tellLaw 126 = .ok (.goto (-114), 3) := dk_167 255 142 (dk_at dksX10_tellLaw_5 13 rfl rfl)
theorem dX10_tellLaw_129 : decode cX10_tellLaw 129 = .ok (.aload_n 0, 1) := dk_42 (dk_at dksX10_tellLaw_5 16 rfl rfl)
theorem dX10_tellLaw_130 : decode cX10_tellLaw 130 = .ok (.getfield 94, 3) := dk_180 0 94 (dk_at dksX10_tellLaw_5 17 rfl rfl)
theorem dX10_tellLaw_133 : decode cX10_tellLaw 133 = .ok (.aload_n 0, 1) := dk_42 (dk_at dksX10_tellLaw_5 20 rfl rfl)
theorem dX10_tellLaw_134 : decode cX10_tellLaw 134 = .ok (.getfield 260, 3) := dk_180 1 4 (dk_at dksX10_tellLaw_5 21 rfl rfl)
theorem dX10_tellLaw_137 : decode cX10_tellLaw 137 = .ok (.iconst 0, 1) := dk_3 (dk_at dksX10_tellLaw_6 0 rfl rfl)
theorem dX10_tellLaw_138 : decode cX10_tellLaw 138 = .ok (.bastore, 1) := dk_84 (dk_at dksX10_tellLaw_6 1 rfl rfl)
theorem dX10_tellLaw_139 : decode cX10_tellLaw 139 = .ok (.aload_n 0, 1) := dk_42 (dk_at dksX10_tellLaw_6 2 rfl rfl)
theorem dX10_tellLaw_140 : decode cX10_tellLaw 140 = .ok (.invokevirtual 314, 3) := dk_182 1 58 (dk_at dksX10_tellLaw_6 3 rfl rfl)
theorem dX10_tellLaw_143 : decode cX10_tellLaw 143 = .ok (.aload_n 0, 1) := dk_42 (dk_at dksX10_tellLaw_6 6 rfl rfl)
theorem dX10_tellLaw_144 : decode cX10_tellLaw 144 = .ok (.iconst 4, 1) := dk_7 (dk_at dksX10_tellLaw_6 7 rfl rfl)
theorem dX10_tellLaw_145 : decode cX10_tellLaw 145 = .ok (.invokevirtual 279, 3) := dk_182 1 23 (dk_at dksX10_tellLaw_6 8 rfl rfl)
theorem dX10_tellLaw_148 : decode cX10_tellLaw 148 = .ok (.aload_n 0, 1) := dk_42 (dk_at dksX10_tellLaw_6 11 rfl rfl)
theorem dX10_tellLaw_149 : decode cX10_tellLaw 149 = .ok (.getfield 221, 3) := dk_180 0 221 (dk_at dksX10_tellLaw_6 12 rfl rfl)
theorem dX10_tellLaw_152 : decode cX10_tellLaw 152 = .ok (.ifCond .le 4, 3) := dk_158 0 4 (dk_at dksX10_tellLaw_6 15 rfl rfl)
theorem dX10_tellLaw_155 : decode cX10_tellLaw 155 = .ok (.return_, 1) := dk_177 (dk_at dksX10_tellLaw_6 18 rfl rfl)
theorem dX10_tellLaw_156 : decode cX10_tellLaw 156 = .ok (.aload_n 0, 1) := dk_42 (dk_at dksX10_tellLaw_6 19 rfl rfl)
theorem dX10_tellLaw_157 : decode cX10_tellLaw 157 = .ok (.getfield 88, 3) := dk_180 0 88 (dk_at dksX10_tellLaw_6 20 rfl rfl)
theorem dX10_tellLaw_160 : decode cX10_tellLaw 160 = .ok (.iconst 4, 1) := dk_7 (dk_at dksX10_tellLaw_6 23 rfl rfl)
theorem dX10_tellLaw_161 : decode cX10_tellLaw 161 = .ok (.aload_n 0, 1) := dk_42 (dk_at dksX10_tellLaw_7 0 rfl rfl)
theorem dX10_tellLaw_162 : decode cX10_tellLaw 162 = .ok (.getfield 254, 3) := dk_180 0 254 (dk_at dksX10_tellLaw_7 1 rfl rfl)
theorem dX10_tellLaw_165 : decode cX10_tellLaw 165 = .ok (.imul, 1) := dk_104 (dk_at dksX10_tellLaw_7 4 rfl rfl)
theorem dX10_tellLaw_166 : decode cX10_tellLaw 166 = .ok (.iload_n 1, 1) := dk_27 (dk_at dksX10_tellLaw_7 5 rfl rfl)
theorem dX10_tellLaw_167 : decode cX10_tellLaw 167 = .ok (.iadd, 1) := dk_96 (dk_at dksX10_tellLaw_7 6 rfl rfl)
theorem dX10_tellLaw_168 : decode cX10_tellLaw 168 = .ok (.iload_n 2, 1) := dk_28 (dk_at dksX10_tellLaw_7 7 rfl rfl)
theorem dX10_tellLaw_169 : decode cX10_tellLaw 169 = .ok (.iastore, 1) := dk_79 (dk_at dksX10_tellLaw_7 8 rfl rfl)
theorem dX10_tellLaw_170 : decode cX10_tellLaw 170 = .ok (.aload_n 0, 1) := dk_42 (dk_at dksX10_tellLaw_7 9 rfl rfl)
theorem dX10_tellLaw_171 : decode cX10_tellLaw 171 = .ok (.getfield 91, 3) := dk_180 0 91 (dk_at dksX10_tellLaw_7 10 rfl rfl)
theorem dX10_tellLaw_174 : decode cX10_tellLaw 174 = .ok (.iconst 4, 1) := dk_7 (dk_at dksX10_tellLaw_7 13 rfl rfl)
theorem dX10_tellLaw_175 : decode cX10_tellLaw 175 = .ok (.aload_n 0, 1) := dk_42 (dk_at dksX10_tellLaw_7 14 rfl rfl)
theorem dX10_tellLaw_176 : decode cX10_tellLaw 176 = .ok (.getfield 254, 3) := dk_180 0 254 (dk_at dksX10_tellLaw_7 15 rfl rfl)
theorem dX10_tellLaw_179 : decode cX10_tellLaw 179 = .ok (.imul, 1) := dk_104 (dk_at dksX10_tellLaw_7 18 rfl rfl)
theorem dX10_tellLaw_180 : decode cX10_tellLaw 180 = .ok (.iload_n 1, 1) := dk_27 (dk_at dksX10_tellLaw_7 19 rfl rfl)
theorem dX10_tellLaw_181 : decode cX10_tellLaw 181 = .ok (.iadd, 1) := dk_96 (dk_at dksX10_tellLaw_7 20 rfl rfl)
theorem dX10_tellLaw_182 : decode cX10_tellLaw 182 = .ok (.aload_n 0, 1) := dk_42 (dk_at dksX10_tellLaw_7 21 rfl rfl)
theorem dX10_tellLaw_183 : decode cX10_tellLaw 183 = .ok (.getfield 260, 3) := dk_180 1 4 (dk_at dksX10_tellLaw_8 0 rfl rfl)
theorem dX10_tellLaw_186 : decode cX10_tellLaw 186 = .ok (.iastore, 1) := dk_79 (dk_at dksX10_tellLaw_8 3 rfl rfl)
theorem dX10_tellLaw_187 : decode cX10_tellLaw 187 = .ok (.return_, 1) := dk_177 (dk_at dksX10_tellLaw_8 4 rfl rfl)
abbrev cX10_expression : ByteArray := prog_22_method_35_code
def yX10_expression : MethodName := ⟨RX10, "expression", "()V"⟩
def dkwX10_expression_11 : List UInt8 := [180, 1, 61, 4, 96, 181, 1, 61, 42, 182, 0, 242, 167, 254, 255, 177]
abbrev dktX10_expression_11 : List UInt8 := dkwX10_expression_11 ++ []
def dkwX10_expression_10 : List UInt8 := [182, 1, 70, 42, 180, 0, 116, 42, 180, 1, 61, 42, 180, 0, 20, 42, 180, 0, 224, 46, 79, 42, 89]
abbrev dktX10_expression_10 : List UInt8 := dkwX10_expression_10 ++ dktX10_expression_11
def dkwX10_expression_9 : List UInt8 := [16, 10, 182, 0, 239, 154, 0, 12, 42, 16, 15, 182, 0, 239, 153, 0, 7, 4, 167, 0, 4, 3]
abbrev dktX10_expression_9 : List UInt8 := dkwX10_expression_9 ++ dktX10_expression_10
def dkwX10_expression_8 : List UInt8 := [154, 0, 22, 42, 180, 0, 248, 27, 164, 0, 8, 42, 4, 182, 0, 236, 42, 3, 182, 1, 70, 177, 42, 42]
abbrev dktX10_expression_8 : List UInt8 := dkwX10_expression_8 ++ dktX10_expression_9
def dkwX10_expression_7 : List UInt8 := [182, 0, 239, 154, 0, 12, 42, 16, 15, 182, 0, 239, 153, 0, 7, 4, 167, 0, 4, 3, 61, 28]
abbrev dktX10_expression_7 : List UInt8 := dkwX10_expression_7 ++ dktX10_expression_8
def dkwX10_expression_6 : List UInt8 := [167, 255, 210, 42, 16, 8, 182, 0, 239, 154, 0, 30, 42, 16, 9, 182, 0, 239, 154, 0, 21, 42, 16, 10]
abbrev dktX10_expression_6 : List UInt8 := dkwX10_expression_6 ++ dktX10_expression_7
def dkwX10_expression_5 : List UInt8 := [180, 1, 61, 4, 100, 181, 1, 61, 42, 89, 180, 0, 248, 4, 100, 181, 0, 248, 42, 182, 0, 242]
abbrev dktX10_expression_5 : List UInt8 := dkwX10_expression_5 ++ dktX10_expression_6
def dkwX10_expression_4 : List UInt8 := [42, 16, 7, 182, 0, 239, 153, 0, 43, 42, 180, 0, 248, 27, 164, 0, 35, 42, 3, 182, 1, 70, 42, 89]
abbrev dktX10_expression_4 : List UInt8 := dkwX10_expression_4 ++ dktX10_expression_5
def dkwX10_expression_3 : List UInt8 := [89, 180, 1, 61, 4, 96, 181, 1, 61, 167, 255, 198, 42, 182, 1, 67, 42, 180, 0, 221, 158, 0, 4, 177]
abbrev dktX10_expression_3 : List UInt8 := dkwX10_expression_3 ++ dktX10_expression_4
def dkwX10_expression_2 : List UInt8 := [180, 0, 248, 4, 96, 181, 0, 248, 42, 182, 0, 242, 42, 180, 0, 116, 42, 180, 1, 61, 16, 6, 79, 42]
abbrev dktX10_expression_2 : List UInt8 := dkwX10_expression_2 ++ dktX10_expression_3
def dkwX10_expression_1 : List UInt8 := [16, 6, 182, 0, 239, 153, 0, 55, 42, 180, 0, 248, 16, 6, 160, 0, 8, 42, 5, 182, 0, 236, 42, 89]
abbrev dktX10_expression_1 : List UInt8 := dkwX10_expression_1 ++ dktX10_expression_2
def dkwX10_expression_0 : List UInt8 := [42, 3, 181, 1, 61, 42, 180, 0, 248, 60, 4, 61, 28, 153, 1, 3, 42, 180, 0, 221, 154, 0, 252, 42]
abbrev dktX10_expression_0 : List UInt8 := dkwX10_expression_0 ++ dktX10_expression_1
theorem dksX10_expression_0 : cX10_expression.data.toList.drop 0 = dktX10_expression_0 := by decide +kernel
theorem dksX10_expression_1 : cX10_expression.data.toList.drop 24 = dktX10_expression_1 := dk_seg dksX10_expression_0 24 rfl rfl
theorem dksX10_expression_2 : cX10_expression.data.toList.drop 48 = dktX10_expression_2 := dk_seg dksX10_expression_1 24 rfl rfl
theorem dksX10_expression_3 : cX10_expression.data.toList.drop 72 = dktX10_expression_3 := dk_seg dksX10_expression_2 24 rfl rfl
theorem dksX10_expression_4 : cX10_expression.data.toList.drop 96 = dktX10_expression_4 := dk_seg dksX10_expression_3 24 rfl rfl
theorem dksX10_expression_5 : cX10_expression.data.toList.drop 120 = dktX10_expression_5 := dk_seg dksX10_expression_4 24 rfl rfl
theorem dksX10_expression_6 : cX10_expression.data.toList.drop 142 = dktX10_expression_6 := dk_seg dksX10_expression_5 22 rfl rfl
theorem dksX10_expression_7 : cX10_expression.data.toList.drop 166 = dktX10_expression_7 := dk_seg dksX10_expression_6 24 rfl rfl
theorem dksX10_expression_8 : cX10_expression.data.toList.drop 188 = dktX10_expression_8 := dk_seg dksX10_expression_7 22 rfl rfl
theorem dksX10_expression_9 : cX10_expression.data.toList.drop 212 = dktX10_expression_9 := dk_seg dksX10_expression_8 24 rfl rfl
theorem dksX10_expression_10 : cX10_expression.data.toList.drop 234 = dktX10_expression_10 := dk_seg dksX10_expression_9 22 rfl rfl
theorem dksX10_expression_11 : cX10_expression.data.toList.drop 257 = dktX10_expression_11 := dk_seg dksX10_expression_10 23 rfl rfl
theorem dX10_expression_0 : decode cX10_expression 0 = .ok (.aload_n 0, 1) := dk_42 (dk_at dksX10_expression_0 0 rfl rfl)
theorem dX10_expression_1 : decode cX10_expression 1 = .ok (.iconst 0, 1) := dk_3 (dk_at dksX10_expression_0 1 rfl rfl)
theorem dX10_expression_2 : decode cX10_expression 2 = .ok (.putfield 317, 3) := dk_181 1 61 (dk_at dksX10_expression_0 2 rfl rfl)
theorem dX10_expression_5 : decode cX10_expression 5 = .ok (.aload_n 0, 1) := dk_42 (dk_at dksX10_expression_0 5 rfl rfl)
theorem dX10_expression_6 : decode cX10_expression 6 = .ok (.getfield 248, 3) := dk_180 0 248 (dk_at dksX10_expression_0 6 rfl rfl)
theorem dX10_expression_9 : decode cX10_expression 9 = .ok (.istore_n 1, 1) := dk_60 (dk_at dksX10_expression_0 9 rfl rfl)
theorem dX10_expression_10 : decode cX10_expression 10 = .ok (.iconst 1, 1) := dk_4 (dk_at dksX10_expression_0 10 rfl rfl)
theorem dX10_expression_11 : decode cX10_expression 11 = .ok (.istore_n 2, 1) := dk_61 (dk_at dksX10_expression_0 11 rfl rfl)
theorem dX10_expression_12 : decode cX10_expression 12 = .ok (.iload_n 2, 1) := dk_28 (dk_at dksX10_expression_0 12 rfl rfl)
theorem dX10_expression_13 : decode cX10_expression 13 = .ok (.ifCond .eq 259, 3) := dk_153 1 3 (dk_at dksX10_expression_0 13 rfl rfl)
theorem dX10_expression_16 : decode cX10_expression 16 = .ok (.aload_n 0, 1) := dk_42 (dk_at dksX10_expression_0 16 rfl rfl)
theorem dX10_expression_17 : decode cX10_expression 17 = .ok (.getfield 221, 3) := dk_180 0 221 (dk_at dksX10_expression_0 17 rfl rfl)
theorem dX10_expression_20 : decode cX10_expression 20 = .ok (.ifCond .ne 252, 3) := dk_154 0 252 (dk_at dksX10_expression_0 20 rfl rfl)
theorem dX10_expression_23 : decode cX10_expression 23 = .ok (.aload_n 0, 1) := dk_42 (dk_at dksX10_expression_0 23 rfl rfl)
theorem dX10_expression_24 : decode cX10_expression 24 = .ok (.bipush 6, 2) := dk_16 6 (dk_at dksX10_expression_1 0 rfl rfl)
theorem dX10_expression_26 : decode cX10_expression 26 = .ok (.invokevirtual 239, 3) := dk_182 0 239 (dk_at dksX10_expression_1 2 rfl rfl)
theorem dX10_expression_29 : decode cX10_expression 29 = .ok (.ifCond .eq 55, 3) := dk_153 0 55 (dk_at dksX10_expression_1 5 rfl rfl)
theorem dX10_expression_32 : decode cX10_expression 32 = .ok (.aload_n 0, 1) := dk_42 (dk_at dksX10_expression_1 8 rfl rfl)
theorem dX10_expression_33 : decode cX10_expression 33 = .ok (.getfield 248, 3) := dk_180 0 248 (dk_at dksX10_expression_1 9 rfl rfl)
theorem dX10_expression_36 : decode cX10_expression 36 = .ok (.bipush 6, 2) := dk_16 6 (dk_at dksX10_expression_1 12 rfl rfl)
theorem dX10_expression_38 : decode cX10_expression 38 = .ok (.if_icmp .ne 8, 3) := dk_160 0 8 (dk_at dksX10_expression_1 14 rfl rfl)
theorem dX10_expression_41 : decode cX10_expression 41 = .ok (.aload_n 0, 1) := dk_42 (dk_at dksX10_expression_1 17 rfl rfl)
theorem dX10_expression_42 : decode cX10_expression 42 = .ok (.iconst 2, 1) := dk_5 (dk_at dksX10_expression_1 18 rfl rfl)
theorem dX10_expression_43 : decode cX10_expression 43 = .ok (.invokevirtual 236, 3) := dk_182 0 236 (dk_at dksX10_expression_1 19 rfl rfl)
theorem dX10_expression_46 : decode cX10_expression 46 = .ok (.aload_n 0, 1) := dk_42 (dk_at dksX10_expression_1 22 rfl rfl)
theorem dX10_expression_47 : decode cX10_expression 47 = .ok (.dup, 1) := dk_89 (dk_at dksX10_expression_1 23 rfl rfl)
theorem dX10_expression_48 : decode cX10_expression 48 = .ok (.getfield 248, 3) := dk_180 0 248 (dk_at dksX10_expression_2 0 rfl rfl)
theorem dX10_expression_51 : decode cX10_expression 51 = .ok (.iconst 1, 1) := dk_4 (dk_at dksX10_expression_2 3 rfl rfl)
theorem dX10_expression_52 : decode cX10_expression 52 = .ok (.iadd, 1) := dk_96 (dk_at dksX10_expression_2 4 rfl rfl)
theorem dX10_expression_53 : decode cX10_expression 53 = .ok (.putfield 248, 3) := dk_181 0 248 (dk_at dksX10_expression_2 5 rfl rfl)
theorem dX10_expression_56 : decode cX10_expression 56 = .ok (.aload_n 0, 1) := dk_42 (dk_at dksX10_expression_2 8 rfl rfl)
theorem dX10_expression_57 : decode cX10_expression 57 = .ok (.invokevirtual 242, 3) := dk_182 0 242 (dk_at dksX10_expression_2 9 rfl rfl)
theorem dX10_expression_60 : decode cX10_expression 60 = .ok (.aload_n 0, 1) := dk_42 (dk_at dksX10_expression_2 12 rfl rfl)
theorem dX10_expression_61 : decode cX10_expression 61 = .ok (.getfield 116, 3) := dk_180 0 116 (dk_at dksX10_expression_2 13 rfl rfl)
theorem dX10_expression_64 : decode cX10_expression 64 = .ok (.aload_n 0, 1) := dk_42 (dk_at dksX10_expression_2 16 rfl rfl)
theorem dX10_expression_65 : decode cX10_expression 65 = .ok (.getfield 317, 3) := dk_180 1 61 (dk_at dksX10_expression_2 17 rfl rfl)
theorem dX10_expression_68 : decode cX10_expression 68 = .ok (.bipush 6, 2) := dk_16 6 (dk_at dksX10_expression_2 20 rfl rfl)
theorem dX10_expression_70 : decode cX10_expression 70 = .ok (.iastore, 1) := dk_79 (dk_at dksX10_expression_2 22 rfl rfl)
theorem dX10_expression_71 : decode cX10_expression 71 = .ok (.aload_n 0, 1) := dk_42 (dk_at dksX10_expression_2 23 rfl rfl)
theorem dX10_expression_72 : decode cX10_expression 72 = .ok (.dup, 1) := dk_89 (dk_at dksX10_expression_3 0 rfl rfl)
theorem dX10_expression_73 : decode cX10_expression 73 = .ok (.getfield 317, 3) := dk_180 1 61 (dk_at dksX10_expression_3 1 rfl rfl)
theorem dX10_expression_76 : decode cX10_expression 76 = .ok (.iconst 1, 1) := dk_4 (dk_at dksX10_expression_3 4 rfl rfl)
theorem dX10_expression_77 : decode cX10_expression 77 = .ok (.iadd, 1) := dk_96 (dk_at dksX10_expression_3 5 rfl rfl)
theorem dX10_expression_78 : decode cX10_expression 78 = .ok (.putfield 317, 3) := dk_181 1 61 (dk_at dksX10_expression_3 6 rfl rfl)
theorem dX10_expression_81 : decode cX10_expression 81 = .ok (.goto (-58), 3) := dk_167 255 198 (dk_at dksX10_expression_3 9 rfl rfl)
theorem dX10_expression_84 : decode cX10_expression 84 = .ok (.aload_n 0, 1) := dk_42 (dk_at dksX10_expression_3 12 rfl rfl)
theorem dX10_expression_85 : decode cX10_expression 85 = .ok (.invokevirtual 323, 3) := dk_182 1 67 (dk_at dksX10_expression_3 13 rfl rfl)
theorem dX10_expression_88 : decode cX10_expression 88 = .ok (.aload_n 0, 1) := dk_42 (dk_at dksX10_expression_3 16 rfl rfl)
theorem dX10_expression_89 : decode cX10_expression 89 = .ok (.getfield 221, 3) := dk_180 0 221 (dk_at dksX10_expression_3 17 rfl rfl)
theorem dX10_expression_92 : decode cX10_expression 92 = .ok (.ifCond .le 4, 3) := dk_158 0 4 (dk_at dksX10_expression_3 20 rfl rfl)
theorem dX10_expression_95 : decode cX10_expression 95 = .ok (.return_, 1) := dk_177 (dk_at dksX10_expression_3 23 rfl rfl)
theorem dX10_expression_96 : decode cX10_expression 96 = .ok (.aload_n 0, 1) := dk_42 (dk_at dksX10_expression_4 0 rfl rfl)
theorem dX10_expression_97 : decode cX10_expression 97 = .ok (.bipush 7, 2) := dk_16 7 (dk_at dksX10_expression_4 1 rfl rfl)
theorem dX10_expression_99 : decode cX10_expression 99 = .ok (.invokevirtual 239, 3) := dk_182 0 239 (dk_at dksX10_expression_4 3 rfl rfl)
theorem dX10_expression_102 : decode cX10_expression 102 = .ok (.ifCond .eq 43, 3) := dk_153 0 43 (dk_at dksX10_expression_4 6 rfl rfl)
theorem dX10_expression_105 : decode cX10_expression 105 = .ok (.aload_n 0, 1) := dk_42 (dk_at dksX10_expression_4 9 rfl rfl)
theorem dX10_expression_106 : decode cX10_expression 106 = .ok (.getfield 248, 3) := dk_180 0 248 (dk_at dksX10_expression_4 10 rfl rfl)
theorem dX10_expression_109 : decode cX10_expression 109 = .ok (.iload_n 1, 1) := dk_27 (dk_at dksX10_expression_4 13 rfl rfl)
theorem dX10_expression_110 : decode cX10_expression 110 = .ok (.if_icmp .le 35, 3) := dk_164 0 35 (dk_at dksX10_expression_4 14 rfl rfl)
theorem dX10_expression_113 : decode cX10_expression 113 = .ok (.aload_n 0, 1) := dk_42 (dk_at dksX10_expression_4 17 rfl rfl)
theorem dX10_expression_114 : decode cX10_expression 114 = .ok (.iconst 0, 1) := dk_3 (dk_at dksX10_expression_4 18 rfl rfl)
theorem dX10_expression_115 : decode cX10_expression 115 = .ok (.invokevirtual 326, 3) := dk_182 1 70 (dk_at dksX10_expression_4 19 rfl rfl)
theorem dX10_expression_118 : decode cX10_expression 118 = .ok (.aload_n 0, 1) := dk_42 (dk_at dksX10_expression_4 22 rfl rfl)
theorem dX10_expression_119 : decode cX10_expression 119 = .ok (.dup, 1) := dk_89 (dk_at dksX10_expression_4 23 rfl rfl)
theorem dX10_expression_120 : decode cX10_expression 120 = .ok (.getfield 317, 3) := dk_180 1 61 (dk_at dksX10_expression_5 0 rfl rfl)
theorem dX10_expression_123 : decode cX10_expression 123 = .ok (.iconst 1, 1) := dk_4 (dk_at dksX10_expression_5 3 rfl rfl)
theorem dX10_expression_124 : decode cX10_expression 124 = .ok (.isub, 1) := dk_100 (dk_at dksX10_expression_5 4 rfl rfl)
theorem dX10_expression_125 : decode cX10_expression 125 = .ok (.putfield 317, 3) := dk_181 1 61 (dk_at dksX10_expression_5 5 rfl rfl)
theorem dX10_expression_128 : decode cX10_expression 128 = .ok (.aload_n 0, 1) := dk_42 (dk_at dksX10_expression_5 8 rfl rfl)
theorem dX10_expression_129 : decode cX10_expression 129 = .ok (.dup, 1) := dk_89 (dk_at dksX10_expression_5 9 rfl rfl)
theorem dX10_expression_130 : decode cX10_expression 130 = .ok (.getfield 248, 3) := dk_180 0 248 (dk_at dksX10_expression_5 10 rfl rfl)
theorem dX10_expression_133 : decode cX10_expression 133 = .ok (.iconst 1, 1) := dk_4 (dk_at dksX10_expression_5 13 rfl rfl)
theorem dX10_expression_134 : decode cX10_expression 134 = .ok (.isub, 1) := dk_100 (dk_at dksX10_expression_5 14 rfl rfl)
theorem dX10_expression_135 : decode cX10_expression 135 = .ok (.putfield 248, 3) := dk_181 0 248 (dk_at dksX10_expression_5 15 rfl rfl)
theorem dX10_expression_138 : decode cX10_expression 138 = .ok (.aload_n 0, 1) := dk_42 (dk_at dksX10_expression_5 18 rfl rfl)
theorem dX10_expression_139 : decode cX10_expression 139 = .ok (.invokevirtual 242, 3) := dk_182 0 242 (dk_at dksX10_expression_5 19 rfl rfl)
theorem dX10_expression_142 : decode cX10_expression 142 = .ok (.goto (-46), 3) := dk_167 255 210 (dk_at dksX10_expression_6 0 rfl rfl)
theorem dX10_expression_145 : decode cX10_expression 145 = .ok (.aload_n 0, 1) := dk_42 (dk_at dksX10_expression_6 3 rfl rfl)
theorem dX10_expression_146 : decode cX10_expression 146 = .ok (.bipush 8, 2) := dk_16 8 (dk_at dksX10_expression_6 4 rfl rfl)
theorem dX10_expression_148 : decode cX10_expression 148 = .ok (.invokevirtual 239, 3) := dk_182 0 239 (dk_at dksX10_expression_6 6 rfl rfl)
theorem dX10_expression_151 : decode cX10_expression 151 = .ok (.ifCond .ne 30, 3) := dk_154 0 30 (dk_at dksX10_expression_6 9 rfl rfl)
theorem dX10_expression_154 : decode cX10_expression 154 = .ok (.aload_n 0, 1) := dk_42 (dk_at dksX10_expression_6 12 rfl rfl)
theorem dX10_expression_155 : decode cX10_expression 155 = .ok (.bipush 9, 2) := dk_16 9 (dk_at dksX10_expression_6 13 rfl rfl)
theorem dX10_expression_157 : decode cX10_expression 157 = .ok (.invokevirtual 239, 3) := dk_182 0 239 (dk_at dksX10_expression_6 15 rfl rfl)
theorem dX10_expression_160 : decode cX10_expression 160 = .ok (.ifCond .ne 21, 3) := dk_154 0 21 (dk_at dksX10_expression_6 18 rfl rfl)
theorem dX10_expression_163 : decode cX10_expression 163 = .ok (.aload_n 0, 1) := dk_42 (dk_at dksX10_expression_6 21 rfl rfl)
theorem dX10_expression_164 : decode cX10_expression 164 = .ok (.bipush 10, 2) := dk_16 10 (dk_at dksX10_expression_6 22 rfl rfl)
theorem dX10_expression_166 : decode cX10_expression 166 = .ok (.invokevirtual 239, 3) := dk_182 0 239 (dk_at dksX10_expression_7 0 rfl rfl)
theorem dX10_expression_169 : decode cX10_expression 169 = .ok (.ifCond .ne 12, 3) := dk_154 0 12 (dk_at dksX10_expression_7 3 rfl rfl)
theorem dX10_expression_172 : decode cX10_expression 172 = .ok (.aload_n 0, 1) := dk_42 (dk_at dksX10_expression_7 6 rfl rfl)
theorem dX10_expression_173 : decode cX10_expression 173 = .ok (.bipush 15, 2) := dk_16 15 (dk_at dksX10_expression_7 7 rfl rfl)
theorem dX10_expression_175 : decode cX10_expression 175 = .ok (.invokevirtual 239, 3) := dk_182 0 239 (dk_at dksX10_expression_7 9 rfl rfl)
theorem dX10_expression_178 : decode cX10_expression 178 = .ok (.ifCond .eq 7, 3) := dk_153 0 7 (dk_at dksX10_expression_7 12 rfl rfl)
theorem dX10_expression_181 : decode cX10_expression 181 = .ok (.iconst 1, 1) := dk_4 (dk_at dksX10_expression_7 15 rfl rfl)
theorem dX10_expression_182 : decode cX10_expression 182 = .ok (.goto 4, 3) := dk_167 0 4 (dk_at dksX10_expression_7 16 rfl rfl)
theorem dX10_expression_185 : decode cX10_expression 185 = .ok (.iconst 0, 1) := dk_3 (dk_at dksX10_expression_7 19 rfl rfl)
theorem dX10_expression_186 : decode cX10_expression 186 = .ok (.istore_n 2, 1) := dk_61 (dk_at dksX10_expression_7 20 rfl rfl)
theorem dX10_expression_187 : decode cX10_expression 187 = .ok (.iload_n 2, 1) := dk_28 (dk_at dksX10_expression_7 21 rfl rfl)
theorem dX10_expression_188 : decode cX10_expression 188 = .ok (.ifCond .ne 22, 3) := dk_154 0 22 (dk_at dksX10_expression_8 0 rfl rfl)
theorem dX10_expression_191 : decode cX10_expression 191 = .ok (.aload_n 0, 1) := dk_42 (dk_at dksX10_expression_8 3 rfl rfl)
theorem dX10_expression_192 : decode cX10_expression 192 = .ok (.getfield 248, 3) := dk_180 0 248 (dk_at dksX10_expression_8 4 rfl rfl)
theorem dX10_expression_195 : decode cX10_expression 195 = .ok (.iload_n 1, 1) := dk_27 (dk_at dksX10_expression_8 7 rfl rfl)
theorem dX10_expression_196 : decode cX10_expression 196 = .ok (.if_icmp .le 8, 3) := dk_164 0 8 (dk_at dksX10_expression_8 8 rfl rfl)
theorem dX10_expression_199 : decode cX10_expression 199 = .ok (.aload_n 0, 1) := dk_42 (dk_at dksX10_expression_8 11 rfl rfl)
theorem dX10_expression_200 : decode cX10_expression 200 = .ok (.iconst 1, 1) := dk_4 (dk_at dksX10_expression_8 12 rfl rfl)
theorem dX10_expression_201 : decode cX10_expression 201 = .ok (.invokevirtual 236, 3) := dk_182 0 236 (dk_at dksX10_expression_8 13 rfl rfl)
theorem dX10_expression_204 : decode cX10_expression 204 = .ok (.aload_n 0, 1) := dk_42 (dk_at dksX10_expression_8 16 rfl rfl)
theorem dX10_expression_205 : decode cX10_expression 205 = .ok (.iconst 0, 1) := dk_3 (dk_at dksX10_expression_8 17 rfl rfl)
theorem dX10_expression_206 : decode cX10_expression 206 = .ok (.invokevirtual 326, 3) := dk_182 1 70 (dk_at dksX10_expression_8 18 rfl rfl)
theorem dX10_expression_209 : decode cX10_expression 209 = .ok (.return_, 1) := dk_177 (dk_at dksX10_expression_8 21 rfl rfl)
theorem dX10_expression_210 : decode cX10_expression 210 = .ok (.aload_n 0, 1) := dk_42 (dk_at dksX10_expression_8 22 rfl rfl)
theorem dX10_expression_211 : decode cX10_expression 211 = .ok (.aload_n 0, 1) := dk_42 (dk_at dksX10_expression_8 23 rfl rfl)
theorem dX10_expression_212 : decode cX10_expression 212 = .ok (.bipush 10, 2) := dk_16 10 (dk_at dksX10_expression_9 0 rfl rfl)
theorem dX10_expression_214 : decode cX10_expression 214 = .ok (.invokevirtual 239, 3) := dk_182 0 239 (dk_at dksX10_expression_9 2 rfl rfl)
theorem dX10_expression_217 : decode cX10_expression 217 = .ok (.ifCond .ne 12, 3) := dk_154 0 12 (dk_at dksX10_expression_9 5 rfl rfl)
theorem dX10_expression_220 : decode cX10_expression 220 = .ok (.aload_n 0, 1) := dk_42 (dk_at dksX10_expression_9 8 rfl rfl)
theorem dX10_expression_221 : decode cX10_expression 221 = .ok (.bipush 15, 2) := dk_16 15 (dk_at dksX10_expression_9 9 rfl rfl)
theorem dX10_expression_223 : decode cX10_expression 223 = .ok (.invokevirtual 239, 3) := dk_182 0 239 (dk_at dksX10_expression_9 11 rfl rfl)
theorem dX10_expression_226 : decode cX10_expression 226 = .ok (.ifCond .eq 7, 3) := dk_153 0 7 (dk_at dksX10_expression_9 14 rfl rfl)
theorem dX10_expression_229 : decode cX10_expression 229 = .ok (.iconst 1, 1) := dk_4 (dk_at dksX10_expression_9 17 rfl rfl)
theorem dX10_expression_230 : decode cX10_expression 230 = .ok (.goto 4, 3) := dk_167 0 4 (dk_at dksX10_expression_9 18 rfl rfl)
theorem dX10_expression_233 : decode cX10_expression 233 = .ok (.iconst 0, 1) := dk_3 (dk_at dksX10_expression_9 21 rfl rfl)
theorem dX10_expression_234 : decode cX10_expression 234 = .ok (.invokevirtual 326, 3) := dk_182 1 70 (dk_at dksX10_expression_10 0 rfl rfl)
theorem dX10_expression_237 : decode cX10_expression 237 = .ok (.aload_n 0, 1) := dk_42 (dk_at dksX10_expression_10 3 rfl rfl)
theorem dX10_expression_238 : decode cX10_expression 238 = .ok (.getfield 116, 3) := dk_180 0 116 (dk_at dksX10_expression_10 4 rfl rfl)
theorem dX10_expression_241 : decode cX10_expression 241 = .ok (.aload_n 0, 1) := dk_42 (dk_at dksX10_expression_10 7 rfl rfl)
theorem dX10_expression_242 : decode cX10_expression 242 = .ok (.getfield 317, 3) := dk_180 1 61 (dk_at dksX10_expression_10 8 rfl rfl)
theorem dX10_expression_245 : decode cX10_expression 245 = .ok (.aload_n 0, 1) := dk_42 (dk_at dksX10_expression_10 11 rfl rfl)
theorem dX10_expression_246 : decode cX10_expression 246 = .ok (.getfield 20, 3) := dk_180 0 20 (dk_at dksX10_expression_10 12 rfl rfl)
theorem dX10_expression_249 : decode cX10_expression 249 = .ok (.aload_n 0, 1) := dk_42 (dk_at dksX10_expression_10 15 rfl rfl)
theorem dX10_expression_250 : decode cX10_expression 250 = .ok (.getfield 224, 3) := dk_180 0 224 (dk_at dksX10_expression_10 16 rfl rfl)
theorem dX10_expression_253 : decode cX10_expression 253 = .ok (.iaload, 1) := dk_46 (dk_at dksX10_expression_10 19 rfl rfl)
theorem dX10_expression_254 : decode cX10_expression 254 = .ok (.iastore, 1) := dk_79 (dk_at dksX10_expression_10 20 rfl rfl)
theorem dX10_expression_255 : decode cX10_expression 255 = .ok (.aload_n 0, 1) := dk_42 (dk_at dksX10_expression_10 21 rfl rfl)
theorem dX10_expression_256 : decode cX10_expression 256 = .ok (.dup, 1) := dk_89 (dk_at dksX10_expression_10 22 rfl rfl)
theorem dX10_expression_257 : decode cX10_expression 257 = .ok (.getfield 317, 3) := dk_180 1 61 (dk_at dksX10_expression_11 0 rfl rfl)
theorem dX10_expression_260 : decode cX10_expression 260 = .ok (.iconst 1, 1) := dk_4 (dk_at dksX10_expression_11 3 rfl rfl)
theorem dX10_expression_261 : decode cX10_expression 261 = .ok (.iadd, 1) := dk_96 (dk_at dksX10_expression_11 4 rfl rfl)
theorem dX10_expression_262 : decode cX10_expression 262 = .ok (.putfield 317, 3) := dk_181 1 61 (dk_at dksX10_expression_11 5 rfl rfl)
theorem dX10_expression_265 : decode cX10_expression 265 = .ok (.aload_n 0, 1) := dk_42 (dk_at dksX10_expression_11 8 rfl rfl)
theorem dX10_expression_266 : decode cX10_expression 266 = .ok (.invokevirtual 242, 3) := dk_182 0 242 (dk_at dksX10_expression_11 9 rfl rfl)
theorem dX10_expression_269 : decode cX10_expression 269 = .ok (.goto (-257), 3) := dk_167 254 255 (dk_at dksX10_expression_11 12 rfl rfl)
theorem dX10_expression_272 : decode cX10_expression 272 = .ok (.return_, 1) := dk_177 (dk_at dksX10_expression_11 15 rfl rfl)
abbrev cX10_unit : ByteArray := prog_22_method_36_code
def yX10_unit : MethodName := ⟨RX10, "unit", "()V"⟩
def dkwX10_unit_3 : List UInt8 := [180, 0, 224, 46, 16, 34, 100, 182, 1, 64, 42, 182, 0, 242, 167, 0, 8, 42, 4, 182, 0, 236, 177]
abbrev dktX10_unit_3 : List UInt8 := dkwX10_unit_3 ++ []
def dkwX10_unit_2 : List UInt8 := [161, 0, 41, 42, 180, 0, 20, 42, 180, 0, 224, 46, 16, 42, 163, 0, 27, 42, 4, 42, 180, 0, 20, 42]
abbrev dktX10_unit_2 : List UInt8 := dkwX10_unit_2 ++ dktX10_unit_3
def dkwX10_unit_1 : List UInt8 := [182, 0, 242, 167, 0, 67, 42, 180, 0, 221, 154, 0, 55, 42, 180, 0, 20, 42, 180, 0, 224, 46, 16, 34]
abbrev dktX10_unit_1 : List UInt8 := dkwX10_unit_1 ++ dktX10_unit_2
def dkwX10_unit_0 : List UInt8 := [42, 5, 182, 0, 239, 153, 0, 24, 42, 3, 42, 180, 0, 27, 42, 180, 0, 224, 46, 182, 1, 64, 42]
abbrev dktX10_unit_0 : List UInt8 := dkwX10_unit_0 ++ dktX10_unit_1
theorem dksX10_unit_0 : cX10_unit.data.toList.drop 0 = dktX10_unit_0 := by decide +kernel
theorem dksX10_unit_1 : cX10_unit.data.toList.drop 23 = dktX10_unit_1 := dk_seg dksX10_unit_0 23 rfl rfl
theorem dksX10_unit_2 : cX10_unit.data.toList.drop 47 = dktX10_unit_2 := dk_seg dksX10_unit_1 24 rfl rfl
theorem dksX10_unit_3 : cX10_unit.data.toList.drop 71 = dktX10_unit_3 := dk_seg dksX10_unit_2 24 rfl rfl
theorem dX10_unit_0 : decode cX10_unit 0 = .ok (.aload_n 0, 1) := dk_42 (dk_at dksX10_unit_0 0 rfl rfl)
theorem dX10_unit_1 : decode cX10_unit 1 = .ok (.iconst 2, 1) := dk_5 (dk_at dksX10_unit_0 1 rfl rfl)
theorem dX10_unit_2 : decode cX10_unit 2 = .ok (.invokevirtual 239, 3) := dk_182 0 239 (dk_at dksX10_unit_0 2 rfl rfl)
theorem dX10_unit_5 : decode cX10_unit 5 = .ok (.ifCond .eq 24, 3) := dk_153 0 24 (dk_at dksX10_unit_0 5 rfl rfl)
theorem dX10_unit_8 : decode cX10_unit 8 = .ok (.aload_n 0, 1) := dk_42 (dk_at dksX10_unit_0 8 rfl rfl)
theorem dX10_unit_9 : decode cX10_unit 9 = .ok (.iconst 0, 1) := dk_3 (dk_at dksX10_unit_0 9 rfl rfl)
theorem dX10_unit_10 : decode cX10_unit 10 = .ok (.aload_n 0, 1) := dk_42 (dk_at dksX10_unit_0 10 rfl rfl)
theorem dX10_unit_11 : decode cX10_unit 11 = .ok (.getfield 27, 3) := dk_180 0 27 (dk_at dksX10_unit_0 11 rfl rfl)
theorem dX10_unit_14 : decode cX10_unit 14 = .ok (.aload_n 0, 1) := dk_42 (dk_at dksX10_unit_0 14 rfl rfl)
theorem dX10_unit_15 : decode cX10_unit 15 = .ok (.getfield 224, 3) := dk_180 0 224 (dk_at dksX10_unit_0 15 rfl rfl)
theorem dX10_unit_18 : decode cX10_unit 18 = .ok (.iaload, 1) := dk_46 (dk_at dksX10_unit_0 18 rfl rfl)
theorem dX10_unit_19 : decode cX10_unit 19 = .ok (.invokevirtual 320, 3) := dk_182 1 64 (dk_at dksX10_unit_0 19 rfl rfl)
theorem dX10_unit_22 : decode cX10_unit 22 = .ok (.aload_n 0, 1) := dk_42 (dk_at dksX10_unit_0 22 rfl rfl)
theorem dX10_unit_23 : decode cX10_unit 23 = .ok (.invokevirtual 242, 3) := dk_182 0 242 (dk_at dksX10_unit_1 0 rfl rfl)
theorem dX10_unit_26 : decode cX10_unit 26 = .ok (.goto 67, 3) := dk_167 0 67 (dk_at dksX10_unit_1 3 rfl rfl)
theorem dX10_unit_29 : decode cX10_unit 29 = .ok (.aload_n 0, 1) := dk_42 (dk_at dksX10_unit_1 6 rfl rfl)
theorem dX10_unit_30 : decode cX10_unit 30 = .ok (.getfield 221, 3) := dk_180 0 221 (dk_at dksX10_unit_1 7 rfl rfl)
theorem dX10_unit_33 : decode cX10_unit 33 = .ok (.ifCond .ne 55, 3) := dk_154 0 55 (dk_at dksX10_unit_1 10 rfl rfl)
theorem dX10_unit_36 : decode cX10_unit 36 = .ok (.aload_n 0, 1) := dk_42 (dk_at dksX10_unit_1 13 rfl rfl)
theorem dX10_unit_37 : decode cX10_unit 37 = .ok (.getfield 20, 3) := dk_180 0 20 (dk_at dksX10_unit_1 14 rfl rfl)
theorem dX10_unit_40 : decode cX10_unit 40 = .ok (.aload_n 0, 1) := dk_42 (dk_at dksX10_unit_1 17 rfl rfl)
theorem dX10_unit_41 : decode cX10_unit 41 = .ok (.getfield 224, 3) := dk_180 0 224 (dk_at dksX10_unit_1 18 rfl rfl)
theorem dX10_unit_44 : decode cX10_unit 44 = .ok (.iaload, 1) := dk_46 (dk_at dksX10_unit_1 21 rfl rfl)
theorem dX10_unit_45 : decode cX10_unit 45 = .ok (.bipush 34, 2) := dk_16 34 (dk_at dksX10_unit_1 22 rfl rfl)
theorem dX10_unit_47 : decode cX10_unit 47 = .ok (.if_icmp .lt 41, 3) := dk_161 0 41 (dk_at dksX10_unit_2 0 rfl rfl)
theorem dX10_unit_50 : decode cX10_unit 50 = .ok (.aload_n 0, 1) := dk_42 (dk_at dksX10_unit_2 3 rfl rfl)
theorem dX10_unit_51 : decode cX10_unit 51 = .ok (.getfield 20, 3) := dk_180 0 20 (dk_at dksX10_unit_2 4 rfl rfl)
theorem dX10_unit_54 : decode cX10_unit 54 = .ok (.aload_n 0, 1) := dk_42 (dk_at dksX10_unit_2 7 rfl rfl)
theorem dX10_unit_55 : decode cX10_unit 55 = .ok (.getfield 224, 3) := dk_180 0 224 (dk_at dksX10_unit_2 8 rfl rfl)
theorem dX10_unit_58 : decode cX10_unit 58 = .ok (.iaload, 1) := dk_46 (dk_at dksX10_unit_2 11 rfl rfl)
theorem dX10_unit_59 : decode cX10_unit 59 = .ok (.bipush 42, 2) := dk_16 42 (dk_at dksX10_unit_2 12 rfl rfl)
theorem dX10_unit_61 : decode cX10_unit 61 = .ok (.if_icmp .gt 27, 3) := dk_163 0 27 (dk_at dksX10_unit_2 14 rfl rfl)
theorem dX10_unit_64 : decode cX10_unit 64 = .ok (.aload_n 0, 1) := dk_42 (dk_at dksX10_unit_2 17 rfl rfl)
theorem dX10_unit_65 : decode cX10_unit 65 = .ok (.iconst 1, 1) := dk_4 (dk_at dksX10_unit_2 18 rfl rfl)
theorem dX10_unit_66 : decode cX10_unit 66 = .ok (.aload_n 0, 1) := dk_42 (dk_at dksX10_unit_2 19 rfl rfl)
theorem dX10_unit_67 : decode cX10_unit 67 = .ok (.getfield 20, 3) := dk_180 0 20 (dk_at dksX10_unit_2 20 rfl rfl)
theorem dX10_unit_70 : decode cX10_unit 70 = .ok (.aload_n 0, 1) := dk_42 (dk_at dksX10_unit_2 23 rfl rfl)
theorem dX10_unit_71 : decode cX10_unit 71 = .ok (.getfield 224, 3) := dk_180 0 224 (dk_at dksX10_unit_3 0 rfl rfl)
theorem dX10_unit_74 : decode cX10_unit 74 = .ok (.iaload, 1) := dk_46 (dk_at dksX10_unit_3 3 rfl rfl)
theorem dX10_unit_75 : decode cX10_unit 75 = .ok (.bipush 34, 2) := dk_16 34 (dk_at dksX10_unit_3 4 rfl rfl)
theorem dX10_unit_77 : decode cX10_unit 77 = .ok (.isub, 1) := dk_100 (dk_at dksX10_unit_3 6 rfl rfl)
theorem dX10_unit_78 : decode cX10_unit 78 = .ok (.invokevirtual 320, 3) := dk_182 1 64 (dk_at dksX10_unit_3 7 rfl rfl)
theorem dX10_unit_81 : decode cX10_unit 81 = .ok (.aload_n 0, 1) := dk_42 (dk_at dksX10_unit_3 10 rfl rfl)
theorem dX10_unit_82 : decode cX10_unit 82 = .ok (.invokevirtual 242, 3) := dk_182 0 242 (dk_at dksX10_unit_3 11 rfl rfl)
theorem dX10_unit_85 : decode cX10_unit 85 = .ok (.goto 8, 3) := dk_167 0 8 (dk_at dksX10_unit_3 14 rfl rfl)
theorem dX10_unit_88 : decode cX10_unit 88 = .ok (.aload_n 0, 1) := dk_42 (dk_at dksX10_unit_3 17 rfl rfl)
theorem dX10_unit_89 : decode cX10_unit 89 = .ok (.iconst 1, 1) := dk_4 (dk_at dksX10_unit_3 18 rfl rfl)
theorem dX10_unit_90 : decode cX10_unit 90 = .ok (.invokevirtual 236, 3) := dk_182 0 236 (dk_at dksX10_unit_3 19 rfl rfl)
theorem dX10_unit_93 : decode cX10_unit 93 = .ok (.return_, 1) := dk_177 (dk_at dksX10_unit_3 22 rfl rfl)
abbrev cX10_emit : ByteArray := prog_22_method_33_code
def yX10_emit : MethodName := ⟨RX10, "emit", "(II)V"⟩
def dkwX10_emit_1 : List UInt8 := [180, 1, 7, 4, 96, 181, 1, 7, 177]
abbrev dktX10_emit_1 : List UInt8 := dkwX10_emit_1 ++ []
def dkwX10_emit_0 : List UInt8 := [42, 180, 0, 110, 42, 180, 1, 7, 27, 79, 42, 180, 0, 113, 42, 180, 1, 7, 28, 79, 42, 89]
abbrev dktX10_emit_0 : List UInt8 := dkwX10_emit_0 ++ dktX10_emit_1
theorem dksX10_emit_0 : cX10_emit.data.toList.drop 0 = dktX10_emit_0 := by decide +kernel
theorem dksX10_emit_1 : cX10_emit.data.toList.drop 22 = dktX10_emit_1 := dk_seg dksX10_emit_0 22 rfl rfl
theorem dX10_emit_0 : decode cX10_emit 0 = .ok (.aload_n 0, 1) := dk_42 (dk_at dksX10_emit_0 0 rfl rfl)
theorem dX10_emit_1 : decode cX10_emit 1 = .ok (.getfield 110, 3) := dk_180 0 110 (dk_at dksX10_emit_0 1 rfl rfl)
theorem dX10_emit_4 : decode cX10_emit 4 = .ok (.aload_n 0, 1) := dk_42 (dk_at dksX10_emit_0 4 rfl rfl)
theorem dX10_emit_5 : decode cX10_emit 5 = .ok (.getfield 263, 3) := dk_180 1 7 (dk_at dksX10_emit_0 5 rfl rfl)
theorem dX10_emit_8 : decode cX10_emit 8 = .ok (.iload_n 1, 1) := dk_27 (dk_at dksX10_emit_0 8 rfl rfl)
theorem dX10_emit_9 : decode cX10_emit 9 = .ok (.iastore, 1) := dk_79 (dk_at dksX10_emit_0 9 rfl rfl)
theorem dX10_emit_10 : decode cX10_emit 10 = .ok (.aload_n 0, 1) := dk_42 (dk_at dksX10_emit_0 10 rfl rfl)
theorem dX10_emit_11 : decode cX10_emit 11 = .ok (.getfield 113, 3) := dk_180 0 113 (dk_at dksX10_emit_0 11 rfl rfl)
theorem dX10_emit_14 : decode cX10_emit 14 = .ok (.aload_n 0, 1) := dk_42 (dk_at dksX10_emit_0 14 rfl rfl)
theorem dX10_emit_15 : decode cX10_emit 15 = .ok (.getfield 263, 3) := dk_180 1 7 (dk_at dksX10_emit_0 15 rfl rfl)
theorem dX10_emit_18 : decode cX10_emit 18 = .ok (.iload_n 2, 1) := dk_28 (dk_at dksX10_emit_0 18 rfl rfl)
theorem dX10_emit_19 : decode cX10_emit 19 = .ok (.iastore, 1) := dk_79 (dk_at dksX10_emit_0 19 rfl rfl)
theorem dX10_emit_20 : decode cX10_emit 20 = .ok (.aload_n 0, 1) := dk_42 (dk_at dksX10_emit_0 20 rfl rfl)
theorem dX10_emit_21 : decode cX10_emit 21 = .ok (.dup, 1) := dk_89 (dk_at dksX10_emit_0 21 rfl rfl)
theorem dX10_emit_22 : decode cX10_emit 22 = .ok (.getfield 263, 3) := dk_180 1 7 (dk_at dksX10_emit_1 0 rfl rfl)
theorem dX10_emit_25 : decode cX10_emit 25 = .ok (.iconst 1, 1) := dk_4 (dk_at dksX10_emit_1 3 rfl rfl)
theorem dX10_emit_26 : decode cX10_emit 26 = .ok (.iadd, 1) := dk_96 (dk_at dksX10_emit_1 4 rfl rfl)
theorem dX10_emit_27 : decode cX10_emit 27 = .ok (.putfield 263, 3) := dk_181 1 7 (dk_at dksX10_emit_1 5 rfl rfl)
theorem dX10_emit_30 : decode cX10_emit 30 = .ok (.return_, 1) := dk_177 (dk_at dksX10_emit_1 8 rfl rfl)
abbrev cX10_comesOut : ByteArray := prog_22_method_34_code
def yX10_comesOut : MethodName := ⟨RX10, "comesOut", "(Z)V"⟩
def dkwX10_comesOut_4 : List UInt8 := [167, 255, 168, 177]
abbrev dktX10_comesOut_4 : List UInt8 := dkwX10_comesOut_4 ++ []
def dkwX10_comesOut_3 : List UInt8 := [160, 0, 7, 6, 167, 0, 14, 28, 16, 10, 160, 0, 7, 7, 167, 0, 4, 8, 3, 182, 1, 64]
abbrev dktX10_comesOut_3 : List UInt8 := dkwX10_comesOut_3 ++ dktX10_comesOut_4
def dkwX10_comesOut_2 : List UInt8 := [180, 1, 61, 4, 100, 181, 1, 61, 42, 28, 16, 8, 160, 0, 7, 5, 167, 0, 24, 28, 16, 9]
abbrev dktX10_comesOut_2 : List UInt8 := dkwX10_comesOut_2 ++ dktX10_comesOut_3
def dkwX10_comesOut_1 : List UInt8 := [159, 0, 19, 27, 153, 0, 16, 28, 16, 8, 159, 0, 9, 28, 16, 9, 160, 0, 4, 177, 42, 89]
abbrev dktX10_comesOut_1 : List UInt8 := dkwX10_comesOut_1 ++ dktX10_comesOut_2
def dkwX10_comesOut_0 : List UInt8 := [42, 180, 1, 61, 158, 0, 87, 42, 180, 0, 116, 42, 180, 1, 61, 4, 100, 46, 61, 28, 16, 6]
abbrev dktX10_comesOut_0 : List UInt8 := dkwX10_comesOut_0 ++ dktX10_comesOut_1
theorem dksX10_comesOut_0 : cX10_comesOut.data.toList.drop 0 = dktX10_comesOut_0 := by decide +kernel
theorem dksX10_comesOut_1 : cX10_comesOut.data.toList.drop 22 = dktX10_comesOut_1 := dk_seg dksX10_comesOut_0 22 rfl rfl
theorem dksX10_comesOut_2 : cX10_comesOut.data.toList.drop 44 = dktX10_comesOut_2 := dk_seg dksX10_comesOut_1 22 rfl rfl
theorem dksX10_comesOut_3 : cX10_comesOut.data.toList.drop 66 = dktX10_comesOut_3 := dk_seg dksX10_comesOut_2 22 rfl rfl
theorem dksX10_comesOut_4 : cX10_comesOut.data.toList.drop 88 = dktX10_comesOut_4 := dk_seg dksX10_comesOut_3 22 rfl rfl
theorem dX10_comesOut_0 : decode cX10_comesOut 0 = .ok (.aload_n 0, 1) := dk_42 (dk_at dksX10_comesOut_0 0 rfl rfl)
theorem dX10_comesOut_1 : decode cX10_comesOut 1 = .ok (.getfield 317, 3) := dk_180 1 61 (dk_at dksX10_comesOut_0 1 rfl rfl)
theorem dX10_comesOut_4 : decode cX10_comesOut 4 = .ok (.ifCond .le 87, 3) := dk_158 0 87 (dk_at dksX10_comesOut_0 4 rfl rfl)
theorem dX10_comesOut_7 : decode cX10_comesOut 7 = .ok (.aload_n 0, 1) := dk_42 (dk_at dksX10_comesOut_0 7 rfl rfl)
theorem dX10_comesOut_8 : decode cX10_comesOut 8 = .ok (.getfield 116, 3) := dk_180 0 116 (dk_at dksX10_comesOut_0 8 rfl rfl)
theorem dX10_comesOut_11 : decode cX10_comesOut 11 = .ok (.aload_n 0, 1) := dk_42 (dk_at dksX10_comesOut_0 11 rfl rfl)
theorem dX10_comesOut_12 : decode cX10_comesOut 12 = .ok (.getfield 317, 3) := dk_180 1 61 (dk_at dksX10_comesOut_0 12 rfl rfl)
theorem dX10_comesOut_15 : decode cX10_comesOut 15 = .ok (.iconst 1, 1) := dk_4 (dk_at dksX10_comesOut_0 15 rfl rfl)
theorem dX10_comesOut_16 : decode cX10_comesOut 16 = .ok (.isub, 1) := dk_100 (dk_at dksX10_comesOut_0 16 rfl rfl)
theorem dX10_comesOut_17 : decode cX10_comesOut 17 = .ok (.iaload, 1) := dk_46 (dk_at dksX10_comesOut_0 17 rfl rfl)
theorem dX10_comesOut_18 : decode cX10_comesOut 18 = .ok (.istore_n 2, 1) := dk_61 (dk_at dksX10_comesOut_0 18 rfl rfl)
theorem dX10_comesOut_19 : decode cX10_comesOut 19 = .ok (.iload_n 2, 1) := dk_28 (dk_at dksX10_comesOut_0 19 rfl rfl)
theorem dX10_comesOut_20 : decode cX10_comesOut 20 = .ok (.bipush 6, 2) := dk_16 6 (dk_at dksX10_comesOut_0 20 rfl rfl)
theorem dX10_comesOut_22 : decode cX10_comesOut 22 = .ok (.if_icmp .eq 19, 3) := dk_159 0 19 (dk_at dksX10_comesOut_1 0 rfl rfl)
theorem dX10_comesOut_25 : decode cX10_comesOut 25 = .ok (.iload_n 1, 1) := dk_27 (dk_at dksX10_comesOut_1 3 rfl rfl)
theorem dX10_comesOut_26 : decode cX10_comesOut 26 = .ok (.ifCond .eq 16, 3) := dk_153 0 16 (dk_at dksX10_comesOut_1 4 rfl rfl)
theorem dX10_comesOut_29 : decode cX10_comesOut 29 = .ok (.iload_n 2, 1) := dk_28 (dk_at dksX10_comesOut_1 7 rfl rfl)
theorem dX10_comesOut_30 : decode cX10_comesOut 30 = .ok (.bipush 8, 2) := dk_16 8 (dk_at dksX10_comesOut_1 8 rfl rfl)
theorem dX10_comesOut_32 : decode cX10_comesOut 32 = .ok (.if_icmp .eq 9, 3) := dk_159 0 9 (dk_at dksX10_comesOut_1 10 rfl rfl)
theorem dX10_comesOut_35 : decode cX10_comesOut 35 = .ok (.iload_n 2, 1) := dk_28 (dk_at dksX10_comesOut_1 13 rfl rfl)
theorem dX10_comesOut_36 : decode cX10_comesOut 36 = .ok (.bipush 9, 2) := dk_16 9 (dk_at dksX10_comesOut_1 14 rfl rfl)
theorem dX10_comesOut_38 : decode cX10_comesOut 38 = .ok (.if_icmp .ne 4, 3) := dk_160 0 4 (dk_at dksX10_comesOut_1 16 rfl rfl)
theorem dX10_comesOut_41 : decode cX10_comesOut 41 = .ok (.return_, 1) := dk_177 (dk_at dksX10_comesOut_1 19 rfl rfl)
theorem dX10_comesOut_42 : decode cX10_comesOut 42 = .ok (.aload_n 0, 1) := dk_42 (dk_at dksX10_comesOut_1 20 rfl rfl)
theorem dX10_comesOut_43 : decode cX10_comesOut 43 = .ok (.dup, 1) := dk_89 (dk_at dksX10_comesOut_1 21 rfl rfl)
theorem dX10_comesOut_44 : decode cX10_comesOut 44 = .ok (.getfield 317, 3) := dk_180 1 61 (dk_at dksX10_comesOut_2 0 rfl rfl)
theorem dX10_comesOut_47 : decode cX10_comesOut 47 = .ok (.iconst 1, 1) := dk_4 (dk_at dksX10_comesOut_2 3 rfl rfl)
theorem dX10_comesOut_48 : decode cX10_comesOut 48 = .ok (.isub, 1) := dk_100 (dk_at dksX10_comesOut_2 4 rfl rfl)
theorem dX10_comesOut_49 : decode cX10_comesOut 49 = .ok (.putfield 317, 3) := dk_181 1 61 (dk_at dksX10_comesOut_2 5 rfl rfl)
theorem dX10_comesOut_52 : decode cX10_comesOut 52 = .ok (.aload_n 0, 1) := dk_42 (dk_at dksX10_comesOut_2 8 rfl rfl)
theorem dX10_comesOut_53 : decode cX10_comesOut 53 = .ok (.iload_n 2, 1) := dk_28 (dk_at dksX10_comesOut_2 9 rfl rfl)
theorem dX10_comesOut_54 : decode cX10_comesOut 54 = .ok (.bipush 8, 2) := dk_16 8 (dk_at dksX10_comesOut_2 10 rfl rfl)
theorem dX10_comesOut_56 : decode cX10_comesOut 56 = .ok (.if_icmp .ne 7, 3) := dk_160 0 7 (dk_at dksX10_comesOut_2 12 rfl rfl)
theorem dX10_comesOut_59 : decode cX10_comesOut 59 = .ok (.iconst 2, 1) := dk_5 (dk_at dksX10_comesOut_2 15 rfl rfl)
theorem dX10_comesOut_60 : decode cX10_comesOut 60 = .ok (.goto 24, 3) := dk_167 0 24 (dk_at dksX10_comesOut_2 16 rfl rfl)
theorem dX10_comesOut_63 : decode cX10_comesOut 63 = .ok (.iload_n 2, 1) := dk_28 (dk_at dksX10_comesOut_2 19 rfl rfl)
theorem dX10_comesOut_64 : decode cX10_comesOut 64 = .ok (.bipush 9, 2) := dk_16 9 (dk_at dksX10_comesOut_2 20 rfl rfl)
theorem dX10_comesOut_66 : decode cX10_comesOut 66 = .ok (.if_icmp .ne 7, 3) := dk_160 0 7 (dk_at dksX10_comesOut_3 0 rfl rfl)
theorem dX10_comesOut_69 : decode cX10_comesOut 69 = .ok (.iconst 3, 1) := dk_6 (dk_at dksX10_comesOut_3 3 rfl rfl)
theorem dX10_comesOut_70 : decode cX10_comesOut 70 = .ok (.goto 14, 3) := dk_167 0 14 (dk_at dksX10_comesOut_3 4 rfl rfl)
theorem dX10_comesOut_73 : decode cX10_comesOut 73 = .ok (.iload_n 2, 1) := dk_28 (dk_at dksX10_comesOut_3 7 rfl rfl)
theorem dX10_comesOut_74 : decode cX10_comesOut 74 = .ok (.bipush 10, 2) := dk_16 10 (dk_at dksX10_comesOut_3 8 rfl rfl)
theorem dX10_comesOut_76 : decode cX10_comesOut 76 = .ok (.if_icmp .ne 7, 3) := dk_160 0 7 (dk_at dksX10_comesOut_3 10 rfl rfl)
theorem dX10_comesOut_79 : decode cX10_comesOut 79 = .ok (.iconst 4, 1) := dk_7 (dk_at dksX10_comesOut_3 13 rfl rfl)
theorem dX10_comesOut_80 : decode cX10_comesOut 80 = .ok (.goto 4, 3) := dk_167 0 4 (dk_at dksX10_comesOut_3 14 rfl rfl)
theorem dX10_comesOut_83 : decode cX10_comesOut 83 = .ok (.iconst 5, 1) := dk_8 (dk_at dksX10_comesOut_3 17 rfl rfl)
theorem dX10_comesOut_84 : decode cX10_comesOut 84 = .ok (.iconst 0, 1) := dk_3 (dk_at dksX10_comesOut_3 18 rfl rfl)
theorem dX10_comesOut_85 : decode cX10_comesOut 85 = .ok (.invokevirtual 320, 3) := dk_182 1 64 (dk_at dksX10_comesOut_3 19 rfl rfl)
theorem dX10_comesOut_88 : decode cX10_comesOut 88 = .ok (.goto (-88), 3) := dk_167 255 168 (dk_at dksX10_comesOut_4 0 rfl rfl)
theorem dX10_comesOut_91 : decode cX10_comesOut 91 = .ok (.return_, 1) := dk_177 (dk_at dksX10_comesOut_4 3 rfl rfl)
abbrev cX10_term : ByteArray := prog_22_method_32_code
def yX10_term : MethodName := ⟨RX10, "term", "()V"⟩
def dkwX10_term_1 : List UInt8 := [42, 180, 0, 107, 42, 180, 1, 4, 42, 180, 1, 7, 79, 42, 89, 180, 1, 4, 4, 96, 181, 1, 4, 177]
abbrev dktX10_term_1 : List UInt8 := dkwX10_term_1 ++ []
def dkwX10_term_0 : List UInt8 := [42, 180, 0, 104, 42, 180, 1, 4, 42, 180, 1, 7, 79, 42, 180, 0, 221, 154, 0, 7, 42, 182, 1, 55]
abbrev dktX10_term_0 : List UInt8 := dkwX10_term_0 ++ dktX10_term_1
theorem dksX10_term_0 : cX10_term.data.toList.drop 0 = dktX10_term_0 := by decide +kernel
theorem dksX10_term_1 : cX10_term.data.toList.drop 24 = dktX10_term_1 := dk_seg dksX10_term_0 24 rfl rfl
theorem dX10_term_0 : decode cX10_term 0 = .ok (.aload_n 0, 1) := dk_42 (dk_at dksX10_term_0 0 rfl rfl)
theorem dX10_term_1 : decode cX10_term 1 = .ok (.getfield 104, 3) := dk_180 0 104 (dk_at dksX10_term_0 1 rfl rfl)
theorem dX10_term_4 : decode cX10_term 4 = .ok (.aload_n 0, 1) := dk_42 (dk_at dksX10_term_0 4 rfl rfl)
theorem dX10_term_5 : decode cX10_term 5 = .ok (.getfield 260, 3) := dk_180 1 4 (dk_at dksX10_term_0 5 rfl rfl)
theorem dX10_term_8 : decode cX10_term 8 = .ok (.aload_n 0, 1) := dk_42 (dk_at dksX10_term_0 8 rfl rfl)
theorem dX10_term_9 : decode cX10_term 9 = .ok (.getfield 263, 3) := dk_180 1 7 (dk_at dksX10_term_0 9 rfl rfl)
theorem dX10_term_12 : decode cX10_term 12 = .ok (.iastore, 1) := dk_79 (dk_at dksX10_term_0 12 rfl rfl)
theorem dX10_term_13 : decode cX10_term 13 = .ok (.aload_n 0, 1) := dk_42 (dk_at dksX10_term_0 13 rfl rfl)
theorem dX10_term_14 : decode cX10_term 14 = .ok (.getfield 221, 3) := dk_180 0 221 (dk_at dksX10_term_0 14 rfl rfl)
theorem dX10_term_17 : decode cX10_term 17 = .ok (.ifCond .ne 7, 3) := dk_154 0 7 (dk_at dksX10_term_0 17 rfl rfl)
theorem dX10_term_20 : decode cX10_term 20 = .ok (.aload_n 0, 1) := dk_42 (dk_at dksX10_term_0 20 rfl rfl)
theorem dX10_term_21 : decode cX10_term 21 = .ok (.invokevirtual 311, 3) := dk_182 1 55 (dk_at dksX10_term_0 21 rfl rfl)
theorem dX10_term_24 : decode cX10_term 24 = .ok (.aload_n 0, 1) := dk_42 (dk_at dksX10_term_1 0 rfl rfl)
theorem dX10_term_25 : decode cX10_term 25 = .ok (.getfield 107, 3) := dk_180 0 107 (dk_at dksX10_term_1 1 rfl rfl)
theorem dX10_term_28 : decode cX10_term 28 = .ok (.aload_n 0, 1) := dk_42 (dk_at dksX10_term_1 4 rfl rfl)
theorem dX10_term_29 : decode cX10_term 29 = .ok (.getfield 260, 3) := dk_180 1 4 (dk_at dksX10_term_1 5 rfl rfl)
theorem dX10_term_32 : decode cX10_term 32 = .ok (.aload_n 0, 1) := dk_42 (dk_at dksX10_term_1 8 rfl rfl)
theorem dX10_term_33 : decode cX10_term 33 = .ok (.getfield 263, 3) := dk_180 1 7 (dk_at dksX10_term_1 9 rfl rfl)
theorem dX10_term_36 : decode cX10_term 36 = .ok (.iastore, 1) := dk_79 (dk_at dksX10_term_1 12 rfl rfl)
theorem dX10_term_37 : decode cX10_term 37 = .ok (.aload_n 0, 1) := dk_42 (dk_at dksX10_term_1 13 rfl rfl)
theorem dX10_term_38 : decode cX10_term 38 = .ok (.dup, 1) := dk_89 (dk_at dksX10_term_1 14 rfl rfl)
theorem dX10_term_39 : decode cX10_term 39 = .ok (.getfield 260, 3) := dk_180 1 4 (dk_at dksX10_term_1 15 rfl rfl)
theorem dX10_term_42 : decode cX10_term 42 = .ok (.iconst 1, 1) := dk_4 (dk_at dksX10_term_1 18 rfl rfl)
theorem dX10_term_43 : decode cX10_term 43 = .ok (.iadd, 1) := dk_96 (dk_at dksX10_term_1 19 rfl rfl)
theorem dX10_term_44 : decode cX10_term 44 = .ok (.putfield 260, 3) := dk_181 1 4 (dk_at dksX10_term_1 20 rfl rfl)
theorem dX10_term_47 : decode cX10_term 47 = .ok (.return_, 1) := dk_177 (dk_at dksX10_term_1 23 rfl rfl)
abbrev cX10_place : ByteArray := prog_22_method_21_code
def yX10_place : MethodName := ⟨RX10, "place", "()I"⟩
theorem dX10_place_0 : decode cX10_place 0 = .ok (.aload_n 0, 1) := by decide +kernel
theorem dX10_place_1 : decode cX10_place 1 = .ok (.getfield 37, 3) := by decide +kernel
theorem dX10_place_4 : decode cX10_place 4 = .ok (.ireturn, 1) := by decide +kernel
abbrev cX10_corner : ByteArray := prog_22_method_65_code
def yX10_corner : MethodName := ⟨RX10, "corner", "(II)I"⟩
def dkwX10_corner_3 : List UInt8 := [167, 0, 4, 3, 172, 42, 27, 182, 1, 142, 172, 2, 172]
abbrev dktX10_corner_3 : List UInt8 := dkwX10_corner_3 ++ []
def dkwX10_corner_2 : List UInt8 := [42, 27, 182, 1, 133, 172, 42, 27, 182, 1, 139, 172, 42, 180, 0, 128, 16, 46, 46, 27, 160, 0, 7, 4]
abbrev dktX10_corner_2 : List UInt8 := dkwX10_corner_2 ++ dktX10_corner_3
def dkwX10_corner_1 : List UInt8 := [170, 0, 0, 0, 64, 0, 0, 0, 0, 0, 0, 0, 3, 0, 0, 0, 29, 0, 0, 0, 35, 0, 0, 0, 41, 0, 0, 0, 58]
abbrev dktX10_corner_1 : List UInt8 := dkwX10_corner_1 ++ dktX10_corner_2
def dkwX10_corner_0 : List UInt8 := [42, 27, 182, 1, 136, 154, 0, 5, 2, 172, 42, 182, 1, 91, 28]
abbrev dktX10_corner_0 : List UInt8 := dkwX10_corner_0 ++ dktX10_corner_1
theorem dksX10_corner_0 : cX10_corner.data.toList.drop 0 = dktX10_corner_0 := by decide +kernel
theorem dksX10_corner_1 : cX10_corner.data.toList.drop 15 = dktX10_corner_1 := dk_seg dksX10_corner_0 15 rfl rfl
theorem dksX10_corner_2 : cX10_corner.data.toList.drop 44 = dktX10_corner_2 := dk_seg dksX10_corner_1 29 rfl rfl
theorem dksX10_corner_3 : cX10_corner.data.toList.drop 68 = dktX10_corner_3 := dk_seg dksX10_corner_2 24 rfl rfl
theorem dX10_corner_0 : decode cX10_corner 0 = .ok (.aload_n 0, 1) := dk_42 (dk_at dksX10_corner_0 0 rfl rfl)
theorem dX10_corner_1 : decode cX10_corner 1 = .ok (.iload_n 1, 1) := dk_27 (dk_at dksX10_corner_0 1 rfl rfl)
theorem dX10_corner_2 : decode cX10_corner 2 = .ok (.invokevirtual 392, 3) := dk_182 1 136 (dk_at dksX10_corner_0 2 rfl rfl)
theorem dX10_corner_5 : decode cX10_corner 5 = .ok (.ifCond .ne 5, 3) := dk_154 0 5 (dk_at dksX10_corner_0 5 rfl rfl)
theorem dX10_corner_8 : decode cX10_corner 8 = .ok (.iconst (-1), 1) := dk_2 (dk_at dksX10_corner_0 8 rfl rfl)
theorem dX10_corner_9 : decode cX10_corner 9 = .ok (.ireturn, 1) := dk_172 (dk_at dksX10_corner_0 9 rfl rfl)
theorem dX10_corner_10 : decode cX10_corner 10 = .ok (.aload_n 0, 1) := dk_42 (dk_at dksX10_corner_0 10 rfl rfl)
theorem dX10_corner_11 : decode cX10_corner 11 = .ok (.invokevirtual 347, 3) := dk_182 1 91 (dk_at dksX10_corner_0 11 rfl rfl)
theorem dX10_corner_14 : decode cX10_corner 14 = .ok (.iload_n 2, 1) := dk_28 (dk_at dksX10_corner_0 14 rfl rfl)
theorem dX10_corner_15 : decode cX10_corner 15 = .ok (.tableswitch 64 0 3 #[29, 35, 41, 58], 29) := by decide +kernel
theorem dX10_corner_44 : decode cX10_corner 44 = .ok (.aload_n 0, 1) := dk_42 (dk_at dksX10_corner_2 0 rfl rfl)
theorem dX10_corner_45 : decode cX10_corner 45 = .ok (.iload_n 1, 1) := dk_27 (dk_at dksX10_corner_2 1 rfl rfl)
theorem dX10_corner_46 : decode cX10_corner 46 = .ok (.invokevirtual 389, 3) := dk_182 1 133 (dk_at dksX10_corner_2 2 rfl rfl)
theorem dX10_corner_49 : decode cX10_corner 49 = .ok (.ireturn, 1) := dk_172 (dk_at dksX10_corner_2 5 rfl rfl)
theorem dX10_corner_50 : decode cX10_corner 50 = .ok (.aload_n 0, 1) := dk_42 (dk_at dksX10_corner_2 6 rfl rfl)
theorem dX10_corner_51 : decode cX10_corner 51 = .ok (.iload_n 1, 1) := dk_27 (dk_at dksX10_corner_2 7 rfl rfl)
theorem dX10_corner_52 : decode cX10_corner 52 = .ok (.invokevirtual 395, 3) := dk_182 1 139 (dk_at dksX10_corner_2 8 rfl rfl)
theorem dX10_corner_55 : decode cX10_corner 55 = .ok (.ireturn, 1) := dk_172 (dk_at dksX10_corner_2 11 rfl rfl)
theorem dX10_corner_56 : decode cX10_corner 56 = .ok (.aload_n 0, 1) := dk_42 (dk_at dksX10_corner_2 12 rfl rfl)
theorem dX10_corner_57 : decode cX10_corner 57 = .ok (.getfield 128, 3) := dk_180 0 128 (dk_at dksX10_corner_2 13 rfl rfl)
theorem dX10_corner_60 : decode cX10_corner 60 = .ok (.bipush 46, 2) := dk_16 46 (dk_at dksX10_corner_2 16 rfl rfl)
theorem dX10_corner_62 : decode cX10_corner 62 = .ok (.iaload, 1) := dk_46 (dk_at dksX10_corner_2 18 rfl rfl)
theorem dX10_corner_63 : decode cX10_corner 63 = .ok (.iload_n 1, 1) := dk_27 (dk_at dksX10_corner_2 19 rfl rfl)
theorem dX10_corner_64 : decode cX10_corner 64 = .ok (.if_icmp .ne 7, 3) := dk_160 0 7 (dk_at dksX10_corner_2 20 rfl rfl)
theorem dX10_corner_67 : decode cX10_corner 67 = .ok (.iconst 1, 1) := dk_4 (dk_at dksX10_corner_2 23 rfl rfl)
theorem dX10_corner_68 : decode cX10_corner 68 = .ok (.goto 4, 3) := dk_167 0 4 (dk_at dksX10_corner_3 0 rfl rfl)
theorem dX10_corner_71 : decode cX10_corner 71 = .ok (.iconst 0, 1) := dk_3 (dk_at dksX10_corner_3 3 rfl rfl)
theorem dX10_corner_72 : decode cX10_corner 72 = .ok (.ireturn, 1) := dk_172 (dk_at dksX10_corner_3 4 rfl rfl)
theorem dX10_corner_73 : decode cX10_corner 73 = .ok (.aload_n 0, 1) := dk_42 (dk_at dksX10_corner_3 5 rfl rfl)
theorem dX10_corner_74 : decode cX10_corner 74 = .ok (.iload_n 1, 1) := dk_27 (dk_at dksX10_corner_3 6 rfl rfl)
theorem dX10_corner_75 : decode cX10_corner 75 = .ok (.invokevirtual 398, 3) := dk_182 1 142 (dk_at dksX10_corner_3 7 rfl rfl)
theorem dX10_corner_78 : decode cX10_corner 78 = .ok (.ireturn, 1) := dk_172 (dk_at dksX10_corner_3 10 rfl rfl)
theorem dX10_corner_79 : decode cX10_corner 79 = .ok (.iconst (-1), 1) := dk_2 (dk_at dksX10_corner_3 11 rfl rfl)
theorem dX10_corner_80 : decode cX10_corner 80 = .ok (.ireturn, 1) := dk_172 (dk_at dksX10_corner_3 12 rfl rfl)
abbrev cX10_isCorner : ByteArray := prog_22_method_41_code
def yX10_isCorner : MethodName := ⟨RX10, "isCorner", "(I)Z"⟩
def dkwX10_isCorner_0 : List UInt8 := [27, 3, 42, 180, 0, 46, 42, 180, 0, 251, 46, 4, 100, 184, 1, 78, 172]
abbrev dktX10_isCorner_0 : List UInt8 := dkwX10_isCorner_0 ++ []
theorem dksX10_isCorner_0 : cX10_isCorner.data.toList.drop 0 = dktX10_isCorner_0 := by decide +kernel
theorem dX10_isCorner_0 : decode cX10_isCorner 0 = .ok (.iload_n 1, 1) := dk_27 (dk_at dksX10_isCorner_0 0 rfl rfl)
theorem dX10_isCorner_1 : decode cX10_isCorner 1 = .ok (.iconst 0, 1) := dk_3 (dk_at dksX10_isCorner_0 1 rfl rfl)
theorem dX10_isCorner_2 : decode cX10_isCorner 2 = .ok (.aload_n 0, 1) := dk_42 (dk_at dksX10_isCorner_0 2 rfl rfl)
theorem dX10_isCorner_3 : decode cX10_isCorner 3 = .ok (.getfield 46, 3) := dk_180 0 46 (dk_at dksX10_isCorner_0 3 rfl rfl)
theorem dX10_isCorner_6 : decode cX10_isCorner 6 = .ok (.aload_n 0, 1) := dk_42 (dk_at dksX10_isCorner_0 6 rfl rfl)
theorem dX10_isCorner_7 : decode cX10_isCorner 7 = .ok (.getfield 251, 3) := dk_180 0 251 (dk_at dksX10_isCorner_0 7 rfl rfl)
theorem dX10_isCorner_10 : decode cX10_isCorner 10 = .ok (.iaload, 1) := dk_46 (dk_at dksX10_isCorner_0 10 rfl rfl)
theorem dX10_isCorner_11 : decode cX10_isCorner 11 = .ok (.iconst 1, 1) := dk_4 (dk_at dksX10_isCorner_0 11 rfl rfl)
theorem dX10_isCorner_12 : decode cX10_isCorner 12 = .ok (.isub, 1) := dk_100 (dk_at dksX10_isCorner_0 12 rfl rfl)
theorem dX10_isCorner_13 : decode cX10_isCorner 13 = .ok (.invokestatic 334, 3) := dk_184 1 78 (dk_at dksX10_isCorner_0 13 rfl rfl)
theorem dX10_isCorner_16 : decode cX10_isCorner 16 = .ok (.ireturn, 1) := dk_172 (dk_at dksX10_isCorner_0 16 rfl rfl)
abbrev cX10_in : ByteArray := prog_22_method_38_code
def yX10_in : MethodName := ⟨RX10, "in", "(III)Z"⟩
def dkwX10_in_0 : List UInt8 := [26, 27, 161, 0, 12, 26, 28, 163, 0, 7, 4, 167, 0, 4, 3, 172]
abbrev dktX10_in_0 : List UInt8 := dkwX10_in_0 ++ []
theorem dksX10_in_0 : cX10_in.data.toList.drop 0 = dktX10_in_0 := by decide +kernel
theorem dX10_in_0 : decode cX10_in 0 = .ok (.iload_n 0, 1) := dk_26 (dk_at dksX10_in_0 0 rfl rfl)
theorem dX10_in_1 : decode cX10_in 1 = .ok (.iload_n 1, 1) := dk_27 (dk_at dksX10_in_0 1 rfl rfl)
theorem dX10_in_2 : decode cX10_in 2 = .ok (.if_icmp .lt 12, 3) := dk_161 0 12 (dk_at dksX10_in_0 2 rfl rfl)
theorem dX10_in_5 : decode cX10_in 5 = .ok (.iload_n 0, 1) := dk_26 (dk_at dksX10_in_0 5 rfl rfl)
theorem dX10_in_6 : decode cX10_in 6 = .ok (.iload_n 2, 1) := dk_28 (dk_at dksX10_in_0 6 rfl rfl)
theorem dX10_in_7 : decode cX10_in 7 = .ok (.if_icmp .gt 7, 3) := dk_163 0 7 (dk_at dksX10_in_0 7 rfl rfl)
theorem dX10_in_10 : decode cX10_in 10 = .ok (.iconst 1, 1) := dk_4 (dk_at dksX10_in_0 10 rfl rfl)
theorem dX10_in_11 : decode cX10_in 11 = .ok (.goto 4, 3) := dk_167 0 4 (dk_at dksX10_in_0 11 rfl rfl)
theorem dX10_in_14 : decode cX10_in 14 = .ok (.iconst 0, 1) := dk_3 (dk_at dksX10_in_0 14 rfl rfl)
theorem dX10_in_15 : decode cX10_in 15 = .ok (.ireturn, 1) := dk_172 (dk_at dksX10_in_0 15 rfl rfl)
abbrev cX10_copies : ByteArray := prog_22_method_48_code
def yX10_copies : MethodName := ⟨RX10, "copies", "()V"⟩
def dkwX10_copies_1 : List UInt8 := [167, 255, 235, 42, 42, 180, 0, 85, 42, 180, 0, 251, 46, 181, 1, 85, 42, 3, 181, 1, 88, 177]
abbrev dktX10_copies_1 : List UInt8 := dkwX10_copies_1 ++ []
def dkwX10_copies_0 : List UInt8 := [3, 60, 27, 16, 48, 162, 0, 21, 42, 180, 0, 128, 27, 42, 180, 0, 125, 27, 46, 79, 132, 1, 1]
abbrev dktX10_copies_0 : List UInt8 := dkwX10_copies_0 ++ dktX10_copies_1
theorem dksX10_copies_0 : cX10_copies.data.toList.drop 0 = dktX10_copies_0 := by decide +kernel
theorem dksX10_copies_1 : cX10_copies.data.toList.drop 23 = dktX10_copies_1 := dk_seg dksX10_copies_0 23 rfl rfl
theorem dX10_copies_0 : decode cX10_copies 0 = .ok (.iconst 0, 1) := dk_3 (dk_at dksX10_copies_0 0 rfl rfl)
theorem dX10_copies_1 : decode cX10_copies 1 = .ok (.istore_n 1, 1) := dk_60 (dk_at dksX10_copies_0 1 rfl rfl)
theorem dX10_copies_2 : decode cX10_copies 2 = .ok (.iload_n 1, 1) := dk_27 (dk_at dksX10_copies_0 2 rfl rfl)
theorem dX10_copies_3 : decode cX10_copies 3 = .ok (.bipush 48, 2) := dk_16 48 (dk_at dksX10_copies_0 3 rfl rfl)
theorem dX10_copies_5 : decode cX10_copies 5 = .ok (.if_icmp .ge 21, 3) := dk_162 0 21 (dk_at dksX10_copies_0 5 rfl rfl)
theorem dX10_copies_8 : decode cX10_copies 8 = .ok (.aload_n 0, 1) := dk_42 (dk_at dksX10_copies_0 8 rfl rfl)
theorem dX10_copies_9 : decode cX10_copies 9 = .ok (.getfield 128, 3) := dk_180 0 128 (dk_at dksX10_copies_0 9 rfl rfl)
theorem dX10_copies_12 : decode cX10_copies 12 = .ok (.iload_n 1, 1) := dk_27 (dk_at dksX10_copies_0 12 rfl rfl)
theorem dX10_copies_13 : decode cX10_copies 13 = .ok (.aload_n 0, 1) := dk_42 (dk_at dksX10_copies_0 13 rfl rfl)
theorem dX10_copies_14 : decode cX10_copies 14 = .ok (.getfield 125, 3) := dk_180 0 125 (dk_at dksX10_copies_0 14 rfl rfl)
theorem dX10_copies_17 : decode cX10_copies 17 = .ok (.iload_n 1, 1) := dk_27 (dk_at dksX10_copies_0 17 rfl rfl)
theorem dX10_copies_18 : decode cX10_copies 18 = .ok (.iaload, 1) := dk_46 (dk_at dksX10_copies_0 18 rfl rfl)
theorem dX10_copies_19 : decode cX10_copies 19 = .ok (.iastore, 1) := dk_79 (dk_at dksX10_copies_0 19 rfl rfl)
theorem dX10_copies_20 : decode cX10_copies 20 = .ok (.iinc 1 1, 3) := dk_132 1 1 (dk_at dksX10_copies_0 20 rfl rfl)
theorem dX10_copies_23 : decode cX10_copies 23 = .ok (.goto (-21), 3) := dk_167 255 235 (dk_at dksX10_copies_1 0 rfl rfl)
theorem dX10_copies_26 : decode cX10_copies 26 = .ok (.aload_n 0, 1) := dk_42 (dk_at dksX10_copies_1 3 rfl rfl)
theorem dX10_copies_27 : decode cX10_copies 27 = .ok (.aload_n 0, 1) := dk_42 (dk_at dksX10_copies_1 4 rfl rfl)
theorem dX10_copies_28 : decode cX10_copies 28 = .ok (.getfield 85, 3) := dk_180 0 85 (dk_at dksX10_copies_1 5 rfl rfl)
theorem dX10_copies_31 : decode cX10_copies 31 = .ok (.aload_n 0, 1) := dk_42 (dk_at dksX10_copies_1 8 rfl rfl)
theorem dX10_copies_32 : decode cX10_copies 32 = .ok (.getfield 251, 3) := dk_180 0 251 (dk_at dksX10_copies_1 9 rfl rfl)
theorem dX10_copies_35 : decode cX10_copies 35 = .ok (.iaload, 1) := dk_46 (dk_at dksX10_copies_1 12 rfl rfl)
theorem dX10_copies_36 : decode cX10_copies 36 = .ok (.putfield 341, 3) := dk_181 1 85 (dk_at dksX10_copies_1 13 rfl rfl)
theorem dX10_copies_39 : decode cX10_copies 39 = .ok (.aload_n 0, 1) := dk_42 (dk_at dksX10_copies_1 16 rfl rfl)
theorem dX10_copies_40 : decode cX10_copies 40 = .ok (.iconst 0, 1) := dk_3 (dk_at dksX10_copies_1 17 rfl rfl)
theorem dX10_copies_41 : decode cX10_copies 41 = .ok (.putfield 344, 3) := dk_181 1 88 (dk_at dksX10_copies_1 18 rfl rfl)
theorem dX10_copies_44 : decode cX10_copies 44 = .ok (.return_, 1) := dk_177 (dk_at dksX10_copies_1 21 rfl rfl)
abbrev cX10_lightAt : ByteArray := prog_22_method_62_code
def yX10_lightAt : MethodName := ⟨RX10, "lightAt", "(I)I"⟩
def dkwX10_lightAt_1 : List UInt8 := [160, 0, 15, 28, 42, 180, 0, 128, 16, 6, 29, 96, 46, 96, 61, 132, 3, 1, 167, 255, 218, 28, 172]
abbrev dktX10_lightAt_1 : List UInt8 := dkwX10_lightAt_1 ++ []
def dkwX10_lightAt_0 : List UInt8 := [3, 61, 3, 62, 29, 42, 180, 0, 61, 42, 180, 0, 251, 46, 162, 0, 31, 42, 180, 0, 128, 29, 46, 27]
abbrev dktX10_lightAt_0 : List UInt8 := dkwX10_lightAt_0 ++ dktX10_lightAt_1
theorem dksX10_lightAt_0 : cX10_lightAt.data.toList.drop 0 = dktX10_lightAt_0 := by decide +kernel
theorem dksX10_lightAt_1 : cX10_lightAt.data.toList.drop 24 = dktX10_lightAt_1 := dk_seg dksX10_lightAt_0 24 rfl rfl
theorem dX10_lightAt_0 : decode cX10_lightAt 0 = .ok (.iconst 0, 1) := dk_3 (dk_at dksX10_lightAt_0 0 rfl rfl)
theorem dX10_lightAt_1 : decode cX10_lightAt 1 = .ok (.istore_n 2, 1) := dk_61 (dk_at dksX10_lightAt_0 1 rfl rfl)
theorem dX10_lightAt_2 : decode cX10_lightAt 2 = .ok (.iconst 0, 1) := dk_3 (dk_at dksX10_lightAt_0 2 rfl rfl)
theorem dX10_lightAt_3 : decode cX10_lightAt 3 = .ok (.istore_n 3, 1) := dk_62 (dk_at dksX10_lightAt_0 3 rfl rfl)
theorem dX10_lightAt_4 : decode cX10_lightAt 4 = .ok (.iload_n 3, 1) := dk_29 (dk_at dksX10_lightAt_0 4 rfl rfl)
theorem dX10_lightAt_5 : decode cX10_lightAt 5 = .ok (.aload_n 0, 1) := dk_42 (dk_at dksX10_lightAt_0 5 rfl rfl)
theorem dX10_lightAt_6 : decode cX10_lightAt 6 = .ok (.getfield 61, 3) := dk_180 0 61 (dk_at dksX10_lightAt_0 6 rfl rfl)
theorem dX10_lightAt_9 : decode cX10_lightAt 9 = .ok (.aload_n 0, 1) := dk_42 (dk_at dksX10_lightAt_0 9 rfl rfl)
theorem dX10_lightAt_10 : decode cX10_lightAt 10 = .ok (.getfield 251, 3) := dk_180 0 251 (dk_at dksX10_lightAt_0 10 rfl rfl)
theorem dX10_lightAt_13 : decode cX10_lightAt 13 = .ok (.iaload, 1) := dk_46 (dk_at dksX10_lightAt_0 13 rfl rfl)
theorem dX10_lightAt_14 : decode cX10_lightAt 14 = .ok (.if_icmp .ge 31, 3) := dk_162 0 31 (dk_at dksX10_lightAt_0 14 rfl rfl)
theorem dX10_lightAt_17 : decode cX10_lightAt 17 = .ok (.aload_n 0, 1) := dk_42 (dk_at dksX10_lightAt_0 17 rfl rfl)
theorem dX10_lightAt_18 : decode cX10_lightAt 18 = .ok (.getfield 128, 3) := dk_180 0 128 (dk_at dksX10_lightAt_0 18 rfl rfl)
theorem dX10_lightAt_21 : decode cX10_lightAt 21 = .ok (.iload_n 3, 1) := dk_29 (dk_at dksX10_lightAt_0 21 rfl rfl)
theorem dX10_lightAt_22 : decode cX10_lightAt 22 = .ok (.iaload, 1) := dk_46 (dk_at dksX10_lightAt_0 22 rfl rfl)
theorem dX10_lightAt_23 : decode cX10_lightAt 23 = .ok (.iload_n 1, 1) := dk_27 (dk_at dksX10_lightAt_0 23 rfl rfl)
theorem dX10_lightAt_24 : decode cX10_lightAt 24 = .ok (.if_icmp .ne 15, 3) := dk_160 0 15 (dk_at dksX10_lightAt_1 0 rfl rfl)
theorem dX10_lightAt_27 : decode cX10_lightAt 27 = .ok (.iload_n 2, 1) := dk_28 (dk_at dksX10_lightAt_1 3 rfl rfl)
theorem dX10_lightAt_28 : decode cX10_lightAt 28 = .ok (.aload_n 0, 1) := dk_42 (dk_at dksX10_lightAt_1 4 rfl rfl)
theorem dX10_lightAt_29 : decode cX10_lightAt 29 = .ok (.getfield 128, 3) := dk_180 0 128 (dk_at dksX10_lightAt_1 5 rfl rfl)
theorem dX10_lightAt_32 : decode cX10_lightAt 32 = .ok (.bipush 6, 2) := dk_16 6 (dk_at dksX10_lightAt_1 8 rfl rfl)
theorem dX10_lightAt_34 : decode cX10_lightAt 34 = .ok (.iload_n 3, 1) := dk_29 (dk_at dksX10_lightAt_1 10 rfl rfl)
theorem dX10_lightAt_35 : decode cX10_lightAt 35 = .ok (.iadd, 1) := dk_96 (dk_at dksX10_lightAt_1 11 rfl rfl)
theorem dX10_lightAt_36 : decode cX10_lightAt 36 = .ok (.iaload, 1) := dk_46 (dk_at dksX10_lightAt_1 12 rfl rfl)
theorem dX10_lightAt_37 : decode cX10_lightAt 37 = .ok (.iadd, 1) := dk_96 (dk_at dksX10_lightAt_1 13 rfl rfl)
theorem dX10_lightAt_38 : decode cX10_lightAt 38 = .ok (.istore_n 2, 1) := dk_61 (dk_at dksX10_lightAt_1 14 rfl rfl)
theorem dX10_lightAt_39 : decode cX10_lightAt 39 = .ok (.iinc 3 1, 3) := dk_132 3 1 (dk_at dksX10_lightAt_1 15 rfl rfl)
theorem dX10_lightAt_42 : decode cX10_lightAt 42 = .ok (.goto (-38), 3) := dk_167 255 218 (dk_at dksX10_lightAt_1 18 rfl rfl)
theorem dX10_lightAt_45 : decode cX10_lightAt 45 = .ok (.iload_n 2, 1) := dk_28 (dk_at dksX10_lightAt_1 21 rfl rfl)
theorem dX10_lightAt_46 : decode cX10_lightAt 46 = .ok (.ireturn, 1) := dk_172 (dk_at dksX10_lightAt_1 22 rfl rfl)
abbrev cX10_outAt : ByteArray := prog_22_method_66_code
def yX10_outAt : MethodName := ⟨RX10, "outAt", "(I)I"⟩
def dkwX10_outAt_2 : List UInt8 := [167, 255, 212, 28, 172]
abbrev dktX10_outAt_2 : List UInt8 := dkwX10_outAt_2 ++ []
def dkwX10_outAt_1 : List UInt8 := [96, 46, 154, 0, 19, 42, 180, 0, 128, 29, 46, 27, 160, 0, 9, 28, 4, 29, 120, 128, 61, 132, 3, 1]
abbrev dktX10_outAt_1 : List UInt8 := dkwX10_outAt_1 ++ dktX10_outAt_2
def dkwX10_outAt_0 : List UInt8 := [3, 61, 3, 62, 29, 42, 180, 0, 61, 42, 180, 0, 251, 46, 162, 0, 37, 42, 180, 0, 128, 16, 12, 29]
abbrev dktX10_outAt_0 : List UInt8 := dkwX10_outAt_0 ++ dktX10_outAt_1
theorem dksX10_outAt_0 : cX10_outAt.data.toList.drop 0 = dktX10_outAt_0 := by decide +kernel
theorem dksX10_outAt_1 : cX10_outAt.data.toList.drop 24 = dktX10_outAt_1 := dk_seg dksX10_outAt_0 24 rfl rfl
theorem dksX10_outAt_2 : cX10_outAt.data.toList.drop 48 = dktX10_outAt_2 := dk_seg dksX10_outAt_1 24 rfl rfl
theorem dX10_outAt_0 : decode cX10_outAt 0 = .ok (.iconst 0, 1) := dk_3 (dk_at dksX10_outAt_0 0 rfl rfl)
theorem dX10_outAt_1 : decode cX10_outAt 1 = .ok (.istore_n 2, 1) := dk_61 (dk_at dksX10_outAt_0 1 rfl rfl)
theorem dX10_outAt_2 : decode cX10_outAt 2 = .ok (.iconst 0, 1) := dk_3 (dk_at dksX10_outAt_0 2 rfl rfl)
theorem dX10_outAt_3 : decode cX10_outAt 3 = .ok (.istore_n 3, 1) := dk_62 (dk_at dksX10_outAt_0 3 rfl rfl)
theorem dX10_outAt_4 : decode cX10_outAt 4 = .ok (.iload_n 3, 1) := dk_29 (dk_at dksX10_outAt_0 4 rfl rfl)
theorem dX10_outAt_5 : decode cX10_outAt 5 = .ok (.aload_n 0, 1) := dk_42 (dk_at dksX10_outAt_0 5 rfl rfl)
theorem dX10_outAt_6 : decode cX10_outAt 6 = .ok (.getfield 61, 3) := dk_180 0 61 (dk_at dksX10_outAt_0 6 rfl rfl)
theorem dX10_outAt_9 : decode cX10_outAt 9 = .ok (.aload_n 0, 1) := dk_42 (dk_at dksX10_outAt_0 9 rfl rfl)
theorem dX10_outAt_10 : decode cX10_outAt 10 = .ok (.getfield 251, 3) := dk_180 0 251 (dk_at dksX10_outAt_0 10 rfl rfl)
theorem dX10_outAt_13 : decode cX10_outAt 13 = .ok (.iaload, 1) := dk_46 (dk_at dksX10_outAt_0 13 rfl rfl)
theorem dX10_outAt_14 : decode cX10_outAt 14 = .ok (.if_icmp .ge 37, 3) := dk_162 0 37 (dk_at dksX10_outAt_0 14 rfl rfl)
theorem dX10_outAt_17 : decode cX10_outAt 17 = .ok (.aload_n 0, 1) := dk_42 (dk_at dksX10_outAt_0 17 rfl rfl)
theorem dX10_outAt_18 : decode cX10_outAt 18 = .ok (.getfield 128, 3) := dk_180 0 128 (dk_at dksX10_outAt_0 18 rfl rfl)
theorem dX10_outAt_21 : decode cX10_outAt 21 = .ok (.bipush 12, 2) := dk_16 12 (dk_at dksX10_outAt_0 21 rfl rfl)
theorem dX10_outAt_23 : decode cX10_outAt 23 = .ok (.iload_n 3, 1) := dk_29 (dk_at dksX10_outAt_0 23 rfl rfl)
theorem dX10_outAt_24 : decode cX10_outAt 24 = .ok (.iadd, 1) := dk_96 (dk_at dksX10_outAt_1 0 rfl rfl)
theorem dX10_outAt_25 : decode cX10_outAt 25 = .ok (.iaload, 1) := dk_46 (dk_at dksX10_outAt_1 1 rfl rfl)
theorem dX10_outAt_26 : decode cX10_outAt 26 = .ok (.ifCond .ne 19, 3) := dk_154 0 19 (dk_at dksX10_outAt_1 2 rfl rfl)
theorem dX10_outAt_29 : decode cX10_outAt 29 = .ok (.aload_n 0, 1) := dk_42 (dk_at dksX10_outAt_1 5 rfl rfl)
theorem dX10_outAt_30 : decode cX10_outAt 30 = .ok (.getfield 128, 3) := dk_180 0 128 (dk_at dksX10_outAt_1 6 rfl rfl)
theorem dX10_outAt_33 : decode cX10_outAt 33 = .ok (.iload_n 3, 1) := dk_29 (dk_at dksX10_outAt_1 9 rfl rfl)
theorem dX10_outAt_34 : decode cX10_outAt 34 = .ok (.iaload, 1) := dk_46 (dk_at dksX10_outAt_1 10 rfl rfl)
theorem dX10_outAt_35 : decode cX10_outAt 35 = .ok (.iload_n 1, 1) := dk_27 (dk_at dksX10_outAt_1 11 rfl rfl)
theorem dX10_outAt_36 : decode cX10_outAt 36 = .ok (.if_icmp .ne 9, 3) := dk_160 0 9 (dk_at dksX10_outAt_1 12 rfl rfl)
theorem dX10_outAt_39 : decode cX10_outAt 39 = .ok (.iload_n 2, 1) := dk_28 (dk_at dksX10_outAt_1 15 rfl rfl)
theorem dX10_outAt_40 : decode cX10_outAt 40 = .ok (.iconst 1, 1) := dk_4 (dk_at dksX10_outAt_1 16 rfl rfl)
theorem dX10_outAt_41 : decode cX10_outAt 41 = .ok (.iload_n 3, 1) := dk_29 (dk_at dksX10_outAt_1 17 rfl rfl)
theorem dX10_outAt_42 : decode cX10_outAt 42 = .ok (.ishl, 1) := dk_120 (dk_at dksX10_outAt_1 18 rfl rfl)
theorem dX10_outAt_43 : decode cX10_outAt 43 = .ok (.ior, 1) := dk_128 (dk_at dksX10_outAt_1 19 rfl rfl)
theorem dX10_outAt_44 : decode cX10_outAt 44 = .ok (.istore_n 2, 1) := dk_61 (dk_at dksX10_outAt_1 20 rfl rfl)
theorem dX10_outAt_45 : decode cX10_outAt 45 = .ok (.iinc 3 1, 3) := dk_132 3 1 (dk_at dksX10_outAt_1 21 rfl rfl)
theorem dX10_outAt_48 : decode cX10_outAt 48 = .ok (.goto (-44), 3) := dk_167 255 212 (dk_at dksX10_outAt_2 0 rfl rfl)
theorem dX10_outAt_51 : decode cX10_outAt 51 = .ok (.iload_n 2, 1) := dk_28 (dk_at dksX10_outAt_2 3 rfl rfl)
theorem dX10_outAt_52 : decode cX10_outAt 52 = .ok (.ireturn, 1) := dk_172 (dk_at dksX10_outAt_2 4 rfl rfl)
abbrev cX10_streetsAt : ByteArray := prog_22_method_69_code
def yX10_streetsAt : MethodName := ⟨RX10, "streetsAt", "(I)I"⟩
def dkwX10_streetsAt_1 : List UInt8 := [153, 0, 9, 28, 4, 29, 120, 128, 61, 132, 3, 1, 167, 255, 225, 28, 172]
abbrev dktX10_streetsAt_1 : List UInt8 := dkwX10_streetsAt_1 ++ []
def dkwX10_streetsAt_0 : List UInt8 := [3, 61, 3, 62, 29, 42, 180, 0, 49, 42, 180, 0, 251, 46, 162, 0, 24, 42, 29, 27, 182, 1, 145]
abbrev dktX10_streetsAt_0 : List UInt8 := dkwX10_streetsAt_0 ++ dktX10_streetsAt_1
theorem dksX10_streetsAt_0 : cX10_streetsAt.data.toList.drop 0 = dktX10_streetsAt_0 := by decide +kernel
theorem dksX10_streetsAt_1 : cX10_streetsAt.data.toList.drop 23 = dktX10_streetsAt_1 := dk_seg dksX10_streetsAt_0 23 rfl rfl
theorem dX10_streetsAt_0 : decode cX10_streetsAt 0 = .ok (.iconst 0, 1) := dk_3 (dk_at dksX10_streetsAt_0 0 rfl rfl)
theorem dX10_streetsAt_1 : decode cX10_streetsAt 1 = .ok (.istore_n 2, 1) := dk_61 (dk_at dksX10_streetsAt_0 1 rfl rfl)
theorem dX10_streetsAt_2 : decode cX10_streetsAt 2 = .ok (.iconst 0, 1) := dk_3 (dk_at dksX10_streetsAt_0 2 rfl rfl)
theorem dX10_streetsAt_3 : decode cX10_streetsAt 3 = .ok (.istore_n 3, 1) := dk_62 (dk_at dksX10_streetsAt_0 3 rfl rfl)
theorem dX10_streetsAt_4 : decode cX10_streetsAt 4 = .ok (.iload_n 3, 1) := dk_29 (dk_at dksX10_streetsAt_0 4 rfl rfl)
theorem dX10_streetsAt_5 : decode cX10_streetsAt 5 = .ok (.aload_n 0, 1) := dk_42 (dk_at dksX10_streetsAt_0 5 rfl rfl)
theorem dX10_streetsAt_6 : decode cX10_streetsAt 6 = .ok (.getfield 49, 3) := dk_180 0 49 (dk_at dksX10_streetsAt_0 6 rfl rfl)
theorem dX10_streetsAt_9 : decode cX10_streetsAt 9 = .ok (.aload_n 0, 1) := dk_42 (dk_at dksX10_streetsAt_0 9 rfl rfl)
theorem dX10_streetsAt_10 : decode cX10_streetsAt 10 = .ok (.getfield 251, 3) := dk_180 0 251 (dk_at dksX10_streetsAt_0 10 rfl rfl)
theorem dX10_streetsAt_13 : decode cX10_streetsAt 13 = .ok (.iaload, 1) := dk_46 (dk_at dksX10_streetsAt_0 13 rfl rfl)
theorem dX10_streetsAt_14 : decode cX10_streetsAt 14 = .ok (.if_icmp .ge 24, 3) := dk_162 0 24 (dk_at dksX10_streetsAt_0 14 rfl rfl)
theorem dX10_streetsAt_17 : decode cX10_streetsAt 17 = .ok (.aload_n 0, 1) := dk_42 (dk_at dksX10_streetsAt_0 17 rfl rfl)
theorem dX10_streetsAt_18 : decode cX10_streetsAt 18 = .ok (.iload_n 3, 1) := dk_29 (dk_at dksX10_streetsAt_0 18 rfl rfl)
theorem dX10_streetsAt_19 : decode cX10_streetsAt 19 = .ok (.iload_n 1, 1) := dk_27 (dk_at dksX10_streetsAt_0 19 rfl rfl)
theorem dX10_streetsAt_20 : decode cX10_streetsAt 20 = .ok (.invokevirtual 401, 3) := dk_182 1 145 (dk_at dksX10_streetsAt_0 20 rfl rfl)
theorem dX10_streetsAt_23 : decode cX10_streetsAt 23 = .ok (.ifCond .eq 9, 3) := dk_153 0 9 (dk_at dksX10_streetsAt_1 0 rfl rfl)
theorem dX10_streetsAt_26 : decode cX10_streetsAt 26 = .ok (.iload_n 2, 1) := dk_28 (dk_at dksX10_streetsAt_1 3 rfl rfl)
theorem dX10_streetsAt_27 : decode cX10_streetsAt 27 = .ok (.iconst 1, 1) := dk_4 (dk_at dksX10_streetsAt_1 4 rfl rfl)
theorem dX10_streetsAt_28 : decode cX10_streetsAt 28 = .ok (.iload_n 3, 1) := dk_29 (dk_at dksX10_streetsAt_1 5 rfl rfl)
theorem dX10_streetsAt_29 : decode cX10_streetsAt 29 = .ok (.ishl, 1) := dk_120 (dk_at dksX10_streetsAt_1 6 rfl rfl)
theorem dX10_streetsAt_30 : decode cX10_streetsAt 30 = .ok (.ior, 1) := dk_128 (dk_at dksX10_streetsAt_1 7 rfl rfl)
theorem dX10_streetsAt_31 : decode cX10_streetsAt 31 = .ok (.istore_n 2, 1) := dk_61 (dk_at dksX10_streetsAt_1 8 rfl rfl)
theorem dX10_streetsAt_32 : decode cX10_streetsAt 32 = .ok (.iinc 3 1, 3) := dk_132 3 1 (dk_at dksX10_streetsAt_1 9 rfl rfl)
theorem dX10_streetsAt_35 : decode cX10_streetsAt 35 = .ok (.goto (-31), 3) := dk_167 255 225 (dk_at dksX10_streetsAt_1 12 rfl rfl)
theorem dX10_streetsAt_38 : decode cX10_streetsAt 38 = .ok (.iload_n 2, 1) := dk_28 (dk_at dksX10_streetsAt_1 15 rfl rfl)
theorem dX10_streetsAt_39 : decode cX10_streetsAt 39 = .ok (.ireturn, 1) := dk_172 (dk_at dksX10_streetsAt_1 16 rfl rfl)
abbrev cX10_isEnd : ByteArray := prog_22_method_67_code
def yX10_isEnd : MethodName := ⟨RX10, "isEnd", "(II)Z"⟩
def dkwX10_isEnd_1 : List UInt8 := [42, 180, 0, 251, 104, 27, 96, 46, 28, 160, 0, 7, 4, 167, 0, 4, 3, 172]
abbrev dktX10_isEnd_1 : List UInt8 := dkwX10_isEnd_1 ++ []
def dkwX10_isEnd_0 : List UInt8 := [42, 180, 0, 52, 16, 10, 42, 180, 0, 251, 104, 27, 96, 46, 28, 159, 0, 21, 42, 180, 0, 55, 16, 10]
abbrev dktX10_isEnd_0 : List UInt8 := dkwX10_isEnd_0 ++ dktX10_isEnd_1
theorem dksX10_isEnd_0 : cX10_isEnd.data.toList.drop 0 = dktX10_isEnd_0 := by decide +kernel
theorem dksX10_isEnd_1 : cX10_isEnd.data.toList.drop 24 = dktX10_isEnd_1 := dk_seg dksX10_isEnd_0 24 rfl rfl
theorem dX10_isEnd_0 : decode cX10_isEnd 0 = .ok (.aload_n 0, 1) := dk_42 (dk_at dksX10_isEnd_0 0 rfl rfl)
theorem dX10_isEnd_1 : decode cX10_isEnd 1 = .ok (.getfield 52, 3) := dk_180 0 52 (dk_at dksX10_isEnd_0 1 rfl rfl)
theorem dX10_isEnd_4 : decode cX10_isEnd 4 = .ok (.bipush 10, 2) := dk_16 10 (dk_at dksX10_isEnd_0 4 rfl rfl)
theorem dX10_isEnd_6 : decode cX10_isEnd 6 = .ok (.aload_n 0, 1) := dk_42 (dk_at dksX10_isEnd_0 6 rfl rfl)
theorem dX10_isEnd_7 : decode cX10_isEnd 7 = .ok (.getfield 251, 3) := dk_180 0 251 (dk_at dksX10_isEnd_0 7 rfl rfl)
theorem dX10_isEnd_10 : decode cX10_isEnd 10 = .ok (.imul, 1) := dk_104 (dk_at dksX10_isEnd_0 10 rfl rfl)
theorem dX10_isEnd_11 : decode cX10_isEnd 11 = .ok (.iload_n 1, 1) := dk_27 (dk_at dksX10_isEnd_0 11 rfl rfl)
theorem dX10_isEnd_12 : decode cX10_isEnd 12 = .ok (.iadd, 1) := dk_96 (dk_at dksX10_isEnd_0 12 rfl rfl)
theorem dX10_isEnd_13 : decode cX10_isEnd 13 = .ok (.iaload, 1) := dk_46 (dk_at dksX10_isEnd_0 13 rfl rfl)
theorem dX10_isEnd_14 : decode cX10_isEnd 14 = .ok (.iload_n 2, 1) := dk_28 (dk_at dksX10_isEnd_0 14 rfl rfl)
theorem dX10_isEnd_15 : decode cX10_isEnd 15 = .ok (.if_icmp .eq 21, 3) := dk_159 0 21 (dk_at dksX10_isEnd_0 15 rfl rfl)
theorem dX10_isEnd_18 : decode cX10_isEnd 18 = .ok (.aload_n 0, 1) := dk_42 (dk_at dksX10_isEnd_0 18 rfl rfl)
theorem dX10_isEnd_19 : decode cX10_isEnd 19 = .ok (.getfield 55, 3) := dk_180 0 55 (dk_at dksX10_isEnd_0 19 rfl rfl)
theorem dX10_isEnd_22 : decode cX10_isEnd 22 = .ok (.bipush 10, 2) := dk_16 10 (dk_at dksX10_isEnd_0 22 rfl rfl)
theorem dX10_isEnd_24 : decode cX10_isEnd 24 = .ok (.aload_n 0, 1) := dk_42 (dk_at dksX10_isEnd_1 0 rfl rfl)
theorem dX10_isEnd_25 : decode cX10_isEnd 25 = .ok (.getfield 251, 3) := dk_180 0 251 (dk_at dksX10_isEnd_1 1 rfl rfl)
theorem dX10_isEnd_28 : decode cX10_isEnd 28 = .ok (.imul, 1) := dk_104 (dk_at dksX10_isEnd_1 4 rfl rfl)
theorem dX10_isEnd_29 : decode cX10_isEnd 29 = .ok (.iload_n 1, 1) := dk_27 (dk_at dksX10_isEnd_1 5 rfl rfl)
theorem dX10_isEnd_30 : decode cX10_isEnd 30 = .ok (.iadd, 1) := dk_96 (dk_at dksX10_isEnd_1 6 rfl rfl)
theorem dX10_isEnd_31 : decode cX10_isEnd 31 = .ok (.iaload, 1) := dk_46 (dk_at dksX10_isEnd_1 7 rfl rfl)
theorem dX10_isEnd_32 : decode cX10_isEnd 32 = .ok (.iload_n 2, 1) := dk_28 (dk_at dksX10_isEnd_1 8 rfl rfl)
theorem dX10_isEnd_33 : decode cX10_isEnd 33 = .ok (.if_icmp .ne 7, 3) := dk_160 0 7 (dk_at dksX10_isEnd_1 9 rfl rfl)
theorem dX10_isEnd_36 : decode cX10_isEnd 36 = .ok (.iconst 1, 1) := dk_4 (dk_at dksX10_isEnd_1 12 rfl rfl)
theorem dX10_isEnd_37 : decode cX10_isEnd 37 = .ok (.goto 4, 3) := dk_167 0 4 (dk_at dksX10_isEnd_1 13 rfl rfl)
theorem dX10_isEnd_40 : decode cX10_isEnd 40 = .ok (.iconst 0, 1) := dk_3 (dk_at dksX10_isEnd_1 16 rfl rfl)
theorem dX10_isEnd_41 : decode cX10_isEnd 41 = .ok (.ireturn, 1) := dk_172 (dk_at dksX10_isEnd_1 17 rfl rfl)
abbrev cX10_street : ByteArray := prog_22_method_70_code
def yX10_street : MethodName := ⟨RX10, "street", "(II)I"⟩
def dkwX10_street_4 : List UInt8 := [27, 182, 1, 152, 154, 0, 7, 4, 167, 0, 4, 3, 172, 42, 27, 182, 1, 152, 172, 2, 172]
abbrev dktX10_street_4 : List UInt8 := dkwX10_street_4 ++ []
def dkwX10_street_3 : List UInt8 := [180, 0, 251, 104, 27, 96, 46, 172, 42, 180, 0, 58, 16, 10, 42, 180, 0, 251, 104, 27, 96, 46, 172, 42]
abbrev dktX10_street_3 : List UInt8 := dkwX10_street_3 ++ dktX10_street_4
def dkwX10_street_2 : List UInt8 := [42, 180, 0, 52, 16, 10, 42, 180, 0, 251, 104, 27, 96, 46, 172, 42, 180, 0, 55, 16, 10, 42]
abbrev dktX10_street_2 : List UInt8 := dkwX10_street_2 ++ dktX10_street_3
def dkwX10_street_1 : List UInt8 := [170, 0, 0, 0, 98, 0, 0, 0, 0, 0, 0, 0, 4, 0, 0, 0, 33, 0, 0, 0, 48, 0, 0, 0, 63, 0, 0, 0, 78, 0, 0, 0, 92]
abbrev dktX10_street_1 : List UInt8 := dkwX10_street_1 ++ dktX10_street_2
def dkwX10_street_0 : List UInt8 := [42, 27, 182, 1, 149, 154, 0, 5, 2, 172, 42, 182, 1, 91, 28]
abbrev dktX10_street_0 : List UInt8 := dkwX10_street_0 ++ dktX10_street_1
theorem dksX10_street_0 : cX10_street.data.toList.drop 0 = dktX10_street_0 := by decide +kernel
theorem dksX10_street_1 : cX10_street.data.toList.drop 15 = dktX10_street_1 := dk_seg dksX10_street_0 15 rfl rfl
theorem dksX10_street_2 : cX10_street.data.toList.drop 48 = dktX10_street_2 := dk_seg dksX10_street_1 33 rfl rfl
theorem dksX10_street_3 : cX10_street.data.toList.drop 70 = dktX10_street_3 := dk_seg dksX10_street_2 22 rfl rfl
theorem dksX10_street_4 : cX10_street.data.toList.drop 94 = dktX10_street_4 := dk_seg dksX10_street_3 24 rfl rfl
theorem dX10_street_0 : decode cX10_street 0 = .ok (.aload_n 0, 1) := dk_42 (dk_at dksX10_street_0 0 rfl rfl)
theorem dX10_street_1 : decode cX10_street 1 = .ok (.iload_n 1, 1) := dk_27 (dk_at dksX10_street_0 1 rfl rfl)
theorem dX10_street_2 : decode cX10_street 2 = .ok (.invokevirtual 405, 3) := dk_182 1 149 (dk_at dksX10_street_0 2 rfl rfl)
theorem dX10_street_5 : decode cX10_street 5 = .ok (.ifCond .ne 5, 3) := dk_154 0 5 (dk_at dksX10_street_0 5 rfl rfl)
theorem dX10_street_8 : decode cX10_street 8 = .ok (.iconst (-1), 1) := dk_2 (dk_at dksX10_street_0 8 rfl rfl)
theorem dX10_street_9 : decode cX10_street 9 = .ok (.ireturn, 1) := dk_172 (dk_at dksX10_street_0 9 rfl rfl)
theorem dX10_street_10 : decode cX10_street 10 = .ok (.aload_n 0, 1) := dk_42 (dk_at dksX10_street_0 10 rfl rfl)
theorem dX10_street_11 : decode cX10_street 11 = .ok (.invokevirtual 347, 3) := dk_182 1 91 (dk_at dksX10_street_0 11 rfl rfl)
theorem dX10_street_14 : decode cX10_street 14 = .ok (.iload_n 2, 1) := dk_28 (dk_at dksX10_street_0 14 rfl rfl)
theorem dX10_street_15 : decode cX10_street 15 = .ok (.tableswitch 98 0 4 #[33, 48, 63, 78, 92], 33) := by decide +kernel
theorem dX10_street_48 : decode cX10_street 48 = .ok (.aload_n 0, 1) := dk_42 (dk_at dksX10_street_2 0 rfl rfl)
theorem dX10_street_49 : decode cX10_street 49 = .ok (.getfield 52, 3) := dk_180 0 52 (dk_at dksX10_street_2 1 rfl rfl)
theorem dX10_street_52 : decode cX10_street 52 = .ok (.bipush 10, 2) := dk_16 10 (dk_at dksX10_street_2 4 rfl rfl)
theorem dX10_street_54 : decode cX10_street 54 = .ok (.aload_n 0, 1) := dk_42 (dk_at dksX10_street_2 6 rfl rfl)
theorem dX10_street_55 : decode cX10_street 55 = .ok (.getfield 251, 3) := dk_180 0 251 (dk_at dksX10_street_2 7 rfl rfl)
theorem dX10_street_58 : decode cX10_street 58 = .ok (.imul, 1) := dk_104 (dk_at dksX10_street_2 10 rfl rfl)
theorem dX10_street_59 : decode cX10_street 59 = .ok (.iload_n 1, 1) := dk_27 (dk_at dksX10_street_2 11 rfl rfl)
theorem dX10_street_60 : decode cX10_street 60 = .ok (.iadd, 1) := dk_96 (dk_at dksX10_street_2 12 rfl rfl)
theorem dX10_street_61 : decode cX10_street 61 = .ok (.iaload, 1) := dk_46 (dk_at dksX10_street_2 13 rfl rfl)
theorem dX10_street_62 : decode cX10_street 62 = .ok (.ireturn, 1) := dk_172 (dk_at dksX10_street_2 14 rfl rfl)
theorem dX10_street_63 : decode cX10_street 63 = .ok (.aload_n 0, 1) := dk_42 (dk_at dksX10_street_2 15 rfl rfl)
theorem dX10_street_64 : decode cX10_street 64 = .ok (.getfield 55, 3) := dk_180 0 55 (dk_at dksX10_street_2 16 rfl rfl)
theorem dX10_street_67 : decode cX10_street 67 = .ok (.bipush 10, 2) := dk_16 10 (dk_at dksX10_street_2 19 rfl rfl)
theorem dX10_street_69 : decode cX10_street 69 = .ok (.aload_n 0, 1) := dk_42 (dk_at dksX10_street_2 21 rfl rfl)
theorem dX10_street_70 : decode cX10_street 70 = .ok (.getfield 251, 3) := dk_180 0 251 (dk_at dksX10_street_3 0 rfl rfl)
theorem dX10_street_73 : decode cX10_street 73 = .ok (.imul, 1) := dk_104 (dk_at dksX10_street_3 3 rfl rfl)
theorem dX10_street_74 : decode cX10_street 74 = .ok (.iload_n 1, 1) := dk_27 (dk_at dksX10_street_3 4 rfl rfl)
theorem dX10_street_75 : decode cX10_street 75 = .ok (.iadd, 1) := dk_96 (dk_at dksX10_street_3 5 rfl rfl)
theorem dX10_street_76 : decode cX10_street 76 = .ok (.iaload, 1) := dk_46 (dk_at dksX10_street_3 6 rfl rfl)
theorem dX10_street_77 : decode cX10_street 77 = .ok (.ireturn, 1) := dk_172 (dk_at dksX10_street_3 7 rfl rfl)
theorem dX10_street_78 : decode cX10_street 78 = .ok (.aload_n 0, 1) := dk_42 (dk_at dksX10_street_3 8 rfl rfl)
theorem dX10_street_79 : decode cX10_street 79 = .ok (.getfield 58, 3) := dk_180 0 58 (dk_at dksX10_street_3 9 rfl rfl)
theorem dX10_street_82 : decode cX10_street 82 = .ok (.bipush 10, 2) := dk_16 10 (dk_at dksX10_street_3 12 rfl rfl)
theorem dX10_street_84 : decode cX10_street 84 = .ok (.aload_n 0, 1) := dk_42 (dk_at dksX10_street_3 14 rfl rfl)
theorem dX10_street_85 : decode cX10_street 85 = .ok (.getfield 251, 3) := dk_180 0 251 (dk_at dksX10_street_3 15 rfl rfl)
theorem dX10_street_88 : decode cX10_street 88 = .ok (.imul, 1) := dk_104 (dk_at dksX10_street_3 18 rfl rfl)
theorem dX10_street_89 : decode cX10_street 89 = .ok (.iload_n 1, 1) := dk_27 (dk_at dksX10_street_3 19 rfl rfl)
theorem dX10_street_90 : decode cX10_street 90 = .ok (.iadd, 1) := dk_96 (dk_at dksX10_street_3 20 rfl rfl)
theorem dX10_street_91 : decode cX10_street 91 = .ok (.iaload, 1) := dk_46 (dk_at dksX10_street_3 21 rfl rfl)
theorem dX10_street_92 : decode cX10_street 92 = .ok (.ireturn, 1) := dk_172 (dk_at dksX10_street_3 22 rfl rfl)
theorem dX10_street_93 : decode cX10_street 93 = .ok (.aload_n 0, 1) := dk_42 (dk_at dksX10_street_3 23 rfl rfl)
theorem dX10_street_94 : decode cX10_street 94 = .ok (.iload_n 1, 1) := dk_27 (dk_at dksX10_street_4 0 rfl rfl)
theorem dX10_street_95 : decode cX10_street 95 = .ok (.invokevirtual 408, 3) := dk_182 1 152 (dk_at dksX10_street_4 1 rfl rfl)
theorem dX10_street_98 : decode cX10_street 98 = .ok (.ifCond .ne 7, 3) := dk_154 0 7 (dk_at dksX10_street_4 4 rfl rfl)
theorem dX10_street_101 : decode cX10_street 101 = .ok (.iconst 1, 1) := dk_4 (dk_at dksX10_street_4 7 rfl rfl)
theorem dX10_street_102 : decode cX10_street 102 = .ok (.goto 4, 3) := dk_167 0 4 (dk_at dksX10_street_4 8 rfl rfl)
theorem dX10_street_105 : decode cX10_street 105 = .ok (.iconst 0, 1) := dk_3 (dk_at dksX10_street_4 11 rfl rfl)
theorem dX10_street_106 : decode cX10_street 106 = .ok (.ireturn, 1) := dk_172 (dk_at dksX10_street_4 12 rfl rfl)
theorem dX10_street_107 : decode cX10_street 107 = .ok (.aload_n 0, 1) := dk_42 (dk_at dksX10_street_4 13 rfl rfl)
theorem dX10_street_108 : decode cX10_street 108 = .ok (.iload_n 1, 1) := dk_27 (dk_at dksX10_street_4 14 rfl rfl)
theorem dX10_street_109 : decode cX10_street 109 = .ok (.invokevirtual 408, 3) := dk_182 1 152 (dk_at dksX10_street_4 15 rfl rfl)
theorem dX10_street_112 : decode cX10_street 112 = .ok (.ireturn, 1) := dk_172 (dk_at dksX10_street_4 18 rfl rfl)
theorem dX10_street_113 : decode cX10_street 113 = .ok (.iconst (-1), 1) := dk_2 (dk_at dksX10_street_4 19 rfl rfl)
theorem dX10_street_114 : decode cX10_street 114 = .ok (.ireturn, 1) := dk_172 (dk_at dksX10_street_4 20 rfl rfl)
abbrev cX10_isStreet : ByteArray := prog_22_method_42_code
def yX10_isStreet : MethodName := ⟨RX10, "isStreet", "(I)Z"⟩
def dkwX10_isStreet_0 : List UInt8 := [27, 3, 42, 180, 0, 49, 42, 180, 0, 251, 46, 4, 100, 184, 1, 78, 172]
abbrev dktX10_isStreet_0 : List UInt8 := dkwX10_isStreet_0 ++ []
theorem dksX10_isStreet_0 : cX10_isStreet.data.toList.drop 0 = dktX10_isStreet_0 := by decide +kernel
theorem dX10_isStreet_0 : decode cX10_isStreet 0 = .ok (.iload_n 1, 1) := dk_27 (dk_at dksX10_isStreet_0 0 rfl rfl)
theorem dX10_isStreet_1 : decode cX10_isStreet 1 = .ok (.iconst 0, 1) := dk_3 (dk_at dksX10_isStreet_0 1 rfl rfl)
theorem dX10_isStreet_2 : decode cX10_isStreet 2 = .ok (.aload_n 0, 1) := dk_42 (dk_at dksX10_isStreet_0 2 rfl rfl)
theorem dX10_isStreet_3 : decode cX10_isStreet 3 = .ok (.getfield 49, 3) := dk_180 0 49 (dk_at dksX10_isStreet_0 3 rfl rfl)
theorem dX10_isStreet_6 : decode cX10_isStreet 6 = .ok (.aload_n 0, 1) := dk_42 (dk_at dksX10_isStreet_0 6 rfl rfl)
theorem dX10_isStreet_7 : decode cX10_isStreet 7 = .ok (.getfield 251, 3) := dk_180 0 251 (dk_at dksX10_isStreet_0 7 rfl rfl)
theorem dX10_isStreet_10 : decode cX10_isStreet 10 = .ok (.iaload, 1) := dk_46 (dk_at dksX10_isStreet_0 10 rfl rfl)
theorem dX10_isStreet_11 : decode cX10_isStreet 11 = .ok (.iconst 1, 1) := dk_4 (dk_at dksX10_isStreet_0 11 rfl rfl)
theorem dX10_isStreet_12 : decode cX10_isStreet 12 = .ok (.isub, 1) := dk_100 (dk_at dksX10_isStreet_0 12 rfl rfl)
theorem dX10_isStreet_13 : decode cX10_isStreet 13 = .ok (.invokestatic 334, 3) := dk_184 1 78 (dk_at dksX10_isStreet_0 13 rfl rfl)
theorem dX10_isStreet_16 : decode cX10_isStreet 16 = .ok (.ireturn, 1) := dk_172 (dk_at dksX10_isStreet_0 16 rfl rfl)
abbrev cX10_needsOf : ByteArray := prog_22_method_63_code
def yX10_needsOf : MethodName := ⟨RX10, "needsOf", "(I)I"⟩
def dkwX10_needsOf_2 : List UInt8 := [29, 172]
abbrev dktX10_needsOf_2 : List UInt8 := dkwX10_needsOf_2 ++ []
def dkwX10_needsOf_1 : List UInt8 := [182, 1, 133, 100, 42, 42, 180, 0, 55, 28, 46, 182, 1, 133, 100, 62, 29, 156, 0, 7, 3, 167, 0, 4]
abbrev dktX10_needsOf_1 : List UInt8 := dkwX10_needsOf_1 ++ dktX10_needsOf_2
def dkwX10_needsOf_0 : List UInt8 := [16, 10, 42, 180, 0, 251, 104, 27, 96, 61, 42, 180, 0, 58, 28, 46, 42, 42, 180, 0, 52, 28, 46]
abbrev dktX10_needsOf_0 : List UInt8 := dkwX10_needsOf_0 ++ dktX10_needsOf_1
theorem dksX10_needsOf_0 : cX10_needsOf.data.toList.drop 0 = dktX10_needsOf_0 := by decide +kernel
theorem dksX10_needsOf_1 : cX10_needsOf.data.toList.drop 23 = dktX10_needsOf_1 := dk_seg dksX10_needsOf_0 23 rfl rfl
theorem dksX10_needsOf_2 : cX10_needsOf.data.toList.drop 47 = dktX10_needsOf_2 := dk_seg dksX10_needsOf_1 24 rfl rfl
theorem dX10_needsOf_0 : decode cX10_needsOf 0 = .ok (.bipush 10, 2) := dk_16 10 (dk_at dksX10_needsOf_0 0 rfl rfl)
theorem dX10_needsOf_2 : decode cX10_needsOf 2 = .ok (.aload_n 0, 1) := dk_42 (dk_at dksX10_needsOf_0 2 rfl rfl)
theorem dX10_needsOf_3 : decode cX10_needsOf 3 = .ok (.getfield 251, 3) := dk_180 0 251 (dk_at dksX10_needsOf_0 3 rfl rfl)
theorem dX10_needsOf_6 : decode cX10_needsOf 6 = .ok (.imul, 1) := dk_104 (dk_at dksX10_needsOf_0 6 rfl rfl)
theorem dX10_needsOf_7 : decode cX10_needsOf 7 = .ok (.iload_n 1, 1) := dk_27 (dk_at dksX10_needsOf_0 7 rfl rfl)
theorem dX10_needsOf_8 : decode cX10_needsOf 8 = .ok (.iadd, 1) := dk_96 (dk_at dksX10_needsOf_0 8 rfl rfl)
theorem dX10_needsOf_9 : decode cX10_needsOf 9 = .ok (.istore_n 2, 1) := dk_61 (dk_at dksX10_needsOf_0 9 rfl rfl)
theorem dX10_needsOf_10 : decode cX10_needsOf 10 = .ok (.aload_n 0, 1) := dk_42 (dk_at dksX10_needsOf_0 10 rfl rfl)
theorem dX10_needsOf_11 : decode cX10_needsOf 11 = .ok (.getfield 58, 3) := dk_180 0 58 (dk_at dksX10_needsOf_0 11 rfl rfl)
theorem dX10_needsOf_14 : decode cX10_needsOf 14 = .ok (.iload_n 2, 1) := dk_28 (dk_at dksX10_needsOf_0 14 rfl rfl)
theorem dX10_needsOf_15 : decode cX10_needsOf 15 = .ok (.iaload, 1) := dk_46 (dk_at dksX10_needsOf_0 15 rfl rfl)
theorem dX10_needsOf_16 : decode cX10_needsOf 16 = .ok (.aload_n 0, 1) := dk_42 (dk_at dksX10_needsOf_0 16 rfl rfl)
theorem dX10_needsOf_17 : decode cX10_needsOf 17 = .ok (.aload_n 0, 1) := dk_42 (dk_at dksX10_needsOf_0 17 rfl rfl)
theorem dX10_needsOf_18 : decode cX10_needsOf 18 = .ok (.getfield 52, 3) := dk_180 0 52 (dk_at dksX10_needsOf_0 18 rfl rfl)
theorem dX10_needsOf_21 : decode cX10_needsOf 21 = .ok (.iload_n 2, 1) := dk_28 (dk_at dksX10_needsOf_0 21 rfl rfl)
theorem dX10_needsOf_22 : decode cX10_needsOf 22 = .ok (.iaload, 1) := dk_46 (dk_at dksX10_needsOf_0 22 rfl rfl)
theorem dX10_needsOf_23 : decode cX10_needsOf 23 = .ok (.invokevirtual 389, 3) := dk_182 1 133 (dk_at dksX10_needsOf_1 0 rfl rfl)
theorem dX10_needsOf_26 : decode cX10_needsOf 26 = .ok (.isub, 1) := dk_100 (dk_at dksX10_needsOf_1 3 rfl rfl)
theorem dX10_needsOf_27 : decode cX10_needsOf 27 = .ok (.aload_n 0, 1) := dk_42 (dk_at dksX10_needsOf_1 4 rfl rfl)
theorem dX10_needsOf_28 : decode cX10_needsOf 28 = .ok (.aload_n 0, 1) := dk_42 (dk_at dksX10_needsOf_1 5 rfl rfl)
theorem dX10_needsOf_29 : decode cX10_needsOf 29 = .ok (.getfield 55, 3) := dk_180 0 55 (dk_at dksX10_needsOf_1 6 rfl rfl)
theorem dX10_needsOf_32 : decode cX10_needsOf 32 = .ok (.iload_n 2, 1) := dk_28 (dk_at dksX10_needsOf_1 9 rfl rfl)
theorem dX10_needsOf_33 : decode cX10_needsOf 33 = .ok (.iaload, 1) := dk_46 (dk_at dksX10_needsOf_1 10 rfl rfl)
theorem dX10_needsOf_34 : decode cX10_needsOf 34 = .ok (.invokevirtual 389, 3) := dk_182 1 133 (dk_at dksX10_needsOf_1 11 rfl rfl)
theorem dX10_needsOf_37 : decode cX10_needsOf 37 = .ok (.isub, 1) := dk_100 (dk_at dksX10_needsOf_1 14 rfl rfl)
theorem dX10_needsOf_38 : decode cX10_needsOf 38 = .ok (.istore_n 3, 1) := dk_62 (dk_at dksX10_needsOf_1 15 rfl rfl)
theorem dX10_needsOf_39 : decode cX10_needsOf 39 = .ok (.iload_n 3, 1) := dk_29 (dk_at dksX10_needsOf_1 16 rfl rfl)
theorem dX10_needsOf_40 : decode cX10_needsOf 40 = .ok (.ifCond .ge 7, 3) := dk_156 0 7 (dk_at dksX10_needsOf_1 17 rfl rfl)
theorem dX10_needsOf_43 : decode cX10_needsOf 43 = .ok (.iconst 0, 1) := dk_3 (dk_at dksX10_needsOf_1 20 rfl rfl)
theorem dX10_needsOf_44 : decode cX10_needsOf 44 = .ok (.goto 4, 3) := dk_167 0 4 (dk_at dksX10_needsOf_1 21 rfl rfl)
theorem dX10_needsOf_47 : decode cX10_needsOf 47 = .ok (.iload_n 3, 1) := dk_29 (dk_at dksX10_needsOf_2 0 rfl rfl)
theorem dX10_needsOf_48 : decode cX10_needsOf 48 = .ok (.ireturn, 1) := dk_172 (dk_at dksX10_needsOf_2 1 rfl rfl)
abbrev cX10_young : ByteArray := prog_22_method_71_code
def yX10_young : MethodName := ⟨RX10, "young", "(II)I"⟩
def dkwX10_young_7 : List UInt8 := [182, 1, 120, 172, 42, 27, 182, 1, 123, 153, 0, 7, 4, 167, 0, 4, 3, 172, 2, 172]
abbrev dktX10_young_7 : List UInt8 := dkwX10_young_7 ++ []
def dkwX10_young_6 : List UInt8 := [96, 46, 172, 42, 180, 0, 128, 16, 12, 27, 96, 46, 4, 160, 0, 7, 3, 167, 0, 8, 42, 27]
abbrev dktX10_young_6 : List UInt8 := dkwX10_young_6 ++ dktX10_young_7
def dkwX10_young_5 : List UInt8 := [180, 0, 128, 16, 47, 46, 42, 180, 0, 128, 16, 24, 27, 96, 46, 100, 172, 42, 180, 0, 128, 16, 30, 27]
abbrev dktX10_young_5 : List UInt8 := dkwX10_young_5 ++ dktX10_young_6
def dkwX10_young_4 : List UInt8 := [172, 42, 180, 0, 128, 16, 12, 27, 96, 46, 172, 42, 180, 0, 128, 16, 18, 27, 96, 46, 172, 42]
abbrev dktX10_young_4 : List UInt8 := dkwX10_young_4 ++ dktX10_young_5
def dkwX10_young_3 : List UInt8 := [180, 0, 251, 104, 27, 96, 46, 172, 42, 180, 0, 128, 27, 46, 172, 42, 180, 0, 128, 16, 6, 27, 96, 46]
abbrev dktX10_young_3 : List UInt8 := dkwX10_young_3 ++ dktX10_young_4
def dkwX10_young_2 : List UInt8 := [42, 180, 0, 64, 16, 6, 42, 180, 0, 251, 104, 27, 96, 46, 172, 42, 180, 0, 67, 16, 6, 42]
abbrev dktX10_young_2 : List UInt8 := dkwX10_young_2 ++ dktX10_young_3
def dkwX10_young_1 : List UInt8 := [170, 0, 0, 0, 185, 0, 0, 0, 0, 0, 0, 0, 9, 0, 0, 0, 53, 0, 0, 0, 68, 0, 0, 0, 83, 0, 0, 0, 90, 0, 0, 0, 100, 0, 0, 0, 110, 0, 0, 0, 120, 0, 0, 0, 138, 0, 0, 0, 148, 0, 0, 0, 171]
abbrev dktX10_young_1 : List UInt8 := dkwX10_young_1 ++ dktX10_young_2
def dkwX10_young_0 : List UInt8 := [42, 27, 182, 1, 82, 154, 0, 5, 2, 172, 42, 182, 1, 91, 28]
abbrev dktX10_young_0 : List UInt8 := dkwX10_young_0 ++ dktX10_young_1
theorem dksX10_young_0 : cX10_young.data.toList.drop 0 = dktX10_young_0 := by decide +kernel
theorem dksX10_young_1 : cX10_young.data.toList.drop 15 = dktX10_young_1 := dk_seg dksX10_young_0 15 rfl rfl
theorem dksX10_young_2 : cX10_young.data.toList.drop 68 = dktX10_young_2 := dk_seg dksX10_young_1 53 rfl rfl
theorem dksX10_young_3 : cX10_young.data.toList.drop 90 = dktX10_young_3 := dk_seg dksX10_young_2 22 rfl rfl
theorem dksX10_young_4 : cX10_young.data.toList.drop 114 = dktX10_young_4 := dk_seg dksX10_young_3 24 rfl rfl
theorem dksX10_young_5 : cX10_young.data.toList.drop 136 = dktX10_young_5 := dk_seg dksX10_young_4 22 rfl rfl
theorem dksX10_young_6 : cX10_young.data.toList.drop 160 = dktX10_young_6 := dk_seg dksX10_young_5 24 rfl rfl
theorem dksX10_young_7 : cX10_young.data.toList.drop 182 = dktX10_young_7 := dk_seg dksX10_young_6 22 rfl rfl
theorem dX10_young_0 : decode cX10_young 0 = .ok (.aload_n 0, 1) := dk_42 (dk_at dksX10_young_0 0 rfl rfl)
theorem dX10_young_1 : decode cX10_young 1 = .ok (.iload_n 1, 1) := dk_27 (dk_at dksX10_young_0 1 rfl rfl)
theorem dX10_young_2 : decode cX10_young 2 = .ok (.invokevirtual 338, 3) := dk_182 1 82 (dk_at dksX10_young_0 2 rfl rfl)
theorem dX10_young_5 : decode cX10_young 5 = .ok (.ifCond .ne 5, 3) := dk_154 0 5 (dk_at dksX10_young_0 5 rfl rfl)
theorem dX10_young_8 : decode cX10_young 8 = .ok (.iconst (-1), 1) := dk_2 (dk_at dksX10_young_0 8 rfl rfl)
theorem dX10_young_9 : decode cX10_young 9 = .ok (.ireturn, 1) := dk_172 (dk_at dksX10_young_0 9 rfl rfl)
theorem dX10_young_10 : decode cX10_young 10 = .ok (.aload_n 0, 1) := dk_42 (dk_at dksX10_young_0 10 rfl rfl)
theorem dX10_young_11 : decode cX10_young 11 = .ok (.invokevirtual 347, 3) := dk_182 1 91 (dk_at dksX10_young_0 11 rfl rfl)
theorem dX10_young_14 : decode cX10_young 14 = .ok (.iload_n 2, 1) := dk_28 (dk_at dksX10_young_0 14 rfl rfl)
theorem dX10_young_15 : decode cX10_young 15 = .ok (.tableswitch 185 0 9 #[53, 68, 83, 90, 100, 110, 120, 138, 148, 171], 53) := by decide +kernel
theorem dX10_young_68 : decode cX10_young 68 = .ok (.aload_n 0, 1) := dk_42 (dk_at dksX10_young_2 0 rfl rfl)
theorem dX10_young_69 : decode cX10_young 69 = .ok (.getfield 64, 3) := dk_180 0 64 (dk_at dksX10_young_2 1 rfl rfl)
theorem dX10_young_72 : decode cX10_young 72 = .ok (.bipush 6, 2) := dk_16 6 (dk_at dksX10_young_2 4 rfl rfl)
theorem dX10_young_74 : decode cX10_young 74 = .ok (.aload_n 0, 1) := dk_42 (dk_at dksX10_young_2 6 rfl rfl)
theorem dX10_young_75 : decode cX10_young 75 = .ok (.getfield 251, 3) := dk_180 0 251 (dk_at dksX10_young_2 7 rfl rfl)
theorem dX10_young_78 : decode cX10_young 78 = .ok (.imul, 1) := dk_104 (dk_at dksX10_young_2 10 rfl rfl)
theorem dX10_young_79 : decode cX10_young 79 = .ok (.iload_n 1, 1) := dk_27 (dk_at dksX10_young_2 11 rfl rfl)
theorem dX10_young_80 : decode cX10_young 80 = .ok (.iadd, 1) := dk_96 (dk_at dksX10_young_2 12 rfl rfl)
theorem dX10_young_81 : decode cX10_young 81 = .ok (.iaload, 1) := dk_46 (dk_at dksX10_young_2 13 rfl rfl)
theorem dX10_young_82 : decode cX10_young 82 = .ok (.ireturn, 1) := dk_172 (dk_at dksX10_young_2 14 rfl rfl)
theorem dX10_young_83 : decode cX10_young 83 = .ok (.aload_n 0, 1) := dk_42 (dk_at dksX10_young_2 15 rfl rfl)
theorem dX10_young_84 : decode cX10_young 84 = .ok (.getfield 67, 3) := dk_180 0 67 (dk_at dksX10_young_2 16 rfl rfl)
theorem dX10_young_87 : decode cX10_young 87 = .ok (.bipush 6, 2) := dk_16 6 (dk_at dksX10_young_2 19 rfl rfl)
theorem dX10_young_89 : decode cX10_young 89 = .ok (.aload_n 0, 1) := dk_42 (dk_at dksX10_young_2 21 rfl rfl)
theorem dX10_young_90 : decode cX10_young 90 = .ok (.getfield 251, 3) := dk_180 0 251 (dk_at dksX10_young_3 0 rfl rfl)
theorem dX10_young_93 : decode cX10_young 93 = .ok (.imul, 1) := dk_104 (dk_at dksX10_young_3 3 rfl rfl)
theorem dX10_young_94 : decode cX10_young 94 = .ok (.iload_n 1, 1) := dk_27 (dk_at dksX10_young_3 4 rfl rfl)
theorem dX10_young_95 : decode cX10_young 95 = .ok (.iadd, 1) := dk_96 (dk_at dksX10_young_3 5 rfl rfl)
theorem dX10_young_96 : decode cX10_young 96 = .ok (.iaload, 1) := dk_46 (dk_at dksX10_young_3 6 rfl rfl)
theorem dX10_young_97 : decode cX10_young 97 = .ok (.ireturn, 1) := dk_172 (dk_at dksX10_young_3 7 rfl rfl)
theorem dX10_young_98 : decode cX10_young 98 = .ok (.aload_n 0, 1) := dk_42 (dk_at dksX10_young_3 8 rfl rfl)
theorem dX10_young_99 : decode cX10_young 99 = .ok (.getfield 128, 3) := dk_180 0 128 (dk_at dksX10_young_3 9 rfl rfl)
theorem dX10_young_102 : decode cX10_young 102 = .ok (.iload_n 1, 1) := dk_27 (dk_at dksX10_young_3 12 rfl rfl)
theorem dX10_young_103 : decode cX10_young 103 = .ok (.iaload, 1) := dk_46 (dk_at dksX10_young_3 13 rfl rfl)
theorem dX10_young_104 : decode cX10_young 104 = .ok (.ireturn, 1) := dk_172 (dk_at dksX10_young_3 14 rfl rfl)
theorem dX10_young_105 : decode cX10_young 105 = .ok (.aload_n 0, 1) := dk_42 (dk_at dksX10_young_3 15 rfl rfl)
theorem dX10_young_106 : decode cX10_young 106 = .ok (.getfield 128, 3) := dk_180 0 128 (dk_at dksX10_young_3 16 rfl rfl)
theorem dX10_young_109 : decode cX10_young 109 = .ok (.bipush 6, 2) := dk_16 6 (dk_at dksX10_young_3 19 rfl rfl)
theorem dX10_young_111 : decode cX10_young 111 = .ok (.iload_n 1, 1) := dk_27 (dk_at dksX10_young_3 21 rfl rfl)
theorem dX10_young_112 : decode cX10_young 112 = .ok (.iadd, 1) := dk_96 (dk_at dksX10_young_3 22 rfl rfl)
theorem dX10_young_113 : decode cX10_young 113 = .ok (.iaload, 1) := dk_46 (dk_at dksX10_young_3 23 rfl rfl)
theorem dX10_young_114 : decode cX10_young 114 = .ok (.ireturn, 1) := dk_172 (dk_at dksX10_young_4 0 rfl rfl)
theorem dX10_young_115 : decode cX10_young 115 = .ok (.aload_n 0, 1) := dk_42 (dk_at dksX10_young_4 1 rfl rfl)
theorem dX10_young_116 : decode cX10_young 116 = .ok (.getfield 128, 3) := dk_180 0 128 (dk_at dksX10_young_4 2 rfl rfl)
theorem dX10_young_119 : decode cX10_young 119 = .ok (.bipush 12, 2) := dk_16 12 (dk_at dksX10_young_4 5 rfl rfl)
theorem dX10_young_121 : decode cX10_young 121 = .ok (.iload_n 1, 1) := dk_27 (dk_at dksX10_young_4 7 rfl rfl)
theorem dX10_young_122 : decode cX10_young 122 = .ok (.iadd, 1) := dk_96 (dk_at dksX10_young_4 8 rfl rfl)
theorem dX10_young_123 : decode cX10_young 123 = .ok (.iaload, 1) := dk_46 (dk_at dksX10_young_4 9 rfl rfl)
theorem dX10_young_124 : decode cX10_young 124 = .ok (.ireturn, 1) := dk_172 (dk_at dksX10_young_4 10 rfl rfl)
theorem dX10_young_125 : decode cX10_young 125 = .ok (.aload_n 0, 1) := dk_42 (dk_at dksX10_young_4 11 rfl rfl)
theorem dX10_young_126 : decode cX10_young 126 = .ok (.getfield 128, 3) := dk_180 0 128 (dk_at dksX10_young_4 12 rfl rfl)
theorem dX10_young_129 : decode cX10_young 129 = .ok (.bipush 18, 2) := dk_16 18 (dk_at dksX10_young_4 15 rfl rfl)
theorem dX10_young_131 : decode cX10_young 131 = .ok (.iload_n 1, 1) := dk_27 (dk_at dksX10_young_4 17 rfl rfl)
theorem dX10_young_132 : decode cX10_young 132 = .ok (.iadd, 1) := dk_96 (dk_at dksX10_young_4 18 rfl rfl)
theorem dX10_young_133 : decode cX10_young 133 = .ok (.iaload, 1) := dk_46 (dk_at dksX10_young_4 19 rfl rfl)
theorem dX10_young_134 : decode cX10_young 134 = .ok (.ireturn, 1) := dk_172 (dk_at dksX10_young_4 20 rfl rfl)
theorem dX10_young_135 : decode cX10_young 135 = .ok (.aload_n 0, 1) := dk_42 (dk_at dksX10_young_4 21 rfl rfl)
theorem dX10_young_136 : decode cX10_young 136 = .ok (.getfield 128, 3) := dk_180 0 128 (dk_at dksX10_young_5 0 rfl rfl)
theorem dX10_young_139 : decode cX10_young 139 = .ok (.bipush 47, 2) := dk_16 47 (dk_at dksX10_young_5 3 rfl rfl)
theorem dX10_young_141 : decode cX10_young 141 = .ok (.iaload, 1) := dk_46 (dk_at dksX10_young_5 5 rfl rfl)
theorem dX10_young_142 : decode cX10_young 142 = .ok (.aload_n 0, 1) := dk_42 (dk_at dksX10_young_5 6 rfl rfl)
theorem dX10_young_143 : decode cX10_young 143 = .ok (.getfield 128, 3) := dk_180 0 128 (dk_at dksX10_young_5 7 rfl rfl)
theorem dX10_young_146 : decode cX10_young 146 = .ok (.bipush 24, 2) := dk_16 24 (dk_at dksX10_young_5 10 rfl rfl)
theorem dX10_young_148 : decode cX10_young 148 = .ok (.iload_n 1, 1) := dk_27 (dk_at dksX10_young_5 12 rfl rfl)
theorem dX10_young_149 : decode cX10_young 149 = .ok (.iadd, 1) := dk_96 (dk_at dksX10_young_5 13 rfl rfl)
theorem dX10_young_150 : decode cX10_young 150 = .ok (.iaload, 1) := dk_46 (dk_at dksX10_young_5 14 rfl rfl)
theorem dX10_young_151 : decode cX10_young 151 = .ok (.isub, 1) := dk_100 (dk_at dksX10_young_5 15 rfl rfl)
theorem dX10_young_152 : decode cX10_young 152 = .ok (.ireturn, 1) := dk_172 (dk_at dksX10_young_5 16 rfl rfl)
theorem dX10_young_153 : decode cX10_young 153 = .ok (.aload_n 0, 1) := dk_42 (dk_at dksX10_young_5 17 rfl rfl)
theorem dX10_young_154 : decode cX10_young 154 = .ok (.getfield 128, 3) := dk_180 0 128 (dk_at dksX10_young_5 18 rfl rfl)
theorem dX10_young_157 : decode cX10_young 157 = .ok (.bipush 30, 2) := dk_16 30 (dk_at dksX10_young_5 21 rfl rfl)
theorem dX10_young_159 : decode cX10_young 159 = .ok (.iload_n 1, 1) := dk_27 (dk_at dksX10_young_5 23 rfl rfl)
theorem dX10_young_160 : decode cX10_young 160 = .ok (.iadd, 1) := dk_96 (dk_at dksX10_young_6 0 rfl rfl)
theorem dX10_young_161 : decode cX10_young 161 = .ok (.iaload, 1) := dk_46 (dk_at dksX10_young_6 1 rfl rfl)
theorem dX10_young_162 : decode cX10_young 162 = .ok (.ireturn, 1) := dk_172 (dk_at dksX10_young_6 2 rfl rfl)
theorem dX10_young_163 : decode cX10_young 163 = .ok (.aload_n 0, 1) := dk_42 (dk_at dksX10_young_6 3 rfl rfl)
theorem dX10_young_164 : decode cX10_young 164 = .ok (.getfield 128, 3) := dk_180 0 128 (dk_at dksX10_young_6 4 rfl rfl)
theorem dX10_young_167 : decode cX10_young 167 = .ok (.bipush 12, 2) := dk_16 12 (dk_at dksX10_young_6 7 rfl rfl)
theorem dX10_young_169 : decode cX10_young 169 = .ok (.iload_n 1, 1) := dk_27 (dk_at dksX10_young_6 9 rfl rfl)
theorem dX10_young_170 : decode cX10_young 170 = .ok (.iadd, 1) := dk_96 (dk_at dksX10_young_6 10 rfl rfl)
theorem dX10_young_171 : decode cX10_young 171 = .ok (.iaload, 1) := dk_46 (dk_at dksX10_young_6 11 rfl rfl)
theorem dX10_young_172 : decode cX10_young 172 = .ok (.iconst 1, 1) := dk_4 (dk_at dksX10_young_6 12 rfl rfl)
theorem dX10_young_173 : decode cX10_young 173 = .ok (.if_icmp .ne 7, 3) := dk_160 0 7 (dk_at dksX10_young_6 13 rfl rfl)
theorem dX10_young_176 : decode cX10_young 176 = .ok (.iconst 0, 1) := dk_3 (dk_at dksX10_young_6 16 rfl rfl)
theorem dX10_young_177 : decode cX10_young 177 = .ok (.goto 8, 3) := dk_167 0 8 (dk_at dksX10_young_6 17 rfl rfl)
theorem dX10_young_180 : decode cX10_young 180 = .ok (.aload_n 0, 1) := dk_42 (dk_at dksX10_young_6 20 rfl rfl)
theorem dX10_young_181 : decode cX10_young 181 = .ok (.iload_n 1, 1) := dk_27 (dk_at dksX10_young_6 21 rfl rfl)
theorem dX10_young_182 : decode cX10_young 182 = .ok (.invokevirtual 376, 3) := dk_182 1 120 (dk_at dksX10_young_7 0 rfl rfl)
theorem dX10_young_185 : decode cX10_young 185 = .ok (.ireturn, 1) := dk_172 (dk_at dksX10_young_7 3 rfl rfl)
theorem dX10_young_186 : decode cX10_young 186 = .ok (.aload_n 0, 1) := dk_42 (dk_at dksX10_young_7 4 rfl rfl)
theorem dX10_young_187 : decode cX10_young 187 = .ok (.iload_n 1, 1) := dk_27 (dk_at dksX10_young_7 5 rfl rfl)
theorem dX10_young_188 : decode cX10_young 188 = .ok (.invokevirtual 379, 3) := dk_182 1 123 (dk_at dksX10_young_7 6 rfl rfl)
theorem dX10_young_191 : decode cX10_young 191 = .ok (.ifCond .eq 7, 3) := dk_153 0 7 (dk_at dksX10_young_7 9 rfl rfl)
theorem dX10_young_194 : decode cX10_young 194 = .ok (.iconst 1, 1) := dk_4 (dk_at dksX10_young_7 12 rfl rfl)
theorem dX10_young_195 : decode cX10_young 195 = .ok (.goto 4, 3) := dk_167 0 4 (dk_at dksX10_young_7 13 rfl rfl)
theorem dX10_young_198 : decode cX10_young 198 = .ok (.iconst 0, 1) := dk_3 (dk_at dksX10_young_7 16 rfl rfl)
theorem dX10_young_199 : decode cX10_young 199 = .ok (.ireturn, 1) := dk_172 (dk_at dksX10_young_7 17 rfl rfl)
theorem dX10_young_200 : decode cX10_young 200 = .ok (.iconst (-1), 1) := dk_2 (dk_at dksX10_young_7 18 rfl rfl)
theorem dX10_young_201 : decode cX10_young 201 = .ok (.ireturn, 1) := dk_172 (dk_at dksX10_young_7 19 rfl rfl)
abbrev cX10_isYoung : ByteArray := prog_22_method_43_code
def yX10_isYoung : MethodName := ⟨RX10, "isYoung", "(I)Z"⟩
def dkwX10_isYoung_0 : List UInt8 := [27, 3, 42, 180, 0, 61, 42, 180, 0, 251, 46, 4, 100, 184, 1, 78, 172]
abbrev dktX10_isYoung_0 : List UInt8 := dkwX10_isYoung_0 ++ []
theorem dksX10_isYoung_0 : cX10_isYoung.data.toList.drop 0 = dktX10_isYoung_0 := by decide +kernel
theorem dX10_isYoung_0 : decode cX10_isYoung 0 = .ok (.iload_n 1, 1) := dk_27 (dk_at dksX10_isYoung_0 0 rfl rfl)
theorem dX10_isYoung_1 : decode cX10_isYoung 1 = .ok (.iconst 0, 1) := dk_3 (dk_at dksX10_isYoung_0 1 rfl rfl)
theorem dX10_isYoung_2 : decode cX10_isYoung 2 = .ok (.aload_n 0, 1) := dk_42 (dk_at dksX10_isYoung_0 2 rfl rfl)
theorem dX10_isYoung_3 : decode cX10_isYoung 3 = .ok (.getfield 61, 3) := dk_180 0 61 (dk_at dksX10_isYoung_0 3 rfl rfl)
theorem dX10_isYoung_6 : decode cX10_isYoung 6 = .ok (.aload_n 0, 1) := dk_42 (dk_at dksX10_isYoung_0 6 rfl rfl)
theorem dX10_isYoung_7 : decode cX10_isYoung 7 = .ok (.getfield 251, 3) := dk_180 0 251 (dk_at dksX10_isYoung_0 7 rfl rfl)
theorem dX10_isYoung_10 : decode cX10_isYoung 10 = .ok (.iaload, 1) := dk_46 (dk_at dksX10_isYoung_0 10 rfl rfl)
theorem dX10_isYoung_11 : decode cX10_isYoung 11 = .ok (.iconst 1, 1) := dk_4 (dk_at dksX10_isYoung_0 11 rfl rfl)
theorem dX10_isYoung_12 : decode cX10_isYoung 12 = .ok (.isub, 1) := dk_100 (dk_at dksX10_isYoung_0 12 rfl rfl)
theorem dX10_isYoung_13 : decode cX10_isYoung 13 = .ok (.invokestatic 334, 3) := dk_184 1 78 (dk_at dksX10_isYoung_0 13 rfl rfl)
theorem dX10_isYoung_16 : decode cX10_isYoung 16 = .ok (.ireturn, 1) := dk_172 (dk_at dksX10_isYoung_0 16 rfl rfl)
abbrev cX10_coolsOf : ByteArray := prog_22_method_57_code
def yX10_coolsOf : MethodName := ⟨RX10, "coolsOf", "(I)I"⟩
def dkwX10_coolsOf_0 : List UInt8 := [42, 27, 3, 3, 182, 1, 104, 42, 5, 3, 182, 1, 108, 3, 16, 99, 184, 1, 111, 172]
abbrev dktX10_coolsOf_0 : List UInt8 := dkwX10_coolsOf_0 ++ []
theorem dksX10_coolsOf_0 : cX10_coolsOf.data.toList.drop 0 = dktX10_coolsOf_0 := by decide +kernel
theorem dX10_coolsOf_0 : decode cX10_coolsOf 0 = .ok (.aload_n 0, 1) := dk_42 (dk_at dksX10_coolsOf_0 0 rfl rfl)
theorem dX10_coolsOf_1 : decode cX10_coolsOf 1 = .ok (.iload_n 1, 1) := dk_27 (dk_at dksX10_coolsOf_0 1 rfl rfl)
theorem dX10_coolsOf_2 : decode cX10_coolsOf 2 = .ok (.iconst 0, 1) := dk_3 (dk_at dksX10_coolsOf_0 2 rfl rfl)
theorem dX10_coolsOf_3 : decode cX10_coolsOf 3 = .ok (.iconst 0, 1) := dk_3 (dk_at dksX10_coolsOf_0 3 rfl rfl)
theorem dX10_coolsOf_4 : decode cX10_coolsOf 4 = .ok (.invokevirtual 360, 3) := dk_182 1 104 (dk_at dksX10_coolsOf_0 4 rfl rfl)
theorem dX10_coolsOf_7 : decode cX10_coolsOf 7 = .ok (.aload_n 0, 1) := dk_42 (dk_at dksX10_coolsOf_0 7 rfl rfl)
theorem dX10_coolsOf_8 : decode cX10_coolsOf 8 = .ok (.iconst 2, 1) := dk_5 (dk_at dksX10_coolsOf_0 8 rfl rfl)
theorem dX10_coolsOf_9 : decode cX10_coolsOf 9 = .ok (.iconst 0, 1) := dk_3 (dk_at dksX10_coolsOf_0 9 rfl rfl)
theorem dX10_coolsOf_10 : decode cX10_coolsOf 10 = .ok (.invokevirtual 364, 3) := dk_182 1 108 (dk_at dksX10_coolsOf_0 10 rfl rfl)
theorem dX10_coolsOf_13 : decode cX10_coolsOf 13 = .ok (.iconst 0, 1) := dk_3 (dk_at dksX10_coolsOf_0 13 rfl rfl)
theorem dX10_coolsOf_14 : decode cX10_coolsOf 14 = .ok (.bipush 99, 2) := dk_16 99 (dk_at dksX10_coolsOf_0 14 rfl rfl)
theorem dX10_coolsOf_16 : decode cX10_coolsOf 16 = .ok (.invokestatic 367, 3) := dk_184 1 111 (dk_at dksX10_coolsOf_0 16 rfl rfl)
theorem dX10_coolsOf_19 : decode cX10_coolsOf 19 = .ok (.ireturn, 1) := dk_172 (dk_at dksX10_coolsOf_0 19 rfl rfl)
abbrev cX10_looks : ByteArray := prog_22_method_54_code
def yX10_looks : MethodName := ⟨RX10, "looks", "(III)V"⟩
def dkwX10_looks_5 : List UInt8 := [180, 0, 119, 16, 8, 42, 180, 0, 128, 16, 18, 27, 96, 46, 79, 177]
abbrev dktX10_looks_5 : List UInt8 := dkwX10_looks_5 ++ []
def dkwX10_looks_4 : List UInt8 := [180, 0, 119, 16, 6, 42, 180, 0, 128, 16, 6, 27, 96, 46, 79, 42, 180, 0, 119, 16, 7, 27, 79, 42]
abbrev dktX10_looks_4 : List UInt8 := dkwX10_looks_4 ++ dktX10_looks_5
def dkwX10_looks_3 : List UInt8 := [27, 96, 46, 100, 79, 42, 180, 0, 119, 8, 42, 180, 0, 128, 16, 47, 46, 16, 24, 112, 79, 42]
abbrev dktX10_looks_3 : List UInt8 := dkwX10_looks_3 ++ dktX10_looks_4
def dkwX10_looks_2 : List UInt8 := [180, 0, 119, 6, 29, 79, 42, 180, 0, 119, 7, 42, 180, 0, 128, 16, 47, 46, 42, 180, 0, 128, 16, 24]
abbrev dktX10_looks_2 : List UInt8 := dkwX10_looks_2 ++ dktX10_looks_3
def dkwX10_looks_1 : List UInt8 := [96, 46, 79, 42, 180, 0, 119, 5, 42, 180, 0, 67, 16, 6, 42, 180, 0, 251, 104, 27, 96, 46, 79, 42]
abbrev dktX10_looks_1 : List UInt8 := dkwX10_looks_1 ++ dktX10_looks_2
def dkwX10_looks_0 : List UInt8 := [42, 180, 0, 119, 3, 28, 79, 42, 180, 0, 119, 4, 42, 180, 0, 64, 16, 6, 42, 180, 0, 251, 104, 27]
abbrev dktX10_looks_0 : List UInt8 := dkwX10_looks_0 ++ dktX10_looks_1
theorem dksX10_looks_0 : cX10_looks.data.toList.drop 0 = dktX10_looks_0 := by decide +kernel
theorem dksX10_looks_1 : cX10_looks.data.toList.drop 24 = dktX10_looks_1 := dk_seg dksX10_looks_0 24 rfl rfl
theorem dksX10_looks_2 : cX10_looks.data.toList.drop 48 = dktX10_looks_2 := dk_seg dksX10_looks_1 24 rfl rfl
theorem dksX10_looks_3 : cX10_looks.data.toList.drop 72 = dktX10_looks_3 := dk_seg dksX10_looks_2 24 rfl rfl
theorem dksX10_looks_4 : cX10_looks.data.toList.drop 94 = dktX10_looks_4 := dk_seg dksX10_looks_3 22 rfl rfl
theorem dksX10_looks_5 : cX10_looks.data.toList.drop 118 = dktX10_looks_5 := dk_seg dksX10_looks_4 24 rfl rfl
theorem dX10_looks_0 : decode cX10_looks 0 = .ok (.aload_n 0, 1) := dk_42 (dk_at dksX10_looks_0 0 rfl rfl)
theorem dX10_looks_1 : decode cX10_looks 1 = .ok (.getfield 119, 3) := dk_180 0 119 (dk_at dksX10_looks_0 1 rfl rfl)
theorem dX10_looks_4 : decode cX10_looks 4 = .ok (.iconst 0, 1) := dk_3 (dk_at dksX10_looks_0 4 rfl rfl)
theorem dX10_looks_5 : decode cX10_looks 5 = .ok (.iload_n 2, 1) := dk_28 (dk_at dksX10_looks_0 5 rfl rfl)
theorem dX10_looks_6 : decode cX10_looks 6 = .ok (.iastore, 1) := dk_79 (dk_at dksX10_looks_0 6 rfl rfl)
theorem dX10_looks_7 : decode cX10_looks 7 = .ok (.aload_n 0, 1) := dk_42 (dk_at dksX10_looks_0 7 rfl rfl)
theorem dX10_looks_8 : decode cX10_looks 8 = .ok (.getfield 119, 3) := dk_180 0 119 (dk_at dksX10_looks_0 8 rfl rfl)
theorem dX10_looks_11 : decode cX10_looks 11 = .ok (.iconst 1, 1) := dk_4 (dk_at dksX10_looks_0 11 rfl rfl)
theorem dX10_looks_12 : decode cX10_looks 12 = .ok (.aload_n 0, 1) := dk_42 (dk_at dksX10_looks_0 12 rfl rfl)
theorem dX10_looks_13 : decode cX10_looks 13 = .ok (.getfield 64, 3) := dk_180 0 64 (dk_at dksX10_looks_0 13 rfl rfl)
theorem dX10_looks_16 : decode cX10_looks 16 = .ok (.bipush 6, 2) := dk_16 6 (dk_at dksX10_looks_0 16 rfl rfl)
theorem dX10_looks_18 : decode cX10_looks 18 = .ok (.aload_n 0, 1) := dk_42 (dk_at dksX10_looks_0 18 rfl rfl)
theorem dX10_looks_19 : decode cX10_looks 19 = .ok (.getfield 251, 3) := dk_180 0 251 (dk_at dksX10_looks_0 19 rfl rfl)
theorem dX10_looks_22 : decode cX10_looks 22 = .ok (.imul, 1) := dk_104 (dk_at dksX10_looks_0 22 rfl rfl)
theorem dX10_looks_23 : decode cX10_looks 23 = .ok (.iload_n 1, 1) := dk_27 (dk_at dksX10_looks_0 23 rfl rfl)
theorem dX10_looks_24 : decode cX10_looks 24 = .ok (.iadd, 1) := dk_96 (dk_at dksX10_looks_1 0 rfl rfl)
theorem dX10_looks_25 : decode cX10_looks 25 = .ok (.iaload, 1) := dk_46 (dk_at dksX10_looks_1 1 rfl rfl)
theorem dX10_looks_26 : decode cX10_looks 26 = .ok (.iastore, 1) := dk_79 (dk_at dksX10_looks_1 2 rfl rfl)
theorem dX10_looks_27 : decode cX10_looks 27 = .ok (.aload_n 0, 1) := dk_42 (dk_at dksX10_looks_1 3 rfl rfl)
theorem dX10_looks_28 : decode cX10_looks 28 = .ok (.getfield 119, 3) := dk_180 0 119 (dk_at dksX10_looks_1 4 rfl rfl)
theorem dX10_looks_31 : decode cX10_looks 31 = .ok (.iconst 2, 1) := dk_5 (dk_at dksX10_looks_1 7 rfl rfl)
theorem dX10_looks_32 : decode cX10_looks 32 = .ok (.aload_n 0, 1) := dk_42 (dk_at dksX10_looks_1 8 rfl rfl)
theorem dX10_looks_33 : decode cX10_looks 33 = .ok (.getfield 67, 3) := dk_180 0 67 (dk_at dksX10_looks_1 9 rfl rfl)
theorem dX10_looks_36 : decode cX10_looks 36 = .ok (.bipush 6, 2) := dk_16 6 (dk_at dksX10_looks_1 12 rfl rfl)
theorem dX10_looks_38 : decode cX10_looks 38 = .ok (.aload_n 0, 1) := dk_42 (dk_at dksX10_looks_1 14 rfl rfl)
theorem dX10_looks_39 : decode cX10_looks 39 = .ok (.getfield 251, 3) := dk_180 0 251 (dk_at dksX10_looks_1 15 rfl rfl)
theorem dX10_looks_42 : decode cX10_looks 42 = .ok (.imul, 1) := dk_104 (dk_at dksX10_looks_1 18 rfl rfl)
theorem dX10_looks_43 : decode cX10_looks 43 = .ok (.iload_n 1, 1) := dk_27 (dk_at dksX10_looks_1 19 rfl rfl)
theorem dX10_looks_44 : decode cX10_looks 44 = .ok (.iadd, 1) := dk_96 (dk_at dksX10_looks_1 20 rfl rfl)
theorem dX10_looks_45 : decode cX10_looks 45 = .ok (.iaload, 1) := dk_46 (dk_at dksX10_looks_1 21 rfl rfl)
theorem dX10_looks_46 : decode cX10_looks 46 = .ok (.iastore, 1) := dk_79 (dk_at dksX10_looks_1 22 rfl rfl)
theorem dX10_looks_47 : decode cX10_looks 47 = .ok (.aload_n 0, 1) := dk_42 (dk_at dksX10_looks_1 23 rfl rfl)
theorem dX10_looks_48 : decode cX10_looks 48 = .ok (.getfield 119, 3) := dk_180 0 119 (dk_at dksX10_looks_2 0 rfl rfl)
theorem dX10_looks_51 : decode cX10_looks 51 = .ok (.iconst 3, 1) := dk_6 (dk_at dksX10_looks_2 3 rfl rfl)
theorem dX10_looks_52 : decode cX10_looks 52 = .ok (.iload_n 3, 1) := dk_29 (dk_at dksX10_looks_2 4 rfl rfl)
theorem dX10_looks_53 : decode cX10_looks 53 = .ok (.iastore, 1) := dk_79 (dk_at dksX10_looks_2 5 rfl rfl)
theorem dX10_looks_54 : decode cX10_looks 54 = .ok (.aload_n 0, 1) := dk_42 (dk_at dksX10_looks_2 6 rfl rfl)
theorem dX10_looks_55 : decode cX10_looks 55 = .ok (.getfield 119, 3) := dk_180 0 119 (dk_at dksX10_looks_2 7 rfl rfl)
theorem dX10_looks_58 : decode cX10_looks 58 = .ok (.iconst 4, 1) := dk_7 (dk_at dksX10_looks_2 10 rfl rfl)
theorem dX10_looks_59 : decode cX10_looks 59 = .ok (.aload_n 0, 1) := dk_42 (dk_at dksX10_looks_2 11 rfl rfl)
theorem dX10_looks_60 : decode cX10_looks 60 = .ok (.getfield 128, 3) := dk_180 0 128 (dk_at dksX10_looks_2 12 rfl rfl)
theorem dX10_looks_63 : decode cX10_looks 63 = .ok (.bipush 47, 2) := dk_16 47 (dk_at dksX10_looks_2 15 rfl rfl)
theorem dX10_looks_65 : decode cX10_looks 65 = .ok (.iaload, 1) := dk_46 (dk_at dksX10_looks_2 17 rfl rfl)
theorem dX10_looks_66 : decode cX10_looks 66 = .ok (.aload_n 0, 1) := dk_42 (dk_at dksX10_looks_2 18 rfl rfl)
theorem dX10_looks_67 : decode cX10_looks 67 = .ok (.getfield 128, 3) := dk_180 0 128 (dk_at dksX10_looks_2 19 rfl rfl)
theorem dX10_looks_70 : decode cX10_looks 70 = .ok (.bipush 24, 2) := dk_16 24 (dk_at dksX10_looks_2 22 rfl rfl)
theorem dX10_looks_72 : decode cX10_looks 72 = .ok (.iload_n 1, 1) := dk_27 (dk_at dksX10_looks_3 0 rfl rfl)
theorem dX10_looks_73 : decode cX10_looks 73 = .ok (.iadd, 1) := dk_96 (dk_at dksX10_looks_3 1 rfl rfl)
theorem dX10_looks_74 : decode cX10_looks 74 = .ok (.iaload, 1) := dk_46 (dk_at dksX10_looks_3 2 rfl rfl)
theorem dX10_looks_75 : decode cX10_looks 75 = .ok (.isub, 1) := dk_100 (dk_at dksX10_looks_3 3 rfl rfl)
theorem dX10_looks_76 : decode cX10_looks 76 = .ok (.iastore, 1) := dk_79 (dk_at dksX10_looks_3 4 rfl rfl)
theorem dX10_looks_77 : decode cX10_looks 77 = .ok (.aload_n 0, 1) := dk_42 (dk_at dksX10_looks_3 5 rfl rfl)
theorem dX10_looks_78 : decode cX10_looks 78 = .ok (.getfield 119, 3) := dk_180 0 119 (dk_at dksX10_looks_3 6 rfl rfl)
theorem dX10_looks_81 : decode cX10_looks 81 = .ok (.iconst 5, 1) := dk_8 (dk_at dksX10_looks_3 9 rfl rfl)
theorem dX10_looks_82 : decode cX10_looks 82 = .ok (.aload_n 0, 1) := dk_42 (dk_at dksX10_looks_3 10 rfl rfl)
theorem dX10_looks_83 : decode cX10_looks 83 = .ok (.getfield 128, 3) := dk_180 0 128 (dk_at dksX10_looks_3 11 rfl rfl)
theorem dX10_looks_86 : decode cX10_looks 86 = .ok (.bipush 47, 2) := dk_16 47 (dk_at dksX10_looks_3 14 rfl rfl)
theorem dX10_looks_88 : decode cX10_looks 88 = .ok (.iaload, 1) := dk_46 (dk_at dksX10_looks_3 16 rfl rfl)
theorem dX10_looks_89 : decode cX10_looks 89 = .ok (.bipush 24, 2) := dk_16 24 (dk_at dksX10_looks_3 17 rfl rfl)
theorem dX10_looks_91 : decode cX10_looks 91 = .ok (.irem, 1) := dk_112 (dk_at dksX10_looks_3 19 rfl rfl)
theorem dX10_looks_92 : decode cX10_looks 92 = .ok (.iastore, 1) := dk_79 (dk_at dksX10_looks_3 20 rfl rfl)
theorem dX10_looks_93 : decode cX10_looks 93 = .ok (.aload_n 0, 1) := dk_42 (dk_at dksX10_looks_3 21 rfl rfl)
theorem dX10_looks_94 : decode cX10_looks 94 = .ok (.getfield 119, 3) := dk_180 0 119 (dk_at dksX10_looks_4 0 rfl rfl)
theorem dX10_looks_97 : decode cX10_looks 97 = .ok (.bipush 6, 2) := dk_16 6 (dk_at dksX10_looks_4 3 rfl rfl)
theorem dX10_looks_99 : decode cX10_looks 99 = .ok (.aload_n 0, 1) := dk_42 (dk_at dksX10_looks_4 5 rfl rfl)
theorem dX10_looks_100 : decode cX10_looks 100 = .ok (.getfield 128, 3) := dk_180 0 128 (dk_at dksX10_looks_4 6 rfl rfl)
theorem dX10_looks_103 : decode cX10_looks 103 = .ok (.bipush 6, 2) := dk_16 6 (dk_at dksX10_looks_4 9 rfl rfl)
theorem dX10_looks_105 : decode cX10_looks 105 = .ok (.iload_n 1, 1) := dk_27 (dk_at dksX10_looks_4 11 rfl rfl)
theorem dX10_looks_106 : decode cX10_looks 106 = .ok (.iadd, 1) := dk_96 (dk_at dksX10_looks_4 12 rfl rfl)
theorem dX10_looks_107 : decode cX10_looks 107 = .ok (.iaload, 1) := dk_46 (dk_at dksX10_looks_4 13 rfl rfl)
theorem dX10_looks_108 : decode cX10_looks 108 = .ok (.iastore, 1) := dk_79 (dk_at dksX10_looks_4 14 rfl rfl)
theorem dX10_looks_109 : decode cX10_looks 109 = .ok (.aload_n 0, 1) := dk_42 (dk_at dksX10_looks_4 15 rfl rfl)
theorem dX10_looks_110 : decode cX10_looks 110 = .ok (.getfield 119, 3) := dk_180 0 119 (dk_at dksX10_looks_4 16 rfl rfl)
theorem dX10_looks_113 : decode cX10_looks 113 = .ok (.bipush 7, 2) := dk_16 7 (dk_at dksX10_looks_4 19 rfl rfl)
theorem dX10_looks_115 : decode cX10_looks 115 = .ok (.iload_n 1, 1) := dk_27 (dk_at dksX10_looks_4 21 rfl rfl)
theorem dX10_looks_116 : decode cX10_looks 116 = .ok (.iastore, 1) := dk_79 (dk_at dksX10_looks_4 22 rfl rfl)
theorem dX10_looks_117 : decode cX10_looks 117 = .ok (.aload_n 0, 1) := dk_42 (dk_at dksX10_looks_4 23 rfl rfl)
theorem dX10_looks_118 : decode cX10_looks 118 = .ok (.getfield 119, 3) := dk_180 0 119 (dk_at dksX10_looks_5 0 rfl rfl)
theorem dX10_looks_121 : decode cX10_looks 121 = .ok (.bipush 8, 2) := dk_16 8 (dk_at dksX10_looks_5 3 rfl rfl)
theorem dX10_looks_123 : decode cX10_looks 123 = .ok (.aload_n 0, 1) := dk_42 (dk_at dksX10_looks_5 5 rfl rfl)
theorem dX10_looks_124 : decode cX10_looks 124 = .ok (.getfield 128, 3) := dk_180 0 128 (dk_at dksX10_looks_5 6 rfl rfl)
theorem dX10_looks_127 : decode cX10_looks 127 = .ok (.bipush 18, 2) := dk_16 18 (dk_at dksX10_looks_5 9 rfl rfl)
theorem dX10_looks_129 : decode cX10_looks 129 = .ok (.iload_n 1, 1) := dk_27 (dk_at dksX10_looks_5 11 rfl rfl)
theorem dX10_looks_130 : decode cX10_looks 130 = .ok (.iadd, 1) := dk_96 (dk_at dksX10_looks_5 12 rfl rfl)
theorem dX10_looks_131 : decode cX10_looks 131 = .ok (.iaload, 1) := dk_46 (dk_at dksX10_looks_5 13 rfl rfl)
theorem dX10_looks_132 : decode cX10_looks 132 = .ok (.iastore, 1) := dk_79 (dk_at dksX10_looks_5 14 rfl rfl)
theorem dX10_looks_133 : decode cX10_looks 133 = .ok (.return_, 1) := dk_177 (dk_at dksX10_looks_5 15 rfl rfl)
abbrev cX10_lawTells : ByteArray := prog_22_method_53_code
def yX10_lawTells : MethodName := ⟨RX10, "lawTells", "(II)I"⟩
def dkwX10_lawTells_6 : List UInt8 := [180, 1, 74, 153, 0, 7, 3, 167, 0, 5, 21, 5, 172, 132, 4, 1, 167, 255, 139, 3, 172]
abbrev dktX10_lawTells_6 : List UInt8 := dkwX10_lawTells_6 ++ []
def dkwX10_lawTells_5 : List UInt8 := [167, 0, 37, 42, 42, 180, 0, 104, 21, 4, 46, 42, 180, 0, 107, 21, 4, 46, 182, 1, 101, 54, 5, 42]
abbrev dktX10_lawTells_5 : List UInt8 := dkwX10_lawTells_5 ++ dktX10_lawTells_6
def dkwX10_lawTells_4 : List UInt8 := [21, 4, 46, 182, 1, 101, 54, 6, 42, 180, 1, 74, 153, 0, 5, 3, 172, 21, 5, 21, 6, 161, 0, 6]
abbrev dktX10_lawTells_4 : List UInt8 := dkwX10_lawTells_4 ++ dktX10_lawTells_5
def dkwX10_lawTells_3 : List UInt8 := [180, 0, 101, 21, 4, 46, 182, 1, 101, 54, 5, 42, 42, 180, 0, 101, 21, 4, 46, 42, 180, 0, 104]
abbrev dktX10_lawTells_3 : List UInt8 := dkwX10_lawTells_3 ++ dktX10_lawTells_4
def dkwX10_lawTells_2 : List UInt8 := [162, 0, 112, 42, 180, 0, 94, 21, 4, 51, 153, 0, 62, 42, 42, 180, 0, 98, 21, 4, 46, 42]
abbrev dktX10_lawTells_2 : List UInt8 := dkwX10_lawTells_2 ++ dktX10_lawTells_3
def dkwX10_lawTells_1 : List UInt8 := [28, 172, 42, 3, 181, 1, 74, 42, 180, 0, 88, 29, 46, 54, 4, 21, 4, 42, 180, 0, 91, 29, 46]
abbrev dktX10_lawTells_1 : List UInt8 := dkwX10_lawTells_1 ++ dktX10_lawTells_2
def dkwX10_lawTells_0 : List UInt8 := [7, 42, 180, 0, 251, 104, 27, 96, 62, 42, 180, 0, 88, 29, 46, 42, 180, 0, 91, 29, 46, 160, 0, 5]
abbrev dktX10_lawTells_0 : List UInt8 := dkwX10_lawTells_0 ++ dktX10_lawTells_1
theorem dksX10_lawTells_0 : cX10_lawTells.data.toList.drop 0 = dktX10_lawTells_0 := by decide +kernel
theorem dksX10_lawTells_1 : cX10_lawTells.data.toList.drop 24 = dktX10_lawTells_1 := dk_seg dksX10_lawTells_0 24 rfl rfl
theorem dksX10_lawTells_2 : cX10_lawTells.data.toList.drop 47 = dktX10_lawTells_2 := dk_seg dksX10_lawTells_1 23 rfl rfl
theorem dksX10_lawTells_3 : cX10_lawTells.data.toList.drop 69 = dktX10_lawTells_3 := dk_seg dksX10_lawTells_2 22 rfl rfl
theorem dksX10_lawTells_4 : cX10_lawTells.data.toList.drop 92 = dktX10_lawTells_4 := dk_seg dksX10_lawTells_3 23 rfl rfl
theorem dksX10_lawTells_5 : cX10_lawTells.data.toList.drop 116 = dktX10_lawTells_5 := dk_seg dksX10_lawTells_4 24 rfl rfl
theorem dksX10_lawTells_6 : cX10_lawTells.data.toList.drop 140 = dktX10_lawTells_6 := dk_seg dksX10_lawTells_5 24 rfl rfl
theorem dX10_lawTells_0 : decode cX10_lawTells 0 = .ok (.iconst 4, 1) := dk_7 (dk_at dksX10_lawTells_0 0 rfl rfl)
theorem dX10_lawTells_1 : decode cX10_lawTells 1 = .ok (.aload_n 0, 1) := dk_42 (dk_at dksX10_lawTells_0 1 rfl rfl)
theorem dX10_lawTells_2 : decode cX10_lawTells 2 = .ok (.getfield 251, 3) := dk_180 0 251 (dk_at dksX10_lawTells_0 2 rfl rfl)
theorem dX10_lawTells_5 : decode cX10_lawTells 5 = .ok (.imul, 1) := dk_104 (dk_at dksX10_lawTells_0 5 rfl rfl)
theorem dX10_lawTells_6 : decode cX10_lawTells 6 = .ok (.iload_n 1, 1) := dk_27 (dk_at dksX10_lawTells_0 6 rfl rfl)
theorem dX10_lawTells_7 : decode cX10_lawTells 7 = .ok (.iadd, 1) := dk_96 (dk_at dksX10_lawTells_0 7 rfl rfl)
theorem dX10_lawTells_8 : decode cX10_lawTells 8 = .ok (.istore_n 3, 1) := dk_62 (dk_at dksX10_lawTells_0 8 rfl rfl)
theorem dX10_lawTells_9 : decode cX10_lawTells 9 = .ok (.aload_n 0, 1) := dk_42 (dk_at dksX10_lawTells_0 9 rfl rfl)
theorem dX10_lawTells_10 : decode cX10_lawTells 10 = .ok (.getfield 88, 3) := dk_180 0 88 (dk_at dksX10_lawTells_0 10 rfl rfl)
theorem dX10_lawTells_13 : decode cX10_lawTells 13 = .ok (.iload_n 3, 1) := dk_29 (dk_at dksX10_lawTells_0 13 rfl rfl)
theorem dX10_lawTells_14 : decode cX10_lawTells 14 = .ok (.iaload, 1) := dk_46 (dk_at dksX10_lawTells_0 14 rfl rfl)
theorem dX10_lawTells_15 : decode cX10_lawTells 15 = .ok (.aload_n 0, 1) := dk_42 (dk_at dksX10_lawTells_0 15 rfl rfl)
theorem dX10_lawTells_16 : decode cX10_lawTells 16 = .ok (.getfield 91, 3) := dk_180 0 91 (dk_at dksX10_lawTells_0 16 rfl rfl)
theorem dX10_lawTells_19 : decode cX10_lawTells 19 = .ok (.iload_n 3, 1) := dk_29 (dk_at dksX10_lawTells_0 19 rfl rfl)
theorem dX10_lawTells_20 : decode cX10_lawTells 20 = .ok (.iaload, 1) := dk_46 (dk_at dksX10_lawTells_0 20 rfl rfl)
theorem dX10_lawTells_21 : decode cX10_lawTells 21 = .ok (.if_icmp .ne 5, 3) := dk_160 0 5 (dk_at dksX10_lawTells_0 21 rfl rfl)
theorem dX10_lawTells_24 : decode cX10_lawTells 24 = .ok (.iload_n 2, 1) := dk_28 (dk_at dksX10_lawTells_1 0 rfl rfl)
theorem dX10_lawTells_25 : decode cX10_lawTells 25 = .ok (.ireturn, 1) := dk_172 (dk_at dksX10_lawTells_1 1 rfl rfl)
theorem dX10_lawTells_26 : decode cX10_lawTells 26 = .ok (.aload_n 0, 1) := dk_42 (dk_at dksX10_lawTells_1 2 rfl rfl)
theorem dX10_lawTells_27 : decode cX10_lawTells 27 = .ok (.iconst 0, 1) := dk_3 (dk_at dksX10_lawTells_1 3 rfl rfl)
theorem dX10_lawTells_28 : decode cX10_lawTells 28 = .ok (.putfield 330, 3) := dk_181 1 74 (dk_at dksX10_lawTells_1 4 rfl rfl)
theorem dX10_lawTells_31 : decode cX10_lawTells 31 = .ok (.aload_n 0, 1) := dk_42 (dk_at dksX10_lawTells_1 7 rfl rfl)
theorem dX10_lawTells_32 : decode cX10_lawTells 32 = .ok (.getfield 88, 3) := dk_180 0 88 (dk_at dksX10_lawTells_1 8 rfl rfl)
theorem dX10_lawTells_35 : decode cX10_lawTells 35 = .ok (.iload_n 3, 1) := dk_29 (dk_at dksX10_lawTells_1 11 rfl rfl)
theorem dX10_lawTells_36 : decode cX10_lawTells 36 = .ok (.iaload, 1) := dk_46 (dk_at dksX10_lawTells_1 12 rfl rfl)
theorem dX10_lawTells_37 : decode cX10_lawTells 37 = .ok (.istore 4, 2) := dk_54 4 (dk_at dksX10_lawTells_1 13 rfl rfl)
theorem dX10_lawTells_39 : decode cX10_lawTells 39 = .ok (.iload 4, 2) := dk_21 4 (dk_at dksX10_lawTells_1 15 rfl rfl)
theorem dX10_lawTells_41 : decode cX10_lawTells 41 = .ok (.aload_n 0, 1) := dk_42 (dk_at dksX10_lawTells_1 17 rfl rfl)
theorem dX10_lawTells_42 : decode cX10_lawTells 42 = .ok (.getfield 91, 3) := dk_180 0 91 (dk_at dksX10_lawTells_1 18 rfl rfl)
theorem dX10_lawTells_45 : decode cX10_lawTells 45 = .ok (.iload_n 3, 1) := dk_29 (dk_at dksX10_lawTells_1 21 rfl rfl)
theorem dX10_lawTells_46 : decode cX10_lawTells 46 = .ok (.iaload, 1) := dk_46 (dk_at dksX10_lawTells_1 22 rfl rfl)
theorem dX10_lawTells_47 : decode cX10_lawTells 47 = .ok (.if_icmp .ge 112, 3) := dk_162 0 112 (dk_at dksX10_lawTells_2 0 rfl rfl)
theorem dX10_lawTells_50 : decode cX10_lawTells 50 = .ok (.aload_n 0, 1) := dk_42 (dk_at dksX10_lawTells_2 3 rfl rfl)
theorem dX10_lawTells_51 : decode cX10_lawTells 51 = .ok (.getfield 94, 3) := dk_180 0 94 (dk_at dksX10_lawTells_2 4 rfl rfl)
theorem dX10_lawTells_54 : decode cX10_lawTells 54 = .ok (.iload 4, 2) := dk_21 4 (dk_at dksX10_lawTells_2 7 rfl rfl)
theorem dX10_lawTells_56 : decode cX10_lawTells 56 = .ok (.baload, 1) := dk_51 (dk_at dksX10_lawTells_2 9 rfl rfl)
theorem dX10_lawTells_57 : decode cX10_lawTells 57 = .ok (.ifCond .eq 62, 3) := dk_153 0 62 (dk_at dksX10_lawTells_2 10 rfl rfl)
theorem dX10_lawTells_60 : decode cX10_lawTells 60 = .ok (.aload_n 0, 1) := dk_42 (dk_at dksX10_lawTells_2 13 rfl rfl)
theorem dX10_lawTells_61 : decode cX10_lawTells 61 = .ok (.aload_n 0, 1) := dk_42 (dk_at dksX10_lawTells_2 14 rfl rfl)
theorem dX10_lawTells_62 : decode cX10_lawTells 62 = .ok (.getfield 98, 3) := dk_180 0 98 (dk_at dksX10_lawTells_2 15 rfl rfl)
theorem dX10_lawTells_65 : decode cX10_lawTells 65 = .ok (.iload 4, 2) := dk_21 4 (dk_at dksX10_lawTells_2 18 rfl rfl)
theorem dX10_lawTells_67 : decode cX10_lawTells 67 = .ok (.iaload, 1) := dk_46 (dk_at dksX10_lawTells_2 20 rfl rfl)
theorem dX10_lawTells_68 : decode cX10_lawTells 68 = .ok (.aload_n 0, 1) := dk_42 (dk_at dksX10_lawTells_2 21 rfl rfl)
theorem dX10_lawTells_69 : decode cX10_lawTells 69 = .ok (.getfield 101, 3) := dk_180 0 101 (dk_at dksX10_lawTells_3 0 rfl rfl)
theorem dX10_lawTells_72 : decode cX10_lawTells 72 = .ok (.iload 4, 2) := dk_21 4 (dk_at dksX10_lawTells_3 3 rfl rfl)
theorem dX10_lawTells_74 : decode cX10_lawTells 74 = .ok (.iaload, 1) := dk_46 (dk_at dksX10_lawTells_3 5 rfl rfl)
theorem dX10_lawTells_75 : decode cX10_lawTells 75 = .ok (.invokevirtual 357, 3) := dk_182 1 101 (dk_at dksX10_lawTells_3 6 rfl rfl)
theorem dX10_lawTells_78 : decode cX10_lawTells 78 = .ok (.istore 5, 2) := dk_54 5 (dk_at dksX10_lawTells_3 9 rfl rfl)
theorem dX10_lawTells_80 : decode cX10_lawTells 80 = .ok (.aload_n 0, 1) := dk_42 (dk_at dksX10_lawTells_3 11 rfl rfl)
theorem dX10_lawTells_81 : decode cX10_lawTells 81 = .ok (.aload_n 0, 1) := dk_42 (dk_at dksX10_lawTells_3 12 rfl rfl)
theorem dX10_lawTells_82 : decode cX10_lawTells 82 = .ok (.getfield 101, 3) := dk_180 0 101 (dk_at dksX10_lawTells_3 13 rfl rfl)
theorem dX10_lawTells_85 : decode cX10_lawTells 85 = .ok (.iload 4, 2) := dk_21 4 (dk_at dksX10_lawTells_3 16 rfl rfl)
theorem dX10_lawTells_87 : decode cX10_lawTells 87 = .ok (.iaload, 1) := dk_46 (dk_at dksX10_lawTells_3 18 rfl rfl)
theorem dX10_lawTells_88 : decode cX10_lawTells 88 = .ok (.aload_n 0, 1) := dk_42 (dk_at dksX10_lawTells_3 19 rfl rfl)
theorem dX10_lawTells_89 : decode cX10_lawTells 89 = .ok (.getfield 104, 3) := dk_180 0 104 (dk_at dksX10_lawTells_3 20 rfl rfl)
theorem dX10_lawTells_92 : decode cX10_lawTells 92 = .ok (.iload 4, 2) := dk_21 4 (dk_at dksX10_lawTells_4 0 rfl rfl)
theorem dX10_lawTells_94 : decode cX10_lawTells 94 = .ok (.iaload, 1) := dk_46 (dk_at dksX10_lawTells_4 2 rfl rfl)
theorem dX10_lawTells_95 : decode cX10_lawTells 95 = .ok (.invokevirtual 357, 3) := dk_182 1 101 (dk_at dksX10_lawTells_4 3 rfl rfl)
theorem dX10_lawTells_98 : decode cX10_lawTells 98 = .ok (.istore 6, 2) := dk_54 6 (dk_at dksX10_lawTells_4 6 rfl rfl)
theorem dX10_lawTells_100 : decode cX10_lawTells 100 = .ok (.aload_n 0, 1) := dk_42 (dk_at dksX10_lawTells_4 8 rfl rfl)
theorem dX10_lawTells_101 : decode cX10_lawTells 101 = .ok (.getfield 330, 3) := dk_180 1 74 (dk_at dksX10_lawTells_4 9 rfl rfl)
theorem dX10_lawTells_104 : decode cX10_lawTells 104 = .ok (.ifCond .eq 5, 3) := dk_153 0 5 (dk_at dksX10_lawTells_4 12 rfl rfl)
theorem dX10_lawTells_107 : decode cX10_lawTells 107 = .ok (.iconst 0, 1) := dk_3 (dk_at dksX10_lawTells_4 15 rfl rfl)
theorem dX10_lawTells_108 : decode cX10_lawTells 108 = .ok (.ireturn, 1) := dk_172 (dk_at dksX10_lawTells_4 16 rfl rfl)
theorem dX10_lawTells_109 : decode cX10_lawTells 109 = .ok (.iload 5, 2) := dk_21 5 (dk_at dksX10_lawTells_4 17 rfl rfl)
theorem dX10_lawTells_111 : decode cX10_lawTells 111 = .ok (.iload 6, 2) := dk_21 6 (dk_at dksX10_lawTells_4 19 rfl rfl)
theorem dX10_lawTells_113 : decode cX10_lawTells 113 = .ok (.if_icmp .lt 6, 3) := dk_161 0 6 (dk_at dksX10_lawTells_4 21 rfl rfl)
theorem dX10_lawTells_116 : decode cX10_lawTells 116 = .ok (.goto 37, 3) := dk_167 0 37 (dk_at dksX10_lawTells_5 0 rfl rfl)
theorem dX10_lawTells_119 : decode cX10_lawTells 119 = .ok (.aload_n 0, 1) := dk_42 (dk_at dksX10_lawTells_5 3 rfl rfl)
theorem dX10_lawTells_120 : decode cX10_lawTells 120 = .ok (.aload_n 0, 1) := dk_42 (dk_at dksX10_lawTells_5 4 rfl rfl)
theorem dX10_lawTells_121 : decode cX10_lawTells 121 = .ok (.getfield 104, 3) := dk_180 0 104 (dk_at dksX10_lawTells_5 5 rfl rfl)
theorem dX10_lawTells_124 : decode cX10_lawTells 124 = .ok (.iload 4, 2) := dk_21 4 (dk_at dksX10_lawTells_5 8 rfl rfl)
theorem dX10_lawTells_126 : decode cX10_lawTells 126 = .ok (.iaload, 1) := dk_46 (dk_at dksX10_lawTells_5 10 rfl rfl)
theorem dX10_lawTells_127 : decode cX10_lawTells 127 = .ok (.aload_n 0, 1) := dk_42 (dk_at dksX10_lawTells_5 11 rfl rfl)
theorem dX10_lawTells_128 : decode cX10_lawTells 128 = .ok (.getfield 107, 3) := dk_180 0 107 (dk_at dksX10_lawTells_5 12 rfl rfl)
theorem dX10_lawTells_131 : decode cX10_lawTells 131 = .ok (.iload 4, 2) := dk_21 4 (dk_at dksX10_lawTells_5 15 rfl rfl)
theorem dX10_lawTells_133 : decode cX10_lawTells 133 = .ok (.iaload, 1) := dk_46 (dk_at dksX10_lawTells_5 17 rfl rfl)
theorem dX10_lawTells_134 : decode cX10_lawTells 134 = .ok (.invokevirtual 357, 3) := dk_182 1 101 (dk_at dksX10_lawTells_5 18 rfl rfl)
theorem dX10_lawTells_137 : decode cX10_lawTells 137 = .ok (.istore 5, 2) := dk_54 5 (dk_at dksX10_lawTells_5 21 rfl rfl)
theorem dX10_lawTells_139 : decode cX10_lawTells 139 = .ok (.aload_n 0, 1) := dk_42 (dk_at dksX10_lawTells_5 23 rfl rfl)
theorem dX10_lawTells_140 : decode cX10_lawTells 140 = .ok (.getfield 330, 3) := dk_180 1 74 (dk_at dksX10_lawTells_6 0 rfl rfl)
theorem dX10_lawTells_143 : decode cX10_lawTells 143 = .ok (.ifCond .eq 7, 3) := dk_153 0 7 (dk_at dksX10_lawTells_6 3 rfl rfl)
theorem dX10_lawTells_146 : decode cX10_lawTells 146 = .ok (.iconst 0, 1) := dk_3 (dk_at dksX10_lawTells_6 6 rfl rfl)
theorem dX10_lawTells_147 : decode cX10_lawTells 147 = .ok (.goto 5, 3) := dk_167 0 5 (dk_at dksX10_lawTells_6 7 rfl rfl)
theorem dX10_lawTells_150 : decode cX10_lawTells 150 = .ok (.iload 5, 2) := dk_21 5 (dk_at dksX10_lawTells_6 10 rfl rfl)
theorem dX10_lawTells_152 : decode cX10_lawTells 152 = .ok (.ireturn, 1) := dk_172 (dk_at dksX10_lawTells_6 12 rfl rfl)
theorem dX10_lawTells_153 : decode cX10_lawTells 153 = .ok (.iinc 4 1, 3) := dk_132 4 1 (dk_at dksX10_lawTells_6 13 rfl rfl)
theorem dX10_lawTells_156 : decode cX10_lawTells 156 = .ok (.goto (-117), 3) := dk_167 255 139 (dk_at dksX10_lawTells_6 16 rfl rfl)
theorem dX10_lawTells_159 : decode cX10_lawTells 159 = .ok (.iconst 0, 1) := dk_3 (dk_at dksX10_lawTells_6 19 rfl rfl)
theorem dX10_lawTells_160 : decode cX10_lawTells 160 = .ok (.ireturn, 1) := dk_172 (dk_at dksX10_lawTells_6 20 rfl rfl)
abbrev cX10_termOf : ByteArray := prog_22_method_37_code
def yX10_termOf : MethodName := ⟨RX10, "termOf", "(II)I"⟩
def dkwX10_termOf_7 : List UInt8 := [132, 4, 1, 167, 255, 99, 42, 180, 0, 122, 3, 46, 172]
abbrev dktX10_termOf_7 : List UInt8 := dkwX10_termOf_7 ++ []
def dkwX10_termOf_6 : List UInt8 := [167, 0, 22, 21, 5, 7, 160, 0, 11, 21, 6, 21, 7, 104, 167, 0, 8, 21, 6, 21, 7, 108, 79]
abbrev dktX10_termOf_6 : List UInt8 := dkwX10_termOf_6 ++ dktX10_termOf_7
def dkwX10_termOf_5 : List UInt8 := [160, 0, 11, 21, 6, 21, 7, 96, 167, 0, 36, 21, 5, 6, 160, 0, 11, 21, 6, 21, 7, 100]
abbrev dktX10_termOf_5 : List UInt8 := dkwX10_termOf_5 ++ dktX10_termOf_6
def dkwX10_termOf_4 : List UInt8 := [21, 7, 154, 0, 10, 42, 4, 181, 1, 74, 3, 172, 42, 180, 0, 122, 29, 4, 100, 21, 5, 5]
abbrev dktX10_termOf_4 : List UInt8 := dkwX10_termOf_4 ++ dktX10_termOf_5
def dkwX10_termOf_3 : List UInt8 := [180, 0, 122, 29, 4, 100, 46, 54, 6, 42, 180, 0, 122, 29, 46, 54, 7, 21, 5, 8, 160, 0, 15]
abbrev dktX10_termOf_3 : List UInt8 := dkwX10_termOf_3 ++ dktX10_termOf_4
def dkwX10_termOf_2 : List UInt8 := [180, 0, 119, 42, 180, 0, 113, 21, 4, 46, 46, 79, 132, 3, 1, 167, 0, 97, 132, 3, 255, 42]
abbrev dktX10_termOf_2 : List UInt8 := dkwX10_termOf_2 ++ dktX10_termOf_3
def dkwX10_termOf_1 : List UInt8 := [162, 0, 42, 42, 180, 0, 122, 29, 21, 5, 154, 0, 13, 42, 180, 0, 113, 21, 4, 46, 167, 0, 15, 42]
abbrev dktX10_termOf_1 : List UInt8 := dkwX10_termOf_1 ++ dktX10_termOf_2
def dkwX10_termOf_0 : List UInt8 := [3, 62, 27, 54, 4, 21, 4, 28, 162, 0, 157, 42, 180, 0, 110, 21, 4, 46, 54, 5, 21, 5, 5]
abbrev dktX10_termOf_0 : List UInt8 := dkwX10_termOf_0 ++ dktX10_termOf_1
theorem dksX10_termOf_0 : cX10_termOf.data.toList.drop 0 = dktX10_termOf_0 := by decide +kernel
theorem dksX10_termOf_1 : cX10_termOf.data.toList.drop 23 = dktX10_termOf_1 := dk_seg dksX10_termOf_0 23 rfl rfl
theorem dksX10_termOf_2 : cX10_termOf.data.toList.drop 47 = dktX10_termOf_2 := dk_seg dksX10_termOf_1 24 rfl rfl
theorem dksX10_termOf_3 : cX10_termOf.data.toList.drop 69 = dktX10_termOf_3 := dk_seg dksX10_termOf_2 22 rfl rfl
theorem dksX10_termOf_4 : cX10_termOf.data.toList.drop 92 = dktX10_termOf_4 := dk_seg dksX10_termOf_3 23 rfl rfl
theorem dksX10_termOf_5 : cX10_termOf.data.toList.drop 114 = dktX10_termOf_5 := dk_seg dksX10_termOf_4 22 rfl rfl
theorem dksX10_termOf_6 : cX10_termOf.data.toList.drop 136 = dktX10_termOf_6 := dk_seg dksX10_termOf_5 22 rfl rfl
theorem dksX10_termOf_7 : cX10_termOf.data.toList.drop 159 = dktX10_termOf_7 := dk_seg dksX10_termOf_6 23 rfl rfl
theorem dX10_termOf_0 : decode cX10_termOf 0 = .ok (.iconst 0, 1) := dk_3 (dk_at dksX10_termOf_0 0 rfl rfl)
theorem dX10_termOf_1 : decode cX10_termOf 1 = .ok (.istore_n 3, 1) := dk_62 (dk_at dksX10_termOf_0 1 rfl rfl)
theorem dX10_termOf_2 : decode cX10_termOf 2 = .ok (.iload_n 1, 1) := dk_27 (dk_at dksX10_termOf_0 2 rfl rfl)
theorem dX10_termOf_3 : decode cX10_termOf 3 = .ok (.istore 4, 2) := dk_54 4 (dk_at dksX10_termOf_0 3 rfl rfl)
theorem dX10_termOf_5 : decode cX10_termOf 5 = .ok (.iload 4, 2) := dk_21 4 (dk_at dksX10_termOf_0 5 rfl rfl)
theorem dX10_termOf_7 : decode cX10_termOf 7 = .ok (.iload_n 2, 1) := dk_28 (dk_at dksX10_termOf_0 7 rfl rfl)
theorem dX10_termOf_8 : decode cX10_termOf 8 = .ok (.if_icmp .ge 157, 3) := dk_162 0 157 (dk_at dksX10_termOf_0 8 rfl rfl)
theorem dX10_termOf_11 : decode cX10_termOf 11 = .ok (.aload_n 0, 1) := dk_42 (dk_at dksX10_termOf_0 11 rfl rfl)
theorem dX10_termOf_12 : decode cX10_termOf 12 = .ok (.getfield 110, 3) := dk_180 0 110 (dk_at dksX10_termOf_0 12 rfl rfl)
theorem dX10_termOf_15 : decode cX10_termOf 15 = .ok (.iload 4, 2) := dk_21 4 (dk_at dksX10_termOf_0 15 rfl rfl)
theorem dX10_termOf_17 : decode cX10_termOf 17 = .ok (.iaload, 1) := dk_46 (dk_at dksX10_termOf_0 17 rfl rfl)
theorem dX10_termOf_18 : decode cX10_termOf 18 = .ok (.istore 5, 2) := dk_54 5 (dk_at dksX10_termOf_0 18 rfl rfl)
theorem dX10_termOf_20 : decode cX10_termOf 20 = .ok (.iload 5, 2) := dk_21 5 (dk_at dksX10_termOf_0 20 rfl rfl)
theorem dX10_termOf_22 : decode cX10_termOf 22 = .ok (.iconst 2, 1) := dk_5 (dk_at dksX10_termOf_0 22 rfl rfl)
theorem dX10_termOf_23 : decode cX10_termOf 23 = .ok (.if_icmp .ge 42, 3) := dk_162 0 42 (dk_at dksX10_termOf_1 0 rfl rfl)
theorem dX10_termOf_26 : decode cX10_termOf 26 = .ok (.aload_n 0, 1) := dk_42 (dk_at dksX10_termOf_1 3 rfl rfl)
theorem dX10_termOf_27 : decode cX10_termOf 27 = .ok (.getfield 122, 3) := dk_180 0 122 (dk_at dksX10_termOf_1 4 rfl rfl)
theorem dX10_termOf_30 : decode cX10_termOf 30 = .ok (.iload_n 3, 1) := dk_29 (dk_at dksX10_termOf_1 7 rfl rfl)
theorem dX10_termOf_31 : decode cX10_termOf 31 = .ok (.iload 5, 2) := dk_21 5 (dk_at dksX10_termOf_1 8 rfl rfl)
theorem dX10_termOf_33 : decode cX10_termOf 33 = .ok (.ifCond .ne 13, 3) := dk_154 0 13 (dk_at dksX10_termOf_1 10 rfl rfl)
theorem dX10_termOf_36 : decode cX10_termOf 36 = .ok (.aload_n 0, 1) := dk_42 (dk_at dksX10_termOf_1 13 rfl rfl)
theorem dX10_termOf_37 : decode cX10_termOf 37 = .ok (.getfield 113, 3) := dk_180 0 113 (dk_at dksX10_termOf_1 14 rfl rfl)
theorem dX10_termOf_40 : decode cX10_termOf 40 = .ok (.iload 4, 2) := dk_21 4 (dk_at dksX10_termOf_1 17 rfl rfl)
theorem dX10_termOf_42 : decode cX10_termOf 42 = .ok (.iaload, 1) := dk_46 (dk_at dksX10_termOf_1 19 rfl rfl)
theorem dX10_termOf_43 : decode cX10_termOf 43 = .ok (.goto 15, 3) := dk_167 0 15 (dk_at dksX10_termOf_1 20 rfl rfl)
theorem dX10_termOf_46 : decode cX10_termOf 46 = .ok (.aload_n 0, 1) := dk_42 (dk_at dksX10_termOf_1 23 rfl rfl)
theorem dX10_termOf_47 : decode cX10_termOf 47 = .ok (.getfield 119, 3) := dk_180 0 119 (dk_at dksX10_termOf_2 0 rfl rfl)
theorem dX10_termOf_50 : decode cX10_termOf 50 = .ok (.aload_n 0, 1) := dk_42 (dk_at dksX10_termOf_2 3 rfl rfl)
theorem dX10_termOf_51 : decode cX10_termOf 51 = .ok (.getfield 113, 3) := dk_180 0 113 (dk_at dksX10_termOf_2 4 rfl rfl)
theorem dX10_termOf_54 : decode cX10_termOf 54 = .ok (.iload 4, 2) := dk_21 4 (dk_at dksX10_termOf_2 7 rfl rfl)
theorem dX10_termOf_56 : decode cX10_termOf 56 = .ok (.iaload, 1) := dk_46 (dk_at dksX10_termOf_2 9 rfl rfl)
theorem dX10_termOf_57 : decode cX10_termOf 57 = .ok (.iaload, 1) := dk_46 (dk_at dksX10_termOf_2 10 rfl rfl)
theorem dX10_termOf_58 : decode cX10_termOf 58 = .ok (.iastore, 1) := dk_79 (dk_at dksX10_termOf_2 11 rfl rfl)
theorem dX10_termOf_59 : decode cX10_termOf 59 = .ok (.iinc 3 1, 3) := dk_132 3 1 (dk_at dksX10_termOf_2 12 rfl rfl)
theorem dX10_termOf_62 : decode cX10_termOf 62 = .ok (.goto 97, 3) := dk_167 0 97 (dk_at dksX10_termOf_2 15 rfl rfl)
theorem dX10_termOf_65 : decode cX10_termOf 65 = .ok (.iinc 3 (-1), 3) := dk_132 3 255 (dk_at dksX10_termOf_2 18 rfl rfl)
theorem dX10_termOf_68 : decode cX10_termOf 68 = .ok (.aload_n 0, 1) := dk_42 (dk_at dksX10_termOf_2 21 rfl rfl)
theorem dX10_termOf_69 : decode cX10_termOf 69 = .ok (.getfield 122, 3) := dk_180 0 122 (dk_at dksX10_termOf_3 0 rfl rfl)
theorem dX10_termOf_72 : decode cX10_termOf 72 = .ok (.iload_n 3, 1) := dk_29 (dk_at dksX10_termOf_3 3 rfl rfl)
theorem dX10_termOf_73 : decode cX10_termOf 73 = .ok (.iconst 1, 1) := dk_4 (dk_at dksX10_termOf_3 4 rfl rfl)
theorem dX10_termOf_74 : decode cX10_termOf 74 = .ok (.isub, 1) := dk_100 (dk_at dksX10_termOf_3 5 rfl rfl)
theorem dX10_termOf_75 : decode cX10_termOf 75 = .ok (.iaload, 1) := dk_46 (dk_at dksX10_termOf_3 6 rfl rfl)
theorem dX10_termOf_76 : decode cX10_termOf 76 = .ok (.istore 6, 2) := dk_54 6 (dk_at dksX10_termOf_3 7 rfl rfl)
theorem dX10_termOf_78 : decode cX10_termOf 78 = .ok (.aload_n 0, 1) := dk_42 (dk_at dksX10_termOf_3 9 rfl rfl)
theorem dX10_termOf_79 : decode cX10_termOf 79 = .ok (.getfield 122, 3) := dk_180 0 122 (dk_at dksX10_termOf_3 10 rfl rfl)
theorem dX10_termOf_82 : decode cX10_termOf 82 = .ok (.iload_n 3, 1) := dk_29 (dk_at dksX10_termOf_3 13 rfl rfl)
theorem dX10_termOf_83 : decode cX10_termOf 83 = .ok (.iaload, 1) := dk_46 (dk_at dksX10_termOf_3 14 rfl rfl)
theorem dX10_termOf_84 : decode cX10_termOf 84 = .ok (.istore 7, 2) := dk_54 7 (dk_at dksX10_termOf_3 15 rfl rfl)
theorem dX10_termOf_86 : decode cX10_termOf 86 = .ok (.iload 5, 2) := dk_21 5 (dk_at dksX10_termOf_3 17 rfl rfl)
theorem dX10_termOf_88 : decode cX10_termOf 88 = .ok (.iconst 5, 1) := dk_8 (dk_at dksX10_termOf_3 19 rfl rfl)
theorem dX10_termOf_89 : decode cX10_termOf 89 = .ok (.if_icmp .ne 15, 3) := dk_160 0 15 (dk_at dksX10_termOf_3 20 rfl rfl)
theorem dX10_termOf_92 : decode cX10_termOf 92 = .ok (.iload 7, 2) := dk_21 7 (dk_at dksX10_termOf_4 0 rfl rfl)
theorem dX10_termOf_94 : decode cX10_termOf 94 = .ok (.ifCond .ne 10, 3) := dk_154 0 10 (dk_at dksX10_termOf_4 2 rfl rfl)
theorem dX10_termOf_97 : decode cX10_termOf 97 = .ok (.aload_n 0, 1) := dk_42 (dk_at dksX10_termOf_4 5 rfl rfl)
theorem dX10_termOf_98 : decode cX10_termOf 98 = .ok (.iconst 1, 1) := dk_4 (dk_at dksX10_termOf_4 6 rfl rfl)
theorem dX10_termOf_99 : decode cX10_termOf 99 = .ok (.putfield 330, 3) := dk_181 1 74 (dk_at dksX10_termOf_4 7 rfl rfl)
theorem dX10_termOf_102 : decode cX10_termOf 102 = .ok (.iconst 0, 1) := dk_3 (dk_at dksX10_termOf_4 10 rfl rfl)
theorem dX10_termOf_103 : decode cX10_termOf 103 = .ok (.ireturn, 1) := dk_172 (dk_at dksX10_termOf_4 11 rfl rfl)
theorem dX10_termOf_104 : decode cX10_termOf 104 = .ok (.aload_n 0, 1) := dk_42 (dk_at dksX10_termOf_4 12 rfl rfl)
theorem dX10_termOf_105 : decode cX10_termOf 105 = .ok (.getfield 122, 3) := dk_180 0 122 (dk_at dksX10_termOf_4 13 rfl rfl)
theorem dX10_termOf_108 : decode cX10_termOf 108 = .ok (.iload_n 3, 1) := dk_29 (dk_at dksX10_termOf_4 16 rfl rfl)
theorem dX10_termOf_109 : decode cX10_termOf 109 = .ok (.iconst 1, 1) := dk_4 (dk_at dksX10_termOf_4 17 rfl rfl)
theorem dX10_termOf_110 : decode cX10_termOf 110 = .ok (.isub, 1) := dk_100 (dk_at dksX10_termOf_4 18 rfl rfl)
theorem dX10_termOf_111 : decode cX10_termOf 111 = .ok (.iload 5, 2) := dk_21 5 (dk_at dksX10_termOf_4 19 rfl rfl)
theorem dX10_termOf_113 : decode cX10_termOf 113 = .ok (.iconst 2, 1) := dk_5 (dk_at dksX10_termOf_4 21 rfl rfl)
theorem dX10_termOf_114 : decode cX10_termOf 114 = .ok (.if_icmp .ne 11, 3) := dk_160 0 11 (dk_at dksX10_termOf_5 0 rfl rfl)
theorem dX10_termOf_117 : decode cX10_termOf 117 = .ok (.iload 6, 2) := dk_21 6 (dk_at dksX10_termOf_5 3 rfl rfl)
theorem dX10_termOf_119 : decode cX10_termOf 119 = .ok (.iload 7, 2) := dk_21 7 (dk_at dksX10_termOf_5 5 rfl rfl)
theorem dX10_termOf_121 : decode cX10_termOf 121 = .ok (.iadd, 1) := dk_96 (dk_at dksX10_termOf_5 7 rfl rfl)
theorem dX10_termOf_122 : decode cX10_termOf 122 = .ok (.goto 36, 3) := dk_167 0 36 (dk_at dksX10_termOf_5 8 rfl rfl)
theorem dX10_termOf_125 : decode cX10_termOf 125 = .ok (.iload 5, 2) := dk_21 5 (dk_at dksX10_termOf_5 11 rfl rfl)
theorem dX10_termOf_127 : decode cX10_termOf 127 = .ok (.iconst 3, 1) := dk_6 (dk_at dksX10_termOf_5 13 rfl rfl)
theorem dX10_termOf_128 : decode cX10_termOf 128 = .ok (.if_icmp .ne 11, 3) := dk_160 0 11 (dk_at dksX10_termOf_5 14 rfl rfl)
theorem dX10_termOf_131 : decode cX10_termOf 131 = .ok (.iload 6, 2) := dk_21 6 (dk_at dksX10_termOf_5 17 rfl rfl)
theorem dX10_termOf_133 : decode cX10_termOf 133 = .ok (.iload 7, 2) := dk_21 7 (dk_at dksX10_termOf_5 19 rfl rfl)
theorem dX10_termOf_135 : decode cX10_termOf 135 = .ok (.isub, 1) := dk_100 (dk_at dksX10_termOf_5 21 rfl rfl)
theorem dX10_termOf_136 : decode cX10_termOf 136 = .ok (.goto 22, 3) := dk_167 0 22 (dk_at dksX10_termOf_6 0 rfl rfl)
theorem dX10_termOf_139 : decode cX10_termOf 139 = .ok (.iload 5, 2) := dk_21 5 (dk_at dksX10_termOf_6 3 rfl rfl)
theorem dX10_termOf_141 : decode cX10_termOf 141 = .ok (.iconst 4, 1) := dk_7 (dk_at dksX10_termOf_6 5 rfl rfl)
theorem dX10_termOf_142 : decode cX10_termOf 142 = .ok (.if_icmp .ne 11, 3) := dk_160 0 11 (dk_at dksX10_termOf_6 6 rfl rfl)
theorem dX10_termOf_145 : decode cX10_termOf 145 = .ok (.iload 6, 2) := dk_21 6 (dk_at dksX10_termOf_6 9 rfl rfl)
theorem dX10_termOf_147 : decode cX10_termOf 147 = .ok (.iload 7, 2) := dk_21 7 (dk_at dksX10_termOf_6 11 rfl rfl)
theorem dX10_termOf_149 : decode cX10_termOf 149 = .ok (.imul, 1) := dk_104 (dk_at dksX10_termOf_6 13 rfl rfl)
theorem dX10_termOf_150 : decode cX10_termOf 150 = .ok (.goto 8, 3) := dk_167 0 8 (dk_at dksX10_termOf_6 14 rfl rfl)
theorem dX10_termOf_153 : decode cX10_termOf 153 = .ok (.iload 6, 2) := dk_21 6 (dk_at dksX10_termOf_6 17 rfl rfl)
theorem dX10_termOf_155 : decode cX10_termOf 155 = .ok (.iload 7, 2) := dk_21 7 (dk_at dksX10_termOf_6 19 rfl rfl)
theorem dX10_termOf_157 : decode cX10_termOf 157 = .ok (.idiv, 1) := dk_108 (dk_at dksX10_termOf_6 21 rfl rfl)
theorem dX10_termOf_158 : decode cX10_termOf 158 = .ok (.iastore, 1) := dk_79 (dk_at dksX10_termOf_6 22 rfl rfl)
theorem dX10_termOf_159 : decode cX10_termOf 159 = .ok (.iinc 4 1, 3) := dk_132 4 1 (dk_at dksX10_termOf_7 0 rfl rfl)
theorem dX10_termOf_162 : decode cX10_termOf 162 = .ok (.goto (-157), 3) := dk_167 255 99 (dk_at dksX10_termOf_7 3 rfl rfl)
theorem dX10_termOf_165 : decode cX10_termOf 165 = .ok (.aload_n 0, 1) := dk_42 (dk_at dksX10_termOf_7 6 rfl rfl)
theorem dX10_termOf_166 : decode cX10_termOf 166 = .ok (.getfield 122, 3) := dk_180 0 122 (dk_at dksX10_termOf_7 7 rfl rfl)
theorem dX10_termOf_169 : decode cX10_termOf 169 = .ok (.iconst 0, 1) := dk_3 (dk_at dksX10_termOf_7 10 rfl rfl)
theorem dX10_termOf_170 : decode cX10_termOf 170 = .ok (.iaload, 1) := dk_46 (dk_at dksX10_termOf_7 11 rfl rfl)
theorem dX10_termOf_171 : decode cX10_termOf 171 = .ok (.ireturn, 1) := dk_172 (dk_at dksX10_termOf_7 12 rfl rfl)
abbrev cX10_within : ByteArray := prog_22_method_39_code
def yX10_within : MethodName := ⟨RX10, "within", "(III)I"⟩
def dkwX10_within_0 : List UInt8 := [26, 27, 162, 0, 7, 27, 167, 0, 13, 26, 28, 164, 0, 7, 28, 167, 0, 4, 26, 172]
abbrev dktX10_within_0 : List UInt8 := dkwX10_within_0 ++ []
theorem dksX10_within_0 : cX10_within.data.toList.drop 0 = dktX10_within_0 := by decide +kernel
theorem dX10_within_0 : decode cX10_within 0 = .ok (.iload_n 0, 1) := dk_26 (dk_at dksX10_within_0 0 rfl rfl)
theorem dX10_within_1 : decode cX10_within 1 = .ok (.iload_n 1, 1) := dk_27 (dk_at dksX10_within_0 1 rfl rfl)
theorem dX10_within_2 : decode cX10_within 2 = .ok (.if_icmp .ge 7, 3) := dk_162 0 7 (dk_at dksX10_within_0 2 rfl rfl)
theorem dX10_within_5 : decode cX10_within 5 = .ok (.iload_n 1, 1) := dk_27 (dk_at dksX10_within_0 5 rfl rfl)
theorem dX10_within_6 : decode cX10_within 6 = .ok (.goto 13, 3) := dk_167 0 13 (dk_at dksX10_within_0 6 rfl rfl)
theorem dX10_within_9 : decode cX10_within 9 = .ok (.iload_n 0, 1) := dk_26 (dk_at dksX10_within_0 9 rfl rfl)
theorem dX10_within_10 : decode cX10_within 10 = .ok (.iload_n 2, 1) := dk_28 (dk_at dksX10_within_0 10 rfl rfl)
theorem dX10_within_11 : decode cX10_within 11 = .ok (.if_icmp .le 7, 3) := dk_164 0 7 (dk_at dksX10_within_0 11 rfl rfl)
theorem dX10_within_14 : decode cX10_within 14 = .ok (.iload_n 2, 1) := dk_28 (dk_at dksX10_within_0 14 rfl rfl)
theorem dX10_within_15 : decode cX10_within 15 = .ok (.goto 4, 3) := dk_167 0 4 (dk_at dksX10_within_0 15 rfl rfl)
theorem dX10_within_18 : decode cX10_within 18 = .ok (.iload_n 0, 1) := dk_26 (dk_at dksX10_within_0 18 rfl rfl)
theorem dX10_within_19 : decode cX10_within 19 = .ok (.ireturn, 1) := dk_172 (dk_at dksX10_within_0 19 rfl rfl)
abbrev cX10_doesLeave : ByteArray := prog_22_method_58_code
def yX10_doesLeave : MethodName := ⟨RX10, "doesLeave", "(I)Z"⟩
def dkwX10_doesLeave_1 : List UInt8 := [182, 1, 108, 158, 0, 7, 4, 167, 0, 4, 3, 172]
abbrev dktX10_doesLeave_1 : List UInt8 := dkwX10_doesLeave_1 ++ []
def dkwX10_doesLeave_0 : List UInt8 := [42, 27, 3, 3, 182, 1, 104, 42, 180, 0, 128, 16, 12, 27, 96, 46, 154, 0, 16, 42, 6, 3]
abbrev dktX10_doesLeave_0 : List UInt8 := dkwX10_doesLeave_0 ++ dktX10_doesLeave_1
theorem dksX10_doesLeave_0 : cX10_doesLeave.data.toList.drop 0 = dktX10_doesLeave_0 := by decide +kernel
theorem dksX10_doesLeave_1 : cX10_doesLeave.data.toList.drop 22 = dktX10_doesLeave_1 := dk_seg dksX10_doesLeave_0 22 rfl rfl
theorem dX10_doesLeave_0 : decode cX10_doesLeave 0 = .ok (.aload_n 0, 1) := dk_42 (dk_at dksX10_doesLeave_0 0 rfl rfl)
theorem dX10_doesLeave_1 : decode cX10_doesLeave 1 = .ok (.iload_n 1, 1) := dk_27 (dk_at dksX10_doesLeave_0 1 rfl rfl)
theorem dX10_doesLeave_2 : decode cX10_doesLeave 2 = .ok (.iconst 0, 1) := dk_3 (dk_at dksX10_doesLeave_0 2 rfl rfl)
theorem dX10_doesLeave_3 : decode cX10_doesLeave 3 = .ok (.iconst 0, 1) := dk_3 (dk_at dksX10_doesLeave_0 3 rfl rfl)
theorem dX10_doesLeave_4 : decode cX10_doesLeave 4 = .ok (.invokevirtual 360, 3) := dk_182 1 104 (dk_at dksX10_doesLeave_0 4 rfl rfl)
theorem dX10_doesLeave_7 : decode cX10_doesLeave 7 = .ok (.aload_n 0, 1) := dk_42 (dk_at dksX10_doesLeave_0 7 rfl rfl)
theorem dX10_doesLeave_8 : decode cX10_doesLeave 8 = .ok (.getfield 128, 3) := dk_180 0 128 (dk_at dksX10_doesLeave_0 8 rfl rfl)
theorem dX10_doesLeave_11 : decode cX10_doesLeave 11 = .ok (.bipush 12, 2) := dk_16 12 (dk_at dksX10_doesLeave_0 11 rfl rfl)
theorem dX10_doesLeave_13 : decode cX10_doesLeave 13 = .ok (.iload_n 1, 1) := dk_27 (dk_at dksX10_doesLeave_0 13 rfl rfl)
theorem dX10_doesLeave_14 : decode cX10_doesLeave 14 = .ok (.iadd, 1) := dk_96 (dk_at dksX10_doesLeave_0 14 rfl rfl)
theorem dX10_doesLeave_15 : decode cX10_doesLeave 15 = .ok (.iaload, 1) := dk_46 (dk_at dksX10_doesLeave_0 15 rfl rfl)
theorem dX10_doesLeave_16 : decode cX10_doesLeave 16 = .ok (.ifCond .ne 16, 3) := dk_154 0 16 (dk_at dksX10_doesLeave_0 16 rfl rfl)
theorem dX10_doesLeave_19 : decode cX10_doesLeave 19 = .ok (.aload_n 0, 1) := dk_42 (dk_at dksX10_doesLeave_0 19 rfl rfl)
theorem dX10_doesLeave_20 : decode cX10_doesLeave 20 = .ok (.iconst 3, 1) := dk_6 (dk_at dksX10_doesLeave_0 20 rfl rfl)
theorem dX10_doesLeave_21 : decode cX10_doesLeave 21 = .ok (.iconst 0, 1) := dk_3 (dk_at dksX10_doesLeave_0 21 rfl rfl)
theorem dX10_doesLeave_22 : decode cX10_doesLeave 22 = .ok (.invokevirtual 364, 3) := dk_182 1 108 (dk_at dksX10_doesLeave_1 0 rfl rfl)
theorem dX10_doesLeave_25 : decode cX10_doesLeave 25 = .ok (.ifCond .le 7, 3) := dk_158 0 7 (dk_at dksX10_doesLeave_1 3 rfl rfl)
theorem dX10_doesLeave_28 : decode cX10_doesLeave 28 = .ok (.iconst 1, 1) := dk_4 (dk_at dksX10_doesLeave_1 6 rfl rfl)
theorem dX10_doesLeave_29 : decode cX10_doesLeave 29 = .ok (.goto 4, 3) := dk_167 0 4 (dk_at dksX10_doesLeave_1 7 rfl rfl)
theorem dX10_doesLeave_32 : decode cX10_doesLeave 32 = .ok (.iconst 0, 1) := dk_3 (dk_at dksX10_doesLeave_1 10 rfl rfl)
theorem dX10_doesLeave_33 : decode cX10_doesLeave 33 = .ok (.ireturn, 1) := dk_172 (dk_at dksX10_doesLeave_1 11 rfl rfl)
abbrev cX10_word_2 : ByteArray := prog_22_method_72_code
def yX10_word_2 : MethodName := ⟨RX10, "word", "(II)I"⟩
def dkwX10_word_2_1 : List UInt8 := [16, 36, 8, 28, 104, 96, 27, 96, 46, 172]
abbrev dktX10_word_2_1 : List UInt8 := dkwX10_word_2_1 ++ []
def dkwX10_word_2_0 : List UInt8 := [42, 27, 182, 1, 155, 153, 0, 12, 28, 3, 4, 184, 1, 78, 154, 0, 5, 2, 172, 42, 180, 0, 125]
abbrev dktX10_word_2_0 : List UInt8 := dkwX10_word_2_0 ++ dktX10_word_2_1
theorem dksX10_word_2_0 : cX10_word_2.data.toList.drop 0 = dktX10_word_2_0 := by decide +kernel
theorem dksX10_word_2_1 : cX10_word_2.data.toList.drop 23 = dktX10_word_2_1 := dk_seg dksX10_word_2_0 23 rfl rfl
theorem dX10_word_2_0 : decode cX10_word_2 0 = .ok (.aload_n 0, 1) := dk_42 (dk_at dksX10_word_2_0 0 rfl rfl)
theorem dX10_word_2_1 : decode cX10_word_2 1 = .ok (.iload_n 1, 1) := dk_27 (dk_at dksX10_word_2_0 1 rfl rfl)
theorem dX10_word_2_2 : decode cX10_word_2 2 = .ok (.invokevirtual 411, 3) := dk_182 1 155 (dk_at dksX10_word_2_0 2 rfl rfl)
theorem dX10_word_2_5 : decode cX10_word_2 5 = .ok (.ifCond .eq 12, 3) := dk_153 0 12 (dk_at dksX10_word_2_0 5 rfl rfl)
theorem dX10_word_2_8 : decode cX10_word_2 8 = .ok (.iload_n 2, 1) := dk_28 (dk_at dksX10_word_2_0 8 rfl rfl)
theorem dX10_word_2_9 : decode cX10_word_2 9 = .ok (.iconst 0, 1) := dk_3 (dk_at dksX10_word_2_0 9 rfl rfl)
theorem dX10_word_2_10 : decode cX10_word_2 10 = .ok (.iconst 1, 1) := dk_4 (dk_at dksX10_word_2_0 10 rfl rfl)
theorem dX10_word_2_11 : decode cX10_word_2 11 = .ok (.invokestatic 334, 3) := dk_184 1 78 (dk_at dksX10_word_2_0 11 rfl rfl)
theorem dX10_word_2_14 : decode cX10_word_2 14 = .ok (.ifCond .ne 5, 3) := dk_154 0 5 (dk_at dksX10_word_2_0 14 rfl rfl)
theorem dX10_word_2_17 : decode cX10_word_2 17 = .ok (.iconst (-1), 1) := dk_2 (dk_at dksX10_word_2_0 17 rfl rfl)
theorem dX10_word_2_18 : decode cX10_word_2 18 = .ok (.ireturn, 1) := dk_172 (dk_at dksX10_word_2_0 18 rfl rfl)
theorem dX10_word_2_19 : decode cX10_word_2 19 = .ok (.aload_n 0, 1) := dk_42 (dk_at dksX10_word_2_0 19 rfl rfl)
theorem dX10_word_2_20 : decode cX10_word_2 20 = .ok (.getfield 125, 3) := dk_180 0 125 (dk_at dksX10_word_2_0 20 rfl rfl)
theorem dX10_word_2_23 : decode cX10_word_2 23 = .ok (.bipush 36, 2) := dk_16 36 (dk_at dksX10_word_2_1 0 rfl rfl)
theorem dX10_word_2_25 : decode cX10_word_2 25 = .ok (.iconst 5, 1) := dk_8 (dk_at dksX10_word_2_1 2 rfl rfl)
theorem dX10_word_2_26 : decode cX10_word_2 26 = .ok (.iload_n 2, 1) := dk_28 (dk_at dksX10_word_2_1 3 rfl rfl)
theorem dX10_word_2_27 : decode cX10_word_2 27 = .ok (.imul, 1) := dk_104 (dk_at dksX10_word_2_1 4 rfl rfl)
theorem dX10_word_2_28 : decode cX10_word_2 28 = .ok (.iadd, 1) := dk_96 (dk_at dksX10_word_2_1 5 rfl rfl)
theorem dX10_word_2_29 : decode cX10_word_2 29 = .ok (.iload_n 1, 1) := dk_27 (dk_at dksX10_word_2_1 6 rfl rfl)
theorem dX10_word_2_30 : decode cX10_word_2 30 = .ok (.iadd, 1) := dk_96 (dk_at dksX10_word_2_1 7 rfl rfl)
theorem dX10_word_2_31 : decode cX10_word_2 31 = .ok (.iaload, 1) := dk_46 (dk_at dksX10_word_2_1 8 rfl rfl)
theorem dX10_word_2_32 : decode cX10_word_2 32 = .ok (.ireturn, 1) := dk_172 (dk_at dksX10_word_2_1 9 rfl rfl)
abbrev cX10_isWord : ByteArray := prog_22_method_44_code
def yX10_isWord : MethodName := ⟨RX10, "isWord", "(I)Z"⟩
def dkwX10_isWord_0 : List UInt8 := [27, 3, 42, 180, 0, 73, 42, 180, 0, 251, 46, 4, 100, 184, 1, 78, 172]
abbrev dktX10_isWord_0 : List UInt8 := dkwX10_isWord_0 ++ []
theorem dksX10_isWord_0 : cX10_isWord.data.toList.drop 0 = dktX10_isWord_0 := by decide +kernel
theorem dX10_isWord_0 : decode cX10_isWord 0 = .ok (.iload_n 1, 1) := dk_27 (dk_at dksX10_isWord_0 0 rfl rfl)
theorem dX10_isWord_1 : decode cX10_isWord 1 = .ok (.iconst 0, 1) := dk_3 (dk_at dksX10_isWord_0 1 rfl rfl)
theorem dX10_isWord_2 : decode cX10_isWord 2 = .ok (.aload_n 0, 1) := dk_42 (dk_at dksX10_isWord_0 2 rfl rfl)
theorem dX10_isWord_3 : decode cX10_isWord 3 = .ok (.getfield 73, 3) := dk_180 0 73 (dk_at dksX10_isWord_0 3 rfl rfl)
theorem dX10_isWord_6 : decode cX10_isWord 6 = .ok (.aload_n 0, 1) := dk_42 (dk_at dksX10_isWord_0 6 rfl rfl)
theorem dX10_isWord_7 : decode cX10_isWord 7 = .ok (.getfield 251, 3) := dk_180 0 251 (dk_at dksX10_isWord_0 7 rfl rfl)
theorem dX10_isWord_10 : decode cX10_isWord 10 = .ok (.iaload, 1) := dk_46 (dk_at dksX10_isWord_0 10 rfl rfl)
theorem dX10_isWord_11 : decode cX10_isWord 11 = .ok (.iconst 1, 1) := dk_4 (dk_at dksX10_isWord_0 11 rfl rfl)
theorem dX10_isWord_12 : decode cX10_isWord 12 = .ok (.isub, 1) := dk_100 (dk_at dksX10_isWord_0 12 rfl rfl)
theorem dX10_isWord_13 : decode cX10_isWord 13 = .ok (.invokestatic 334, 3) := dk_184 1 78 (dk_at dksX10_isWord_0 13 rfl rfl)
theorem dX10_isWord_16 : decode cX10_isWord 16 = .ok (.ireturn, 1) := dk_172 (dk_at dksX10_isWord_0 16 rfl rfl)
abbrev cX10_tells : ByteArray := prog_22_method_73_code
def yX10_tells : MethodName := ⟨RX10, "tells", "(III)I"⟩
def dkwX10_tells_2 : List UInt8 := [28, 182, 1, 117, 172]
abbrev dktX10_tells_2 : List UInt8 := dkwX10_tells_2 ++ []
def dkwX10_tells_1 : List UInt8 := [154, 0, 5, 2, 172, 42, 182, 1, 91, 29, 154, 0, 12, 42, 27, 28, 182, 1, 114, 167, 0, 9, 42, 27]
abbrev dktX10_tells_1 : List UInt8 := dkwX10_tells_1 ++ dktX10_tells_2
def dkwX10_tells_0 : List UInt8 := [42, 27, 182, 1, 82, 153, 0, 20, 42, 28, 182, 1, 155, 153, 0, 12, 29, 3, 4, 184, 1, 78]
abbrev dktX10_tells_0 : List UInt8 := dkwX10_tells_0 ++ dktX10_tells_1
theorem dksX10_tells_0 : cX10_tells.data.toList.drop 0 = dktX10_tells_0 := by decide +kernel
theorem dksX10_tells_1 : cX10_tells.data.toList.drop 22 = dktX10_tells_1 := dk_seg dksX10_tells_0 22 rfl rfl
theorem dksX10_tells_2 : cX10_tells.data.toList.drop 46 = dktX10_tells_2 := dk_seg dksX10_tells_1 24 rfl rfl
theorem dX10_tells_0 : decode cX10_tells 0 = .ok (.aload_n 0, 1) := dk_42 (dk_at dksX10_tells_0 0 rfl rfl)
theorem dX10_tells_1 : decode cX10_tells 1 = .ok (.iload_n 1, 1) := dk_27 (dk_at dksX10_tells_0 1 rfl rfl)
theorem dX10_tells_2 : decode cX10_tells 2 = .ok (.invokevirtual 338, 3) := dk_182 1 82 (dk_at dksX10_tells_0 2 rfl rfl)
theorem dX10_tells_5 : decode cX10_tells 5 = .ok (.ifCond .eq 20, 3) := dk_153 0 20 (dk_at dksX10_tells_0 5 rfl rfl)
theorem dX10_tells_8 : decode cX10_tells 8 = .ok (.aload_n 0, 1) := dk_42 (dk_at dksX10_tells_0 8 rfl rfl)
theorem dX10_tells_9 : decode cX10_tells 9 = .ok (.iload_n 2, 1) := dk_28 (dk_at dksX10_tells_0 9 rfl rfl)
theorem dX10_tells_10 : decode cX10_tells 10 = .ok (.invokevirtual 411, 3) := dk_182 1 155 (dk_at dksX10_tells_0 10 rfl rfl)
theorem dX10_tells_13 : decode cX10_tells 13 = .ok (.ifCond .eq 12, 3) := dk_153 0 12 (dk_at dksX10_tells_0 13 rfl rfl)
theorem dX10_tells_16 : decode cX10_tells 16 = .ok (.iload_n 3, 1) := dk_29 (dk_at dksX10_tells_0 16 rfl rfl)
theorem dX10_tells_17 : decode cX10_tells 17 = .ok (.iconst 0, 1) := dk_3 (dk_at dksX10_tells_0 17 rfl rfl)
theorem dX10_tells_18 : decode cX10_tells 18 = .ok (.iconst 1, 1) := dk_4 (dk_at dksX10_tells_0 18 rfl rfl)
theorem dX10_tells_19 : decode cX10_tells 19 = .ok (.invokestatic 334, 3) := dk_184 1 78 (dk_at dksX10_tells_0 19 rfl rfl)
theorem dX10_tells_22 : decode cX10_tells 22 = .ok (.ifCond .ne 5, 3) := dk_154 0 5 (dk_at dksX10_tells_1 0 rfl rfl)
theorem dX10_tells_25 : decode cX10_tells 25 = .ok (.iconst (-1), 1) := dk_2 (dk_at dksX10_tells_1 3 rfl rfl)
theorem dX10_tells_26 : decode cX10_tells 26 = .ok (.ireturn, 1) := dk_172 (dk_at dksX10_tells_1 4 rfl rfl)
theorem dX10_tells_27 : decode cX10_tells 27 = .ok (.aload_n 0, 1) := dk_42 (dk_at dksX10_tells_1 5 rfl rfl)
theorem dX10_tells_28 : decode cX10_tells 28 = .ok (.invokevirtual 347, 3) := dk_182 1 91 (dk_at dksX10_tells_1 6 rfl rfl)
theorem dX10_tells_31 : decode cX10_tells 31 = .ok (.iload_n 3, 1) := dk_29 (dk_at dksX10_tells_1 9 rfl rfl)
theorem dX10_tells_32 : decode cX10_tells 32 = .ok (.ifCond .ne 12, 3) := dk_154 0 12 (dk_at dksX10_tells_1 10 rfl rfl)
theorem dX10_tells_35 : decode cX10_tells 35 = .ok (.aload_n 0, 1) := dk_42 (dk_at dksX10_tells_1 13 rfl rfl)
theorem dX10_tells_36 : decode cX10_tells 36 = .ok (.iload_n 1, 1) := dk_27 (dk_at dksX10_tells_1 14 rfl rfl)
theorem dX10_tells_37 : decode cX10_tells 37 = .ok (.iload_n 2, 1) := dk_28 (dk_at dksX10_tells_1 15 rfl rfl)
theorem dX10_tells_38 : decode cX10_tells 38 = .ok (.invokevirtual 370, 3) := dk_182 1 114 (dk_at dksX10_tells_1 16 rfl rfl)
theorem dX10_tells_41 : decode cX10_tells 41 = .ok (.goto 9, 3) := dk_167 0 9 (dk_at dksX10_tells_1 19 rfl rfl)
theorem dX10_tells_44 : decode cX10_tells 44 = .ok (.aload_n 0, 1) := dk_42 (dk_at dksX10_tells_1 22 rfl rfl)
theorem dX10_tells_45 : decode cX10_tells 45 = .ok (.iload_n 1, 1) := dk_27 (dk_at dksX10_tells_1 23 rfl rfl)
theorem dX10_tells_46 : decode cX10_tells 46 = .ok (.iload_n 2, 1) := dk_28 (dk_at dksX10_tells_2 0 rfl rfl)
theorem dX10_tells_47 : decode cX10_tells 47 = .ok (.invokevirtual 373, 3) := dk_182 1 117 (dk_at dksX10_tells_2 1 rfl rfl)
theorem dX10_tells_50 : decode cX10_tells 50 = .ok (.ireturn, 1) := dk_172 (dk_at dksX10_tells_2 4 rfl rfl)
abbrev cX10_glowsOf : ByteArray := prog_22_method_55_code
def yX10_glowsOf : MethodName := ⟨RX10, "glowsOf", "(II)I"⟩
def dkwX10_glowsOf_1 : List UInt8 := [3, 42, 180, 0, 128, 16, 36, 28, 96, 46, 182, 1, 108, 3, 16, 99, 184, 1, 111, 172]
abbrev dktX10_glowsOf_1 : List UInt8 := dkwX10_glowsOf_1 ++ []
def dkwX10_glowsOf_0 : List UInt8 := [42, 27, 42, 180, 0, 128, 16, 36, 28, 96, 46, 42, 180, 0, 128, 16, 41, 28, 96, 46, 182, 1, 104, 42]
abbrev dktX10_glowsOf_0 : List UInt8 := dkwX10_glowsOf_0 ++ dktX10_glowsOf_1
theorem dksX10_glowsOf_0 : cX10_glowsOf.data.toList.drop 0 = dktX10_glowsOf_0 := by decide +kernel
theorem dksX10_glowsOf_1 : cX10_glowsOf.data.toList.drop 24 = dktX10_glowsOf_1 := dk_seg dksX10_glowsOf_0 24 rfl rfl
theorem dX10_glowsOf_0 : decode cX10_glowsOf 0 = .ok (.aload_n 0, 1) := dk_42 (dk_at dksX10_glowsOf_0 0 rfl rfl)
theorem dX10_glowsOf_1 : decode cX10_glowsOf 1 = .ok (.iload_n 1, 1) := dk_27 (dk_at dksX10_glowsOf_0 1 rfl rfl)
theorem dX10_glowsOf_2 : decode cX10_glowsOf 2 = .ok (.aload_n 0, 1) := dk_42 (dk_at dksX10_glowsOf_0 2 rfl rfl)
theorem dX10_glowsOf_3 : decode cX10_glowsOf 3 = .ok (.getfield 128, 3) := dk_180 0 128 (dk_at dksX10_glowsOf_0 3 rfl rfl)
theorem dX10_glowsOf_6 : decode cX10_glowsOf 6 = .ok (.bipush 36, 2) := dk_16 36 (dk_at dksX10_glowsOf_0 6 rfl rfl)
theorem dX10_glowsOf_8 : decode cX10_glowsOf 8 = .ok (.iload_n 2, 1) := dk_28 (dk_at dksX10_glowsOf_0 8 rfl rfl)
theorem dX10_glowsOf_9 : decode cX10_glowsOf 9 = .ok (.iadd, 1) := dk_96 (dk_at dksX10_glowsOf_0 9 rfl rfl)
theorem dX10_glowsOf_10 : decode cX10_glowsOf 10 = .ok (.iaload, 1) := dk_46 (dk_at dksX10_glowsOf_0 10 rfl rfl)
theorem dX10_glowsOf_11 : decode cX10_glowsOf 11 = .ok (.aload_n 0, 1) := dk_42 (dk_at dksX10_glowsOf_0 11 rfl rfl)
theorem dX10_glowsOf_12 : decode cX10_glowsOf 12 = .ok (.getfield 128, 3) := dk_180 0 128 (dk_at dksX10_glowsOf_0 12 rfl rfl)
theorem dX10_glowsOf_15 : decode cX10_glowsOf 15 = .ok (.bipush 41, 2) := dk_16 41 (dk_at dksX10_glowsOf_0 15 rfl rfl)
theorem dX10_glowsOf_17 : decode cX10_glowsOf 17 = .ok (.iload_n 2, 1) := dk_28 (dk_at dksX10_glowsOf_0 17 rfl rfl)
theorem dX10_glowsOf_18 : decode cX10_glowsOf 18 = .ok (.iadd, 1) := dk_96 (dk_at dksX10_glowsOf_0 18 rfl rfl)
theorem dX10_glowsOf_19 : decode cX10_glowsOf 19 = .ok (.iaload, 1) := dk_46 (dk_at dksX10_glowsOf_0 19 rfl rfl)
theorem dX10_glowsOf_20 : decode cX10_glowsOf 20 = .ok (.invokevirtual 360, 3) := dk_182 1 104 (dk_at dksX10_glowsOf_0 20 rfl rfl)
theorem dX10_glowsOf_23 : decode cX10_glowsOf 23 = .ok (.aload_n 0, 1) := dk_42 (dk_at dksX10_glowsOf_0 23 rfl rfl)
theorem dX10_glowsOf_24 : decode cX10_glowsOf 24 = .ok (.iconst 0, 1) := dk_3 (dk_at dksX10_glowsOf_1 0 rfl rfl)
theorem dX10_glowsOf_25 : decode cX10_glowsOf 25 = .ok (.aload_n 0, 1) := dk_42 (dk_at dksX10_glowsOf_1 1 rfl rfl)
theorem dX10_glowsOf_26 : decode cX10_glowsOf 26 = .ok (.getfield 128, 3) := dk_180 0 128 (dk_at dksX10_glowsOf_1 2 rfl rfl)
theorem dX10_glowsOf_29 : decode cX10_glowsOf 29 = .ok (.bipush 36, 2) := dk_16 36 (dk_at dksX10_glowsOf_1 5 rfl rfl)
theorem dX10_glowsOf_31 : decode cX10_glowsOf 31 = .ok (.iload_n 2, 1) := dk_28 (dk_at dksX10_glowsOf_1 7 rfl rfl)
theorem dX10_glowsOf_32 : decode cX10_glowsOf 32 = .ok (.iadd, 1) := dk_96 (dk_at dksX10_glowsOf_1 8 rfl rfl)
theorem dX10_glowsOf_33 : decode cX10_glowsOf 33 = .ok (.iaload, 1) := dk_46 (dk_at dksX10_glowsOf_1 9 rfl rfl)
theorem dX10_glowsOf_34 : decode cX10_glowsOf 34 = .ok (.invokevirtual 364, 3) := dk_182 1 108 (dk_at dksX10_glowsOf_1 10 rfl rfl)
theorem dX10_glowsOf_37 : decode cX10_glowsOf 37 = .ok (.iconst 0, 1) := dk_3 (dk_at dksX10_glowsOf_1 13 rfl rfl)
theorem dX10_glowsOf_38 : decode cX10_glowsOf 38 = .ok (.bipush 99, 2) := dk_16 99 (dk_at dksX10_glowsOf_1 14 rfl rfl)
theorem dX10_glowsOf_40 : decode cX10_glowsOf 40 = .ok (.invokestatic 367, 3) := dk_184 1 111 (dk_at dksX10_glowsOf_1 16 rfl rfl)
theorem dX10_glowsOf_43 : decode cX10_glowsOf 43 = .ok (.ireturn, 1) := dk_172 (dk_at dksX10_glowsOf_1 19 rfl rfl)
abbrev cX10_wearsOf : ByteArray := prog_22_method_56_code
def yX10_wearsOf : MethodName := ⟨RX10, "wearsOf", "(II)I"⟩
def dkwX10_wearsOf_1 : List UInt8 := [4, 4, 182, 1, 108, 3, 16, 99, 184, 1, 111, 172]
abbrev dktX10_wearsOf_1 : List UInt8 := dkwX10_wearsOf_1 ++ []
def dkwX10_wearsOf_0 : List UInt8 := [42, 27, 42, 180, 0, 128, 16, 36, 28, 96, 46, 42, 180, 0, 128, 16, 41, 28, 96, 46, 182, 1, 104, 42]
abbrev dktX10_wearsOf_0 : List UInt8 := dkwX10_wearsOf_0 ++ dktX10_wearsOf_1
theorem dksX10_wearsOf_0 : cX10_wearsOf.data.toList.drop 0 = dktX10_wearsOf_0 := by decide +kernel
theorem dksX10_wearsOf_1 : cX10_wearsOf.data.toList.drop 24 = dktX10_wearsOf_1 := dk_seg dksX10_wearsOf_0 24 rfl rfl
theorem dX10_wearsOf_0 : decode cX10_wearsOf 0 = .ok (.aload_n 0, 1) := dk_42 (dk_at dksX10_wearsOf_0 0 rfl rfl)
theorem dX10_wearsOf_1 : decode cX10_wearsOf 1 = .ok (.iload_n 1, 1) := dk_27 (dk_at dksX10_wearsOf_0 1 rfl rfl)
theorem dX10_wearsOf_2 : decode cX10_wearsOf 2 = .ok (.aload_n 0, 1) := dk_42 (dk_at dksX10_wearsOf_0 2 rfl rfl)
theorem dX10_wearsOf_3 : decode cX10_wearsOf 3 = .ok (.getfield 128, 3) := dk_180 0 128 (dk_at dksX10_wearsOf_0 3 rfl rfl)
theorem dX10_wearsOf_6 : decode cX10_wearsOf 6 = .ok (.bipush 36, 2) := dk_16 36 (dk_at dksX10_wearsOf_0 6 rfl rfl)
theorem dX10_wearsOf_8 : decode cX10_wearsOf 8 = .ok (.iload_n 2, 1) := dk_28 (dk_at dksX10_wearsOf_0 8 rfl rfl)
theorem dX10_wearsOf_9 : decode cX10_wearsOf 9 = .ok (.iadd, 1) := dk_96 (dk_at dksX10_wearsOf_0 9 rfl rfl)
theorem dX10_wearsOf_10 : decode cX10_wearsOf 10 = .ok (.iaload, 1) := dk_46 (dk_at dksX10_wearsOf_0 10 rfl rfl)
theorem dX10_wearsOf_11 : decode cX10_wearsOf 11 = .ok (.aload_n 0, 1) := dk_42 (dk_at dksX10_wearsOf_0 11 rfl rfl)
theorem dX10_wearsOf_12 : decode cX10_wearsOf 12 = .ok (.getfield 128, 3) := dk_180 0 128 (dk_at dksX10_wearsOf_0 12 rfl rfl)
theorem dX10_wearsOf_15 : decode cX10_wearsOf 15 = .ok (.bipush 41, 2) := dk_16 41 (dk_at dksX10_wearsOf_0 15 rfl rfl)
theorem dX10_wearsOf_17 : decode cX10_wearsOf 17 = .ok (.iload_n 2, 1) := dk_28 (dk_at dksX10_wearsOf_0 17 rfl rfl)
theorem dX10_wearsOf_18 : decode cX10_wearsOf 18 = .ok (.iadd, 1) := dk_96 (dk_at dksX10_wearsOf_0 18 rfl rfl)
theorem dX10_wearsOf_19 : decode cX10_wearsOf 19 = .ok (.iaload, 1) := dk_46 (dk_at dksX10_wearsOf_0 19 rfl rfl)
theorem dX10_wearsOf_20 : decode cX10_wearsOf 20 = .ok (.invokevirtual 360, 3) := dk_182 1 104 (dk_at dksX10_wearsOf_0 20 rfl rfl)
theorem dX10_wearsOf_23 : decode cX10_wearsOf 23 = .ok (.aload_n 0, 1) := dk_42 (dk_at dksX10_wearsOf_0 23 rfl rfl)
theorem dX10_wearsOf_24 : decode cX10_wearsOf 24 = .ok (.iconst 1, 1) := dk_4 (dk_at dksX10_wearsOf_1 0 rfl rfl)
theorem dX10_wearsOf_25 : decode cX10_wearsOf 25 = .ok (.iconst 1, 1) := dk_4 (dk_at dksX10_wearsOf_1 1 rfl rfl)
theorem dX10_wearsOf_26 : decode cX10_wearsOf 26 = .ok (.invokevirtual 364, 3) := dk_182 1 108 (dk_at dksX10_wearsOf_1 2 rfl rfl)
theorem dX10_wearsOf_29 : decode cX10_wearsOf 29 = .ok (.iconst 0, 1) := dk_3 (dk_at dksX10_wearsOf_1 5 rfl rfl)
theorem dX10_wearsOf_30 : decode cX10_wearsOf 30 = .ok (.bipush 99, 2) := dk_16 99 (dk_at dksX10_wearsOf_1 6 rfl rfl)
theorem dX10_wearsOf_32 : decode cX10_wearsOf 32 = .ok (.invokestatic 367, 3) := dk_184 1 111 (dk_at dksX10_wearsOf_1 8 rfl rfl)
theorem dX10_wearsOf_35 : decode cX10_wearsOf 35 = .ok (.ireturn, 1) := dk_172 (dk_at dksX10_wearsOf_1 11 rfl rfl)
abbrev cX10_step : ByteArray := prog_22_method_75_code
def yX10_step : MethodName := ⟨RX10, "step", "(I)I"⟩
def dkwX10_step_2 : List UInt8 := [42, 182, 1, 130, 42, 182, 1, 161, 42, 180, 0, 125, 16, 46, 46, 172]
abbrev dktX10_step_2 : List UInt8 := dkwX10_step_2 ++ []
def dkwX10_step_1 : List UInt8 := [172, 42, 182, 1, 91, 42, 180, 0, 128, 16, 46, 42, 27, 42, 180, 0, 128, 16, 46, 46, 182, 1, 158, 79]
abbrev dktX10_step_1 : List UInt8 := dkwX10_step_1 ++ dktX10_step_2
def dkwX10_step_0 : List UInt8 := [42, 27, 182, 1, 149, 153, 0, 18, 42, 27, 42, 180, 0, 125, 16, 46, 46, 182, 1, 145, 154, 0, 5, 2]
abbrev dktX10_step_0 : List UInt8 := dkwX10_step_0 ++ dktX10_step_1
theorem dksX10_step_0 : cX10_step.data.toList.drop 0 = dktX10_step_0 := by decide +kernel
theorem dksX10_step_1 : cX10_step.data.toList.drop 24 = dktX10_step_1 := dk_seg dksX10_step_0 24 rfl rfl
theorem dksX10_step_2 : cX10_step.data.toList.drop 48 = dktX10_step_2 := dk_seg dksX10_step_1 24 rfl rfl
theorem dX10_step_0 : decode cX10_step 0 = .ok (.aload_n 0, 1) := dk_42 (dk_at dksX10_step_0 0 rfl rfl)
theorem dX10_step_1 : decode cX10_step 1 = .ok (.iload_n 1, 1) := dk_27 (dk_at dksX10_step_0 1 rfl rfl)
theorem dX10_step_2 : decode cX10_step 2 = .ok (.invokevirtual 405, 3) := dk_182 1 149 (dk_at dksX10_step_0 2 rfl rfl)
theorem dX10_step_5 : decode cX10_step 5 = .ok (.ifCond .eq 18, 3) := dk_153 0 18 (dk_at dksX10_step_0 5 rfl rfl)
theorem dX10_step_8 : decode cX10_step 8 = .ok (.aload_n 0, 1) := dk_42 (dk_at dksX10_step_0 8 rfl rfl)
theorem dX10_step_9 : decode cX10_step 9 = .ok (.iload_n 1, 1) := dk_27 (dk_at dksX10_step_0 9 rfl rfl)
theorem dX10_step_10 : decode cX10_step 10 = .ok (.aload_n 0, 1) := dk_42 (dk_at dksX10_step_0 10 rfl rfl)
theorem dX10_step_11 : decode cX10_step 11 = .ok (.getfield 125, 3) := dk_180 0 125 (dk_at dksX10_step_0 11 rfl rfl)
theorem dX10_step_14 : decode cX10_step 14 = .ok (.bipush 46, 2) := dk_16 46 (dk_at dksX10_step_0 14 rfl rfl)
theorem dX10_step_16 : decode cX10_step 16 = .ok (.iaload, 1) := dk_46 (dk_at dksX10_step_0 16 rfl rfl)
theorem dX10_step_17 : decode cX10_step 17 = .ok (.invokevirtual 401, 3) := dk_182 1 145 (dk_at dksX10_step_0 17 rfl rfl)
theorem dX10_step_20 : decode cX10_step 20 = .ok (.ifCond .ne 5, 3) := dk_154 0 5 (dk_at dksX10_step_0 20 rfl rfl)
theorem dX10_step_23 : decode cX10_step 23 = .ok (.iconst (-1), 1) := dk_2 (dk_at dksX10_step_0 23 rfl rfl)
theorem dX10_step_24 : decode cX10_step 24 = .ok (.ireturn, 1) := dk_172 (dk_at dksX10_step_1 0 rfl rfl)
theorem dX10_step_25 : decode cX10_step 25 = .ok (.aload_n 0, 1) := dk_42 (dk_at dksX10_step_1 1 rfl rfl)
theorem dX10_step_26 : decode cX10_step 26 = .ok (.invokevirtual 347, 3) := dk_182 1 91 (dk_at dksX10_step_1 2 rfl rfl)
theorem dX10_step_29 : decode cX10_step 29 = .ok (.aload_n 0, 1) := dk_42 (dk_at dksX10_step_1 5 rfl rfl)
theorem dX10_step_30 : decode cX10_step 30 = .ok (.getfield 128, 3) := dk_180 0 128 (dk_at dksX10_step_1 6 rfl rfl)
theorem dX10_step_33 : decode cX10_step 33 = .ok (.bipush 46, 2) := dk_16 46 (dk_at dksX10_step_1 9 rfl rfl)
theorem dX10_step_35 : decode cX10_step 35 = .ok (.aload_n 0, 1) := dk_42 (dk_at dksX10_step_1 11 rfl rfl)
theorem dX10_step_36 : decode cX10_step 36 = .ok (.iload_n 1, 1) := dk_27 (dk_at dksX10_step_1 12 rfl rfl)
theorem dX10_step_37 : decode cX10_step 37 = .ok (.aload_n 0, 1) := dk_42 (dk_at dksX10_step_1 13 rfl rfl)
theorem dX10_step_38 : decode cX10_step 38 = .ok (.getfield 128, 3) := dk_180 0 128 (dk_at dksX10_step_1 14 rfl rfl)
theorem dX10_step_41 : decode cX10_step 41 = .ok (.bipush 46, 2) := dk_16 46 (dk_at dksX10_step_1 17 rfl rfl)
theorem dX10_step_43 : decode cX10_step 43 = .ok (.iaload, 1) := dk_46 (dk_at dksX10_step_1 19 rfl rfl)
theorem dX10_step_44 : decode cX10_step 44 = .ok (.invokevirtual 414, 3) := dk_182 1 158 (dk_at dksX10_step_1 20 rfl rfl)
theorem dX10_step_47 : decode cX10_step 47 = .ok (.iastore, 1) := dk_79 (dk_at dksX10_step_1 23 rfl rfl)
theorem dX10_step_48 : decode cX10_step 48 = .ok (.aload_n 0, 1) := dk_42 (dk_at dksX10_step_2 0 rfl rfl)
theorem dX10_step_49 : decode cX10_step 49 = .ok (.invokevirtual 386, 3) := dk_182 1 130 (dk_at dksX10_step_2 1 rfl rfl)
theorem dX10_step_52 : decode cX10_step 52 = .ok (.aload_n 0, 1) := dk_42 (dk_at dksX10_step_2 4 rfl rfl)
theorem dX10_step_53 : decode cX10_step 53 = .ok (.invokevirtual 417, 3) := dk_182 1 161 (dk_at dksX10_step_2 5 rfl rfl)
theorem dX10_step_56 : decode cX10_step 56 = .ok (.aload_n 0, 1) := dk_42 (dk_at dksX10_step_2 8 rfl rfl)
theorem dX10_step_57 : decode cX10_step 57 = .ok (.getfield 125, 3) := dk_180 0 125 (dk_at dksX10_step_2 9 rfl rfl)
theorem dX10_step_60 : decode cX10_step 60 = .ok (.bipush 46, 2) := dk_16 46 (dk_at dksX10_step_2 12 rfl rfl)
theorem dX10_step_62 : decode cX10_step 62 = .ok (.iaload, 1) := dk_46 (dk_at dksX10_step_2 14 rfl rfl)
theorem dX10_step_63 : decode cX10_step 63 = .ok (.ireturn, 1) := dk_172 (dk_at dksX10_step_2 15 rfl rfl)
abbrev cX10_otherEnd : ByteArray := prog_22_method_68_code
def yX10_otherEnd : MethodName := ⟨RX10, "otherEnd", "(II)I"⟩
def dkwX10_otherEnd_1 : List UInt8 := [104, 27, 96, 46, 96, 28, 100, 172]
abbrev dktX10_otherEnd_1 : List UInt8 := dkwX10_otherEnd_1 ++ []
def dkwX10_otherEnd_0 : List UInt8 := [42, 180, 0, 52, 16, 10, 42, 180, 0, 251, 104, 27, 96, 46, 42, 180, 0, 55, 16, 10, 42, 180, 0, 251]
abbrev dktX10_otherEnd_0 : List UInt8 := dkwX10_otherEnd_0 ++ dktX10_otherEnd_1
theorem dksX10_otherEnd_0 : cX10_otherEnd.data.toList.drop 0 = dktX10_otherEnd_0 := by decide +kernel
theorem dksX10_otherEnd_1 : cX10_otherEnd.data.toList.drop 24 = dktX10_otherEnd_1 := dk_seg dksX10_otherEnd_0 24 rfl rfl
theorem dX10_otherEnd_0 : decode cX10_otherEnd 0 = .ok (.aload_n 0, 1) := dk_42 (dk_at dksX10_otherEnd_0 0 rfl rfl)
theorem dX10_otherEnd_1 : decode cX10_otherEnd 1 = .ok (.getfield 52, 3) := dk_180 0 52 (dk_at dksX10_otherEnd_0 1 rfl rfl)
theorem dX10_otherEnd_4 : decode cX10_otherEnd 4 = .ok (.bipush 10, 2) := dk_16 10 (dk_at dksX10_otherEnd_0 4 rfl rfl)
theorem dX10_otherEnd_6 : decode cX10_otherEnd 6 = .ok (.aload_n 0, 1) := dk_42 (dk_at dksX10_otherEnd_0 6 rfl rfl)
theorem dX10_otherEnd_7 : decode cX10_otherEnd 7 = .ok (.getfield 251, 3) := dk_180 0 251 (dk_at dksX10_otherEnd_0 7 rfl rfl)
theorem dX10_otherEnd_10 : decode cX10_otherEnd 10 = .ok (.imul, 1) := dk_104 (dk_at dksX10_otherEnd_0 10 rfl rfl)
theorem dX10_otherEnd_11 : decode cX10_otherEnd 11 = .ok (.iload_n 1, 1) := dk_27 (dk_at dksX10_otherEnd_0 11 rfl rfl)
theorem dX10_otherEnd_12 : decode cX10_otherEnd 12 = .ok (.iadd, 1) := dk_96 (dk_at dksX10_otherEnd_0 12 rfl rfl)
theorem dX10_otherEnd_13 : decode cX10_otherEnd 13 = .ok (.iaload, 1) := dk_46 (dk_at dksX10_otherEnd_0 13 rfl rfl)
theorem dX10_otherEnd_14 : decode cX10_otherEnd 14 = .ok (.aload_n 0, 1) := dk_42 (dk_at dksX10_otherEnd_0 14 rfl rfl)
theorem dX10_otherEnd_15 : decode cX10_otherEnd 15 = .ok (.getfield 55, 3) := dk_180 0 55 (dk_at dksX10_otherEnd_0 15 rfl rfl)
theorem dX10_otherEnd_18 : decode cX10_otherEnd 18 = .ok (.bipush 10, 2) := dk_16 10 (dk_at dksX10_otherEnd_0 18 rfl rfl)
theorem dX10_otherEnd_20 : decode cX10_otherEnd 20 = .ok (.aload_n 0, 1) := dk_42 (dk_at dksX10_otherEnd_0 20 rfl rfl)
theorem dX10_otherEnd_21 : decode cX10_otherEnd 21 = .ok (.getfield 251, 3) := dk_180 0 251 (dk_at dksX10_otherEnd_0 21 rfl rfl)
theorem dX10_otherEnd_24 : decode cX10_otherEnd 24 = .ok (.imul, 1) := dk_104 (dk_at dksX10_otherEnd_1 0 rfl rfl)
theorem dX10_otherEnd_25 : decode cX10_otherEnd 25 = .ok (.iload_n 1, 1) := dk_27 (dk_at dksX10_otherEnd_1 1 rfl rfl)
theorem dX10_otherEnd_26 : decode cX10_otherEnd 26 = .ok (.iadd, 1) := dk_96 (dk_at dksX10_otherEnd_1 2 rfl rfl)
theorem dX10_otherEnd_27 : decode cX10_otherEnd 27 = .ok (.iaload, 1) := dk_46 (dk_at dksX10_otherEnd_1 3 rfl rfl)
theorem dX10_otherEnd_28 : decode cX10_otherEnd 28 = .ok (.iadd, 1) := dk_96 (dk_at dksX10_otherEnd_1 4 rfl rfl)
theorem dX10_otherEnd_29 : decode cX10_otherEnd 29 = .ok (.iload_n 2, 1) := dk_28 (dk_at dksX10_otherEnd_1 5 rfl rfl)
theorem dX10_otherEnd_30 : decode cX10_otherEnd 30 = .ok (.isub, 1) := dk_100 (dk_at dksX10_otherEnd_1 6 rfl rfl)
theorem dX10_otherEnd_31 : decode cX10_otherEnd 31 = .ok (.ireturn, 1) := dk_172 (dk_at dksX10_otherEnd_1 7 rfl rfl)
abbrev cX10_hourGoes : ByteArray := prog_22_method_60_code
def yX10_hourGoes : MethodName := ⟨RX10, "hourGoes", "()V"⟩
def dkwX10_hourGoes_9 : List UInt8 := [96, 3, 79, 132, 2, 1, 167, 255, 153, 42, 180, 0, 128, 16, 47, 92, 46, 4, 96, 79, 177]
abbrev dktX10_hourGoes_9 : List UInt8 := dkwX10_hourGoes_9 ++ []
def dkwX10_hourGoes_8 : List UInt8 := [51, 154, 0, 6, 167, 0, 23, 42, 180, 0, 128, 16, 12, 28, 96, 4, 79, 42, 180, 0, 128, 16, 6, 28]
abbrev dktX10_hourGoes_8 : List UInt8 := dkwX10_hourGoes_8 ++ dktX10_hourGoes_9
def dkwX10_hourGoes_7 : List UInt8 := [28, 46, 27, 160, 0, 16, 42, 180, 0, 128, 16, 6, 28, 96, 92, 46, 5, 108, 79, 42, 180, 0, 134, 28]
abbrev dktX10_hourGoes_7 : List UInt8 := dkwX10_hourGoes_7 ++ dktX10_hourGoes_8
def dkwX10_hourGoes_6 : List UInt8 := [16, 6, 28, 96, 46, 42, 180, 0, 131, 28, 46, 100, 3, 17, 3, 231, 184, 1, 111, 79, 42, 180, 0, 128]
abbrev dktX10_hourGoes_6 : List UInt8 := dkwX10_hourGoes_6 ++ dktX10_hourGoes_7
def dkwX10_hourGoes_5 : List UInt8 := [180, 0, 61, 42, 180, 0, 251, 46, 162, 0, 96, 42, 180, 0, 128, 16, 6, 28, 96, 42, 180, 0, 128]
abbrev dktX10_hourGoes_5 : List UInt8 := dkwX10_hourGoes_5 ++ dktX10_hourGoes_6
def dkwX10_hourGoes_4 : List UInt8 := [4, 96, 42, 180, 0, 46, 42, 180, 0, 251, 46, 182, 1, 98, 167, 0, 4, 2, 60, 3, 61, 28, 42]
abbrev dktX10_hourGoes_4 : List UInt8 := dkwX10_hourGoes_4 ++ dktX10_hourGoes_5
def dkwX10_hourGoes_3 : List UInt8 := [180, 0, 251, 46, 158, 0, 37, 42, 182, 1, 126, 153, 0, 30, 42, 7, 42, 180, 0, 128, 16, 47, 46, 104]
abbrev dktX10_hourGoes_3 : List UInt8 := dkwX10_hourGoes_3 ++ dktX10_hourGoes_4
def dkwX10_hourGoes_2 : List UInt8 := [27, 182, 1, 123, 84, 132, 1, 1, 167, 255, 202, 42, 180, 1, 88, 154, 0, 49, 42, 180, 0, 46, 42]
abbrev dktX10_hourGoes_2 : List UInt8 := dkwX10_hourGoes_2 ++ dktX10_hourGoes_3
def dkwX10_hourGoes_1 : List UInt8 := [16, 12, 27, 96, 46, 154, 0, 11, 42, 27, 182, 1, 120, 167, 0, 4, 3, 79, 42, 180, 0, 134, 27, 42]
abbrev dktX10_hourGoes_1 : List UInt8 := dkwX10_hourGoes_1 ++ dktX10_hourGoes_2
def dkwX10_hourGoes_0 : List UInt8 := [3, 60, 27, 42, 180, 0, 61, 42, 180, 0, 251, 46, 162, 0, 47, 42, 180, 0, 131, 27, 42, 180, 0, 128]
abbrev dktX10_hourGoes_0 : List UInt8 := dkwX10_hourGoes_0 ++ dktX10_hourGoes_1
theorem dksX10_hourGoes_0 : cX10_hourGoes.data.toList.drop 0 = dktX10_hourGoes_0 := by decide +kernel
theorem dksX10_hourGoes_1 : cX10_hourGoes.data.toList.drop 24 = dktX10_hourGoes_1 := dk_seg dksX10_hourGoes_0 24 rfl rfl
theorem dksX10_hourGoes_2 : cX10_hourGoes.data.toList.drop 48 = dktX10_hourGoes_2 := dk_seg dksX10_hourGoes_1 24 rfl rfl
theorem dksX10_hourGoes_3 : cX10_hourGoes.data.toList.drop 71 = dktX10_hourGoes_3 := dk_seg dksX10_hourGoes_2 23 rfl rfl
theorem dksX10_hourGoes_4 : cX10_hourGoes.data.toList.drop 95 = dktX10_hourGoes_4 := dk_seg dksX10_hourGoes_3 24 rfl rfl
theorem dksX10_hourGoes_5 : cX10_hourGoes.data.toList.drop 118 = dktX10_hourGoes_5 := dk_seg dksX10_hourGoes_4 23 rfl rfl
theorem dksX10_hourGoes_6 : cX10_hourGoes.data.toList.drop 141 = dktX10_hourGoes_6 := dk_seg dksX10_hourGoes_5 23 rfl rfl
theorem dksX10_hourGoes_7 : cX10_hourGoes.data.toList.drop 165 = dktX10_hourGoes_7 := dk_seg dksX10_hourGoes_6 24 rfl rfl
theorem dksX10_hourGoes_8 : cX10_hourGoes.data.toList.drop 189 = dktX10_hourGoes_8 := dk_seg dksX10_hourGoes_7 24 rfl rfl
theorem dksX10_hourGoes_9 : cX10_hourGoes.data.toList.drop 213 = dktX10_hourGoes_9 := dk_seg dksX10_hourGoes_8 24 rfl rfl
theorem dX10_hourGoes_0 : decode cX10_hourGoes 0 = .ok (.iconst 0, 1) := dk_3 (dk_at dksX10_hourGoes_0 0 rfl rfl)
theorem dX10_hourGoes_1 : decode cX10_hourGoes 1 = .ok (.istore_n 1, 1) := dk_60 (dk_at dksX10_hourGoes_0 1 rfl rfl)
theorem dX10_hourGoes_2 : decode cX10_hourGoes 2 = .ok (.iload_n 1, 1) := dk_27 (dk_at dksX10_hourGoes_0 2 rfl rfl)
theorem dX10_hourGoes_3 : decode cX10_hourGoes 3 = .ok (.aload_n 0, 1) := dk_42 (dk_at dksX10_hourGoes_0 3 rfl rfl)
theorem dX10_hourGoes_4 : decode cX10_hourGoes 4 = .ok (.getfield 61, 3) := dk_180 0 61 (dk_at dksX10_hourGoes_0 4 rfl rfl)
theorem dX10_hourGoes_7 : decode cX10_hourGoes 7 = .ok (.aload_n 0, 1) := dk_42 (dk_at dksX10_hourGoes_0 7 rfl rfl)
theorem dX10_hourGoes_8 : decode cX10_hourGoes 8 = .ok (.getfield 251, 3) := dk_180 0 251 (dk_at dksX10_hourGoes_0 8 rfl rfl)
theorem dX10_hourGoes_11 : decode cX10_hourGoes 11 = .ok (.iaload, 1) := dk_46 (dk_at dksX10_hourGoes_0 11 rfl rfl)
theorem dX10_hourGoes_12 : decode cX10_hourGoes 12 = .ok (.if_icmp .ge 47, 3) := dk_162 0 47 (dk_at dksX10_hourGoes_0 12 rfl rfl)
theorem dX10_hourGoes_15 : decode cX10_hourGoes 15 = .ok (.aload_n 0, 1) := dk_42 (dk_at dksX10_hourGoes_0 15 rfl rfl)
theorem dX10_hourGoes_16 : decode cX10_hourGoes 16 = .ok (.getfield 131, 3) := dk_180 0 131 (dk_at dksX10_hourGoes_0 16 rfl rfl)
theorem dX10_hourGoes_19 : decode cX10_hourGoes 19 = .ok (.iload_n 1, 1) := dk_27 (dk_at dksX10_hourGoes_0 19 rfl rfl)
theorem dX10_hourGoes_20 : decode cX10_hourGoes 20 = .ok (.aload_n 0, 1) := dk_42 (dk_at dksX10_hourGoes_0 20 rfl rfl)
theorem dX10_hourGoes_21 : decode cX10_hourGoes 21 = .ok (.getfield 128, 3) := dk_180 0 128 (dk_at dksX10_hourGoes_0 21 rfl rfl)
theorem dX10_hourGoes_24 : decode cX10_hourGoes 24 = .ok (.bipush 12, 2) := dk_16 12 (dk_at dksX10_hourGoes_1 0 rfl rfl)
theorem dX10_hourGoes_26 : decode cX10_hourGoes 26 = .ok (.iload_n 1, 1) := dk_27 (dk_at dksX10_hourGoes_1 2 rfl rfl)
theorem dX10_hourGoes_27 : decode cX10_hourGoes 27 = .ok (.iadd, 1) := dk_96 (dk_at dksX10_hourGoes_1 3 rfl rfl)
theorem dX10_hourGoes_28 : decode cX10_hourGoes 28 = .ok (.iaload, 1) := dk_46 (dk_at dksX10_hourGoes_1 4 rfl rfl)
theorem dX10_hourGoes_29 : decode cX10_hourGoes 29 = .ok (.ifCond .ne 11, 3) := dk_154 0 11 (dk_at dksX10_hourGoes_1 5 rfl rfl)
theorem dX10_hourGoes_32 : decode cX10_hourGoes 32 = .ok (.aload_n 0, 1) := dk_42 (dk_at dksX10_hourGoes_1 8 rfl rfl)
theorem dX10_hourGoes_33 : decode cX10_hourGoes 33 = .ok (.iload_n 1, 1) := dk_27 (dk_at dksX10_hourGoes_1 9 rfl rfl)
theorem dX10_hourGoes_34 : decode cX10_hourGoes 34 = .ok (.invokevirtual 376, 3) := dk_182 1 120 (dk_at dksX10_hourGoes_1 10 rfl rfl)
theorem dX10_hourGoes_37 : decode cX10_hourGoes 37 = .ok (.goto 4, 3) := dk_167 0 4 (dk_at dksX10_hourGoes_1 13 rfl rfl)
theorem dX10_hourGoes_40 : decode cX10_hourGoes 40 = .ok (.iconst 0, 1) := dk_3 (dk_at dksX10_hourGoes_1 16 rfl rfl)
theorem dX10_hourGoes_41 : decode cX10_hourGoes 41 = .ok (.iastore, 1) := dk_79 (dk_at dksX10_hourGoes_1 17 rfl rfl)
theorem dX10_hourGoes_42 : decode cX10_hourGoes 42 = .ok (.aload_n 0, 1) := dk_42 (dk_at dksX10_hourGoes_1 18 rfl rfl)
theorem dX10_hourGoes_43 : decode cX10_hourGoes 43 = .ok (.getfield 134, 3) := dk_180 0 134 (dk_at dksX10_hourGoes_1 19 rfl rfl)
theorem dX10_hourGoes_46 : decode cX10_hourGoes 46 = .ok (.iload_n 1, 1) := dk_27 (dk_at dksX10_hourGoes_1 22 rfl rfl)
theorem dX10_hourGoes_47 : decode cX10_hourGoes 47 = .ok (.aload_n 0, 1) := dk_42 (dk_at dksX10_hourGoes_1 23 rfl rfl)
theorem dX10_hourGoes_48 : decode cX10_hourGoes 48 = .ok (.iload_n 1, 1) := dk_27 (dk_at dksX10_hourGoes_2 0 rfl rfl)
theorem dX10_hourGoes_49 : decode cX10_hourGoes 49 = .ok (.invokevirtual 379, 3) := dk_182 1 123 (dk_at dksX10_hourGoes_2 1 rfl rfl)
theorem dX10_hourGoes_52 : decode cX10_hourGoes 52 = .ok (.bastore, 1) := dk_84 (dk_at dksX10_hourGoes_2 4 rfl rfl)
theorem dX10_hourGoes_53 : decode cX10_hourGoes 53 = .ok (.iinc 1 1, 3) := dk_132 1 1 (dk_at dksX10_hourGoes_2 5 rfl rfl)
theorem dX10_hourGoes_56 : decode cX10_hourGoes 56 = .ok (.goto (-54), 3) := dk_167 255 202 (dk_at dksX10_hourGoes_2 8 rfl rfl)
theorem dX10_hourGoes_59 : decode cX10_hourGoes 59 = .ok (.aload_n 0, 1) := dk_42 (dk_at dksX10_hourGoes_2 11 rfl rfl)
theorem dX10_hourGoes_60 : decode cX10_hourGoes 60 = .ok (.getfield 344, 3) := dk_180 1 88 (dk_at dksX10_hourGoes_2 12 rfl rfl)
theorem dX10_hourGoes_63 : decode cX10_hourGoes 63 = .ok (.ifCond .ne 49, 3) := dk_154 0 49 (dk_at dksX10_hourGoes_2 15 rfl rfl)
theorem dX10_hourGoes_66 : decode cX10_hourGoes 66 = .ok (.aload_n 0, 1) := dk_42 (dk_at dksX10_hourGoes_2 18 rfl rfl)
theorem dX10_hourGoes_67 : decode cX10_hourGoes 67 = .ok (.getfield 46, 3) := dk_180 0 46 (dk_at dksX10_hourGoes_2 19 rfl rfl)
theorem dX10_hourGoes_70 : decode cX10_hourGoes 70 = .ok (.aload_n 0, 1) := dk_42 (dk_at dksX10_hourGoes_2 22 rfl rfl)
theorem dX10_hourGoes_71 : decode cX10_hourGoes 71 = .ok (.getfield 251, 3) := dk_180 0 251 (dk_at dksX10_hourGoes_3 0 rfl rfl)
theorem dX10_hourGoes_74 : decode cX10_hourGoes 74 = .ok (.iaload, 1) := dk_46 (dk_at dksX10_hourGoes_3 3 rfl rfl)
theorem dX10_hourGoes_75 : decode cX10_hourGoes 75 = .ok (.ifCond .le 37, 3) := dk_158 0 37 (dk_at dksX10_hourGoes_3 4 rfl rfl)
theorem dX10_hourGoes_78 : decode cX10_hourGoes 78 = .ok (.aload_n 0, 1) := dk_42 (dk_at dksX10_hourGoes_3 7 rfl rfl)
theorem dX10_hourGoes_79 : decode cX10_hourGoes 79 = .ok (.invokevirtual 382, 3) := dk_182 1 126 (dk_at dksX10_hourGoes_3 8 rfl rfl)
theorem dX10_hourGoes_82 : decode cX10_hourGoes 82 = .ok (.ifCond .eq 30, 3) := dk_153 0 30 (dk_at dksX10_hourGoes_3 11 rfl rfl)
theorem dX10_hourGoes_85 : decode cX10_hourGoes 85 = .ok (.aload_n 0, 1) := dk_42 (dk_at dksX10_hourGoes_3 14 rfl rfl)
theorem dX10_hourGoes_86 : decode cX10_hourGoes 86 = .ok (.iconst 4, 1) := dk_7 (dk_at dksX10_hourGoes_3 15 rfl rfl)
theorem dX10_hourGoes_87 : decode cX10_hourGoes 87 = .ok (.aload_n 0, 1) := dk_42 (dk_at dksX10_hourGoes_3 16 rfl rfl)
theorem dX10_hourGoes_88 : decode cX10_hourGoes 88 = .ok (.getfield 128, 3) := dk_180 0 128 (dk_at dksX10_hourGoes_3 17 rfl rfl)
theorem dX10_hourGoes_91 : decode cX10_hourGoes 91 = .ok (.bipush 47, 2) := dk_16 47 (dk_at dksX10_hourGoes_3 20 rfl rfl)
theorem dX10_hourGoes_93 : decode cX10_hourGoes 93 = .ok (.iaload, 1) := dk_46 (dk_at dksX10_hourGoes_3 22 rfl rfl)
theorem dX10_hourGoes_94 : decode cX10_hourGoes 94 = .ok (.imul, 1) := dk_104 (dk_at dksX10_hourGoes_3 23 rfl rfl)
theorem dX10_hourGoes_95 : decode cX10_hourGoes 95 = .ok (.iconst 1, 1) := dk_4 (dk_at dksX10_hourGoes_4 0 rfl rfl)
theorem dX10_hourGoes_96 : decode cX10_hourGoes 96 = .ok (.iadd, 1) := dk_96 (dk_at dksX10_hourGoes_4 1 rfl rfl)
theorem dX10_hourGoes_97 : decode cX10_hourGoes 97 = .ok (.aload_n 0, 1) := dk_42 (dk_at dksX10_hourGoes_4 2 rfl rfl)
theorem dX10_hourGoes_98 : decode cX10_hourGoes 98 = .ok (.getfield 46, 3) := dk_180 0 46 (dk_at dksX10_hourGoes_4 3 rfl rfl)
theorem dX10_hourGoes_101 : decode cX10_hourGoes 101 = .ok (.aload_n 0, 1) := dk_42 (dk_at dksX10_hourGoes_4 6 rfl rfl)
theorem dX10_hourGoes_102 : decode cX10_hourGoes 102 = .ok (.getfield 251, 3) := dk_180 0 251 (dk_at dksX10_hourGoes_4 7 rfl rfl)
theorem dX10_hourGoes_105 : decode cX10_hourGoes 105 = .ok (.iaload, 1) := dk_46 (dk_at dksX10_hourGoes_4 10 rfl rfl)
theorem dX10_hourGoes_106 : decode cX10_hourGoes 106 = .ok (.invokevirtual 354, 3) := dk_182 1 98 (dk_at dksX10_hourGoes_4 11 rfl rfl)
theorem dX10_hourGoes_109 : decode cX10_hourGoes 109 = .ok (.goto 4, 3) := dk_167 0 4 (dk_at dksX10_hourGoes_4 14 rfl rfl)
theorem dX10_hourGoes_112 : decode cX10_hourGoes 112 = .ok (.iconst (-1), 1) := dk_2 (dk_at dksX10_hourGoes_4 17 rfl rfl)
theorem dX10_hourGoes_113 : decode cX10_hourGoes 113 = .ok (.istore_n 1, 1) := dk_60 (dk_at dksX10_hourGoes_4 18 rfl rfl)
theorem dX10_hourGoes_114 : decode cX10_hourGoes 114 = .ok (.iconst 0, 1) := dk_3 (dk_at dksX10_hourGoes_4 19 rfl rfl)
theorem dX10_hourGoes_115 : decode cX10_hourGoes 115 = .ok (.istore_n 2, 1) := dk_61 (dk_at dksX10_hourGoes_4 20 rfl rfl)
theorem dX10_hourGoes_116 : decode cX10_hourGoes 116 = .ok (.iload_n 2, 1) := dk_28 (dk_at dksX10_hourGoes_4 21 rfl rfl)
theorem dX10_hourGoes_117 : decode cX10_hourGoes 117 = .ok (.aload_n 0, 1) := dk_42 (dk_at dksX10_hourGoes_4 22 rfl rfl)
theorem dX10_hourGoes_118 : decode cX10_hourGoes 118 = .ok (.getfield 61, 3) := dk_180 0 61 (dk_at dksX10_hourGoes_5 0 rfl rfl)
theorem dX10_hourGoes_121 : decode cX10_hourGoes 121 = .ok (.aload_n 0, 1) := dk_42 (dk_at dksX10_hourGoes_5 3 rfl rfl)
theorem dX10_hourGoes_122 : decode cX10_hourGoes 122 = .ok (.getfield 251, 3) := dk_180 0 251 (dk_at dksX10_hourGoes_5 4 rfl rfl)
theorem dX10_hourGoes_125 : decode cX10_hourGoes 125 = .ok (.iaload, 1) := dk_46 (dk_at dksX10_hourGoes_5 7 rfl rfl)
theorem dX10_hourGoes_126 : decode cX10_hourGoes 126 = .ok (.if_icmp .ge 96, 3) := dk_162 0 96 (dk_at dksX10_hourGoes_5 8 rfl rfl)
theorem dX10_hourGoes_129 : decode cX10_hourGoes 129 = .ok (.aload_n 0, 1) := dk_42 (dk_at dksX10_hourGoes_5 11 rfl rfl)
theorem dX10_hourGoes_130 : decode cX10_hourGoes 130 = .ok (.getfield 128, 3) := dk_180 0 128 (dk_at dksX10_hourGoes_5 12 rfl rfl)
theorem dX10_hourGoes_133 : decode cX10_hourGoes 133 = .ok (.bipush 6, 2) := dk_16 6 (dk_at dksX10_hourGoes_5 15 rfl rfl)
theorem dX10_hourGoes_135 : decode cX10_hourGoes 135 = .ok (.iload_n 2, 1) := dk_28 (dk_at dksX10_hourGoes_5 17 rfl rfl)
theorem dX10_hourGoes_136 : decode cX10_hourGoes 136 = .ok (.iadd, 1) := dk_96 (dk_at dksX10_hourGoes_5 18 rfl rfl)
theorem dX10_hourGoes_137 : decode cX10_hourGoes 137 = .ok (.aload_n 0, 1) := dk_42 (dk_at dksX10_hourGoes_5 19 rfl rfl)
theorem dX10_hourGoes_138 : decode cX10_hourGoes 138 = .ok (.getfield 128, 3) := dk_180 0 128 (dk_at dksX10_hourGoes_5 20 rfl rfl)
theorem dX10_hourGoes_141 : decode cX10_hourGoes 141 = .ok (.bipush 6, 2) := dk_16 6 (dk_at dksX10_hourGoes_6 0 rfl rfl)
theorem dX10_hourGoes_143 : decode cX10_hourGoes 143 = .ok (.iload_n 2, 1) := dk_28 (dk_at dksX10_hourGoes_6 2 rfl rfl)
theorem dX10_hourGoes_144 : decode cX10_hourGoes 144 = .ok (.iadd, 1) := dk_96 (dk_at dksX10_hourGoes_6 3 rfl rfl)
theorem dX10_hourGoes_145 : decode cX10_hourGoes 145 = .ok (.iaload, 1) := dk_46 (dk_at dksX10_hourGoes_6 4 rfl rfl)
theorem dX10_hourGoes_146 : decode cX10_hourGoes 146 = .ok (.aload_n 0, 1) := dk_42 (dk_at dksX10_hourGoes_6 5 rfl rfl)
theorem dX10_hourGoes_147 : decode cX10_hourGoes 147 = .ok (.getfield 131, 3) := dk_180 0 131 (dk_at dksX10_hourGoes_6 6 rfl rfl)
theorem dX10_hourGoes_150 : decode cX10_hourGoes 150 = .ok (.iload_n 2, 1) := dk_28 (dk_at dksX10_hourGoes_6 9 rfl rfl)
theorem dX10_hourGoes_151 : decode cX10_hourGoes 151 = .ok (.iaload, 1) := dk_46 (dk_at dksX10_hourGoes_6 10 rfl rfl)
theorem dX10_hourGoes_152 : decode cX10_hourGoes 152 = .ok (.isub, 1) := dk_100 (dk_at dksX10_hourGoes_6 11 rfl rfl)
theorem dX10_hourGoes_153 : decode cX10_hourGoes 153 = .ok (.iconst 0, 1) := dk_3 (dk_at dksX10_hourGoes_6 12 rfl rfl)
theorem dX10_hourGoes_154 : decode cX10_hourGoes 154 = .ok (.sipush 999, 3) := dk_17 3 231 (dk_at dksX10_hourGoes_6 13 rfl rfl)
theorem dX10_hourGoes_157 : decode cX10_hourGoes 157 = .ok (.invokestatic 367, 3) := dk_184 1 111 (dk_at dksX10_hourGoes_6 16 rfl rfl)
theorem dX10_hourGoes_160 : decode cX10_hourGoes 160 = .ok (.iastore, 1) := dk_79 (dk_at dksX10_hourGoes_6 19 rfl rfl)
theorem dX10_hourGoes_161 : decode cX10_hourGoes 161 = .ok (.aload_n 0, 1) := dk_42 (dk_at dksX10_hourGoes_6 20 rfl rfl)
theorem dX10_hourGoes_162 : decode cX10_hourGoes 162 = .ok (.getfield 128, 3) := dk_180 0 128 (dk_at dksX10_hourGoes_6 21 rfl rfl)
theorem dX10_hourGoes_165 : decode cX10_hourGoes 165 = .ok (.iload_n 2, 1) := dk_28 (dk_at dksX10_hourGoes_7 0 rfl rfl)
theorem dX10_hourGoes_166 : decode cX10_hourGoes 166 = .ok (.iaload, 1) := dk_46 (dk_at dksX10_hourGoes_7 1 rfl rfl)
theorem dX10_hourGoes_167 : decode cX10_hourGoes 167 = .ok (.iload_n 1, 1) := dk_27 (dk_at dksX10_hourGoes_7 2 rfl rfl)
theorem dX10_hourGoes_168 : decode cX10_hourGoes 168 = .ok (.if_icmp .ne 16, 3) := dk_160 0 16 (dk_at dksX10_hourGoes_7 3 rfl rfl)
theorem dX10_hourGoes_171 : decode cX10_hourGoes 171 = .ok (.aload_n 0, 1) := dk_42 (dk_at dksX10_hourGoes_7 6 rfl rfl)
theorem dX10_hourGoes_172 : decode cX10_hourGoes 172 = .ok (.getfield 128, 3) := dk_180 0 128 (dk_at dksX10_hourGoes_7 7 rfl rfl)
theorem dX10_hourGoes_175 : decode cX10_hourGoes 175 = .ok (.bipush 6, 2) := dk_16 6 (dk_at dksX10_hourGoes_7 10 rfl rfl)
theorem dX10_hourGoes_177 : decode cX10_hourGoes 177 = .ok (.iload_n 2, 1) := dk_28 (dk_at dksX10_hourGoes_7 12 rfl rfl)
theorem dX10_hourGoes_178 : decode cX10_hourGoes 178 = .ok (.iadd, 1) := dk_96 (dk_at dksX10_hourGoes_7 13 rfl rfl)
theorem dX10_hourGoes_179 : decode cX10_hourGoes 179 = .ok (.dup2, 1) := dk_92 (dk_at dksX10_hourGoes_7 14 rfl rfl)
theorem dX10_hourGoes_180 : decode cX10_hourGoes 180 = .ok (.iaload, 1) := dk_46 (dk_at dksX10_hourGoes_7 15 rfl rfl)
theorem dX10_hourGoes_181 : decode cX10_hourGoes 181 = .ok (.iconst 2, 1) := dk_5 (dk_at dksX10_hourGoes_7 16 rfl rfl)
theorem dX10_hourGoes_182 : decode cX10_hourGoes 182 = .ok (.idiv, 1) := dk_108 (dk_at dksX10_hourGoes_7 17 rfl rfl)
theorem dX10_hourGoes_183 : decode cX10_hourGoes 183 = .ok (.iastore, 1) := dk_79 (dk_at dksX10_hourGoes_7 18 rfl rfl)
theorem dX10_hourGoes_184 : decode cX10_hourGoes 184 = .ok (.aload_n 0, 1) := dk_42 (dk_at dksX10_hourGoes_7 19 rfl rfl)
theorem dX10_hourGoes_185 : decode cX10_hourGoes 185 = .ok (.getfield 134, 3) := dk_180 0 134 (dk_at dksX10_hourGoes_7 20 rfl rfl)
theorem dX10_hourGoes_188 : decode cX10_hourGoes 188 = .ok (.iload_n 2, 1) := dk_28 (dk_at dksX10_hourGoes_7 23 rfl rfl)
theorem dX10_hourGoes_189 : decode cX10_hourGoes 189 = .ok (.baload, 1) := dk_51 (dk_at dksX10_hourGoes_8 0 rfl rfl)
theorem dX10_hourGoes_190 : decode cX10_hourGoes 190 = .ok (.ifCond .ne 6, 3) := dk_154 0 6 (dk_at dksX10_hourGoes_8 1 rfl rfl)
theorem dX10_hourGoes_193 : decode cX10_hourGoes 193 = .ok (.goto 23, 3) := dk_167 0 23 (dk_at dksX10_hourGoes_8 4 rfl rfl)
theorem dX10_hourGoes_196 : decode cX10_hourGoes 196 = .ok (.aload_n 0, 1) := dk_42 (dk_at dksX10_hourGoes_8 7 rfl rfl)
theorem dX10_hourGoes_197 : decode cX10_hourGoes 197 = .ok (.getfield 128, 3) := dk_180 0 128 (dk_at dksX10_hourGoes_8 8 rfl rfl)
theorem dX10_hourGoes_200 : decode cX10_hourGoes 200 = .ok (.bipush 12, 2) := dk_16 12 (dk_at dksX10_hourGoes_8 11 rfl rfl)
theorem dX10_hourGoes_202 : decode cX10_hourGoes 202 = .ok (.iload_n 2, 1) := dk_28 (dk_at dksX10_hourGoes_8 13 rfl rfl)
theorem dX10_hourGoes_203 : decode cX10_hourGoes 203 = .ok (.iadd, 1) := dk_96 (dk_at dksX10_hourGoes_8 14 rfl rfl)
theorem dX10_hourGoes_204 : decode cX10_hourGoes 204 = .ok (.iconst 1, 1) := dk_4 (dk_at dksX10_hourGoes_8 15 rfl rfl)
theorem dX10_hourGoes_205 : decode cX10_hourGoes 205 = .ok (.iastore, 1) := dk_79 (dk_at dksX10_hourGoes_8 16 rfl rfl)
theorem dX10_hourGoes_206 : decode cX10_hourGoes 206 = .ok (.aload_n 0, 1) := dk_42 (dk_at dksX10_hourGoes_8 17 rfl rfl)
theorem dX10_hourGoes_207 : decode cX10_hourGoes 207 = .ok (.getfield 128, 3) := dk_180 0 128 (dk_at dksX10_hourGoes_8 18 rfl rfl)
theorem dX10_hourGoes_210 : decode cX10_hourGoes 210 = .ok (.bipush 6, 2) := dk_16 6 (dk_at dksX10_hourGoes_8 21 rfl rfl)
theorem dX10_hourGoes_212 : decode cX10_hourGoes 212 = .ok (.iload_n 2, 1) := dk_28 (dk_at dksX10_hourGoes_8 23 rfl rfl)
theorem dX10_hourGoes_213 : decode cX10_hourGoes 213 = .ok (.iadd, 1) := dk_96 (dk_at dksX10_hourGoes_9 0 rfl rfl)
theorem dX10_hourGoes_214 : decode cX10_hourGoes 214 = .ok (.iconst 0, 1) := dk_3 (dk_at dksX10_hourGoes_9 1 rfl rfl)
theorem dX10_hourGoes_215 : decode cX10_hourGoes 215 = .ok (.iastore, 1) := dk_79 (dk_at dksX10_hourGoes_9 2 rfl rfl)
theorem dX10_hourGoes_216 : decode cX10_hourGoes 216 = .ok (.iinc 2 1, 3) := dk_132 2 1 (dk_at dksX10_hourGoes_9 3 rfl rfl)
theorem dX10_hourGoes_219 : decode cX10_hourGoes 219 = .ok (.goto (-103), 3) := dk_167 255 153 (dk_at dksX10_hourGoes_9 6 rfl rfl)
theorem dX10_hourGoes_222 : decode cX10_hourGoes 222 = .ok (.aload_n 0, 1) := dk_42 (dk_at dksX10_hourGoes_9 9 rfl rfl)
theorem dX10_hourGoes_223 : decode cX10_hourGoes 223 = .ok (.getfield 128, 3) := dk_180 0 128 (dk_at dksX10_hourGoes_9 10 rfl rfl)
theorem dX10_hourGoes_226 : decode cX10_hourGoes 226 = .ok (.bipush 47, 2) := dk_16 47 (dk_at dksX10_hourGoes_9 13 rfl rfl)
theorem dX10_hourGoes_228 : decode cX10_hourGoes 228 = .ok (.dup2, 1) := dk_92 (dk_at dksX10_hourGoes_9 15 rfl rfl)
theorem dX10_hourGoes_229 : decode cX10_hourGoes 229 = .ok (.iaload, 1) := dk_46 (dk_at dksX10_hourGoes_9 16 rfl rfl)
theorem dX10_hourGoes_230 : decode cX10_hourGoes 230 = .ok (.iconst 1, 1) := dk_4 (dk_at dksX10_hourGoes_9 17 rfl rfl)
theorem dX10_hourGoes_231 : decode cX10_hourGoes 231 = .ok (.iadd, 1) := dk_96 (dk_at dksX10_hourGoes_9 18 rfl rfl)
theorem dX10_hourGoes_232 : decode cX10_hourGoes 232 = .ok (.iastore, 1) := dk_79 (dk_at dksX10_hourGoes_9 19 rfl rfl)
theorem dX10_hourGoes_233 : decode cX10_hourGoes 233 = .ok (.return_, 1) := dk_177 (dk_at dksX10_hourGoes_9 20 rfl rfl)
abbrev cX10_isDraught : ByteArray := prog_22_method_52_code
def yX10_isDraught : MethodName := ⟨RX10, "isDraught", "()Z"⟩
def dkwX10_isDraught_1 : List UInt8 := [162, 0, 7, 4, 167, 0, 4, 3, 172]
abbrev dktX10_isDraught_1 : List UInt8 := dkwX10_isDraught_1 ++ []
def dkwX10_isDraught_0 : List UInt8 := [42, 7, 42, 180, 0, 128, 16, 47, 46, 104, 16, 100, 182, 1, 98, 42, 180, 0, 82, 42, 180, 0, 251, 46]
abbrev dktX10_isDraught_0 : List UInt8 := dkwX10_isDraught_0 ++ dktX10_isDraught_1
theorem dksX10_isDraught_0 : cX10_isDraught.data.toList.drop 0 = dktX10_isDraught_0 := by decide +kernel
theorem dksX10_isDraught_1 : cX10_isDraught.data.toList.drop 24 = dktX10_isDraught_1 := dk_seg dksX10_isDraught_0 24 rfl rfl
theorem dX10_isDraught_0 : decode cX10_isDraught 0 = .ok (.aload_n 0, 1) := dk_42 (dk_at dksX10_isDraught_0 0 rfl rfl)
theorem dX10_isDraught_1 : decode cX10_isDraught 1 = .ok (.iconst 4, 1) := dk_7 (dk_at dksX10_isDraught_0 1 rfl rfl)
theorem dX10_isDraught_2 : decode cX10_isDraught 2 = .ok (.aload_n 0, 1) := dk_42 (dk_at dksX10_isDraught_0 2 rfl rfl)
theorem dX10_isDraught_3 : decode cX10_isDraught 3 = .ok (.getfield 128, 3) := dk_180 0 128 (dk_at dksX10_isDraught_0 3 rfl rfl)
theorem dX10_isDraught_6 : decode cX10_isDraught 6 = .ok (.bipush 47, 2) := dk_16 47 (dk_at dksX10_isDraught_0 6 rfl rfl)
theorem dX10_isDraught_8 : decode cX10_isDraught 8 = .ok (.iaload, 1) := dk_46 (dk_at dksX10_isDraught_0 8 rfl rfl)
theorem dX10_isDraught_9 : decode cX10_isDraught 9 = .ok (.imul, 1) := dk_104 (dk_at dksX10_isDraught_0 9 rfl rfl)
theorem dX10_isDraught_10 : decode cX10_isDraught 10 = .ok (.bipush 100, 2) := dk_16 100 (dk_at dksX10_isDraught_0 10 rfl rfl)
theorem dX10_isDraught_12 : decode cX10_isDraught 12 = .ok (.invokevirtual 354, 3) := dk_182 1 98 (dk_at dksX10_isDraught_0 12 rfl rfl)
theorem dX10_isDraught_15 : decode cX10_isDraught 15 = .ok (.aload_n 0, 1) := dk_42 (dk_at dksX10_isDraught_0 15 rfl rfl)
theorem dX10_isDraught_16 : decode cX10_isDraught 16 = .ok (.getfield 82, 3) := dk_180 0 82 (dk_at dksX10_isDraught_0 16 rfl rfl)
theorem dX10_isDraught_19 : decode cX10_isDraught 19 = .ok (.aload_n 0, 1) := dk_42 (dk_at dksX10_isDraught_0 19 rfl rfl)
theorem dX10_isDraught_20 : decode cX10_isDraught 20 = .ok (.getfield 251, 3) := dk_180 0 251 (dk_at dksX10_isDraught_0 20 rfl rfl)
theorem dX10_isDraught_23 : decode cX10_isDraught 23 = .ok (.iaload, 1) := dk_46 (dk_at dksX10_isDraught_0 23 rfl rfl)
theorem dX10_isDraught_24 : decode cX10_isDraught 24 = .ok (.if_icmp .ge 7, 3) := dk_162 0 7 (dk_at dksX10_isDraught_1 0 rfl rfl)
theorem dX10_isDraught_27 : decode cX10_isDraught 27 = .ok (.iconst 1, 1) := dk_4 (dk_at dksX10_isDraught_1 3 rfl rfl)
theorem dX10_isDraught_28 : decode cX10_isDraught 28 = .ok (.goto 4, 3) := dk_167 0 4 (dk_at dksX10_isDraught_1 4 rfl rfl)
theorem dX10_isDraught_31 : decode cX10_isDraught 31 = .ok (.iconst 0, 1) := dk_3 (dk_at dksX10_isDraught_1 7 rfl rfl)
theorem dX10_isDraught_32 : decode cX10_isDraught 32 = .ok (.ireturn, 1) := dk_172 (dk_at dksX10_isDraught_1 8 rfl rfl)
abbrev cX10_lotOf : ByteArray := prog_22_method_51_code
def yX10_lotOf : MethodName := ⟨RX10, "lotOf", "(II)I"⟩
def dkwX10_lotOf_0 : List UInt8 := [42, 180, 1, 85, 17, 0, 175, 184, 1, 95, 27, 184, 1, 95, 4, 124, 28, 112, 172]
abbrev dktX10_lotOf_0 : List UInt8 := dkwX10_lotOf_0 ++ []
theorem dksX10_lotOf_0 : cX10_lotOf.data.toList.drop 0 = dktX10_lotOf_0 := by decide +kernel
theorem dX10_lotOf_0 : decode cX10_lotOf 0 = .ok (.aload_n 0, 1) := dk_42 (dk_at dksX10_lotOf_0 0 rfl rfl)
theorem dX10_lotOf_1 : decode cX10_lotOf 1 = .ok (.getfield 341, 3) := dk_180 1 85 (dk_at dksX10_lotOf_0 1 rfl rfl)
theorem dX10_lotOf_4 : decode cX10_lotOf 4 = .ok (.sipush 175, 3) := dk_17 0 175 (dk_at dksX10_lotOf_0 4 rfl rfl)
theorem dX10_lotOf_7 : decode cX10_lotOf 7 = .ok (.invokestatic 351, 3) := dk_184 1 95 (dk_at dksX10_lotOf_0 7 rfl rfl)
theorem dX10_lotOf_10 : decode cX10_lotOf 10 = .ok (.iload_n 1, 1) := dk_27 (dk_at dksX10_lotOf_0 10 rfl rfl)
theorem dX10_lotOf_11 : decode cX10_lotOf 11 = .ok (.invokestatic 351, 3) := dk_184 1 95 (dk_at dksX10_lotOf_0 11 rfl rfl)
theorem dX10_lotOf_14 : decode cX10_lotOf 14 = .ok (.iconst 1, 1) := dk_4 (dk_at dksX10_lotOf_0 14 rfl rfl)
theorem dX10_lotOf_15 : decode cX10_lotOf 15 = .ok (.iushr, 1) := dk_124 (dk_at dksX10_lotOf_0 15 rfl rfl)
theorem dX10_lotOf_16 : decode cX10_lotOf 16 = .ok (.iload_n 2, 1) := dk_28 (dk_at dksX10_lotOf_0 16 rfl rfl)
theorem dX10_lotOf_17 : decode cX10_lotOf 17 = .ok (.irem, 1) := dk_112 (dk_at dksX10_lotOf_0 17 rfl rfl)
theorem dX10_lotOf_18 : decode cX10_lotOf 18 = .ok (.ireturn, 1) := dk_172 (dk_at dksX10_lotOf_0 18 rfl rfl)
abbrev cX10_mixed : ByteArray := prog_22_method_50_code
def yX10_mixed : MethodName := ⟨RX10, "mixed", "(II)I"⟩
def dkwX10_mixed_0 : List UInt8 := [26, 27, 130, 19, 1, 94, 104, 17, 48, 57, 96, 61, 28, 28, 16, 15, 124, 130, 172]
abbrev dktX10_mixed_0 : List UInt8 := dkwX10_mixed_0 ++ []
theorem dksX10_mixed_0 : cX10_mixed.data.toList.drop 0 = dktX10_mixed_0 := by decide +kernel
theorem dX10_mixed_0 : decode cX10_mixed 0 = .ok (.iload_n 0, 1) := dk_26 (dk_at dksX10_mixed_0 0 rfl rfl)
theorem dX10_mixed_1 : decode cX10_mixed 1 = .ok (.iload_n 1, 1) := dk_27 (dk_at dksX10_mixed_0 1 rfl rfl)
theorem dX10_mixed_2 : decode cX10_mixed 2 = .ok (.ixor, 1) := dk_130 (dk_at dksX10_mixed_0 2 rfl rfl)
theorem dX10_mixed_3 : decode cX10_mixed 3 = .ok (.ldc_w 350, 3) := dk_19 1 94 (dk_at dksX10_mixed_0 3 rfl rfl)
theorem dX10_mixed_6 : decode cX10_mixed 6 = .ok (.imul, 1) := dk_104 (dk_at dksX10_mixed_0 6 rfl rfl)
theorem dX10_mixed_7 : decode cX10_mixed 7 = .ok (.sipush 12345, 3) := dk_17 48 57 (dk_at dksX10_mixed_0 7 rfl rfl)
theorem dX10_mixed_10 : decode cX10_mixed 10 = .ok (.iadd, 1) := dk_96 (dk_at dksX10_mixed_0 10 rfl rfl)
theorem dX10_mixed_11 : decode cX10_mixed 11 = .ok (.istore_n 2, 1) := dk_61 (dk_at dksX10_mixed_0 11 rfl rfl)
theorem dX10_mixed_12 : decode cX10_mixed 12 = .ok (.iload_n 2, 1) := dk_28 (dk_at dksX10_mixed_0 12 rfl rfl)
theorem dX10_mixed_13 : decode cX10_mixed 13 = .ok (.iload_n 2, 1) := dk_28 (dk_at dksX10_mixed_0 13 rfl rfl)
theorem dX10_mixed_14 : decode cX10_mixed 14 = .ok (.bipush 15, 2) := dk_16 15 (dk_at dksX10_mixed_0 14 rfl rfl)
theorem dX10_mixed_16 : decode cX10_mixed 16 = .ok (.iushr, 1) := dk_124 (dk_at dksX10_mixed_0 16 rfl rfl)
theorem dX10_mixed_17 : decode cX10_mixed 17 = .ok (.ixor, 1) := dk_130 (dk_at dksX10_mixed_0 17 rfl rfl)
theorem dX10_mixed_18 : decode cX10_mixed 18 = .ok (.ireturn, 1) := dk_172 (dk_at dksX10_mixed_0 18 rfl rfl)
abbrev cX10_records : ByteArray := prog_22_method_74_code
def yX10_records : MethodName := ⟨RX10, "records", "()V"⟩
def dkwX10_records_4 : List UInt8 := [182, 0, 181, 177]
abbrev dktX10_records_4 : List UInt8 := dkwX10_records_4 ++ []
def dkwX10_records_3 : List UInt8 := [42, 180, 0, 125, 27, 46, 79, 132, 1, 1, 167, 255, 227, 42, 89, 180, 1, 13, 4, 96, 181, 1, 13, 42]
abbrev dktX10_records_3 : List UInt8 := dkwX10_records_3 ++ dktX10_records_4
def dkwX10_records_2 : List UInt8 := [181, 1, 13, 3, 60, 27, 16, 48, 162, 0, 29, 42, 180, 0, 140, 16, 48, 42, 180, 1, 13, 104, 27, 96]
abbrev dktX10_records_2 : List UInt8 := dkwX10_records_2 ++ dktX10_records_3
def dkwX10_records_1 : List UInt8 := [180, 0, 140, 27, 16, 48, 96, 46, 79, 132, 1, 1, 167, 255, 231, 42, 89, 180, 1, 13, 4, 100]
abbrev dktX10_records_1 : List UInt8 := dkwX10_records_1 ++ dktX10_records_2
def dkwX10_records_0 : List UInt8 := [42, 180, 1, 13, 16, 40, 160, 0, 43, 3, 60, 27, 17, 7, 80, 162, 0, 24, 42, 180, 0, 140, 27, 42]
abbrev dktX10_records_0 : List UInt8 := dkwX10_records_0 ++ dktX10_records_1
theorem dksX10_records_0 : cX10_records.data.toList.drop 0 = dktX10_records_0 := by decide +kernel
theorem dksX10_records_1 : cX10_records.data.toList.drop 24 = dktX10_records_1 := dk_seg dksX10_records_0 24 rfl rfl
theorem dksX10_records_2 : cX10_records.data.toList.drop 46 = dktX10_records_2 := dk_seg dksX10_records_1 22 rfl rfl
theorem dksX10_records_3 : cX10_records.data.toList.drop 70 = dktX10_records_3 := dk_seg dksX10_records_2 24 rfl rfl
theorem dksX10_records_4 : cX10_records.data.toList.drop 94 = dktX10_records_4 := dk_seg dksX10_records_3 24 rfl rfl
theorem dX10_records_0 : decode cX10_records 0 = .ok (.aload_n 0, 1) := dk_42 (dk_at dksX10_records_0 0 rfl rfl)
theorem dX10_records_1 : decode cX10_records 1 = .ok (.getfield 269, 3) := dk_180 1 13 (dk_at dksX10_records_0 1 rfl rfl)
theorem dX10_records_4 : decode cX10_records 4 = .ok (.bipush 40, 2) := dk_16 40 (dk_at dksX10_records_0 4 rfl rfl)
theorem dX10_records_6 : decode cX10_records 6 = .ok (.if_icmp .ne 43, 3) := dk_160 0 43 (dk_at dksX10_records_0 6 rfl rfl)
theorem dX10_records_9 : decode cX10_records 9 = .ok (.iconst 0, 1) := dk_3 (dk_at dksX10_records_0 9 rfl rfl)
theorem dX10_records_10 : decode cX10_records 10 = .ok (.istore_n 1, 1) := dk_60 (dk_at dksX10_records_0 10 rfl rfl)
theorem dX10_records_11 : decode cX10_records 11 = .ok (.iload_n 1, 1) := dk_27 (dk_at dksX10_records_0 11 rfl rfl)
theorem dX10_records_12 : decode cX10_records 12 = .ok (.sipush 1872, 3) := dk_17 7 80 (dk_at dksX10_records_0 12 rfl rfl)
theorem dX10_records_15 : decode cX10_records 15 = .ok (.if_icmp .ge 24, 3) := dk_162 0 24 (dk_at dksX10_records_0 15 rfl rfl)
theorem dX10_records_18 : decode cX10_records 18 = .ok (.aload_n 0, 1) := dk_42 (dk_at dksX10_records_0 18 rfl rfl)
theorem dX10_records_19 : decode cX10_records 19 = .ok (.getfield 140, 3) := dk_180 0 140 (dk_at dksX10_records_0 19 rfl rfl)
theorem dX10_records_22 : decode cX10_records 22 = .ok (.iload_n 1, 1) := dk_27 (dk_at dksX10_records_0 22 rfl rfl)
theorem dX10_records_23 : decode cX10_records 23 = .ok (.aload_n 0, 1) := dk_42 (dk_at dksX10_records_0 23 rfl rfl)
theorem dX10_records_24 : decode cX10_records 24 = .ok (.getfield 140, 3) := dk_180 0 140 (dk_at dksX10_records_1 0 rfl rfl)
theorem dX10_records_27 : decode cX10_records 27 = .ok (.iload_n 1, 1) := dk_27 (dk_at dksX10_records_1 3 rfl rfl)
theorem dX10_records_28 : decode cX10_records 28 = .ok (.bipush 48, 2) := dk_16 48 (dk_at dksX10_records_1 4 rfl rfl)
theorem dX10_records_30 : decode cX10_records 30 = .ok (.iadd, 1) := dk_96 (dk_at dksX10_records_1 6 rfl rfl)
theorem dX10_records_31 : decode cX10_records 31 = .ok (.iaload, 1) := dk_46 (dk_at dksX10_records_1 7 rfl rfl)
theorem dX10_records_32 : decode cX10_records 32 = .ok (.iastore, 1) := dk_79 (dk_at dksX10_records_1 8 rfl rfl)
theorem dX10_records_33 : decode cX10_records 33 = .ok (.iinc 1 1, 3) := dk_132 1 1 (dk_at dksX10_records_1 9 rfl rfl)
theorem dX10_records_36 : decode cX10_records 36 = .ok (.goto (-25), 3) := dk_167 255 231 (dk_at dksX10_records_1 12 rfl rfl)
theorem dX10_records_39 : decode cX10_records 39 = .ok (.aload_n 0, 1) := dk_42 (dk_at dksX10_records_1 15 rfl rfl)
theorem dX10_records_40 : decode cX10_records 40 = .ok (.dup, 1) := dk_89 (dk_at dksX10_records_1 16 rfl rfl)
theorem dX10_records_41 : decode cX10_records 41 = .ok (.getfield 269, 3) := dk_180 1 13 (dk_at dksX10_records_1 17 rfl rfl)
theorem dX10_records_44 : decode cX10_records 44 = .ok (.iconst 1, 1) := dk_4 (dk_at dksX10_records_1 20 rfl rfl)
theorem dX10_records_45 : decode cX10_records 45 = .ok (.isub, 1) := dk_100 (dk_at dksX10_records_1 21 rfl rfl)
theorem dX10_records_46 : decode cX10_records 46 = .ok (.putfield 269, 3) := dk_181 1 13 (dk_at dksX10_records_2 0 rfl rfl)
theorem dX10_records_49 : decode cX10_records 49 = .ok (.iconst 0, 1) := dk_3 (dk_at dksX10_records_2 3 rfl rfl)
theorem dX10_records_50 : decode cX10_records 50 = .ok (.istore_n 1, 1) := dk_60 (dk_at dksX10_records_2 4 rfl rfl)
theorem dX10_records_51 : decode cX10_records 51 = .ok (.iload_n 1, 1) := dk_27 (dk_at dksX10_records_2 5 rfl rfl)
theorem dX10_records_52 : decode cX10_records 52 = .ok (.bipush 48, 2) := dk_16 48 (dk_at dksX10_records_2 6 rfl rfl)
theorem dX10_records_54 : decode cX10_records 54 = .ok (.if_icmp .ge 29, 3) := dk_162 0 29 (dk_at dksX10_records_2 8 rfl rfl)
theorem dX10_records_57 : decode cX10_records 57 = .ok (.aload_n 0, 1) := dk_42 (dk_at dksX10_records_2 11 rfl rfl)
theorem dX10_records_58 : decode cX10_records 58 = .ok (.getfield 140, 3) := dk_180 0 140 (dk_at dksX10_records_2 12 rfl rfl)
theorem dX10_records_61 : decode cX10_records 61 = .ok (.bipush 48, 2) := dk_16 48 (dk_at dksX10_records_2 15 rfl rfl)
theorem dX10_records_63 : decode cX10_records 63 = .ok (.aload_n 0, 1) := dk_42 (dk_at dksX10_records_2 17 rfl rfl)
theorem dX10_records_64 : decode cX10_records 64 = .ok (.getfield 269, 3) := dk_180 1 13 (dk_at dksX10_records_2 18 rfl rfl)
theorem dX10_records_67 : decode cX10_records 67 = .ok (.imul, 1) := dk_104 (dk_at dksX10_records_2 21 rfl rfl)
theorem dX10_records_68 : decode cX10_records 68 = .ok (.iload_n 1, 1) := dk_27 (dk_at dksX10_records_2 22 rfl rfl)
theorem dX10_records_69 : decode cX10_records 69 = .ok (.iadd, 1) := dk_96 (dk_at dksX10_records_2 23 rfl rfl)
theorem dX10_records_70 : decode cX10_records 70 = .ok (.aload_n 0, 1) := dk_42 (dk_at dksX10_records_3 0 rfl rfl)
theorem dX10_records_71 : decode cX10_records 71 = .ok (.getfield 125, 3) := dk_180 0 125 (dk_at dksX10_records_3 1 rfl rfl)
theorem dX10_records_74 : decode cX10_records 74 = .ok (.iload_n 1, 1) := dk_27 (dk_at dksX10_records_3 4 rfl rfl)
theorem dX10_records_75 : decode cX10_records 75 = .ok (.iaload, 1) := dk_46 (dk_at dksX10_records_3 5 rfl rfl)
theorem dX10_records_76 : decode cX10_records 76 = .ok (.iastore, 1) := dk_79 (dk_at dksX10_records_3 6 rfl rfl)
theorem dX10_records_77 : decode cX10_records 77 = .ok (.iinc 1 1, 3) := dk_132 1 1 (dk_at dksX10_records_3 7 rfl rfl)
theorem dX10_records_80 : decode cX10_records 80 = .ok (.goto (-29), 3) := dk_167 255 227 (dk_at dksX10_records_3 10 rfl rfl)
theorem dX10_records_83 : decode cX10_records 83 = .ok (.aload_n 0, 1) := dk_42 (dk_at dksX10_records_3 13 rfl rfl)
theorem dX10_records_84 : decode cX10_records 84 = .ok (.dup, 1) := dk_89 (dk_at dksX10_records_3 14 rfl rfl)
theorem dX10_records_85 : decode cX10_records 85 = .ok (.getfield 269, 3) := dk_180 1 13 (dk_at dksX10_records_3 15 rfl rfl)
theorem dX10_records_88 : decode cX10_records 88 = .ok (.iconst 1, 1) := dk_4 (dk_at dksX10_records_3 18 rfl rfl)
theorem dX10_records_89 : decode cX10_records 89 = .ok (.iadd, 1) := dk_96 (dk_at dksX10_records_3 19 rfl rfl)
theorem dX10_records_90 : decode cX10_records 90 = .ok (.putfield 269, 3) := dk_181 1 13 (dk_at dksX10_records_3 20 rfl rfl)
theorem dX10_records_93 : decode cX10_records 93 = .ok (.aload_n 0, 1) := dk_42 (dk_at dksX10_records_3 23 rfl rfl)
theorem dX10_records_94 : decode cX10_records 94 = .ok (.invokevirtual 181, 3) := dk_182 0 181 (dk_at dksX10_records_4 0 rfl rfl)
theorem dX10_records_97 : decode cX10_records 97 = .ok (.return_, 1) := dk_177 (dk_at dksX10_records_4 3 rfl rfl)
abbrev cX10_say : ByteArray := prog_22_method_76_code
def yX10_say : MethodName := ⟨RX10, "say", "(II)I"⟩
def dkwX10_say_2 : List UInt8 := [182, 1, 161, 42, 180, 0, 125, 16, 6, 27, 96, 46, 172]
abbrev dktX10_say_2 : List UInt8 := dkwX10_say_2 ++ []
def dkwX10_say_1 : List UInt8 := [180, 0, 125, 16, 46, 46, 159, 0, 5, 2, 172, 42, 182, 1, 91, 42, 27, 28, 182, 1, 167, 42]
abbrev dktX10_say_1 : List UInt8 := dkwX10_say_1 ++ dktX10_say_2
def dkwX10_say_0 : List UInt8 := [42, 27, 182, 1, 164, 153, 0, 27, 42, 28, 182, 1, 155, 153, 0, 19, 42, 180, 0, 125, 27, 46, 42]
abbrev dktX10_say_0 : List UInt8 := dkwX10_say_0 ++ dktX10_say_1
theorem dksX10_say_0 : cX10_say.data.toList.drop 0 = dktX10_say_0 := by decide +kernel
theorem dksX10_say_1 : cX10_say.data.toList.drop 23 = dktX10_say_1 := dk_seg dksX10_say_0 23 rfl rfl
theorem dksX10_say_2 : cX10_say.data.toList.drop 45 = dktX10_say_2 := dk_seg dksX10_say_1 22 rfl rfl
theorem dX10_say_0 : decode cX10_say 0 = .ok (.aload_n 0, 1) := dk_42 (dk_at dksX10_say_0 0 rfl rfl)
theorem dX10_say_1 : decode cX10_say 1 = .ok (.iload_n 1, 1) := dk_27 (dk_at dksX10_say_0 1 rfl rfl)
theorem dX10_say_2 : decode cX10_say 2 = .ok (.invokevirtual 420, 3) := dk_182 1 164 (dk_at dksX10_say_0 2 rfl rfl)
theorem dX10_say_5 : decode cX10_say 5 = .ok (.ifCond .eq 27, 3) := dk_153 0 27 (dk_at dksX10_say_0 5 rfl rfl)
theorem dX10_say_8 : decode cX10_say 8 = .ok (.aload_n 0, 1) := dk_42 (dk_at dksX10_say_0 8 rfl rfl)
theorem dX10_say_9 : decode cX10_say 9 = .ok (.iload_n 2, 1) := dk_28 (dk_at dksX10_say_0 9 rfl rfl)
theorem dX10_say_10 : decode cX10_say 10 = .ok (.invokevirtual 411, 3) := dk_182 1 155 (dk_at dksX10_say_0 10 rfl rfl)
theorem dX10_say_13 : decode cX10_say 13 = .ok (.ifCond .eq 19, 3) := dk_153 0 19 (dk_at dksX10_say_0 13 rfl rfl)
theorem dX10_say_16 : decode cX10_say 16 = .ok (.aload_n 0, 1) := dk_42 (dk_at dksX10_say_0 16 rfl rfl)
theorem dX10_say_17 : decode cX10_say 17 = .ok (.getfield 125, 3) := dk_180 0 125 (dk_at dksX10_say_0 17 rfl rfl)
theorem dX10_say_20 : decode cX10_say 20 = .ok (.iload_n 1, 1) := dk_27 (dk_at dksX10_say_0 20 rfl rfl)
theorem dX10_say_21 : decode cX10_say 21 = .ok (.iaload, 1) := dk_46 (dk_at dksX10_say_0 21 rfl rfl)
theorem dX10_say_22 : decode cX10_say 22 = .ok (.aload_n 0, 1) := dk_42 (dk_at dksX10_say_0 22 rfl rfl)
theorem dX10_say_23 : decode cX10_say 23 = .ok (.getfield 125, 3) := dk_180 0 125 (dk_at dksX10_say_1 0 rfl rfl)
theorem dX10_say_26 : decode cX10_say 26 = .ok (.bipush 46, 2) := dk_16 46 (dk_at dksX10_say_1 3 rfl rfl)
theorem dX10_say_28 : decode cX10_say 28 = .ok (.iaload, 1) := dk_46 (dk_at dksX10_say_1 5 rfl rfl)
theorem dX10_say_29 : decode cX10_say 29 = .ok (.if_icmp .eq 5, 3) := dk_159 0 5 (dk_at dksX10_say_1 6 rfl rfl)
theorem dX10_say_32 : decode cX10_say 32 = .ok (.iconst (-1), 1) := dk_2 (dk_at dksX10_say_1 9 rfl rfl)
theorem dX10_say_33 : decode cX10_say 33 = .ok (.ireturn, 1) := dk_172 (dk_at dksX10_say_1 10 rfl rfl)
theorem dX10_say_34 : decode cX10_say 34 = .ok (.aload_n 0, 1) := dk_42 (dk_at dksX10_say_1 11 rfl rfl)
theorem dX10_say_35 : decode cX10_say 35 = .ok (.invokevirtual 347, 3) := dk_182 1 91 (dk_at dksX10_say_1 12 rfl rfl)
theorem dX10_say_38 : decode cX10_say 38 = .ok (.aload_n 0, 1) := dk_42 (dk_at dksX10_say_1 15 rfl rfl)
theorem dX10_say_39 : decode cX10_say 39 = .ok (.iload_n 1, 1) := dk_27 (dk_at dksX10_say_1 16 rfl rfl)
theorem dX10_say_40 : decode cX10_say 40 = .ok (.iload_n 2, 1) := dk_28 (dk_at dksX10_say_1 17 rfl rfl)
theorem dX10_say_41 : decode cX10_say 41 = .ok (.invokevirtual 423, 3) := dk_182 1 167 (dk_at dksX10_say_1 18 rfl rfl)
theorem dX10_say_44 : decode cX10_say 44 = .ok (.aload_n 0, 1) := dk_42 (dk_at dksX10_say_1 21 rfl rfl)
theorem dX10_say_45 : decode cX10_say 45 = .ok (.invokevirtual 417, 3) := dk_182 1 161 (dk_at dksX10_say_2 0 rfl rfl)
theorem dX10_say_48 : decode cX10_say 48 = .ok (.aload_n 0, 1) := dk_42 (dk_at dksX10_say_2 3 rfl rfl)
theorem dX10_say_49 : decode cX10_say 49 = .ok (.getfield 125, 3) := dk_180 0 125 (dk_at dksX10_say_2 4 rfl rfl)
theorem dX10_say_52 : decode cX10_say 52 = .ok (.bipush 6, 2) := dk_16 6 (dk_at dksX10_say_2 7 rfl rfl)
theorem dX10_say_54 : decode cX10_say 54 = .ok (.iload_n 1, 1) := dk_27 (dk_at dksX10_say_2 9 rfl rfl)
theorem dX10_say_55 : decode cX10_say 55 = .ok (.iadd, 1) := dk_96 (dk_at dksX10_say_2 10 rfl rfl)
theorem dX10_say_56 : decode cX10_say 56 = .ok (.iaload, 1) := dk_46 (dk_at dksX10_say_2 11 rfl rfl)
theorem dX10_say_57 : decode cX10_say 57 = .ok (.ireturn, 1) := dk_172 (dk_at dksX10_say_2 12 rfl rfl)
abbrev cX10_isOut : ByteArray := prog_22_method_45_code
def yX10_isOut : MethodName := ⟨RX10, "isOut", "(I)Z"⟩
def dkwX10_isOut_1 : List UInt8 := [3, 172]
abbrev dktX10_isOut_1 : List UInt8 := dkwX10_isOut_1 ++ []
def dkwX10_isOut_0 : List UInt8 := [42, 27, 182, 1, 82, 153, 0, 19, 42, 180, 0, 125, 16, 12, 27, 96, 46, 154, 0, 7, 4, 167, 0, 4]
abbrev dktX10_isOut_0 : List UInt8 := dkwX10_isOut_0 ++ dktX10_isOut_1
theorem dksX10_isOut_0 : cX10_isOut.data.toList.drop 0 = dktX10_isOut_0 := by decide +kernel
theorem dksX10_isOut_1 : cX10_isOut.data.toList.drop 24 = dktX10_isOut_1 := dk_seg dksX10_isOut_0 24 rfl rfl
theorem dX10_isOut_0 : decode cX10_isOut 0 = .ok (.aload_n 0, 1) := dk_42 (dk_at dksX10_isOut_0 0 rfl rfl)
theorem dX10_isOut_1 : decode cX10_isOut 1 = .ok (.iload_n 1, 1) := dk_27 (dk_at dksX10_isOut_0 1 rfl rfl)
theorem dX10_isOut_2 : decode cX10_isOut 2 = .ok (.invokevirtual 338, 3) := dk_182 1 82 (dk_at dksX10_isOut_0 2 rfl rfl)
theorem dX10_isOut_5 : decode cX10_isOut 5 = .ok (.ifCond .eq 19, 3) := dk_153 0 19 (dk_at dksX10_isOut_0 5 rfl rfl)
theorem dX10_isOut_8 : decode cX10_isOut 8 = .ok (.aload_n 0, 1) := dk_42 (dk_at dksX10_isOut_0 8 rfl rfl)
theorem dX10_isOut_9 : decode cX10_isOut 9 = .ok (.getfield 125, 3) := dk_180 0 125 (dk_at dksX10_isOut_0 9 rfl rfl)
theorem dX10_isOut_12 : decode cX10_isOut 12 = .ok (.bipush 12, 2) := dk_16 12 (dk_at dksX10_isOut_0 12 rfl rfl)
theorem dX10_isOut_14 : decode cX10_isOut 14 = .ok (.iload_n 1, 1) := dk_27 (dk_at dksX10_isOut_0 14 rfl rfl)
theorem dX10_isOut_15 : decode cX10_isOut 15 = .ok (.iadd, 1) := dk_96 (dk_at dksX10_isOut_0 15 rfl rfl)
theorem dX10_isOut_16 : decode cX10_isOut 16 = .ok (.iaload, 1) := dk_46 (dk_at dksX10_isOut_0 16 rfl rfl)
theorem dX10_isOut_17 : decode cX10_isOut 17 = .ok (.ifCond .ne 7, 3) := dk_154 0 7 (dk_at dksX10_isOut_0 17 rfl rfl)
theorem dX10_isOut_20 : decode cX10_isOut 20 = .ok (.iconst 1, 1) := dk_4 (dk_at dksX10_isOut_0 20 rfl rfl)
theorem dX10_isOut_21 : decode cX10_isOut 21 = .ok (.goto 4, 3) := dk_167 0 4 (dk_at dksX10_isOut_0 21 rfl rfl)
theorem dX10_isOut_24 : decode cX10_isOut 24 = .ok (.iconst 0, 1) := dk_3 (dk_at dksX10_isOut_1 0 rfl rfl)
theorem dX10_isOut_25 : decode cX10_isOut 25 = .ok (.ireturn, 1) := dk_172 (dk_at dksX10_isOut_1 1 rfl rfl)
abbrev cX10_says : ByteArray := prog_22_method_59_code
def yX10_says : MethodName := ⟨RX10, "says", "(II)V"⟩
def dkwX10_says_4 : List UInt8 := [79, 42, 180, 0, 128, 16, 24, 27, 96, 42, 180, 0, 128, 16, 47, 46, 79, 177]
abbrev dktX10_says_4 : List UInt8 := dkwX10_says_4 ++ []
def dkwX10_says_3 : List UInt8 := [180, 0, 128, 16, 41, 28, 96, 92, 46, 4, 96, 79, 42, 180, 0, 128, 16, 18, 27, 96, 92, 46, 4, 96]
abbrev dktX10_says_3 : List UInt8 := dkwX10_says_3 ++ dktX10_says_4
def dkwX10_says_2 : List UInt8 := [28, 96, 42, 180, 0, 128, 16, 36, 28, 96, 46, 21, 4, 100, 3, 16, 99, 184, 1, 111, 79, 42]
abbrev dktX10_says_2 : List UInt8 := dkwX10_says_2 ++ dktX10_says_3
def dkwX10_says_1 : List UInt8 := [180, 0, 128, 16, 6, 27, 96, 46, 29, 96, 3, 17, 3, 231, 184, 1, 111, 79, 42, 180, 0, 128, 16, 36]
abbrev dktX10_says_1 : List UInt8 := dkwX10_says_1 ++ dktX10_says_2
def dkwX10_says_0 : List UInt8 := [42, 27, 28, 182, 1, 114, 62, 42, 27, 28, 182, 1, 117, 54, 4, 42, 180, 0, 128, 16, 6, 27, 96, 42]
abbrev dktX10_says_0 : List UInt8 := dkwX10_says_0 ++ dktX10_says_1
theorem dksX10_says_0 : cX10_says.data.toList.drop 0 = dktX10_says_0 := by decide +kernel
theorem dksX10_says_1 : cX10_says.data.toList.drop 24 = dktX10_says_1 := dk_seg dksX10_says_0 24 rfl rfl
theorem dksX10_says_2 : cX10_says.data.toList.drop 48 = dktX10_says_2 := dk_seg dksX10_says_1 24 rfl rfl
theorem dksX10_says_3 : cX10_says.data.toList.drop 70 = dktX10_says_3 := dk_seg dksX10_says_2 22 rfl rfl
theorem dksX10_says_4 : cX10_says.data.toList.drop 94 = dktX10_says_4 := dk_seg dksX10_says_3 24 rfl rfl
theorem dX10_says_0 : decode cX10_says 0 = .ok (.aload_n 0, 1) := dk_42 (dk_at dksX10_says_0 0 rfl rfl)
theorem dX10_says_1 : decode cX10_says 1 = .ok (.iload_n 1, 1) := dk_27 (dk_at dksX10_says_0 1 rfl rfl)
theorem dX10_says_2 : decode cX10_says 2 = .ok (.iload_n 2, 1) := dk_28 (dk_at dksX10_says_0 2 rfl rfl)
theorem dX10_says_3 : decode cX10_says 3 = .ok (.invokevirtual 370, 3) := dk_182 1 114 (dk_at dksX10_says_0 3 rfl rfl)
theorem dX10_says_6 : decode cX10_says 6 = .ok (.istore_n 3, 1) := dk_62 (dk_at dksX10_says_0 6 rfl rfl)
theorem dX10_says_7 : decode cX10_says 7 = .ok (.aload_n 0, 1) := dk_42 (dk_at dksX10_says_0 7 rfl rfl)
theorem dX10_says_8 : decode cX10_says 8 = .ok (.iload_n 1, 1) := dk_27 (dk_at dksX10_says_0 8 rfl rfl)
theorem dX10_says_9 : decode cX10_says 9 = .ok (.iload_n 2, 1) := dk_28 (dk_at dksX10_says_0 9 rfl rfl)
theorem dX10_says_10 : decode cX10_says 10 = .ok (.invokevirtual 373, 3) := dk_182 1 117 (dk_at dksX10_says_0 10 rfl rfl)
theorem dX10_says_13 : decode cX10_says 13 = .ok (.istore 4, 2) := dk_54 4 (dk_at dksX10_says_0 13 rfl rfl)
theorem dX10_says_15 : decode cX10_says 15 = .ok (.aload_n 0, 1) := dk_42 (dk_at dksX10_says_0 15 rfl rfl)
theorem dX10_says_16 : decode cX10_says 16 = .ok (.getfield 128, 3) := dk_180 0 128 (dk_at dksX10_says_0 16 rfl rfl)
theorem dX10_says_19 : decode cX10_says 19 = .ok (.bipush 6, 2) := dk_16 6 (dk_at dksX10_says_0 19 rfl rfl)
theorem dX10_says_21 : decode cX10_says 21 = .ok (.iload_n 1, 1) := dk_27 (dk_at dksX10_says_0 21 rfl rfl)
theorem dX10_says_22 : decode cX10_says 22 = .ok (.iadd, 1) := dk_96 (dk_at dksX10_says_0 22 rfl rfl)
theorem dX10_says_23 : decode cX10_says 23 = .ok (.aload_n 0, 1) := dk_42 (dk_at dksX10_says_0 23 rfl rfl)
theorem dX10_says_24 : decode cX10_says 24 = .ok (.getfield 128, 3) := dk_180 0 128 (dk_at dksX10_says_1 0 rfl rfl)
theorem dX10_says_27 : decode cX10_says 27 = .ok (.bipush 6, 2) := dk_16 6 (dk_at dksX10_says_1 3 rfl rfl)
theorem dX10_says_29 : decode cX10_says 29 = .ok (.iload_n 1, 1) := dk_27 (dk_at dksX10_says_1 5 rfl rfl)
theorem dX10_says_30 : decode cX10_says 30 = .ok (.iadd, 1) := dk_96 (dk_at dksX10_says_1 6 rfl rfl)
theorem dX10_says_31 : decode cX10_says 31 = .ok (.iaload, 1) := dk_46 (dk_at dksX10_says_1 7 rfl rfl)
theorem dX10_says_32 : decode cX10_says 32 = .ok (.iload_n 3, 1) := dk_29 (dk_at dksX10_says_1 8 rfl rfl)
theorem dX10_says_33 : decode cX10_says 33 = .ok (.iadd, 1) := dk_96 (dk_at dksX10_says_1 9 rfl rfl)
theorem dX10_says_34 : decode cX10_says 34 = .ok (.iconst 0, 1) := dk_3 (dk_at dksX10_says_1 10 rfl rfl)
theorem dX10_says_35 : decode cX10_says 35 = .ok (.sipush 999, 3) := dk_17 3 231 (dk_at dksX10_says_1 11 rfl rfl)
theorem dX10_says_38 : decode cX10_says 38 = .ok (.invokestatic 367, 3) := dk_184 1 111 (dk_at dksX10_says_1 14 rfl rfl)
theorem dX10_says_41 : decode cX10_says 41 = .ok (.iastore, 1) := dk_79 (dk_at dksX10_says_1 17 rfl rfl)
theorem dX10_says_42 : decode cX10_says 42 = .ok (.aload_n 0, 1) := dk_42 (dk_at dksX10_says_1 18 rfl rfl)
theorem dX10_says_43 : decode cX10_says 43 = .ok (.getfield 128, 3) := dk_180 0 128 (dk_at dksX10_says_1 19 rfl rfl)
theorem dX10_says_46 : decode cX10_says 46 = .ok (.bipush 36, 2) := dk_16 36 (dk_at dksX10_says_1 22 rfl rfl)
theorem dX10_says_48 : decode cX10_says 48 = .ok (.iload_n 2, 1) := dk_28 (dk_at dksX10_says_2 0 rfl rfl)
theorem dX10_says_49 : decode cX10_says 49 = .ok (.iadd, 1) := dk_96 (dk_at dksX10_says_2 1 rfl rfl)
theorem dX10_says_50 : decode cX10_says 50 = .ok (.aload_n 0, 1) := dk_42 (dk_at dksX10_says_2 2 rfl rfl)
theorem dX10_says_51 : decode cX10_says 51 = .ok (.getfield 128, 3) := dk_180 0 128 (dk_at dksX10_says_2 3 rfl rfl)
theorem dX10_says_54 : decode cX10_says 54 = .ok (.bipush 36, 2) := dk_16 36 (dk_at dksX10_says_2 6 rfl rfl)
theorem dX10_says_56 : decode cX10_says 56 = .ok (.iload_n 2, 1) := dk_28 (dk_at dksX10_says_2 8 rfl rfl)
theorem dX10_says_57 : decode cX10_says 57 = .ok (.iadd, 1) := dk_96 (dk_at dksX10_says_2 9 rfl rfl)
theorem dX10_says_58 : decode cX10_says 58 = .ok (.iaload, 1) := dk_46 (dk_at dksX10_says_2 10 rfl rfl)
theorem dX10_says_59 : decode cX10_says 59 = .ok (.iload 4, 2) := dk_21 4 (dk_at dksX10_says_2 11 rfl rfl)
theorem dX10_says_61 : decode cX10_says 61 = .ok (.isub, 1) := dk_100 (dk_at dksX10_says_2 13 rfl rfl)
theorem dX10_says_62 : decode cX10_says 62 = .ok (.iconst 0, 1) := dk_3 (dk_at dksX10_says_2 14 rfl rfl)
theorem dX10_says_63 : decode cX10_says 63 = .ok (.bipush 99, 2) := dk_16 99 (dk_at dksX10_says_2 15 rfl rfl)
theorem dX10_says_65 : decode cX10_says 65 = .ok (.invokestatic 367, 3) := dk_184 1 111 (dk_at dksX10_says_2 17 rfl rfl)
theorem dX10_says_68 : decode cX10_says 68 = .ok (.iastore, 1) := dk_79 (dk_at dksX10_says_2 20 rfl rfl)
theorem dX10_says_69 : decode cX10_says 69 = .ok (.aload_n 0, 1) := dk_42 (dk_at dksX10_says_2 21 rfl rfl)
theorem dX10_says_70 : decode cX10_says 70 = .ok (.getfield 128, 3) := dk_180 0 128 (dk_at dksX10_says_3 0 rfl rfl)
theorem dX10_says_73 : decode cX10_says 73 = .ok (.bipush 41, 2) := dk_16 41 (dk_at dksX10_says_3 3 rfl rfl)
theorem dX10_says_75 : decode cX10_says 75 = .ok (.iload_n 2, 1) := dk_28 (dk_at dksX10_says_3 5 rfl rfl)
theorem dX10_says_76 : decode cX10_says 76 = .ok (.iadd, 1) := dk_96 (dk_at dksX10_says_3 6 rfl rfl)
theorem dX10_says_77 : decode cX10_says 77 = .ok (.dup2, 1) := dk_92 (dk_at dksX10_says_3 7 rfl rfl)
theorem dX10_says_78 : decode cX10_says 78 = .ok (.iaload, 1) := dk_46 (dk_at dksX10_says_3 8 rfl rfl)
theorem dX10_says_79 : decode cX10_says 79 = .ok (.iconst 1, 1) := dk_4 (dk_at dksX10_says_3 9 rfl rfl)
theorem dX10_says_80 : decode cX10_says 80 = .ok (.iadd, 1) := dk_96 (dk_at dksX10_says_3 10 rfl rfl)
theorem dX10_says_81 : decode cX10_says 81 = .ok (.iastore, 1) := dk_79 (dk_at dksX10_says_3 11 rfl rfl)
theorem dX10_says_82 : decode cX10_says 82 = .ok (.aload_n 0, 1) := dk_42 (dk_at dksX10_says_3 12 rfl rfl)
theorem dX10_says_83 : decode cX10_says 83 = .ok (.getfield 128, 3) := dk_180 0 128 (dk_at dksX10_says_3 13 rfl rfl)
theorem dX10_says_86 : decode cX10_says 86 = .ok (.bipush 18, 2) := dk_16 18 (dk_at dksX10_says_3 16 rfl rfl)
theorem dX10_says_88 : decode cX10_says 88 = .ok (.iload_n 1, 1) := dk_27 (dk_at dksX10_says_3 18 rfl rfl)
theorem dX10_says_89 : decode cX10_says 89 = .ok (.iadd, 1) := dk_96 (dk_at dksX10_says_3 19 rfl rfl)
theorem dX10_says_90 : decode cX10_says 90 = .ok (.dup2, 1) := dk_92 (dk_at dksX10_says_3 20 rfl rfl)
theorem dX10_says_91 : decode cX10_says 91 = .ok (.iaload, 1) := dk_46 (dk_at dksX10_says_3 21 rfl rfl)
theorem dX10_says_92 : decode cX10_says 92 = .ok (.iconst 1, 1) := dk_4 (dk_at dksX10_says_3 22 rfl rfl)
theorem dX10_says_93 : decode cX10_says 93 = .ok (.iadd, 1) := dk_96 (dk_at dksX10_says_3 23 rfl rfl)
theorem dX10_says_94 : decode cX10_says 94 = .ok (.iastore, 1) := dk_79 (dk_at dksX10_says_4 0 rfl rfl)
theorem dX10_says_95 : decode cX10_says 95 = .ok (.aload_n 0, 1) := dk_42 (dk_at dksX10_says_4 1 rfl rfl)
theorem dX10_says_96 : decode cX10_says 96 = .ok (.getfield 128, 3) := dk_180 0 128 (dk_at dksX10_says_4 2 rfl rfl)
theorem dX10_says_99 : decode cX10_says 99 = .ok (.bipush 24, 2) := dk_16 24 (dk_at dksX10_says_4 5 rfl rfl)
theorem dX10_says_101 : decode cX10_says 101 = .ok (.iload_n 1, 1) := dk_27 (dk_at dksX10_says_4 7 rfl rfl)
theorem dX10_says_102 : decode cX10_says 102 = .ok (.iadd, 1) := dk_96 (dk_at dksX10_says_4 8 rfl rfl)
theorem dX10_says_103 : decode cX10_says 103 = .ok (.aload_n 0, 1) := dk_42 (dk_at dksX10_says_4 9 rfl rfl)
theorem dX10_says_104 : decode cX10_says 104 = .ok (.getfield 128, 3) := dk_180 0 128 (dk_at dksX10_says_4 10 rfl rfl)
theorem dX10_says_107 : decode cX10_says 107 = .ok (.bipush 47, 2) := dk_16 47 (dk_at dksX10_says_4 13 rfl rfl)
theorem dX10_says_109 : decode cX10_says 109 = .ok (.iaload, 1) := dk_46 (dk_at dksX10_says_4 15 rfl rfl)
theorem dX10_says_110 : decode cX10_says 110 = .ok (.iastore, 1) := dk_79 (dk_at dksX10_says_4 16 rfl rfl)
theorem dX10_says_111 : decode cX10_says 111 = .ok (.return_, 1) := dk_177 (dk_at dksX10_says_4 17 rfl rfl)
abbrev cX10_move : ByteArray := prog_22_method_77_code
def yX10_move : MethodName := ⟨RX10, "move", "(II)Z"⟩
def dkwX10_move_1 : List UInt8 := [160, 0, 5, 3, 172, 42, 182, 1, 91, 42, 180, 0, 128, 27, 28, 79, 42, 182, 1, 161, 4, 172]
abbrev dktX10_move_1 : List UInt8 := dkwX10_move_1 ++ []
def dkwX10_move_0 : List UInt8 := [42, 27, 182, 1, 164, 153, 0, 21, 42, 28, 182, 1, 136, 153, 0, 13, 42, 180, 0, 125, 27, 46, 28]
abbrev dktX10_move_0 : List UInt8 := dkwX10_move_0 ++ dktX10_move_1
theorem dksX10_move_0 : cX10_move.data.toList.drop 0 = dktX10_move_0 := by decide +kernel
theorem dksX10_move_1 : cX10_move.data.toList.drop 23 = dktX10_move_1 := dk_seg dksX10_move_0 23 rfl rfl
theorem dX10_move_0 : decode cX10_move 0 = .ok (.aload_n 0, 1) := dk_42 (dk_at dksX10_move_0 0 rfl rfl)
theorem dX10_move_1 : decode cX10_move 1 = .ok (.iload_n 1, 1) := dk_27 (dk_at dksX10_move_0 1 rfl rfl)
theorem dX10_move_2 : decode cX10_move 2 = .ok (.invokevirtual 420, 3) := dk_182 1 164 (dk_at dksX10_move_0 2 rfl rfl)
theorem dX10_move_5 : decode cX10_move 5 = .ok (.ifCond .eq 21, 3) := dk_153 0 21 (dk_at dksX10_move_0 5 rfl rfl)
theorem dX10_move_8 : decode cX10_move 8 = .ok (.aload_n 0, 1) := dk_42 (dk_at dksX10_move_0 8 rfl rfl)
theorem dX10_move_9 : decode cX10_move 9 = .ok (.iload_n 2, 1) := dk_28 (dk_at dksX10_move_0 9 rfl rfl)
theorem dX10_move_10 : decode cX10_move 10 = .ok (.invokevirtual 392, 3) := dk_182 1 136 (dk_at dksX10_move_0 10 rfl rfl)
theorem dX10_move_13 : decode cX10_move 13 = .ok (.ifCond .eq 13, 3) := dk_153 0 13 (dk_at dksX10_move_0 13 rfl rfl)
theorem dX10_move_16 : decode cX10_move 16 = .ok (.aload_n 0, 1) := dk_42 (dk_at dksX10_move_0 16 rfl rfl)
theorem dX10_move_17 : decode cX10_move 17 = .ok (.getfield 125, 3) := dk_180 0 125 (dk_at dksX10_move_0 17 rfl rfl)
theorem dX10_move_20 : decode cX10_move 20 = .ok (.iload_n 1, 1) := dk_27 (dk_at dksX10_move_0 20 rfl rfl)
theorem dX10_move_21 : decode cX10_move 21 = .ok (.iaload, 1) := dk_46 (dk_at dksX10_move_0 21 rfl rfl)
theorem dX10_move_22 : decode cX10_move 22 = .ok (.iload_n 2, 1) := dk_28 (dk_at dksX10_move_0 22 rfl rfl)
theorem dX10_move_23 : decode cX10_move 23 = .ok (.if_icmp .ne 5, 3) := dk_160 0 5 (dk_at dksX10_move_1 0 rfl rfl)
theorem dX10_move_26 : decode cX10_move 26 = .ok (.iconst 0, 1) := dk_3 (dk_at dksX10_move_1 3 rfl rfl)
theorem dX10_move_27 : decode cX10_move 27 = .ok (.ireturn, 1) := dk_172 (dk_at dksX10_move_1 4 rfl rfl)
theorem dX10_move_28 : decode cX10_move 28 = .ok (.aload_n 0, 1) := dk_42 (dk_at dksX10_move_1 5 rfl rfl)
theorem dX10_move_29 : decode cX10_move 29 = .ok (.invokevirtual 347, 3) := dk_182 1 91 (dk_at dksX10_move_1 6 rfl rfl)
theorem dX10_move_32 : decode cX10_move 32 = .ok (.aload_n 0, 1) := dk_42 (dk_at dksX10_move_1 9 rfl rfl)
theorem dX10_move_33 : decode cX10_move 33 = .ok (.getfield 128, 3) := dk_180 0 128 (dk_at dksX10_move_1 10 rfl rfl)
theorem dX10_move_36 : decode cX10_move 36 = .ok (.iload_n 1, 1) := dk_27 (dk_at dksX10_move_1 13 rfl rfl)
theorem dX10_move_37 : decode cX10_move 37 = .ok (.iload_n 2, 1) := dk_28 (dk_at dksX10_move_1 14 rfl rfl)
theorem dX10_move_38 : decode cX10_move 38 = .ok (.iastore, 1) := dk_79 (dk_at dksX10_move_1 15 rfl rfl)
theorem dX10_move_39 : decode cX10_move 39 = .ok (.aload_n 0, 1) := dk_42 (dk_at dksX10_move_1 16 rfl rfl)
theorem dX10_move_40 : decode cX10_move 40 = .ok (.invokevirtual 417, 3) := dk_182 1 161 (dk_at dksX10_move_1 17 rfl rfl)
theorem dX10_move_43 : decode cX10_move 43 = .ok (.iconst 1, 1) := dk_4 (dk_at dksX10_move_1 20 rfl rfl)
theorem dX10_move_44 : decode cX10_move 44 = .ok (.ireturn, 1) := dk_172 (dk_at dksX10_move_1 21 rfl rfl)
abbrev cX10_rouge : ByteArray := prog_22_method_78_code
def yX10_rouge : MethodName := ⟨RX10, "rouge", "(I)Z"⟩
def dkwX10_rouge_2 : List UInt8 := [16, 30, 27, 96, 4, 79, 42, 182, 1, 161, 4, 172]
abbrev dktX10_rouge_2 : List UInt8 := dkwX10_rouge_2 ++ []
def dkwX10_rouge_1 : List UInt8 := [180, 0, 128, 16, 6, 27, 96, 46, 16, 20, 96, 3, 17, 3, 231, 184, 1, 111, 79, 42, 180, 0, 128]
abbrev dktX10_rouge_1 : List UInt8 := dkwX10_rouge_1 ++ dktX10_rouge_2
def dkwX10_rouge_0 : List UInt8 := [42, 27, 182, 1, 164, 154, 0, 5, 3, 172, 42, 182, 1, 91, 42, 180, 0, 128, 16, 6, 27, 96, 42]
abbrev dktX10_rouge_0 : List UInt8 := dkwX10_rouge_0 ++ dktX10_rouge_1
theorem dksX10_rouge_0 : cX10_rouge.data.toList.drop 0 = dktX10_rouge_0 := by decide +kernel
theorem dksX10_rouge_1 : cX10_rouge.data.toList.drop 23 = dktX10_rouge_1 := dk_seg dksX10_rouge_0 23 rfl rfl
theorem dksX10_rouge_2 : cX10_rouge.data.toList.drop 46 = dktX10_rouge_2 := dk_seg dksX10_rouge_1 23 rfl rfl
theorem dX10_rouge_0 : decode cX10_rouge 0 = .ok (.aload_n 0, 1) := dk_42 (dk_at dksX10_rouge_0 0 rfl rfl)
theorem dX10_rouge_1 : decode cX10_rouge 1 = .ok (.iload_n 1, 1) := dk_27 (dk_at dksX10_rouge_0 1 rfl rfl)
theorem dX10_rouge_2 : decode cX10_rouge 2 = .ok (.invokevirtual 420, 3) := dk_182 1 164 (dk_at dksX10_rouge_0 2 rfl rfl)
theorem dX10_rouge_5 : decode cX10_rouge 5 = .ok (.ifCond .ne 5, 3) := dk_154 0 5 (dk_at dksX10_rouge_0 5 rfl rfl)
theorem dX10_rouge_8 : decode cX10_rouge 8 = .ok (.iconst 0, 1) := dk_3 (dk_at dksX10_rouge_0 8 rfl rfl)
theorem dX10_rouge_9 : decode cX10_rouge 9 = .ok (.ireturn, 1) := dk_172 (dk_at dksX10_rouge_0 9 rfl rfl)
theorem dX10_rouge_10 : decode cX10_rouge 10 = .ok (.aload_n 0, 1) := dk_42 (dk_at dksX10_rouge_0 10 rfl rfl)
theorem dX10_rouge_11 : decode cX10_rouge 11 = .ok (.invokevirtual 347, 3) := dk_182 1 91 (dk_at dksX10_rouge_0 11 rfl rfl)
theorem dX10_rouge_14 : decode cX10_rouge 14 = .ok (.aload_n 0, 1) := dk_42 (dk_at dksX10_rouge_0 14 rfl rfl)
theorem dX10_rouge_15 : decode cX10_rouge 15 = .ok (.getfield 128, 3) := dk_180 0 128 (dk_at dksX10_rouge_0 15 rfl rfl)
theorem dX10_rouge_18 : decode cX10_rouge 18 = .ok (.bipush 6, 2) := dk_16 6 (dk_at dksX10_rouge_0 18 rfl rfl)
theorem dX10_rouge_20 : decode cX10_rouge 20 = .ok (.iload_n 1, 1) := dk_27 (dk_at dksX10_rouge_0 20 rfl rfl)
theorem dX10_rouge_21 : decode cX10_rouge 21 = .ok (.iadd, 1) := dk_96 (dk_at dksX10_rouge_0 21 rfl rfl)
theorem dX10_rouge_22 : decode cX10_rouge 22 = .ok (.aload_n 0, 1) := dk_42 (dk_at dksX10_rouge_0 22 rfl rfl)
theorem dX10_rouge_23 : decode cX10_rouge 23 = .ok (.getfield 128, 3) := dk_180 0 128 (dk_at dksX10_rouge_1 0 rfl rfl)
theorem dX10_rouge_26 : decode cX10_rouge 26 = .ok (.bipush 6, 2) := dk_16 6 (dk_at dksX10_rouge_1 3 rfl rfl)
theorem dX10_rouge_28 : decode cX10_rouge 28 = .ok (.iload_n 1, 1) := dk_27 (dk_at dksX10_rouge_1 5 rfl rfl)
theorem dX10_rouge_29 : decode cX10_rouge 29 = .ok (.iadd, 1) := dk_96 (dk_at dksX10_rouge_1 6 rfl rfl)
theorem dX10_rouge_30 : decode cX10_rouge 30 = .ok (.iaload, 1) := dk_46 (dk_at dksX10_rouge_1 7 rfl rfl)
theorem dX10_rouge_31 : decode cX10_rouge 31 = .ok (.bipush 20, 2) := dk_16 20 (dk_at dksX10_rouge_1 8 rfl rfl)
theorem dX10_rouge_33 : decode cX10_rouge 33 = .ok (.iadd, 1) := dk_96 (dk_at dksX10_rouge_1 10 rfl rfl)
theorem dX10_rouge_34 : decode cX10_rouge 34 = .ok (.iconst 0, 1) := dk_3 (dk_at dksX10_rouge_1 11 rfl rfl)
theorem dX10_rouge_35 : decode cX10_rouge 35 = .ok (.sipush 999, 3) := dk_17 3 231 (dk_at dksX10_rouge_1 12 rfl rfl)
theorem dX10_rouge_38 : decode cX10_rouge 38 = .ok (.invokestatic 367, 3) := dk_184 1 111 (dk_at dksX10_rouge_1 15 rfl rfl)
theorem dX10_rouge_41 : decode cX10_rouge 41 = .ok (.iastore, 1) := dk_79 (dk_at dksX10_rouge_1 18 rfl rfl)
theorem dX10_rouge_42 : decode cX10_rouge 42 = .ok (.aload_n 0, 1) := dk_42 (dk_at dksX10_rouge_1 19 rfl rfl)
theorem dX10_rouge_43 : decode cX10_rouge 43 = .ok (.getfield 128, 3) := dk_180 0 128 (dk_at dksX10_rouge_1 20 rfl rfl)
theorem dX10_rouge_46 : decode cX10_rouge 46 = .ok (.bipush 30, 2) := dk_16 30 (dk_at dksX10_rouge_2 0 rfl rfl)
theorem dX10_rouge_48 : decode cX10_rouge 48 = .ok (.iload_n 1, 1) := dk_27 (dk_at dksX10_rouge_2 2 rfl rfl)
theorem dX10_rouge_49 : decode cX10_rouge 49 = .ok (.iadd, 1) := dk_96 (dk_at dksX10_rouge_2 3 rfl rfl)
theorem dX10_rouge_50 : decode cX10_rouge 50 = .ok (.iconst 1, 1) := dk_4 (dk_at dksX10_rouge_2 4 rfl rfl)
theorem dX10_rouge_51 : decode cX10_rouge 51 = .ok (.iastore, 1) := dk_79 (dk_at dksX10_rouge_2 5 rfl rfl)
theorem dX10_rouge_52 : decode cX10_rouge 52 = .ok (.aload_n 0, 1) := dk_42 (dk_at dksX10_rouge_2 6 rfl rfl)
theorem dX10_rouge_53 : decode cX10_rouge 53 = .ok (.invokevirtual 417, 3) := dk_182 1 161 (dk_at dksX10_rouge_2 7 rfl rfl)
theorem dX10_rouge_56 : decode cX10_rouge 56 = .ok (.iconst 1, 1) := dk_4 (dk_at dksX10_rouge_2 10 rfl rfl)
theorem dX10_rouge_57 : decode cX10_rouge 57 = .ok (.ireturn, 1) := dk_172 (dk_at dksX10_rouge_2 11 rfl rfl)
abbrev cX10_hours : ByteArray := prog_22_method_79_code
def yX10_hours : MethodName := ⟨RX10, "hours", "(I)I"⟩
def dkwX10_hours_1 : List UInt8 := [42, 182, 1, 91, 42, 27, 182, 1, 170, 42, 182, 1, 161, 42, 180, 0, 125, 16, 47, 46, 172]
abbrev dktX10_hours_1 : List UInt8 := dkwX10_hours_1 ++ []
def dkwX10_hours_0 : List UInt8 := [27, 3, 16, 72, 184, 1, 78, 154, 0, 5, 2, 172, 27, 154, 0, 11, 42, 180, 0, 125, 16, 47, 46, 172]
abbrev dktX10_hours_0 : List UInt8 := dkwX10_hours_0 ++ dktX10_hours_1
theorem dksX10_hours_0 : cX10_hours.data.toList.drop 0 = dktX10_hours_0 := by decide +kernel
theorem dksX10_hours_1 : cX10_hours.data.toList.drop 24 = dktX10_hours_1 := dk_seg dksX10_hours_0 24 rfl rfl
theorem dX10_hours_0 : decode cX10_hours 0 = .ok (.iload_n 1, 1) := dk_27 (dk_at dksX10_hours_0 0 rfl rfl)
theorem dX10_hours_1 : decode cX10_hours 1 = .ok (.iconst 0, 1) := dk_3 (dk_at dksX10_hours_0 1 rfl rfl)
theorem dX10_hours_2 : decode cX10_hours 2 = .ok (.bipush 72, 2) := dk_16 72 (dk_at dksX10_hours_0 2 rfl rfl)
theorem dX10_hours_4 : decode cX10_hours 4 = .ok (.invokestatic 334, 3) := dk_184 1 78 (dk_at dksX10_hours_0 4 rfl rfl)
theorem dX10_hours_7 : decode cX10_hours 7 = .ok (.ifCond .ne 5, 3) := dk_154 0 5 (dk_at dksX10_hours_0 7 rfl rfl)
theorem dX10_hours_10 : decode cX10_hours 10 = .ok (.iconst (-1), 1) := dk_2 (dk_at dksX10_hours_0 10 rfl rfl)
theorem dX10_hours_11 : decode cX10_hours 11 = .ok (.ireturn, 1) := dk_172 (dk_at dksX10_hours_0 11 rfl rfl)
theorem dX10_hours_12 : decode cX10_hours 12 = .ok (.iload_n 1, 1) := dk_27 (dk_at dksX10_hours_0 12 rfl rfl)
theorem dX10_hours_13 : decode cX10_hours 13 = .ok (.ifCond .ne 11, 3) := dk_154 0 11 (dk_at dksX10_hours_0 13 rfl rfl)
theorem dX10_hours_16 : decode cX10_hours 16 = .ok (.aload_n 0, 1) := dk_42 (dk_at dksX10_hours_0 16 rfl rfl)
theorem dX10_hours_17 : decode cX10_hours 17 = .ok (.getfield 125, 3) := dk_180 0 125 (dk_at dksX10_hours_0 17 rfl rfl)
theorem dX10_hours_20 : decode cX10_hours 20 = .ok (.bipush 47, 2) := dk_16 47 (dk_at dksX10_hours_0 20 rfl rfl)
theorem dX10_hours_22 : decode cX10_hours 22 = .ok (.iaload, 1) := dk_46 (dk_at dksX10_hours_0 22 rfl rfl)
theorem dX10_hours_23 : decode cX10_hours 23 = .ok (.ireturn, 1) := dk_172 (dk_at dksX10_hours_0 23 rfl rfl)
theorem dX10_hours_24 : decode cX10_hours 24 = .ok (.aload_n 0, 1) := dk_42 (dk_at dksX10_hours_1 0 rfl rfl)
theorem dX10_hours_25 : decode cX10_hours 25 = .ok (.invokevirtual 347, 3) := dk_182 1 91 (dk_at dksX10_hours_1 1 rfl rfl)
theorem dX10_hours_28 : decode cX10_hours 28 = .ok (.aload_n 0, 1) := dk_42 (dk_at dksX10_hours_1 4 rfl rfl)
theorem dX10_hours_29 : decode cX10_hours 29 = .ok (.iload_n 1, 1) := dk_27 (dk_at dksX10_hours_1 5 rfl rfl)
theorem dX10_hours_30 : decode cX10_hours 30 = .ok (.invokevirtual 426, 3) := dk_182 1 170 (dk_at dksX10_hours_1 6 rfl rfl)
theorem dX10_hours_33 : decode cX10_hours 33 = .ok (.aload_n 0, 1) := dk_42 (dk_at dksX10_hours_1 9 rfl rfl)
theorem dX10_hours_34 : decode cX10_hours 34 = .ok (.invokevirtual 417, 3) := dk_182 1 161 (dk_at dksX10_hours_1 10 rfl rfl)
theorem dX10_hours_37 : decode cX10_hours 37 = .ok (.aload_n 0, 1) := dk_42 (dk_at dksX10_hours_1 13 rfl rfl)
theorem dX10_hours_38 : decode cX10_hours 38 = .ok (.getfield 125, 3) := dk_180 0 125 (dk_at dksX10_hours_1 14 rfl rfl)
theorem dX10_hours_41 : decode cX10_hours 41 = .ok (.bipush 47, 2) := dk_16 47 (dk_at dksX10_hours_1 17 rfl rfl)
theorem dX10_hours_43 : decode cX10_hours 43 = .ok (.iaload, 1) := dk_46 (dk_at dksX10_hours_1 19 rfl rfl)
theorem dX10_hours_44 : decode cX10_hours 44 = .ok (.ireturn, 1) := dk_172 (dk_at dksX10_hours_1 20 rfl rfl)
abbrev cX10_goes : ByteArray := prog_22_method_61_code
def yX10_goes : MethodName := ⟨RX10, "goes", "(I)V"⟩
def dkwX10_goes_0 : List UInt8 := [3, 61, 28, 27, 162, 0, 13, 42, 182, 1, 130, 132, 2, 1, 167, 255, 244, 177]
abbrev dktX10_goes_0 : List UInt8 := dkwX10_goes_0 ++ []
theorem dksX10_goes_0 : cX10_goes.data.toList.drop 0 = dktX10_goes_0 := by decide +kernel
theorem dX10_goes_0 : decode cX10_goes 0 = .ok (.iconst 0, 1) := dk_3 (dk_at dksX10_goes_0 0 rfl rfl)
theorem dX10_goes_1 : decode cX10_goes 1 = .ok (.istore_n 2, 1) := dk_61 (dk_at dksX10_goes_0 1 rfl rfl)
theorem dX10_goes_2 : decode cX10_goes 2 = .ok (.iload_n 2, 1) := dk_28 (dk_at dksX10_goes_0 2 rfl rfl)
theorem dX10_goes_3 : decode cX10_goes 3 = .ok (.iload_n 1, 1) := dk_27 (dk_at dksX10_goes_0 3 rfl rfl)
theorem dX10_goes_4 : decode cX10_goes 4 = .ok (.if_icmp .ge 13, 3) := dk_162 0 13 (dk_at dksX10_goes_0 4 rfl rfl)
theorem dX10_goes_7 : decode cX10_goes 7 = .ok (.aload_n 0, 1) := dk_42 (dk_at dksX10_goes_0 7 rfl rfl)
theorem dX10_goes_8 : decode cX10_goes 8 = .ok (.invokevirtual 386, 3) := dk_182 1 130 (dk_at dksX10_goes_0 8 rfl rfl)
theorem dX10_goes_11 : decode cX10_goes 11 = .ok (.iinc 2 1, 3) := dk_132 2 1 (dk_at dksX10_goes_0 11 rfl rfl)
theorem dX10_goes_14 : decode cX10_goes 14 = .ok (.goto (-12), 3) := dk_167 255 244 (dk_at dksX10_goes_0 14 rfl rfl)
theorem dX10_goes_17 : decode cX10_goes 17 = .ok (.return_, 1) := dk_177 (dk_at dksX10_goes_0 17 rfl rfl)
abbrev cX10_undo : ByteArray := prog_22_method_80_code
def yX10_undo : MethodName := ⟨RX10, "undo", "()Z"⟩
def dkwX10_undo_2 : List UInt8 := [132, 1, 1, 167, 255, 227, 4, 172]
abbrev dktX10_undo_2 : List UInt8 := dkwX10_undo_2 ++ []
def dkwX10_undo_1 : List UInt8 := [162, 0, 29, 42, 180, 0, 125, 27, 42, 180, 0, 140, 16, 48, 42, 180, 1, 13, 104, 27, 96, 46, 79]
abbrev dktX10_undo_1 : List UInt8 := dkwX10_undo_1 ++ dktX10_undo_2
def dkwX10_undo_0 : List UInt8 := [42, 180, 1, 13, 154, 0, 5, 3, 172, 42, 89, 180, 1, 13, 4, 100, 181, 1, 13, 3, 60, 27, 16, 48]
abbrev dktX10_undo_0 : List UInt8 := dkwX10_undo_0 ++ dktX10_undo_1
theorem dksX10_undo_0 : cX10_undo.data.toList.drop 0 = dktX10_undo_0 := by decide +kernel
theorem dksX10_undo_1 : cX10_undo.data.toList.drop 24 = dktX10_undo_1 := dk_seg dksX10_undo_0 24 rfl rfl
theorem dksX10_undo_2 : cX10_undo.data.toList.drop 47 = dktX10_undo_2 := dk_seg dksX10_undo_1 23 rfl rfl
theorem dX10_undo_0 : decode cX10_undo 0 = .ok (.aload_n 0, 1) := dk_42 (dk_at dksX10_undo_0 0 rfl rfl)
theorem dX10_undo_1 : decode cX10_undo 1 = .ok (.getfield 269, 3) := dk_180 1 13 (dk_at dksX10_undo_0 1 rfl rfl)
theorem dX10_undo_4 : decode cX10_undo 4 = .ok (.ifCond .ne 5, 3) := dk_154 0 5 (dk_at dksX10_undo_0 4 rfl rfl)
theorem dX10_undo_7 : decode cX10_undo 7 = .ok (.iconst 0, 1) := dk_3 (dk_at dksX10_undo_0 7 rfl rfl)
theorem dX10_undo_8 : decode cX10_undo 8 = .ok (.ireturn, 1) := dk_172 (dk_at dksX10_undo_0 8 rfl rfl)
theorem dX10_undo_9 : decode cX10_undo 9 = .ok (.aload_n 0, 1) := dk_42 (dk_at dksX10_undo_0 9 rfl rfl)
theorem dX10_undo_10 : decode cX10_undo 10 = .ok (.dup, 1) := dk_89 (dk_at dksX10_undo_0 10 rfl rfl)
theorem dX10_undo_11 : decode cX10_undo 11 = .ok (.getfield 269, 3) := dk_180 1 13 (dk_at dksX10_undo_0 11 rfl rfl)
theorem dX10_undo_14 : decode cX10_undo 14 = .ok (.iconst 1, 1) := dk_4 (dk_at dksX10_undo_0 14 rfl rfl)
theorem dX10_undo_15 : decode cX10_undo 15 = .ok (.isub, 1) := dk_100 (dk_at dksX10_undo_0 15 rfl rfl)
theorem dX10_undo_16 : decode cX10_undo 16 = .ok (.putfield 269, 3) := dk_181 1 13 (dk_at dksX10_undo_0 16 rfl rfl)
theorem dX10_undo_19 : decode cX10_undo 19 = .ok (.iconst 0, 1) := dk_3 (dk_at dksX10_undo_0 19 rfl rfl)
theorem dX10_undo_20 : decode cX10_undo 20 = .ok (.istore_n 1, 1) := dk_60 (dk_at dksX10_undo_0 20 rfl rfl)
theorem dX10_undo_21 : decode cX10_undo 21 = .ok (.iload_n 1, 1) := dk_27 (dk_at dksX10_undo_0 21 rfl rfl)
theorem dX10_undo_22 : decode cX10_undo 22 = .ok (.bipush 48, 2) := dk_16 48 (dk_at dksX10_undo_0 22 rfl rfl)
theorem dX10_undo_24 : decode cX10_undo 24 = .ok (.if_icmp .ge 29, 3) := dk_162 0 29 (dk_at dksX10_undo_1 0 rfl rfl)
theorem dX10_undo_27 : decode cX10_undo 27 = .ok (.aload_n 0, 1) := dk_42 (dk_at dksX10_undo_1 3 rfl rfl)
theorem dX10_undo_28 : decode cX10_undo 28 = .ok (.getfield 125, 3) := dk_180 0 125 (dk_at dksX10_undo_1 4 rfl rfl)
theorem dX10_undo_31 : decode cX10_undo 31 = .ok (.iload_n 1, 1) := dk_27 (dk_at dksX10_undo_1 7 rfl rfl)
theorem dX10_undo_32 : decode cX10_undo 32 = .ok (.aload_n 0, 1) := dk_42 (dk_at dksX10_undo_1 8 rfl rfl)
theorem dX10_undo_33 : decode cX10_undo 33 = .ok (.getfield 140, 3) := dk_180 0 140 (dk_at dksX10_undo_1 9 rfl rfl)
theorem dX10_undo_36 : decode cX10_undo 36 = .ok (.bipush 48, 2) := dk_16 48 (dk_at dksX10_undo_1 12 rfl rfl)
theorem dX10_undo_38 : decode cX10_undo 38 = .ok (.aload_n 0, 1) := dk_42 (dk_at dksX10_undo_1 14 rfl rfl)
theorem dX10_undo_39 : decode cX10_undo 39 = .ok (.getfield 269, 3) := dk_180 1 13 (dk_at dksX10_undo_1 15 rfl rfl)
theorem dX10_undo_42 : decode cX10_undo 42 = .ok (.imul, 1) := dk_104 (dk_at dksX10_undo_1 18 rfl rfl)
theorem dX10_undo_43 : decode cX10_undo 43 = .ok (.iload_n 1, 1) := dk_27 (dk_at dksX10_undo_1 19 rfl rfl)
theorem dX10_undo_44 : decode cX10_undo 44 = .ok (.iadd, 1) := dk_96 (dk_at dksX10_undo_1 20 rfl rfl)
theorem dX10_undo_45 : decode cX10_undo 45 = .ok (.iaload, 1) := dk_46 (dk_at dksX10_undo_1 21 rfl rfl)
theorem dX10_undo_46 : decode cX10_undo 46 = .ok (.iastore, 1) := dk_79 (dk_at dksX10_undo_1 22 rfl rfl)
theorem dX10_undo_47 : decode cX10_undo 47 = .ok (.iinc 1 1, 3) := dk_132 1 1 (dk_at dksX10_undo_2 0 rfl rfl)
theorem dX10_undo_50 : decode cX10_undo 50 = .ok (.goto (-29), 3) := dk_167 255 227 (dk_at dksX10_undo_2 3 rfl rfl)
theorem dX10_undo_53 : decode cX10_undo 53 = .ok (.iconst 1, 1) := dk_4 (dk_at dksX10_undo_2 6 rfl rfl)
theorem dX10_undo_54 : decode cX10_undo 54 = .ok (.ireturn, 1) := dk_172 (dk_at dksX10_undo_2 7 rfl rfl)
abbrev cX10_darkens : ByteArray := prog_22_method_81_code
def yX10_darkens : MethodName := ⟨RX10, "darkens", "(I)I"⟩
def dkwX10_darkens_1 : List UInt8 := [182, 1, 152, 158, 0, 5, 28, 172, 42, 182, 1, 130, 132, 2, 1, 167, 255, 233, 16, 254, 172]
abbrev dktX10_darkens_1 : List UInt8 := dkwX10_darkens_1 ++ []
def dkwX10_darkens_0 : List UInt8 := [42, 27, 182, 1, 149, 154, 0, 5, 2, 172, 42, 182, 1, 173, 3, 61, 28, 16, 100, 163, 0, 23, 42, 27]
abbrev dktX10_darkens_0 : List UInt8 := dkwX10_darkens_0 ++ dktX10_darkens_1
theorem dksX10_darkens_0 : cX10_darkens.data.toList.drop 0 = dktX10_darkens_0 := by decide +kernel
theorem dksX10_darkens_1 : cX10_darkens.data.toList.drop 24 = dktX10_darkens_1 := dk_seg dksX10_darkens_0 24 rfl rfl
theorem dX10_darkens_0 : decode cX10_darkens 0 = .ok (.aload_n 0, 1) := dk_42 (dk_at dksX10_darkens_0 0 rfl rfl)
theorem dX10_darkens_1 : decode cX10_darkens 1 = .ok (.iload_n 1, 1) := dk_27 (dk_at dksX10_darkens_0 1 rfl rfl)
theorem dX10_darkens_2 : decode cX10_darkens 2 = .ok (.invokevirtual 405, 3) := dk_182 1 149 (dk_at dksX10_darkens_0 2 rfl rfl)
theorem dX10_darkens_5 : decode cX10_darkens 5 = .ok (.ifCond .ne 5, 3) := dk_154 0 5 (dk_at dksX10_darkens_0 5 rfl rfl)
theorem dX10_darkens_8 : decode cX10_darkens 8 = .ok (.iconst (-1), 1) := dk_2 (dk_at dksX10_darkens_0 8 rfl rfl)
theorem dX10_darkens_9 : decode cX10_darkens 9 = .ok (.ireturn, 1) := dk_172 (dk_at dksX10_darkens_0 9 rfl rfl)
theorem dX10_darkens_10 : decode cX10_darkens 10 = .ok (.aload_n 0, 1) := dk_42 (dk_at dksX10_darkens_0 10 rfl rfl)
theorem dX10_darkens_11 : decode cX10_darkens 11 = .ok (.invokevirtual 429, 3) := dk_182 1 173 (dk_at dksX10_darkens_0 11 rfl rfl)
theorem dX10_darkens_14 : decode cX10_darkens 14 = .ok (.iconst 0, 1) := dk_3 (dk_at dksX10_darkens_0 14 rfl rfl)
theorem dX10_darkens_15 : decode cX10_darkens 15 = .ok (.istore_n 2, 1) := dk_61 (dk_at dksX10_darkens_0 15 rfl rfl)
theorem dX10_darkens_16 : decode cX10_darkens 16 = .ok (.iload_n 2, 1) := dk_28 (dk_at dksX10_darkens_0 16 rfl rfl)
theorem dX10_darkens_17 : decode cX10_darkens 17 = .ok (.bipush 100, 2) := dk_16 100 (dk_at dksX10_darkens_0 17 rfl rfl)
theorem dX10_darkens_19 : decode cX10_darkens 19 = .ok (.if_icmp .gt 23, 3) := dk_163 0 23 (dk_at dksX10_darkens_0 19 rfl rfl)
theorem dX10_darkens_22 : decode cX10_darkens 22 = .ok (.aload_n 0, 1) := dk_42 (dk_at dksX10_darkens_0 22 rfl rfl)
theorem dX10_darkens_23 : decode cX10_darkens 23 = .ok (.iload_n 1, 1) := dk_27 (dk_at dksX10_darkens_0 23 rfl rfl)
theorem dX10_darkens_24 : decode cX10_darkens 24 = .ok (.invokevirtual 408, 3) := dk_182 1 152 (dk_at dksX10_darkens_1 0 rfl rfl)
theorem dX10_darkens_27 : decode cX10_darkens 27 = .ok (.ifCond .le 5, 3) := dk_158 0 5 (dk_at dksX10_darkens_1 3 rfl rfl)
theorem dX10_darkens_30 : decode cX10_darkens 30 = .ok (.iload_n 2, 1) := dk_28 (dk_at dksX10_darkens_1 6 rfl rfl)
theorem dX10_darkens_31 : decode cX10_darkens 31 = .ok (.ireturn, 1) := dk_172 (dk_at dksX10_darkens_1 7 rfl rfl)
theorem dX10_darkens_32 : decode cX10_darkens 32 = .ok (.aload_n 0, 1) := dk_42 (dk_at dksX10_darkens_1 8 rfl rfl)
theorem dX10_darkens_33 : decode cX10_darkens 33 = .ok (.invokevirtual 386, 3) := dk_182 1 130 (dk_at dksX10_darkens_1 9 rfl rfl)
theorem dX10_darkens_36 : decode cX10_darkens 36 = .ok (.iinc 2 1, 3) := dk_132 2 1 (dk_at dksX10_darkens_1 12 rfl rfl)
theorem dX10_darkens_39 : decode cX10_darkens 39 = .ok (.goto (-23), 3) := dk_167 255 233 (dk_at dksX10_darkens_1 15 rfl rfl)
theorem dX10_darkens_42 : decode cX10_darkens 42 = .ok (.bipush (-2), 2) := dk_16 254 (dk_at dksX10_darkens_1 18 rfl rfl)
theorem dX10_darkens_44 : decode cX10_darkens 44 = .ok (.ireturn, 1) := dk_172 (dk_at dksX10_darkens_1 20 rfl rfl)
abbrev cX10_copiesStill : ByteArray := prog_22_method_49_code
def yX10_copiesStill : MethodName := ⟨RX10, "copiesStill", "()V"⟩
def dkwX10_copiesStill_0 : List UInt8 := [42, 182, 1, 91, 42, 4, 181, 1, 88, 177]
abbrev dktX10_copiesStill_0 : List UInt8 := dkwX10_copiesStill_0 ++ []
theorem dksX10_copiesStill_0 : cX10_copiesStill.data.toList.drop 0 = dktX10_copiesStill_0 := by decide +kernel
theorem dX10_copiesStill_0 : decode cX10_copiesStill 0 = .ok (.aload_n 0, 1) := dk_42 (dk_at dksX10_copiesStill_0 0 rfl rfl)
theorem dX10_copiesStill_1 : decode cX10_copiesStill 1 = .ok (.invokevirtual 347, 3) := dk_182 1 91 (dk_at dksX10_copiesStill_0 1 rfl rfl)
theorem dX10_copiesStill_4 : decode cX10_copiesStill 4 = .ok (.aload_n 0, 1) := dk_42 (dk_at dksX10_copiesStill_0 4 rfl rfl)
theorem dX10_copiesStill_5 : decode cX10_copiesStill 5 = .ok (.iconst 1, 1) := dk_4 (dk_at dksX10_copiesStill_0 5 rfl rfl)
theorem dX10_copiesStill_6 : decode cX10_copiesStill 6 = .ok (.putfield 344, 3) := dk_181 1 88 (dk_at dksX10_copiesStill_0 6 rfl rfl)
theorem dX10_copiesStill_9 : decode cX10_copiesStill 9 = .ok (.return_, 1) := dk_177 (dk_at dksX10_copiesStill_0 9 rfl rfl)
abbrev cX10_best : ByteArray := prog_22_method_83_code
def yX10_best : MethodName := ⟨RX10, "best", "(I)I"⟩
def dkwX10_best_1 : List UInt8 := [160, 0, 7, 28, 167, 0, 9, 42, 180, 0, 143, 27, 46, 172]
abbrev dktX10_best_1 : List UInt8 := dkwX10_best_1 ++ []
def dkwX10_best_0 : List UInt8 := [27, 2, 159, 0, 13, 42, 27, 182, 1, 82, 154, 0, 5, 2, 172, 42, 182, 1, 182, 61, 27, 2]
abbrev dktX10_best_0 : List UInt8 := dkwX10_best_0 ++ dktX10_best_1
theorem dksX10_best_0 : cX10_best.data.toList.drop 0 = dktX10_best_0 := by decide +kernel
theorem dksX10_best_1 : cX10_best.data.toList.drop 22 = dktX10_best_1 := dk_seg dksX10_best_0 22 rfl rfl
theorem dX10_best_0 : decode cX10_best 0 = .ok (.iload_n 1, 1) := dk_27 (dk_at dksX10_best_0 0 rfl rfl)
theorem dX10_best_1 : decode cX10_best 1 = .ok (.iconst (-1), 1) := dk_2 (dk_at dksX10_best_0 1 rfl rfl)
theorem dX10_best_2 : decode cX10_best 2 = .ok (.if_icmp .eq 13, 3) := dk_159 0 13 (dk_at dksX10_best_0 2 rfl rfl)
theorem dX10_best_5 : decode cX10_best 5 = .ok (.aload_n 0, 1) := dk_42 (dk_at dksX10_best_0 5 rfl rfl)
theorem dX10_best_6 : decode cX10_best 6 = .ok (.iload_n 1, 1) := dk_27 (dk_at dksX10_best_0 6 rfl rfl)
theorem dX10_best_7 : decode cX10_best 7 = .ok (.invokevirtual 338, 3) := dk_182 1 82 (dk_at dksX10_best_0 7 rfl rfl)
theorem dX10_best_10 : decode cX10_best 10 = .ok (.ifCond .ne 5, 3) := dk_154 0 5 (dk_at dksX10_best_0 10 rfl rfl)
theorem dX10_best_13 : decode cX10_best 13 = .ok (.iconst (-1), 1) := dk_2 (dk_at dksX10_best_0 13 rfl rfl)
theorem dX10_best_14 : decode cX10_best 14 = .ok (.ireturn, 1) := dk_172 (dk_at dksX10_best_0 14 rfl rfl)
theorem dX10_best_15 : decode cX10_best 15 = .ok (.aload_n 0, 1) := dk_42 (dk_at dksX10_best_0 15 rfl rfl)
theorem dX10_best_16 : decode cX10_best 16 = .ok (.invokevirtual 438, 3) := dk_182 1 182 (dk_at dksX10_best_0 16 rfl rfl)
theorem dX10_best_19 : decode cX10_best 19 = .ok (.istore_n 2, 1) := dk_61 (dk_at dksX10_best_0 19 rfl rfl)
theorem dX10_best_20 : decode cX10_best 20 = .ok (.iload_n 1, 1) := dk_27 (dk_at dksX10_best_0 20 rfl rfl)
theorem dX10_best_21 : decode cX10_best 21 = .ok (.iconst (-1), 1) := dk_2 (dk_at dksX10_best_0 21 rfl rfl)
theorem dX10_best_22 : decode cX10_best 22 = .ok (.if_icmp .ne 7, 3) := dk_160 0 7 (dk_at dksX10_best_1 0 rfl rfl)
theorem dX10_best_25 : decode cX10_best 25 = .ok (.iload_n 2, 1) := dk_28 (dk_at dksX10_best_1 3 rfl rfl)
theorem dX10_best_26 : decode cX10_best 26 = .ok (.goto 9, 3) := dk_167 0 9 (dk_at dksX10_best_1 4 rfl rfl)
theorem dX10_best_29 : decode cX10_best 29 = .ok (.aload_n 0, 1) := dk_42 (dk_at dksX10_best_1 7 rfl rfl)
theorem dX10_best_30 : decode cX10_best 30 = .ok (.getfield 143, 3) := dk_180 0 143 (dk_at dksX10_best_1 8 rfl rfl)
theorem dX10_best_33 : decode cX10_best 33 = .ok (.iload_n 1, 1) := dk_27 (dk_at dksX10_best_1 11 rfl rfl)
theorem dX10_best_34 : decode cX10_best 34 = .ok (.iaload, 1) := dk_46 (dk_at dksX10_best_1 12 rfl rfl)
theorem dX10_best_35 : decode cX10_best 35 = .ok (.ireturn, 1) := dk_172 (dk_at dksX10_best_1 13 rfl rfl)
abbrev cX10_fillsBest : ByteArray := prog_22_method_82_code
def yX10_fillsBest : MethodName := ⟨RX10, "fillsBest", "()I"⟩
def dkwX10_fillsBest_9 : List UInt8 := [132, 6, 1, 167, 255, 206, 132, 3, 1, 167, 255, 94, 28, 172]
abbrev dktX10_fillsBest_9 : List UInt8 := dkwX10_fillsBest_9 ++ []
def dkwX10_fillsBest_8 : List UInt8 := [16, 12, 21, 6, 96, 46, 4, 160, 0, 8, 16, 254, 167, 0, 10, 42, 180, 0, 128, 21, 6, 46, 79]
abbrev dktX10_fillsBest_8 : List UInt8 := dkwX10_fillsBest_8 ++ dktX10_fillsBest_9
def dkwX10_fillsBest_7 : List UInt8 := [21, 6, 42, 180, 0, 61, 42, 180, 0, 251, 46, 162, 0, 42, 42, 180, 0, 143, 21, 6, 42, 180, 0, 128]
abbrev dktX10_fillsBest_7 : List UInt8 := dkwX10_fillsBest_7 ++ dktX10_fillsBest_8
def dkwX10_fillsBest_6 : List UInt8 := [182, 1, 176, 184, 1, 179, 54, 5, 21, 5, 28, 163, 0, 6, 167, 0, 62, 21, 5, 61, 3, 54, 6]
abbrev dktX10_fillsBest_6 : List UInt8 := dkwX10_fillsBest_6 ++ dktX10_fillsBest_7
def dkwX10_fillsBest_5 : List UInt8 := [79, 21, 4, 42, 180, 0, 46, 42, 180, 0, 251, 46, 108, 54, 4, 132, 5, 255, 167, 255, 198, 42]
abbrev dktX10_fillsBest_5 : List UInt8 := dkwX10_fillsBest_5 ++ dktX10_fillsBest_6
def dkwX10_fillsBest_4 : List UInt8 := [160, 0, 6, 167, 0, 36, 42, 180, 0, 128, 21, 5, 21, 4, 42, 180, 0, 46, 42, 180, 0, 251, 46, 112]
abbrev dktX10_fillsBest_4 : List UInt8 := dkwX10_fillsBest_4 ++ dktX10_fillsBest_5
def dkwX10_fillsBest_3 : List UInt8 := [180, 0, 251, 46, 4, 100, 54, 5, 21, 5, 155, 0, 59, 42, 180, 0, 128, 16, 12, 21, 5, 96, 46, 4]
abbrev dktX10_fillsBest_3 : List UInt8 := dkwX10_fillsBest_3 ++ dktX10_fillsBest_4
def dkwX10_fillsBest_2 : List UInt8 := [132, 2, 1, 167, 255, 216, 2, 61, 3, 62, 29, 27, 162, 0, 163, 29, 54, 4, 42, 180, 0, 61, 42]
abbrev dktX10_fillsBest_2 : List UInt8 := dkwX10_fillsBest_2 ++ dktX10_fillsBest_3
def dkwX10_fillsBest_1 : List UInt8 := [180, 0, 128, 16, 12, 28, 96, 46, 154, 0, 15, 27, 42, 180, 0, 46, 42, 180, 0, 251, 46, 104, 60]
abbrev dktX10_fillsBest_1 : List UInt8 := dkwX10_fillsBest_1 ++ dktX10_fillsBest_2
def dkwX10_fillsBest_0 : List UInt8 := [42, 182, 1, 91, 4, 60, 3, 61, 28, 42, 180, 0, 61, 42, 180, 0, 251, 46, 162, 0, 33, 42]
abbrev dktX10_fillsBest_0 : List UInt8 := dkwX10_fillsBest_0 ++ dktX10_fillsBest_1
theorem dksX10_fillsBest_0 : cX10_fillsBest.data.toList.drop 0 = dktX10_fillsBest_0 := by decide +kernel
theorem dksX10_fillsBest_1 : cX10_fillsBest.data.toList.drop 22 = dktX10_fillsBest_1 := dk_seg dksX10_fillsBest_0 22 rfl rfl
theorem dksX10_fillsBest_2 : cX10_fillsBest.data.toList.drop 45 = dktX10_fillsBest_2 := dk_seg dksX10_fillsBest_1 23 rfl rfl
theorem dksX10_fillsBest_3 : cX10_fillsBest.data.toList.drop 68 = dktX10_fillsBest_3 := dk_seg dksX10_fillsBest_2 23 rfl rfl
theorem dksX10_fillsBest_4 : cX10_fillsBest.data.toList.drop 92 = dktX10_fillsBest_4 := dk_seg dksX10_fillsBest_3 24 rfl rfl
theorem dksX10_fillsBest_5 : cX10_fillsBest.data.toList.drop 116 = dktX10_fillsBest_5 := dk_seg dksX10_fillsBest_4 24 rfl rfl
theorem dksX10_fillsBest_6 : cX10_fillsBest.data.toList.drop 138 = dktX10_fillsBest_6 := dk_seg dksX10_fillsBest_5 22 rfl rfl
theorem dksX10_fillsBest_7 : cX10_fillsBest.data.toList.drop 161 = dktX10_fillsBest_7 := dk_seg dksX10_fillsBest_6 23 rfl rfl
theorem dksX10_fillsBest_8 : cX10_fillsBest.data.toList.drop 185 = dktX10_fillsBest_8 := dk_seg dksX10_fillsBest_7 24 rfl rfl
theorem dksX10_fillsBest_9 : cX10_fillsBest.data.toList.drop 208 = dktX10_fillsBest_9 := dk_seg dksX10_fillsBest_8 23 rfl rfl
theorem dX10_fillsBest_0 : decode cX10_fillsBest 0 = .ok (.aload_n 0, 1) := dk_42 (dk_at dksX10_fillsBest_0 0 rfl rfl)
theorem dX10_fillsBest_1 : decode cX10_fillsBest 1 = .ok (.invokevirtual 347, 3) := dk_182 1 91 (dk_at dksX10_fillsBest_0 1 rfl rfl)
theorem dX10_fillsBest_4 : decode cX10_fillsBest 4 = .ok (.iconst 1, 1) := dk_4 (dk_at dksX10_fillsBest_0 4 rfl rfl)
theorem dX10_fillsBest_5 : decode cX10_fillsBest 5 = .ok (.istore_n 1, 1) := dk_60 (dk_at dksX10_fillsBest_0 5 rfl rfl)
theorem dX10_fillsBest_6 : decode cX10_fillsBest 6 = .ok (.iconst 0, 1) := dk_3 (dk_at dksX10_fillsBest_0 6 rfl rfl)
theorem dX10_fillsBest_7 : decode cX10_fillsBest 7 = .ok (.istore_n 2, 1) := dk_61 (dk_at dksX10_fillsBest_0 7 rfl rfl)
theorem dX10_fillsBest_8 : decode cX10_fillsBest 8 = .ok (.iload_n 2, 1) := dk_28 (dk_at dksX10_fillsBest_0 8 rfl rfl)
theorem dX10_fillsBest_9 : decode cX10_fillsBest 9 = .ok (.aload_n 0, 1) := dk_42 (dk_at dksX10_fillsBest_0 9 rfl rfl)
theorem dX10_fillsBest_10 : decode cX10_fillsBest 10 = .ok (.getfield 61, 3) := dk_180 0 61 (dk_at dksX10_fillsBest_0 10 rfl rfl)
theorem dX10_fillsBest_13 : decode cX10_fillsBest 13 = .ok (.aload_n 0, 1) := dk_42 (dk_at dksX10_fillsBest_0 13 rfl rfl)
theorem dX10_fillsBest_14 : decode cX10_fillsBest 14 = .ok (.getfield 251, 3) := dk_180 0 251 (dk_at dksX10_fillsBest_0 14 rfl rfl)
theorem dX10_fillsBest_17 : decode cX10_fillsBest 17 = .ok (.iaload, 1) := dk_46 (dk_at dksX10_fillsBest_0 17 rfl rfl)
theorem dX10_fillsBest_18 : decode cX10_fillsBest 18 = .ok (.if_icmp .ge 33, 3) := dk_162 0 33 (dk_at dksX10_fillsBest_0 18 rfl rfl)
theorem dX10_fillsBest_21 : decode cX10_fillsBest 21 = .ok (.aload_n 0, 1) := dk_42 (dk_at dksX10_fillsBest_0 21 rfl rfl)
theorem dX10_fillsBest_22 : decode cX10_fillsBest 22 = .ok (.getfield 128, 3) := dk_180 0 128 (dk_at dksX10_fillsBest_1 0 rfl rfl)
theorem dX10_fillsBest_25 : decode cX10_fillsBest 25 = .ok (.bipush 12, 2) := dk_16 12 (dk_at dksX10_fillsBest_1 3 rfl rfl)
theorem dX10_fillsBest_27 : decode cX10_fillsBest 27 = .ok (.iload_n 2, 1) := dk_28 (dk_at dksX10_fillsBest_1 5 rfl rfl)
theorem dX10_fillsBest_28 : decode cX10_fillsBest 28 = .ok (.iadd, 1) := dk_96 (dk_at dksX10_fillsBest_1 6 rfl rfl)
theorem dX10_fillsBest_29 : decode cX10_fillsBest 29 = .ok (.iaload, 1) := dk_46 (dk_at dksX10_fillsBest_1 7 rfl rfl)
theorem dX10_fillsBest_30 : decode cX10_fillsBest 30 = .ok (.ifCond .ne 15, 3) := dk_154 0 15 (dk_at dksX10_fillsBest_1 8 rfl rfl)
theorem dX10_fillsBest_33 : decode cX10_fillsBest 33 = .ok (.iload_n 1, 1) := dk_27 (dk_at dksX10_fillsBest_1 11 rfl rfl)
theorem dX10_fillsBest_34 : decode cX10_fillsBest 34 = .ok (.aload_n 0, 1) := dk_42 (dk_at dksX10_fillsBest_1 12 rfl rfl)
theorem dX10_fillsBest_35 : decode cX10_fillsBest 35 = .ok (.getfield 46, 3) := dk_180 0 46 (dk_at dksX10_fillsBest_1 13 rfl rfl)
theorem dX10_fillsBest_38 : decode cX10_fillsBest 38 = .ok (.aload_n 0, 1) := dk_42 (dk_at dksX10_fillsBest_1 16 rfl rfl)
theorem dX10_fillsBest_39 : decode cX10_fillsBest 39 = .ok (.getfield 251, 3) := dk_180 0 251 (dk_at dksX10_fillsBest_1 17 rfl rfl)
theorem dX10_fillsBest_42 : decode cX10_fillsBest 42 = .ok (.iaload, 1) := dk_46 (dk_at dksX10_fillsBest_1 20 rfl rfl)
theorem dX10_fillsBest_43 : decode cX10_fillsBest 43 = .ok (.imul, 1) := dk_104 (dk_at dksX10_fillsBest_1 21 rfl rfl)
theorem dX10_fillsBest_44 : decode cX10_fillsBest 44 = .ok (.istore_n 1, 1) := dk_60 (dk_at dksX10_fillsBest_1 22 rfl rfl)
theorem dX10_fillsBest_45 : decode cX10_fillsBest 45 = .ok (.iinc 2 1, 3) := dk_132 2 1 (dk_at dksX10_fillsBest_2 0 rfl rfl)
theorem dX10_fillsBest_48 : decode cX10_fillsBest 48 = .ok (.goto (-40), 3) := dk_167 255 216 (dk_at dksX10_fillsBest_2 3 rfl rfl)
theorem dX10_fillsBest_51 : decode cX10_fillsBest 51 = .ok (.iconst (-1), 1) := dk_2 (dk_at dksX10_fillsBest_2 6 rfl rfl)
theorem dX10_fillsBest_52 : decode cX10_fillsBest 52 = .ok (.istore_n 2, 1) := dk_61 (dk_at dksX10_fillsBest_2 7 rfl rfl)
theorem dX10_fillsBest_53 : decode cX10_fillsBest 53 = .ok (.iconst 0, 1) := dk_3 (dk_at dksX10_fillsBest_2 8 rfl rfl)
theorem dX10_fillsBest_54 : decode cX10_fillsBest 54 = .ok (.istore_n 3, 1) := dk_62 (dk_at dksX10_fillsBest_2 9 rfl rfl)
theorem dX10_fillsBest_55 : decode cX10_fillsBest 55 = .ok (.iload_n 3, 1) := dk_29 (dk_at dksX10_fillsBest_2 10 rfl rfl)
theorem dX10_fillsBest_56 : decode cX10_fillsBest 56 = .ok (.iload_n 1, 1) := dk_27 (dk_at dksX10_fillsBest_2 11 rfl rfl)
theorem dX10_fillsBest_57 : decode cX10_fillsBest 57 = .ok (.if_icmp .ge 163, 3) := dk_162 0 163 (dk_at dksX10_fillsBest_2 12 rfl rfl)
theorem dX10_fillsBest_60 : decode cX10_fillsBest 60 = .ok (.iload_n 3, 1) := dk_29 (dk_at dksX10_fillsBest_2 15 rfl rfl)
theorem dX10_fillsBest_61 : decode cX10_fillsBest 61 = .ok (.istore 4, 2) := dk_54 4 (dk_at dksX10_fillsBest_2 16 rfl rfl)
theorem dX10_fillsBest_63 : decode cX10_fillsBest 63 = .ok (.aload_n 0, 1) := dk_42 (dk_at dksX10_fillsBest_2 18 rfl rfl)
theorem dX10_fillsBest_64 : decode cX10_fillsBest 64 = .ok (.getfield 61, 3) := dk_180 0 61 (dk_at dksX10_fillsBest_2 19 rfl rfl)
theorem dX10_fillsBest_67 : decode cX10_fillsBest 67 = .ok (.aload_n 0, 1) := dk_42 (dk_at dksX10_fillsBest_2 22 rfl rfl)
theorem dX10_fillsBest_68 : decode cX10_fillsBest 68 = .ok (.getfield 251, 3) := dk_180 0 251 (dk_at dksX10_fillsBest_3 0 rfl rfl)
theorem dX10_fillsBest_71 : decode cX10_fillsBest 71 = .ok (.iaload, 1) := dk_46 (dk_at dksX10_fillsBest_3 3 rfl rfl)
theorem dX10_fillsBest_72 : decode cX10_fillsBest 72 = .ok (.iconst 1, 1) := dk_4 (dk_at dksX10_fillsBest_3 4 rfl rfl)
theorem dX10_fillsBest_73 : decode cX10_fillsBest 73 = .ok (.isub, 1) := dk_100 (dk_at dksX10_fillsBest_3 5 rfl rfl)
theorem dX10_fillsBest_74 : decode cX10_fillsBest 74 = .ok (.istore 5, 2) := dk_54 5 (dk_at dksX10_fillsBest_3 6 rfl rfl)
theorem dX10_fillsBest_76 : decode cX10_fillsBest 76 = .ok (.iload 5, 2) := dk_21 5 (dk_at dksX10_fillsBest_3 8 rfl rfl)
theorem dX10_fillsBest_78 : decode cX10_fillsBest 78 = .ok (.ifCond .lt 59, 3) := dk_155 0 59 (dk_at dksX10_fillsBest_3 10 rfl rfl)
theorem dX10_fillsBest_81 : decode cX10_fillsBest 81 = .ok (.aload_n 0, 1) := dk_42 (dk_at dksX10_fillsBest_3 13 rfl rfl)
theorem dX10_fillsBest_82 : decode cX10_fillsBest 82 = .ok (.getfield 128, 3) := dk_180 0 128 (dk_at dksX10_fillsBest_3 14 rfl rfl)
theorem dX10_fillsBest_85 : decode cX10_fillsBest 85 = .ok (.bipush 12, 2) := dk_16 12 (dk_at dksX10_fillsBest_3 17 rfl rfl)
theorem dX10_fillsBest_87 : decode cX10_fillsBest 87 = .ok (.iload 5, 2) := dk_21 5 (dk_at dksX10_fillsBest_3 19 rfl rfl)
theorem dX10_fillsBest_89 : decode cX10_fillsBest 89 = .ok (.iadd, 1) := dk_96 (dk_at dksX10_fillsBest_3 21 rfl rfl)
theorem dX10_fillsBest_90 : decode cX10_fillsBest 90 = .ok (.iaload, 1) := dk_46 (dk_at dksX10_fillsBest_3 22 rfl rfl)
theorem dX10_fillsBest_91 : decode cX10_fillsBest 91 = .ok (.iconst 1, 1) := dk_4 (dk_at dksX10_fillsBest_3 23 rfl rfl)
theorem dX10_fillsBest_92 : decode cX10_fillsBest 92 = .ok (.if_icmp .ne 6, 3) := dk_160 0 6 (dk_at dksX10_fillsBest_4 0 rfl rfl)
theorem dX10_fillsBest_95 : decode cX10_fillsBest 95 = .ok (.goto 36, 3) := dk_167 0 36 (dk_at dksX10_fillsBest_4 3 rfl rfl)
theorem dX10_fillsBest_98 : decode cX10_fillsBest 98 = .ok (.aload_n 0, 1) := dk_42 (dk_at dksX10_fillsBest_4 6 rfl rfl)
theorem dX10_fillsBest_99 : decode cX10_fillsBest 99 = .ok (.getfield 128, 3) := dk_180 0 128 (dk_at dksX10_fillsBest_4 7 rfl rfl)
theorem dX10_fillsBest_102 : decode cX10_fillsBest 102 = .ok (.iload 5, 2) := dk_21 5 (dk_at dksX10_fillsBest_4 10 rfl rfl)
theorem dX10_fillsBest_104 : decode cX10_fillsBest 104 = .ok (.iload 4, 2) := dk_21 4 (dk_at dksX10_fillsBest_4 12 rfl rfl)
theorem dX10_fillsBest_106 : decode cX10_fillsBest 106 = .ok (.aload_n 0, 1) := dk_42 (dk_at dksX10_fillsBest_4 14 rfl rfl)
theorem dX10_fillsBest_107 : decode cX10_fillsBest 107 = .ok (.getfield 46, 3) := dk_180 0 46 (dk_at dksX10_fillsBest_4 15 rfl rfl)
theorem dX10_fillsBest_110 : decode cX10_fillsBest 110 = .ok (.aload_n 0, 1) := dk_42 (dk_at dksX10_fillsBest_4 18 rfl rfl)
theorem dX10_fillsBest_111 : decode cX10_fillsBest 111 = .ok (.getfield 251, 3) := dk_180 0 251 (dk_at dksX10_fillsBest_4 19 rfl rfl)
theorem dX10_fillsBest_114 : decode cX10_fillsBest 114 = .ok (.iaload, 1) := dk_46 (dk_at dksX10_fillsBest_4 22 rfl rfl)
theorem dX10_fillsBest_115 : decode cX10_fillsBest 115 = .ok (.irem, 1) := dk_112 (dk_at dksX10_fillsBest_4 23 rfl rfl)
theorem dX10_fillsBest_116 : decode cX10_fillsBest 116 = .ok (.iastore, 1) := dk_79 (dk_at dksX10_fillsBest_5 0 rfl rfl)
theorem dX10_fillsBest_117 : decode cX10_fillsBest 117 = .ok (.iload 4, 2) := dk_21 4 (dk_at dksX10_fillsBest_5 1 rfl rfl)
theorem dX10_fillsBest_119 : decode cX10_fillsBest 119 = .ok (.aload_n 0, 1) := dk_42 (dk_at dksX10_fillsBest_5 3 rfl rfl)
theorem dX10_fillsBest_120 : decode cX10_fillsBest 120 = .ok (.getfield 46, 3) := dk_180 0 46 (dk_at dksX10_fillsBest_5 4 rfl rfl)
theorem dX10_fillsBest_123 : decode cX10_fillsBest 123 = .ok (.aload_n 0, 1) := dk_42 (dk_at dksX10_fillsBest_5 7 rfl rfl)
theorem dX10_fillsBest_124 : decode cX10_fillsBest 124 = .ok (.getfield 251, 3) := dk_180 0 251 (dk_at dksX10_fillsBest_5 8 rfl rfl)
theorem dX10_fillsBest_127 : decode cX10_fillsBest 127 = .ok (.iaload, 1) := dk_46 (dk_at dksX10_fillsBest_5 11 rfl rfl)
theorem dX10_fillsBest_128 : decode cX10_fillsBest 128 = .ok (.idiv, 1) := dk_108 (dk_at dksX10_fillsBest_5 12 rfl rfl)
theorem dX10_fillsBest_129 : decode cX10_fillsBest 129 = .ok (.istore 4, 2) := dk_54 4 (dk_at dksX10_fillsBest_5 13 rfl rfl)
theorem dX10_fillsBest_131 : decode cX10_fillsBest 131 = .ok (.iinc 5 (-1), 3) := dk_132 5 255 (dk_at dksX10_fillsBest_5 15 rfl rfl)
theorem dX10_fillsBest_134 : decode cX10_fillsBest 134 = .ok (.goto (-58), 3) := dk_167 255 198 (dk_at dksX10_fillsBest_5 18 rfl rfl)
theorem dX10_fillsBest_137 : decode cX10_fillsBest 137 = .ok (.aload_n 0, 1) := dk_42 (dk_at dksX10_fillsBest_5 21 rfl rfl)
theorem dX10_fillsBest_138 : decode cX10_fillsBest 138 = .ok (.invokevirtual 432, 3) := dk_182 1 176 (dk_at dksX10_fillsBest_6 0 rfl rfl)
theorem dX10_fillsBest_141 : decode cX10_fillsBest 141 = .ok (.invokestatic 435, 3) := dk_184 1 179 (dk_at dksX10_fillsBest_6 3 rfl rfl)
theorem dX10_fillsBest_144 : decode cX10_fillsBest 144 = .ok (.istore 5, 2) := dk_54 5 (dk_at dksX10_fillsBest_6 6 rfl rfl)
theorem dX10_fillsBest_146 : decode cX10_fillsBest 146 = .ok (.iload 5, 2) := dk_21 5 (dk_at dksX10_fillsBest_6 8 rfl rfl)
theorem dX10_fillsBest_148 : decode cX10_fillsBest 148 = .ok (.iload_n 2, 1) := dk_28 (dk_at dksX10_fillsBest_6 10 rfl rfl)
theorem dX10_fillsBest_149 : decode cX10_fillsBest 149 = .ok (.if_icmp .gt 6, 3) := dk_163 0 6 (dk_at dksX10_fillsBest_6 11 rfl rfl)
theorem dX10_fillsBest_152 : decode cX10_fillsBest 152 = .ok (.goto 62, 3) := dk_167 0 62 (dk_at dksX10_fillsBest_6 14 rfl rfl)
theorem dX10_fillsBest_155 : decode cX10_fillsBest 155 = .ok (.iload 5, 2) := dk_21 5 (dk_at dksX10_fillsBest_6 17 rfl rfl)
theorem dX10_fillsBest_157 : decode cX10_fillsBest 157 = .ok (.istore_n 2, 1) := dk_61 (dk_at dksX10_fillsBest_6 19 rfl rfl)
theorem dX10_fillsBest_158 : decode cX10_fillsBest 158 = .ok (.iconst 0, 1) := dk_3 (dk_at dksX10_fillsBest_6 20 rfl rfl)
theorem dX10_fillsBest_159 : decode cX10_fillsBest 159 = .ok (.istore 6, 2) := dk_54 6 (dk_at dksX10_fillsBest_6 21 rfl rfl)
theorem dX10_fillsBest_161 : decode cX10_fillsBest 161 = .ok (.iload 6, 2) := dk_21 6 (dk_at dksX10_fillsBest_7 0 rfl rfl)
theorem dX10_fillsBest_163 : decode cX10_fillsBest 163 = .ok (.aload_n 0, 1) := dk_42 (dk_at dksX10_fillsBest_7 2 rfl rfl)
theorem dX10_fillsBest_164 : decode cX10_fillsBest 164 = .ok (.getfield 61, 3) := dk_180 0 61 (dk_at dksX10_fillsBest_7 3 rfl rfl)
theorem dX10_fillsBest_167 : decode cX10_fillsBest 167 = .ok (.aload_n 0, 1) := dk_42 (dk_at dksX10_fillsBest_7 6 rfl rfl)
theorem dX10_fillsBest_168 : decode cX10_fillsBest 168 = .ok (.getfield 251, 3) := dk_180 0 251 (dk_at dksX10_fillsBest_7 7 rfl rfl)
theorem dX10_fillsBest_171 : decode cX10_fillsBest 171 = .ok (.iaload, 1) := dk_46 (dk_at dksX10_fillsBest_7 10 rfl rfl)
theorem dX10_fillsBest_172 : decode cX10_fillsBest 172 = .ok (.if_icmp .ge 42, 3) := dk_162 0 42 (dk_at dksX10_fillsBest_7 11 rfl rfl)
theorem dX10_fillsBest_175 : decode cX10_fillsBest 175 = .ok (.aload_n 0, 1) := dk_42 (dk_at dksX10_fillsBest_7 14 rfl rfl)
theorem dX10_fillsBest_176 : decode cX10_fillsBest 176 = .ok (.getfield 143, 3) := dk_180 0 143 (dk_at dksX10_fillsBest_7 15 rfl rfl)
theorem dX10_fillsBest_179 : decode cX10_fillsBest 179 = .ok (.iload 6, 2) := dk_21 6 (dk_at dksX10_fillsBest_7 18 rfl rfl)
theorem dX10_fillsBest_181 : decode cX10_fillsBest 181 = .ok (.aload_n 0, 1) := dk_42 (dk_at dksX10_fillsBest_7 20 rfl rfl)
theorem dX10_fillsBest_182 : decode cX10_fillsBest 182 = .ok (.getfield 128, 3) := dk_180 0 128 (dk_at dksX10_fillsBest_7 21 rfl rfl)
theorem dX10_fillsBest_185 : decode cX10_fillsBest 185 = .ok (.bipush 12, 2) := dk_16 12 (dk_at dksX10_fillsBest_8 0 rfl rfl)
theorem dX10_fillsBest_187 : decode cX10_fillsBest 187 = .ok (.iload 6, 2) := dk_21 6 (dk_at dksX10_fillsBest_8 2 rfl rfl)
theorem dX10_fillsBest_189 : decode cX10_fillsBest 189 = .ok (.iadd, 1) := dk_96 (dk_at dksX10_fillsBest_8 4 rfl rfl)
theorem dX10_fillsBest_190 : decode cX10_fillsBest 190 = .ok (.iaload, 1) := dk_46 (dk_at dksX10_fillsBest_8 5 rfl rfl)
theorem dX10_fillsBest_191 : decode cX10_fillsBest 191 = .ok (.iconst 1, 1) := dk_4 (dk_at dksX10_fillsBest_8 6 rfl rfl)
theorem dX10_fillsBest_192 : decode cX10_fillsBest 192 = .ok (.if_icmp .ne 8, 3) := dk_160 0 8 (dk_at dksX10_fillsBest_8 7 rfl rfl)
theorem dX10_fillsBest_195 : decode cX10_fillsBest 195 = .ok (.bipush (-2), 2) := dk_16 254 (dk_at dksX10_fillsBest_8 10 rfl rfl)
theorem dX10_fillsBest_197 : decode cX10_fillsBest 197 = .ok (.goto 10, 3) := dk_167 0 10 (dk_at dksX10_fillsBest_8 12 rfl rfl)
theorem dX10_fillsBest_200 : decode cX10_fillsBest 200 = .ok (.aload_n 0, 1) := dk_42 (dk_at dksX10_fillsBest_8 15 rfl rfl)
theorem dX10_fillsBest_201 : decode cX10_fillsBest 201 = .ok (.getfield 128, 3) := dk_180 0 128 (dk_at dksX10_fillsBest_8 16 rfl rfl)
theorem dX10_fillsBest_204 : decode cX10_fillsBest 204 = .ok (.iload 6, 2) := dk_21 6 (dk_at dksX10_fillsBest_8 19 rfl rfl)
theorem dX10_fillsBest_206 : decode cX10_fillsBest 206 = .ok (.iaload, 1) := dk_46 (dk_at dksX10_fillsBest_8 21 rfl rfl)
theorem dX10_fillsBest_207 : decode cX10_fillsBest 207 = .ok (.iastore, 1) := dk_79 (dk_at dksX10_fillsBest_8 22 rfl rfl)
theorem dX10_fillsBest_208 : decode cX10_fillsBest 208 = .ok (.iinc 6 1, 3) := dk_132 6 1 (dk_at dksX10_fillsBest_9 0 rfl rfl)
theorem dX10_fillsBest_211 : decode cX10_fillsBest 211 = .ok (.goto (-50), 3) := dk_167 255 206 (dk_at dksX10_fillsBest_9 3 rfl rfl)
theorem dX10_fillsBest_214 : decode cX10_fillsBest 214 = .ok (.iinc 3 1, 3) := dk_132 3 1 (dk_at dksX10_fillsBest_9 6 rfl rfl)
theorem dX10_fillsBest_217 : decode cX10_fillsBest 217 = .ok (.goto (-162), 3) := dk_167 255 94 (dk_at dksX10_fillsBest_9 9 rfl rfl)
theorem dX10_fillsBest_220 : decode cX10_fillsBest 220 = .ok (.iload_n 2, 1) := dk_28 (dk_at dksX10_fillsBest_9 12 rfl rfl)
theorem dX10_fillsBest_221 : decode cX10_fillsBest 221 = .ok (.ireturn, 1) := dk_172 (dk_at dksX10_fillsBest_9 13 rfl rfl)
abbrev cX10_litBits : ByteArray := prog_22_method_64_code
def yX10_litBits : MethodName := ⟨RX10, "litBits", "()I"⟩
def dkwX10_litBits_5 : List UInt8 := [167, 255, 178, 27, 172]
abbrev dktX10_litBits_5 : List UInt8 := dkwX10_litBits_5 ++ []
def dkwX10_litBits_4 : List UInt8 := [16, 10, 42, 180, 0, 251, 104, 28, 96, 46, 161, 0, 9, 27, 4, 28, 120, 128, 60, 132, 2, 1]
abbrev dktX10_litBits_4 : List UInt8 := dkwX10_litBits_4 ++ dktX10_litBits_5
def dkwX10_litBits_3 : List UInt8 := [180, 0, 137, 42, 180, 0, 55, 16, 10, 42, 180, 0, 251, 104, 28, 96, 46, 46, 96, 42, 180, 0, 58]
abbrev dktX10_litBits_3 : List UInt8 := dkwX10_litBits_3 ++ dktX10_litBits_4
def dkwX10_litBits_2 : List UInt8 := [162, 0, 71, 42, 180, 0, 137, 42, 180, 0, 52, 16, 10, 42, 180, 0, 251, 104, 28, 96, 46, 46, 42]
abbrev dktX10_litBits_2 : List UInt8 := dkwX10_litBits_2 ++ dktX10_litBits_3
def dkwX10_litBits_1 : List UInt8 := [182, 1, 133, 79, 132, 1, 1, 167, 255, 229, 3, 60, 3, 61, 28, 42, 180, 0, 49, 42, 180, 0, 251, 46]
abbrev dktX10_litBits_1 : List UInt8 := dkwX10_litBits_1 ++ dktX10_litBits_2
def dkwX10_litBits_0 : List UInt8 := [3, 60, 27, 42, 180, 0, 46, 42, 180, 0, 251, 46, 162, 0, 20, 42, 180, 0, 137, 27, 42, 27]
abbrev dktX10_litBits_0 : List UInt8 := dkwX10_litBits_0 ++ dktX10_litBits_1
theorem dksX10_litBits_0 : cX10_litBits.data.toList.drop 0 = dktX10_litBits_0 := by decide +kernel
theorem dksX10_litBits_1 : cX10_litBits.data.toList.drop 22 = dktX10_litBits_1 := dk_seg dksX10_litBits_0 22 rfl rfl
theorem dksX10_litBits_2 : cX10_litBits.data.toList.drop 46 = dktX10_litBits_2 := dk_seg dksX10_litBits_1 24 rfl rfl
theorem dksX10_litBits_3 : cX10_litBits.data.toList.drop 69 = dktX10_litBits_3 := dk_seg dksX10_litBits_2 23 rfl rfl
theorem dksX10_litBits_4 : cX10_litBits.data.toList.drop 92 = dktX10_litBits_4 := dk_seg dksX10_litBits_3 23 rfl rfl
theorem dksX10_litBits_5 : cX10_litBits.data.toList.drop 114 = dktX10_litBits_5 := dk_seg dksX10_litBits_4 22 rfl rfl
theorem dX10_litBits_0 : decode cX10_litBits 0 = .ok (.iconst 0, 1) := dk_3 (dk_at dksX10_litBits_0 0 rfl rfl)
theorem dX10_litBits_1 : decode cX10_litBits 1 = .ok (.istore_n 1, 1) := dk_60 (dk_at dksX10_litBits_0 1 rfl rfl)
theorem dX10_litBits_2 : decode cX10_litBits 2 = .ok (.iload_n 1, 1) := dk_27 (dk_at dksX10_litBits_0 2 rfl rfl)
theorem dX10_litBits_3 : decode cX10_litBits 3 = .ok (.aload_n 0, 1) := dk_42 (dk_at dksX10_litBits_0 3 rfl rfl)
theorem dX10_litBits_4 : decode cX10_litBits 4 = .ok (.getfield 46, 3) := dk_180 0 46 (dk_at dksX10_litBits_0 4 rfl rfl)
theorem dX10_litBits_7 : decode cX10_litBits 7 = .ok (.aload_n 0, 1) := dk_42 (dk_at dksX10_litBits_0 7 rfl rfl)
theorem dX10_litBits_8 : decode cX10_litBits 8 = .ok (.getfield 251, 3) := dk_180 0 251 (dk_at dksX10_litBits_0 8 rfl rfl)
theorem dX10_litBits_11 : decode cX10_litBits 11 = .ok (.iaload, 1) := dk_46 (dk_at dksX10_litBits_0 11 rfl rfl)
theorem dX10_litBits_12 : decode cX10_litBits 12 = .ok (.if_icmp .ge 20, 3) := dk_162 0 20 (dk_at dksX10_litBits_0 12 rfl rfl)
theorem dX10_litBits_15 : decode cX10_litBits 15 = .ok (.aload_n 0, 1) := dk_42 (dk_at dksX10_litBits_0 15 rfl rfl)
theorem dX10_litBits_16 : decode cX10_litBits 16 = .ok (.getfield 137, 3) := dk_180 0 137 (dk_at dksX10_litBits_0 16 rfl rfl)
theorem dX10_litBits_19 : decode cX10_litBits 19 = .ok (.iload_n 1, 1) := dk_27 (dk_at dksX10_litBits_0 19 rfl rfl)
theorem dX10_litBits_20 : decode cX10_litBits 20 = .ok (.aload_n 0, 1) := dk_42 (dk_at dksX10_litBits_0 20 rfl rfl)
theorem dX10_litBits_21 : decode cX10_litBits 21 = .ok (.iload_n 1, 1) := dk_27 (dk_at dksX10_litBits_0 21 rfl rfl)
theorem dX10_litBits_22 : decode cX10_litBits 22 = .ok (.invokevirtual 389, 3) := dk_182 1 133 (dk_at dksX10_litBits_1 0 rfl rfl)
theorem dX10_litBits_25 : decode cX10_litBits 25 = .ok (.iastore, 1) := dk_79 (dk_at dksX10_litBits_1 3 rfl rfl)
theorem dX10_litBits_26 : decode cX10_litBits 26 = .ok (.iinc 1 1, 3) := dk_132 1 1 (dk_at dksX10_litBits_1 4 rfl rfl)
theorem dX10_litBits_29 : decode cX10_litBits 29 = .ok (.goto (-27), 3) := dk_167 255 229 (dk_at dksX10_litBits_1 7 rfl rfl)
theorem dX10_litBits_32 : decode cX10_litBits 32 = .ok (.iconst 0, 1) := dk_3 (dk_at dksX10_litBits_1 10 rfl rfl)
theorem dX10_litBits_33 : decode cX10_litBits 33 = .ok (.istore_n 1, 1) := dk_60 (dk_at dksX10_litBits_1 11 rfl rfl)
theorem dX10_litBits_34 : decode cX10_litBits 34 = .ok (.iconst 0, 1) := dk_3 (dk_at dksX10_litBits_1 12 rfl rfl)
theorem dX10_litBits_35 : decode cX10_litBits 35 = .ok (.istore_n 2, 1) := dk_61 (dk_at dksX10_litBits_1 13 rfl rfl)
theorem dX10_litBits_36 : decode cX10_litBits 36 = .ok (.iload_n 2, 1) := dk_28 (dk_at dksX10_litBits_1 14 rfl rfl)
theorem dX10_litBits_37 : decode cX10_litBits 37 = .ok (.aload_n 0, 1) := dk_42 (dk_at dksX10_litBits_1 15 rfl rfl)
theorem dX10_litBits_38 : decode cX10_litBits 38 = .ok (.getfield 49, 3) := dk_180 0 49 (dk_at dksX10_litBits_1 16 rfl rfl)
theorem dX10_litBits_41 : decode cX10_litBits 41 = .ok (.aload_n 0, 1) := dk_42 (dk_at dksX10_litBits_1 19 rfl rfl)
theorem dX10_litBits_42 : decode cX10_litBits 42 = .ok (.getfield 251, 3) := dk_180 0 251 (dk_at dksX10_litBits_1 20 rfl rfl)
theorem dX10_litBits_45 : decode cX10_litBits 45 = .ok (.iaload, 1) := dk_46 (dk_at dksX10_litBits_1 23 rfl rfl)
theorem dX10_litBits_46 : decode cX10_litBits 46 = .ok (.if_icmp .ge 71, 3) := dk_162 0 71 (dk_at dksX10_litBits_2 0 rfl rfl)
theorem dX10_litBits_49 : decode cX10_litBits 49 = .ok (.aload_n 0, 1) := dk_42 (dk_at dksX10_litBits_2 3 rfl rfl)
theorem dX10_litBits_50 : decode cX10_litBits 50 = .ok (.getfield 137, 3) := dk_180 0 137 (dk_at dksX10_litBits_2 4 rfl rfl)
theorem dX10_litBits_53 : decode cX10_litBits 53 = .ok (.aload_n 0, 1) := dk_42 (dk_at dksX10_litBits_2 7 rfl rfl)
theorem dX10_litBits_54 : decode cX10_litBits 54 = .ok (.getfield 52, 3) := dk_180 0 52 (dk_at dksX10_litBits_2 8 rfl rfl)
theorem dX10_litBits_57 : decode cX10_litBits 57 = .ok (.bipush 10, 2) := dk_16 10 (dk_at dksX10_litBits_2 11 rfl rfl)
theorem dX10_litBits_59 : decode cX10_litBits 59 = .ok (.aload_n 0, 1) := dk_42 (dk_at dksX10_litBits_2 13 rfl rfl)
theorem dX10_litBits_60 : decode cX10_litBits 60 = .ok (.getfield 251, 3) := dk_180 0 251 (dk_at dksX10_litBits_2 14 rfl rfl)
theorem dX10_litBits_63 : decode cX10_litBits 63 = .ok (.imul, 1) := dk_104 (dk_at dksX10_litBits_2 17 rfl rfl)
theorem dX10_litBits_64 : decode cX10_litBits 64 = .ok (.iload_n 2, 1) := dk_28 (dk_at dksX10_litBits_2 18 rfl rfl)
theorem dX10_litBits_65 : decode cX10_litBits 65 = .ok (.iadd, 1) := dk_96 (dk_at dksX10_litBits_2 19 rfl rfl)
theorem dX10_litBits_66 : decode cX10_litBits 66 = .ok (.iaload, 1) := dk_46 (dk_at dksX10_litBits_2 20 rfl rfl)
theorem dX10_litBits_67 : decode cX10_litBits 67 = .ok (.iaload, 1) := dk_46 (dk_at dksX10_litBits_2 21 rfl rfl)
theorem dX10_litBits_68 : decode cX10_litBits 68 = .ok (.aload_n 0, 1) := dk_42 (dk_at dksX10_litBits_2 22 rfl rfl)
theorem dX10_litBits_69 : decode cX10_litBits 69 = .ok (.getfield 137, 3) := dk_180 0 137 (dk_at dksX10_litBits_3 0 rfl rfl)
theorem dX10_litBits_72 : decode cX10_litBits 72 = .ok (.aload_n 0, 1) := dk_42 (dk_at dksX10_litBits_3 3 rfl rfl)
theorem dX10_litBits_73 : decode cX10_litBits 73 = .ok (.getfield 55, 3) := dk_180 0 55 (dk_at dksX10_litBits_3 4 rfl rfl)
theorem dX10_litBits_76 : decode cX10_litBits 76 = .ok (.bipush 10, 2) := dk_16 10 (dk_at dksX10_litBits_3 7 rfl rfl)
theorem dX10_litBits_78 : decode cX10_litBits 78 = .ok (.aload_n 0, 1) := dk_42 (dk_at dksX10_litBits_3 9 rfl rfl)
theorem dX10_litBits_79 : decode cX10_litBits 79 = .ok (.getfield 251, 3) := dk_180 0 251 (dk_at dksX10_litBits_3 10 rfl rfl)
theorem dX10_litBits_82 : decode cX10_litBits 82 = .ok (.imul, 1) := dk_104 (dk_at dksX10_litBits_3 13 rfl rfl)
theorem dX10_litBits_83 : decode cX10_litBits 83 = .ok (.iload_n 2, 1) := dk_28 (dk_at dksX10_litBits_3 14 rfl rfl)
theorem dX10_litBits_84 : decode cX10_litBits 84 = .ok (.iadd, 1) := dk_96 (dk_at dksX10_litBits_3 15 rfl rfl)
theorem dX10_litBits_85 : decode cX10_litBits 85 = .ok (.iaload, 1) := dk_46 (dk_at dksX10_litBits_3 16 rfl rfl)
theorem dX10_litBits_86 : decode cX10_litBits 86 = .ok (.iaload, 1) := dk_46 (dk_at dksX10_litBits_3 17 rfl rfl)
theorem dX10_litBits_87 : decode cX10_litBits 87 = .ok (.iadd, 1) := dk_96 (dk_at dksX10_litBits_3 18 rfl rfl)
theorem dX10_litBits_88 : decode cX10_litBits 88 = .ok (.aload_n 0, 1) := dk_42 (dk_at dksX10_litBits_3 19 rfl rfl)
theorem dX10_litBits_89 : decode cX10_litBits 89 = .ok (.getfield 58, 3) := dk_180 0 58 (dk_at dksX10_litBits_3 20 rfl rfl)
theorem dX10_litBits_92 : decode cX10_litBits 92 = .ok (.bipush 10, 2) := dk_16 10 (dk_at dksX10_litBits_4 0 rfl rfl)
theorem dX10_litBits_94 : decode cX10_litBits 94 = .ok (.aload_n 0, 1) := dk_42 (dk_at dksX10_litBits_4 2 rfl rfl)
theorem dX10_litBits_95 : decode cX10_litBits 95 = .ok (.getfield 251, 3) := dk_180 0 251 (dk_at dksX10_litBits_4 3 rfl rfl)
theorem dX10_litBits_98 : decode cX10_litBits 98 = .ok (.imul, 1) := dk_104 (dk_at dksX10_litBits_4 6 rfl rfl)
theorem dX10_litBits_99 : decode cX10_litBits 99 = .ok (.iload_n 2, 1) := dk_28 (dk_at dksX10_litBits_4 7 rfl rfl)
theorem dX10_litBits_100 : decode cX10_litBits 100 = .ok (.iadd, 1) := dk_96 (dk_at dksX10_litBits_4 8 rfl rfl)
theorem dX10_litBits_101 : decode cX10_litBits 101 = .ok (.iaload, 1) := dk_46 (dk_at dksX10_litBits_4 9 rfl rfl)
theorem dX10_litBits_102 : decode cX10_litBits 102 = .ok (.if_icmp .lt 9, 3) := dk_161 0 9 (dk_at dksX10_litBits_4 10 rfl rfl)
theorem dX10_litBits_105 : decode cX10_litBits 105 = .ok (.iload_n 1, 1) := dk_27 (dk_at dksX10_litBits_4 13 rfl rfl)
theorem dX10_litBits_106 : decode cX10_litBits 106 = .ok (.iconst 1, 1) := dk_4 (dk_at dksX10_litBits_4 14 rfl rfl)
theorem dX10_litBits_107 : decode cX10_litBits 107 = .ok (.iload_n 2, 1) := dk_28 (dk_at dksX10_litBits_4 15 rfl rfl)
theorem dX10_litBits_108 : decode cX10_litBits 108 = .ok (.ishl, 1) := dk_120 (dk_at dksX10_litBits_4 16 rfl rfl)
theorem dX10_litBits_109 : decode cX10_litBits 109 = .ok (.ior, 1) := dk_128 (dk_at dksX10_litBits_4 17 rfl rfl)
theorem dX10_litBits_110 : decode cX10_litBits 110 = .ok (.istore_n 1, 1) := dk_60 (dk_at dksX10_litBits_4 18 rfl rfl)
theorem dX10_litBits_111 : decode cX10_litBits 111 = .ok (.iinc 2 1, 3) := dk_132 2 1 (dk_at dksX10_litBits_4 19 rfl rfl)
theorem dX10_litBits_114 : decode cX10_litBits 114 = .ok (.goto (-78), 3) := dk_167 255 178 (dk_at dksX10_litBits_5 0 rfl rfl)
theorem dX10_litBits_117 : decode cX10_litBits 117 = .ok (.iload_n 1, 1) := dk_27 (dk_at dksX10_litBits_5 3 rfl rfl)
theorem dX10_litBits_118 : decode cX10_litBits 118 = .ok (.ireturn, 1) := dk_172 (dk_at dksX10_litBits_5 4 rfl rfl)
abbrev cX10_bits : ByteArray := prog_22_method_40_code
def yX10_bits : MethodName := ⟨RX10, "bits", "(I)I"⟩
def dkwX10_bits_1 : List UInt8 := [27, 172]
abbrev dktX10_bits_1 : List UInt8 := dkwX10_bits_1 ++ []
def dkwX10_bits_0 : List UInt8 := [3, 60, 3, 61, 28, 16, 10, 162, 0, 17, 27, 26, 28, 122, 4, 126, 96, 60, 132, 2, 1, 167, 255, 239]
abbrev dktX10_bits_0 : List UInt8 := dkwX10_bits_0 ++ dktX10_bits_1
theorem dksX10_bits_0 : cX10_bits.data.toList.drop 0 = dktX10_bits_0 := by decide +kernel
theorem dksX10_bits_1 : cX10_bits.data.toList.drop 24 = dktX10_bits_1 := dk_seg dksX10_bits_0 24 rfl rfl
theorem dX10_bits_0 : decode cX10_bits 0 = .ok (.iconst 0, 1) := dk_3 (dk_at dksX10_bits_0 0 rfl rfl)
theorem dX10_bits_1 : decode cX10_bits 1 = .ok (.istore_n 1, 1) := dk_60 (dk_at dksX10_bits_0 1 rfl rfl)
theorem dX10_bits_2 : decode cX10_bits 2 = .ok (.iconst 0, 1) := dk_3 (dk_at dksX10_bits_0 2 rfl rfl)
theorem dX10_bits_3 : decode cX10_bits 3 = .ok (.istore_n 2, 1) := dk_61 (dk_at dksX10_bits_0 3 rfl rfl)
theorem dX10_bits_4 : decode cX10_bits 4 = .ok (.iload_n 2, 1) := dk_28 (dk_at dksX10_bits_0 4 rfl rfl)
theorem dX10_bits_5 : decode cX10_bits 5 = .ok (.bipush 10, 2) := dk_16 10 (dk_at dksX10_bits_0 5 rfl rfl)
theorem dX10_bits_7 : decode cX10_bits 7 = .ok (.if_icmp .ge 17, 3) := dk_162 0 17 (dk_at dksX10_bits_0 7 rfl rfl)
theorem dX10_bits_10 : decode cX10_bits 10 = .ok (.iload_n 1, 1) := dk_27 (dk_at dksX10_bits_0 10 rfl rfl)
theorem dX10_bits_11 : decode cX10_bits 11 = .ok (.iload_n 0, 1) := dk_26 (dk_at dksX10_bits_0 11 rfl rfl)
theorem dX10_bits_12 : decode cX10_bits 12 = .ok (.iload_n 2, 1) := dk_28 (dk_at dksX10_bits_0 12 rfl rfl)
theorem dX10_bits_13 : decode cX10_bits 13 = .ok (.ishr, 1) := dk_122 (dk_at dksX10_bits_0 13 rfl rfl)
theorem dX10_bits_14 : decode cX10_bits 14 = .ok (.iconst 1, 1) := dk_4 (dk_at dksX10_bits_0 14 rfl rfl)
theorem dX10_bits_15 : decode cX10_bits 15 = .ok (.iand, 1) := dk_126 (dk_at dksX10_bits_0 15 rfl rfl)
theorem dX10_bits_16 : decode cX10_bits 16 = .ok (.iadd, 1) := dk_96 (dk_at dksX10_bits_0 16 rfl rfl)
theorem dX10_bits_17 : decode cX10_bits 17 = .ok (.istore_n 1, 1) := dk_60 (dk_at dksX10_bits_0 17 rfl rfl)
theorem dX10_bits_18 : decode cX10_bits 18 = .ok (.iinc 2 1, 3) := dk_132 2 1 (dk_at dksX10_bits_0 18 rfl rfl)
theorem dX10_bits_21 : decode cX10_bits 21 = .ok (.goto (-17), 3) := dk_167 255 239 (dk_at dksX10_bits_0 21 rfl rfl)
theorem dX10_bits_24 : decode cX10_bits 24 = .ok (.iload_n 1, 1) := dk_27 (dk_at dksX10_bits_1 0 rfl rfl)
theorem dX10_bits_25 : decode cX10_bits 25 = .ok (.ireturn, 1) := dk_172 (dk_at dksX10_bits_1 1 rfl rfl)
abbrev cX10_telling : ByteArray := prog_22_method_85_code
def yX10_telling : MethodName := ⟨RX10, "telling", "(II)I"⟩
def dkwX10_telling_4 : List UInt8 := [42, 27, 29, 182, 1, 185, 172]
abbrev dktX10_telling_4 : List UInt8 := dkwX10_telling_4 ++ []
def dkwX10_telling_3 : List UInt8 := [164, 0, 6, 21, 4, 62, 132, 4, 1, 167, 255, 216, 29, 155, 0, 7, 28, 154, 0, 7, 29, 167, 0, 9]
abbrev dktX10_telling_3 : List UInt8 := dkwX10_telling_3 ++ dktX10_telling_4
def dkwX10_telling_2 : List UInt8 := [180, 0, 251, 46, 162, 0, 32, 29, 155, 0, 19, 42, 27, 21, 4, 182, 1, 185, 42, 27, 29, 182, 1, 185]
abbrev dktX10_telling_2 : List UInt8 := dkwX10_telling_2 ++ dktX10_telling_3
def dkwX10_telling_1 : List UInt8 := [154, 0, 6, 16, 254, 172, 42, 182, 1, 91, 16, 254, 62, 3, 54, 4, 21, 4, 42, 180, 0, 73, 42]
abbrev dktX10_telling_1 : List UInt8 := dkwX10_telling_1 ++ dktX10_telling_2
def dkwX10_telling_0 : List UInt8 := [42, 27, 182, 1, 82, 153, 0, 12, 28, 3, 4, 184, 1, 78, 154, 0, 5, 2, 172, 42, 27, 182, 1, 164]
abbrev dktX10_telling_0 : List UInt8 := dkwX10_telling_0 ++ dktX10_telling_1
theorem dksX10_telling_0 : cX10_telling.data.toList.drop 0 = dktX10_telling_0 := by decide +kernel
theorem dksX10_telling_1 : cX10_telling.data.toList.drop 24 = dktX10_telling_1 := dk_seg dksX10_telling_0 24 rfl rfl
theorem dksX10_telling_2 : cX10_telling.data.toList.drop 47 = dktX10_telling_2 := dk_seg dksX10_telling_1 23 rfl rfl
theorem dksX10_telling_3 : cX10_telling.data.toList.drop 71 = dktX10_telling_3 := dk_seg dksX10_telling_2 24 rfl rfl
theorem dksX10_telling_4 : cX10_telling.data.toList.drop 95 = dktX10_telling_4 := dk_seg dksX10_telling_3 24 rfl rfl
theorem dX10_telling_0 : decode cX10_telling 0 = .ok (.aload_n 0, 1) := dk_42 (dk_at dksX10_telling_0 0 rfl rfl)
theorem dX10_telling_1 : decode cX10_telling 1 = .ok (.iload_n 1, 1) := dk_27 (dk_at dksX10_telling_0 1 rfl rfl)
theorem dX10_telling_2 : decode cX10_telling 2 = .ok (.invokevirtual 338, 3) := dk_182 1 82 (dk_at dksX10_telling_0 2 rfl rfl)
theorem dX10_telling_5 : decode cX10_telling 5 = .ok (.ifCond .eq 12, 3) := dk_153 0 12 (dk_at dksX10_telling_0 5 rfl rfl)
theorem dX10_telling_8 : decode cX10_telling 8 = .ok (.iload_n 2, 1) := dk_28 (dk_at dksX10_telling_0 8 rfl rfl)
theorem dX10_telling_9 : decode cX10_telling 9 = .ok (.iconst 0, 1) := dk_3 (dk_at dksX10_telling_0 9 rfl rfl)
theorem dX10_telling_10 : decode cX10_telling 10 = .ok (.iconst 1, 1) := dk_4 (dk_at dksX10_telling_0 10 rfl rfl)
theorem dX10_telling_11 : decode cX10_telling 11 = .ok (.invokestatic 334, 3) := dk_184 1 78 (dk_at dksX10_telling_0 11 rfl rfl)
theorem dX10_telling_14 : decode cX10_telling 14 = .ok (.ifCond .ne 5, 3) := dk_154 0 5 (dk_at dksX10_telling_0 14 rfl rfl)
theorem dX10_telling_17 : decode cX10_telling 17 = .ok (.iconst (-1), 1) := dk_2 (dk_at dksX10_telling_0 17 rfl rfl)
theorem dX10_telling_18 : decode cX10_telling 18 = .ok (.ireturn, 1) := dk_172 (dk_at dksX10_telling_0 18 rfl rfl)
theorem dX10_telling_19 : decode cX10_telling 19 = .ok (.aload_n 0, 1) := dk_42 (dk_at dksX10_telling_0 19 rfl rfl)
theorem dX10_telling_20 : decode cX10_telling 20 = .ok (.iload_n 1, 1) := dk_27 (dk_at dksX10_telling_0 20 rfl rfl)
theorem dX10_telling_21 : decode cX10_telling 21 = .ok (.invokevirtual 420, 3) := dk_182 1 164 (dk_at dksX10_telling_0 21 rfl rfl)
theorem dX10_telling_24 : decode cX10_telling 24 = .ok (.ifCond .ne 6, 3) := dk_154 0 6 (dk_at dksX10_telling_1 0 rfl rfl)
theorem dX10_telling_27 : decode cX10_telling 27 = .ok (.bipush (-2), 2) := dk_16 254 (dk_at dksX10_telling_1 3 rfl rfl)
theorem dX10_telling_29 : decode cX10_telling 29 = .ok (.ireturn, 1) := dk_172 (dk_at dksX10_telling_1 5 rfl rfl)
theorem dX10_telling_30 : decode cX10_telling 30 = .ok (.aload_n 0, 1) := dk_42 (dk_at dksX10_telling_1 6 rfl rfl)
theorem dX10_telling_31 : decode cX10_telling 31 = .ok (.invokevirtual 347, 3) := dk_182 1 91 (dk_at dksX10_telling_1 7 rfl rfl)
theorem dX10_telling_34 : decode cX10_telling 34 = .ok (.bipush (-2), 2) := dk_16 254 (dk_at dksX10_telling_1 10 rfl rfl)
theorem dX10_telling_36 : decode cX10_telling 36 = .ok (.istore_n 3, 1) := dk_62 (dk_at dksX10_telling_1 12 rfl rfl)
theorem dX10_telling_37 : decode cX10_telling 37 = .ok (.iconst 0, 1) := dk_3 (dk_at dksX10_telling_1 13 rfl rfl)
theorem dX10_telling_38 : decode cX10_telling 38 = .ok (.istore 4, 2) := dk_54 4 (dk_at dksX10_telling_1 14 rfl rfl)
theorem dX10_telling_40 : decode cX10_telling 40 = .ok (.iload 4, 2) := dk_21 4 (dk_at dksX10_telling_1 16 rfl rfl)
theorem dX10_telling_42 : decode cX10_telling 42 = .ok (.aload_n 0, 1) := dk_42 (dk_at dksX10_telling_1 18 rfl rfl)
theorem dX10_telling_43 : decode cX10_telling 43 = .ok (.getfield 73, 3) := dk_180 0 73 (dk_at dksX10_telling_1 19 rfl rfl)
theorem dX10_telling_46 : decode cX10_telling 46 = .ok (.aload_n 0, 1) := dk_42 (dk_at dksX10_telling_1 22 rfl rfl)
theorem dX10_telling_47 : decode cX10_telling 47 = .ok (.getfield 251, 3) := dk_180 0 251 (dk_at dksX10_telling_2 0 rfl rfl)
theorem dX10_telling_50 : decode cX10_telling 50 = .ok (.iaload, 1) := dk_46 (dk_at dksX10_telling_2 3 rfl rfl)
theorem dX10_telling_51 : decode cX10_telling 51 = .ok (.if_icmp .ge 32, 3) := dk_162 0 32 (dk_at dksX10_telling_2 4 rfl rfl)
theorem dX10_telling_54 : decode cX10_telling 54 = .ok (.iload_n 3, 1) := dk_29 (dk_at dksX10_telling_2 7 rfl rfl)
theorem dX10_telling_55 : decode cX10_telling 55 = .ok (.ifCond .lt 19, 3) := dk_155 0 19 (dk_at dksX10_telling_2 8 rfl rfl)
theorem dX10_telling_58 : decode cX10_telling 58 = .ok (.aload_n 0, 1) := dk_42 (dk_at dksX10_telling_2 11 rfl rfl)
theorem dX10_telling_59 : decode cX10_telling 59 = .ok (.iload_n 1, 1) := dk_27 (dk_at dksX10_telling_2 12 rfl rfl)
theorem dX10_telling_60 : decode cX10_telling 60 = .ok (.iload 4, 2) := dk_21 4 (dk_at dksX10_telling_2 13 rfl rfl)
theorem dX10_telling_62 : decode cX10_telling 62 = .ok (.invokevirtual 441, 3) := dk_182 1 185 (dk_at dksX10_telling_2 15 rfl rfl)
theorem dX10_telling_65 : decode cX10_telling 65 = .ok (.aload_n 0, 1) := dk_42 (dk_at dksX10_telling_2 18 rfl rfl)
theorem dX10_telling_66 : decode cX10_telling 66 = .ok (.iload_n 1, 1) := dk_27 (dk_at dksX10_telling_2 19 rfl rfl)
theorem dX10_telling_67 : decode cX10_telling 67 = .ok (.iload_n 3, 1) := dk_29 (dk_at dksX10_telling_2 20 rfl rfl)
theorem dX10_telling_68 : decode cX10_telling 68 = .ok (.invokevirtual 441, 3) := dk_182 1 185 (dk_at dksX10_telling_2 21 rfl rfl)
theorem dX10_telling_71 : decode cX10_telling 71 = .ok (.if_icmp .le 6, 3) := dk_164 0 6 (dk_at dksX10_telling_3 0 rfl rfl)
theorem dX10_telling_74 : decode cX10_telling 74 = .ok (.iload 4, 2) := dk_21 4 (dk_at dksX10_telling_3 3 rfl rfl)
theorem dX10_telling_76 : decode cX10_telling 76 = .ok (.istore_n 3, 1) := dk_62 (dk_at dksX10_telling_3 5 rfl rfl)
theorem dX10_telling_77 : decode cX10_telling 77 = .ok (.iinc 4 1, 3) := dk_132 4 1 (dk_at dksX10_telling_3 6 rfl rfl)
theorem dX10_telling_80 : decode cX10_telling 80 = .ok (.goto (-40), 3) := dk_167 255 216 (dk_at dksX10_telling_3 9 rfl rfl)
theorem dX10_telling_83 : decode cX10_telling 83 = .ok (.iload_n 3, 1) := dk_29 (dk_at dksX10_telling_3 12 rfl rfl)
theorem dX10_telling_84 : decode cX10_telling 84 = .ok (.ifCond .lt 7, 3) := dk_155 0 7 (dk_at dksX10_telling_3 13 rfl rfl)
theorem dX10_telling_87 : decode cX10_telling 87 = .ok (.iload_n 2, 1) := dk_28 (dk_at dksX10_telling_3 16 rfl rfl)
theorem dX10_telling_88 : decode cX10_telling 88 = .ok (.ifCond .ne 7, 3) := dk_154 0 7 (dk_at dksX10_telling_3 17 rfl rfl)
theorem dX10_telling_91 : decode cX10_telling 91 = .ok (.iload_n 3, 1) := dk_29 (dk_at dksX10_telling_3 20 rfl rfl)
theorem dX10_telling_92 : decode cX10_telling 92 = .ok (.goto 9, 3) := dk_167 0 9 (dk_at dksX10_telling_3 21 rfl rfl)
theorem dX10_telling_95 : decode cX10_telling 95 = .ok (.aload_n 0, 1) := dk_42 (dk_at dksX10_telling_4 0 rfl rfl)
theorem dX10_telling_96 : decode cX10_telling 96 = .ok (.iload_n 1, 1) := dk_27 (dk_at dksX10_telling_4 1 rfl rfl)
theorem dX10_telling_97 : decode cX10_telling 97 = .ok (.iload_n 3, 1) := dk_29 (dk_at dksX10_telling_4 2 rfl rfl)
theorem dX10_telling_98 : decode cX10_telling 98 = .ok (.invokevirtual 441, 3) := dk_182 1 185 (dk_at dksX10_telling_4 3 rfl rfl)
theorem dX10_telling_101 : decode cX10_telling 101 = .ok (.ireturn, 1) := dk_172 (dk_at dksX10_telling_4 6 rfl rfl)
abbrev cX10_glowBy : ByteArray := prog_22_method_84_code
def yX10_glowBy : MethodName := ⟨RX10, "glowBy", "(II)I"⟩
def dkwX10_glowBy_0 : List UInt8 := [42, 180, 0, 128, 16, 6, 27, 96, 46, 42, 27, 28, 182, 1, 114, 96, 3, 17, 3, 231, 184, 1, 111, 172]
abbrev dktX10_glowBy_0 : List UInt8 := dkwX10_glowBy_0 ++ []
theorem dksX10_glowBy_0 : cX10_glowBy.data.toList.drop 0 = dktX10_glowBy_0 := by decide +kernel
theorem dX10_glowBy_0 : decode cX10_glowBy 0 = .ok (.aload_n 0, 1) := dk_42 (dk_at dksX10_glowBy_0 0 rfl rfl)
theorem dX10_glowBy_1 : decode cX10_glowBy 1 = .ok (.getfield 128, 3) := dk_180 0 128 (dk_at dksX10_glowBy_0 1 rfl rfl)
theorem dX10_glowBy_4 : decode cX10_glowBy 4 = .ok (.bipush 6, 2) := dk_16 6 (dk_at dksX10_glowBy_0 4 rfl rfl)
theorem dX10_glowBy_6 : decode cX10_glowBy 6 = .ok (.iload_n 1, 1) := dk_27 (dk_at dksX10_glowBy_0 6 rfl rfl)
theorem dX10_glowBy_7 : decode cX10_glowBy 7 = .ok (.iadd, 1) := dk_96 (dk_at dksX10_glowBy_0 7 rfl rfl)
theorem dX10_glowBy_8 : decode cX10_glowBy 8 = .ok (.iaload, 1) := dk_46 (dk_at dksX10_glowBy_0 8 rfl rfl)
theorem dX10_glowBy_9 : decode cX10_glowBy 9 = .ok (.aload_n 0, 1) := dk_42 (dk_at dksX10_glowBy_0 9 rfl rfl)
theorem dX10_glowBy_10 : decode cX10_glowBy 10 = .ok (.iload_n 1, 1) := dk_27 (dk_at dksX10_glowBy_0 10 rfl rfl)
theorem dX10_glowBy_11 : decode cX10_glowBy 11 = .ok (.iload_n 2, 1) := dk_28 (dk_at dksX10_glowBy_0 11 rfl rfl)
theorem dX10_glowBy_12 : decode cX10_glowBy 12 = .ok (.invokevirtual 370, 3) := dk_182 1 114 (dk_at dksX10_glowBy_0 12 rfl rfl)
theorem dX10_glowBy_15 : decode cX10_glowBy 15 = .ok (.iadd, 1) := dk_96 (dk_at dksX10_glowBy_0 15 rfl rfl)
theorem dX10_glowBy_16 : decode cX10_glowBy 16 = .ok (.iconst 0, 1) := dk_3 (dk_at dksX10_glowBy_0 16 rfl rfl)
theorem dX10_glowBy_17 : decode cX10_glowBy 17 = .ok (.sipush 999, 3) := dk_17 3 231 (dk_at dksX10_glowBy_0 17 rfl rfl)
theorem dX10_glowBy_20 : decode cX10_glowBy 20 = .ok (.invokestatic 367, 3) := dk_184 1 111 (dk_at dksX10_glowBy_0 20 rfl rfl)
theorem dX10_glowBy_23 : decode cX10_glowBy 23 = .ok (.ireturn, 1) := dk_172 (dk_at dksX10_glowBy_0 23 rfl rfl)
abbrev cX10_keep : ByteArray := prog_22_method_88_code
def yX10_keep : MethodName := ⟨RX10, "keep", "()I"⟩
def dkwX10_keep_2 : List UInt8 := [60, 132, 2, 1, 167, 255, 214, 27, 172]
abbrev dktX10_keep_2 : List UInt8 := dkwX10_keep_2 ++ []
def dkwX10_keep_1 : List UInt8 := [182, 1, 188, 155, 0, 28, 27, 155, 0, 16, 42, 28, 182, 1, 191, 42, 27, 182, 1, 191, 164, 0, 5, 28]
abbrev dktX10_keep_1 : List UInt8 := dkwX10_keep_1 ++ dktX10_keep_2
def dkwX10_keep_0 : List UInt8 := [42, 182, 1, 91, 16, 254, 60, 3, 61, 28, 42, 180, 0, 73, 42, 180, 0, 251, 46, 162, 0, 35, 42]
abbrev dktX10_keep_0 : List UInt8 := dkwX10_keep_0 ++ dktX10_keep_1
theorem dksX10_keep_0 : cX10_keep.data.toList.drop 0 = dktX10_keep_0 := by decide +kernel
theorem dksX10_keep_1 : cX10_keep.data.toList.drop 23 = dktX10_keep_1 := dk_seg dksX10_keep_0 23 rfl rfl
theorem dksX10_keep_2 : cX10_keep.data.toList.drop 47 = dktX10_keep_2 := dk_seg dksX10_keep_1 24 rfl rfl
theorem dX10_keep_0 : decode cX10_keep 0 = .ok (.aload_n 0, 1) := dk_42 (dk_at dksX10_keep_0 0 rfl rfl)
theorem dX10_keep_1 : decode cX10_keep 1 = .ok (.invokevirtual 347, 3) := dk_182 1 91 (dk_at dksX10_keep_0 1 rfl rfl)
theorem dX10_keep_4 : decode cX10_keep 4 = .ok (.bipush (-2), 2) := dk_16 254 (dk_at dksX10_keep_0 4 rfl rfl)
theorem dX10_keep_6 : decode cX10_keep 6 = .ok (.istore_n 1, 1) := dk_60 (dk_at dksX10_keep_0 6 rfl rfl)
theorem dX10_keep_7 : decode cX10_keep 7 = .ok (.iconst 0, 1) := dk_3 (dk_at dksX10_keep_0 7 rfl rfl)
theorem dX10_keep_8 : decode cX10_keep 8 = .ok (.istore_n 2, 1) := dk_61 (dk_at dksX10_keep_0 8 rfl rfl)
theorem dX10_keep_9 : decode cX10_keep 9 = .ok (.iload_n 2, 1) := dk_28 (dk_at dksX10_keep_0 9 rfl rfl)
theorem dX10_keep_10 : decode cX10_keep 10 = .ok (.aload_n 0, 1) := dk_42 (dk_at dksX10_keep_0 10 rfl rfl)
theorem dX10_keep_11 : decode cX10_keep 11 = .ok (.getfield 73, 3) := dk_180 0 73 (dk_at dksX10_keep_0 11 rfl rfl)
theorem dX10_keep_14 : decode cX10_keep 14 = .ok (.aload_n 0, 1) := dk_42 (dk_at dksX10_keep_0 14 rfl rfl)
theorem dX10_keep_15 : decode cX10_keep 15 = .ok (.getfield 251, 3) := dk_180 0 251 (dk_at dksX10_keep_0 15 rfl rfl)
theorem dX10_keep_18 : decode cX10_keep 18 = .ok (.iaload, 1) := dk_46 (dk_at dksX10_keep_0 18 rfl rfl)
theorem dX10_keep_19 : decode cX10_keep 19 = .ok (.if_icmp .ge 35, 3) := dk_162 0 35 (dk_at dksX10_keep_0 19 rfl rfl)
theorem dX10_keep_22 : decode cX10_keep 22 = .ok (.aload_n 0, 1) := dk_42 (dk_at dksX10_keep_0 22 rfl rfl)
theorem dX10_keep_23 : decode cX10_keep 23 = .ok (.invokevirtual 444, 3) := dk_182 1 188 (dk_at dksX10_keep_1 0 rfl rfl)
theorem dX10_keep_26 : decode cX10_keep 26 = .ok (.ifCond .lt 28, 3) := dk_155 0 28 (dk_at dksX10_keep_1 3 rfl rfl)
theorem dX10_keep_29 : decode cX10_keep 29 = .ok (.iload_n 1, 1) := dk_27 (dk_at dksX10_keep_1 6 rfl rfl)
theorem dX10_keep_30 : decode cX10_keep 30 = .ok (.ifCond .lt 16, 3) := dk_155 0 16 (dk_at dksX10_keep_1 7 rfl rfl)
theorem dX10_keep_33 : decode cX10_keep 33 = .ok (.aload_n 0, 1) := dk_42 (dk_at dksX10_keep_1 10 rfl rfl)
theorem dX10_keep_34 : decode cX10_keep 34 = .ok (.iload_n 2, 1) := dk_28 (dk_at dksX10_keep_1 11 rfl rfl)
theorem dX10_keep_35 : decode cX10_keep 35 = .ok (.invokevirtual 447, 3) := dk_182 1 191 (dk_at dksX10_keep_1 12 rfl rfl)
theorem dX10_keep_38 : decode cX10_keep 38 = .ok (.aload_n 0, 1) := dk_42 (dk_at dksX10_keep_1 15 rfl rfl)
theorem dX10_keep_39 : decode cX10_keep 39 = .ok (.iload_n 1, 1) := dk_27 (dk_at dksX10_keep_1 16 rfl rfl)
theorem dX10_keep_40 : decode cX10_keep 40 = .ok (.invokevirtual 447, 3) := dk_182 1 191 (dk_at dksX10_keep_1 17 rfl rfl)
theorem dX10_keep_43 : decode cX10_keep 43 = .ok (.if_icmp .le 5, 3) := dk_164 0 5 (dk_at dksX10_keep_1 20 rfl rfl)
theorem dX10_keep_46 : decode cX10_keep 46 = .ok (.iload_n 2, 1) := dk_28 (dk_at dksX10_keep_1 23 rfl rfl)
theorem dX10_keep_47 : decode cX10_keep 47 = .ok (.istore_n 1, 1) := dk_60 (dk_at dksX10_keep_2 0 rfl rfl)
theorem dX10_keep_48 : decode cX10_keep 48 = .ok (.iinc 2 1, 3) := dk_132 2 1 (dk_at dksX10_keep_2 1 rfl rfl)
theorem dX10_keep_51 : decode cX10_keep 51 = .ok (.goto (-42), 3) := dk_167 255 214 (dk_at dksX10_keep_2 4 rfl rfl)
theorem dX10_keep_54 : decode cX10_keep 54 = .ok (.iload_n 1, 1) := dk_27 (dk_at dksX10_keep_2 7 rfl rfl)
theorem dX10_keep_55 : decode cX10_keep 55 = .ok (.ireturn, 1) := dk_172 (dk_at dksX10_keep_2 8 rfl rfl)
abbrev cX10_firstOut : ByteArray := prog_22_method_86_code
def yX10_firstOut : MethodName := ⟨RX10, "firstOut", "()I"⟩
def dkwX10_firstOut_1 : List UInt8 := [172, 132, 1, 1, 167, 255, 230, 2, 172]
abbrev dktX10_firstOut_1 : List UInt8 := dkwX10_firstOut_1 ++ []
def dkwX10_firstOut_0 : List UInt8 := [3, 60, 27, 42, 180, 0, 61, 42, 180, 0, 251, 46, 162, 0, 19, 42, 27, 182, 1, 164, 153, 0, 5, 27]
abbrev dktX10_firstOut_0 : List UInt8 := dkwX10_firstOut_0 ++ dktX10_firstOut_1
theorem dksX10_firstOut_0 : cX10_firstOut.data.toList.drop 0 = dktX10_firstOut_0 := by decide +kernel
theorem dksX10_firstOut_1 : cX10_firstOut.data.toList.drop 24 = dktX10_firstOut_1 := dk_seg dksX10_firstOut_0 24 rfl rfl
theorem dX10_firstOut_0 : decode cX10_firstOut 0 = .ok (.iconst 0, 1) := dk_3 (dk_at dksX10_firstOut_0 0 rfl rfl)
theorem dX10_firstOut_1 : decode cX10_firstOut 1 = .ok (.istore_n 1, 1) := dk_60 (dk_at dksX10_firstOut_0 1 rfl rfl)
theorem dX10_firstOut_2 : decode cX10_firstOut 2 = .ok (.iload_n 1, 1) := dk_27 (dk_at dksX10_firstOut_0 2 rfl rfl)
theorem dX10_firstOut_3 : decode cX10_firstOut 3 = .ok (.aload_n 0, 1) := dk_42 (dk_at dksX10_firstOut_0 3 rfl rfl)
theorem dX10_firstOut_4 : decode cX10_firstOut 4 = .ok (.getfield 61, 3) := dk_180 0 61 (dk_at dksX10_firstOut_0 4 rfl rfl)
theorem dX10_firstOut_7 : decode cX10_firstOut 7 = .ok (.aload_n 0, 1) := dk_42 (dk_at dksX10_firstOut_0 7 rfl rfl)
theorem dX10_firstOut_8 : decode cX10_firstOut 8 = .ok (.getfield 251, 3) := dk_180 0 251 (dk_at dksX10_firstOut_0 8 rfl rfl)
theorem dX10_firstOut_11 : decode cX10_firstOut 11 = .ok (.iaload, 1) := dk_46 (dk_at dksX10_firstOut_0 11 rfl rfl)
theorem dX10_firstOut_12 : decode cX10_firstOut 12 = .ok (.if_icmp .ge 19, 3) := dk_162 0 19 (dk_at dksX10_firstOut_0 12 rfl rfl)
theorem dX10_firstOut_15 : decode cX10_firstOut 15 = .ok (.aload_n 0, 1) := dk_42 (dk_at dksX10_firstOut_0 15 rfl rfl)
theorem dX10_firstOut_16 : decode cX10_firstOut 16 = .ok (.iload_n 1, 1) := dk_27 (dk_at dksX10_firstOut_0 16 rfl rfl)
theorem dX10_firstOut_17 : decode cX10_firstOut 17 = .ok (.invokevirtual 420, 3) := dk_182 1 164 (dk_at dksX10_firstOut_0 17 rfl rfl)
theorem dX10_firstOut_20 : decode cX10_firstOut 20 = .ok (.ifCond .eq 5, 3) := dk_153 0 5 (dk_at dksX10_firstOut_0 20 rfl rfl)
theorem dX10_firstOut_23 : decode cX10_firstOut 23 = .ok (.iload_n 1, 1) := dk_27 (dk_at dksX10_firstOut_0 23 rfl rfl)
theorem dX10_firstOut_24 : decode cX10_firstOut 24 = .ok (.ireturn, 1) := dk_172 (dk_at dksX10_firstOut_1 0 rfl rfl)
theorem dX10_firstOut_25 : decode cX10_firstOut 25 = .ok (.iinc 1 1, 3) := dk_132 1 1 (dk_at dksX10_firstOut_1 1 rfl rfl)
theorem dX10_firstOut_28 : decode cX10_firstOut 28 = .ok (.goto (-26), 3) := dk_167 255 230 (dk_at dksX10_firstOut_1 4 rfl rfl)
theorem dX10_firstOut_31 : decode cX10_firstOut 31 = .ok (.iconst (-1), 1) := dk_2 (dk_at dksX10_firstOut_1 7 rfl rfl)
theorem dX10_firstOut_32 : decode cX10_firstOut 32 = .ok (.ireturn, 1) := dk_172 (dk_at dksX10_firstOut_1 8 rfl rfl)
abbrev cX10_keepBy : ByteArray := prog_22_method_87_code
def yX10_keepBy : MethodName := ⟨RX10, "keepBy", "(I)I"⟩
def dkwX10_keepBy_0 : List UInt8 := [42, 180, 0, 128, 16, 36, 27, 96, 46, 42, 42, 182, 1, 188, 27, 182, 1, 117, 100, 172]
abbrev dktX10_keepBy_0 : List UInt8 := dkwX10_keepBy_0 ++ []
theorem dksX10_keepBy_0 : cX10_keepBy.data.toList.drop 0 = dktX10_keepBy_0 := by decide +kernel
theorem dX10_keepBy_0 : decode cX10_keepBy 0 = .ok (.aload_n 0, 1) := dk_42 (dk_at dksX10_keepBy_0 0 rfl rfl)
theorem dX10_keepBy_1 : decode cX10_keepBy 1 = .ok (.getfield 128, 3) := dk_180 0 128 (dk_at dksX10_keepBy_0 1 rfl rfl)
theorem dX10_keepBy_4 : decode cX10_keepBy 4 = .ok (.bipush 36, 2) := dk_16 36 (dk_at dksX10_keepBy_0 4 rfl rfl)
theorem dX10_keepBy_6 : decode cX10_keepBy 6 = .ok (.iload_n 1, 1) := dk_27 (dk_at dksX10_keepBy_0 6 rfl rfl)
theorem dX10_keepBy_7 : decode cX10_keepBy 7 = .ok (.iadd, 1) := dk_96 (dk_at dksX10_keepBy_0 7 rfl rfl)
theorem dX10_keepBy_8 : decode cX10_keepBy 8 = .ok (.iaload, 1) := dk_46 (dk_at dksX10_keepBy_0 8 rfl rfl)
theorem dX10_keepBy_9 : decode cX10_keepBy 9 = .ok (.aload_n 0, 1) := dk_42 (dk_at dksX10_keepBy_0 9 rfl rfl)
theorem dX10_keepBy_10 : decode cX10_keepBy 10 = .ok (.aload_n 0, 1) := dk_42 (dk_at dksX10_keepBy_0 10 rfl rfl)
theorem dX10_keepBy_11 : decode cX10_keepBy 11 = .ok (.invokevirtual 444, 3) := dk_182 1 188 (dk_at dksX10_keepBy_0 11 rfl rfl)
theorem dX10_keepBy_14 : decode cX10_keepBy 14 = .ok (.iload_n 1, 1) := dk_27 (dk_at dksX10_keepBy_0 14 rfl rfl)
theorem dX10_keepBy_15 : decode cX10_keepBy 15 = .ok (.invokevirtual 373, 3) := dk_182 1 117 (dk_at dksX10_keepBy_0 15 rfl rfl)
theorem dX10_keepBy_18 : decode cX10_keepBy 18 = .ok (.isub, 1) := dk_100 (dk_at dksX10_keepBy_0 18 rfl rfl)
theorem dX10_keepBy_19 : decode cX10_keepBy 19 = .ok (.ireturn, 1) := dk_172 (dk_at dksX10_keepBy_0 19 rfl rfl)
abbrev cX10_twins : ByteArray := prog_22_method_89_code
def yX10_twins : MethodName := ⟨RX10, "twins", "(I)I"⟩
def dkwX10_twins_7 : List UInt8 := [27, 154, 0, 7, 28, 167, 0, 4, 29, 172]
abbrev dktX10_twins_7 : List UInt8 := dkwX10_twins_7 ++ []
def dkwX10_twins_6 : List UInt8 := [16, 10, 21, 4, 104, 21, 5, 96, 61, 21, 6, 62, 132, 5, 1, 167, 255, 142, 132, 4, 1, 167, 255, 116]
abbrev dktX10_twins_6 : List UInt8 := dkwX10_twins_6 ++ dktX10_twins_7
def dkwX10_twins_5 : List UInt8 := [21, 8, 96, 54, 6, 132, 7, 1, 167, 255, 193, 28, 155, 0, 12, 21, 6, 29, 161, 0, 6, 167, 0, 15]
abbrev dktX10_twins_5 : List UInt8 := dkwX10_twins_5 ++ dktX10_twins_6
def dkwX10_twins_4 : List UInt8 := [54, 8, 42, 21, 7, 182, 1, 164, 153, 0, 21, 21, 6, 21, 8, 156, 0, 9, 21, 8, 116, 167, 0, 5]
abbrev dktX10_twins_4 : List UInt8 := dkwX10_twins_4 ++ dktX10_twins_5
def dkwX10_twins_3 : List UInt8 := [180, 0, 251, 46, 162, 0, 55, 42, 21, 7, 21, 4, 182, 1, 114, 42, 21, 7, 21, 5, 182, 1, 114, 100]
abbrev dktX10_twins_3 : List UInt8 := dkwX10_twins_3 ++ dktX10_twins_4
def dkwX10_twins_2 : List UInt8 := [180, 0, 73, 42, 180, 0, 251, 46, 162, 0, 106, 3, 54, 6, 3, 54, 7, 21, 7, 42, 180, 0, 61, 42]
abbrev dktX10_twins_2 : List UInt8 := dkwX10_twins_2 ++ dktX10_twins_3
def dkwX10_twins_1 : List UInt8 := [21, 4, 42, 180, 0, 73, 42, 180, 0, 251, 46, 162, 0, 132, 21, 4, 4, 96, 54, 5, 21, 5, 42]
abbrev dktX10_twins_1 : List UInt8 := dkwX10_twins_1 ++ dktX10_twins_2
def dkwX10_twins_0 : List UInt8 := [27, 3, 4, 184, 1, 78, 154, 0, 5, 2, 172, 42, 182, 1, 91, 16, 254, 61, 16, 254, 62, 3, 54, 4]
abbrev dktX10_twins_0 : List UInt8 := dkwX10_twins_0 ++ dktX10_twins_1
theorem dksX10_twins_0 : cX10_twins.data.toList.drop 0 = dktX10_twins_0 := by decide +kernel
theorem dksX10_twins_1 : cX10_twins.data.toList.drop 24 = dktX10_twins_1 := dk_seg dksX10_twins_0 24 rfl rfl
theorem dksX10_twins_2 : cX10_twins.data.toList.drop 47 = dktX10_twins_2 := dk_seg dksX10_twins_1 23 rfl rfl
theorem dksX10_twins_3 : cX10_twins.data.toList.drop 71 = dktX10_twins_3 := dk_seg dksX10_twins_2 24 rfl rfl
theorem dksX10_twins_4 : cX10_twins.data.toList.drop 95 = dktX10_twins_4 := dk_seg dksX10_twins_3 24 rfl rfl
theorem dksX10_twins_5 : cX10_twins.data.toList.drop 119 = dktX10_twins_5 := dk_seg dksX10_twins_4 24 rfl rfl
theorem dksX10_twins_6 : cX10_twins.data.toList.drop 143 = dktX10_twins_6 := dk_seg dksX10_twins_5 24 rfl rfl
theorem dksX10_twins_7 : cX10_twins.data.toList.drop 167 = dktX10_twins_7 := dk_seg dksX10_twins_6 24 rfl rfl
theorem dX10_twins_0 : decode cX10_twins 0 = .ok (.iload_n 1, 1) := dk_27 (dk_at dksX10_twins_0 0 rfl rfl)
theorem dX10_twins_1 : decode cX10_twins 1 = .ok (.iconst 0, 1) := dk_3 (dk_at dksX10_twins_0 1 rfl rfl)
theorem dX10_twins_2 : decode cX10_twins 2 = .ok (.iconst 1, 1) := dk_4 (dk_at dksX10_twins_0 2 rfl rfl)
theorem dX10_twins_3 : decode cX10_twins 3 = .ok (.invokestatic 334, 3) := dk_184 1 78 (dk_at dksX10_twins_0 3 rfl rfl)
theorem dX10_twins_6 : decode cX10_twins 6 = .ok (.ifCond .ne 5, 3) := dk_154 0 5 (dk_at dksX10_twins_0 6 rfl rfl)
theorem dX10_twins_9 : decode cX10_twins 9 = .ok (.iconst (-1), 1) := dk_2 (dk_at dksX10_twins_0 9 rfl rfl)
theorem dX10_twins_10 : decode cX10_twins 10 = .ok (.ireturn, 1) := dk_172 (dk_at dksX10_twins_0 10 rfl rfl)
theorem dX10_twins_11 : decode cX10_twins 11 = .ok (.aload_n 0, 1) := dk_42 (dk_at dksX10_twins_0 11 rfl rfl)
theorem dX10_twins_12 : decode cX10_twins 12 = .ok (.invokevirtual 347, 3) := dk_182 1 91 (dk_at dksX10_twins_0 12 rfl rfl)
theorem dX10_twins_15 : decode cX10_twins 15 = .ok (.bipush (-2), 2) := dk_16 254 (dk_at dksX10_twins_0 15 rfl rfl)
theorem dX10_twins_17 : decode cX10_twins 17 = .ok (.istore_n 2, 1) := dk_61 (dk_at dksX10_twins_0 17 rfl rfl)
theorem dX10_twins_18 : decode cX10_twins 18 = .ok (.bipush (-2), 2) := dk_16 254 (dk_at dksX10_twins_0 18 rfl rfl)
theorem dX10_twins_20 : decode cX10_twins 20 = .ok (.istore_n 3, 1) := dk_62 (dk_at dksX10_twins_0 20 rfl rfl)
theorem dX10_twins_21 : decode cX10_twins 21 = .ok (.iconst 0, 1) := dk_3 (dk_at dksX10_twins_0 21 rfl rfl)
theorem dX10_twins_22 : decode cX10_twins 22 = .ok (.istore 4, 2) := dk_54 4 (dk_at dksX10_twins_0 22 rfl rfl)
theorem dX10_twins_24 : decode cX10_twins 24 = .ok (.iload 4, 2) := dk_21 4 (dk_at dksX10_twins_1 0 rfl rfl)
theorem dX10_twins_26 : decode cX10_twins 26 = .ok (.aload_n 0, 1) := dk_42 (dk_at dksX10_twins_1 2 rfl rfl)
theorem dX10_twins_27 : decode cX10_twins 27 = .ok (.getfield 73, 3) := dk_180 0 73 (dk_at dksX10_twins_1 3 rfl rfl)
theorem dX10_twins_30 : decode cX10_twins 30 = .ok (.aload_n 0, 1) := dk_42 (dk_at dksX10_twins_1 6 rfl rfl)
theorem dX10_twins_31 : decode cX10_twins 31 = .ok (.getfield 251, 3) := dk_180 0 251 (dk_at dksX10_twins_1 7 rfl rfl)
theorem dX10_twins_34 : decode cX10_twins 34 = .ok (.iaload, 1) := dk_46 (dk_at dksX10_twins_1 10 rfl rfl)
theorem dX10_twins_35 : decode cX10_twins 35 = .ok (.if_icmp .ge 132, 3) := dk_162 0 132 (dk_at dksX10_twins_1 11 rfl rfl)
theorem dX10_twins_38 : decode cX10_twins 38 = .ok (.iload 4, 2) := dk_21 4 (dk_at dksX10_twins_1 14 rfl rfl)
theorem dX10_twins_40 : decode cX10_twins 40 = .ok (.iconst 1, 1) := dk_4 (dk_at dksX10_twins_1 16 rfl rfl)
theorem dX10_twins_41 : decode cX10_twins 41 = .ok (.iadd, 1) := dk_96 (dk_at dksX10_twins_1 17 rfl rfl)
theorem dX10_twins_42 : decode cX10_twins 42 = .ok (.istore 5, 2) := dk_54 5 (dk_at dksX10_twins_1 18 rfl rfl)
theorem dX10_twins_44 : decode cX10_twins 44 = .ok (.iload 5, 2) := dk_21 5 (dk_at dksX10_twins_1 20 rfl rfl)
theorem dX10_twins_46 : decode cX10_twins 46 = .ok (.aload_n 0, 1) := dk_42 (dk_at dksX10_twins_1 22 rfl rfl)
theorem dX10_twins_47 : decode cX10_twins 47 = .ok (.getfield 73, 3) := dk_180 0 73 (dk_at dksX10_twins_2 0 rfl rfl)
theorem dX10_twins_50 : decode cX10_twins 50 = .ok (.aload_n 0, 1) := dk_42 (dk_at dksX10_twins_2 3 rfl rfl)
theorem dX10_twins_51 : decode cX10_twins 51 = .ok (.getfield 251, 3) := dk_180 0 251 (dk_at dksX10_twins_2 4 rfl rfl)
theorem dX10_twins_54 : decode cX10_twins 54 = .ok (.iaload, 1) := dk_46 (dk_at dksX10_twins_2 7 rfl rfl)
theorem dX10_twins_55 : decode cX10_twins 55 = .ok (.if_icmp .ge 106, 3) := dk_162 0 106 (dk_at dksX10_twins_2 8 rfl rfl)
theorem dX10_twins_58 : decode cX10_twins 58 = .ok (.iconst 0, 1) := dk_3 (dk_at dksX10_twins_2 11 rfl rfl)
theorem dX10_twins_59 : decode cX10_twins 59 = .ok (.istore 6, 2) := dk_54 6 (dk_at dksX10_twins_2 12 rfl rfl)
theorem dX10_twins_61 : decode cX10_twins 61 = .ok (.iconst 0, 1) := dk_3 (dk_at dksX10_twins_2 14 rfl rfl)
theorem dX10_twins_62 : decode cX10_twins 62 = .ok (.istore 7, 2) := dk_54 7 (dk_at dksX10_twins_2 15 rfl rfl)
theorem dX10_twins_64 : decode cX10_twins 64 = .ok (.iload 7, 2) := dk_21 7 (dk_at dksX10_twins_2 17 rfl rfl)
theorem dX10_twins_66 : decode cX10_twins 66 = .ok (.aload_n 0, 1) := dk_42 (dk_at dksX10_twins_2 19 rfl rfl)
theorem dX10_twins_67 : decode cX10_twins 67 = .ok (.getfield 61, 3) := dk_180 0 61 (dk_at dksX10_twins_2 20 rfl rfl)
theorem dX10_twins_70 : decode cX10_twins 70 = .ok (.aload_n 0, 1) := dk_42 (dk_at dksX10_twins_2 23 rfl rfl)
theorem dX10_twins_71 : decode cX10_twins 71 = .ok (.getfield 251, 3) := dk_180 0 251 (dk_at dksX10_twins_3 0 rfl rfl)
theorem dX10_twins_74 : decode cX10_twins 74 = .ok (.iaload, 1) := dk_46 (dk_at dksX10_twins_3 3 rfl rfl)
theorem dX10_twins_75 : decode cX10_twins 75 = .ok (.if_icmp .ge 55, 3) := dk_162 0 55 (dk_at dksX10_twins_3 4 rfl rfl)
theorem dX10_twins_78 : decode cX10_twins 78 = .ok (.aload_n 0, 1) := dk_42 (dk_at dksX10_twins_3 7 rfl rfl)
theorem dX10_twins_79 : decode cX10_twins 79 = .ok (.iload 7, 2) := dk_21 7 (dk_at dksX10_twins_3 8 rfl rfl)
theorem dX10_twins_81 : decode cX10_twins 81 = .ok (.iload 4, 2) := dk_21 4 (dk_at dksX10_twins_3 10 rfl rfl)
theorem dX10_twins_83 : decode cX10_twins 83 = .ok (.invokevirtual 370, 3) := dk_182 1 114 (dk_at dksX10_twins_3 12 rfl rfl)
theorem dX10_twins_86 : decode cX10_twins 86 = .ok (.aload_n 0, 1) := dk_42 (dk_at dksX10_twins_3 15 rfl rfl)
theorem dX10_twins_87 : decode cX10_twins 87 = .ok (.iload 7, 2) := dk_21 7 (dk_at dksX10_twins_3 16 rfl rfl)
theorem dX10_twins_89 : decode cX10_twins 89 = .ok (.iload 5, 2) := dk_21 5 (dk_at dksX10_twins_3 18 rfl rfl)
theorem dX10_twins_91 : decode cX10_twins 91 = .ok (.invokevirtual 370, 3) := dk_182 1 114 (dk_at dksX10_twins_3 20 rfl rfl)
theorem dX10_twins_94 : decode cX10_twins 94 = .ok (.isub, 1) := dk_100 (dk_at dksX10_twins_3 23 rfl rfl)
theorem dX10_twins_95 : decode cX10_twins 95 = .ok (.istore 8, 2) := dk_54 8 (dk_at dksX10_twins_4 0 rfl rfl)
theorem dX10_twins_97 : decode cX10_twins 97 = .ok (.aload_n 0, 1) := dk_42 (dk_at dksX10_twins_4 2 rfl rfl)
theorem dX10_twins_98 : decode cX10_twins 98 = .ok (.iload 7, 2) := dk_21 7 (dk_at dksX10_twins_4 3 rfl rfl)
theorem dX10_twins_100 : decode cX10_twins 100 = .ok (.invokevirtual 420, 3) := dk_182 1 164 (dk_at dksX10_twins_4 5 rfl rfl)
theorem dX10_twins_103 : decode cX10_twins 103 = .ok (.ifCond .eq 21, 3) := dk_153 0 21 (dk_at dksX10_twins_4 8 rfl rfl)
theorem dX10_twins_106 : decode cX10_twins 106 = .ok (.iload 6, 2) := dk_21 6 (dk_at dksX10_twins_4 11 rfl rfl)
theorem dX10_twins_108 : decode cX10_twins 108 = .ok (.iload 8, 2) := dk_21 8 (dk_at dksX10_twins_4 13 rfl rfl)
theorem dX10_twins_110 : decode cX10_twins 110 = .ok (.ifCond .ge 9, 3) := dk_156 0 9 (dk_at dksX10_twins_4 15 rfl rfl)
theorem dX10_twins_113 : decode cX10_twins 113 = .ok (.iload 8, 2) := dk_21 8 (dk_at dksX10_twins_4 18 rfl rfl)
theorem dX10_twins_115 : decode cX10_twins 115 = .ok (.ineg, 1) := dk_116 (dk_at dksX10_twins_4 20 rfl rfl)
theorem dX10_twins_116 : decode cX10_twins 116 = .ok (.goto 5, 3) := dk_167 0 5 (dk_at dksX10_twins_4 21 rfl rfl)
theorem dX10_twins_119 : decode cX10_twins 119 = .ok (.iload 8, 2) := dk_21 8 (dk_at dksX10_twins_5 0 rfl rfl)
theorem dX10_twins_121 : decode cX10_twins 121 = .ok (.iadd, 1) := dk_96 (dk_at dksX10_twins_5 2 rfl rfl)
theorem dX10_twins_122 : decode cX10_twins 122 = .ok (.istore 6, 2) := dk_54 6 (dk_at dksX10_twins_5 3 rfl rfl)
theorem dX10_twins_124 : decode cX10_twins 124 = .ok (.iinc 7 1, 3) := dk_132 7 1 (dk_at dksX10_twins_5 5 rfl rfl)
theorem dX10_twins_127 : decode cX10_twins 127 = .ok (.goto (-63), 3) := dk_167 255 193 (dk_at dksX10_twins_5 8 rfl rfl)
theorem dX10_twins_130 : decode cX10_twins 130 = .ok (.iload_n 2, 1) := dk_28 (dk_at dksX10_twins_5 11 rfl rfl)
theorem dX10_twins_131 : decode cX10_twins 131 = .ok (.ifCond .lt 12, 3) := dk_155 0 12 (dk_at dksX10_twins_5 12 rfl rfl)
theorem dX10_twins_134 : decode cX10_twins 134 = .ok (.iload 6, 2) := dk_21 6 (dk_at dksX10_twins_5 15 rfl rfl)
theorem dX10_twins_136 : decode cX10_twins 136 = .ok (.iload_n 3, 1) := dk_29 (dk_at dksX10_twins_5 17 rfl rfl)
theorem dX10_twins_137 : decode cX10_twins 137 = .ok (.if_icmp .lt 6, 3) := dk_161 0 6 (dk_at dksX10_twins_5 18 rfl rfl)
theorem dX10_twins_140 : decode cX10_twins 140 = .ok (.goto 15, 3) := dk_167 0 15 (dk_at dksX10_twins_5 21 rfl rfl)
theorem dX10_twins_143 : decode cX10_twins 143 = .ok (.bipush 10, 2) := dk_16 10 (dk_at dksX10_twins_6 0 rfl rfl)
theorem dX10_twins_145 : decode cX10_twins 145 = .ok (.iload 4, 2) := dk_21 4 (dk_at dksX10_twins_6 2 rfl rfl)
theorem dX10_twins_147 : decode cX10_twins 147 = .ok (.imul, 1) := dk_104 (dk_at dksX10_twins_6 4 rfl rfl)
theorem dX10_twins_148 : decode cX10_twins 148 = .ok (.iload 5, 2) := dk_21 5 (dk_at dksX10_twins_6 5 rfl rfl)
theorem dX10_twins_150 : decode cX10_twins 150 = .ok (.iadd, 1) := dk_96 (dk_at dksX10_twins_6 7 rfl rfl)
theorem dX10_twins_151 : decode cX10_twins 151 = .ok (.istore_n 2, 1) := dk_61 (dk_at dksX10_twins_6 8 rfl rfl)
theorem dX10_twins_152 : decode cX10_twins 152 = .ok (.iload 6, 2) := dk_21 6 (dk_at dksX10_twins_6 9 rfl rfl)
theorem dX10_twins_154 : decode cX10_twins 154 = .ok (.istore_n 3, 1) := dk_62 (dk_at dksX10_twins_6 11 rfl rfl)
theorem dX10_twins_155 : decode cX10_twins 155 = .ok (.iinc 5 1, 3) := dk_132 5 1 (dk_at dksX10_twins_6 12 rfl rfl)
theorem dX10_twins_158 : decode cX10_twins 158 = .ok (.goto (-114), 3) := dk_167 255 142 (dk_at dksX10_twins_6 15 rfl rfl)
theorem dX10_twins_161 : decode cX10_twins 161 = .ok (.iinc 4 1, 3) := dk_132 4 1 (dk_at dksX10_twins_6 18 rfl rfl)
theorem dX10_twins_164 : decode cX10_twins 164 = .ok (.goto (-140), 3) := dk_167 255 116 (dk_at dksX10_twins_6 21 rfl rfl)
theorem dX10_twins_167 : decode cX10_twins 167 = .ok (.iload_n 1, 1) := dk_27 (dk_at dksX10_twins_7 0 rfl rfl)
theorem dX10_twins_168 : decode cX10_twins 168 = .ok (.ifCond .ne 7, 3) := dk_154 0 7 (dk_at dksX10_twins_7 1 rfl rfl)
theorem dX10_twins_171 : decode cX10_twins 171 = .ok (.iload_n 2, 1) := dk_28 (dk_at dksX10_twins_7 4 rfl rfl)
theorem dX10_twins_172 : decode cX10_twins 172 = .ok (.goto 4, 3) := dk_167 0 4 (dk_at dksX10_twins_7 5 rfl rfl)
theorem dX10_twins_175 : decode cX10_twins 175 = .ok (.iload_n 3, 1) := dk_29 (dk_at dksX10_twins_7 8 rfl rfl)
theorem dX10_twins_176 : decode cX10_twins 176 = .ok (.ireturn, 1) := dk_172 (dk_at dksX10_twins_7 9 rfl rfl)
abbrev cX10_steps : ByteArray := prog_22_method_92_code
def yX10_steps : MethodName := ⟨RX10, "steps", "(II)I"⟩
def dkwX10_steps_1 : List UInt8 := [182, 1, 194, 42, 28, 182, 1, 197, 172]
abbrev dktX10_steps_1 : List UInt8 := dkwX10_steps_1 ++ []
def dkwX10_steps_0 : List UInt8 := [42, 27, 182, 1, 136, 153, 0, 11, 42, 28, 182, 1, 136, 154, 0, 5, 2, 172, 42, 27, 3, 3]
abbrev dktX10_steps_0 : List UInt8 := dkwX10_steps_0 ++ dktX10_steps_1
theorem dksX10_steps_0 : cX10_steps.data.toList.drop 0 = dktX10_steps_0 := by decide +kernel
theorem dksX10_steps_1 : cX10_steps.data.toList.drop 22 = dktX10_steps_1 := dk_seg dksX10_steps_0 22 rfl rfl
theorem dX10_steps_0 : decode cX10_steps 0 = .ok (.aload_n 0, 1) := dk_42 (dk_at dksX10_steps_0 0 rfl rfl)
theorem dX10_steps_1 : decode cX10_steps 1 = .ok (.iload_n 1, 1) := dk_27 (dk_at dksX10_steps_0 1 rfl rfl)
theorem dX10_steps_2 : decode cX10_steps 2 = .ok (.invokevirtual 392, 3) := dk_182 1 136 (dk_at dksX10_steps_0 2 rfl rfl)
theorem dX10_steps_5 : decode cX10_steps 5 = .ok (.ifCond .eq 11, 3) := dk_153 0 11 (dk_at dksX10_steps_0 5 rfl rfl)
theorem dX10_steps_8 : decode cX10_steps 8 = .ok (.aload_n 0, 1) := dk_42 (dk_at dksX10_steps_0 8 rfl rfl)
theorem dX10_steps_9 : decode cX10_steps 9 = .ok (.iload_n 2, 1) := dk_28 (dk_at dksX10_steps_0 9 rfl rfl)
theorem dX10_steps_10 : decode cX10_steps 10 = .ok (.invokevirtual 392, 3) := dk_182 1 136 (dk_at dksX10_steps_0 10 rfl rfl)
theorem dX10_steps_13 : decode cX10_steps 13 = .ok (.ifCond .ne 5, 3) := dk_154 0 5 (dk_at dksX10_steps_0 13 rfl rfl)
theorem dX10_steps_16 : decode cX10_steps 16 = .ok (.iconst (-1), 1) := dk_2 (dk_at dksX10_steps_0 16 rfl rfl)
theorem dX10_steps_17 : decode cX10_steps 17 = .ok (.ireturn, 1) := dk_172 (dk_at dksX10_steps_0 17 rfl rfl)
theorem dX10_steps_18 : decode cX10_steps 18 = .ok (.aload_n 0, 1) := dk_42 (dk_at dksX10_steps_0 18 rfl rfl)
theorem dX10_steps_19 : decode cX10_steps 19 = .ok (.iload_n 1, 1) := dk_27 (dk_at dksX10_steps_0 19 rfl rfl)
theorem dX10_steps_20 : decode cX10_steps 20 = .ok (.iconst 0, 1) := dk_3 (dk_at dksX10_steps_0 20 rfl rfl)
theorem dX10_steps_21 : decode cX10_steps 21 = .ok (.iconst 0, 1) := dk_3 (dk_at dksX10_steps_0 21 rfl rfl)
theorem dX10_steps_22 : decode cX10_steps 22 = .ok (.invokevirtual 450, 3) := dk_182 1 194 (dk_at dksX10_steps_1 0 rfl rfl)
theorem dX10_steps_25 : decode cX10_steps 25 = .ok (.aload_n 0, 1) := dk_42 (dk_at dksX10_steps_1 3 rfl rfl)
theorem dX10_steps_26 : decode cX10_steps 26 = .ok (.iload_n 2, 1) := dk_28 (dk_at dksX10_steps_1 4 rfl rfl)
theorem dX10_steps_27 : decode cX10_steps 27 = .ok (.invokevirtual 453, 3) := dk_182 1 197 (dk_at dksX10_steps_1 5 rfl rfl)
theorem dX10_steps_30 : decode cX10_steps 30 = .ok (.ireturn, 1) := dk_172 (dk_at dksX10_steps_1 8 rfl rfl)
abbrev cX10_fillsFar : ByteArray := prog_22_method_90_code
def yX10_fillsFar : MethodName := ⟨RX10, "fillsFar", "(III)V"⟩
def dkwX10_fillsFar_9 : List UInt8 := [167, 255, 85, 177]
abbrev dktX10_fillsFar_9 : List UInt8 := dkwX10_fillsFar_9 ++ []
def dkwX10_fillsFar_8 : List UInt8 := [21, 7, 42, 180, 0, 146, 21, 8, 46, 21, 6, 96, 79, 132, 5, 1, 167, 255, 101, 132, 4, 1]
abbrev dktX10_fillsFar_8 : List UInt8 := dkwX10_fillsFar_8 ++ dktX10_fillsFar_9
def dkwX10_fillsFar_7 : List UInt8 := [180, 0, 146, 21, 8, 46, 21, 6, 96, 42, 180, 0, 146, 21, 7, 46, 162, 0, 20, 42, 180, 0, 146]
abbrev dktX10_fillsFar_7 : List UInt8 := dkwX10_fillsFar_7 ++ dktX10_fillsFar_8
def dkwX10_fillsFar_6 : List UInt8 := [21, 8, 46, 162, 0, 20, 42, 180, 0, 146, 21, 8, 42, 180, 0, 146, 21, 7, 46, 21, 6, 96, 79, 42]
abbrev dktX10_fillsFar_6 : List UInt8 := dkwX10_fillsFar_6 ++ dktX10_fillsFar_7
def dkwX10_fillsFar_5 : List UInt8 := [180, 0, 251, 104, 21, 5, 96, 46, 54, 8, 42, 180, 0, 146, 21, 7, 46, 21, 6, 96, 42, 180, 0, 146]
abbrev dktX10_fillsFar_5 : List UInt8 := dkwX10_fillsFar_5 ++ dktX10_fillsFar_6
def dkwX10_fillsFar_4 : List UInt8 := [180, 0, 52, 16, 10, 42, 180, 0, 251, 104, 21, 5, 96, 46, 54, 7, 42, 180, 0, 55, 16, 10, 42]
abbrev dktX10_fillsFar_4 : List UInt8 := dkwX10_fillsFar_4 ++ dktX10_fillsFar_5
def dkwX10_fillsFar_3 : List UInt8 := [160, 0, 6, 167, 0, 128, 28, 21, 5, 122, 4, 126, 4, 160, 0, 7, 3, 167, 0, 4, 4, 54, 6, 42]
abbrev dktX10_fillsFar_3 : List UInt8 := dkwX10_fillsFar_3 ++ dktX10_fillsFar_4
def dkwX10_fillsFar_2 : List UInt8 := [54, 5, 21, 5, 42, 180, 0, 49, 42, 180, 0, 251, 46, 162, 0, 147, 29, 21, 5, 122, 4, 126, 4]
abbrev dktX10_fillsFar_2 : List UInt8 := dkwX10_fillsFar_2 ++ dktX10_fillsFar_3
def dkwX10_fillsFar_1 : List UInt8 := [167, 0, 6, 17, 3, 232, 79, 132, 4, 1, 167, 255, 226, 3, 54, 4, 21, 4, 16, 7, 162, 0, 170, 3]
abbrev dktX10_fillsFar_1 : List UInt8 := dkwX10_fillsFar_1 ++ dktX10_fillsFar_2
def dkwX10_fillsFar_0 : List UInt8 := [3, 54, 4, 21, 4, 16, 7, 162, 0, 29, 42, 180, 0, 146, 21, 4, 21, 4, 27, 160, 0, 7, 3]
abbrev dktX10_fillsFar_0 : List UInt8 := dkwX10_fillsFar_0 ++ dktX10_fillsFar_1
theorem dksX10_fillsFar_0 : cX10_fillsFar.data.toList.drop 0 = dktX10_fillsFar_0 := by decide +kernel
theorem dksX10_fillsFar_1 : cX10_fillsFar.data.toList.drop 23 = dktX10_fillsFar_1 := dk_seg dksX10_fillsFar_0 23 rfl rfl
theorem dksX10_fillsFar_2 : cX10_fillsFar.data.toList.drop 47 = dktX10_fillsFar_2 := dk_seg dksX10_fillsFar_1 24 rfl rfl
theorem dksX10_fillsFar_3 : cX10_fillsFar.data.toList.drop 70 = dktX10_fillsFar_3 := dk_seg dksX10_fillsFar_2 23 rfl rfl
theorem dksX10_fillsFar_4 : cX10_fillsFar.data.toList.drop 94 = dktX10_fillsFar_4 := dk_seg dksX10_fillsFar_3 24 rfl rfl
theorem dksX10_fillsFar_5 : cX10_fillsFar.data.toList.drop 117 = dktX10_fillsFar_5 := dk_seg dksX10_fillsFar_4 23 rfl rfl
theorem dksX10_fillsFar_6 : cX10_fillsFar.data.toList.drop 141 = dktX10_fillsFar_6 := dk_seg dksX10_fillsFar_5 24 rfl rfl
theorem dksX10_fillsFar_7 : cX10_fillsFar.data.toList.drop 165 = dktX10_fillsFar_7 := dk_seg dksX10_fillsFar_6 24 rfl rfl
theorem dksX10_fillsFar_8 : cX10_fillsFar.data.toList.drop 188 = dktX10_fillsFar_8 := dk_seg dksX10_fillsFar_7 23 rfl rfl
theorem dksX10_fillsFar_9 : cX10_fillsFar.data.toList.drop 210 = dktX10_fillsFar_9 := dk_seg dksX10_fillsFar_8 22 rfl rfl
theorem dX10_fillsFar_0 : decode cX10_fillsFar 0 = .ok (.iconst 0, 1) := dk_3 (dk_at dksX10_fillsFar_0 0 rfl rfl)
theorem dX10_fillsFar_1 : decode cX10_fillsFar 1 = .ok (.istore 4, 2) := dk_54 4 (dk_at dksX10_fillsFar_0 1 rfl rfl)
theorem dX10_fillsFar_3 : decode cX10_fillsFar 3 = .ok (.iload 4, 2) := dk_21 4 (dk_at dksX10_fillsFar_0 3 rfl rfl)
theorem dX10_fillsFar_5 : decode cX10_fillsFar 5 = .ok (.bipush 7, 2) := dk_16 7 (dk_at dksX10_fillsFar_0 5 rfl rfl)
theorem dX10_fillsFar_7 : decode cX10_fillsFar 7 = .ok (.if_icmp .ge 29, 3) := dk_162 0 29 (dk_at dksX10_fillsFar_0 7 rfl rfl)
theorem dX10_fillsFar_10 : decode cX10_fillsFar 10 = .ok (.aload_n 0, 1) := dk_42 (dk_at dksX10_fillsFar_0 10 rfl rfl)
theorem dX10_fillsFar_11 : decode cX10_fillsFar 11 = .ok (.getfield 146, 3) := dk_180 0 146 (dk_at dksX10_fillsFar_0 11 rfl rfl)
theorem dX10_fillsFar_14 : decode cX10_fillsFar 14 = .ok (.iload 4, 2) := dk_21 4 (dk_at dksX10_fillsFar_0 14 rfl rfl)
theorem dX10_fillsFar_16 : decode cX10_fillsFar 16 = .ok (.iload 4, 2) := dk_21 4 (dk_at dksX10_fillsFar_0 16 rfl rfl)
theorem dX10_fillsFar_18 : decode cX10_fillsFar 18 = .ok (.iload_n 1, 1) := dk_27 (dk_at dksX10_fillsFar_0 18 rfl rfl)
theorem dX10_fillsFar_19 : decode cX10_fillsFar 19 = .ok (.if_icmp .ne 7, 3) := dk_160 0 7 (dk_at dksX10_fillsFar_0 19 rfl rfl)
theorem dX10_fillsFar_22 : decode cX10_fillsFar 22 = .ok (.iconst 0, 1) := dk_3 (dk_at dksX10_fillsFar_0 22 rfl rfl)
theorem dX10_fillsFar_23 : decode cX10_fillsFar 23 = .ok (.goto 6, 3) := dk_167 0 6 (dk_at dksX10_fillsFar_1 0 rfl rfl)
theorem dX10_fillsFar_26 : decode cX10_fillsFar 26 = .ok (.sipush 1000, 3) := dk_17 3 232 (dk_at dksX10_fillsFar_1 3 rfl rfl)
theorem dX10_fillsFar_29 : decode cX10_fillsFar 29 = .ok (.iastore, 1) := dk_79 (dk_at dksX10_fillsFar_1 6 rfl rfl)
theorem dX10_fillsFar_30 : decode cX10_fillsFar 30 = .ok (.iinc 4 1, 3) := dk_132 4 1 (dk_at dksX10_fillsFar_1 7 rfl rfl)
theorem dX10_fillsFar_33 : decode cX10_fillsFar 33 = .ok (.goto (-30), 3) := dk_167 255 226 (dk_at dksX10_fillsFar_1 10 rfl rfl)
theorem dX10_fillsFar_36 : decode cX10_fillsFar 36 = .ok (.iconst 0, 1) := dk_3 (dk_at dksX10_fillsFar_1 13 rfl rfl)
theorem dX10_fillsFar_37 : decode cX10_fillsFar 37 = .ok (.istore 4, 2) := dk_54 4 (dk_at dksX10_fillsFar_1 14 rfl rfl)
theorem dX10_fillsFar_39 : decode cX10_fillsFar 39 = .ok (.iload 4, 2) := dk_21 4 (dk_at dksX10_fillsFar_1 16 rfl rfl)
theorem dX10_fillsFar_41 : decode cX10_fillsFar 41 = .ok (.bipush 7, 2) := dk_16 7 (dk_at dksX10_fillsFar_1 18 rfl rfl)
theorem dX10_fillsFar_43 : decode cX10_fillsFar 43 = .ok (.if_icmp .ge 170, 3) := dk_162 0 170 (dk_at dksX10_fillsFar_1 20 rfl rfl)
theorem dX10_fillsFar_46 : decode cX10_fillsFar 46 = .ok (.iconst 0, 1) := dk_3 (dk_at dksX10_fillsFar_1 23 rfl rfl)
theorem dX10_fillsFar_47 : decode cX10_fillsFar 47 = .ok (.istore 5, 2) := dk_54 5 (dk_at dksX10_fillsFar_2 0 rfl rfl)
theorem dX10_fillsFar_49 : decode cX10_fillsFar 49 = .ok (.iload 5, 2) := dk_21 5 (dk_at dksX10_fillsFar_2 2 rfl rfl)
theorem dX10_fillsFar_51 : decode cX10_fillsFar 51 = .ok (.aload_n 0, 1) := dk_42 (dk_at dksX10_fillsFar_2 4 rfl rfl)
theorem dX10_fillsFar_52 : decode cX10_fillsFar 52 = .ok (.getfield 49, 3) := dk_180 0 49 (dk_at dksX10_fillsFar_2 5 rfl rfl)
theorem dX10_fillsFar_55 : decode cX10_fillsFar 55 = .ok (.aload_n 0, 1) := dk_42 (dk_at dksX10_fillsFar_2 8 rfl rfl)
theorem dX10_fillsFar_56 : decode cX10_fillsFar 56 = .ok (.getfield 251, 3) := dk_180 0 251 (dk_at dksX10_fillsFar_2 9 rfl rfl)
theorem dX10_fillsFar_59 : decode cX10_fillsFar 59 = .ok (.iaload, 1) := dk_46 (dk_at dksX10_fillsFar_2 12 rfl rfl)
theorem dX10_fillsFar_60 : decode cX10_fillsFar 60 = .ok (.if_icmp .ge 147, 3) := dk_162 0 147 (dk_at dksX10_fillsFar_2 13 rfl rfl)
theorem dX10_fillsFar_63 : decode cX10_fillsFar 63 = .ok (.iload_n 3, 1) := dk_29 (dk_at dksX10_fillsFar_2 16 rfl rfl)
theorem dX10_fillsFar_64 : decode cX10_fillsFar 64 = .ok (.iload 5, 2) := dk_21 5 (dk_at dksX10_fillsFar_2 17 rfl rfl)
theorem dX10_fillsFar_66 : decode cX10_fillsFar 66 = .ok (.ishr, 1) := dk_122 (dk_at dksX10_fillsFar_2 19 rfl rfl)
theorem dX10_fillsFar_67 : decode cX10_fillsFar 67 = .ok (.iconst 1, 1) := dk_4 (dk_at dksX10_fillsFar_2 20 rfl rfl)
theorem dX10_fillsFar_68 : decode cX10_fillsFar 68 = .ok (.iand, 1) := dk_126 (dk_at dksX10_fillsFar_2 21 rfl rfl)
theorem dX10_fillsFar_69 : decode cX10_fillsFar 69 = .ok (.iconst 1, 1) := dk_4 (dk_at dksX10_fillsFar_2 22 rfl rfl)
theorem dX10_fillsFar_70 : decode cX10_fillsFar 70 = .ok (.if_icmp .ne 6, 3) := dk_160 0 6 (dk_at dksX10_fillsFar_3 0 rfl rfl)
theorem dX10_fillsFar_73 : decode cX10_fillsFar 73 = .ok (.goto 128, 3) := dk_167 0 128 (dk_at dksX10_fillsFar_3 3 rfl rfl)
theorem dX10_fillsFar_76 : decode cX10_fillsFar 76 = .ok (.iload_n 2, 1) := dk_28 (dk_at dksX10_fillsFar_3 6 rfl rfl)
theorem dX10_fillsFar_77 : decode cX10_fillsFar 77 = .ok (.iload 5, 2) := dk_21 5 (dk_at dksX10_fillsFar_3 7 rfl rfl)
theorem dX10_fillsFar_79 : decode cX10_fillsFar 79 = .ok (.ishr, 1) := dk_122 (dk_at dksX10_fillsFar_3 9 rfl rfl)
theorem dX10_fillsFar_80 : decode cX10_fillsFar 80 = .ok (.iconst 1, 1) := dk_4 (dk_at dksX10_fillsFar_3 10 rfl rfl)
theorem dX10_fillsFar_81 : decode cX10_fillsFar 81 = .ok (.iand, 1) := dk_126 (dk_at dksX10_fillsFar_3 11 rfl rfl)
theorem dX10_fillsFar_82 : decode cX10_fillsFar 82 = .ok (.iconst 1, 1) := dk_4 (dk_at dksX10_fillsFar_3 12 rfl rfl)
theorem dX10_fillsFar_83 : decode cX10_fillsFar 83 = .ok (.if_icmp .ne 7, 3) := dk_160 0 7 (dk_at dksX10_fillsFar_3 13 rfl rfl)
theorem dX10_fillsFar_86 : decode cX10_fillsFar 86 = .ok (.iconst 0, 1) := dk_3 (dk_at dksX10_fillsFar_3 16 rfl rfl)
theorem dX10_fillsFar_87 : decode cX10_fillsFar 87 = .ok (.goto 4, 3) := dk_167 0 4 (dk_at dksX10_fillsFar_3 17 rfl rfl)
theorem dX10_fillsFar_90 : decode cX10_fillsFar 90 = .ok (.iconst 1, 1) := dk_4 (dk_at dksX10_fillsFar_3 20 rfl rfl)
theorem dX10_fillsFar_91 : decode cX10_fillsFar 91 = .ok (.istore 6, 2) := dk_54 6 (dk_at dksX10_fillsFar_3 21 rfl rfl)
theorem dX10_fillsFar_93 : decode cX10_fillsFar 93 = .ok (.aload_n 0, 1) := dk_42 (dk_at dksX10_fillsFar_3 23 rfl rfl)
theorem dX10_fillsFar_94 : decode cX10_fillsFar 94 = .ok (.getfield 52, 3) := dk_180 0 52 (dk_at dksX10_fillsFar_4 0 rfl rfl)
theorem dX10_fillsFar_97 : decode cX10_fillsFar 97 = .ok (.bipush 10, 2) := dk_16 10 (dk_at dksX10_fillsFar_4 3 rfl rfl)
theorem dX10_fillsFar_99 : decode cX10_fillsFar 99 = .ok (.aload_n 0, 1) := dk_42 (dk_at dksX10_fillsFar_4 5 rfl rfl)
theorem dX10_fillsFar_100 : decode cX10_fillsFar 100 = .ok (.getfield 251, 3) := dk_180 0 251 (dk_at dksX10_fillsFar_4 6 rfl rfl)
theorem dX10_fillsFar_103 : decode cX10_fillsFar 103 = .ok (.imul, 1) := dk_104 (dk_at dksX10_fillsFar_4 9 rfl rfl)
theorem dX10_fillsFar_104 : decode cX10_fillsFar 104 = .ok (.iload 5, 2) := dk_21 5 (dk_at dksX10_fillsFar_4 10 rfl rfl)
theorem dX10_fillsFar_106 : decode cX10_fillsFar 106 = .ok (.iadd, 1) := dk_96 (dk_at dksX10_fillsFar_4 12 rfl rfl)
theorem dX10_fillsFar_107 : decode cX10_fillsFar 107 = .ok (.iaload, 1) := dk_46 (dk_at dksX10_fillsFar_4 13 rfl rfl)
theorem dX10_fillsFar_108 : decode cX10_fillsFar 108 = .ok (.istore 7, 2) := dk_54 7 (dk_at dksX10_fillsFar_4 14 rfl rfl)
theorem dX10_fillsFar_110 : decode cX10_fillsFar 110 = .ok (.aload_n 0, 1) := dk_42 (dk_at dksX10_fillsFar_4 16 rfl rfl)
theorem dX10_fillsFar_111 : decode cX10_fillsFar 111 = .ok (.getfield 55, 3) := dk_180 0 55 (dk_at dksX10_fillsFar_4 17 rfl rfl)
theorem dX10_fillsFar_114 : decode cX10_fillsFar 114 = .ok (.bipush 10, 2) := dk_16 10 (dk_at dksX10_fillsFar_4 20 rfl rfl)
theorem dX10_fillsFar_116 : decode cX10_fillsFar 116 = .ok (.aload_n 0, 1) := dk_42 (dk_at dksX10_fillsFar_4 22 rfl rfl)
theorem dX10_fillsFar_117 : decode cX10_fillsFar 117 = .ok (.getfield 251, 3) := dk_180 0 251 (dk_at dksX10_fillsFar_5 0 rfl rfl)
theorem dX10_fillsFar_120 : decode cX10_fillsFar 120 = .ok (.imul, 1) := dk_104 (dk_at dksX10_fillsFar_5 3 rfl rfl)
theorem dX10_fillsFar_121 : decode cX10_fillsFar 121 = .ok (.iload 5, 2) := dk_21 5 (dk_at dksX10_fillsFar_5 4 rfl rfl)
theorem dX10_fillsFar_123 : decode cX10_fillsFar 123 = .ok (.iadd, 1) := dk_96 (dk_at dksX10_fillsFar_5 6 rfl rfl)
theorem dX10_fillsFar_124 : decode cX10_fillsFar 124 = .ok (.iaload, 1) := dk_46 (dk_at dksX10_fillsFar_5 7 rfl rfl)
theorem dX10_fillsFar_125 : decode cX10_fillsFar 125 = .ok (.istore 8, 2) := dk_54 8 (dk_at dksX10_fillsFar_5 8 rfl rfl)
theorem dX10_fillsFar_127 : decode cX10_fillsFar 127 = .ok (.aload_n 0, 1) := dk_42 (dk_at dksX10_fillsFar_5 10 rfl rfl)
theorem dX10_fillsFar_128 : decode cX10_fillsFar 128 = .ok (.getfield 146, 3) := dk_180 0 146 (dk_at dksX10_fillsFar_5 11 rfl rfl)
theorem dX10_fillsFar_131 : decode cX10_fillsFar 131 = .ok (.iload 7, 2) := dk_21 7 (dk_at dksX10_fillsFar_5 14 rfl rfl)
theorem dX10_fillsFar_133 : decode cX10_fillsFar 133 = .ok (.iaload, 1) := dk_46 (dk_at dksX10_fillsFar_5 16 rfl rfl)
theorem dX10_fillsFar_134 : decode cX10_fillsFar 134 = .ok (.iload 6, 2) := dk_21 6 (dk_at dksX10_fillsFar_5 17 rfl rfl)
theorem dX10_fillsFar_136 : decode cX10_fillsFar 136 = .ok (.iadd, 1) := dk_96 (dk_at dksX10_fillsFar_5 19 rfl rfl)
theorem dX10_fillsFar_137 : decode cX10_fillsFar 137 = .ok (.aload_n 0, 1) := dk_42 (dk_at dksX10_fillsFar_5 20 rfl rfl)
theorem dX10_fillsFar_138 : decode cX10_fillsFar 138 = .ok (.getfield 146, 3) := dk_180 0 146 (dk_at dksX10_fillsFar_5 21 rfl rfl)
theorem dX10_fillsFar_141 : decode cX10_fillsFar 141 = .ok (.iload 8, 2) := dk_21 8 (dk_at dksX10_fillsFar_6 0 rfl rfl)
theorem dX10_fillsFar_143 : decode cX10_fillsFar 143 = .ok (.iaload, 1) := dk_46 (dk_at dksX10_fillsFar_6 2 rfl rfl)
theorem dX10_fillsFar_144 : decode cX10_fillsFar 144 = .ok (.if_icmp .ge 20, 3) := dk_162 0 20 (dk_at dksX10_fillsFar_6 3 rfl rfl)
theorem dX10_fillsFar_147 : decode cX10_fillsFar 147 = .ok (.aload_n 0, 1) := dk_42 (dk_at dksX10_fillsFar_6 6 rfl rfl)
theorem dX10_fillsFar_148 : decode cX10_fillsFar 148 = .ok (.getfield 146, 3) := dk_180 0 146 (dk_at dksX10_fillsFar_6 7 rfl rfl)
theorem dX10_fillsFar_151 : decode cX10_fillsFar 151 = .ok (.iload 8, 2) := dk_21 8 (dk_at dksX10_fillsFar_6 10 rfl rfl)
theorem dX10_fillsFar_153 : decode cX10_fillsFar 153 = .ok (.aload_n 0, 1) := dk_42 (dk_at dksX10_fillsFar_6 12 rfl rfl)
theorem dX10_fillsFar_154 : decode cX10_fillsFar 154 = .ok (.getfield 146, 3) := dk_180 0 146 (dk_at dksX10_fillsFar_6 13 rfl rfl)
theorem dX10_fillsFar_157 : decode cX10_fillsFar 157 = .ok (.iload 7, 2) := dk_21 7 (dk_at dksX10_fillsFar_6 16 rfl rfl)
theorem dX10_fillsFar_159 : decode cX10_fillsFar 159 = .ok (.iaload, 1) := dk_46 (dk_at dksX10_fillsFar_6 18 rfl rfl)
theorem dX10_fillsFar_160 : decode cX10_fillsFar 160 = .ok (.iload 6, 2) := dk_21 6 (dk_at dksX10_fillsFar_6 19 rfl rfl)
theorem dX10_fillsFar_162 : decode cX10_fillsFar 162 = .ok (.iadd, 1) := dk_96 (dk_at dksX10_fillsFar_6 21 rfl rfl)
theorem dX10_fillsFar_163 : decode cX10_fillsFar 163 = .ok (.iastore, 1) := dk_79 (dk_at dksX10_fillsFar_6 22 rfl rfl)
theorem dX10_fillsFar_164 : decode cX10_fillsFar 164 = .ok (.aload_n 0, 1) := dk_42 (dk_at dksX10_fillsFar_6 23 rfl rfl)
theorem dX10_fillsFar_165 : decode cX10_fillsFar 165 = .ok (.getfield 146, 3) := dk_180 0 146 (dk_at dksX10_fillsFar_7 0 rfl rfl)
theorem dX10_fillsFar_168 : decode cX10_fillsFar 168 = .ok (.iload 8, 2) := dk_21 8 (dk_at dksX10_fillsFar_7 3 rfl rfl)
theorem dX10_fillsFar_170 : decode cX10_fillsFar 170 = .ok (.iaload, 1) := dk_46 (dk_at dksX10_fillsFar_7 5 rfl rfl)
theorem dX10_fillsFar_171 : decode cX10_fillsFar 171 = .ok (.iload 6, 2) := dk_21 6 (dk_at dksX10_fillsFar_7 6 rfl rfl)
theorem dX10_fillsFar_173 : decode cX10_fillsFar 173 = .ok (.iadd, 1) := dk_96 (dk_at dksX10_fillsFar_7 8 rfl rfl)
theorem dX10_fillsFar_174 : decode cX10_fillsFar 174 = .ok (.aload_n 0, 1) := dk_42 (dk_at dksX10_fillsFar_7 9 rfl rfl)
theorem dX10_fillsFar_175 : decode cX10_fillsFar 175 = .ok (.getfield 146, 3) := dk_180 0 146 (dk_at dksX10_fillsFar_7 10 rfl rfl)
theorem dX10_fillsFar_178 : decode cX10_fillsFar 178 = .ok (.iload 7, 2) := dk_21 7 (dk_at dksX10_fillsFar_7 13 rfl rfl)
theorem dX10_fillsFar_180 : decode cX10_fillsFar 180 = .ok (.iaload, 1) := dk_46 (dk_at dksX10_fillsFar_7 15 rfl rfl)
theorem dX10_fillsFar_181 : decode cX10_fillsFar 181 = .ok (.if_icmp .ge 20, 3) := dk_162 0 20 (dk_at dksX10_fillsFar_7 16 rfl rfl)
theorem dX10_fillsFar_184 : decode cX10_fillsFar 184 = .ok (.aload_n 0, 1) := dk_42 (dk_at dksX10_fillsFar_7 19 rfl rfl)
theorem dX10_fillsFar_185 : decode cX10_fillsFar 185 = .ok (.getfield 146, 3) := dk_180 0 146 (dk_at dksX10_fillsFar_7 20 rfl rfl)
theorem dX10_fillsFar_188 : decode cX10_fillsFar 188 = .ok (.iload 7, 2) := dk_21 7 (dk_at dksX10_fillsFar_8 0 rfl rfl)
theorem dX10_fillsFar_190 : decode cX10_fillsFar 190 = .ok (.aload_n 0, 1) := dk_42 (dk_at dksX10_fillsFar_8 2 rfl rfl)
theorem dX10_fillsFar_191 : decode cX10_fillsFar 191 = .ok (.getfield 146, 3) := dk_180 0 146 (dk_at dksX10_fillsFar_8 3 rfl rfl)
theorem dX10_fillsFar_194 : decode cX10_fillsFar 194 = .ok (.iload 8, 2) := dk_21 8 (dk_at dksX10_fillsFar_8 6 rfl rfl)
theorem dX10_fillsFar_196 : decode cX10_fillsFar 196 = .ok (.iaload, 1) := dk_46 (dk_at dksX10_fillsFar_8 8 rfl rfl)
theorem dX10_fillsFar_197 : decode cX10_fillsFar 197 = .ok (.iload 6, 2) := dk_21 6 (dk_at dksX10_fillsFar_8 9 rfl rfl)
theorem dX10_fillsFar_199 : decode cX10_fillsFar 199 = .ok (.iadd, 1) := dk_96 (dk_at dksX10_fillsFar_8 11 rfl rfl)
theorem dX10_fillsFar_200 : decode cX10_fillsFar 200 = .ok (.iastore, 1) := dk_79 (dk_at dksX10_fillsFar_8 12 rfl rfl)
theorem dX10_fillsFar_201 : decode cX10_fillsFar 201 = .ok (.iinc 5 1, 3) := dk_132 5 1 (dk_at dksX10_fillsFar_8 13 rfl rfl)
theorem dX10_fillsFar_204 : decode cX10_fillsFar 204 = .ok (.goto (-155), 3) := dk_167 255 101 (dk_at dksX10_fillsFar_8 16 rfl rfl)
theorem dX10_fillsFar_207 : decode cX10_fillsFar 207 = .ok (.iinc 4 1, 3) := dk_132 4 1 (dk_at dksX10_fillsFar_8 19 rfl rfl)
theorem dX10_fillsFar_210 : decode cX10_fillsFar 210 = .ok (.goto (-171), 3) := dk_167 255 85 (dk_at dksX10_fillsFar_9 0 rfl rfl)
theorem dX10_fillsFar_213 : decode cX10_fillsFar 213 = .ok (.return_, 1) := dk_177 (dk_at dksX10_fillsFar_9 3 rfl rfl)
abbrev cX10_farTo : ByteArray := prog_22_method_91_code
def yX10_farTo : MethodName := ⟨RX10, "farTo", "(I)I"⟩
def dkwX10_farTo_0 : List UInt8 := [42, 180, 0, 146, 27, 46, 17, 3, 232, 161, 0, 8, 16, 254, 167, 0, 9, 42, 180, 0, 146, 27, 46, 172]
abbrev dktX10_farTo_0 : List UInt8 := dkwX10_farTo_0 ++ []
theorem dksX10_farTo_0 : cX10_farTo.data.toList.drop 0 = dktX10_farTo_0 := by decide +kernel
theorem dX10_farTo_0 : decode cX10_farTo 0 = .ok (.aload_n 0, 1) := dk_42 (dk_at dksX10_farTo_0 0 rfl rfl)
theorem dX10_farTo_1 : decode cX10_farTo 1 = .ok (.getfield 146, 3) := dk_180 0 146 (dk_at dksX10_farTo_0 1 rfl rfl)
theorem dX10_farTo_4 : decode cX10_farTo 4 = .ok (.iload_n 1, 1) := dk_27 (dk_at dksX10_farTo_0 4 rfl rfl)
theorem dX10_farTo_5 : decode cX10_farTo 5 = .ok (.iaload, 1) := dk_46 (dk_at dksX10_farTo_0 5 rfl rfl)
theorem dX10_farTo_6 : decode cX10_farTo 6 = .ok (.sipush 1000, 3) := dk_17 3 232 (dk_at dksX10_farTo_0 6 rfl rfl)
theorem dX10_farTo_9 : decode cX10_farTo 9 = .ok (.if_icmp .lt 8, 3) := dk_161 0 8 (dk_at dksX10_farTo_0 9 rfl rfl)
theorem dX10_farTo_12 : decode cX10_farTo 12 = .ok (.bipush (-2), 2) := dk_16 254 (dk_at dksX10_farTo_0 12 rfl rfl)
theorem dX10_farTo_14 : decode cX10_farTo 14 = .ok (.goto 9, 3) := dk_167 0 9 (dk_at dksX10_farTo_0 14 rfl rfl)
theorem dX10_farTo_17 : decode cX10_farTo 17 = .ok (.aload_n 0, 1) := dk_42 (dk_at dksX10_farTo_0 17 rfl rfl)
theorem dX10_farTo_18 : decode cX10_farTo 18 = .ok (.getfield 146, 3) := dk_180 0 146 (dk_at dksX10_farTo_0 18 rfl rfl)
theorem dX10_farTo_21 : decode cX10_farTo 21 = .ok (.iload_n 1, 1) := dk_27 (dk_at dksX10_farTo_0 21 rfl rfl)
theorem dX10_farTo_22 : decode cX10_farTo 22 = .ok (.iaload, 1) := dk_46 (dk_at dksX10_farTo_0 22 rfl rfl)
theorem dX10_farTo_23 : decode cX10_farTo 23 = .ok (.ireturn, 1) := dk_172 (dk_at dksX10_farTo_0 23 rfl rfl)
abbrev cX10_dark : ByteArray := prog_22_method_94_code
def yX10_dark : MethodName := ⟨RX10, "dark", "(II)I"⟩
def dkwX10_dark_1 : List UInt8 := [3, 182, 1, 194, 42, 28, 182, 1, 197, 172]
abbrev dktX10_dark_1 : List UInt8 := dkwX10_dark_1 ++ []
def dkwX10_dark_0 : List UInt8 := [42, 27, 182, 1, 136, 153, 0, 11, 42, 28, 182, 1, 136, 154, 0, 5, 2, 172, 42, 27, 42, 182, 1, 200]
abbrev dktX10_dark_0 : List UInt8 := dkwX10_dark_0 ++ dktX10_dark_1
theorem dksX10_dark_0 : cX10_dark.data.toList.drop 0 = dktX10_dark_0 := by decide +kernel
theorem dksX10_dark_1 : cX10_dark.data.toList.drop 24 = dktX10_dark_1 := dk_seg dksX10_dark_0 24 rfl rfl
theorem dX10_dark_0 : decode cX10_dark 0 = .ok (.aload_n 0, 1) := dk_42 (dk_at dksX10_dark_0 0 rfl rfl)
theorem dX10_dark_1 : decode cX10_dark 1 = .ok (.iload_n 1, 1) := dk_27 (dk_at dksX10_dark_0 1 rfl rfl)
theorem dX10_dark_2 : decode cX10_dark 2 = .ok (.invokevirtual 392, 3) := dk_182 1 136 (dk_at dksX10_dark_0 2 rfl rfl)
theorem dX10_dark_5 : decode cX10_dark 5 = .ok (.ifCond .eq 11, 3) := dk_153 0 11 (dk_at dksX10_dark_0 5 rfl rfl)
theorem dX10_dark_8 : decode cX10_dark 8 = .ok (.aload_n 0, 1) := dk_42 (dk_at dksX10_dark_0 8 rfl rfl)
theorem dX10_dark_9 : decode cX10_dark 9 = .ok (.iload_n 2, 1) := dk_28 (dk_at dksX10_dark_0 9 rfl rfl)
theorem dX10_dark_10 : decode cX10_dark 10 = .ok (.invokevirtual 392, 3) := dk_182 1 136 (dk_at dksX10_dark_0 10 rfl rfl)
theorem dX10_dark_13 : decode cX10_dark 13 = .ok (.ifCond .ne 5, 3) := dk_154 0 5 (dk_at dksX10_dark_0 13 rfl rfl)
theorem dX10_dark_16 : decode cX10_dark 16 = .ok (.iconst (-1), 1) := dk_2 (dk_at dksX10_dark_0 16 rfl rfl)
theorem dX10_dark_17 : decode cX10_dark 17 = .ok (.ireturn, 1) := dk_172 (dk_at dksX10_dark_0 17 rfl rfl)
theorem dX10_dark_18 : decode cX10_dark 18 = .ok (.aload_n 0, 1) := dk_42 (dk_at dksX10_dark_0 18 rfl rfl)
theorem dX10_dark_19 : decode cX10_dark 19 = .ok (.iload_n 1, 1) := dk_27 (dk_at dksX10_dark_0 19 rfl rfl)
theorem dX10_dark_20 : decode cX10_dark 20 = .ok (.aload_n 0, 1) := dk_42 (dk_at dksX10_dark_0 20 rfl rfl)
theorem dX10_dark_21 : decode cX10_dark 21 = .ok (.invokevirtual 456, 3) := dk_182 1 200 (dk_at dksX10_dark_0 21 rfl rfl)
theorem dX10_dark_24 : decode cX10_dark 24 = .ok (.iconst 0, 1) := dk_3 (dk_at dksX10_dark_1 0 rfl rfl)
theorem dX10_dark_25 : decode cX10_dark 25 = .ok (.invokevirtual 450, 3) := dk_182 1 194 (dk_at dksX10_dark_1 1 rfl rfl)
theorem dX10_dark_28 : decode cX10_dark 28 = .ok (.aload_n 0, 1) := dk_42 (dk_at dksX10_dark_1 4 rfl rfl)
theorem dX10_dark_29 : decode cX10_dark 29 = .ok (.iload_n 2, 1) := dk_28 (dk_at dksX10_dark_1 5 rfl rfl)
theorem dX10_dark_30 : decode cX10_dark 30 = .ok (.invokevirtual 453, 3) := dk_182 1 197 (dk_at dksX10_dark_1 6 rfl rfl)
theorem dX10_dark_33 : decode cX10_dark 33 = .ok (.ireturn, 1) := dk_172 (dk_at dksX10_dark_1 9 rfl rfl)
abbrev cX10_litNow : ByteArray := prog_22_method_93_code
def yX10_litNow : MethodName := ⟨RX10, "litNow", "()I"⟩
def dkwX10_litNow_0 : List UInt8 := [42, 182, 1, 91, 42, 182, 1, 176, 172]
abbrev dktX10_litNow_0 : List UInt8 := dkwX10_litNow_0 ++ []
theorem dksX10_litNow_0 : cX10_litNow.data.toList.drop 0 = dktX10_litNow_0 := by decide +kernel
theorem dX10_litNow_0 : decode cX10_litNow 0 = .ok (.aload_n 0, 1) := dk_42 (dk_at dksX10_litNow_0 0 rfl rfl)
theorem dX10_litNow_1 : decode cX10_litNow 1 = .ok (.invokevirtual 347, 3) := dk_182 1 91 (dk_at dksX10_litNow_0 1 rfl rfl)
theorem dX10_litNow_4 : decode cX10_litNow 4 = .ok (.aload_n 0, 1) := dk_42 (dk_at dksX10_litNow_0 4 rfl rfl)
theorem dX10_litNow_5 : decode cX10_litNow 5 = .ok (.invokevirtual 432, 3) := dk_182 1 176 (dk_at dksX10_litNow_0 5 rfl rfl)
theorem dX10_litNow_8 : decode cX10_litNow 8 = .ok (.ireturn, 1) := dk_172 (dk_at dksX10_litNow_0 8 rfl rfl)
abbrev cX10_safe : ByteArray := prog_22_method_96_code
def yX10_safe : MethodName := ⟨RX10, "safe", "(I)I"⟩
def dkwX10_safe_2 : List UInt8 := [28, 4, 29, 120, 128, 61, 132, 3, 1, 167, 255, 222, 28, 172]
abbrev dktX10_safe_2 : List UInt8 := dkwX10_safe_2 ++ []
def dkwX10_safe_1 : List UInt8 := [42, 180, 0, 46, 42, 180, 0, 251, 46, 162, 0, 27, 42, 180, 0, 146, 29, 46, 17, 3, 232, 162, 0, 9]
abbrev dktX10_safe_1 : List UInt8 := dkwX10_safe_1 ++ dktX10_safe_2
def dkwX10_safe_0 : List UInt8 := [42, 27, 182, 1, 136, 154, 0, 5, 2, 172, 42, 27, 42, 182, 1, 200, 182, 1, 203, 3, 61, 3, 62, 29]
abbrev dktX10_safe_0 : List UInt8 := dkwX10_safe_0 ++ dktX10_safe_1
theorem dksX10_safe_0 : cX10_safe.data.toList.drop 0 = dktX10_safe_0 := by decide +kernel
theorem dksX10_safe_1 : cX10_safe.data.toList.drop 24 = dktX10_safe_1 := dk_seg dksX10_safe_0 24 rfl rfl
theorem dksX10_safe_2 : cX10_safe.data.toList.drop 48 = dktX10_safe_2 := dk_seg dksX10_safe_1 24 rfl rfl
theorem dX10_safe_0 : decode cX10_safe 0 = .ok (.aload_n 0, 1) := dk_42 (dk_at dksX10_safe_0 0 rfl rfl)
theorem dX10_safe_1 : decode cX10_safe 1 = .ok (.iload_n 1, 1) := dk_27 (dk_at dksX10_safe_0 1 rfl rfl)
theorem dX10_safe_2 : decode cX10_safe 2 = .ok (.invokevirtual 392, 3) := dk_182 1 136 (dk_at dksX10_safe_0 2 rfl rfl)
theorem dX10_safe_5 : decode cX10_safe 5 = .ok (.ifCond .ne 5, 3) := dk_154 0 5 (dk_at dksX10_safe_0 5 rfl rfl)
theorem dX10_safe_8 : decode cX10_safe 8 = .ok (.iconst (-1), 1) := dk_2 (dk_at dksX10_safe_0 8 rfl rfl)
theorem dX10_safe_9 : decode cX10_safe 9 = .ok (.ireturn, 1) := dk_172 (dk_at dksX10_safe_0 9 rfl rfl)
theorem dX10_safe_10 : decode cX10_safe 10 = .ok (.aload_n 0, 1) := dk_42 (dk_at dksX10_safe_0 10 rfl rfl)
theorem dX10_safe_11 : decode cX10_safe 11 = .ok (.iload_n 1, 1) := dk_27 (dk_at dksX10_safe_0 11 rfl rfl)
theorem dX10_safe_12 : decode cX10_safe 12 = .ok (.aload_n 0, 1) := dk_42 (dk_at dksX10_safe_0 12 rfl rfl)
theorem dX10_safe_13 : decode cX10_safe 13 = .ok (.invokevirtual 456, 3) := dk_182 1 200 (dk_at dksX10_safe_0 13 rfl rfl)
theorem dX10_safe_16 : decode cX10_safe 16 = .ok (.invokevirtual 459, 3) := dk_182 1 203 (dk_at dksX10_safe_0 16 rfl rfl)
theorem dX10_safe_19 : decode cX10_safe 19 = .ok (.iconst 0, 1) := dk_3 (dk_at dksX10_safe_0 19 rfl rfl)
theorem dX10_safe_20 : decode cX10_safe 20 = .ok (.istore_n 2, 1) := dk_61 (dk_at dksX10_safe_0 20 rfl rfl)
theorem dX10_safe_21 : decode cX10_safe 21 = .ok (.iconst 0, 1) := dk_3 (dk_at dksX10_safe_0 21 rfl rfl)
theorem dX10_safe_22 : decode cX10_safe 22 = .ok (.istore_n 3, 1) := dk_62 (dk_at dksX10_safe_0 22 rfl rfl)
theorem dX10_safe_23 : decode cX10_safe 23 = .ok (.iload_n 3, 1) := dk_29 (dk_at dksX10_safe_0 23 rfl rfl)
theorem dX10_safe_24 : decode cX10_safe 24 = .ok (.aload_n 0, 1) := dk_42 (dk_at dksX10_safe_1 0 rfl rfl)
theorem dX10_safe_25 : decode cX10_safe 25 = .ok (.getfield 46, 3) := dk_180 0 46 (dk_at dksX10_safe_1 1 rfl rfl)
theorem dX10_safe_28 : decode cX10_safe 28 = .ok (.aload_n 0, 1) := dk_42 (dk_at dksX10_safe_1 4 rfl rfl)
theorem dX10_safe_29 : decode cX10_safe 29 = .ok (.getfield 251, 3) := dk_180 0 251 (dk_at dksX10_safe_1 5 rfl rfl)
theorem dX10_safe_32 : decode cX10_safe 32 = .ok (.iaload, 1) := dk_46 (dk_at dksX10_safe_1 8 rfl rfl)
theorem dX10_safe_33 : decode cX10_safe 33 = .ok (.if_icmp .ge 27, 3) := dk_162 0 27 (dk_at dksX10_safe_1 9 rfl rfl)
theorem dX10_safe_36 : decode cX10_safe 36 = .ok (.aload_n 0, 1) := dk_42 (dk_at dksX10_safe_1 12 rfl rfl)
theorem dX10_safe_37 : decode cX10_safe 37 = .ok (.getfield 146, 3) := dk_180 0 146 (dk_at dksX10_safe_1 13 rfl rfl)
theorem dX10_safe_40 : decode cX10_safe 40 = .ok (.iload_n 3, 1) := dk_29 (dk_at dksX10_safe_1 16 rfl rfl)
theorem dX10_safe_41 : decode cX10_safe 41 = .ok (.iaload, 1) := dk_46 (dk_at dksX10_safe_1 17 rfl rfl)
theorem dX10_safe_42 : decode cX10_safe 42 = .ok (.sipush 1000, 3) := dk_17 3 232 (dk_at dksX10_safe_1 18 rfl rfl)
theorem dX10_safe_45 : decode cX10_safe 45 = .ok (.if_icmp .ge 9, 3) := dk_162 0 9 (dk_at dksX10_safe_1 21 rfl rfl)
theorem dX10_safe_48 : decode cX10_safe 48 = .ok (.iload_n 2, 1) := dk_28 (dk_at dksX10_safe_2 0 rfl rfl)
theorem dX10_safe_49 : decode cX10_safe 49 = .ok (.iconst 1, 1) := dk_4 (dk_at dksX10_safe_2 1 rfl rfl)
theorem dX10_safe_50 : decode cX10_safe 50 = .ok (.iload_n 3, 1) := dk_29 (dk_at dksX10_safe_2 2 rfl rfl)
theorem dX10_safe_51 : decode cX10_safe 51 = .ok (.ishl, 1) := dk_120 (dk_at dksX10_safe_2 3 rfl rfl)
theorem dX10_safe_52 : decode cX10_safe 52 = .ok (.ior, 1) := dk_128 (dk_at dksX10_safe_2 4 rfl rfl)
theorem dX10_safe_53 : decode cX10_safe 53 = .ok (.istore_n 2, 1) := dk_61 (dk_at dksX10_safe_2 5 rfl rfl)
theorem dX10_safe_54 : decode cX10_safe 54 = .ok (.iinc 3 1, 3) := dk_132 3 1 (dk_at dksX10_safe_2 6 rfl rfl)
theorem dX10_safe_57 : decode cX10_safe 57 = .ok (.goto (-34), 3) := dk_167 255 222 (dk_at dksX10_safe_2 9 rfl rfl)
theorem dX10_safe_60 : decode cX10_safe 60 = .ok (.iload_n 2, 1) := dk_28 (dk_at dksX10_safe_2 12 rfl rfl)
theorem dX10_safe_61 : decode cX10_safe 61 = .ok (.ireturn, 1) := dk_172 (dk_at dksX10_safe_2 13 rfl rfl)
abbrev cX10_fillsLit : ByteArray := prog_22_method_95_code
def yX10_fillsLit : MethodName := ⟨RX10, "fillsLit", "(II)V"⟩
def dkwX10_fillsLit_0 : List UInt8 := [42, 27, 3, 28, 2, 130, 182, 1, 194, 177]
abbrev dktX10_fillsLit_0 : List UInt8 := dkwX10_fillsLit_0 ++ []
theorem dksX10_fillsLit_0 : cX10_fillsLit.data.toList.drop 0 = dktX10_fillsLit_0 := by decide +kernel
theorem dX10_fillsLit_0 : decode cX10_fillsLit 0 = .ok (.aload_n 0, 1) := dk_42 (dk_at dksX10_fillsLit_0 0 rfl rfl)
theorem dX10_fillsLit_1 : decode cX10_fillsLit 1 = .ok (.iload_n 1, 1) := dk_27 (dk_at dksX10_fillsLit_0 1 rfl rfl)
theorem dX10_fillsLit_2 : decode cX10_fillsLit 2 = .ok (.iconst 0, 1) := dk_3 (dk_at dksX10_fillsLit_0 2 rfl rfl)
theorem dX10_fillsLit_3 : decode cX10_fillsLit 3 = .ok (.iload_n 2, 1) := dk_28 (dk_at dksX10_fillsLit_0 3 rfl rfl)
theorem dX10_fillsLit_4 : decode cX10_fillsLit 4 = .ok (.iconst (-1), 1) := dk_2 (dk_at dksX10_fillsLit_0 4 rfl rfl)
theorem dX10_fillsLit_5 : decode cX10_fillsLit 5 = .ok (.ixor, 1) := dk_130 (dk_at dksX10_fillsLit_0 5 rfl rfl)
theorem dX10_fillsLit_6 : decode cX10_fillsLit 6 = .ok (.invokevirtual 450, 3) := dk_182 1 194 (dk_at dksX10_fillsLit_0 6 rfl rfl)
theorem dX10_fillsLit_9 : decode cX10_fillsLit 9 = .ok (.return_, 1) := dk_177 (dk_at dksX10_fillsLit_0 9 rfl rfl)
abbrev cX10_bridges : ByteArray := prog_22_method_97_code
def yX10_bridges : MethodName := ⟨RX10, "bridges", "()I"⟩
def dkwX10_bridges_4 : List UInt8 := [172]
abbrev dktX10_bridges_4 : List UInt8 := dkwX10_bridges_4 ++ []
def dkwX10_bridges_3 : List UInt8 := [104, 29, 96, 46, 46, 17, 3, 232, 161, 0, 9, 28, 4, 29, 120, 128, 61, 132, 3, 1, 167, 255, 173, 28]
abbrev dktX10_bridges_3 : List UInt8 := dkwX10_bridges_3 ++ dktX10_bridges_4
def dkwX10_bridges_2 : List UInt8 := [27, 4, 29, 120, 2, 130, 126, 182, 1, 203, 42, 180, 0, 146, 42, 180, 0, 55, 16, 10, 42, 180, 0, 251]
abbrev dktX10_bridges_2 : List UInt8 := dkwX10_bridges_2 ++ dktX10_bridges_3
def dkwX10_bridges_1 : List UInt8 := [122, 4, 126, 154, 0, 6, 167, 0, 59, 42, 42, 180, 0, 52, 16, 10, 42, 180, 0, 251, 104, 29, 96, 46]
abbrev dktX10_bridges_1 : List UInt8 := dkwX10_bridges_1 ++ dktX10_bridges_2
def dkwX10_bridges_0 : List UInt8 := [42, 182, 1, 200, 60, 3, 61, 3, 62, 29, 42, 180, 0, 49, 42, 180, 0, 251, 46, 162, 0, 76, 27, 29]
abbrev dktX10_bridges_0 : List UInt8 := dkwX10_bridges_0 ++ dktX10_bridges_1
theorem dksX10_bridges_0 : cX10_bridges.data.toList.drop 0 = dktX10_bridges_0 := by decide +kernel
theorem dksX10_bridges_1 : cX10_bridges.data.toList.drop 24 = dktX10_bridges_1 := dk_seg dksX10_bridges_0 24 rfl rfl
theorem dksX10_bridges_2 : cX10_bridges.data.toList.drop 48 = dktX10_bridges_2 := dk_seg dksX10_bridges_1 24 rfl rfl
theorem dksX10_bridges_3 : cX10_bridges.data.toList.drop 72 = dktX10_bridges_3 := dk_seg dksX10_bridges_2 24 rfl rfl
theorem dksX10_bridges_4 : cX10_bridges.data.toList.drop 96 = dktX10_bridges_4 := dk_seg dksX10_bridges_3 24 rfl rfl
theorem dX10_bridges_0 : decode cX10_bridges 0 = .ok (.aload_n 0, 1) := dk_42 (dk_at dksX10_bridges_0 0 rfl rfl)
theorem dX10_bridges_1 : decode cX10_bridges 1 = .ok (.invokevirtual 456, 3) := dk_182 1 200 (dk_at dksX10_bridges_0 1 rfl rfl)
theorem dX10_bridges_4 : decode cX10_bridges 4 = .ok (.istore_n 1, 1) := dk_60 (dk_at dksX10_bridges_0 4 rfl rfl)
theorem dX10_bridges_5 : decode cX10_bridges 5 = .ok (.iconst 0, 1) := dk_3 (dk_at dksX10_bridges_0 5 rfl rfl)
theorem dX10_bridges_6 : decode cX10_bridges 6 = .ok (.istore_n 2, 1) := dk_61 (dk_at dksX10_bridges_0 6 rfl rfl)
theorem dX10_bridges_7 : decode cX10_bridges 7 = .ok (.iconst 0, 1) := dk_3 (dk_at dksX10_bridges_0 7 rfl rfl)
theorem dX10_bridges_8 : decode cX10_bridges 8 = .ok (.istore_n 3, 1) := dk_62 (dk_at dksX10_bridges_0 8 rfl rfl)
theorem dX10_bridges_9 : decode cX10_bridges 9 = .ok (.iload_n 3, 1) := dk_29 (dk_at dksX10_bridges_0 9 rfl rfl)
theorem dX10_bridges_10 : decode cX10_bridges 10 = .ok (.aload_n 0, 1) := dk_42 (dk_at dksX10_bridges_0 10 rfl rfl)
theorem dX10_bridges_11 : decode cX10_bridges 11 = .ok (.getfield 49, 3) := dk_180 0 49 (dk_at dksX10_bridges_0 11 rfl rfl)
theorem dX10_bridges_14 : decode cX10_bridges 14 = .ok (.aload_n 0, 1) := dk_42 (dk_at dksX10_bridges_0 14 rfl rfl)
theorem dX10_bridges_15 : decode cX10_bridges 15 = .ok (.getfield 251, 3) := dk_180 0 251 (dk_at dksX10_bridges_0 15 rfl rfl)
theorem dX10_bridges_18 : decode cX10_bridges 18 = .ok (.iaload, 1) := dk_46 (dk_at dksX10_bridges_0 18 rfl rfl)
theorem dX10_bridges_19 : decode cX10_bridges 19 = .ok (.if_icmp .ge 76, 3) := dk_162 0 76 (dk_at dksX10_bridges_0 19 rfl rfl)
theorem dX10_bridges_22 : decode cX10_bridges 22 = .ok (.iload_n 1, 1) := dk_27 (dk_at dksX10_bridges_0 22 rfl rfl)
theorem dX10_bridges_23 : decode cX10_bridges 23 = .ok (.iload_n 3, 1) := dk_29 (dk_at dksX10_bridges_0 23 rfl rfl)
theorem dX10_bridges_24 : decode cX10_bridges 24 = .ok (.ishr, 1) := dk_122 (dk_at dksX10_bridges_1 0 rfl rfl)
theorem dX10_bridges_25 : decode cX10_bridges 25 = .ok (.iconst 1, 1) := dk_4 (dk_at dksX10_bridges_1 1 rfl rfl)
theorem dX10_bridges_26 : decode cX10_bridges 26 = .ok (.iand, 1) := dk_126 (dk_at dksX10_bridges_1 2 rfl rfl)
theorem dX10_bridges_27 : decode cX10_bridges 27 = .ok (.ifCond .ne 6, 3) := dk_154 0 6 (dk_at dksX10_bridges_1 3 rfl rfl)
theorem dX10_bridges_30 : decode cX10_bridges 30 = .ok (.goto 59, 3) := dk_167 0 59 (dk_at dksX10_bridges_1 6 rfl rfl)
theorem dX10_bridges_33 : decode cX10_bridges 33 = .ok (.aload_n 0, 1) := dk_42 (dk_at dksX10_bridges_1 9 rfl rfl)
theorem dX10_bridges_34 : decode cX10_bridges 34 = .ok (.aload_n 0, 1) := dk_42 (dk_at dksX10_bridges_1 10 rfl rfl)
theorem dX10_bridges_35 : decode cX10_bridges 35 = .ok (.getfield 52, 3) := dk_180 0 52 (dk_at dksX10_bridges_1 11 rfl rfl)
theorem dX10_bridges_38 : decode cX10_bridges 38 = .ok (.bipush 10, 2) := dk_16 10 (dk_at dksX10_bridges_1 14 rfl rfl)
theorem dX10_bridges_40 : decode cX10_bridges 40 = .ok (.aload_n 0, 1) := dk_42 (dk_at dksX10_bridges_1 16 rfl rfl)
theorem dX10_bridges_41 : decode cX10_bridges 41 = .ok (.getfield 251, 3) := dk_180 0 251 (dk_at dksX10_bridges_1 17 rfl rfl)
theorem dX10_bridges_44 : decode cX10_bridges 44 = .ok (.imul, 1) := dk_104 (dk_at dksX10_bridges_1 20 rfl rfl)
theorem dX10_bridges_45 : decode cX10_bridges 45 = .ok (.iload_n 3, 1) := dk_29 (dk_at dksX10_bridges_1 21 rfl rfl)
theorem dX10_bridges_46 : decode cX10_bridges 46 = .ok (.iadd, 1) := dk_96 (dk_at dksX10_bridges_1 22 rfl rfl)
theorem dX10_bridges_47 : decode cX10_bridges 47 = .ok (.iaload, 1) := dk_46 (dk_at dksX10_bridges_1 23 rfl rfl)
theorem dX10_bridges_48 : decode cX10_bridges 48 = .ok (.iload_n 1, 1) := dk_27 (dk_at dksX10_bridges_2 0 rfl rfl)
theorem dX10_bridges_49 : decode cX10_bridges 49 = .ok (.iconst 1, 1) := dk_4 (dk_at dksX10_bridges_2 1 rfl rfl)
theorem dX10_bridges_50 : decode cX10_bridges 50 = .ok (.iload_n 3, 1) := dk_29 (dk_at dksX10_bridges_2 2 rfl rfl)
theorem dX10_bridges_51 : decode cX10_bridges 51 = .ok (.ishl, 1) := dk_120 (dk_at dksX10_bridges_2 3 rfl rfl)
theorem dX10_bridges_52 : decode cX10_bridges 52 = .ok (.iconst (-1), 1) := dk_2 (dk_at dksX10_bridges_2 4 rfl rfl)
theorem dX10_bridges_53 : decode cX10_bridges 53 = .ok (.ixor, 1) := dk_130 (dk_at dksX10_bridges_2 5 rfl rfl)
theorem dX10_bridges_54 : decode cX10_bridges 54 = .ok (.iand, 1) := dk_126 (dk_at dksX10_bridges_2 6 rfl rfl)
theorem dX10_bridges_55 : decode cX10_bridges 55 = .ok (.invokevirtual 459, 3) := dk_182 1 203 (dk_at dksX10_bridges_2 7 rfl rfl)
theorem dX10_bridges_58 : decode cX10_bridges 58 = .ok (.aload_n 0, 1) := dk_42 (dk_at dksX10_bridges_2 10 rfl rfl)
theorem dX10_bridges_59 : decode cX10_bridges 59 = .ok (.getfield 146, 3) := dk_180 0 146 (dk_at dksX10_bridges_2 11 rfl rfl)
theorem dX10_bridges_62 : decode cX10_bridges 62 = .ok (.aload_n 0, 1) := dk_42 (dk_at dksX10_bridges_2 14 rfl rfl)
theorem dX10_bridges_63 : decode cX10_bridges 63 = .ok (.getfield 55, 3) := dk_180 0 55 (dk_at dksX10_bridges_2 15 rfl rfl)
theorem dX10_bridges_66 : decode cX10_bridges 66 = .ok (.bipush 10, 2) := dk_16 10 (dk_at dksX10_bridges_2 18 rfl rfl)
theorem dX10_bridges_68 : decode cX10_bridges 68 = .ok (.aload_n 0, 1) := dk_42 (dk_at dksX10_bridges_2 20 rfl rfl)
theorem dX10_bridges_69 : decode cX10_bridges 69 = .ok (.getfield 251, 3) := dk_180 0 251 (dk_at dksX10_bridges_2 21 rfl rfl)
theorem dX10_bridges_72 : decode cX10_bridges 72 = .ok (.imul, 1) := dk_104 (dk_at dksX10_bridges_3 0 rfl rfl)
theorem dX10_bridges_73 : decode cX10_bridges 73 = .ok (.iload_n 3, 1) := dk_29 (dk_at dksX10_bridges_3 1 rfl rfl)
theorem dX10_bridges_74 : decode cX10_bridges 74 = .ok (.iadd, 1) := dk_96 (dk_at dksX10_bridges_3 2 rfl rfl)
theorem dX10_bridges_75 : decode cX10_bridges 75 = .ok (.iaload, 1) := dk_46 (dk_at dksX10_bridges_3 3 rfl rfl)
theorem dX10_bridges_76 : decode cX10_bridges 76 = .ok (.iaload, 1) := dk_46 (dk_at dksX10_bridges_3 4 rfl rfl)
theorem dX10_bridges_77 : decode cX10_bridges 77 = .ok (.sipush 1000, 3) := dk_17 3 232 (dk_at dksX10_bridges_3 5 rfl rfl)
theorem dX10_bridges_80 : decode cX10_bridges 80 = .ok (.if_icmp .lt 9, 3) := dk_161 0 9 (dk_at dksX10_bridges_3 8 rfl rfl)
theorem dX10_bridges_83 : decode cX10_bridges 83 = .ok (.iload_n 2, 1) := dk_28 (dk_at dksX10_bridges_3 11 rfl rfl)
theorem dX10_bridges_84 : decode cX10_bridges 84 = .ok (.iconst 1, 1) := dk_4 (dk_at dksX10_bridges_3 12 rfl rfl)
theorem dX10_bridges_85 : decode cX10_bridges 85 = .ok (.iload_n 3, 1) := dk_29 (dk_at dksX10_bridges_3 13 rfl rfl)
theorem dX10_bridges_86 : decode cX10_bridges 86 = .ok (.ishl, 1) := dk_120 (dk_at dksX10_bridges_3 14 rfl rfl)
theorem dX10_bridges_87 : decode cX10_bridges 87 = .ok (.ior, 1) := dk_128 (dk_at dksX10_bridges_3 15 rfl rfl)
theorem dX10_bridges_88 : decode cX10_bridges 88 = .ok (.istore_n 2, 1) := dk_61 (dk_at dksX10_bridges_3 16 rfl rfl)
theorem dX10_bridges_89 : decode cX10_bridges 89 = .ok (.iinc 3 1, 3) := dk_132 3 1 (dk_at dksX10_bridges_3 17 rfl rfl)
theorem dX10_bridges_92 : decode cX10_bridges 92 = .ok (.goto (-83), 3) := dk_167 255 173 (dk_at dksX10_bridges_3 20 rfl rfl)
theorem dX10_bridges_95 : decode cX10_bridges 95 = .ok (.iload_n 2, 1) := dk_28 (dk_at dksX10_bridges_3 23 rfl rfl)
theorem dX10_bridges_96 : decode cX10_bridges 96 = .ok (.ireturn, 1) := dk_172 (dk_at dksX10_bridges_4 0 rfl rfl)
abbrev cX10_cut : ByteArray := prog_22_method_98_code
def yX10_cut : MethodName := ⟨RX10, "cut", "(II)I"⟩
def dkwX10_cut_4 : List UInt8 := [132, 5, 1, 167, 255, 193, 21, 4, 172]
abbrev dktX10_cut_4 : List UInt8 := dkwX10_cut_4 ++ []
def dkwX10_cut_3 : List UInt8 := [126, 182, 1, 203, 42, 180, 0, 146, 28, 46, 17, 3, 232, 161, 0, 10, 21, 5, 184, 1, 179, 54, 4]
abbrev dktX10_cut_3 : List UInt8 := dkwX10_cut_3 ++ dktX10_cut_4
def dkwX10_cut_2 : List UInt8 := [126, 154, 0, 46, 21, 5, 184, 1, 179, 21, 4, 161, 0, 6, 167, 0, 33, 42, 27, 29, 21, 5, 2, 130]
abbrev dktX10_cut_2 : List UInt8 := dkwX10_cut_2 ++ dktX10_cut_3
def dkwX10_cut_1 : List UInt8 := [182, 1, 200, 62, 16, 10, 54, 4, 3, 54, 5, 21, 5, 17, 4, 0, 162, 0, 61, 21, 5, 29, 2, 130]
abbrev dktX10_cut_1 : List UInt8 := dkwX10_cut_1 ++ dktX10_cut_2
def dkwX10_cut_0 : List UInt8 := [42, 27, 182, 1, 136, 153, 0, 16, 42, 28, 182, 1, 136, 153, 0, 8, 27, 28, 160, 0, 5, 2, 172, 42]
abbrev dktX10_cut_0 : List UInt8 := dkwX10_cut_0 ++ dktX10_cut_1
theorem dksX10_cut_0 : cX10_cut.data.toList.drop 0 = dktX10_cut_0 := by decide +kernel
theorem dksX10_cut_1 : cX10_cut.data.toList.drop 24 = dktX10_cut_1 := dk_seg dksX10_cut_0 24 rfl rfl
theorem dksX10_cut_2 : cX10_cut.data.toList.drop 48 = dktX10_cut_2 := dk_seg dksX10_cut_1 24 rfl rfl
theorem dksX10_cut_3 : cX10_cut.data.toList.drop 72 = dktX10_cut_3 := dk_seg dksX10_cut_2 24 rfl rfl
theorem dksX10_cut_4 : cX10_cut.data.toList.drop 95 = dktX10_cut_4 := dk_seg dksX10_cut_3 23 rfl rfl
theorem dX10_cut_0 : decode cX10_cut 0 = .ok (.aload_n 0, 1) := dk_42 (dk_at dksX10_cut_0 0 rfl rfl)
theorem dX10_cut_1 : decode cX10_cut 1 = .ok (.iload_n 1, 1) := dk_27 (dk_at dksX10_cut_0 1 rfl rfl)
theorem dX10_cut_2 : decode cX10_cut 2 = .ok (.invokevirtual 392, 3) := dk_182 1 136 (dk_at dksX10_cut_0 2 rfl rfl)
theorem dX10_cut_5 : decode cX10_cut 5 = .ok (.ifCond .eq 16, 3) := dk_153 0 16 (dk_at dksX10_cut_0 5 rfl rfl)
theorem dX10_cut_8 : decode cX10_cut 8 = .ok (.aload_n 0, 1) := dk_42 (dk_at dksX10_cut_0 8 rfl rfl)
theorem dX10_cut_9 : decode cX10_cut 9 = .ok (.iload_n 2, 1) := dk_28 (dk_at dksX10_cut_0 9 rfl rfl)
theorem dX10_cut_10 : decode cX10_cut 10 = .ok (.invokevirtual 392, 3) := dk_182 1 136 (dk_at dksX10_cut_0 10 rfl rfl)
theorem dX10_cut_13 : decode cX10_cut 13 = .ok (.ifCond .eq 8, 3) := dk_153 0 8 (dk_at dksX10_cut_0 13 rfl rfl)
theorem dX10_cut_16 : decode cX10_cut 16 = .ok (.iload_n 1, 1) := dk_27 (dk_at dksX10_cut_0 16 rfl rfl)
theorem dX10_cut_17 : decode cX10_cut 17 = .ok (.iload_n 2, 1) := dk_28 (dk_at dksX10_cut_0 17 rfl rfl)
theorem dX10_cut_18 : decode cX10_cut 18 = .ok (.if_icmp .ne 5, 3) := dk_160 0 5 (dk_at dksX10_cut_0 18 rfl rfl)
theorem dX10_cut_21 : decode cX10_cut 21 = .ok (.iconst (-1), 1) := dk_2 (dk_at dksX10_cut_0 21 rfl rfl)
theorem dX10_cut_22 : decode cX10_cut 22 = .ok (.ireturn, 1) := dk_172 (dk_at dksX10_cut_0 22 rfl rfl)
theorem dX10_cut_23 : decode cX10_cut 23 = .ok (.aload_n 0, 1) := dk_42 (dk_at dksX10_cut_0 23 rfl rfl)
theorem dX10_cut_24 : decode cX10_cut 24 = .ok (.invokevirtual 456, 3) := dk_182 1 200 (dk_at dksX10_cut_1 0 rfl rfl)
theorem dX10_cut_27 : decode cX10_cut 27 = .ok (.istore_n 3, 1) := dk_62 (dk_at dksX10_cut_1 3 rfl rfl)
theorem dX10_cut_28 : decode cX10_cut 28 = .ok (.bipush 10, 2) := dk_16 10 (dk_at dksX10_cut_1 4 rfl rfl)
theorem dX10_cut_30 : decode cX10_cut 30 = .ok (.istore 4, 2) := dk_54 4 (dk_at dksX10_cut_1 6 rfl rfl)
theorem dX10_cut_32 : decode cX10_cut 32 = .ok (.iconst 0, 1) := dk_3 (dk_at dksX10_cut_1 8 rfl rfl)
theorem dX10_cut_33 : decode cX10_cut 33 = .ok (.istore 5, 2) := dk_54 5 (dk_at dksX10_cut_1 9 rfl rfl)
theorem dX10_cut_35 : decode cX10_cut 35 = .ok (.iload 5, 2) := dk_21 5 (dk_at dksX10_cut_1 11 rfl rfl)
theorem dX10_cut_37 : decode cX10_cut 37 = .ok (.sipush 1024, 3) := dk_17 4 0 (dk_at dksX10_cut_1 13 rfl rfl)
theorem dX10_cut_40 : decode cX10_cut 40 = .ok (.if_icmp .ge 61, 3) := dk_162 0 61 (dk_at dksX10_cut_1 16 rfl rfl)
theorem dX10_cut_43 : decode cX10_cut 43 = .ok (.iload 5, 2) := dk_21 5 (dk_at dksX10_cut_1 19 rfl rfl)
theorem dX10_cut_45 : decode cX10_cut 45 = .ok (.iload_n 3, 1) := dk_29 (dk_at dksX10_cut_1 21 rfl rfl)
theorem dX10_cut_46 : decode cX10_cut 46 = .ok (.iconst (-1), 1) := dk_2 (dk_at dksX10_cut_1 22 rfl rfl)
theorem dX10_cut_47 : decode cX10_cut 47 = .ok (.ixor, 1) := dk_130 (dk_at dksX10_cut_1 23 rfl rfl)
theorem dX10_cut_48 : decode cX10_cut 48 = .ok (.iand, 1) := dk_126 (dk_at dksX10_cut_2 0 rfl rfl)
theorem dX10_cut_49 : decode cX10_cut 49 = .ok (.ifCond .ne 46, 3) := dk_154 0 46 (dk_at dksX10_cut_2 1 rfl rfl)
theorem dX10_cut_52 : decode cX10_cut 52 = .ok (.iload 5, 2) := dk_21 5 (dk_at dksX10_cut_2 4 rfl rfl)
theorem dX10_cut_54 : decode cX10_cut 54 = .ok (.invokestatic 435, 3) := dk_184 1 179 (dk_at dksX10_cut_2 6 rfl rfl)
theorem dX10_cut_57 : decode cX10_cut 57 = .ok (.iload 4, 2) := dk_21 4 (dk_at dksX10_cut_2 9 rfl rfl)
theorem dX10_cut_59 : decode cX10_cut 59 = .ok (.if_icmp .lt 6, 3) := dk_161 0 6 (dk_at dksX10_cut_2 11 rfl rfl)
theorem dX10_cut_62 : decode cX10_cut 62 = .ok (.goto 33, 3) := dk_167 0 33 (dk_at dksX10_cut_2 14 rfl rfl)
theorem dX10_cut_65 : decode cX10_cut 65 = .ok (.aload_n 0, 1) := dk_42 (dk_at dksX10_cut_2 17 rfl rfl)
theorem dX10_cut_66 : decode cX10_cut 66 = .ok (.iload_n 1, 1) := dk_27 (dk_at dksX10_cut_2 18 rfl rfl)
theorem dX10_cut_67 : decode cX10_cut 67 = .ok (.iload_n 3, 1) := dk_29 (dk_at dksX10_cut_2 19 rfl rfl)
theorem dX10_cut_68 : decode cX10_cut 68 = .ok (.iload 5, 2) := dk_21 5 (dk_at dksX10_cut_2 20 rfl rfl)
theorem dX10_cut_70 : decode cX10_cut 70 = .ok (.iconst (-1), 1) := dk_2 (dk_at dksX10_cut_2 22 rfl rfl)
theorem dX10_cut_71 : decode cX10_cut 71 = .ok (.ixor, 1) := dk_130 (dk_at dksX10_cut_2 23 rfl rfl)
theorem dX10_cut_72 : decode cX10_cut 72 = .ok (.iand, 1) := dk_126 (dk_at dksX10_cut_3 0 rfl rfl)
theorem dX10_cut_73 : decode cX10_cut 73 = .ok (.invokevirtual 459, 3) := dk_182 1 203 (dk_at dksX10_cut_3 1 rfl rfl)
theorem dX10_cut_76 : decode cX10_cut 76 = .ok (.aload_n 0, 1) := dk_42 (dk_at dksX10_cut_3 4 rfl rfl)
theorem dX10_cut_77 : decode cX10_cut 77 = .ok (.getfield 146, 3) := dk_180 0 146 (dk_at dksX10_cut_3 5 rfl rfl)
theorem dX10_cut_80 : decode cX10_cut 80 = .ok (.iload_n 2, 1) := dk_28 (dk_at dksX10_cut_3 8 rfl rfl)
theorem dX10_cut_81 : decode cX10_cut 81 = .ok (.iaload, 1) := dk_46 (dk_at dksX10_cut_3 9 rfl rfl)
theorem dX10_cut_82 : decode cX10_cut 82 = .ok (.sipush 1000, 3) := dk_17 3 232 (dk_at dksX10_cut_3 10 rfl rfl)
theorem dX10_cut_85 : decode cX10_cut 85 = .ok (.if_icmp .lt 10, 3) := dk_161 0 10 (dk_at dksX10_cut_3 13 rfl rfl)
theorem dX10_cut_88 : decode cX10_cut 88 = .ok (.iload 5, 2) := dk_21 5 (dk_at dksX10_cut_3 16 rfl rfl)
theorem dX10_cut_90 : decode cX10_cut 90 = .ok (.invokestatic 435, 3) := dk_184 1 179 (dk_at dksX10_cut_3 18 rfl rfl)
theorem dX10_cut_93 : decode cX10_cut 93 = .ok (.istore 4, 2) := dk_54 4 (dk_at dksX10_cut_3 21 rfl rfl)
theorem dX10_cut_95 : decode cX10_cut 95 = .ok (.iinc 5 1, 3) := dk_132 5 1 (dk_at dksX10_cut_4 0 rfl rfl)
theorem dX10_cut_98 : decode cX10_cut 98 = .ok (.goto (-63), 3) := dk_167 255 193 (dk_at dksX10_cut_4 3 rfl rfl)
theorem dX10_cut_101 : decode cX10_cut 101 = .ok (.iload 4, 2) := dk_21 4 (dk_at dksX10_cut_4 6 rfl rfl)
theorem dX10_cut_103 : decode cX10_cut 103 = .ok (.ireturn, 1) := dk_172 (dk_at dksX10_cut_4 8 rfl rfl)
abbrev cX10_round : ByteArray := prog_22_method_99_code
def yX10_round : MethodName := ⟨RX10, "round", "()I"⟩
def dkwX10_round_13 : List UInt8 := [132, 4, 1, 167, 255, 96, 29, 17, 3, 232, 161, 0, 8, 16, 254, 167, 0, 4, 29, 172]
abbrev dktX10_round_13 : List UInt8 := dkwX10_round_13 ++ []
def dkwX10_round_12 : List UInt8 := [180, 0, 149, 21, 6, 46, 162, 0, 12, 42, 180, 0, 149, 21, 6, 21, 7, 79, 132, 5, 1, 167, 255, 157]
abbrev dktX10_round_12 : List UInt8 := dkwX10_round_12 ++ dktX10_round_13
def dkwX10_round_11 : List UInt8 := [46, 96, 54, 7, 27, 21, 4, 16, 7, 108, 2, 130, 126, 4, 21, 5, 120, 126, 153, 0, 24, 21, 7, 42]
abbrev dktX10_round_11 : List UInt8 := dkwX10_round_11 ++ dktX10_round_12
def dkwX10_round_10 : List UInt8 := [54, 6, 42, 180, 0, 149, 21, 4, 46, 42, 180, 0, 152, 16, 7, 21, 4, 16, 7, 112, 104, 21, 5, 96]
abbrev dktX10_round_10 : List UInt8 := dkwX10_round_10 ++ dktX10_round_11
def dkwX10_round_9 : List UInt8 := [180, 0, 251, 46, 162, 0, 91, 16, 7, 21, 4, 16, 7, 108, 4, 21, 5, 120, 128, 104, 21, 5, 96]
abbrev dktX10_round_9 : List UInt8 := dkwX10_round_9 ++ dktX10_round_10
def dkwX10_round_8 : List UInt8 := [46, 29, 162, 0, 11, 42, 180, 0, 149, 21, 4, 46, 62, 3, 54, 5, 21, 5, 42, 180, 0, 46, 42]
abbrev dktX10_round_8 : List UInt8 := dkwX10_round_8 ++ dktX10_round_9
def dkwX10_round_7 : List UInt8 := [17, 3, 232, 161, 0, 6, 167, 0, 136, 21, 4, 16, 7, 108, 27, 160, 0, 22, 42, 180, 0, 149, 21, 4]
abbrev dktX10_round_7 : List UInt8 := dkwX10_round_7 ++ dktX10_round_8
def dkwX10_round_6 : List UInt8 := [17, 3, 232, 62, 3, 54, 4, 21, 4, 17, 3, 128, 162, 0, 158, 42, 180, 0, 149, 21, 4, 46]
abbrev dktX10_round_6 : List UInt8 := dkwX10_round_6 ++ dktX10_round_7
def dkwX10_round_5 : List UInt8 := [79, 132, 3, 1, 167, 255, 237, 42, 180, 0, 149, 16, 7, 27, 4, 28, 120, 126, 104, 28, 96, 3, 79]
abbrev dktX10_round_5 : List UInt8 := dkwX10_round_5 ++ dktX10_round_6
def dkwX10_round_4 : List UInt8 := [180, 0, 128, 16, 46, 46, 61, 3, 62, 29, 17, 3, 128, 162, 0, 18, 42, 180, 0, 149, 29, 17, 3, 232]
abbrev dktX10_round_4 : List UInt8 := dkwX10_round_4 ++ dktX10_round_5
def dkwX10_round_3 : List UInt8 := [104, 29, 96, 42, 180, 0, 146, 29, 46, 79, 132, 3, 1, 167, 255, 230, 132, 2, 1, 167, 255, 188, 42]
abbrev dktX10_round_3 : List UInt8 := dkwX10_round_3 ++ dktX10_round_4
def dkwX10_round_2 : List UInt8 := [128, 60, 42, 28, 3, 3, 182, 1, 194, 3, 62, 29, 16, 7, 162, 0, 26, 42, 180, 0, 152, 16, 7, 28]
abbrev dktX10_round_2 : List UInt8 := dkwX10_round_2 ++ dktX10_round_3
def dkwX10_round_1 : List UInt8 := [42, 180, 0, 46, 42, 180, 0, 251, 46, 162, 0, 61, 42, 28, 182, 1, 139, 153, 0, 9, 27, 4, 28, 120]
abbrev dktX10_round_1 : List UInt8 := dkwX10_round_1 ++ dktX10_round_2
def dkwX10_round_0 : List UInt8 := [42, 180, 0, 46, 42, 180, 0, 251, 46, 154, 0, 6, 16, 254, 172, 42, 182, 1, 91, 3, 60, 3, 61, 28]
abbrev dktX10_round_0 : List UInt8 := dkwX10_round_0 ++ dktX10_round_1
theorem dksX10_round_0 : cX10_round.data.toList.drop 0 = dktX10_round_0 := by decide +kernel
theorem dksX10_round_1 : cX10_round.data.toList.drop 24 = dktX10_round_1 := dk_seg dksX10_round_0 24 rfl rfl
theorem dksX10_round_2 : cX10_round.data.toList.drop 48 = dktX10_round_2 := dk_seg dksX10_round_1 24 rfl rfl
theorem dksX10_round_3 : cX10_round.data.toList.drop 72 = dktX10_round_3 := dk_seg dksX10_round_2 24 rfl rfl
theorem dksX10_round_4 : cX10_round.data.toList.drop 95 = dktX10_round_4 := dk_seg dksX10_round_3 23 rfl rfl
theorem dksX10_round_5 : cX10_round.data.toList.drop 119 = dktX10_round_5 := dk_seg dksX10_round_4 24 rfl rfl
theorem dksX10_round_6 : cX10_round.data.toList.drop 142 = dktX10_round_6 := dk_seg dksX10_round_5 23 rfl rfl
theorem dksX10_round_7 : cX10_round.data.toList.drop 164 = dktX10_round_7 := dk_seg dksX10_round_6 22 rfl rfl
theorem dksX10_round_8 : cX10_round.data.toList.drop 188 = dktX10_round_8 := dk_seg dksX10_round_7 24 rfl rfl
theorem dksX10_round_9 : cX10_round.data.toList.drop 211 = dktX10_round_9 := dk_seg dksX10_round_8 23 rfl rfl
theorem dksX10_round_10 : cX10_round.data.toList.drop 234 = dktX10_round_10 := dk_seg dksX10_round_9 23 rfl rfl
theorem dksX10_round_11 : cX10_round.data.toList.drop 258 = dktX10_round_11 := dk_seg dksX10_round_10 24 rfl rfl
theorem dksX10_round_12 : cX10_round.data.toList.drop 282 = dktX10_round_12 := dk_seg dksX10_round_11 24 rfl rfl
theorem dksX10_round_13 : cX10_round.data.toList.drop 306 = dktX10_round_13 := dk_seg dksX10_round_12 24 rfl rfl
theorem dX10_round_0 : decode cX10_round 0 = .ok (.aload_n 0, 1) := dk_42 (dk_at dksX10_round_0 0 rfl rfl)
theorem dX10_round_1 : decode cX10_round 1 = .ok (.getfield 46, 3) := dk_180 0 46 (dk_at dksX10_round_0 1 rfl rfl)
theorem dX10_round_4 : decode cX10_round 4 = .ok (.aload_n 0, 1) := dk_42 (dk_at dksX10_round_0 4 rfl rfl)
theorem dX10_round_5 : decode cX10_round 5 = .ok (.getfield 251, 3) := dk_180 0 251 (dk_at dksX10_round_0 5 rfl rfl)
theorem dX10_round_8 : decode cX10_round 8 = .ok (.iaload, 1) := dk_46 (dk_at dksX10_round_0 8 rfl rfl)
theorem dX10_round_9 : decode cX10_round 9 = .ok (.ifCond .ne 6, 3) := dk_154 0 6 (dk_at dksX10_round_0 9 rfl rfl)
theorem dX10_round_12 : decode cX10_round 12 = .ok (.bipush (-2), 2) := dk_16 254 (dk_at dksX10_round_0 12 rfl rfl)
theorem dX10_round_14 : decode cX10_round 14 = .ok (.ireturn, 1) := dk_172 (dk_at dksX10_round_0 14 rfl rfl)
theorem dX10_round_15 : decode cX10_round 15 = .ok (.aload_n 0, 1) := dk_42 (dk_at dksX10_round_0 15 rfl rfl)
theorem dX10_round_16 : decode cX10_round 16 = .ok (.invokevirtual 347, 3) := dk_182 1 91 (dk_at dksX10_round_0 16 rfl rfl)
theorem dX10_round_19 : decode cX10_round 19 = .ok (.iconst 0, 1) := dk_3 (dk_at dksX10_round_0 19 rfl rfl)
theorem dX10_round_20 : decode cX10_round 20 = .ok (.istore_n 1, 1) := dk_60 (dk_at dksX10_round_0 20 rfl rfl)
theorem dX10_round_21 : decode cX10_round 21 = .ok (.iconst 0, 1) := dk_3 (dk_at dksX10_round_0 21 rfl rfl)
theorem dX10_round_22 : decode cX10_round 22 = .ok (.istore_n 2, 1) := dk_61 (dk_at dksX10_round_0 22 rfl rfl)
theorem dX10_round_23 : decode cX10_round 23 = .ok (.iload_n 2, 1) := dk_28 (dk_at dksX10_round_0 23 rfl rfl)
theorem dX10_round_24 : decode cX10_round 24 = .ok (.aload_n 0, 1) := dk_42 (dk_at dksX10_round_1 0 rfl rfl)
theorem dX10_round_25 : decode cX10_round 25 = .ok (.getfield 46, 3) := dk_180 0 46 (dk_at dksX10_round_1 1 rfl rfl)
theorem dX10_round_28 : decode cX10_round 28 = .ok (.aload_n 0, 1) := dk_42 (dk_at dksX10_round_1 4 rfl rfl)
theorem dX10_round_29 : decode cX10_round 29 = .ok (.getfield 251, 3) := dk_180 0 251 (dk_at dksX10_round_1 5 rfl rfl)
theorem dX10_round_32 : decode cX10_round 32 = .ok (.iaload, 1) := dk_46 (dk_at dksX10_round_1 8 rfl rfl)
theorem dX10_round_33 : decode cX10_round 33 = .ok (.if_icmp .ge 61, 3) := dk_162 0 61 (dk_at dksX10_round_1 9 rfl rfl)
theorem dX10_round_36 : decode cX10_round 36 = .ok (.aload_n 0, 1) := dk_42 (dk_at dksX10_round_1 12 rfl rfl)
theorem dX10_round_37 : decode cX10_round 37 = .ok (.iload_n 2, 1) := dk_28 (dk_at dksX10_round_1 13 rfl rfl)
theorem dX10_round_38 : decode cX10_round 38 = .ok (.invokevirtual 395, 3) := dk_182 1 139 (dk_at dksX10_round_1 14 rfl rfl)
theorem dX10_round_41 : decode cX10_round 41 = .ok (.ifCond .eq 9, 3) := dk_153 0 9 (dk_at dksX10_round_1 17 rfl rfl)
theorem dX10_round_44 : decode cX10_round 44 = .ok (.iload_n 1, 1) := dk_27 (dk_at dksX10_round_1 20 rfl rfl)
theorem dX10_round_45 : decode cX10_round 45 = .ok (.iconst 1, 1) := dk_4 (dk_at dksX10_round_1 21 rfl rfl)
theorem dX10_round_46 : decode cX10_round 46 = .ok (.iload_n 2, 1) := dk_28 (dk_at dksX10_round_1 22 rfl rfl)
theorem dX10_round_47 : decode cX10_round 47 = .ok (.ishl, 1) := dk_120 (dk_at dksX10_round_1 23 rfl rfl)
theorem dX10_round_48 : decode cX10_round 48 = .ok (.ior, 1) := dk_128 (dk_at dksX10_round_2 0 rfl rfl)
theorem dX10_round_49 : decode cX10_round 49 = .ok (.istore_n 1, 1) := dk_60 (dk_at dksX10_round_2 1 rfl rfl)
theorem dX10_round_50 : decode cX10_round 50 = .ok (.aload_n 0, 1) := dk_42 (dk_at dksX10_round_2 2 rfl rfl)
theorem dX10_round_51 : decode cX10_round 51 = .ok (.iload_n 2, 1) := dk_28 (dk_at dksX10_round_2 3 rfl rfl)
theorem dX10_round_52 : decode cX10_round 52 = .ok (.iconst 0, 1) := dk_3 (dk_at dksX10_round_2 4 rfl rfl)
theorem dX10_round_53 : decode cX10_round 53 = .ok (.iconst 0, 1) := dk_3 (dk_at dksX10_round_2 5 rfl rfl)
theorem dX10_round_54 : decode cX10_round 54 = .ok (.invokevirtual 450, 3) := dk_182 1 194 (dk_at dksX10_round_2 6 rfl rfl)
theorem dX10_round_57 : decode cX10_round 57 = .ok (.iconst 0, 1) := dk_3 (dk_at dksX10_round_2 9 rfl rfl)
theorem dX10_round_58 : decode cX10_round 58 = .ok (.istore_n 3, 1) := dk_62 (dk_at dksX10_round_2 10 rfl rfl)
theorem dX10_round_59 : decode cX10_round 59 = .ok (.iload_n 3, 1) := dk_29 (dk_at dksX10_round_2 11 rfl rfl)
theorem dX10_round_60 : decode cX10_round 60 = .ok (.bipush 7, 2) := dk_16 7 (dk_at dksX10_round_2 12 rfl rfl)
theorem dX10_round_62 : decode cX10_round 62 = .ok (.if_icmp .ge 26, 3) := dk_162 0 26 (dk_at dksX10_round_2 14 rfl rfl)
theorem dX10_round_65 : decode cX10_round 65 = .ok (.aload_n 0, 1) := dk_42 (dk_at dksX10_round_2 17 rfl rfl)
theorem dX10_round_66 : decode cX10_round 66 = .ok (.getfield 152, 3) := dk_180 0 152 (dk_at dksX10_round_2 18 rfl rfl)
theorem dX10_round_69 : decode cX10_round 69 = .ok (.bipush 7, 2) := dk_16 7 (dk_at dksX10_round_2 21 rfl rfl)
theorem dX10_round_71 : decode cX10_round 71 = .ok (.iload_n 2, 1) := dk_28 (dk_at dksX10_round_2 23 rfl rfl)
theorem dX10_round_72 : decode cX10_round 72 = .ok (.imul, 1) := dk_104 (dk_at dksX10_round_3 0 rfl rfl)
theorem dX10_round_73 : decode cX10_round 73 = .ok (.iload_n 3, 1) := dk_29 (dk_at dksX10_round_3 1 rfl rfl)
theorem dX10_round_74 : decode cX10_round 74 = .ok (.iadd, 1) := dk_96 (dk_at dksX10_round_3 2 rfl rfl)
theorem dX10_round_75 : decode cX10_round 75 = .ok (.aload_n 0, 1) := dk_42 (dk_at dksX10_round_3 3 rfl rfl)
theorem dX10_round_76 : decode cX10_round 76 = .ok (.getfield 146, 3) := dk_180 0 146 (dk_at dksX10_round_3 4 rfl rfl)
theorem dX10_round_79 : decode cX10_round 79 = .ok (.iload_n 3, 1) := dk_29 (dk_at dksX10_round_3 7 rfl rfl)
theorem dX10_round_80 : decode cX10_round 80 = .ok (.iaload, 1) := dk_46 (dk_at dksX10_round_3 8 rfl rfl)
theorem dX10_round_81 : decode cX10_round 81 = .ok (.iastore, 1) := dk_79 (dk_at dksX10_round_3 9 rfl rfl)
theorem dX10_round_82 : decode cX10_round 82 = .ok (.iinc 3 1, 3) := dk_132 3 1 (dk_at dksX10_round_3 10 rfl rfl)
theorem dX10_round_85 : decode cX10_round 85 = .ok (.goto (-26), 3) := dk_167 255 230 (dk_at dksX10_round_3 13 rfl rfl)
theorem dX10_round_88 : decode cX10_round 88 = .ok (.iinc 2 1, 3) := dk_132 2 1 (dk_at dksX10_round_3 16 rfl rfl)
theorem dX10_round_91 : decode cX10_round 91 = .ok (.goto (-68), 3) := dk_167 255 188 (dk_at dksX10_round_3 19 rfl rfl)
theorem dX10_round_94 : decode cX10_round 94 = .ok (.aload_n 0, 1) := dk_42 (dk_at dksX10_round_3 22 rfl rfl)
theorem dX10_round_95 : decode cX10_round 95 = .ok (.getfield 128, 3) := dk_180 0 128 (dk_at dksX10_round_4 0 rfl rfl)
theorem dX10_round_98 : decode cX10_round 98 = .ok (.bipush 46, 2) := dk_16 46 (dk_at dksX10_round_4 3 rfl rfl)
theorem dX10_round_100 : decode cX10_round 100 = .ok (.iaload, 1) := dk_46 (dk_at dksX10_round_4 5 rfl rfl)
theorem dX10_round_101 : decode cX10_round 101 = .ok (.istore_n 2, 1) := dk_61 (dk_at dksX10_round_4 6 rfl rfl)
theorem dX10_round_102 : decode cX10_round 102 = .ok (.iconst 0, 1) := dk_3 (dk_at dksX10_round_4 7 rfl rfl)
theorem dX10_round_103 : decode cX10_round 103 = .ok (.istore_n 3, 1) := dk_62 (dk_at dksX10_round_4 8 rfl rfl)
theorem dX10_round_104 : decode cX10_round 104 = .ok (.iload_n 3, 1) := dk_29 (dk_at dksX10_round_4 9 rfl rfl)
theorem dX10_round_105 : decode cX10_round 105 = .ok (.sipush 896, 3) := dk_17 3 128 (dk_at dksX10_round_4 10 rfl rfl)
theorem dX10_round_108 : decode cX10_round 108 = .ok (.if_icmp .ge 18, 3) := dk_162 0 18 (dk_at dksX10_round_4 13 rfl rfl)
theorem dX10_round_111 : decode cX10_round 111 = .ok (.aload_n 0, 1) := dk_42 (dk_at dksX10_round_4 16 rfl rfl)
theorem dX10_round_112 : decode cX10_round 112 = .ok (.getfield 149, 3) := dk_180 0 149 (dk_at dksX10_round_4 17 rfl rfl)
theorem dX10_round_115 : decode cX10_round 115 = .ok (.iload_n 3, 1) := dk_29 (dk_at dksX10_round_4 20 rfl rfl)
theorem dX10_round_116 : decode cX10_round 116 = .ok (.sipush 1000, 3) := dk_17 3 232 (dk_at dksX10_round_4 21 rfl rfl)
theorem dX10_round_119 : decode cX10_round 119 = .ok (.iastore, 1) := dk_79 (dk_at dksX10_round_5 0 rfl rfl)
theorem dX10_round_120 : decode cX10_round 120 = .ok (.iinc 3 1, 3) := dk_132 3 1 (dk_at dksX10_round_5 1 rfl rfl)
theorem dX10_round_123 : decode cX10_round 123 = .ok (.goto (-19), 3) := dk_167 255 237 (dk_at dksX10_round_5 4 rfl rfl)
theorem dX10_round_126 : decode cX10_round 126 = .ok (.aload_n 0, 1) := dk_42 (dk_at dksX10_round_5 7 rfl rfl)
theorem dX10_round_127 : decode cX10_round 127 = .ok (.getfield 149, 3) := dk_180 0 149 (dk_at dksX10_round_5 8 rfl rfl)
theorem dX10_round_130 : decode cX10_round 130 = .ok (.bipush 7, 2) := dk_16 7 (dk_at dksX10_round_5 11 rfl rfl)
theorem dX10_round_132 : decode cX10_round 132 = .ok (.iload_n 1, 1) := dk_27 (dk_at dksX10_round_5 13 rfl rfl)
theorem dX10_round_133 : decode cX10_round 133 = .ok (.iconst 1, 1) := dk_4 (dk_at dksX10_round_5 14 rfl rfl)
theorem dX10_round_134 : decode cX10_round 134 = .ok (.iload_n 2, 1) := dk_28 (dk_at dksX10_round_5 15 rfl rfl)
theorem dX10_round_135 : decode cX10_round 135 = .ok (.ishl, 1) := dk_120 (dk_at dksX10_round_5 16 rfl rfl)
theorem dX10_round_136 : decode cX10_round 136 = .ok (.iand, 1) := dk_126 (dk_at dksX10_round_5 17 rfl rfl)
theorem dX10_round_137 : decode cX10_round 137 = .ok (.imul, 1) := dk_104 (dk_at dksX10_round_5 18 rfl rfl)
theorem dX10_round_138 : decode cX10_round 138 = .ok (.iload_n 2, 1) := dk_28 (dk_at dksX10_round_5 19 rfl rfl)
theorem dX10_round_139 : decode cX10_round 139 = .ok (.iadd, 1) := dk_96 (dk_at dksX10_round_5 20 rfl rfl)
theorem dX10_round_140 : decode cX10_round 140 = .ok (.iconst 0, 1) := dk_3 (dk_at dksX10_round_5 21 rfl rfl)
theorem dX10_round_141 : decode cX10_round 141 = .ok (.iastore, 1) := dk_79 (dk_at dksX10_round_5 22 rfl rfl)
theorem dX10_round_142 : decode cX10_round 142 = .ok (.sipush 1000, 3) := dk_17 3 232 (dk_at dksX10_round_6 0 rfl rfl)
theorem dX10_round_145 : decode cX10_round 145 = .ok (.istore_n 3, 1) := dk_62 (dk_at dksX10_round_6 3 rfl rfl)
theorem dX10_round_146 : decode cX10_round 146 = .ok (.iconst 0, 1) := dk_3 (dk_at dksX10_round_6 4 rfl rfl)
theorem dX10_round_147 : decode cX10_round 147 = .ok (.istore 4, 2) := dk_54 4 (dk_at dksX10_round_6 5 rfl rfl)
theorem dX10_round_149 : decode cX10_round 149 = .ok (.iload 4, 2) := dk_21 4 (dk_at dksX10_round_6 7 rfl rfl)
theorem dX10_round_151 : decode cX10_round 151 = .ok (.sipush 896, 3) := dk_17 3 128 (dk_at dksX10_round_6 9 rfl rfl)
theorem dX10_round_154 : decode cX10_round 154 = .ok (.if_icmp .ge 158, 3) := dk_162 0 158 (dk_at dksX10_round_6 12 rfl rfl)
theorem dX10_round_157 : decode cX10_round 157 = .ok (.aload_n 0, 1) := dk_42 (dk_at dksX10_round_6 15 rfl rfl)
theorem dX10_round_158 : decode cX10_round 158 = .ok (.getfield 149, 3) := dk_180 0 149 (dk_at dksX10_round_6 16 rfl rfl)
theorem dX10_round_161 : decode cX10_round 161 = .ok (.iload 4, 2) := dk_21 4 (dk_at dksX10_round_6 19 rfl rfl)
theorem dX10_round_163 : decode cX10_round 163 = .ok (.iaload, 1) := dk_46 (dk_at dksX10_round_6 21 rfl rfl)
theorem dX10_round_164 : decode cX10_round 164 = .ok (.sipush 1000, 3) := dk_17 3 232 (dk_at dksX10_round_7 0 rfl rfl)
theorem dX10_round_167 : decode cX10_round 167 = .ok (.if_icmp .lt 6, 3) := dk_161 0 6 (dk_at dksX10_round_7 3 rfl rfl)
theorem dX10_round_170 : decode cX10_round 170 = .ok (.goto 136, 3) := dk_167 0 136 (dk_at dksX10_round_7 6 rfl rfl)
theorem dX10_round_173 : decode cX10_round 173 = .ok (.iload 4, 2) := dk_21 4 (dk_at dksX10_round_7 9 rfl rfl)
theorem dX10_round_175 : decode cX10_round 175 = .ok (.bipush 7, 2) := dk_16 7 (dk_at dksX10_round_7 11 rfl rfl)
theorem dX10_round_177 : decode cX10_round 177 = .ok (.idiv, 1) := dk_108 (dk_at dksX10_round_7 13 rfl rfl)
theorem dX10_round_178 : decode cX10_round 178 = .ok (.iload_n 1, 1) := dk_27 (dk_at dksX10_round_7 14 rfl rfl)
theorem dX10_round_179 : decode cX10_round 179 = .ok (.if_icmp .ne 22, 3) := dk_160 0 22 (dk_at dksX10_round_7 15 rfl rfl)
theorem dX10_round_182 : decode cX10_round 182 = .ok (.aload_n 0, 1) := dk_42 (dk_at dksX10_round_7 18 rfl rfl)
theorem dX10_round_183 : decode cX10_round 183 = .ok (.getfield 149, 3) := dk_180 0 149 (dk_at dksX10_round_7 19 rfl rfl)
theorem dX10_round_186 : decode cX10_round 186 = .ok (.iload 4, 2) := dk_21 4 (dk_at dksX10_round_7 22 rfl rfl)
theorem dX10_round_188 : decode cX10_round 188 = .ok (.iaload, 1) := dk_46 (dk_at dksX10_round_8 0 rfl rfl)
theorem dX10_round_189 : decode cX10_round 189 = .ok (.iload_n 3, 1) := dk_29 (dk_at dksX10_round_8 1 rfl rfl)
theorem dX10_round_190 : decode cX10_round 190 = .ok (.if_icmp .ge 11, 3) := dk_162 0 11 (dk_at dksX10_round_8 2 rfl rfl)
theorem dX10_round_193 : decode cX10_round 193 = .ok (.aload_n 0, 1) := dk_42 (dk_at dksX10_round_8 5 rfl rfl)
theorem dX10_round_194 : decode cX10_round 194 = .ok (.getfield 149, 3) := dk_180 0 149 (dk_at dksX10_round_8 6 rfl rfl)
theorem dX10_round_197 : decode cX10_round 197 = .ok (.iload 4, 2) := dk_21 4 (dk_at dksX10_round_8 9 rfl rfl)
theorem dX10_round_199 : decode cX10_round 199 = .ok (.iaload, 1) := dk_46 (dk_at dksX10_round_8 11 rfl rfl)
theorem dX10_round_200 : decode cX10_round 200 = .ok (.istore_n 3, 1) := dk_62 (dk_at dksX10_round_8 12 rfl rfl)
theorem dX10_round_201 : decode cX10_round 201 = .ok (.iconst 0, 1) := dk_3 (dk_at dksX10_round_8 13 rfl rfl)
theorem dX10_round_202 : decode cX10_round 202 = .ok (.istore 5, 2) := dk_54 5 (dk_at dksX10_round_8 14 rfl rfl)
theorem dX10_round_204 : decode cX10_round 204 = .ok (.iload 5, 2) := dk_21 5 (dk_at dksX10_round_8 16 rfl rfl)
theorem dX10_round_206 : decode cX10_round 206 = .ok (.aload_n 0, 1) := dk_42 (dk_at dksX10_round_8 18 rfl rfl)
theorem dX10_round_207 : decode cX10_round 207 = .ok (.getfield 46, 3) := dk_180 0 46 (dk_at dksX10_round_8 19 rfl rfl)
theorem dX10_round_210 : decode cX10_round 210 = .ok (.aload_n 0, 1) := dk_42 (dk_at dksX10_round_8 22 rfl rfl)
theorem dX10_round_211 : decode cX10_round 211 = .ok (.getfield 251, 3) := dk_180 0 251 (dk_at dksX10_round_9 0 rfl rfl)
theorem dX10_round_214 : decode cX10_round 214 = .ok (.iaload, 1) := dk_46 (dk_at dksX10_round_9 3 rfl rfl)
theorem dX10_round_215 : decode cX10_round 215 = .ok (.if_icmp .ge 91, 3) := dk_162 0 91 (dk_at dksX10_round_9 4 rfl rfl)
theorem dX10_round_218 : decode cX10_round 218 = .ok (.bipush 7, 2) := dk_16 7 (dk_at dksX10_round_9 7 rfl rfl)
theorem dX10_round_220 : decode cX10_round 220 = .ok (.iload 4, 2) := dk_21 4 (dk_at dksX10_round_9 9 rfl rfl)
theorem dX10_round_222 : decode cX10_round 222 = .ok (.bipush 7, 2) := dk_16 7 (dk_at dksX10_round_9 11 rfl rfl)
theorem dX10_round_224 : decode cX10_round 224 = .ok (.idiv, 1) := dk_108 (dk_at dksX10_round_9 13 rfl rfl)
theorem dX10_round_225 : decode cX10_round 225 = .ok (.iconst 1, 1) := dk_4 (dk_at dksX10_round_9 14 rfl rfl)
theorem dX10_round_226 : decode cX10_round 226 = .ok (.iload 5, 2) := dk_21 5 (dk_at dksX10_round_9 15 rfl rfl)
theorem dX10_round_228 : decode cX10_round 228 = .ok (.ishl, 1) := dk_120 (dk_at dksX10_round_9 17 rfl rfl)
theorem dX10_round_229 : decode cX10_round 229 = .ok (.ior, 1) := dk_128 (dk_at dksX10_round_9 18 rfl rfl)
theorem dX10_round_230 : decode cX10_round 230 = .ok (.imul, 1) := dk_104 (dk_at dksX10_round_9 19 rfl rfl)
theorem dX10_round_231 : decode cX10_round 231 = .ok (.iload 5, 2) := dk_21 5 (dk_at dksX10_round_9 20 rfl rfl)
theorem dX10_round_233 : decode cX10_round 233 = .ok (.iadd, 1) := dk_96 (dk_at dksX10_round_9 22 rfl rfl)
theorem dX10_round_234 : decode cX10_round 234 = .ok (.istore 6, 2) := dk_54 6 (dk_at dksX10_round_10 0 rfl rfl)
theorem dX10_round_236 : decode cX10_round 236 = .ok (.aload_n 0, 1) := dk_42 (dk_at dksX10_round_10 2 rfl rfl)
theorem dX10_round_237 : decode cX10_round 237 = .ok (.getfield 149, 3) := dk_180 0 149 (dk_at dksX10_round_10 3 rfl rfl)
theorem dX10_round_240 : decode cX10_round 240 = .ok (.iload 4, 2) := dk_21 4 (dk_at dksX10_round_10 6 rfl rfl)
theorem dX10_round_242 : decode cX10_round 242 = .ok (.iaload, 1) := dk_46 (dk_at dksX10_round_10 8 rfl rfl)
theorem dX10_round_243 : decode cX10_round 243 = .ok (.aload_n 0, 1) := dk_42 (dk_at dksX10_round_10 9 rfl rfl)
theorem dX10_round_244 : decode cX10_round 244 = .ok (.getfield 152, 3) := dk_180 0 152 (dk_at dksX10_round_10 10 rfl rfl)
theorem dX10_round_247 : decode cX10_round 247 = .ok (.bipush 7, 2) := dk_16 7 (dk_at dksX10_round_10 13 rfl rfl)
theorem dX10_round_249 : decode cX10_round 249 = .ok (.iload 4, 2) := dk_21 4 (dk_at dksX10_round_10 15 rfl rfl)
theorem dX10_round_251 : decode cX10_round 251 = .ok (.bipush 7, 2) := dk_16 7 (dk_at dksX10_round_10 17 rfl rfl)
theorem dX10_round_253 : decode cX10_round 253 = .ok (.irem, 1) := dk_112 (dk_at dksX10_round_10 19 rfl rfl)
theorem dX10_round_254 : decode cX10_round 254 = .ok (.imul, 1) := dk_104 (dk_at dksX10_round_10 20 rfl rfl)
theorem dX10_round_255 : decode cX10_round 255 = .ok (.iload 5, 2) := dk_21 5 (dk_at dksX10_round_10 21 rfl rfl)
theorem dX10_round_257 : decode cX10_round 257 = .ok (.iadd, 1) := dk_96 (dk_at dksX10_round_10 23 rfl rfl)
theorem dX10_round_258 : decode cX10_round 258 = .ok (.iaload, 1) := dk_46 (dk_at dksX10_round_11 0 rfl rfl)
theorem dX10_round_259 : decode cX10_round 259 = .ok (.iadd, 1) := dk_96 (dk_at dksX10_round_11 1 rfl rfl)
theorem dX10_round_260 : decode cX10_round 260 = .ok (.istore 7, 2) := dk_54 7 (dk_at dksX10_round_11 2 rfl rfl)
theorem dX10_round_262 : decode cX10_round 262 = .ok (.iload_n 1, 1) := dk_27 (dk_at dksX10_round_11 4 rfl rfl)
theorem dX10_round_263 : decode cX10_round 263 = .ok (.iload 4, 2) := dk_21 4 (dk_at dksX10_round_11 5 rfl rfl)
theorem dX10_round_265 : decode cX10_round 265 = .ok (.bipush 7, 2) := dk_16 7 (dk_at dksX10_round_11 7 rfl rfl)
theorem dX10_round_267 : decode cX10_round 267 = .ok (.idiv, 1) := dk_108 (dk_at dksX10_round_11 9 rfl rfl)
theorem dX10_round_268 : decode cX10_round 268 = .ok (.iconst (-1), 1) := dk_2 (dk_at dksX10_round_11 10 rfl rfl)
theorem dX10_round_269 : decode cX10_round 269 = .ok (.ixor, 1) := dk_130 (dk_at dksX10_round_11 11 rfl rfl)
theorem dX10_round_270 : decode cX10_round 270 = .ok (.iand, 1) := dk_126 (dk_at dksX10_round_11 12 rfl rfl)
theorem dX10_round_271 : decode cX10_round 271 = .ok (.iconst 1, 1) := dk_4 (dk_at dksX10_round_11 13 rfl rfl)
theorem dX10_round_272 : decode cX10_round 272 = .ok (.iload 5, 2) := dk_21 5 (dk_at dksX10_round_11 14 rfl rfl)
theorem dX10_round_274 : decode cX10_round 274 = .ok (.ishl, 1) := dk_120 (dk_at dksX10_round_11 16 rfl rfl)
theorem dX10_round_275 : decode cX10_round 275 = .ok (.iand, 1) := dk_126 (dk_at dksX10_round_11 17 rfl rfl)
theorem dX10_round_276 : decode cX10_round 276 = .ok (.ifCond .eq 24, 3) := dk_153 0 24 (dk_at dksX10_round_11 18 rfl rfl)
theorem dX10_round_279 : decode cX10_round 279 = .ok (.iload 7, 2) := dk_21 7 (dk_at dksX10_round_11 21 rfl rfl)
theorem dX10_round_281 : decode cX10_round 281 = .ok (.aload_n 0, 1) := dk_42 (dk_at dksX10_round_11 23 rfl rfl)
theorem dX10_round_282 : decode cX10_round 282 = .ok (.getfield 149, 3) := dk_180 0 149 (dk_at dksX10_round_12 0 rfl rfl)
theorem dX10_round_285 : decode cX10_round 285 = .ok (.iload 6, 2) := dk_21 6 (dk_at dksX10_round_12 3 rfl rfl)
theorem dX10_round_287 : decode cX10_round 287 = .ok (.iaload, 1) := dk_46 (dk_at dksX10_round_12 5 rfl rfl)
theorem dX10_round_288 : decode cX10_round 288 = .ok (.if_icmp .ge 12, 3) := dk_162 0 12 (dk_at dksX10_round_12 6 rfl rfl)
theorem dX10_round_291 : decode cX10_round 291 = .ok (.aload_n 0, 1) := dk_42 (dk_at dksX10_round_12 9 rfl rfl)
theorem dX10_round_292 : decode cX10_round 292 = .ok (.getfield 149, 3) := dk_180 0 149 (dk_at dksX10_round_12 10 rfl rfl)
theorem dX10_round_295 : decode cX10_round 295 = .ok (.iload 6, 2) := dk_21 6 (dk_at dksX10_round_12 13 rfl rfl)
theorem dX10_round_297 : decode cX10_round 297 = .ok (.iload 7, 2) := dk_21 7 (dk_at dksX10_round_12 15 rfl rfl)
theorem dX10_round_299 : decode cX10_round 299 = .ok (.iastore, 1) := dk_79 (dk_at dksX10_round_12 17 rfl rfl)
theorem dX10_round_300 : decode cX10_round 300 = .ok (.iinc 5 1, 3) := dk_132 5 1 (dk_at dksX10_round_12 18 rfl rfl)
theorem dX10_round_303 : decode cX10_round 303 = .ok (.goto (-99), 3) := dk_167 255 157 (dk_at dksX10_round_12 21 rfl rfl)
theorem dX10_round_306 : decode cX10_round 306 = .ok (.iinc 4 1, 3) := dk_132 4 1 (dk_at dksX10_round_13 0 rfl rfl)
theorem dX10_round_309 : decode cX10_round 309 = .ok (.goto (-160), 3) := dk_167 255 96 (dk_at dksX10_round_13 3 rfl rfl)
theorem dX10_round_312 : decode cX10_round 312 = .ok (.iload_n 3, 1) := dk_29 (dk_at dksX10_round_13 6 rfl rfl)
theorem dX10_round_313 : decode cX10_round 313 = .ok (.sipush 1000, 3) := dk_17 3 232 (dk_at dksX10_round_13 7 rfl rfl)
theorem dX10_round_316 : decode cX10_round 316 = .ok (.if_icmp .lt 8, 3) := dk_161 0 8 (dk_at dksX10_round_13 10 rfl rfl)
theorem dX10_round_319 : decode cX10_round 319 = .ok (.bipush (-2), 2) := dk_16 254 (dk_at dksX10_round_13 13 rfl rfl)
theorem dX10_round_321 : decode cX10_round 321 = .ok (.goto 4, 3) := dk_167 0 4 (dk_at dksX10_round_13 15 rfl rfl)
theorem dX10_round_324 : decode cX10_round 324 = .ok (.iload_n 3, 1) := dk_29 (dk_at dksX10_round_13 18 rfl rfl)
theorem dX10_round_325 : decode cX10_round 325 = .ok (.ireturn, 1) := dk_172 (dk_at dksX10_round_13 19 rfl rfl)
abbrev cX10_brightest : ByteArray := prog_22_method_100_code
def yX10_brightest : MethodName := ⟨RX10, "brightest", "(I)I"⟩
def dkwX10_brightest_3 : List UInt8 := [167, 0, 8, 42, 28, 182, 1, 133, 172]
abbrev dktX10_brightest_3 : List UInt8 := dkwX10_brightest_3 ++ []
def dkwX10_brightest_2 : List UInt8 := [182, 1, 133, 164, 0, 5, 29, 61, 132, 3, 1, 167, 255, 221, 28, 155, 0, 7, 27, 154, 0, 7, 28]
abbrev dktX10_brightest_2 : List UInt8 := dkwX10_brightest_2 ++ dktX10_brightest_3
def dkwX10_brightest_1 : List UInt8 := [180, 0, 46, 42, 180, 0, 251, 46, 162, 0, 28, 28, 155, 0, 16, 42, 29, 182, 1, 133, 42, 28]
abbrev dktX10_brightest_1 : List UInt8 := dkwX10_brightest_1 ++ dktX10_brightest_2
def dkwX10_brightest_0 : List UInt8 := [27, 3, 4, 184, 1, 78, 154, 0, 5, 2, 172, 42, 182, 1, 91, 16, 254, 61, 3, 62, 29, 42]
abbrev dktX10_brightest_0 : List UInt8 := dkwX10_brightest_0 ++ dktX10_brightest_1
theorem dksX10_brightest_0 : cX10_brightest.data.toList.drop 0 = dktX10_brightest_0 := by decide +kernel
theorem dksX10_brightest_1 : cX10_brightest.data.toList.drop 22 = dktX10_brightest_1 := dk_seg dksX10_brightest_0 22 rfl rfl
theorem dksX10_brightest_2 : cX10_brightest.data.toList.drop 44 = dktX10_brightest_2 := dk_seg dksX10_brightest_1 22 rfl rfl
theorem dksX10_brightest_3 : cX10_brightest.data.toList.drop 67 = dktX10_brightest_3 := dk_seg dksX10_brightest_2 23 rfl rfl
theorem dX10_brightest_0 : decode cX10_brightest 0 = .ok (.iload_n 1, 1) := dk_27 (dk_at dksX10_brightest_0 0 rfl rfl)
theorem dX10_brightest_1 : decode cX10_brightest 1 = .ok (.iconst 0, 1) := dk_3 (dk_at dksX10_brightest_0 1 rfl rfl)
theorem dX10_brightest_2 : decode cX10_brightest 2 = .ok (.iconst 1, 1) := dk_4 (dk_at dksX10_brightest_0 2 rfl rfl)
theorem dX10_brightest_3 : decode cX10_brightest 3 = .ok (.invokestatic 334, 3) := dk_184 1 78 (dk_at dksX10_brightest_0 3 rfl rfl)
theorem dX10_brightest_6 : decode cX10_brightest 6 = .ok (.ifCond .ne 5, 3) := dk_154 0 5 (dk_at dksX10_brightest_0 6 rfl rfl)
theorem dX10_brightest_9 : decode cX10_brightest 9 = .ok (.iconst (-1), 1) := dk_2 (dk_at dksX10_brightest_0 9 rfl rfl)
theorem dX10_brightest_10 : decode cX10_brightest 10 = .ok (.ireturn, 1) := dk_172 (dk_at dksX10_brightest_0 10 rfl rfl)
theorem dX10_brightest_11 : decode cX10_brightest 11 = .ok (.aload_n 0, 1) := dk_42 (dk_at dksX10_brightest_0 11 rfl rfl)
theorem dX10_brightest_12 : decode cX10_brightest 12 = .ok (.invokevirtual 347, 3) := dk_182 1 91 (dk_at dksX10_brightest_0 12 rfl rfl)
theorem dX10_brightest_15 : decode cX10_brightest 15 = .ok (.bipush (-2), 2) := dk_16 254 (dk_at dksX10_brightest_0 15 rfl rfl)
theorem dX10_brightest_17 : decode cX10_brightest 17 = .ok (.istore_n 2, 1) := dk_61 (dk_at dksX10_brightest_0 17 rfl rfl)
theorem dX10_brightest_18 : decode cX10_brightest 18 = .ok (.iconst 0, 1) := dk_3 (dk_at dksX10_brightest_0 18 rfl rfl)
theorem dX10_brightest_19 : decode cX10_brightest 19 = .ok (.istore_n 3, 1) := dk_62 (dk_at dksX10_brightest_0 19 rfl rfl)
theorem dX10_brightest_20 : decode cX10_brightest 20 = .ok (.iload_n 3, 1) := dk_29 (dk_at dksX10_brightest_0 20 rfl rfl)
theorem dX10_brightest_21 : decode cX10_brightest 21 = .ok (.aload_n 0, 1) := dk_42 (dk_at dksX10_brightest_0 21 rfl rfl)
theorem dX10_brightest_22 : decode cX10_brightest 22 = .ok (.getfield 46, 3) := dk_180 0 46 (dk_at dksX10_brightest_1 0 rfl rfl)
theorem dX10_brightest_25 : decode cX10_brightest 25 = .ok (.aload_n 0, 1) := dk_42 (dk_at dksX10_brightest_1 3 rfl rfl)
theorem dX10_brightest_26 : decode cX10_brightest 26 = .ok (.getfield 251, 3) := dk_180 0 251 (dk_at dksX10_brightest_1 4 rfl rfl)
theorem dX10_brightest_29 : decode cX10_brightest 29 = .ok (.iaload, 1) := dk_46 (dk_at dksX10_brightest_1 7 rfl rfl)
theorem dX10_brightest_30 : decode cX10_brightest 30 = .ok (.if_icmp .ge 28, 3) := dk_162 0 28 (dk_at dksX10_brightest_1 8 rfl rfl)
theorem dX10_brightest_33 : decode cX10_brightest 33 = .ok (.iload_n 2, 1) := dk_28 (dk_at dksX10_brightest_1 11 rfl rfl)
theorem dX10_brightest_34 : decode cX10_brightest 34 = .ok (.ifCond .lt 16, 3) := dk_155 0 16 (dk_at dksX10_brightest_1 12 rfl rfl)
theorem dX10_brightest_37 : decode cX10_brightest 37 = .ok (.aload_n 0, 1) := dk_42 (dk_at dksX10_brightest_1 15 rfl rfl)
theorem dX10_brightest_38 : decode cX10_brightest 38 = .ok (.iload_n 3, 1) := dk_29 (dk_at dksX10_brightest_1 16 rfl rfl)
theorem dX10_brightest_39 : decode cX10_brightest 39 = .ok (.invokevirtual 389, 3) := dk_182 1 133 (dk_at dksX10_brightest_1 17 rfl rfl)
theorem dX10_brightest_42 : decode cX10_brightest 42 = .ok (.aload_n 0, 1) := dk_42 (dk_at dksX10_brightest_1 20 rfl rfl)
theorem dX10_brightest_43 : decode cX10_brightest 43 = .ok (.iload_n 2, 1) := dk_28 (dk_at dksX10_brightest_1 21 rfl rfl)
theorem dX10_brightest_44 : decode cX10_brightest 44 = .ok (.invokevirtual 389, 3) := dk_182 1 133 (dk_at dksX10_brightest_2 0 rfl rfl)
theorem dX10_brightest_47 : decode cX10_brightest 47 = .ok (.if_icmp .le 5, 3) := dk_164 0 5 (dk_at dksX10_brightest_2 3 rfl rfl)
theorem dX10_brightest_50 : decode cX10_brightest 50 = .ok (.iload_n 3, 1) := dk_29 (dk_at dksX10_brightest_2 6 rfl rfl)
theorem dX10_brightest_51 : decode cX10_brightest 51 = .ok (.istore_n 2, 1) := dk_61 (dk_at dksX10_brightest_2 7 rfl rfl)
theorem dX10_brightest_52 : decode cX10_brightest 52 = .ok (.iinc 3 1, 3) := dk_132 3 1 (dk_at dksX10_brightest_2 8 rfl rfl)
theorem dX10_brightest_55 : decode cX10_brightest 55 = .ok (.goto (-35), 3) := dk_167 255 221 (dk_at dksX10_brightest_2 11 rfl rfl)
theorem dX10_brightest_58 : decode cX10_brightest 58 = .ok (.iload_n 2, 1) := dk_28 (dk_at dksX10_brightest_2 14 rfl rfl)
theorem dX10_brightest_59 : decode cX10_brightest 59 = .ok (.ifCond .lt 7, 3) := dk_155 0 7 (dk_at dksX10_brightest_2 15 rfl rfl)
theorem dX10_brightest_62 : decode cX10_brightest 62 = .ok (.iload_n 1, 1) := dk_27 (dk_at dksX10_brightest_2 18 rfl rfl)
theorem dX10_brightest_63 : decode cX10_brightest 63 = .ok (.ifCond .ne 7, 3) := dk_154 0 7 (dk_at dksX10_brightest_2 19 rfl rfl)
theorem dX10_brightest_66 : decode cX10_brightest 66 = .ok (.iload_n 2, 1) := dk_28 (dk_at dksX10_brightest_2 22 rfl rfl)
theorem dX10_brightest_67 : decode cX10_brightest 67 = .ok (.goto 8, 3) := dk_167 0 8 (dk_at dksX10_brightest_3 0 rfl rfl)
theorem dX10_brightest_70 : decode cX10_brightest 70 = .ok (.aload_n 0, 1) := dk_42 (dk_at dksX10_brightest_3 3 rfl rfl)
theorem dX10_brightest_71 : decode cX10_brightest 71 = .ok (.iload_n 2, 1) := dk_28 (dk_at dksX10_brightest_3 4 rfl rfl)
theorem dX10_brightest_72 : decode cX10_brightest 72 = .ok (.invokevirtual 389, 3) := dk_182 1 133 (dk_at dksX10_brightest_3 5 rfl rfl)
theorem dX10_brightest_75 : decode cX10_brightest 75 = .ok (.ireturn, 1) := dk_172 (dk_at dksX10_brightest_3 8 rfl rfl)
abbrev cX10_gather : ByteArray := prog_22_method_101_code
def yX10_gather : MethodName := ⟨RX10, "gather", "(I)I"⟩
def dkwX10_gather_5 : List UInt8 := [132, 4, 1, 167, 255, 160, 28, 155, 0, 7, 27, 154, 0, 7, 28, 167, 0, 4, 29, 172]
abbrev dktX10_gather_5 : List UInt8 := dkwX10_gather_5 ++ []
def dkwX10_gather_4 : List UInt8 := [54, 5, 132, 6, 1, 167, 255, 209, 21, 5, 29, 161, 0, 6, 167, 0, 9, 21, 4, 61, 21, 5, 62]
abbrev dktX10_gather_4 : List UInt8 := dkwX10_gather_4 ++ dktX10_gather_5
def dkwX10_gather_3 : List UInt8 := [16, 12, 21, 6, 96, 46, 154, 0, 20, 21, 5, 42, 180, 0, 146, 42, 180, 0, 128, 21, 6, 46, 46, 96]
abbrev dktX10_gather_3 : List UInt8 := dkwX10_gather_3 ++ dktX10_gather_4
def dkwX10_gather_2 : List UInt8 := [3, 54, 5, 3, 54, 6, 21, 6, 42, 180, 0, 61, 42, 180, 0, 251, 46, 162, 0, 39, 42, 180, 0, 128]
abbrev dktX10_gather_2 : List UInt8 := dkwX10_gather_2 ++ dktX10_gather_3
def dkwX10_gather_1 : List UInt8 := [54, 4, 21, 4, 42, 180, 0, 46, 42, 180, 0, 251, 46, 162, 0, 88, 42, 21, 4, 3, 3, 182, 1, 194]
abbrev dktX10_gather_1 : List UInt8 := dkwX10_gather_1 ++ dktX10_gather_2
def dkwX10_gather_0 : List UInt8 := [27, 3, 4, 184, 1, 78, 154, 0, 5, 2, 172, 42, 182, 1, 91, 16, 254, 61, 17, 3, 232, 62, 3]
abbrev dktX10_gather_0 : List UInt8 := dkwX10_gather_0 ++ dktX10_gather_1
theorem dksX10_gather_0 : cX10_gather.data.toList.drop 0 = dktX10_gather_0 := by decide +kernel
theorem dksX10_gather_1 : cX10_gather.data.toList.drop 23 = dktX10_gather_1 := dk_seg dksX10_gather_0 23 rfl rfl
theorem dksX10_gather_2 : cX10_gather.data.toList.drop 47 = dktX10_gather_2 := dk_seg dksX10_gather_1 24 rfl rfl
theorem dksX10_gather_3 : cX10_gather.data.toList.drop 71 = dktX10_gather_3 := dk_seg dksX10_gather_2 24 rfl rfl
theorem dksX10_gather_4 : cX10_gather.data.toList.drop 95 = dktX10_gather_4 := dk_seg dksX10_gather_3 24 rfl rfl
theorem dksX10_gather_5 : cX10_gather.data.toList.drop 118 = dktX10_gather_5 := dk_seg dksX10_gather_4 23 rfl rfl
theorem dX10_gather_0 : decode cX10_gather 0 = .ok (.iload_n 1, 1) := dk_27 (dk_at dksX10_gather_0 0 rfl rfl)
theorem dX10_gather_1 : decode cX10_gather 1 = .ok (.iconst 0, 1) := dk_3 (dk_at dksX10_gather_0 1 rfl rfl)
theorem dX10_gather_2 : decode cX10_gather 2 = .ok (.iconst 1, 1) := dk_4 (dk_at dksX10_gather_0 2 rfl rfl)
theorem dX10_gather_3 : decode cX10_gather 3 = .ok (.invokestatic 334, 3) := dk_184 1 78 (dk_at dksX10_gather_0 3 rfl rfl)
theorem dX10_gather_6 : decode cX10_gather 6 = .ok (.ifCond .ne 5, 3) := dk_154 0 5 (dk_at dksX10_gather_0 6 rfl rfl)
theorem dX10_gather_9 : decode cX10_gather 9 = .ok (.iconst (-1), 1) := dk_2 (dk_at dksX10_gather_0 9 rfl rfl)
theorem dX10_gather_10 : decode cX10_gather 10 = .ok (.ireturn, 1) := dk_172 (dk_at dksX10_gather_0 10 rfl rfl)
theorem dX10_gather_11 : decode cX10_gather 11 = .ok (.aload_n 0, 1) := dk_42 (dk_at dksX10_gather_0 11 rfl rfl)
theorem dX10_gather_12 : decode cX10_gather 12 = .ok (.invokevirtual 347, 3) := dk_182 1 91 (dk_at dksX10_gather_0 12 rfl rfl)
theorem dX10_gather_15 : decode cX10_gather 15 = .ok (.bipush (-2), 2) := dk_16 254 (dk_at dksX10_gather_0 15 rfl rfl)
theorem dX10_gather_17 : decode cX10_gather 17 = .ok (.istore_n 2, 1) := dk_61 (dk_at dksX10_gather_0 17 rfl rfl)
theorem dX10_gather_18 : decode cX10_gather 18 = .ok (.sipush 1000, 3) := dk_17 3 232 (dk_at dksX10_gather_0 18 rfl rfl)
theorem dX10_gather_21 : decode cX10_gather 21 = .ok (.istore_n 3, 1) := dk_62 (dk_at dksX10_gather_0 21 rfl rfl)
theorem dX10_gather_22 : decode cX10_gather 22 = .ok (.iconst 0, 1) := dk_3 (dk_at dksX10_gather_0 22 rfl rfl)
theorem dX10_gather_23 : decode cX10_gather 23 = .ok (.istore 4, 2) := dk_54 4 (dk_at dksX10_gather_1 0 rfl rfl)
theorem dX10_gather_25 : decode cX10_gather 25 = .ok (.iload 4, 2) := dk_21 4 (dk_at dksX10_gather_1 2 rfl rfl)
theorem dX10_gather_27 : decode cX10_gather 27 = .ok (.aload_n 0, 1) := dk_42 (dk_at dksX10_gather_1 4 rfl rfl)
theorem dX10_gather_28 : decode cX10_gather 28 = .ok (.getfield 46, 3) := dk_180 0 46 (dk_at dksX10_gather_1 5 rfl rfl)
theorem dX10_gather_31 : decode cX10_gather 31 = .ok (.aload_n 0, 1) := dk_42 (dk_at dksX10_gather_1 8 rfl rfl)
theorem dX10_gather_32 : decode cX10_gather 32 = .ok (.getfield 251, 3) := dk_180 0 251 (dk_at dksX10_gather_1 9 rfl rfl)
theorem dX10_gather_35 : decode cX10_gather 35 = .ok (.iaload, 1) := dk_46 (dk_at dksX10_gather_1 12 rfl rfl)
theorem dX10_gather_36 : decode cX10_gather 36 = .ok (.if_icmp .ge 88, 3) := dk_162 0 88 (dk_at dksX10_gather_1 13 rfl rfl)
theorem dX10_gather_39 : decode cX10_gather 39 = .ok (.aload_n 0, 1) := dk_42 (dk_at dksX10_gather_1 16 rfl rfl)
theorem dX10_gather_40 : decode cX10_gather 40 = .ok (.iload 4, 2) := dk_21 4 (dk_at dksX10_gather_1 17 rfl rfl)
theorem dX10_gather_42 : decode cX10_gather 42 = .ok (.iconst 0, 1) := dk_3 (dk_at dksX10_gather_1 19 rfl rfl)
theorem dX10_gather_43 : decode cX10_gather 43 = .ok (.iconst 0, 1) := dk_3 (dk_at dksX10_gather_1 20 rfl rfl)
theorem dX10_gather_44 : decode cX10_gather 44 = .ok (.invokevirtual 450, 3) := dk_182 1 194 (dk_at dksX10_gather_1 21 rfl rfl)
theorem dX10_gather_47 : decode cX10_gather 47 = .ok (.iconst 0, 1) := dk_3 (dk_at dksX10_gather_2 0 rfl rfl)
theorem dX10_gather_48 : decode cX10_gather 48 = .ok (.istore 5, 2) := dk_54 5 (dk_at dksX10_gather_2 1 rfl rfl)
theorem dX10_gather_50 : decode cX10_gather 50 = .ok (.iconst 0, 1) := dk_3 (dk_at dksX10_gather_2 3 rfl rfl)
theorem dX10_gather_51 : decode cX10_gather 51 = .ok (.istore 6, 2) := dk_54 6 (dk_at dksX10_gather_2 4 rfl rfl)
theorem dX10_gather_53 : decode cX10_gather 53 = .ok (.iload 6, 2) := dk_21 6 (dk_at dksX10_gather_2 6 rfl rfl)
theorem dX10_gather_55 : decode cX10_gather 55 = .ok (.aload_n 0, 1) := dk_42 (dk_at dksX10_gather_2 8 rfl rfl)
theorem dX10_gather_56 : decode cX10_gather 56 = .ok (.getfield 61, 3) := dk_180 0 61 (dk_at dksX10_gather_2 9 rfl rfl)
theorem dX10_gather_59 : decode cX10_gather 59 = .ok (.aload_n 0, 1) := dk_42 (dk_at dksX10_gather_2 12 rfl rfl)
theorem dX10_gather_60 : decode cX10_gather 60 = .ok (.getfield 251, 3) := dk_180 0 251 (dk_at dksX10_gather_2 13 rfl rfl)
theorem dX10_gather_63 : decode cX10_gather 63 = .ok (.iaload, 1) := dk_46 (dk_at dksX10_gather_2 16 rfl rfl)
theorem dX10_gather_64 : decode cX10_gather 64 = .ok (.if_icmp .ge 39, 3) := dk_162 0 39 (dk_at dksX10_gather_2 17 rfl rfl)
theorem dX10_gather_67 : decode cX10_gather 67 = .ok (.aload_n 0, 1) := dk_42 (dk_at dksX10_gather_2 20 rfl rfl)
theorem dX10_gather_68 : decode cX10_gather 68 = .ok (.getfield 128, 3) := dk_180 0 128 (dk_at dksX10_gather_2 21 rfl rfl)
theorem dX10_gather_71 : decode cX10_gather 71 = .ok (.bipush 12, 2) := dk_16 12 (dk_at dksX10_gather_3 0 rfl rfl)
theorem dX10_gather_73 : decode cX10_gather 73 = .ok (.iload 6, 2) := dk_21 6 (dk_at dksX10_gather_3 2 rfl rfl)
theorem dX10_gather_75 : decode cX10_gather 75 = .ok (.iadd, 1) := dk_96 (dk_at dksX10_gather_3 4 rfl rfl)
theorem dX10_gather_76 : decode cX10_gather 76 = .ok (.iaload, 1) := dk_46 (dk_at dksX10_gather_3 5 rfl rfl)
theorem dX10_gather_77 : decode cX10_gather 77 = .ok (.ifCond .ne 20, 3) := dk_154 0 20 (dk_at dksX10_gather_3 6 rfl rfl)
theorem dX10_gather_80 : decode cX10_gather 80 = .ok (.iload 5, 2) := dk_21 5 (dk_at dksX10_gather_3 9 rfl rfl)
theorem dX10_gather_82 : decode cX10_gather 82 = .ok (.aload_n 0, 1) := dk_42 (dk_at dksX10_gather_3 11 rfl rfl)
theorem dX10_gather_83 : decode cX10_gather 83 = .ok (.getfield 146, 3) := dk_180 0 146 (dk_at dksX10_gather_3 12 rfl rfl)
theorem dX10_gather_86 : decode cX10_gather 86 = .ok (.aload_n 0, 1) := dk_42 (dk_at dksX10_gather_3 15 rfl rfl)
theorem dX10_gather_87 : decode cX10_gather 87 = .ok (.getfield 128, 3) := dk_180 0 128 (dk_at dksX10_gather_3 16 rfl rfl)
theorem dX10_gather_90 : decode cX10_gather 90 = .ok (.iload 6, 2) := dk_21 6 (dk_at dksX10_gather_3 19 rfl rfl)
theorem dX10_gather_92 : decode cX10_gather 92 = .ok (.iaload, 1) := dk_46 (dk_at dksX10_gather_3 21 rfl rfl)
theorem dX10_gather_93 : decode cX10_gather 93 = .ok (.iaload, 1) := dk_46 (dk_at dksX10_gather_3 22 rfl rfl)
theorem dX10_gather_94 : decode cX10_gather 94 = .ok (.iadd, 1) := dk_96 (dk_at dksX10_gather_3 23 rfl rfl)
theorem dX10_gather_95 : decode cX10_gather 95 = .ok (.istore 5, 2) := dk_54 5 (dk_at dksX10_gather_4 0 rfl rfl)
theorem dX10_gather_97 : decode cX10_gather 97 = .ok (.iinc 6 1, 3) := dk_132 6 1 (dk_at dksX10_gather_4 2 rfl rfl)
theorem dX10_gather_100 : decode cX10_gather 100 = .ok (.goto (-47), 3) := dk_167 255 209 (dk_at dksX10_gather_4 5 rfl rfl)
theorem dX10_gather_103 : decode cX10_gather 103 = .ok (.iload 5, 2) := dk_21 5 (dk_at dksX10_gather_4 8 rfl rfl)
theorem dX10_gather_105 : decode cX10_gather 105 = .ok (.iload_n 3, 1) := dk_29 (dk_at dksX10_gather_4 10 rfl rfl)
theorem dX10_gather_106 : decode cX10_gather 106 = .ok (.if_icmp .lt 6, 3) := dk_161 0 6 (dk_at dksX10_gather_4 11 rfl rfl)
theorem dX10_gather_109 : decode cX10_gather 109 = .ok (.goto 9, 3) := dk_167 0 9 (dk_at dksX10_gather_4 14 rfl rfl)
theorem dX10_gather_112 : decode cX10_gather 112 = .ok (.iload 4, 2) := dk_21 4 (dk_at dksX10_gather_4 17 rfl rfl)
theorem dX10_gather_114 : decode cX10_gather 114 = .ok (.istore_n 2, 1) := dk_61 (dk_at dksX10_gather_4 19 rfl rfl)
theorem dX10_gather_115 : decode cX10_gather 115 = .ok (.iload 5, 2) := dk_21 5 (dk_at dksX10_gather_4 20 rfl rfl)
theorem dX10_gather_117 : decode cX10_gather 117 = .ok (.istore_n 3, 1) := dk_62 (dk_at dksX10_gather_4 22 rfl rfl)
theorem dX10_gather_118 : decode cX10_gather 118 = .ok (.iinc 4 1, 3) := dk_132 4 1 (dk_at dksX10_gather_5 0 rfl rfl)
theorem dX10_gather_121 : decode cX10_gather 121 = .ok (.goto (-96), 3) := dk_167 255 160 (dk_at dksX10_gather_5 3 rfl rfl)
theorem dX10_gather_124 : decode cX10_gather 124 = .ok (.iload_n 2, 1) := dk_28 (dk_at dksX10_gather_5 6 rfl rfl)
theorem dX10_gather_125 : decode cX10_gather 125 = .ok (.ifCond .lt 7, 3) := dk_155 0 7 (dk_at dksX10_gather_5 7 rfl rfl)
theorem dX10_gather_128 : decode cX10_gather 128 = .ok (.iload_n 1, 1) := dk_27 (dk_at dksX10_gather_5 10 rfl rfl)
theorem dX10_gather_129 : decode cX10_gather 129 = .ok (.ifCond .ne 7, 3) := dk_154 0 7 (dk_at dksX10_gather_5 11 rfl rfl)
theorem dX10_gather_132 : decode cX10_gather 132 = .ok (.iload_n 2, 1) := dk_28 (dk_at dksX10_gather_5 14 rfl rfl)
theorem dX10_gather_133 : decode cX10_gather 133 = .ok (.goto 4, 3) := dk_167 0 4 (dk_at dksX10_gather_5 15 rfl rfl)
theorem dX10_gather_136 : decode cX10_gather 136 = .ok (.iload_n 3, 1) := dk_29 (dk_at dksX10_gather_5 18 rfl rfl)
theorem dX10_gather_137 : decode cX10_gather 137 = .ok (.ireturn, 1) := dk_172 (dk_at dksX10_gather_5 19 rfl rfl)
abbrev cX10_moves : ByteArray := prog_22_method_102_code
def yX10_moves : MethodName := ⟨RX10, "moves", "(II)I"⟩
def dkwX10_moves_9 : List UInt8 := [21, 5, 184, 1, 179, 172]
abbrev dktX10_moves_9 : List UInt8 := dkwX10_moves_9 ++ []
def dkwX10_moves_8 : List UInt8 := [54, 5, 132, 6, 1, 167, 255, 163, 21, 5, 155, 0, 8, 28, 4, 160, 0, 8, 21, 5, 167, 0, 8]
abbrev dktX10_moves_8 : List UInt8 := dkwX10_moves_8 ++ dktX10_moves_9
def dkwX10_moves_7 : List UInt8 := [161, 0, 25, 21, 5, 155, 0, 16, 21, 6, 184, 1, 179, 21, 5, 184, 1, 179, 162, 0, 7, 21, 6]
abbrev dktX10_moves_7 : List UInt8 := dkwX10_moves_7 ++ dktX10_moves_8
def dkwX10_moves_6 : List UInt8 := [96, 46, 96, 54, 7, 132, 8, 1, 167, 255, 220, 21, 6, 21, 4, 2, 130, 126, 154, 0, 31, 21, 7, 29]
abbrev dktX10_moves_6 : List UInt8 := dkwX10_moves_6 ++ dktX10_moves_7
def dkwX10_moves_5 : List UInt8 := [162, 0, 35, 21, 6, 21, 8, 122, 4, 126, 4, 160, 0, 18, 21, 7, 42, 180, 0, 128, 16, 6, 21, 8]
abbrev dktX10_moves_5 : List UInt8 := dkwX10_moves_5 ++ dktX10_moves_6
def dkwX10_moves_4 : List UInt8 := [54, 5, 3, 54, 6, 21, 6, 16, 64, 162, 0, 92, 3, 54, 7, 3, 54, 8, 21, 8, 16, 6]
abbrev dktX10_moves_4 : List UInt8 := dkwX10_moves_4 ++ dktX10_moves_5
def dkwX10_moves_3 : List UInt8 := [46, 182, 1, 145, 154, 0, 12, 21, 4, 4, 21, 5, 120, 128, 54, 4, 132, 5, 1, 167, 255, 202, 16, 254]
abbrev dktX10_moves_3 : List UInt8 := dkwX10_moves_3 ++ dktX10_moves_4
def dkwX10_moves_2 : List UInt8 := [162, 0, 46, 42, 180, 0, 128, 16, 12, 21, 5, 96, 46, 154, 0, 27, 42, 27, 42, 180, 0, 128, 21, 5]
abbrev dktX10_moves_2 : List UInt8 := dkwX10_moves_2 ++ dktX10_moves_3
def dkwX10_moves_1 : List UInt8 := [27, 182, 1, 152, 62, 3, 54, 4, 3, 54, 5, 21, 5, 42, 180, 0, 61, 42, 180, 0, 251, 46]
abbrev dktX10_moves_1 : List UInt8 := dkwX10_moves_1 ++ dktX10_moves_2
def dkwX10_moves_0 : List UInt8 := [42, 27, 182, 1, 149, 153, 0, 12, 28, 3, 4, 184, 1, 78, 154, 0, 5, 2, 172, 42, 182, 1, 91, 42]
abbrev dktX10_moves_0 : List UInt8 := dkwX10_moves_0 ++ dktX10_moves_1
theorem dksX10_moves_0 : cX10_moves.data.toList.drop 0 = dktX10_moves_0 := by decide +kernel
theorem dksX10_moves_1 : cX10_moves.data.toList.drop 24 = dktX10_moves_1 := dk_seg dksX10_moves_0 24 rfl rfl
theorem dksX10_moves_2 : cX10_moves.data.toList.drop 46 = dktX10_moves_2 := dk_seg dksX10_moves_1 22 rfl rfl
theorem dksX10_moves_3 : cX10_moves.data.toList.drop 70 = dktX10_moves_3 := dk_seg dksX10_moves_2 24 rfl rfl
theorem dksX10_moves_4 : cX10_moves.data.toList.drop 94 = dktX10_moves_4 := dk_seg dksX10_moves_3 24 rfl rfl
theorem dksX10_moves_5 : cX10_moves.data.toList.drop 116 = dktX10_moves_5 := dk_seg dksX10_moves_4 22 rfl rfl
theorem dksX10_moves_6 : cX10_moves.data.toList.drop 140 = dktX10_moves_6 := dk_seg dksX10_moves_5 24 rfl rfl
theorem dksX10_moves_7 : cX10_moves.data.toList.drop 164 = dktX10_moves_7 := dk_seg dksX10_moves_6 24 rfl rfl
theorem dksX10_moves_8 : cX10_moves.data.toList.drop 187 = dktX10_moves_8 := dk_seg dksX10_moves_7 23 rfl rfl
theorem dksX10_moves_9 : cX10_moves.data.toList.drop 210 = dktX10_moves_9 := dk_seg dksX10_moves_8 23 rfl rfl
theorem dX10_moves_0 : decode cX10_moves 0 = .ok (.aload_n 0, 1) := dk_42 (dk_at dksX10_moves_0 0 rfl rfl)
theorem dX10_moves_1 : decode cX10_moves 1 = .ok (.iload_n 1, 1) := dk_27 (dk_at dksX10_moves_0 1 rfl rfl)
theorem dX10_moves_2 : decode cX10_moves 2 = .ok (.invokevirtual 405, 3) := dk_182 1 149 (dk_at dksX10_moves_0 2 rfl rfl)
theorem dX10_moves_5 : decode cX10_moves 5 = .ok (.ifCond .eq 12, 3) := dk_153 0 12 (dk_at dksX10_moves_0 5 rfl rfl)
theorem dX10_moves_8 : decode cX10_moves 8 = .ok (.iload_n 2, 1) := dk_28 (dk_at dksX10_moves_0 8 rfl rfl)
theorem dX10_moves_9 : decode cX10_moves 9 = .ok (.iconst 0, 1) := dk_3 (dk_at dksX10_moves_0 9 rfl rfl)
theorem dX10_moves_10 : decode cX10_moves 10 = .ok (.iconst 1, 1) := dk_4 (dk_at dksX10_moves_0 10 rfl rfl)
theorem dX10_moves_11 : decode cX10_moves 11 = .ok (.invokestatic 334, 3) := dk_184 1 78 (dk_at dksX10_moves_0 11 rfl rfl)
theorem dX10_moves_14 : decode cX10_moves 14 = .ok (.ifCond .ne 5, 3) := dk_154 0 5 (dk_at dksX10_moves_0 14 rfl rfl)
theorem dX10_moves_17 : decode cX10_moves 17 = .ok (.iconst (-1), 1) := dk_2 (dk_at dksX10_moves_0 17 rfl rfl)
theorem dX10_moves_18 : decode cX10_moves 18 = .ok (.ireturn, 1) := dk_172 (dk_at dksX10_moves_0 18 rfl rfl)
theorem dX10_moves_19 : decode cX10_moves 19 = .ok (.aload_n 0, 1) := dk_42 (dk_at dksX10_moves_0 19 rfl rfl)
theorem dX10_moves_20 : decode cX10_moves 20 = .ok (.invokevirtual 347, 3) := dk_182 1 91 (dk_at dksX10_moves_0 20 rfl rfl)
theorem dX10_moves_23 : decode cX10_moves 23 = .ok (.aload_n 0, 1) := dk_42 (dk_at dksX10_moves_0 23 rfl rfl)
theorem dX10_moves_24 : decode cX10_moves 24 = .ok (.iload_n 1, 1) := dk_27 (dk_at dksX10_moves_1 0 rfl rfl)
theorem dX10_moves_25 : decode cX10_moves 25 = .ok (.invokevirtual 408, 3) := dk_182 1 152 (dk_at dksX10_moves_1 1 rfl rfl)
theorem dX10_moves_28 : decode cX10_moves 28 = .ok (.istore_n 3, 1) := dk_62 (dk_at dksX10_moves_1 4 rfl rfl)
theorem dX10_moves_29 : decode cX10_moves 29 = .ok (.iconst 0, 1) := dk_3 (dk_at dksX10_moves_1 5 rfl rfl)
theorem dX10_moves_30 : decode cX10_moves 30 = .ok (.istore 4, 2) := dk_54 4 (dk_at dksX10_moves_1 6 rfl rfl)
theorem dX10_moves_32 : decode cX10_moves 32 = .ok (.iconst 0, 1) := dk_3 (dk_at dksX10_moves_1 8 rfl rfl)
theorem dX10_moves_33 : decode cX10_moves 33 = .ok (.istore 5, 2) := dk_54 5 (dk_at dksX10_moves_1 9 rfl rfl)
theorem dX10_moves_35 : decode cX10_moves 35 = .ok (.iload 5, 2) := dk_21 5 (dk_at dksX10_moves_1 11 rfl rfl)
theorem dX10_moves_37 : decode cX10_moves 37 = .ok (.aload_n 0, 1) := dk_42 (dk_at dksX10_moves_1 13 rfl rfl)
theorem dX10_moves_38 : decode cX10_moves 38 = .ok (.getfield 61, 3) := dk_180 0 61 (dk_at dksX10_moves_1 14 rfl rfl)
theorem dX10_moves_41 : decode cX10_moves 41 = .ok (.aload_n 0, 1) := dk_42 (dk_at dksX10_moves_1 17 rfl rfl)
theorem dX10_moves_42 : decode cX10_moves 42 = .ok (.getfield 251, 3) := dk_180 0 251 (dk_at dksX10_moves_1 18 rfl rfl)
theorem dX10_moves_45 : decode cX10_moves 45 = .ok (.iaload, 1) := dk_46 (dk_at dksX10_moves_1 21 rfl rfl)
theorem dX10_moves_46 : decode cX10_moves 46 = .ok (.if_icmp .ge 46, 3) := dk_162 0 46 (dk_at dksX10_moves_2 0 rfl rfl)
theorem dX10_moves_49 : decode cX10_moves 49 = .ok (.aload_n 0, 1) := dk_42 (dk_at dksX10_moves_2 3 rfl rfl)
theorem dX10_moves_50 : decode cX10_moves 50 = .ok (.getfield 128, 3) := dk_180 0 128 (dk_at dksX10_moves_2 4 rfl rfl)
theorem dX10_moves_53 : decode cX10_moves 53 = .ok (.bipush 12, 2) := dk_16 12 (dk_at dksX10_moves_2 7 rfl rfl)
theorem dX10_moves_55 : decode cX10_moves 55 = .ok (.iload 5, 2) := dk_21 5 (dk_at dksX10_moves_2 9 rfl rfl)
theorem dX10_moves_57 : decode cX10_moves 57 = .ok (.iadd, 1) := dk_96 (dk_at dksX10_moves_2 11 rfl rfl)
theorem dX10_moves_58 : decode cX10_moves 58 = .ok (.iaload, 1) := dk_46 (dk_at dksX10_moves_2 12 rfl rfl)
theorem dX10_moves_59 : decode cX10_moves 59 = .ok (.ifCond .ne 27, 3) := dk_154 0 27 (dk_at dksX10_moves_2 13 rfl rfl)
theorem dX10_moves_62 : decode cX10_moves 62 = .ok (.aload_n 0, 1) := dk_42 (dk_at dksX10_moves_2 16 rfl rfl)
theorem dX10_moves_63 : decode cX10_moves 63 = .ok (.iload_n 1, 1) := dk_27 (dk_at dksX10_moves_2 17 rfl rfl)
theorem dX10_moves_64 : decode cX10_moves 64 = .ok (.aload_n 0, 1) := dk_42 (dk_at dksX10_moves_2 18 rfl rfl)
theorem dX10_moves_65 : decode cX10_moves 65 = .ok (.getfield 128, 3) := dk_180 0 128 (dk_at dksX10_moves_2 19 rfl rfl)
theorem dX10_moves_68 : decode cX10_moves 68 = .ok (.iload 5, 2) := dk_21 5 (dk_at dksX10_moves_2 22 rfl rfl)
theorem dX10_moves_70 : decode cX10_moves 70 = .ok (.iaload, 1) := dk_46 (dk_at dksX10_moves_3 0 rfl rfl)
theorem dX10_moves_71 : decode cX10_moves 71 = .ok (.invokevirtual 401, 3) := dk_182 1 145 (dk_at dksX10_moves_3 1 rfl rfl)
theorem dX10_moves_74 : decode cX10_moves 74 = .ok (.ifCond .ne 12, 3) := dk_154 0 12 (dk_at dksX10_moves_3 4 rfl rfl)
theorem dX10_moves_77 : decode cX10_moves 77 = .ok (.iload 4, 2) := dk_21 4 (dk_at dksX10_moves_3 7 rfl rfl)
theorem dX10_moves_79 : decode cX10_moves 79 = .ok (.iconst 1, 1) := dk_4 (dk_at dksX10_moves_3 9 rfl rfl)
theorem dX10_moves_80 : decode cX10_moves 80 = .ok (.iload 5, 2) := dk_21 5 (dk_at dksX10_moves_3 10 rfl rfl)
theorem dX10_moves_82 : decode cX10_moves 82 = .ok (.ishl, 1) := dk_120 (dk_at dksX10_moves_3 12 rfl rfl)
theorem dX10_moves_83 : decode cX10_moves 83 = .ok (.ior, 1) := dk_128 (dk_at dksX10_moves_3 13 rfl rfl)
theorem dX10_moves_84 : decode cX10_moves 84 = .ok (.istore 4, 2) := dk_54 4 (dk_at dksX10_moves_3 14 rfl rfl)
theorem dX10_moves_86 : decode cX10_moves 86 = .ok (.iinc 5 1, 3) := dk_132 5 1 (dk_at dksX10_moves_3 16 rfl rfl)
theorem dX10_moves_89 : decode cX10_moves 89 = .ok (.goto (-54), 3) := dk_167 255 202 (dk_at dksX10_moves_3 19 rfl rfl)
theorem dX10_moves_92 : decode cX10_moves 92 = .ok (.bipush (-2), 2) := dk_16 254 (dk_at dksX10_moves_3 22 rfl rfl)
theorem dX10_moves_94 : decode cX10_moves 94 = .ok (.istore 5, 2) := dk_54 5 (dk_at dksX10_moves_4 0 rfl rfl)
theorem dX10_moves_96 : decode cX10_moves 96 = .ok (.iconst 0, 1) := dk_3 (dk_at dksX10_moves_4 2 rfl rfl)
theorem dX10_moves_97 : decode cX10_moves 97 = .ok (.istore 6, 2) := dk_54 6 (dk_at dksX10_moves_4 3 rfl rfl)
theorem dX10_moves_99 : decode cX10_moves 99 = .ok (.iload 6, 2) := dk_21 6 (dk_at dksX10_moves_4 5 rfl rfl)
theorem dX10_moves_101 : decode cX10_moves 101 = .ok (.bipush 64, 2) := dk_16 64 (dk_at dksX10_moves_4 7 rfl rfl)
theorem dX10_moves_103 : decode cX10_moves 103 = .ok (.if_icmp .ge 92, 3) := dk_162 0 92 (dk_at dksX10_moves_4 9 rfl rfl)
theorem dX10_moves_106 : decode cX10_moves 106 = .ok (.iconst 0, 1) := dk_3 (dk_at dksX10_moves_4 12 rfl rfl)
theorem dX10_moves_107 : decode cX10_moves 107 = .ok (.istore 7, 2) := dk_54 7 (dk_at dksX10_moves_4 13 rfl rfl)
theorem dX10_moves_109 : decode cX10_moves 109 = .ok (.iconst 0, 1) := dk_3 (dk_at dksX10_moves_4 15 rfl rfl)
theorem dX10_moves_110 : decode cX10_moves 110 = .ok (.istore 8, 2) := dk_54 8 (dk_at dksX10_moves_4 16 rfl rfl)
theorem dX10_moves_112 : decode cX10_moves 112 = .ok (.iload 8, 2) := dk_21 8 (dk_at dksX10_moves_4 18 rfl rfl)
theorem dX10_moves_114 : decode cX10_moves 114 = .ok (.bipush 6, 2) := dk_16 6 (dk_at dksX10_moves_4 20 rfl rfl)
theorem dX10_moves_116 : decode cX10_moves 116 = .ok (.if_icmp .ge 35, 3) := dk_162 0 35 (dk_at dksX10_moves_5 0 rfl rfl)
theorem dX10_moves_119 : decode cX10_moves 119 = .ok (.iload 6, 2) := dk_21 6 (dk_at dksX10_moves_5 3 rfl rfl)
theorem dX10_moves_121 : decode cX10_moves 121 = .ok (.iload 8, 2) := dk_21 8 (dk_at dksX10_moves_5 5 rfl rfl)
theorem dX10_moves_123 : decode cX10_moves 123 = .ok (.ishr, 1) := dk_122 (dk_at dksX10_moves_5 7 rfl rfl)
theorem dX10_moves_124 : decode cX10_moves 124 = .ok (.iconst 1, 1) := dk_4 (dk_at dksX10_moves_5 8 rfl rfl)
theorem dX10_moves_125 : decode cX10_moves 125 = .ok (.iand, 1) := dk_126 (dk_at dksX10_moves_5 9 rfl rfl)
theorem dX10_moves_126 : decode cX10_moves 126 = .ok (.iconst 1, 1) := dk_4 (dk_at dksX10_moves_5 10 rfl rfl)
theorem dX10_moves_127 : decode cX10_moves 127 = .ok (.if_icmp .ne 18, 3) := dk_160 0 18 (dk_at dksX10_moves_5 11 rfl rfl)
theorem dX10_moves_130 : decode cX10_moves 130 = .ok (.iload 7, 2) := dk_21 7 (dk_at dksX10_moves_5 14 rfl rfl)
theorem dX10_moves_132 : decode cX10_moves 132 = .ok (.aload_n 0, 1) := dk_42 (dk_at dksX10_moves_5 16 rfl rfl)
theorem dX10_moves_133 : decode cX10_moves 133 = .ok (.getfield 128, 3) := dk_180 0 128 (dk_at dksX10_moves_5 17 rfl rfl)
theorem dX10_moves_136 : decode cX10_moves 136 = .ok (.bipush 6, 2) := dk_16 6 (dk_at dksX10_moves_5 20 rfl rfl)
theorem dX10_moves_138 : decode cX10_moves 138 = .ok (.iload 8, 2) := dk_21 8 (dk_at dksX10_moves_5 22 rfl rfl)
theorem dX10_moves_140 : decode cX10_moves 140 = .ok (.iadd, 1) := dk_96 (dk_at dksX10_moves_6 0 rfl rfl)
theorem dX10_moves_141 : decode cX10_moves 141 = .ok (.iaload, 1) := dk_46 (dk_at dksX10_moves_6 1 rfl rfl)
theorem dX10_moves_142 : decode cX10_moves 142 = .ok (.iadd, 1) := dk_96 (dk_at dksX10_moves_6 2 rfl rfl)
theorem dX10_moves_143 : decode cX10_moves 143 = .ok (.istore 7, 2) := dk_54 7 (dk_at dksX10_moves_6 3 rfl rfl)
theorem dX10_moves_145 : decode cX10_moves 145 = .ok (.iinc 8 1, 3) := dk_132 8 1 (dk_at dksX10_moves_6 5 rfl rfl)
theorem dX10_moves_148 : decode cX10_moves 148 = .ok (.goto (-36), 3) := dk_167 255 220 (dk_at dksX10_moves_6 8 rfl rfl)
theorem dX10_moves_151 : decode cX10_moves 151 = .ok (.iload 6, 2) := dk_21 6 (dk_at dksX10_moves_6 11 rfl rfl)
theorem dX10_moves_153 : decode cX10_moves 153 = .ok (.iload 4, 2) := dk_21 4 (dk_at dksX10_moves_6 13 rfl rfl)
theorem dX10_moves_155 : decode cX10_moves 155 = .ok (.iconst (-1), 1) := dk_2 (dk_at dksX10_moves_6 15 rfl rfl)
theorem dX10_moves_156 : decode cX10_moves 156 = .ok (.ixor, 1) := dk_130 (dk_at dksX10_moves_6 16 rfl rfl)
theorem dX10_moves_157 : decode cX10_moves 157 = .ok (.iand, 1) := dk_126 (dk_at dksX10_moves_6 17 rfl rfl)
theorem dX10_moves_158 : decode cX10_moves 158 = .ok (.ifCond .ne 31, 3) := dk_154 0 31 (dk_at dksX10_moves_6 18 rfl rfl)
theorem dX10_moves_161 : decode cX10_moves 161 = .ok (.iload 7, 2) := dk_21 7 (dk_at dksX10_moves_6 21 rfl rfl)
theorem dX10_moves_163 : decode cX10_moves 163 = .ok (.iload_n 3, 1) := dk_29 (dk_at dksX10_moves_6 23 rfl rfl)
theorem dX10_moves_164 : decode cX10_moves 164 = .ok (.if_icmp .lt 25, 3) := dk_161 0 25 (dk_at dksX10_moves_7 0 rfl rfl)
theorem dX10_moves_167 : decode cX10_moves 167 = .ok (.iload 5, 2) := dk_21 5 (dk_at dksX10_moves_7 3 rfl rfl)
theorem dX10_moves_169 : decode cX10_moves 169 = .ok (.ifCond .lt 16, 3) := dk_155 0 16 (dk_at dksX10_moves_7 5 rfl rfl)
theorem dX10_moves_172 : decode cX10_moves 172 = .ok (.iload 6, 2) := dk_21 6 (dk_at dksX10_moves_7 8 rfl rfl)
theorem dX10_moves_174 : decode cX10_moves 174 = .ok (.invokestatic 435, 3) := dk_184 1 179 (dk_at dksX10_moves_7 10 rfl rfl)
theorem dX10_moves_177 : decode cX10_moves 177 = .ok (.iload 5, 2) := dk_21 5 (dk_at dksX10_moves_7 13 rfl rfl)
theorem dX10_moves_179 : decode cX10_moves 179 = .ok (.invokestatic 435, 3) := dk_184 1 179 (dk_at dksX10_moves_7 15 rfl rfl)
theorem dX10_moves_182 : decode cX10_moves 182 = .ok (.if_icmp .ge 7, 3) := dk_162 0 7 (dk_at dksX10_moves_7 18 rfl rfl)
theorem dX10_moves_185 : decode cX10_moves 185 = .ok (.iload 6, 2) := dk_21 6 (dk_at dksX10_moves_7 21 rfl rfl)
theorem dX10_moves_187 : decode cX10_moves 187 = .ok (.istore 5, 2) := dk_54 5 (dk_at dksX10_moves_8 0 rfl rfl)
theorem dX10_moves_189 : decode cX10_moves 189 = .ok (.iinc 6 1, 3) := dk_132 6 1 (dk_at dksX10_moves_8 2 rfl rfl)
theorem dX10_moves_192 : decode cX10_moves 192 = .ok (.goto (-93), 3) := dk_167 255 163 (dk_at dksX10_moves_8 5 rfl rfl)
theorem dX10_moves_195 : decode cX10_moves 195 = .ok (.iload 5, 2) := dk_21 5 (dk_at dksX10_moves_8 8 rfl rfl)
theorem dX10_moves_197 : decode cX10_moves 197 = .ok (.ifCond .lt 8, 3) := dk_155 0 8 (dk_at dksX10_moves_8 10 rfl rfl)
theorem dX10_moves_200 : decode cX10_moves 200 = .ok (.iload_n 2, 1) := dk_28 (dk_at dksX10_moves_8 13 rfl rfl)
theorem dX10_moves_201 : decode cX10_moves 201 = .ok (.iconst 1, 1) := dk_4 (dk_at dksX10_moves_8 14 rfl rfl)
theorem dX10_moves_202 : decode cX10_moves 202 = .ok (.if_icmp .ne 8, 3) := dk_160 0 8 (dk_at dksX10_moves_8 15 rfl rfl)
theorem dX10_moves_205 : decode cX10_moves 205 = .ok (.iload 5, 2) := dk_21 5 (dk_at dksX10_moves_8 18 rfl rfl)
theorem dX10_moves_207 : decode cX10_moves 207 = .ok (.goto 8, 3) := dk_167 0 8 (dk_at dksX10_moves_8 20 rfl rfl)
theorem dX10_moves_210 : decode cX10_moves 210 = .ok (.iload 5, 2) := dk_21 5 (dk_at dksX10_moves_9 0 rfl rfl)
theorem dX10_moves_212 : decode cX10_moves 212 = .ok (.invokestatic 435, 3) := dk_184 1 179 (dk_at dksX10_moves_9 2 rfl rfl)
theorem dX10_moves_215 : decode cX10_moves 215 = .ok (.ireturn, 1) := dk_172 (dk_at dksX10_moves_9 5 rfl rfl)
abbrev cX10_tree : ByteArray := prog_22_method_103_code
def yX10_tree : MethodName := ⟨RX10, "tree", "()I"⟩
def dkwX10_tree_7 : List UInt8 := [172]
abbrev dktX10_tree_7 : List UInt8 := dkwX10_tree_7 ++ []
def dkwX10_tree_6 : List UInt8 := [180, 0, 55, 21, 4, 46, 120, 128, 128, 61, 29, 42, 180, 0, 58, 21, 4, 46, 96, 62, 167, 255, 122, 29]
abbrev dktX10_tree_6 : List UInt8 := dkwX10_tree_6 ++ dktX10_tree_7
def dkwX10_tree_5 : List UInt8 := [167, 255, 176, 21, 4, 156, 0, 6, 16, 254, 172, 28, 4, 42, 180, 0, 52, 21, 4, 46, 120, 4, 42]
abbrev dktX10_tree_5 : List UInt8 := dkwX10_tree_5 ++ dktX10_tree_6
def dkwX10_tree_4 : List UInt8 := [180, 0, 58, 21, 6, 46, 42, 180, 0, 58, 21, 4, 46, 162, 0, 7, 21, 6, 54, 4, 132, 5, 1]
abbrev dktX10_tree_4 : List UInt8 := dkwX10_tree_4 ++ dktX10_tree_5
def dkwX10_tree_3 : List UInt8 := [4, 126, 28, 42, 180, 0, 55, 21, 6, 46, 122, 4, 126, 159, 0, 29, 21, 4, 155, 0, 20, 42]
abbrev dktX10_tree_3 : List UInt8 := dkwX10_tree_3 ++ dktX10_tree_4
def dkwX10_tree_2 : List UInt8 := [162, 0, 72, 16, 10, 42, 180, 0, 251, 104, 21, 5, 96, 54, 6, 28, 42, 180, 0, 52, 21, 6, 46, 122]
abbrev dktX10_tree_2 : List UInt8 := dkwX10_tree_2 ++ dktX10_tree_3
def dkwX10_tree_1 : List UInt8 := [62, 28, 27, 159, 0, 135, 2, 54, 4, 3, 54, 5, 21, 5, 42, 180, 0, 49, 42, 180, 0, 251, 46]
abbrev dktX10_tree_1 : List UInt8 := dkwX10_tree_1 ++ dktX10_tree_2
def dkwX10_tree_0 : List UInt8 := [4, 42, 180, 0, 46, 42, 180, 0, 251, 46, 120, 4, 100, 60, 27, 154, 0, 6, 16, 254, 172, 4, 61, 3]
abbrev dktX10_tree_0 : List UInt8 := dkwX10_tree_0 ++ dktX10_tree_1
theorem dksX10_tree_0 : cX10_tree.data.toList.drop 0 = dktX10_tree_0 := by decide +kernel
theorem dksX10_tree_1 : cX10_tree.data.toList.drop 24 = dktX10_tree_1 := dk_seg dksX10_tree_0 24 rfl rfl
theorem dksX10_tree_2 : cX10_tree.data.toList.drop 47 = dktX10_tree_2 := dk_seg dksX10_tree_1 23 rfl rfl
theorem dksX10_tree_3 : cX10_tree.data.toList.drop 71 = dktX10_tree_3 := dk_seg dksX10_tree_2 24 rfl rfl
theorem dksX10_tree_4 : cX10_tree.data.toList.drop 93 = dktX10_tree_4 := dk_seg dksX10_tree_3 22 rfl rfl
theorem dksX10_tree_5 : cX10_tree.data.toList.drop 116 = dktX10_tree_5 := dk_seg dksX10_tree_4 23 rfl rfl
theorem dksX10_tree_6 : cX10_tree.data.toList.drop 139 = dktX10_tree_6 := dk_seg dksX10_tree_5 23 rfl rfl
theorem dksX10_tree_7 : cX10_tree.data.toList.drop 163 = dktX10_tree_7 := dk_seg dksX10_tree_6 24 rfl rfl
theorem dX10_tree_0 : decode cX10_tree 0 = .ok (.iconst 1, 1) := dk_4 (dk_at dksX10_tree_0 0 rfl rfl)
theorem dX10_tree_1 : decode cX10_tree 1 = .ok (.aload_n 0, 1) := dk_42 (dk_at dksX10_tree_0 1 rfl rfl)
theorem dX10_tree_2 : decode cX10_tree 2 = .ok (.getfield 46, 3) := dk_180 0 46 (dk_at dksX10_tree_0 2 rfl rfl)
theorem dX10_tree_5 : decode cX10_tree 5 = .ok (.aload_n 0, 1) := dk_42 (dk_at dksX10_tree_0 5 rfl rfl)
theorem dX10_tree_6 : decode cX10_tree 6 = .ok (.getfield 251, 3) := dk_180 0 251 (dk_at dksX10_tree_0 6 rfl rfl)
theorem dX10_tree_9 : decode cX10_tree 9 = .ok (.iaload, 1) := dk_46 (dk_at dksX10_tree_0 9 rfl rfl)
theorem dX10_tree_10 : decode cX10_tree 10 = .ok (.ishl, 1) := dk_120 (dk_at dksX10_tree_0 10 rfl rfl)
theorem dX10_tree_11 : decode cX10_tree 11 = .ok (.iconst 1, 1) := dk_4 (dk_at dksX10_tree_0 11 rfl rfl)
theorem dX10_tree_12 : decode cX10_tree 12 = .ok (.isub, 1) := dk_100 (dk_at dksX10_tree_0 12 rfl rfl)
theorem dX10_tree_13 : decode cX10_tree 13 = .ok (.istore_n 1, 1) := dk_60 (dk_at dksX10_tree_0 13 rfl rfl)
theorem dX10_tree_14 : decode cX10_tree 14 = .ok (.iload_n 1, 1) := dk_27 (dk_at dksX10_tree_0 14 rfl rfl)
theorem dX10_tree_15 : decode cX10_tree 15 = .ok (.ifCond .ne 6, 3) := dk_154 0 6 (dk_at dksX10_tree_0 15 rfl rfl)
theorem dX10_tree_18 : decode cX10_tree 18 = .ok (.bipush (-2), 2) := dk_16 254 (dk_at dksX10_tree_0 18 rfl rfl)
theorem dX10_tree_20 : decode cX10_tree 20 = .ok (.ireturn, 1) := dk_172 (dk_at dksX10_tree_0 20 rfl rfl)
theorem dX10_tree_21 : decode cX10_tree 21 = .ok (.iconst 1, 1) := dk_4 (dk_at dksX10_tree_0 21 rfl rfl)
theorem dX10_tree_22 : decode cX10_tree 22 = .ok (.istore_n 2, 1) := dk_61 (dk_at dksX10_tree_0 22 rfl rfl)
theorem dX10_tree_23 : decode cX10_tree 23 = .ok (.iconst 0, 1) := dk_3 (dk_at dksX10_tree_0 23 rfl rfl)
theorem dX10_tree_24 : decode cX10_tree 24 = .ok (.istore_n 3, 1) := dk_62 (dk_at dksX10_tree_1 0 rfl rfl)
theorem dX10_tree_25 : decode cX10_tree 25 = .ok (.iload_n 2, 1) := dk_28 (dk_at dksX10_tree_1 1 rfl rfl)
theorem dX10_tree_26 : decode cX10_tree 26 = .ok (.iload_n 1, 1) := dk_27 (dk_at dksX10_tree_1 2 rfl rfl)
theorem dX10_tree_27 : decode cX10_tree 27 = .ok (.if_icmp .eq 135, 3) := dk_159 0 135 (dk_at dksX10_tree_1 3 rfl rfl)
theorem dX10_tree_30 : decode cX10_tree 30 = .ok (.iconst (-1), 1) := dk_2 (dk_at dksX10_tree_1 6 rfl rfl)
theorem dX10_tree_31 : decode cX10_tree 31 = .ok (.istore 4, 2) := dk_54 4 (dk_at dksX10_tree_1 7 rfl rfl)
theorem dX10_tree_33 : decode cX10_tree 33 = .ok (.iconst 0, 1) := dk_3 (dk_at dksX10_tree_1 9 rfl rfl)
theorem dX10_tree_34 : decode cX10_tree 34 = .ok (.istore 5, 2) := dk_54 5 (dk_at dksX10_tree_1 10 rfl rfl)
theorem dX10_tree_36 : decode cX10_tree 36 = .ok (.iload 5, 2) := dk_21 5 (dk_at dksX10_tree_1 12 rfl rfl)
theorem dX10_tree_38 : decode cX10_tree 38 = .ok (.aload_n 0, 1) := dk_42 (dk_at dksX10_tree_1 14 rfl rfl)
theorem dX10_tree_39 : decode cX10_tree 39 = .ok (.getfield 49, 3) := dk_180 0 49 (dk_at dksX10_tree_1 15 rfl rfl)
theorem dX10_tree_42 : decode cX10_tree 42 = .ok (.aload_n 0, 1) := dk_42 (dk_at dksX10_tree_1 18 rfl rfl)
theorem dX10_tree_43 : decode cX10_tree 43 = .ok (.getfield 251, 3) := dk_180 0 251 (dk_at dksX10_tree_1 19 rfl rfl)
theorem dX10_tree_46 : decode cX10_tree 46 = .ok (.iaload, 1) := dk_46 (dk_at dksX10_tree_1 22 rfl rfl)
theorem dX10_tree_47 : decode cX10_tree 47 = .ok (.if_icmp .ge 72, 3) := dk_162 0 72 (dk_at dksX10_tree_2 0 rfl rfl)
theorem dX10_tree_50 : decode cX10_tree 50 = .ok (.bipush 10, 2) := dk_16 10 (dk_at dksX10_tree_2 3 rfl rfl)
theorem dX10_tree_52 : decode cX10_tree 52 = .ok (.aload_n 0, 1) := dk_42 (dk_at dksX10_tree_2 5 rfl rfl)
theorem dX10_tree_53 : decode cX10_tree 53 = .ok (.getfield 251, 3) := dk_180 0 251 (dk_at dksX10_tree_2 6 rfl rfl)
theorem dX10_tree_56 : decode cX10_tree 56 = .ok (.imul, 1) := dk_104 (dk_at dksX10_tree_2 9 rfl rfl)
theorem dX10_tree_57 : decode cX10_tree 57 = .ok (.iload 5, 2) := dk_21 5 (dk_at dksX10_tree_2 10 rfl rfl)
theorem dX10_tree_59 : decode cX10_tree 59 = .ok (.iadd, 1) := dk_96 (dk_at dksX10_tree_2 12 rfl rfl)
theorem dX10_tree_60 : decode cX10_tree 60 = .ok (.istore 6, 2) := dk_54 6 (dk_at dksX10_tree_2 13 rfl rfl)
theorem dX10_tree_62 : decode cX10_tree 62 = .ok (.iload_n 2, 1) := dk_28 (dk_at dksX10_tree_2 15 rfl rfl)
theorem dX10_tree_63 : decode cX10_tree 63 = .ok (.aload_n 0, 1) := dk_42 (dk_at dksX10_tree_2 16 rfl rfl)
theorem dX10_tree_64 : decode cX10_tree 64 = .ok (.getfield 52, 3) := dk_180 0 52 (dk_at dksX10_tree_2 17 rfl rfl)
theorem dX10_tree_67 : decode cX10_tree 67 = .ok (.iload 6, 2) := dk_21 6 (dk_at dksX10_tree_2 20 rfl rfl)
theorem dX10_tree_69 : decode cX10_tree 69 = .ok (.iaload, 1) := dk_46 (dk_at dksX10_tree_2 22 rfl rfl)
theorem dX10_tree_70 : decode cX10_tree 70 = .ok (.ishr, 1) := dk_122 (dk_at dksX10_tree_2 23 rfl rfl)
theorem dX10_tree_71 : decode cX10_tree 71 = .ok (.iconst 1, 1) := dk_4 (dk_at dksX10_tree_3 0 rfl rfl)
theorem dX10_tree_72 : decode cX10_tree 72 = .ok (.iand, 1) := dk_126 (dk_at dksX10_tree_3 1 rfl rfl)
theorem dX10_tree_73 : decode cX10_tree 73 = .ok (.iload_n 2, 1) := dk_28 (dk_at dksX10_tree_3 2 rfl rfl)
theorem dX10_tree_74 : decode cX10_tree 74 = .ok (.aload_n 0, 1) := dk_42 (dk_at dksX10_tree_3 3 rfl rfl)
theorem dX10_tree_75 : decode cX10_tree 75 = .ok (.getfield 55, 3) := dk_180 0 55 (dk_at dksX10_tree_3 4 rfl rfl)
theorem dX10_tree_78 : decode cX10_tree 78 = .ok (.iload 6, 2) := dk_21 6 (dk_at dksX10_tree_3 7 rfl rfl)
theorem dX10_tree_80 : decode cX10_tree 80 = .ok (.iaload, 1) := dk_46 (dk_at dksX10_tree_3 9 rfl rfl)
theorem dX10_tree_81 : decode cX10_tree 81 = .ok (.ishr, 1) := dk_122 (dk_at dksX10_tree_3 10 rfl rfl)
theorem dX10_tree_82 : decode cX10_tree 82 = .ok (.iconst 1, 1) := dk_4 (dk_at dksX10_tree_3 11 rfl rfl)
theorem dX10_tree_83 : decode cX10_tree 83 = .ok (.iand, 1) := dk_126 (dk_at dksX10_tree_3 12 rfl rfl)
theorem dX10_tree_84 : decode cX10_tree 84 = .ok (.if_icmp .eq 29, 3) := dk_159 0 29 (dk_at dksX10_tree_3 13 rfl rfl)
theorem dX10_tree_87 : decode cX10_tree 87 = .ok (.iload 4, 2) := dk_21 4 (dk_at dksX10_tree_3 16 rfl rfl)
theorem dX10_tree_89 : decode cX10_tree 89 = .ok (.ifCond .lt 20, 3) := dk_155 0 20 (dk_at dksX10_tree_3 18 rfl rfl)
theorem dX10_tree_92 : decode cX10_tree 92 = .ok (.aload_n 0, 1) := dk_42 (dk_at dksX10_tree_3 21 rfl rfl)
theorem dX10_tree_93 : decode cX10_tree 93 = .ok (.getfield 58, 3) := dk_180 0 58 (dk_at dksX10_tree_4 0 rfl rfl)
theorem dX10_tree_96 : decode cX10_tree 96 = .ok (.iload 6, 2) := dk_21 6 (dk_at dksX10_tree_4 3 rfl rfl)
theorem dX10_tree_98 : decode cX10_tree 98 = .ok (.iaload, 1) := dk_46 (dk_at dksX10_tree_4 5 rfl rfl)
theorem dX10_tree_99 : decode cX10_tree 99 = .ok (.aload_n 0, 1) := dk_42 (dk_at dksX10_tree_4 6 rfl rfl)
theorem dX10_tree_100 : decode cX10_tree 100 = .ok (.getfield 58, 3) := dk_180 0 58 (dk_at dksX10_tree_4 7 rfl rfl)
theorem dX10_tree_103 : decode cX10_tree 103 = .ok (.iload 4, 2) := dk_21 4 (dk_at dksX10_tree_4 10 rfl rfl)
theorem dX10_tree_105 : decode cX10_tree 105 = .ok (.iaload, 1) := dk_46 (dk_at dksX10_tree_4 12 rfl rfl)
theorem dX10_tree_106 : decode cX10_tree 106 = .ok (.if_icmp .ge 7, 3) := dk_162 0 7 (dk_at dksX10_tree_4 13 rfl rfl)
theorem dX10_tree_109 : decode cX10_tree 109 = .ok (.iload 6, 2) := dk_21 6 (dk_at dksX10_tree_4 16 rfl rfl)
theorem dX10_tree_111 : decode cX10_tree 111 = .ok (.istore 4, 2) := dk_54 4 (dk_at dksX10_tree_4 18 rfl rfl)
theorem dX10_tree_113 : decode cX10_tree 113 = .ok (.iinc 5 1, 3) := dk_132 5 1 (dk_at dksX10_tree_4 20 rfl rfl)
theorem dX10_tree_116 : decode cX10_tree 116 = .ok (.goto (-80), 3) := dk_167 255 176 (dk_at dksX10_tree_5 0 rfl rfl)
theorem dX10_tree_119 : decode cX10_tree 119 = .ok (.iload 4, 2) := dk_21 4 (dk_at dksX10_tree_5 3 rfl rfl)
theorem dX10_tree_121 : decode cX10_tree 121 = .ok (.ifCond .ge 6, 3) := dk_156 0 6 (dk_at dksX10_tree_5 5 rfl rfl)
theorem dX10_tree_124 : decode cX10_tree 124 = .ok (.bipush (-2), 2) := dk_16 254 (dk_at dksX10_tree_5 8 rfl rfl)
theorem dX10_tree_126 : decode cX10_tree 126 = .ok (.ireturn, 1) := dk_172 (dk_at dksX10_tree_5 10 rfl rfl)
theorem dX10_tree_127 : decode cX10_tree 127 = .ok (.iload_n 2, 1) := dk_28 (dk_at dksX10_tree_5 11 rfl rfl)
theorem dX10_tree_128 : decode cX10_tree 128 = .ok (.iconst 1, 1) := dk_4 (dk_at dksX10_tree_5 12 rfl rfl)
theorem dX10_tree_129 : decode cX10_tree 129 = .ok (.aload_n 0, 1) := dk_42 (dk_at dksX10_tree_5 13 rfl rfl)
theorem dX10_tree_130 : decode cX10_tree 130 = .ok (.getfield 52, 3) := dk_180 0 52 (dk_at dksX10_tree_5 14 rfl rfl)
theorem dX10_tree_133 : decode cX10_tree 133 = .ok (.iload 4, 2) := dk_21 4 (dk_at dksX10_tree_5 17 rfl rfl)
theorem dX10_tree_135 : decode cX10_tree 135 = .ok (.iaload, 1) := dk_46 (dk_at dksX10_tree_5 19 rfl rfl)
theorem dX10_tree_136 : decode cX10_tree 136 = .ok (.ishl, 1) := dk_120 (dk_at dksX10_tree_5 20 rfl rfl)
theorem dX10_tree_137 : decode cX10_tree 137 = .ok (.iconst 1, 1) := dk_4 (dk_at dksX10_tree_5 21 rfl rfl)
theorem dX10_tree_138 : decode cX10_tree 138 = .ok (.aload_n 0, 1) := dk_42 (dk_at dksX10_tree_5 22 rfl rfl)
theorem dX10_tree_139 : decode cX10_tree 139 = .ok (.getfield 55, 3) := dk_180 0 55 (dk_at dksX10_tree_6 0 rfl rfl)
theorem dX10_tree_142 : decode cX10_tree 142 = .ok (.iload 4, 2) := dk_21 4 (dk_at dksX10_tree_6 3 rfl rfl)
theorem dX10_tree_144 : decode cX10_tree 144 = .ok (.iaload, 1) := dk_46 (dk_at dksX10_tree_6 5 rfl rfl)
theorem dX10_tree_145 : decode cX10_tree 145 = .ok (.ishl, 1) := dk_120 (dk_at dksX10_tree_6 6 rfl rfl)
theorem dX10_tree_146 : decode cX10_tree 146 = .ok (.ior, 1) := dk_128 (dk_at dksX10_tree_6 7 rfl rfl)
theorem dX10_tree_147 : decode cX10_tree 147 = .ok (.ior, 1) := dk_128 (dk_at dksX10_tree_6 8 rfl rfl)
theorem dX10_tree_148 : decode cX10_tree 148 = .ok (.istore_n 2, 1) := dk_61 (dk_at dksX10_tree_6 9 rfl rfl)
theorem dX10_tree_149 : decode cX10_tree 149 = .ok (.iload_n 3, 1) := dk_29 (dk_at dksX10_tree_6 10 rfl rfl)
theorem dX10_tree_150 : decode cX10_tree 150 = .ok (.aload_n 0, 1) := dk_42 (dk_at dksX10_tree_6 11 rfl rfl)
theorem dX10_tree_151 : decode cX10_tree 151 = .ok (.getfield 58, 3) := dk_180 0 58 (dk_at dksX10_tree_6 12 rfl rfl)
theorem dX10_tree_154 : decode cX10_tree 154 = .ok (.iload 4, 2) := dk_21 4 (dk_at dksX10_tree_6 15 rfl rfl)
theorem dX10_tree_156 : decode cX10_tree 156 = .ok (.iaload, 1) := dk_46 (dk_at dksX10_tree_6 17 rfl rfl)
theorem dX10_tree_157 : decode cX10_tree 157 = .ok (.iadd, 1) := dk_96 (dk_at dksX10_tree_6 18 rfl rfl)
theorem dX10_tree_158 : decode cX10_tree 158 = .ok (.istore_n 3, 1) := dk_62 (dk_at dksX10_tree_6 19 rfl rfl)
theorem dX10_tree_159 : decode cX10_tree 159 = .ok (.goto (-134), 3) := dk_167 255 122 (dk_at dksX10_tree_6 20 rfl rfl)
theorem dX10_tree_162 : decode cX10_tree 162 = .ok (.iload_n 3, 1) := dk_29 (dk_at dksX10_tree_6 23 rfl rfl)
theorem dX10_tree_163 : decode cX10_tree 163 = .ok (.ireturn, 1) := dk_172 (dk_at dksX10_tree_7 0 rfl rfl)
abbrev cX10_glowIn : ByteArray := prog_22_method_105_code
def yX10_glowIn : MethodName := ⟨RX10, "glowIn", "(II)I"⟩
def dkwX10_glowIn_1 : List UInt8 := [42, 28, 182, 1, 170, 42, 180, 0, 128, 16, 6, 27, 96, 46, 172]
abbrev dktX10_glowIn_1 : List UInt8 := dkwX10_glowIn_1 ++ []
def dkwX10_glowIn_0 : List UInt8 := [42, 27, 182, 1, 82, 153, 0, 13, 28, 3, 16, 72, 184, 1, 78, 154, 0, 5, 2, 172, 42, 182, 1, 91]
abbrev dktX10_glowIn_0 : List UInt8 := dkwX10_glowIn_0 ++ dktX10_glowIn_1
theorem dksX10_glowIn_0 : cX10_glowIn.data.toList.drop 0 = dktX10_glowIn_0 := by decide +kernel
theorem dksX10_glowIn_1 : cX10_glowIn.data.toList.drop 24 = dktX10_glowIn_1 := dk_seg dksX10_glowIn_0 24 rfl rfl
theorem dX10_glowIn_0 : decode cX10_glowIn 0 = .ok (.aload_n 0, 1) := dk_42 (dk_at dksX10_glowIn_0 0 rfl rfl)
theorem dX10_glowIn_1 : decode cX10_glowIn 1 = .ok (.iload_n 1, 1) := dk_27 (dk_at dksX10_glowIn_0 1 rfl rfl)
theorem dX10_glowIn_2 : decode cX10_glowIn 2 = .ok (.invokevirtual 338, 3) := dk_182 1 82 (dk_at dksX10_glowIn_0 2 rfl rfl)
theorem dX10_glowIn_5 : decode cX10_glowIn 5 = .ok (.ifCond .eq 13, 3) := dk_153 0 13 (dk_at dksX10_glowIn_0 5 rfl rfl)
theorem dX10_glowIn_8 : decode cX10_glowIn 8 = .ok (.iload_n 2, 1) := dk_28 (dk_at dksX10_glowIn_0 8 rfl rfl)
theorem dX10_glowIn_9 : decode cX10_glowIn 9 = .ok (.iconst 0, 1) := dk_3 (dk_at dksX10_glowIn_0 9 rfl rfl)
theorem dX10_glowIn_10 : decode cX10_glowIn 10 = .ok (.bipush 72, 2) := dk_16 72 (dk_at dksX10_glowIn_0 10 rfl rfl)
theorem dX10_glowIn_12 : decode cX10_glowIn 12 = .ok (.invokestatic 334, 3) := dk_184 1 78 (dk_at dksX10_glowIn_0 12 rfl rfl)
theorem dX10_glowIn_15 : decode cX10_glowIn 15 = .ok (.ifCond .ne 5, 3) := dk_154 0 5 (dk_at dksX10_glowIn_0 15 rfl rfl)
theorem dX10_glowIn_18 : decode cX10_glowIn 18 = .ok (.iconst (-1), 1) := dk_2 (dk_at dksX10_glowIn_0 18 rfl rfl)
theorem dX10_glowIn_19 : decode cX10_glowIn 19 = .ok (.ireturn, 1) := dk_172 (dk_at dksX10_glowIn_0 19 rfl rfl)
theorem dX10_glowIn_20 : decode cX10_glowIn 20 = .ok (.aload_n 0, 1) := dk_42 (dk_at dksX10_glowIn_0 20 rfl rfl)
theorem dX10_glowIn_21 : decode cX10_glowIn 21 = .ok (.invokevirtual 347, 3) := dk_182 1 91 (dk_at dksX10_glowIn_0 21 rfl rfl)
theorem dX10_glowIn_24 : decode cX10_glowIn 24 = .ok (.aload_n 0, 1) := dk_42 (dk_at dksX10_glowIn_1 0 rfl rfl)
theorem dX10_glowIn_25 : decode cX10_glowIn 25 = .ok (.iload_n 2, 1) := dk_28 (dk_at dksX10_glowIn_1 1 rfl rfl)
theorem dX10_glowIn_26 : decode cX10_glowIn 26 = .ok (.invokevirtual 426, 3) := dk_182 1 170 (dk_at dksX10_glowIn_1 2 rfl rfl)
theorem dX10_glowIn_29 : decode cX10_glowIn 29 = .ok (.aload_n 0, 1) := dk_42 (dk_at dksX10_glowIn_1 5 rfl rfl)
theorem dX10_glowIn_30 : decode cX10_glowIn 30 = .ok (.getfield 128, 3) := dk_180 0 128 (dk_at dksX10_glowIn_1 6 rfl rfl)
theorem dX10_glowIn_33 : decode cX10_glowIn 33 = .ok (.bipush 6, 2) := dk_16 6 (dk_at dksX10_glowIn_1 9 rfl rfl)
theorem dX10_glowIn_35 : decode cX10_glowIn 35 = .ok (.iload_n 1, 1) := dk_27 (dk_at dksX10_glowIn_1 11 rfl rfl)
theorem dX10_glowIn_36 : decode cX10_glowIn 36 = .ok (.iadd, 1) := dk_96 (dk_at dksX10_glowIn_1 12 rfl rfl)
theorem dX10_glowIn_37 : decode cX10_glowIn 37 = .ok (.iaload, 1) := dk_46 (dk_at dksX10_glowIn_1 13 rfl rfl)
theorem dX10_glowIn_38 : decode cX10_glowIn 38 = .ok (.ireturn, 1) := dk_172 (dk_at dksX10_glowIn_1 14 rfl rfl)
abbrev cX10_then : ByteArray := prog_22_method_106_code
def yX10_then : MethodName := ⟨RX10, "then", "(II)I"⟩
def dkwX10_then_1 : List UInt8 := [182, 1, 91, 42, 27, 182, 1, 170, 28, 154, 0, 10, 42, 182, 1, 176, 167, 0, 7, 42, 182, 1, 206, 172]
abbrev dktX10_then_1 : List UInt8 := dkwX10_then_1 ++ []
def dkwX10_then_0 : List UInt8 := [27, 3, 16, 72, 184, 1, 78, 153, 0, 12, 28, 3, 4, 184, 1, 78, 154, 0, 5, 2, 172, 42]
abbrev dktX10_then_0 : List UInt8 := dkwX10_then_0 ++ dktX10_then_1
theorem dksX10_then_0 : cX10_then.data.toList.drop 0 = dktX10_then_0 := by decide +kernel
theorem dksX10_then_1 : cX10_then.data.toList.drop 22 = dktX10_then_1 := dk_seg dksX10_then_0 22 rfl rfl
theorem dX10_then_0 : decode cX10_then 0 = .ok (.iload_n 1, 1) := dk_27 (dk_at dksX10_then_0 0 rfl rfl)
theorem dX10_then_1 : decode cX10_then 1 = .ok (.iconst 0, 1) := dk_3 (dk_at dksX10_then_0 1 rfl rfl)
theorem dX10_then_2 : decode cX10_then 2 = .ok (.bipush 72, 2) := dk_16 72 (dk_at dksX10_then_0 2 rfl rfl)
theorem dX10_then_4 : decode cX10_then 4 = .ok (.invokestatic 334, 3) := dk_184 1 78 (dk_at dksX10_then_0 4 rfl rfl)
theorem dX10_then_7 : decode cX10_then 7 = .ok (.ifCond .eq 12, 3) := dk_153 0 12 (dk_at dksX10_then_0 7 rfl rfl)
theorem dX10_then_10 : decode cX10_then 10 = .ok (.iload_n 2, 1) := dk_28 (dk_at dksX10_then_0 10 rfl rfl)
theorem dX10_then_11 : decode cX10_then 11 = .ok (.iconst 0, 1) := dk_3 (dk_at dksX10_then_0 11 rfl rfl)
theorem dX10_then_12 : decode cX10_then 12 = .ok (.iconst 1, 1) := dk_4 (dk_at dksX10_then_0 12 rfl rfl)
theorem dX10_then_13 : decode cX10_then 13 = .ok (.invokestatic 334, 3) := dk_184 1 78 (dk_at dksX10_then_0 13 rfl rfl)
theorem dX10_then_16 : decode cX10_then 16 = .ok (.ifCond .ne 5, 3) := dk_154 0 5 (dk_at dksX10_then_0 16 rfl rfl)
theorem dX10_then_19 : decode cX10_then 19 = .ok (.iconst (-1), 1) := dk_2 (dk_at dksX10_then_0 19 rfl rfl)
theorem dX10_then_20 : decode cX10_then 20 = .ok (.ireturn, 1) := dk_172 (dk_at dksX10_then_0 20 rfl rfl)
theorem dX10_then_21 : decode cX10_then 21 = .ok (.aload_n 0, 1) := dk_42 (dk_at dksX10_then_0 21 rfl rfl)
theorem dX10_then_22 : decode cX10_then 22 = .ok (.invokevirtual 347, 3) := dk_182 1 91 (dk_at dksX10_then_1 0 rfl rfl)
theorem dX10_then_25 : decode cX10_then 25 = .ok (.aload_n 0, 1) := dk_42 (dk_at dksX10_then_1 3 rfl rfl)
theorem dX10_then_26 : decode cX10_then 26 = .ok (.iload_n 1, 1) := dk_27 (dk_at dksX10_then_1 4 rfl rfl)
theorem dX10_then_27 : decode cX10_then 27 = .ok (.invokevirtual 426, 3) := dk_182 1 170 (dk_at dksX10_then_1 5 rfl rfl)
theorem dX10_then_30 : decode cX10_then 30 = .ok (.iload_n 2, 1) := dk_28 (dk_at dksX10_then_1 8 rfl rfl)
theorem dX10_then_31 : decode cX10_then 31 = .ok (.ifCond .ne 10, 3) := dk_154 0 10 (dk_at dksX10_then_1 9 rfl rfl)
theorem dX10_then_34 : decode cX10_then 34 = .ok (.aload_n 0, 1) := dk_42 (dk_at dksX10_then_1 12 rfl rfl)
theorem dX10_then_35 : decode cX10_then 35 = .ok (.invokevirtual 432, 3) := dk_182 1 176 (dk_at dksX10_then_1 13 rfl rfl)
theorem dX10_then_38 : decode cX10_then 38 = .ok (.goto 7, 3) := dk_167 0 7 (dk_at dksX10_then_1 16 rfl rfl)
theorem dX10_then_41 : decode cX10_then 41 = .ok (.aload_n 0, 1) := dk_42 (dk_at dksX10_then_1 19 rfl rfl)
theorem dX10_then_42 : decode cX10_then 42 = .ok (.invokevirtual 462, 3) := dk_182 1 206 (dk_at dksX10_then_1 20 rfl rfl)
theorem dX10_then_45 : decode cX10_then 45 = .ok (.ireturn, 1) := dk_172 (dk_at dksX10_then_1 23 rfl rfl)
abbrev cX10_homeBits : ByteArray := prog_22_method_104_code
def yX10_homeBits : MethodName := ⟨RX10, "homeBits", "()I"⟩
def dkwX10_homeBits_1 : List UInt8 := [28, 96, 46, 28, 120, 128, 60, 132, 2, 1, 167, 255, 226, 27, 172]
abbrev dktX10_homeBits_1 : List UInt8 := dkwX10_homeBits_1 ++ []
def dkwX10_homeBits_0 : List UInt8 := [3, 60, 3, 61, 28, 42, 180, 0, 61, 42, 180, 0, 251, 46, 162, 0, 23, 27, 42, 180, 0, 128, 16, 12]
abbrev dktX10_homeBits_0 : List UInt8 := dkwX10_homeBits_0 ++ dktX10_homeBits_1
theorem dksX10_homeBits_0 : cX10_homeBits.data.toList.drop 0 = dktX10_homeBits_0 := by decide +kernel
theorem dksX10_homeBits_1 : cX10_homeBits.data.toList.drop 24 = dktX10_homeBits_1 := dk_seg dksX10_homeBits_0 24 rfl rfl
theorem dX10_homeBits_0 : decode cX10_homeBits 0 = .ok (.iconst 0, 1) := dk_3 (dk_at dksX10_homeBits_0 0 rfl rfl)
theorem dX10_homeBits_1 : decode cX10_homeBits 1 = .ok (.istore_n 1, 1) := dk_60 (dk_at dksX10_homeBits_0 1 rfl rfl)
theorem dX10_homeBits_2 : decode cX10_homeBits 2 = .ok (.iconst 0, 1) := dk_3 (dk_at dksX10_homeBits_0 2 rfl rfl)
theorem dX10_homeBits_3 : decode cX10_homeBits 3 = .ok (.istore_n 2, 1) := dk_61 (dk_at dksX10_homeBits_0 3 rfl rfl)
theorem dX10_homeBits_4 : decode cX10_homeBits 4 = .ok (.iload_n 2, 1) := dk_28 (dk_at dksX10_homeBits_0 4 rfl rfl)
theorem dX10_homeBits_5 : decode cX10_homeBits 5 = .ok (.aload_n 0, 1) := dk_42 (dk_at dksX10_homeBits_0 5 rfl rfl)
theorem dX10_homeBits_6 : decode cX10_homeBits 6 = .ok (.getfield 61, 3) := dk_180 0 61 (dk_at dksX10_homeBits_0 6 rfl rfl)
theorem dX10_homeBits_9 : decode cX10_homeBits 9 = .ok (.aload_n 0, 1) := dk_42 (dk_at dksX10_homeBits_0 9 rfl rfl)
theorem dX10_homeBits_10 : decode cX10_homeBits 10 = .ok (.getfield 251, 3) := dk_180 0 251 (dk_at dksX10_homeBits_0 10 rfl rfl)
theorem dX10_homeBits_13 : decode cX10_homeBits 13 = .ok (.iaload, 1) := dk_46 (dk_at dksX10_homeBits_0 13 rfl rfl)
theorem dX10_homeBits_14 : decode cX10_homeBits 14 = .ok (.if_icmp .ge 23, 3) := dk_162 0 23 (dk_at dksX10_homeBits_0 14 rfl rfl)
theorem dX10_homeBits_17 : decode cX10_homeBits 17 = .ok (.iload_n 1, 1) := dk_27 (dk_at dksX10_homeBits_0 17 rfl rfl)
theorem dX10_homeBits_18 : decode cX10_homeBits 18 = .ok (.aload_n 0, 1) := dk_42 (dk_at dksX10_homeBits_0 18 rfl rfl)
theorem dX10_homeBits_19 : decode cX10_homeBits 19 = .ok (.getfield 128, 3) := dk_180 0 128 (dk_at dksX10_homeBits_0 19 rfl rfl)
theorem dX10_homeBits_22 : decode cX10_homeBits 22 = .ok (.bipush 12, 2) := dk_16 12 (dk_at dksX10_homeBits_0 22 rfl rfl)
theorem dX10_homeBits_24 : decode cX10_homeBits 24 = .ok (.iload_n 2, 1) := dk_28 (dk_at dksX10_homeBits_1 0 rfl rfl)
theorem dX10_homeBits_25 : decode cX10_homeBits 25 = .ok (.iadd, 1) := dk_96 (dk_at dksX10_homeBits_1 1 rfl rfl)
theorem dX10_homeBits_26 : decode cX10_homeBits 26 = .ok (.iaload, 1) := dk_46 (dk_at dksX10_homeBits_1 2 rfl rfl)
theorem dX10_homeBits_27 : decode cX10_homeBits 27 = .ok (.iload_n 2, 1) := dk_28 (dk_at dksX10_homeBits_1 3 rfl rfl)
theorem dX10_homeBits_28 : decode cX10_homeBits 28 = .ok (.ishl, 1) := dk_120 (dk_at dksX10_homeBits_1 4 rfl rfl)
theorem dX10_homeBits_29 : decode cX10_homeBits 29 = .ok (.ior, 1) := dk_128 (dk_at dksX10_homeBits_1 5 rfl rfl)
theorem dX10_homeBits_30 : decode cX10_homeBits 30 = .ok (.istore_n 1, 1) := dk_60 (dk_at dksX10_homeBits_1 6 rfl rfl)
theorem dX10_homeBits_31 : decode cX10_homeBits 31 = .ok (.iinc 2 1, 3) := dk_132 2 1 (dk_at dksX10_homeBits_1 7 rfl rfl)
theorem dX10_homeBits_34 : decode cX10_homeBits 34 = .ok (.goto (-30), 3) := dk_167 255 226 (dk_at dksX10_homeBits_1 10 rfl rfl)
theorem dX10_homeBits_37 : decode cX10_homeBits 37 = .ok (.iload_n 1, 1) := dk_27 (dk_at dksX10_homeBits_1 13 rfl rfl)
theorem dX10_homeBits_38 : decode cX10_homeBits 38 = .ok (.ireturn, 1) := dk_172 (dk_at dksX10_homeBits_1 14 rfl rfl)
abbrev cX10_year : ByteArray := prog_22_method_107_code
def yX10_year : MethodName := ⟨RX10, "year", "(III)I"⟩
def dkwX10_year_3 : List UInt8 := [132, 4, 1, 132, 5, 1, 167, 255, 216, 21, 4, 172]
abbrev dktX10_year_3 : List UInt8 := dkwX10_year_3 ++ []
def dkwX10_year_2 : List UInt8 := [42, 89, 180, 1, 85, 21, 5, 96, 181, 1, 85, 42, 28, 182, 1, 170, 42, 27, 182, 1, 152, 154, 0, 6]
abbrev dktX10_year_2 : List UInt8 := dkwX10_year_2 ++ dktX10_year_3
def dkwX10_year_1 : List UInt8 := [184, 1, 78, 154, 0, 5, 2, 172, 3, 54, 4, 3, 54, 5, 21, 5, 29, 162, 0, 40, 42, 182, 1, 91]
abbrev dktX10_year_1 : List UInt8 := dkwX10_year_1 ++ dktX10_year_2
def dkwX10_year_0 : List UInt8 := [42, 27, 182, 1, 149, 153, 0, 23, 28, 3, 16, 72, 184, 1, 78, 153, 0, 13, 29, 4, 16, 20]
abbrev dktX10_year_0 : List UInt8 := dkwX10_year_0 ++ dktX10_year_1
theorem dksX10_year_0 : cX10_year.data.toList.drop 0 = dktX10_year_0 := by decide +kernel
theorem dksX10_year_1 : cX10_year.data.toList.drop 22 = dktX10_year_1 := dk_seg dksX10_year_0 22 rfl rfl
theorem dksX10_year_2 : cX10_year.data.toList.drop 46 = dktX10_year_2 := dk_seg dksX10_year_1 24 rfl rfl
theorem dksX10_year_3 : cX10_year.data.toList.drop 70 = dktX10_year_3 := dk_seg dksX10_year_2 24 rfl rfl
theorem dX10_year_0 : decode cX10_year 0 = .ok (.aload_n 0, 1) := dk_42 (dk_at dksX10_year_0 0 rfl rfl)
theorem dX10_year_1 : decode cX10_year 1 = .ok (.iload_n 1, 1) := dk_27 (dk_at dksX10_year_0 1 rfl rfl)
theorem dX10_year_2 : decode cX10_year 2 = .ok (.invokevirtual 405, 3) := dk_182 1 149 (dk_at dksX10_year_0 2 rfl rfl)
theorem dX10_year_5 : decode cX10_year 5 = .ok (.ifCond .eq 23, 3) := dk_153 0 23 (dk_at dksX10_year_0 5 rfl rfl)
theorem dX10_year_8 : decode cX10_year 8 = .ok (.iload_n 2, 1) := dk_28 (dk_at dksX10_year_0 8 rfl rfl)
theorem dX10_year_9 : decode cX10_year 9 = .ok (.iconst 0, 1) := dk_3 (dk_at dksX10_year_0 9 rfl rfl)
theorem dX10_year_10 : decode cX10_year 10 = .ok (.bipush 72, 2) := dk_16 72 (dk_at dksX10_year_0 10 rfl rfl)
theorem dX10_year_12 : decode cX10_year 12 = .ok (.invokestatic 334, 3) := dk_184 1 78 (dk_at dksX10_year_0 12 rfl rfl)
theorem dX10_year_15 : decode cX10_year 15 = .ok (.ifCond .eq 13, 3) := dk_153 0 13 (dk_at dksX10_year_0 15 rfl rfl)
theorem dX10_year_18 : decode cX10_year 18 = .ok (.iload_n 3, 1) := dk_29 (dk_at dksX10_year_0 18 rfl rfl)
theorem dX10_year_19 : decode cX10_year 19 = .ok (.iconst 1, 1) := dk_4 (dk_at dksX10_year_0 19 rfl rfl)
theorem dX10_year_20 : decode cX10_year 20 = .ok (.bipush 20, 2) := dk_16 20 (dk_at dksX10_year_0 20 rfl rfl)
theorem dX10_year_22 : decode cX10_year 22 = .ok (.invokestatic 334, 3) := dk_184 1 78 (dk_at dksX10_year_1 0 rfl rfl)
theorem dX10_year_25 : decode cX10_year 25 = .ok (.ifCond .ne 5, 3) := dk_154 0 5 (dk_at dksX10_year_1 3 rfl rfl)
theorem dX10_year_28 : decode cX10_year 28 = .ok (.iconst (-1), 1) := dk_2 (dk_at dksX10_year_1 6 rfl rfl)
theorem dX10_year_29 : decode cX10_year 29 = .ok (.ireturn, 1) := dk_172 (dk_at dksX10_year_1 7 rfl rfl)
theorem dX10_year_30 : decode cX10_year 30 = .ok (.iconst 0, 1) := dk_3 (dk_at dksX10_year_1 8 rfl rfl)
theorem dX10_year_31 : decode cX10_year 31 = .ok (.istore 4, 2) := dk_54 4 (dk_at dksX10_year_1 9 rfl rfl)
theorem dX10_year_33 : decode cX10_year 33 = .ok (.iconst 0, 1) := dk_3 (dk_at dksX10_year_1 11 rfl rfl)
theorem dX10_year_34 : decode cX10_year 34 = .ok (.istore 5, 2) := dk_54 5 (dk_at dksX10_year_1 12 rfl rfl)
theorem dX10_year_36 : decode cX10_year 36 = .ok (.iload 5, 2) := dk_21 5 (dk_at dksX10_year_1 14 rfl rfl)
theorem dX10_year_38 : decode cX10_year 38 = .ok (.iload_n 3, 1) := dk_29 (dk_at dksX10_year_1 16 rfl rfl)
theorem dX10_year_39 : decode cX10_year 39 = .ok (.if_icmp .ge 40, 3) := dk_162 0 40 (dk_at dksX10_year_1 17 rfl rfl)
theorem dX10_year_42 : decode cX10_year 42 = .ok (.aload_n 0, 1) := dk_42 (dk_at dksX10_year_1 20 rfl rfl)
theorem dX10_year_43 : decode cX10_year 43 = .ok (.invokevirtual 347, 3) := dk_182 1 91 (dk_at dksX10_year_1 21 rfl rfl)
theorem dX10_year_46 : decode cX10_year 46 = .ok (.aload_n 0, 1) := dk_42 (dk_at dksX10_year_2 0 rfl rfl)
theorem dX10_year_47 : decode cX10_year 47 = .ok (.dup, 1) := dk_89 (dk_at dksX10_year_2 1 rfl rfl)
theorem dX10_year_48 : decode cX10_year 48 = .ok (.getfield 341, 3) := dk_180 1 85 (dk_at dksX10_year_2 2 rfl rfl)
theorem dX10_year_51 : decode cX10_year 51 = .ok (.iload 5, 2) := dk_21 5 (dk_at dksX10_year_2 5 rfl rfl)
theorem dX10_year_53 : decode cX10_year 53 = .ok (.iadd, 1) := dk_96 (dk_at dksX10_year_2 7 rfl rfl)
theorem dX10_year_54 : decode cX10_year 54 = .ok (.putfield 341, 3) := dk_181 1 85 (dk_at dksX10_year_2 8 rfl rfl)
theorem dX10_year_57 : decode cX10_year 57 = .ok (.aload_n 0, 1) := dk_42 (dk_at dksX10_year_2 11 rfl rfl)
theorem dX10_year_58 : decode cX10_year 58 = .ok (.iload_n 2, 1) := dk_28 (dk_at dksX10_year_2 12 rfl rfl)
theorem dX10_year_59 : decode cX10_year 59 = .ok (.invokevirtual 426, 3) := dk_182 1 170 (dk_at dksX10_year_2 13 rfl rfl)
theorem dX10_year_62 : decode cX10_year 62 = .ok (.aload_n 0, 1) := dk_42 (dk_at dksX10_year_2 16 rfl rfl)
theorem dX10_year_63 : decode cX10_year 63 = .ok (.iload_n 1, 1) := dk_27 (dk_at dksX10_year_2 17 rfl rfl)
theorem dX10_year_64 : decode cX10_year 64 = .ok (.invokevirtual 408, 3) := dk_182 1 152 (dk_at dksX10_year_2 18 rfl rfl)
theorem dX10_year_67 : decode cX10_year 67 = .ok (.ifCond .ne 6, 3) := dk_154 0 6 (dk_at dksX10_year_2 21 rfl rfl)
theorem dX10_year_70 : decode cX10_year 70 = .ok (.iinc 4 1, 3) := dk_132 4 1 (dk_at dksX10_year_3 0 rfl rfl)
theorem dX10_year_73 : decode cX10_year 73 = .ok (.iinc 5 1, 3) := dk_132 5 1 (dk_at dksX10_year_3 3 rfl rfl)
theorem dX10_year_76 : decode cX10_year 76 = .ok (.goto (-40), 3) := dk_167 255 216 (dk_at dksX10_year_3 6 rfl rfl)
theorem dX10_year_79 : decode cX10_year 79 = .ok (.iload 4, 2) := dk_21 4 (dk_at dksX10_year_3 9 rfl rfl)
theorem dX10_year_81 : decode cX10_year 81 = .ok (.ireturn, 1) := dk_172 (dk_at dksX10_year_3 11 rfl rfl)
abbrev cX10_tell : ByteArray := prog_22_method_108_code
def yX10_tell : MethodName := ⟨RX10, "tell", "(IIZ)I"⟩
def dkwX10_tell_3 : List UInt8 := [181, 1, 16, 42, 180, 1, 16, 4, 100, 172]
abbrev dktX10_tell_3 : List UInt8 := dkwX10_tell_3 ++ []
def dkwX10_tell_2 : List UInt8 := [180, 1, 16, 28, 79, 42, 180, 0, 161, 42, 180, 1, 16, 29, 84, 42, 89, 180, 1, 16, 4, 96]
abbrev dktX10_tell_2 : List UInt8 := dkwX10_tell_2 ++ dktX10_tell_3
def dkwX10_tell_1 : List UInt8 := [184, 1, 78, 154, 0, 5, 2, 172, 42, 180, 0, 155, 42, 180, 1, 16, 27, 79, 42, 180, 0, 158, 42]
abbrev dktX10_tell_1 : List UInt8 := dkwX10_tell_1 ++ dktX10_tell_2
def dkwX10_tell_0 : List UInt8 := [42, 180, 1, 16, 16, 20, 159, 0, 22, 42, 27, 182, 1, 164, 153, 0, 14, 28, 3, 17, 3, 231]
abbrev dktX10_tell_0 : List UInt8 := dkwX10_tell_0 ++ dktX10_tell_1
theorem dksX10_tell_0 : cX10_tell.data.toList.drop 0 = dktX10_tell_0 := by decide +kernel
theorem dksX10_tell_1 : cX10_tell.data.toList.drop 22 = dktX10_tell_1 := dk_seg dksX10_tell_0 22 rfl rfl
theorem dksX10_tell_2 : cX10_tell.data.toList.drop 45 = dktX10_tell_2 := dk_seg dksX10_tell_1 23 rfl rfl
theorem dksX10_tell_3 : cX10_tell.data.toList.drop 67 = dktX10_tell_3 := dk_seg dksX10_tell_2 22 rfl rfl
theorem dX10_tell_0 : decode cX10_tell 0 = .ok (.aload_n 0, 1) := dk_42 (dk_at dksX10_tell_0 0 rfl rfl)
theorem dX10_tell_1 : decode cX10_tell 1 = .ok (.getfield 272, 3) := dk_180 1 16 (dk_at dksX10_tell_0 1 rfl rfl)
theorem dX10_tell_4 : decode cX10_tell 4 = .ok (.bipush 20, 2) := dk_16 20 (dk_at dksX10_tell_0 4 rfl rfl)
theorem dX10_tell_6 : decode cX10_tell 6 = .ok (.if_icmp .eq 22, 3) := dk_159 0 22 (dk_at dksX10_tell_0 6 rfl rfl)
theorem dX10_tell_9 : decode cX10_tell 9 = .ok (.aload_n 0, 1) := dk_42 (dk_at dksX10_tell_0 9 rfl rfl)
theorem dX10_tell_10 : decode cX10_tell 10 = .ok (.iload_n 1, 1) := dk_27 (dk_at dksX10_tell_0 10 rfl rfl)
theorem dX10_tell_11 : decode cX10_tell 11 = .ok (.invokevirtual 420, 3) := dk_182 1 164 (dk_at dksX10_tell_0 11 rfl rfl)
theorem dX10_tell_14 : decode cX10_tell 14 = .ok (.ifCond .eq 14, 3) := dk_153 0 14 (dk_at dksX10_tell_0 14 rfl rfl)
theorem dX10_tell_17 : decode cX10_tell 17 = .ok (.iload_n 2, 1) := dk_28 (dk_at dksX10_tell_0 17 rfl rfl)
theorem dX10_tell_18 : decode cX10_tell 18 = .ok (.iconst 0, 1) := dk_3 (dk_at dksX10_tell_0 18 rfl rfl)
theorem dX10_tell_19 : decode cX10_tell 19 = .ok (.sipush 999, 3) := dk_17 3 231 (dk_at dksX10_tell_0 19 rfl rfl)
theorem dX10_tell_22 : decode cX10_tell 22 = .ok (.invokestatic 334, 3) := dk_184 1 78 (dk_at dksX10_tell_1 0 rfl rfl)
theorem dX10_tell_25 : decode cX10_tell 25 = .ok (.ifCond .ne 5, 3) := dk_154 0 5 (dk_at dksX10_tell_1 3 rfl rfl)
theorem dX10_tell_28 : decode cX10_tell 28 = .ok (.iconst (-1), 1) := dk_2 (dk_at dksX10_tell_1 6 rfl rfl)
theorem dX10_tell_29 : decode cX10_tell 29 = .ok (.ireturn, 1) := dk_172 (dk_at dksX10_tell_1 7 rfl rfl)
theorem dX10_tell_30 : decode cX10_tell 30 = .ok (.aload_n 0, 1) := dk_42 (dk_at dksX10_tell_1 8 rfl rfl)
theorem dX10_tell_31 : decode cX10_tell 31 = .ok (.getfield 155, 3) := dk_180 0 155 (dk_at dksX10_tell_1 9 rfl rfl)
theorem dX10_tell_34 : decode cX10_tell 34 = .ok (.aload_n 0, 1) := dk_42 (dk_at dksX10_tell_1 12 rfl rfl)
theorem dX10_tell_35 : decode cX10_tell 35 = .ok (.getfield 272, 3) := dk_180 1 16 (dk_at dksX10_tell_1 13 rfl rfl)
theorem dX10_tell_38 : decode cX10_tell 38 = .ok (.iload_n 1, 1) := dk_27 (dk_at dksX10_tell_1 16 rfl rfl)
theorem dX10_tell_39 : decode cX10_tell 39 = .ok (.iastore, 1) := dk_79 (dk_at dksX10_tell_1 17 rfl rfl)
theorem dX10_tell_40 : decode cX10_tell 40 = .ok (.aload_n 0, 1) := dk_42 (dk_at dksX10_tell_1 18 rfl rfl)
theorem dX10_tell_41 : decode cX10_tell 41 = .ok (.getfield 158, 3) := dk_180 0 158 (dk_at dksX10_tell_1 19 rfl rfl)
theorem dX10_tell_44 : decode cX10_tell 44 = .ok (.aload_n 0, 1) := dk_42 (dk_at dksX10_tell_1 22 rfl rfl)
theorem dX10_tell_45 : decode cX10_tell 45 = .ok (.getfield 272, 3) := dk_180 1 16 (dk_at dksX10_tell_2 0 rfl rfl)
theorem dX10_tell_48 : decode cX10_tell 48 = .ok (.iload_n 2, 1) := dk_28 (dk_at dksX10_tell_2 3 rfl rfl)
theorem dX10_tell_49 : decode cX10_tell 49 = .ok (.iastore, 1) := dk_79 (dk_at dksX10_tell_2 4 rfl rfl)
theorem dX10_tell_50 : decode cX10_tell 50 = .ok (.aload_n 0, 1) := dk_42 (dk_at dksX10_tell_2 5 rfl rfl)
theorem dX10_tell_51 : decode cX10_tell 51 = .ok (.getfield 161, 3) := dk_180 0 161 (dk_at dksX10_tell_2 6 rfl rfl)
theorem dX10_tell_54 : decode cX10_tell 54 = .ok (.aload_n 0, 1) := dk_42 (dk_at dksX10_tell_2 9 rfl rfl)
theorem dX10_tell_55 : decode cX10_tell 55 = .ok (.getfield 272, 3) := dk_180 1 16 (dk_at dksX10_tell_2 10 rfl rfl)
theorem dX10_tell_58 : decode cX10_tell 58 = .ok (.iload_n 3, 1) := dk_29 (dk_at dksX10_tell_2 13 rfl rfl)
theorem dX10_tell_59 : decode cX10_tell 59 = .ok (.bastore, 1) := dk_84 (dk_at dksX10_tell_2 14 rfl rfl)
theorem dX10_tell_60 : decode cX10_tell 60 = .ok (.aload_n 0, 1) := dk_42 (dk_at dksX10_tell_2 15 rfl rfl)
theorem dX10_tell_61 : decode cX10_tell 61 = .ok (.dup, 1) := dk_89 (dk_at dksX10_tell_2 16 rfl rfl)
theorem dX10_tell_62 : decode cX10_tell 62 = .ok (.getfield 272, 3) := dk_180 1 16 (dk_at dksX10_tell_2 17 rfl rfl)
theorem dX10_tell_65 : decode cX10_tell 65 = .ok (.iconst 1, 1) := dk_4 (dk_at dksX10_tell_2 20 rfl rfl)
theorem dX10_tell_66 : decode cX10_tell 66 = .ok (.iadd, 1) := dk_96 (dk_at dksX10_tell_2 21 rfl rfl)
theorem dX10_tell_67 : decode cX10_tell 67 = .ok (.putfield 272, 3) := dk_181 1 16 (dk_at dksX10_tell_3 0 rfl rfl)
theorem dX10_tell_70 : decode cX10_tell 70 = .ok (.aload_n 0, 1) := dk_42 (dk_at dksX10_tell_3 3 rfl rfl)
theorem dX10_tell_71 : decode cX10_tell 71 = .ok (.getfield 272, 3) := dk_180 1 16 (dk_at dksX10_tell_3 4 rfl rfl)
theorem dX10_tell_74 : decode cX10_tell 74 = .ok (.iconst 1, 1) := dk_4 (dk_at dksX10_tell_3 7 rfl rfl)
theorem dX10_tell_75 : decode cX10_tell 75 = .ok (.isub, 1) := dk_100 (dk_at dksX10_tell_3 8 rfl rfl)
theorem dX10_tell_76 : decode cX10_tell 76 = .ok (.ireturn, 1) := dk_172 (dk_at dksX10_tell_3 9 rfl rfl)
abbrev cX10_forget : ByteArray := prog_22_method_109_code
def yX10_forget : MethodName := ⟨RX10, "forget", "()I"⟩
def dkwX10_forget_0 : List UInt8 := [42, 180, 1, 16, 60, 42, 3, 181, 1, 16, 27, 172]
abbrev dktX10_forget_0 : List UInt8 := dkwX10_forget_0 ++ []
theorem dksX10_forget_0 : cX10_forget.data.toList.drop 0 = dktX10_forget_0 := by decide +kernel
theorem dX10_forget_0 : decode cX10_forget 0 = .ok (.aload_n 0, 1) := dk_42 (dk_at dksX10_forget_0 0 rfl rfl)
theorem dX10_forget_1 : decode cX10_forget 1 = .ok (.getfield 272, 3) := dk_180 1 16 (dk_at dksX10_forget_0 1 rfl rfl)
theorem dX10_forget_4 : decode cX10_forget 4 = .ok (.istore_n 1, 1) := dk_60 (dk_at dksX10_forget_0 4 rfl rfl)
theorem dX10_forget_5 : decode cX10_forget 5 = .ok (.aload_n 0, 1) := dk_42 (dk_at dksX10_forget_0 5 rfl rfl)
theorem dX10_forget_6 : decode cX10_forget 6 = .ok (.iconst 0, 1) := dk_3 (dk_at dksX10_forget_0 6 rfl rfl)
theorem dX10_forget_7 : decode cX10_forget 7 = .ok (.putfield 272, 3) := dk_181 1 16 (dk_at dksX10_forget_0 7 rfl rfl)
theorem dX10_forget_10 : decode cX10_forget 10 = .ok (.iload_n 1, 1) := dk_27 (dk_at dksX10_forget_0 10 rfl rfl)
theorem dX10_forget_11 : decode cX10_forget 11 = .ok (.ireturn, 1) := dk_172 (dk_at dksX10_forget_0 11 rfl rfl)
abbrev cX10_words : ByteArray := prog_22_method_112_code
def yX10_words : MethodName := ⟨RX10, "words", "(II)I"⟩
def dkwX10_words_1 : List UInt8 := [27, 182, 1, 212, 62, 28, 154, 0, 10, 29, 184, 1, 179, 167, 0, 4, 29, 172]
abbrev dktX10_words_1 : List UInt8 := dkwX10_words_1 ++ []
def dkwX10_words_0 : List UInt8 := [27, 3, 42, 180, 1, 16, 184, 1, 78, 153, 0, 12, 28, 3, 4, 184, 1, 78, 154, 0, 5, 2, 172, 42]
abbrev dktX10_words_0 : List UInt8 := dkwX10_words_0 ++ dktX10_words_1
theorem dksX10_words_0 : cX10_words.data.toList.drop 0 = dktX10_words_0 := by decide +kernel
theorem dksX10_words_1 : cX10_words.data.toList.drop 24 = dktX10_words_1 := dk_seg dksX10_words_0 24 rfl rfl
theorem dX10_words_0 : decode cX10_words 0 = .ok (.iload_n 1, 1) := dk_27 (dk_at dksX10_words_0 0 rfl rfl)
theorem dX10_words_1 : decode cX10_words 1 = .ok (.iconst 0, 1) := dk_3 (dk_at dksX10_words_0 1 rfl rfl)
theorem dX10_words_2 : decode cX10_words 2 = .ok (.aload_n 0, 1) := dk_42 (dk_at dksX10_words_0 2 rfl rfl)
theorem dX10_words_3 : decode cX10_words 3 = .ok (.getfield 272, 3) := dk_180 1 16 (dk_at dksX10_words_0 3 rfl rfl)
theorem dX10_words_6 : decode cX10_words 6 = .ok (.invokestatic 334, 3) := dk_184 1 78 (dk_at dksX10_words_0 6 rfl rfl)
theorem dX10_words_9 : decode cX10_words 9 = .ok (.ifCond .eq 12, 3) := dk_153 0 12 (dk_at dksX10_words_0 9 rfl rfl)
theorem dX10_words_12 : decode cX10_words 12 = .ok (.iload_n 2, 1) := dk_28 (dk_at dksX10_words_0 12 rfl rfl)
theorem dX10_words_13 : decode cX10_words 13 = .ok (.iconst 0, 1) := dk_3 (dk_at dksX10_words_0 13 rfl rfl)
theorem dX10_words_14 : decode cX10_words 14 = .ok (.iconst 1, 1) := dk_4 (dk_at dksX10_words_0 14 rfl rfl)
theorem dX10_words_15 : decode cX10_words 15 = .ok (.invokestatic 334, 3) := dk_184 1 78 (dk_at dksX10_words_0 15 rfl rfl)
theorem dX10_words_18 : decode cX10_words 18 = .ok (.ifCond .ne 5, 3) := dk_154 0 5 (dk_at dksX10_words_0 18 rfl rfl)
theorem dX10_words_21 : decode cX10_words 21 = .ok (.iconst (-1), 1) := dk_2 (dk_at dksX10_words_0 21 rfl rfl)
theorem dX10_words_22 : decode cX10_words 22 = .ok (.ireturn, 1) := dk_172 (dk_at dksX10_words_0 22 rfl rfl)
theorem dX10_words_23 : decode cX10_words 23 = .ok (.aload_n 0, 1) := dk_42 (dk_at dksX10_words_0 23 rfl rfl)
theorem dX10_words_24 : decode cX10_words 24 = .ok (.iload_n 1, 1) := dk_27 (dk_at dksX10_words_1 0 rfl rfl)
theorem dX10_words_25 : decode cX10_words 25 = .ok (.invokevirtual 468, 3) := dk_182 1 212 (dk_at dksX10_words_1 1 rfl rfl)
theorem dX10_words_28 : decode cX10_words 28 = .ok (.istore_n 3, 1) := dk_62 (dk_at dksX10_words_1 4 rfl rfl)
theorem dX10_words_29 : decode cX10_words 29 = .ok (.iload_n 2, 1) := dk_28 (dk_at dksX10_words_1 5 rfl rfl)
theorem dX10_words_30 : decode cX10_words 30 = .ok (.ifCond .ne 10, 3) := dk_154 0 10 (dk_at dksX10_words_1 6 rfl rfl)
theorem dX10_words_33 : decode cX10_words 33 = .ok (.iload_n 3, 1) := dk_29 (dk_at dksX10_words_1 9 rfl rfl)
theorem dX10_words_34 : decode cX10_words 34 = .ok (.invokestatic 435, 3) := dk_184 1 179 (dk_at dksX10_words_1 10 rfl rfl)
theorem dX10_words_37 : decode cX10_words 37 = .ok (.goto 4, 3) := dk_167 0 4 (dk_at dksX10_words_1 13 rfl rfl)
theorem dX10_words_40 : decode cX10_words 40 = .ok (.iload_n 3, 1) := dk_29 (dk_at dksX10_words_1 16 rfl rfl)
theorem dX10_words_41 : decode cX10_words 41 = .ok (.ireturn, 1) := dk_172 (dk_at dksX10_words_1 17 rfl rfl)
abbrev cX10_wordBits : ByteArray := prog_22_method_111_code
def yX10_wordBits : MethodName := ⟨RX10, "wordBits", "(I)I"⟩
def dkwX10_wordBits_4 : List UInt8 := [167, 255, 171, 28, 172]
abbrev dktX10_wordBits_4 : List UInt8 := dkwX10_wordBits_4 ++ []
def dkwX10_wordBits_3 : List UInt8 := [3, 54, 4, 132, 5, 1, 167, 255, 207, 21, 4, 153, 0, 9, 28, 4, 29, 120, 128, 61, 132, 3, 1]
abbrev dktX10_wordBits_3 : List UInt8 := dkwX10_wordBits_3 ++ dktX10_wordBits_4
def dkwX10_wordBits_2 : List UInt8 := [180, 0, 158, 21, 5, 46, 161, 0, 7, 4, 167, 0, 4, 3, 42, 180, 0, 161, 21, 5, 51, 159, 0, 6]
abbrev dktX10_wordBits_2 : List UInt8 := dkwX10_wordBits_2 ++ dktX10_wordBits_3
def dkwX10_wordBits_1 : List UInt8 := [3, 54, 5, 21, 5, 27, 162, 0, 49, 42, 42, 180, 0, 155, 21, 5, 46, 29, 182, 1, 209, 42]
abbrev dktX10_wordBits_1 : List UInt8 := dkwX10_wordBits_1 ++ dktX10_wordBits_2
def dkwX10_wordBits_0 : List UInt8 := [42, 182, 1, 91, 3, 61, 3, 62, 29, 42, 180, 0, 73, 42, 180, 0, 251, 46, 162, 0, 78, 4, 54, 4]
abbrev dktX10_wordBits_0 : List UInt8 := dkwX10_wordBits_0 ++ dktX10_wordBits_1
theorem dksX10_wordBits_0 : cX10_wordBits.data.toList.drop 0 = dktX10_wordBits_0 := by decide +kernel
theorem dksX10_wordBits_1 : cX10_wordBits.data.toList.drop 24 = dktX10_wordBits_1 := dk_seg dksX10_wordBits_0 24 rfl rfl
theorem dksX10_wordBits_2 : cX10_wordBits.data.toList.drop 46 = dktX10_wordBits_2 := dk_seg dksX10_wordBits_1 22 rfl rfl
theorem dksX10_wordBits_3 : cX10_wordBits.data.toList.drop 70 = dktX10_wordBits_3 := dk_seg dksX10_wordBits_2 24 rfl rfl
theorem dksX10_wordBits_4 : cX10_wordBits.data.toList.drop 93 = dktX10_wordBits_4 := dk_seg dksX10_wordBits_3 23 rfl rfl
theorem dX10_wordBits_0 : decode cX10_wordBits 0 = .ok (.aload_n 0, 1) := dk_42 (dk_at dksX10_wordBits_0 0 rfl rfl)
theorem dX10_wordBits_1 : decode cX10_wordBits 1 = .ok (.invokevirtual 347, 3) := dk_182 1 91 (dk_at dksX10_wordBits_0 1 rfl rfl)
theorem dX10_wordBits_4 : decode cX10_wordBits 4 = .ok (.iconst 0, 1) := dk_3 (dk_at dksX10_wordBits_0 4 rfl rfl)
theorem dX10_wordBits_5 : decode cX10_wordBits 5 = .ok (.istore_n 2, 1) := dk_61 (dk_at dksX10_wordBits_0 5 rfl rfl)
theorem dX10_wordBits_6 : decode cX10_wordBits 6 = .ok (.iconst 0, 1) := dk_3 (dk_at dksX10_wordBits_0 6 rfl rfl)
theorem dX10_wordBits_7 : decode cX10_wordBits 7 = .ok (.istore_n 3, 1) := dk_62 (dk_at dksX10_wordBits_0 7 rfl rfl)
theorem dX10_wordBits_8 : decode cX10_wordBits 8 = .ok (.iload_n 3, 1) := dk_29 (dk_at dksX10_wordBits_0 8 rfl rfl)
theorem dX10_wordBits_9 : decode cX10_wordBits 9 = .ok (.aload_n 0, 1) := dk_42 (dk_at dksX10_wordBits_0 9 rfl rfl)
theorem dX10_wordBits_10 : decode cX10_wordBits 10 = .ok (.getfield 73, 3) := dk_180 0 73 (dk_at dksX10_wordBits_0 10 rfl rfl)
theorem dX10_wordBits_13 : decode cX10_wordBits 13 = .ok (.aload_n 0, 1) := dk_42 (dk_at dksX10_wordBits_0 13 rfl rfl)
theorem dX10_wordBits_14 : decode cX10_wordBits 14 = .ok (.getfield 251, 3) := dk_180 0 251 (dk_at dksX10_wordBits_0 14 rfl rfl)
theorem dX10_wordBits_17 : decode cX10_wordBits 17 = .ok (.iaload, 1) := dk_46 (dk_at dksX10_wordBits_0 17 rfl rfl)
theorem dX10_wordBits_18 : decode cX10_wordBits 18 = .ok (.if_icmp .ge 78, 3) := dk_162 0 78 (dk_at dksX10_wordBits_0 18 rfl rfl)
theorem dX10_wordBits_21 : decode cX10_wordBits 21 = .ok (.iconst 1, 1) := dk_4 (dk_at dksX10_wordBits_0 21 rfl rfl)
theorem dX10_wordBits_22 : decode cX10_wordBits 22 = .ok (.istore 4, 2) := dk_54 4 (dk_at dksX10_wordBits_0 22 rfl rfl)
theorem dX10_wordBits_24 : decode cX10_wordBits 24 = .ok (.iconst 0, 1) := dk_3 (dk_at dksX10_wordBits_1 0 rfl rfl)
theorem dX10_wordBits_25 : decode cX10_wordBits 25 = .ok (.istore 5, 2) := dk_54 5 (dk_at dksX10_wordBits_1 1 rfl rfl)
theorem dX10_wordBits_27 : decode cX10_wordBits 27 = .ok (.iload 5, 2) := dk_21 5 (dk_at dksX10_wordBits_1 3 rfl rfl)
theorem dX10_wordBits_29 : decode cX10_wordBits 29 = .ok (.iload_n 1, 1) := dk_27 (dk_at dksX10_wordBits_1 5 rfl rfl)
theorem dX10_wordBits_30 : decode cX10_wordBits 30 = .ok (.if_icmp .ge 49, 3) := dk_162 0 49 (dk_at dksX10_wordBits_1 6 rfl rfl)
theorem dX10_wordBits_33 : decode cX10_wordBits 33 = .ok (.aload_n 0, 1) := dk_42 (dk_at dksX10_wordBits_1 9 rfl rfl)
theorem dX10_wordBits_34 : decode cX10_wordBits 34 = .ok (.aload_n 0, 1) := dk_42 (dk_at dksX10_wordBits_1 10 rfl rfl)
theorem dX10_wordBits_35 : decode cX10_wordBits 35 = .ok (.getfield 155, 3) := dk_180 0 155 (dk_at dksX10_wordBits_1 11 rfl rfl)
theorem dX10_wordBits_38 : decode cX10_wordBits 38 = .ok (.iload 5, 2) := dk_21 5 (dk_at dksX10_wordBits_1 14 rfl rfl)
theorem dX10_wordBits_40 : decode cX10_wordBits 40 = .ok (.iaload, 1) := dk_46 (dk_at dksX10_wordBits_1 16 rfl rfl)
theorem dX10_wordBits_41 : decode cX10_wordBits 41 = .ok (.iload_n 3, 1) := dk_29 (dk_at dksX10_wordBits_1 17 rfl rfl)
theorem dX10_wordBits_42 : decode cX10_wordBits 42 = .ok (.invokevirtual 465, 3) := dk_182 1 209 (dk_at dksX10_wordBits_1 18 rfl rfl)
theorem dX10_wordBits_45 : decode cX10_wordBits 45 = .ok (.aload_n 0, 1) := dk_42 (dk_at dksX10_wordBits_1 21 rfl rfl)
theorem dX10_wordBits_46 : decode cX10_wordBits 46 = .ok (.getfield 158, 3) := dk_180 0 158 (dk_at dksX10_wordBits_2 0 rfl rfl)
theorem dX10_wordBits_49 : decode cX10_wordBits 49 = .ok (.iload 5, 2) := dk_21 5 (dk_at dksX10_wordBits_2 3 rfl rfl)
theorem dX10_wordBits_51 : decode cX10_wordBits 51 = .ok (.iaload, 1) := dk_46 (dk_at dksX10_wordBits_2 5 rfl rfl)
theorem dX10_wordBits_52 : decode cX10_wordBits 52 = .ok (.if_icmp .lt 7, 3) := dk_161 0 7 (dk_at dksX10_wordBits_2 6 rfl rfl)
theorem dX10_wordBits_55 : decode cX10_wordBits 55 = .ok (.iconst 1, 1) := dk_4 (dk_at dksX10_wordBits_2 9 rfl rfl)
theorem dX10_wordBits_56 : decode cX10_wordBits 56 = .ok (.goto 4, 3) := dk_167 0 4 (dk_at dksX10_wordBits_2 10 rfl rfl)
theorem dX10_wordBits_59 : decode cX10_wordBits 59 = .ok (.iconst 0, 1) := dk_3 (dk_at dksX10_wordBits_2 13 rfl rfl)
theorem dX10_wordBits_60 : decode cX10_wordBits 60 = .ok (.aload_n 0, 1) := dk_42 (dk_at dksX10_wordBits_2 14 rfl rfl)
theorem dX10_wordBits_61 : decode cX10_wordBits 61 = .ok (.getfield 161, 3) := dk_180 0 161 (dk_at dksX10_wordBits_2 15 rfl rfl)
theorem dX10_wordBits_64 : decode cX10_wordBits 64 = .ok (.iload 5, 2) := dk_21 5 (dk_at dksX10_wordBits_2 18 rfl rfl)
theorem dX10_wordBits_66 : decode cX10_wordBits 66 = .ok (.baload, 1) := dk_51 (dk_at dksX10_wordBits_2 20 rfl rfl)
theorem dX10_wordBits_67 : decode cX10_wordBits 67 = .ok (.if_icmp .eq 6, 3) := dk_159 0 6 (dk_at dksX10_wordBits_2 21 rfl rfl)
theorem dX10_wordBits_70 : decode cX10_wordBits 70 = .ok (.iconst 0, 1) := dk_3 (dk_at dksX10_wordBits_3 0 rfl rfl)
theorem dX10_wordBits_71 : decode cX10_wordBits 71 = .ok (.istore 4, 2) := dk_54 4 (dk_at dksX10_wordBits_3 1 rfl rfl)
theorem dX10_wordBits_73 : decode cX10_wordBits 73 = .ok (.iinc 5 1, 3) := dk_132 5 1 (dk_at dksX10_wordBits_3 3 rfl rfl)
theorem dX10_wordBits_76 : decode cX10_wordBits 76 = .ok (.goto (-49), 3) := dk_167 255 207 (dk_at dksX10_wordBits_3 6 rfl rfl)
theorem dX10_wordBits_79 : decode cX10_wordBits 79 = .ok (.iload 4, 2) := dk_21 4 (dk_at dksX10_wordBits_3 9 rfl rfl)
theorem dX10_wordBits_81 : decode cX10_wordBits 81 = .ok (.ifCond .eq 9, 3) := dk_153 0 9 (dk_at dksX10_wordBits_3 11 rfl rfl)
theorem dX10_wordBits_84 : decode cX10_wordBits 84 = .ok (.iload_n 2, 1) := dk_28 (dk_at dksX10_wordBits_3 14 rfl rfl)
theorem dX10_wordBits_85 : decode cX10_wordBits 85 = .ok (.iconst 1, 1) := dk_4 (dk_at dksX10_wordBits_3 15 rfl rfl)
theorem dX10_wordBits_86 : decode cX10_wordBits 86 = .ok (.iload_n 3, 1) := dk_29 (dk_at dksX10_wordBits_3 16 rfl rfl)
theorem dX10_wordBits_87 : decode cX10_wordBits 87 = .ok (.ishl, 1) := dk_120 (dk_at dksX10_wordBits_3 17 rfl rfl)
theorem dX10_wordBits_88 : decode cX10_wordBits 88 = .ok (.ior, 1) := dk_128 (dk_at dksX10_wordBits_3 18 rfl rfl)
theorem dX10_wordBits_89 : decode cX10_wordBits 89 = .ok (.istore_n 2, 1) := dk_61 (dk_at dksX10_wordBits_3 19 rfl rfl)
theorem dX10_wordBits_90 : decode cX10_wordBits 90 = .ok (.iinc 3 1, 3) := dk_132 3 1 (dk_at dksX10_wordBits_3 20 rfl rfl)
theorem dX10_wordBits_93 : decode cX10_wordBits 93 = .ok (.goto (-85), 3) := dk_167 255 171 (dk_at dksX10_wordBits_4 0 rfl rfl)
theorem dX10_wordBits_96 : decode cX10_wordBits 96 = .ok (.iload_n 2, 1) := dk_28 (dk_at dksX10_wordBits_4 3 rfl rfl)
theorem dX10_wordBits_97 : decode cX10_wordBits 97 = .ok (.ireturn, 1) := dk_172 (dk_at dksX10_wordBits_4 4 rfl rfl)
abbrev cX10_wouldGlow : ByteArray := prog_22_method_110_code
def yX10_wouldGlow : MethodName := ⟨RX10, "wouldGlow", "(II)I"⟩
def dkwX10_wouldGlow_0 : List UInt8 := [42, 180, 0, 128, 16, 12, 27, 96, 46, 4, 160, 0, 7, 3, 167, 0, 9, 42, 27, 28, 182, 1, 185, 172]
abbrev dktX10_wouldGlow_0 : List UInt8 := dkwX10_wouldGlow_0 ++ []
theorem dksX10_wouldGlow_0 : cX10_wouldGlow.data.toList.drop 0 = dktX10_wouldGlow_0 := by decide +kernel
theorem dX10_wouldGlow_0 : decode cX10_wouldGlow 0 = .ok (.aload_n 0, 1) := dk_42 (dk_at dksX10_wouldGlow_0 0 rfl rfl)
theorem dX10_wouldGlow_1 : decode cX10_wouldGlow 1 = .ok (.getfield 128, 3) := dk_180 0 128 (dk_at dksX10_wouldGlow_0 1 rfl rfl)
theorem dX10_wouldGlow_4 : decode cX10_wouldGlow 4 = .ok (.bipush 12, 2) := dk_16 12 (dk_at dksX10_wouldGlow_0 4 rfl rfl)
theorem dX10_wouldGlow_6 : decode cX10_wouldGlow 6 = .ok (.iload_n 1, 1) := dk_27 (dk_at dksX10_wouldGlow_0 6 rfl rfl)
theorem dX10_wouldGlow_7 : decode cX10_wouldGlow 7 = .ok (.iadd, 1) := dk_96 (dk_at dksX10_wouldGlow_0 7 rfl rfl)
theorem dX10_wouldGlow_8 : decode cX10_wouldGlow 8 = .ok (.iaload, 1) := dk_46 (dk_at dksX10_wouldGlow_0 8 rfl rfl)
theorem dX10_wouldGlow_9 : decode cX10_wouldGlow 9 = .ok (.iconst 1, 1) := dk_4 (dk_at dksX10_wouldGlow_0 9 rfl rfl)
theorem dX10_wouldGlow_10 : decode cX10_wouldGlow 10 = .ok (.if_icmp .ne 7, 3) := dk_160 0 7 (dk_at dksX10_wouldGlow_0 10 rfl rfl)
theorem dX10_wouldGlow_13 : decode cX10_wouldGlow 13 = .ok (.iconst 0, 1) := dk_3 (dk_at dksX10_wouldGlow_0 13 rfl rfl)
theorem dX10_wouldGlow_14 : decode cX10_wouldGlow 14 = .ok (.goto 9, 3) := dk_167 0 9 (dk_at dksX10_wouldGlow_0 14 rfl rfl)
theorem dX10_wouldGlow_17 : decode cX10_wouldGlow 17 = .ok (.aload_n 0, 1) := dk_42 (dk_at dksX10_wouldGlow_0 17 rfl rfl)
theorem dX10_wouldGlow_18 : decode cX10_wouldGlow 18 = .ok (.iload_n 1, 1) := dk_27 (dk_at dksX10_wouldGlow_0 18 rfl rfl)
theorem dX10_wouldGlow_19 : decode cX10_wouldGlow 19 = .ok (.iload_n 2, 1) := dk_28 (dk_at dksX10_wouldGlow_0 19 rfl rfl)
theorem dX10_wouldGlow_20 : decode cX10_wouldGlow 20 = .ok (.invokevirtual 441, 3) := dk_182 1 185 (dk_at dksX10_wouldGlow_0 20 rfl rfl)
theorem dX10_wouldGlow_23 : decode cX10_wouldGlow 23 = .ok (.ireturn, 1) := dk_172 (dk_at dksX10_wouldGlow_0 23 rfl rfl)
abbrev cX10_look : ByteArray := prog_22_method_113_code
def yX10_look : MethodName := ⟨RX10, "look", "(II)I"⟩
def dkwX10_look_7 : List UInt8 := [21, 8, 54, 5, 132, 6, 1, 167, 255, 123, 21, 4, 172]
abbrev dktX10_look_7 : List UInt8 := dkwX10_look_7 ++ []
def dkwX10_look_6 : List UInt8 := [21, 7, 100, 54, 8, 21, 4, 155, 0, 13, 21, 8, 21, 5, 161, 0, 6, 167, 0, 11, 21, 6, 54, 4]
abbrev dktX10_look_6 : List UInt8 := dkwX10_look_6 ++ dktX10_look_7
def dkwX10_look_5 : List UInt8 := [167, 255, 214, 21, 7, 29, 184, 1, 179, 21, 7, 100, 164, 0, 8, 21, 7, 167, 0, 10, 29, 184, 1, 179]
abbrev dktX10_look_5 : List UInt8 := dkwX10_look_5 ++ dktX10_look_6
def dkwX10_look_4 : List UInt8 := [126, 4, 160, 0, 18, 42, 21, 6, 21, 8, 182, 1, 209, 28, 161, 0, 6, 132, 7, 1, 132, 8, 1]
abbrev dktX10_look_4 : List UInt8 := dkwX10_look_4 ++ dktX10_look_5
def dkwX10_look_3 : List UInt8 := [54, 7, 3, 54, 8, 21, 8, 42, 180, 0, 73, 42, 180, 0, 251, 46, 162, 0, 34, 29, 21, 8, 122, 4]
abbrev dktX10_look_3 : List UInt8 := dkwX10_look_3 ++ dktX10_look_4
def dkwX10_look_2 : List UInt8 := [180, 0, 251, 46, 162, 0, 125, 29, 153, 0, 121, 42, 21, 6, 182, 1, 164, 154, 0, 6, 167, 0, 103, 3]
abbrev dktX10_look_2 : List UInt8 := dkwX10_look_2 ++ dktX10_look_3
def dkwX10_look_1 : List UInt8 := [172, 42, 27, 182, 1, 212, 62, 16, 254, 54, 4, 3, 54, 5, 3, 54, 6, 21, 6, 42, 180, 0, 61, 42]
abbrev dktX10_look_1 : List UInt8 := dkwX10_look_1 ++ dktX10_look_2
def dkwX10_look_0 : List UInt8 := [27, 3, 42, 180, 1, 16, 184, 1, 78, 153, 0, 14, 28, 3, 17, 3, 231, 184, 1, 78, 154, 0, 5, 2]
abbrev dktX10_look_0 : List UInt8 := dkwX10_look_0 ++ dktX10_look_1
theorem dksX10_look_0 : cX10_look.data.toList.drop 0 = dktX10_look_0 := by decide +kernel
theorem dksX10_look_1 : cX10_look.data.toList.drop 24 = dktX10_look_1 := dk_seg dksX10_look_0 24 rfl rfl
theorem dksX10_look_2 : cX10_look.data.toList.drop 48 = dktX10_look_2 := dk_seg dksX10_look_1 24 rfl rfl
theorem dksX10_look_3 : cX10_look.data.toList.drop 72 = dktX10_look_3 := dk_seg dksX10_look_2 24 rfl rfl
theorem dksX10_look_4 : cX10_look.data.toList.drop 96 = dktX10_look_4 := dk_seg dksX10_look_3 24 rfl rfl
theorem dksX10_look_5 : cX10_look.data.toList.drop 119 = dktX10_look_5 := dk_seg dksX10_look_4 23 rfl rfl
theorem dksX10_look_6 : cX10_look.data.toList.drop 143 = dktX10_look_6 := dk_seg dksX10_look_5 24 rfl rfl
theorem dksX10_look_7 : cX10_look.data.toList.drop 167 = dktX10_look_7 := dk_seg dksX10_look_6 24 rfl rfl
theorem dX10_look_0 : decode cX10_look 0 = .ok (.iload_n 1, 1) := dk_27 (dk_at dksX10_look_0 0 rfl rfl)
theorem dX10_look_1 : decode cX10_look 1 = .ok (.iconst 0, 1) := dk_3 (dk_at dksX10_look_0 1 rfl rfl)
theorem dX10_look_2 : decode cX10_look 2 = .ok (.aload_n 0, 1) := dk_42 (dk_at dksX10_look_0 2 rfl rfl)
theorem dX10_look_3 : decode cX10_look 3 = .ok (.getfield 272, 3) := dk_180 1 16 (dk_at dksX10_look_0 3 rfl rfl)
theorem dX10_look_6 : decode cX10_look 6 = .ok (.invokestatic 334, 3) := dk_184 1 78 (dk_at dksX10_look_0 6 rfl rfl)
theorem dX10_look_9 : decode cX10_look 9 = .ok (.ifCond .eq 14, 3) := dk_153 0 14 (dk_at dksX10_look_0 9 rfl rfl)
theorem dX10_look_12 : decode cX10_look 12 = .ok (.iload_n 2, 1) := dk_28 (dk_at dksX10_look_0 12 rfl rfl)
theorem dX10_look_13 : decode cX10_look 13 = .ok (.iconst 0, 1) := dk_3 (dk_at dksX10_look_0 13 rfl rfl)
theorem dX10_look_14 : decode cX10_look 14 = .ok (.sipush 999, 3) := dk_17 3 231 (dk_at dksX10_look_0 14 rfl rfl)
theorem dX10_look_17 : decode cX10_look 17 = .ok (.invokestatic 334, 3) := dk_184 1 78 (dk_at dksX10_look_0 17 rfl rfl)
theorem dX10_look_20 : decode cX10_look 20 = .ok (.ifCond .ne 5, 3) := dk_154 0 5 (dk_at dksX10_look_0 20 rfl rfl)
theorem dX10_look_23 : decode cX10_look 23 = .ok (.iconst (-1), 1) := dk_2 (dk_at dksX10_look_0 23 rfl rfl)
theorem dX10_look_24 : decode cX10_look 24 = .ok (.ireturn, 1) := dk_172 (dk_at dksX10_look_1 0 rfl rfl)
theorem dX10_look_25 : decode cX10_look 25 = .ok (.aload_n 0, 1) := dk_42 (dk_at dksX10_look_1 1 rfl rfl)
theorem dX10_look_26 : decode cX10_look 26 = .ok (.iload_n 1, 1) := dk_27 (dk_at dksX10_look_1 2 rfl rfl)
theorem dX10_look_27 : decode cX10_look 27 = .ok (.invokevirtual 468, 3) := dk_182 1 212 (dk_at dksX10_look_1 3 rfl rfl)
theorem dX10_look_30 : decode cX10_look 30 = .ok (.istore_n 3, 1) := dk_62 (dk_at dksX10_look_1 6 rfl rfl)
theorem dX10_look_31 : decode cX10_look 31 = .ok (.bipush (-2), 2) := dk_16 254 (dk_at dksX10_look_1 7 rfl rfl)
theorem dX10_look_33 : decode cX10_look 33 = .ok (.istore 4, 2) := dk_54 4 (dk_at dksX10_look_1 9 rfl rfl)
theorem dX10_look_35 : decode cX10_look 35 = .ok (.iconst 0, 1) := dk_3 (dk_at dksX10_look_1 11 rfl rfl)
theorem dX10_look_36 : decode cX10_look 36 = .ok (.istore 5, 2) := dk_54 5 (dk_at dksX10_look_1 12 rfl rfl)
theorem dX10_look_38 : decode cX10_look 38 = .ok (.iconst 0, 1) := dk_3 (dk_at dksX10_look_1 14 rfl rfl)
theorem dX10_look_39 : decode cX10_look 39 = .ok (.istore 6, 2) := dk_54 6 (dk_at dksX10_look_1 15 rfl rfl)
theorem dX10_look_41 : decode cX10_look 41 = .ok (.iload 6, 2) := dk_21 6 (dk_at dksX10_look_1 17 rfl rfl)
theorem dX10_look_43 : decode cX10_look 43 = .ok (.aload_n 0, 1) := dk_42 (dk_at dksX10_look_1 19 rfl rfl)
theorem dX10_look_44 : decode cX10_look 44 = .ok (.getfield 61, 3) := dk_180 0 61 (dk_at dksX10_look_1 20 rfl rfl)
theorem dX10_look_47 : decode cX10_look 47 = .ok (.aload_n 0, 1) := dk_42 (dk_at dksX10_look_1 23 rfl rfl)
theorem dX10_look_48 : decode cX10_look 48 = .ok (.getfield 251, 3) := dk_180 0 251 (dk_at dksX10_look_2 0 rfl rfl)
theorem dX10_look_51 : decode cX10_look 51 = .ok (.iaload, 1) := dk_46 (dk_at dksX10_look_2 3 rfl rfl)
theorem dX10_look_52 : decode cX10_look 52 = .ok (.if_icmp .ge 125, 3) := dk_162 0 125 (dk_at dksX10_look_2 4 rfl rfl)
theorem dX10_look_55 : decode cX10_look 55 = .ok (.iload_n 3, 1) := dk_29 (dk_at dksX10_look_2 7 rfl rfl)
theorem dX10_look_56 : decode cX10_look 56 = .ok (.ifCond .eq 121, 3) := dk_153 0 121 (dk_at dksX10_look_2 8 rfl rfl)
theorem dX10_look_59 : decode cX10_look 59 = .ok (.aload_n 0, 1) := dk_42 (dk_at dksX10_look_2 11 rfl rfl)
theorem dX10_look_60 : decode cX10_look 60 = .ok (.iload 6, 2) := dk_21 6 (dk_at dksX10_look_2 12 rfl rfl)
theorem dX10_look_62 : decode cX10_look 62 = .ok (.invokevirtual 420, 3) := dk_182 1 164 (dk_at dksX10_look_2 14 rfl rfl)
theorem dX10_look_65 : decode cX10_look 65 = .ok (.ifCond .ne 6, 3) := dk_154 0 6 (dk_at dksX10_look_2 17 rfl rfl)
theorem dX10_look_68 : decode cX10_look 68 = .ok (.goto 103, 3) := dk_167 0 103 (dk_at dksX10_look_2 20 rfl rfl)
theorem dX10_look_71 : decode cX10_look 71 = .ok (.iconst 0, 1) := dk_3 (dk_at dksX10_look_2 23 rfl rfl)
theorem dX10_look_72 : decode cX10_look 72 = .ok (.istore 7, 2) := dk_54 7 (dk_at dksX10_look_3 0 rfl rfl)
theorem dX10_look_74 : decode cX10_look 74 = .ok (.iconst 0, 1) := dk_3 (dk_at dksX10_look_3 2 rfl rfl)
theorem dX10_look_75 : decode cX10_look 75 = .ok (.istore 8, 2) := dk_54 8 (dk_at dksX10_look_3 3 rfl rfl)
theorem dX10_look_77 : decode cX10_look 77 = .ok (.iload 8, 2) := dk_21 8 (dk_at dksX10_look_3 5 rfl rfl)
theorem dX10_look_79 : decode cX10_look 79 = .ok (.aload_n 0, 1) := dk_42 (dk_at dksX10_look_3 7 rfl rfl)
theorem dX10_look_80 : decode cX10_look 80 = .ok (.getfield 73, 3) := dk_180 0 73 (dk_at dksX10_look_3 8 rfl rfl)
theorem dX10_look_83 : decode cX10_look 83 = .ok (.aload_n 0, 1) := dk_42 (dk_at dksX10_look_3 11 rfl rfl)
theorem dX10_look_84 : decode cX10_look 84 = .ok (.getfield 251, 3) := dk_180 0 251 (dk_at dksX10_look_3 12 rfl rfl)
theorem dX10_look_87 : decode cX10_look 87 = .ok (.iaload, 1) := dk_46 (dk_at dksX10_look_3 15 rfl rfl)
theorem dX10_look_88 : decode cX10_look 88 = .ok (.if_icmp .ge 34, 3) := dk_162 0 34 (dk_at dksX10_look_3 16 rfl rfl)
theorem dX10_look_91 : decode cX10_look 91 = .ok (.iload_n 3, 1) := dk_29 (dk_at dksX10_look_3 19 rfl rfl)
theorem dX10_look_92 : decode cX10_look 92 = .ok (.iload 8, 2) := dk_21 8 (dk_at dksX10_look_3 20 rfl rfl)
theorem dX10_look_94 : decode cX10_look 94 = .ok (.ishr, 1) := dk_122 (dk_at dksX10_look_3 22 rfl rfl)
theorem dX10_look_95 : decode cX10_look 95 = .ok (.iconst 1, 1) := dk_4 (dk_at dksX10_look_3 23 rfl rfl)
theorem dX10_look_96 : decode cX10_look 96 = .ok (.iand, 1) := dk_126 (dk_at dksX10_look_4 0 rfl rfl)
theorem dX10_look_97 : decode cX10_look 97 = .ok (.iconst 1, 1) := dk_4 (dk_at dksX10_look_4 1 rfl rfl)
theorem dX10_look_98 : decode cX10_look 98 = .ok (.if_icmp .ne 18, 3) := dk_160 0 18 (dk_at dksX10_look_4 2 rfl rfl)
theorem dX10_look_101 : decode cX10_look 101 = .ok (.aload_n 0, 1) := dk_42 (dk_at dksX10_look_4 5 rfl rfl)
theorem dX10_look_102 : decode cX10_look 102 = .ok (.iload 6, 2) := dk_21 6 (dk_at dksX10_look_4 6 rfl rfl)
theorem dX10_look_104 : decode cX10_look 104 = .ok (.iload 8, 2) := dk_21 8 (dk_at dksX10_look_4 8 rfl rfl)
theorem dX10_look_106 : decode cX10_look 106 = .ok (.invokevirtual 465, 3) := dk_182 1 209 (dk_at dksX10_look_4 10 rfl rfl)
theorem dX10_look_109 : decode cX10_look 109 = .ok (.iload_n 2, 1) := dk_28 (dk_at dksX10_look_4 13 rfl rfl)
theorem dX10_look_110 : decode cX10_look 110 = .ok (.if_icmp .lt 6, 3) := dk_161 0 6 (dk_at dksX10_look_4 14 rfl rfl)
theorem dX10_look_113 : decode cX10_look 113 = .ok (.iinc 7 1, 3) := dk_132 7 1 (dk_at dksX10_look_4 17 rfl rfl)
theorem dX10_look_116 : decode cX10_look 116 = .ok (.iinc 8 1, 3) := dk_132 8 1 (dk_at dksX10_look_4 20 rfl rfl)
theorem dX10_look_119 : decode cX10_look 119 = .ok (.goto (-42), 3) := dk_167 255 214 (dk_at dksX10_look_5 0 rfl rfl)
theorem dX10_look_122 : decode cX10_look 122 = .ok (.iload 7, 2) := dk_21 7 (dk_at dksX10_look_5 3 rfl rfl)
theorem dX10_look_124 : decode cX10_look 124 = .ok (.iload_n 3, 1) := dk_29 (dk_at dksX10_look_5 5 rfl rfl)
theorem dX10_look_125 : decode cX10_look 125 = .ok (.invokestatic 435, 3) := dk_184 1 179 (dk_at dksX10_look_5 6 rfl rfl)
theorem dX10_look_128 : decode cX10_look 128 = .ok (.iload 7, 2) := dk_21 7 (dk_at dksX10_look_5 9 rfl rfl)
theorem dX10_look_130 : decode cX10_look 130 = .ok (.isub, 1) := dk_100 (dk_at dksX10_look_5 11 rfl rfl)
theorem dX10_look_131 : decode cX10_look 131 = .ok (.if_icmp .le 8, 3) := dk_164 0 8 (dk_at dksX10_look_5 12 rfl rfl)
theorem dX10_look_134 : decode cX10_look 134 = .ok (.iload 7, 2) := dk_21 7 (dk_at dksX10_look_5 15 rfl rfl)
theorem dX10_look_136 : decode cX10_look 136 = .ok (.goto 10, 3) := dk_167 0 10 (dk_at dksX10_look_5 17 rfl rfl)
theorem dX10_look_139 : decode cX10_look 139 = .ok (.iload_n 3, 1) := dk_29 (dk_at dksX10_look_5 20 rfl rfl)
theorem dX10_look_140 : decode cX10_look 140 = .ok (.invokestatic 435, 3) := dk_184 1 179 (dk_at dksX10_look_5 21 rfl rfl)
theorem dX10_look_143 : decode cX10_look 143 = .ok (.iload 7, 2) := dk_21 7 (dk_at dksX10_look_6 0 rfl rfl)
theorem dX10_look_145 : decode cX10_look 145 = .ok (.isub, 1) := dk_100 (dk_at dksX10_look_6 2 rfl rfl)
theorem dX10_look_146 : decode cX10_look 146 = .ok (.istore 8, 2) := dk_54 8 (dk_at dksX10_look_6 3 rfl rfl)
theorem dX10_look_148 : decode cX10_look 148 = .ok (.iload 4, 2) := dk_21 4 (dk_at dksX10_look_6 5 rfl rfl)
theorem dX10_look_150 : decode cX10_look 150 = .ok (.ifCond .lt 13, 3) := dk_155 0 13 (dk_at dksX10_look_6 7 rfl rfl)
theorem dX10_look_153 : decode cX10_look 153 = .ok (.iload 8, 2) := dk_21 8 (dk_at dksX10_look_6 10 rfl rfl)
theorem dX10_look_155 : decode cX10_look 155 = .ok (.iload 5, 2) := dk_21 5 (dk_at dksX10_look_6 12 rfl rfl)
theorem dX10_look_157 : decode cX10_look 157 = .ok (.if_icmp .lt 6, 3) := dk_161 0 6 (dk_at dksX10_look_6 14 rfl rfl)
theorem dX10_look_160 : decode cX10_look 160 = .ok (.goto 11, 3) := dk_167 0 11 (dk_at dksX10_look_6 17 rfl rfl)
theorem dX10_look_163 : decode cX10_look 163 = .ok (.iload 6, 2) := dk_21 6 (dk_at dksX10_look_6 20 rfl rfl)
theorem dX10_look_165 : decode cX10_look 165 = .ok (.istore 4, 2) := dk_54 4 (dk_at dksX10_look_6 22 rfl rfl)
theorem dX10_look_167 : decode cX10_look 167 = .ok (.iload 8, 2) := dk_21 8 (dk_at dksX10_look_7 0 rfl rfl)
theorem dX10_look_169 : decode cX10_look 169 = .ok (.istore 5, 2) := dk_54 5 (dk_at dksX10_look_7 2 rfl rfl)
theorem dX10_look_171 : decode cX10_look 171 = .ok (.iinc 6 1, 3) := dk_132 6 1 (dk_at dksX10_look_7 4 rfl rfl)
theorem dX10_look_174 : decode cX10_look 174 = .ok (.goto (-133), 3) := dk_167 255 123 (dk_at dksX10_look_7 7 rfl rfl)
theorem dX10_look_177 : decode cX10_look 177 = .ok (.iload 4, 2) := dk_21 4 (dk_at dksX10_look_7 10 rfl rfl)
theorem dX10_look_179 : decode cX10_look 179 = .ok (.ireturn, 1) := dk_172 (dk_at dksX10_look_7 12 rfl rfl)
abbrev cX10_hold : ByteArray := prog_22_method_114_code
def yX10_hold : MethodName := ⟨RX10, "hold", "(I)Z"⟩
def dkwX10_hold_2 : List UInt8 := [167, 255, 230, 4, 172]
abbrev dktX10_hold_2 : List UInt8 := dkwX10_hold_2 ++ []
def dkwX10_hold_1 : List UInt8 := [162, 0, 26, 42, 180, 0, 167, 16, 48, 27, 104, 28, 96, 42, 180, 0, 125, 28, 46, 79, 132, 2, 1]
abbrev dktX10_hold_1 : List UInt8 := dkwX10_hold_1 ++ dktX10_hold_2
def dkwX10_hold_0 : List UInt8 := [27, 3, 5, 184, 1, 78, 154, 0, 5, 3, 172, 42, 180, 0, 164, 27, 4, 84, 3, 61, 28, 16, 48]
abbrev dktX10_hold_0 : List UInt8 := dkwX10_hold_0 ++ dktX10_hold_1
theorem dksX10_hold_0 : cX10_hold.data.toList.drop 0 = dktX10_hold_0 := by decide +kernel
theorem dksX10_hold_1 : cX10_hold.data.toList.drop 23 = dktX10_hold_1 := dk_seg dksX10_hold_0 23 rfl rfl
theorem dksX10_hold_2 : cX10_hold.data.toList.drop 46 = dktX10_hold_2 := dk_seg dksX10_hold_1 23 rfl rfl
theorem dX10_hold_0 : decode cX10_hold 0 = .ok (.iload_n 1, 1) := dk_27 (dk_at dksX10_hold_0 0 rfl rfl)
theorem dX10_hold_1 : decode cX10_hold 1 = .ok (.iconst 0, 1) := dk_3 (dk_at dksX10_hold_0 1 rfl rfl)
theorem dX10_hold_2 : decode cX10_hold 2 = .ok (.iconst 2, 1) := dk_5 (dk_at dksX10_hold_0 2 rfl rfl)
theorem dX10_hold_3 : decode cX10_hold 3 = .ok (.invokestatic 334, 3) := dk_184 1 78 (dk_at dksX10_hold_0 3 rfl rfl)
theorem dX10_hold_6 : decode cX10_hold 6 = .ok (.ifCond .ne 5, 3) := dk_154 0 5 (dk_at dksX10_hold_0 6 rfl rfl)
theorem dX10_hold_9 : decode cX10_hold 9 = .ok (.iconst 0, 1) := dk_3 (dk_at dksX10_hold_0 9 rfl rfl)
theorem dX10_hold_10 : decode cX10_hold 10 = .ok (.ireturn, 1) := dk_172 (dk_at dksX10_hold_0 10 rfl rfl)
theorem dX10_hold_11 : decode cX10_hold 11 = .ok (.aload_n 0, 1) := dk_42 (dk_at dksX10_hold_0 11 rfl rfl)
theorem dX10_hold_12 : decode cX10_hold 12 = .ok (.getfield 164, 3) := dk_180 0 164 (dk_at dksX10_hold_0 12 rfl rfl)
theorem dX10_hold_15 : decode cX10_hold 15 = .ok (.iload_n 1, 1) := dk_27 (dk_at dksX10_hold_0 15 rfl rfl)
theorem dX10_hold_16 : decode cX10_hold 16 = .ok (.iconst 1, 1) := dk_4 (dk_at dksX10_hold_0 16 rfl rfl)
theorem dX10_hold_17 : decode cX10_hold 17 = .ok (.bastore, 1) := dk_84 (dk_at dksX10_hold_0 17 rfl rfl)
theorem dX10_hold_18 : decode cX10_hold 18 = .ok (.iconst 0, 1) := dk_3 (dk_at dksX10_hold_0 18 rfl rfl)
theorem dX10_hold_19 : decode cX10_hold 19 = .ok (.istore_n 2, 1) := dk_61 (dk_at dksX10_hold_0 19 rfl rfl)
theorem dX10_hold_20 : decode cX10_hold 20 = .ok (.iload_n 2, 1) := dk_28 (dk_at dksX10_hold_0 20 rfl rfl)
theorem dX10_hold_21 : decode cX10_hold 21 = .ok (.bipush 48, 2) := dk_16 48 (dk_at dksX10_hold_0 21 rfl rfl)
theorem dX10_hold_23 : decode cX10_hold 23 = .ok (.if_icmp .ge 26, 3) := dk_162 0 26 (dk_at dksX10_hold_1 0 rfl rfl)
theorem dX10_hold_26 : decode cX10_hold 26 = .ok (.aload_n 0, 1) := dk_42 (dk_at dksX10_hold_1 3 rfl rfl)
theorem dX10_hold_27 : decode cX10_hold 27 = .ok (.getfield 167, 3) := dk_180 0 167 (dk_at dksX10_hold_1 4 rfl rfl)
theorem dX10_hold_30 : decode cX10_hold 30 = .ok (.bipush 48, 2) := dk_16 48 (dk_at dksX10_hold_1 7 rfl rfl)
theorem dX10_hold_32 : decode cX10_hold 32 = .ok (.iload_n 1, 1) := dk_27 (dk_at dksX10_hold_1 9 rfl rfl)
theorem dX10_hold_33 : decode cX10_hold 33 = .ok (.imul, 1) := dk_104 (dk_at dksX10_hold_1 10 rfl rfl)
theorem dX10_hold_34 : decode cX10_hold 34 = .ok (.iload_n 2, 1) := dk_28 (dk_at dksX10_hold_1 11 rfl rfl)
theorem dX10_hold_35 : decode cX10_hold 35 = .ok (.iadd, 1) := dk_96 (dk_at dksX10_hold_1 12 rfl rfl)
theorem dX10_hold_36 : decode cX10_hold 36 = .ok (.aload_n 0, 1) := dk_42 (dk_at dksX10_hold_1 13 rfl rfl)
theorem dX10_hold_37 : decode cX10_hold 37 = .ok (.getfield 125, 3) := dk_180 0 125 (dk_at dksX10_hold_1 14 rfl rfl)
theorem dX10_hold_40 : decode cX10_hold 40 = .ok (.iload_n 2, 1) := dk_28 (dk_at dksX10_hold_1 17 rfl rfl)
theorem dX10_hold_41 : decode cX10_hold 41 = .ok (.iaload, 1) := dk_46 (dk_at dksX10_hold_1 18 rfl rfl)
theorem dX10_hold_42 : decode cX10_hold 42 = .ok (.iastore, 1) := dk_79 (dk_at dksX10_hold_1 19 rfl rfl)
theorem dX10_hold_43 : decode cX10_hold 43 = .ok (.iinc 2 1, 3) := dk_132 2 1 (dk_at dksX10_hold_1 20 rfl rfl)
theorem dX10_hold_46 : decode cX10_hold 46 = .ok (.goto (-26), 3) := dk_167 255 230 (dk_at dksX10_hold_2 0 rfl rfl)
theorem dX10_hold_49 : decode cX10_hold 49 = .ok (.iconst 1, 1) := dk_4 (dk_at dksX10_hold_2 3 rfl rfl)
theorem dX10_hold_50 : decode cX10_hold 50 = .ok (.ireturn, 1) := dk_172 (dk_at dksX10_hold_2 4 rfl rfl)
abbrev cX10_restore : ByteArray := prog_22_method_115_code
def yX10_restore : MethodName := ⟨RX10, "restore", "(I)Z"⟩
def dkwX10_restore_2 : List UInt8 := [132, 2, 1, 167, 255, 230, 42, 3, 181, 1, 13, 4, 172]
abbrev dktX10_restore_2 : List UInt8 := dkwX10_restore_2 ++ []
def dkwX10_restore_1 : List UInt8 := [16, 48, 162, 0, 26, 42, 180, 0, 125, 28, 42, 180, 0, 167, 16, 48, 27, 104, 28, 96, 46, 79]
abbrev dktX10_restore_1 : List UInt8 := dkwX10_restore_1 ++ dktX10_restore_2
def dkwX10_restore_0 : List UInt8 := [27, 3, 5, 184, 1, 78, 153, 0, 12, 42, 180, 0, 164, 27, 51, 154, 0, 5, 3, 172, 3, 61, 28]
abbrev dktX10_restore_0 : List UInt8 := dkwX10_restore_0 ++ dktX10_restore_1
theorem dksX10_restore_0 : cX10_restore.data.toList.drop 0 = dktX10_restore_0 := by decide +kernel
theorem dksX10_restore_1 : cX10_restore.data.toList.drop 23 = dktX10_restore_1 := dk_seg dksX10_restore_0 23 rfl rfl
theorem dksX10_restore_2 : cX10_restore.data.toList.drop 45 = dktX10_restore_2 := dk_seg dksX10_restore_1 22 rfl rfl
theorem dX10_restore_0 : decode cX10_restore 0 = .ok (.iload_n 1, 1) := dk_27 (dk_at dksX10_restore_0 0 rfl rfl)
theorem dX10_restore_1 : decode cX10_restore 1 = .ok (.iconst 0, 1) := dk_3 (dk_at dksX10_restore_0 1 rfl rfl)
theorem dX10_restore_2 : decode cX10_restore 2 = .ok (.iconst 2, 1) := dk_5 (dk_at dksX10_restore_0 2 rfl rfl)
theorem dX10_restore_3 : decode cX10_restore 3 = .ok (.invokestatic 334, 3) := dk_184 1 78 (dk_at dksX10_restore_0 3 rfl rfl)
theorem dX10_restore_6 : decode cX10_restore 6 = .ok (.ifCond .eq 12, 3) := dk_153 0 12 (dk_at dksX10_restore_0 6 rfl rfl)
theorem dX10_restore_9 : decode cX10_restore 9 = .ok (.aload_n 0, 1) := dk_42 (dk_at dksX10_restore_0 9 rfl rfl)
theorem dX10_restore_10 : decode cX10_restore 10 = .ok (.getfield 164, 3) := dk_180 0 164 (dk_at dksX10_restore_0 10 rfl rfl)
theorem dX10_restore_13 : decode cX10_restore 13 = .ok (.iload_n 1, 1) := dk_27 (dk_at dksX10_restore_0 13 rfl rfl)
theorem dX10_restore_14 : decode cX10_restore 14 = .ok (.baload, 1) := dk_51 (dk_at dksX10_restore_0 14 rfl rfl)
theorem dX10_restore_15 : decode cX10_restore 15 = .ok (.ifCond .ne 5, 3) := dk_154 0 5 (dk_at dksX10_restore_0 15 rfl rfl)
theorem dX10_restore_18 : decode cX10_restore 18 = .ok (.iconst 0, 1) := dk_3 (dk_at dksX10_restore_0 18 rfl rfl)
theorem dX10_restore_19 : decode cX10_restore 19 = .ok (.ireturn, 1) := dk_172 (dk_at dksX10_restore_0 19 rfl rfl)
theorem dX10_restore_20 : decode cX10_restore 20 = .ok (.iconst 0, 1) := dk_3 (dk_at dksX10_restore_0 20 rfl rfl)
theorem dX10_restore_21 : decode cX10_restore 21 = .ok (.istore_n 2, 1) := dk_61 (dk_at dksX10_restore_0 21 rfl rfl)
theorem dX10_restore_22 : decode cX10_restore 22 = .ok (.iload_n 2, 1) := dk_28 (dk_at dksX10_restore_0 22 rfl rfl)
theorem dX10_restore_23 : decode cX10_restore 23 = .ok (.bipush 48, 2) := dk_16 48 (dk_at dksX10_restore_1 0 rfl rfl)
theorem dX10_restore_25 : decode cX10_restore 25 = .ok (.if_icmp .ge 26, 3) := dk_162 0 26 (dk_at dksX10_restore_1 2 rfl rfl)
theorem dX10_restore_28 : decode cX10_restore 28 = .ok (.aload_n 0, 1) := dk_42 (dk_at dksX10_restore_1 5 rfl rfl)
theorem dX10_restore_29 : decode cX10_restore 29 = .ok (.getfield 125, 3) := dk_180 0 125 (dk_at dksX10_restore_1 6 rfl rfl)
theorem dX10_restore_32 : decode cX10_restore 32 = .ok (.iload_n 2, 1) := dk_28 (dk_at dksX10_restore_1 9 rfl rfl)
theorem dX10_restore_33 : decode cX10_restore 33 = .ok (.aload_n 0, 1) := dk_42 (dk_at dksX10_restore_1 10 rfl rfl)
theorem dX10_restore_34 : decode cX10_restore 34 = .ok (.getfield 167, 3) := dk_180 0 167 (dk_at dksX10_restore_1 11 rfl rfl)
theorem dX10_restore_37 : decode cX10_restore 37 = .ok (.bipush 48, 2) := dk_16 48 (dk_at dksX10_restore_1 14 rfl rfl)
theorem dX10_restore_39 : decode cX10_restore 39 = .ok (.iload_n 1, 1) := dk_27 (dk_at dksX10_restore_1 16 rfl rfl)
theorem dX10_restore_40 : decode cX10_restore 40 = .ok (.imul, 1) := dk_104 (dk_at dksX10_restore_1 17 rfl rfl)
theorem dX10_restore_41 : decode cX10_restore 41 = .ok (.iload_n 2, 1) := dk_28 (dk_at dksX10_restore_1 18 rfl rfl)
theorem dX10_restore_42 : decode cX10_restore 42 = .ok (.iadd, 1) := dk_96 (dk_at dksX10_restore_1 19 rfl rfl)
theorem dX10_restore_43 : decode cX10_restore 43 = .ok (.iaload, 1) := dk_46 (dk_at dksX10_restore_1 20 rfl rfl)
theorem dX10_restore_44 : decode cX10_restore 44 = .ok (.iastore, 1) := dk_79 (dk_at dksX10_restore_1 21 rfl rfl)
theorem dX10_restore_45 : decode cX10_restore 45 = .ok (.iinc 2 1, 3) := dk_132 2 1 (dk_at dksX10_restore_2 0 rfl rfl)
theorem dX10_restore_48 : decode cX10_restore 48 = .ok (.goto (-26), 3) := dk_167 255 230 (dk_at dksX10_restore_2 3 rfl rfl)
theorem dX10_restore_51 : decode cX10_restore 51 = .ok (.aload_n 0, 1) := dk_42 (dk_at dksX10_restore_2 6 rfl rfl)
theorem dX10_restore_52 : decode cX10_restore 52 = .ok (.iconst 0, 1) := dk_3 (dk_at dksX10_restore_2 7 rfl rfl)
theorem dX10_restore_53 : decode cX10_restore 53 = .ok (.putfield 269, 3) := dk_181 1 13 (dk_at dksX10_restore_2 8 rfl rfl)
theorem dX10_restore_56 : decode cX10_restore 56 = .ok (.iconst 1, 1) := dk_4 (dk_at dksX10_restore_2 11 rfl rfl)
theorem dX10_restore_57 : decode cX10_restore 57 = .ok (.ireturn, 1) := dk_172 (dk_at dksX10_restore_2 12 rfl rfl)
abbrev cX10_count : ByteArray := prog_22_method_117_code
def yX10_count : MethodName := ⟨RX10, "count", "(I)I"⟩
def dkwX10_count_14 : List UInt8 := [2, 172]
abbrev dktX10_count_14 : List UInt8 := dkwX10_count_14 ++ []
def dkwX10_count_13 : List UInt8 := [42, 180, 0, 251, 46, 162, 0, 17, 28, 42, 29, 182, 1, 152, 96, 61, 132, 3, 1, 167, 255, 232, 28, 172]
abbrev dktX10_count_13 : List UInt8 := dkwX10_count_13 ++ dktX10_count_14
def dkwX10_count_12 : List UInt8 := [61, 132, 3, 1, 167, 255, 226, 28, 172, 42, 182, 1, 206, 184, 1, 179, 172, 3, 62, 29, 42, 180, 0, 49]
abbrev dktX10_count_12 : List UInt8 := dkwX10_count_12 ++ dktX10_count_13
def dkwX10_count_11 : List UInt8 := [180, 0, 61, 42, 180, 0, 251, 46, 162, 0, 23, 28, 42, 180, 0, 128, 16, 30, 29, 96, 46, 29, 120, 128]
abbrev dktX10_count_11 : List UInt8 := dkwX10_count_11 ++ dktX10_count_12
def dkwX10_count_10 : List UInt8 := [172, 42, 16, 18, 16, 6, 182, 1, 215, 172, 42, 182, 1, 176, 184, 1, 179, 172, 3, 62, 29, 42]
abbrev dktX10_count_10 : List UInt8 := dkwX10_count_10 ++ dktX10_count_11
def dkwX10_count_9 : List UInt8 := [162, 0, 23, 42, 29, 182, 1, 139, 153, 0, 9, 28, 4, 29, 120, 128, 61, 132, 3, 1, 167, 255, 226, 28]
abbrev dktX10_count_9 : List UInt8 := dkwX10_count_9 ++ dktX10_count_10
def dkwX10_count_8 : List UInt8 := [182, 1, 215, 172, 42, 16, 36, 8, 182, 1, 215, 172, 3, 62, 29, 42, 180, 0, 46, 42, 180, 0, 251, 46]
abbrev dktX10_count_8 : List UInt8 := dkwX10_count_8 ++ dktX10_count_9
def dkwX10_count_7 : List UInt8 := [167, 0, 4, 3, 96, 172, 42, 182, 1, 126, 153, 0, 7, 4, 167, 0, 4, 3, 172, 42, 16, 6, 16, 6]
abbrev dktX10_count_7 : List UInt8 := dkwX10_count_7 ++ dktX10_count_8
def dkwX10_count_6 : List UInt8 := [180, 0, 164, 4, 51, 153, 0, 7, 4, 167, 0, 4, 3, 96, 42, 180, 0, 164, 5, 51, 153, 0, 7, 4]
abbrev dktX10_count_6 : List UInt8 := dkwX10_count_6 ++ dktX10_count_7
def dkwX10_count_5 : List UInt8 := [180, 1, 13, 172, 42, 180, 1, 16, 172, 42, 180, 0, 164, 3, 51, 153, 0, 7, 4, 167, 0, 4, 3, 42]
abbrev dktX10_count_5 : List UInt8 := dkwX10_count_5 ++ dktX10_count_6
def dkwX10_count_4 : List UInt8 := [42, 180, 0, 128, 16, 46, 46, 172, 42, 182, 1, 176, 172, 42, 182, 1, 206, 172, 42, 180, 0, 184, 172, 42]
abbrev dktX10_count_4 : List UInt8 := dkwX10_count_4 ++ dktX10_count_5
def dkwX10_count_3 : List UInt8 := [42, 180, 0, 251, 46, 172, 42, 180, 0, 73, 42, 180, 0, 251, 46, 172, 42, 180, 0, 128, 16, 47, 46, 172]
abbrev dktX10_count_3 : List UInt8 := dkwX10_count_3 ++ dktX10_count_4
def dkwX10_count_2 : List UInt8 := [42, 180, 0, 46, 42, 180, 0, 251, 46, 172, 42, 180, 0, 49, 42, 180, 0, 251, 46, 172, 42, 180, 0, 61]
abbrev dktX10_count_2 : List UInt8 := dkwX10_count_2 ++ dktX10_count_3
def dkwX10_count_1 : List UInt8 := [170, 0, 0, 1, 127, 0, 0, 0, 0, 0, 0, 0, 20, 0, 0, 0, 97, 0, 0, 0, 107, 0, 0, 0, 117, 0, 0, 0, 127, 0, 0, 0, 137, 0, 0, 0, 145, 0, 0, 0, 153, 0, 0, 0, 158, 0, 0, 0, 163, 0, 0, 0, 168, 0, 0, 0, 173, 0, 0, 0, 178, 0, 0, 0, 223, 0, 0, 0, 236, 0, 0, 0, 245, 0, 0, 0, 253, 0, 0, 1, 34, 0, 0, 1, 43, 0, 0, 1, 51, 0, 0, 1, 88, 0, 0, 1, 96]
abbrev dktX10_count_1 : List UInt8 := dkwX10_count_1 ++ dktX10_count_2
def dkwX10_count_0 : List UInt8 := [42, 182, 1, 91, 3, 61, 27]
abbrev dktX10_count_0 : List UInt8 := dkwX10_count_0 ++ dktX10_count_1
theorem dksX10_count_0 : cX10_count.data.toList.drop 0 = dktX10_count_0 := by decide +kernel
theorem dksX10_count_1 : cX10_count.data.toList.drop 7 = dktX10_count_1 := dk_seg dksX10_count_0 7 rfl rfl
theorem dksX10_count_2 : cX10_count.data.toList.drop 104 = dktX10_count_2 := dk_seg dksX10_count_1 97 rfl rfl
theorem dksX10_count_3 : cX10_count.data.toList.drop 128 = dktX10_count_3 := dk_seg dksX10_count_2 24 rfl rfl
theorem dksX10_count_4 : cX10_count.data.toList.drop 152 = dktX10_count_4 := dk_seg dksX10_count_3 24 rfl rfl
theorem dksX10_count_5 : cX10_count.data.toList.drop 176 = dktX10_count_5 := dk_seg dksX10_count_4 24 rfl rfl
theorem dksX10_count_6 : cX10_count.data.toList.drop 200 = dktX10_count_6 := dk_seg dksX10_count_5 24 rfl rfl
theorem dksX10_count_7 : cX10_count.data.toList.drop 224 = dktX10_count_7 := dk_seg dksX10_count_6 24 rfl rfl
theorem dksX10_count_8 : cX10_count.data.toList.drop 248 = dktX10_count_8 := dk_seg dksX10_count_7 24 rfl rfl
theorem dksX10_count_9 : cX10_count.data.toList.drop 272 = dktX10_count_9 := dk_seg dksX10_count_8 24 rfl rfl
theorem dksX10_count_10 : cX10_count.data.toList.drop 296 = dktX10_count_10 := dk_seg dksX10_count_9 24 rfl rfl
theorem dksX10_count_11 : cX10_count.data.toList.drop 318 = dktX10_count_11 := dk_seg dksX10_count_10 22 rfl rfl
theorem dksX10_count_12 : cX10_count.data.toList.drop 342 = dktX10_count_12 := dk_seg dksX10_count_11 24 rfl rfl
theorem dksX10_count_13 : cX10_count.data.toList.drop 366 = dktX10_count_13 := dk_seg dksX10_count_12 24 rfl rfl
theorem dksX10_count_14 : cX10_count.data.toList.drop 390 = dktX10_count_14 := dk_seg dksX10_count_13 24 rfl rfl
theorem dX10_count_0 : decode cX10_count 0 = .ok (.aload_n 0, 1) := dk_42 (dk_at dksX10_count_0 0 rfl rfl)
theorem dX10_count_1 : decode cX10_count 1 = .ok (.invokevirtual 347, 3) := dk_182 1 91 (dk_at dksX10_count_0 1 rfl rfl)
theorem dX10_count_4 : decode cX10_count 4 = .ok (.iconst 0, 1) := dk_3 (dk_at dksX10_count_0 4 rfl rfl)
theorem dX10_count_5 : decode cX10_count 5 = .ok (.istore_n 2, 1) := dk_61 (dk_at dksX10_count_0 5 rfl rfl)
theorem dX10_count_6 : decode cX10_count 6 = .ok (.iload_n 1, 1) := dk_27 (dk_at dksX10_count_0 6 rfl rfl)
theorem dX10_count_7 : decode cX10_count 7 = .ok (.tableswitch 383 0 20 #[97, 107, 117, 127, 137, 145, 153, 158, 163, 168, 173, 178, 223, 236, 245, 253, 290, 299, 307, 344, 352], 97) := by decide +kernel
theorem dX10_count_104 : decode cX10_count 104 = .ok (.aload_n 0, 1) := dk_42 (dk_at dksX10_count_2 0 rfl rfl)
theorem dX10_count_105 : decode cX10_count 105 = .ok (.getfield 46, 3) := dk_180 0 46 (dk_at dksX10_count_2 1 rfl rfl)
theorem dX10_count_108 : decode cX10_count 108 = .ok (.aload_n 0, 1) := dk_42 (dk_at dksX10_count_2 4 rfl rfl)
theorem dX10_count_109 : decode cX10_count 109 = .ok (.getfield 251, 3) := dk_180 0 251 (dk_at dksX10_count_2 5 rfl rfl)
theorem dX10_count_112 : decode cX10_count 112 = .ok (.iaload, 1) := dk_46 (dk_at dksX10_count_2 8 rfl rfl)
theorem dX10_count_113 : decode cX10_count 113 = .ok (.ireturn, 1) := dk_172 (dk_at dksX10_count_2 9 rfl rfl)
theorem dX10_count_114 : decode cX10_count 114 = .ok (.aload_n 0, 1) := dk_42 (dk_at dksX10_count_2 10 rfl rfl)
theorem dX10_count_115 : decode cX10_count 115 = .ok (.getfield 49, 3) := dk_180 0 49 (dk_at dksX10_count_2 11 rfl rfl)
theorem dX10_count_118 : decode cX10_count 118 = .ok (.aload_n 0, 1) := dk_42 (dk_at dksX10_count_2 14 rfl rfl)
theorem dX10_count_119 : decode cX10_count 119 = .ok (.getfield 251, 3) := dk_180 0 251 (dk_at dksX10_count_2 15 rfl rfl)
theorem dX10_count_122 : decode cX10_count 122 = .ok (.iaload, 1) := dk_46 (dk_at dksX10_count_2 18 rfl rfl)
theorem dX10_count_123 : decode cX10_count 123 = .ok (.ireturn, 1) := dk_172 (dk_at dksX10_count_2 19 rfl rfl)
theorem dX10_count_124 : decode cX10_count 124 = .ok (.aload_n 0, 1) := dk_42 (dk_at dksX10_count_2 20 rfl rfl)
theorem dX10_count_125 : decode cX10_count 125 = .ok (.getfield 61, 3) := dk_180 0 61 (dk_at dksX10_count_2 21 rfl rfl)
theorem dX10_count_128 : decode cX10_count 128 = .ok (.aload_n 0, 1) := dk_42 (dk_at dksX10_count_3 0 rfl rfl)
theorem dX10_count_129 : decode cX10_count 129 = .ok (.getfield 251, 3) := dk_180 0 251 (dk_at dksX10_count_3 1 rfl rfl)
theorem dX10_count_132 : decode cX10_count 132 = .ok (.iaload, 1) := dk_46 (dk_at dksX10_count_3 4 rfl rfl)
theorem dX10_count_133 : decode cX10_count 133 = .ok (.ireturn, 1) := dk_172 (dk_at dksX10_count_3 5 rfl rfl)
theorem dX10_count_134 : decode cX10_count 134 = .ok (.aload_n 0, 1) := dk_42 (dk_at dksX10_count_3 6 rfl rfl)
theorem dX10_count_135 : decode cX10_count 135 = .ok (.getfield 73, 3) := dk_180 0 73 (dk_at dksX10_count_3 7 rfl rfl)
theorem dX10_count_138 : decode cX10_count 138 = .ok (.aload_n 0, 1) := dk_42 (dk_at dksX10_count_3 10 rfl rfl)
theorem dX10_count_139 : decode cX10_count 139 = .ok (.getfield 251, 3) := dk_180 0 251 (dk_at dksX10_count_3 11 rfl rfl)
theorem dX10_count_142 : decode cX10_count 142 = .ok (.iaload, 1) := dk_46 (dk_at dksX10_count_3 14 rfl rfl)
theorem dX10_count_143 : decode cX10_count 143 = .ok (.ireturn, 1) := dk_172 (dk_at dksX10_count_3 15 rfl rfl)
theorem dX10_count_144 : decode cX10_count 144 = .ok (.aload_n 0, 1) := dk_42 (dk_at dksX10_count_3 16 rfl rfl)
theorem dX10_count_145 : decode cX10_count 145 = .ok (.getfield 128, 3) := dk_180 0 128 (dk_at dksX10_count_3 17 rfl rfl)
theorem dX10_count_148 : decode cX10_count 148 = .ok (.bipush 47, 2) := dk_16 47 (dk_at dksX10_count_3 20 rfl rfl)
theorem dX10_count_150 : decode cX10_count 150 = .ok (.iaload, 1) := dk_46 (dk_at dksX10_count_3 22 rfl rfl)
theorem dX10_count_151 : decode cX10_count 151 = .ok (.ireturn, 1) := dk_172 (dk_at dksX10_count_3 23 rfl rfl)
theorem dX10_count_152 : decode cX10_count 152 = .ok (.aload_n 0, 1) := dk_42 (dk_at dksX10_count_4 0 rfl rfl)
theorem dX10_count_153 : decode cX10_count 153 = .ok (.getfield 128, 3) := dk_180 0 128 (dk_at dksX10_count_4 1 rfl rfl)
theorem dX10_count_156 : decode cX10_count 156 = .ok (.bipush 46, 2) := dk_16 46 (dk_at dksX10_count_4 4 rfl rfl)
theorem dX10_count_158 : decode cX10_count 158 = .ok (.iaload, 1) := dk_46 (dk_at dksX10_count_4 6 rfl rfl)
theorem dX10_count_159 : decode cX10_count 159 = .ok (.ireturn, 1) := dk_172 (dk_at dksX10_count_4 7 rfl rfl)
theorem dX10_count_160 : decode cX10_count 160 = .ok (.aload_n 0, 1) := dk_42 (dk_at dksX10_count_4 8 rfl rfl)
theorem dX10_count_161 : decode cX10_count 161 = .ok (.invokevirtual 432, 3) := dk_182 1 176 (dk_at dksX10_count_4 9 rfl rfl)
theorem dX10_count_164 : decode cX10_count 164 = .ok (.ireturn, 1) := dk_172 (dk_at dksX10_count_4 12 rfl rfl)
theorem dX10_count_165 : decode cX10_count 165 = .ok (.aload_n 0, 1) := dk_42 (dk_at dksX10_count_4 13 rfl rfl)
theorem dX10_count_166 : decode cX10_count 166 = .ok (.invokevirtual 462, 3) := dk_182 1 206 (dk_at dksX10_count_4 14 rfl rfl)
theorem dX10_count_169 : decode cX10_count 169 = .ok (.ireturn, 1) := dk_172 (dk_at dksX10_count_4 17 rfl rfl)
theorem dX10_count_170 : decode cX10_count 170 = .ok (.aload_n 0, 1) := dk_42 (dk_at dksX10_count_4 18 rfl rfl)
theorem dX10_count_171 : decode cX10_count 171 = .ok (.getfield 184, 3) := dk_180 0 184 (dk_at dksX10_count_4 19 rfl rfl)
theorem dX10_count_174 : decode cX10_count 174 = .ok (.ireturn, 1) := dk_172 (dk_at dksX10_count_4 22 rfl rfl)
theorem dX10_count_175 : decode cX10_count 175 = .ok (.aload_n 0, 1) := dk_42 (dk_at dksX10_count_4 23 rfl rfl)
theorem dX10_count_176 : decode cX10_count 176 = .ok (.getfield 269, 3) := dk_180 1 13 (dk_at dksX10_count_5 0 rfl rfl)
theorem dX10_count_179 : decode cX10_count 179 = .ok (.ireturn, 1) := dk_172 (dk_at dksX10_count_5 3 rfl rfl)
theorem dX10_count_180 : decode cX10_count 180 = .ok (.aload_n 0, 1) := dk_42 (dk_at dksX10_count_5 4 rfl rfl)
theorem dX10_count_181 : decode cX10_count 181 = .ok (.getfield 272, 3) := dk_180 1 16 (dk_at dksX10_count_5 5 rfl rfl)
theorem dX10_count_184 : decode cX10_count 184 = .ok (.ireturn, 1) := dk_172 (dk_at dksX10_count_5 8 rfl rfl)
theorem dX10_count_185 : decode cX10_count 185 = .ok (.aload_n 0, 1) := dk_42 (dk_at dksX10_count_5 9 rfl rfl)
theorem dX10_count_186 : decode cX10_count 186 = .ok (.getfield 164, 3) := dk_180 0 164 (dk_at dksX10_count_5 10 rfl rfl)
theorem dX10_count_189 : decode cX10_count 189 = .ok (.iconst 0, 1) := dk_3 (dk_at dksX10_count_5 13 rfl rfl)
theorem dX10_count_190 : decode cX10_count 190 = .ok (.baload, 1) := dk_51 (dk_at dksX10_count_5 14 rfl rfl)
theorem dX10_count_191 : decode cX10_count 191 = .ok (.ifCond .eq 7, 3) := dk_153 0 7 (dk_at dksX10_count_5 15 rfl rfl)
theorem dX10_count_194 : decode cX10_count 194 = .ok (.iconst 1, 1) := dk_4 (dk_at dksX10_count_5 18 rfl rfl)
theorem dX10_count_195 : decode cX10_count 195 = .ok (.goto 4, 3) := dk_167 0 4 (dk_at dksX10_count_5 19 rfl rfl)
theorem dX10_count_198 : decode cX10_count 198 = .ok (.iconst 0, 1) := dk_3 (dk_at dksX10_count_5 22 rfl rfl)
theorem dX10_count_199 : decode cX10_count 199 = .ok (.aload_n 0, 1) := dk_42 (dk_at dksX10_count_5 23 rfl rfl)
theorem dX10_count_200 : decode cX10_count 200 = .ok (.getfield 164, 3) := dk_180 0 164 (dk_at dksX10_count_6 0 rfl rfl)
theorem dX10_count_203 : decode cX10_count 203 = .ok (.iconst 1, 1) := dk_4 (dk_at dksX10_count_6 3 rfl rfl)
theorem dX10_count_204 : decode cX10_count 204 = .ok (.baload, 1) := dk_51 (dk_at dksX10_count_6 4 rfl rfl)
theorem dX10_count_205 : decode cX10_count 205 = .ok (.ifCond .eq 7, 3) := dk_153 0 7 (dk_at dksX10_count_6 5 rfl rfl)
theorem dX10_count_208 : decode cX10_count 208 = .ok (.iconst 1, 1) := dk_4 (dk_at dksX10_count_6 8 rfl rfl)
theorem dX10_count_209 : decode cX10_count 209 = .ok (.goto 4, 3) := dk_167 0 4 (dk_at dksX10_count_6 9 rfl rfl)
theorem dX10_count_212 : decode cX10_count 212 = .ok (.iconst 0, 1) := dk_3 (dk_at dksX10_count_6 12 rfl rfl)
theorem dX10_count_213 : decode cX10_count 213 = .ok (.iadd, 1) := dk_96 (dk_at dksX10_count_6 13 rfl rfl)
theorem dX10_count_214 : decode cX10_count 214 = .ok (.aload_n 0, 1) := dk_42 (dk_at dksX10_count_6 14 rfl rfl)
theorem dX10_count_215 : decode cX10_count 215 = .ok (.getfield 164, 3) := dk_180 0 164 (dk_at dksX10_count_6 15 rfl rfl)
theorem dX10_count_218 : decode cX10_count 218 = .ok (.iconst 2, 1) := dk_5 (dk_at dksX10_count_6 18 rfl rfl)
theorem dX10_count_219 : decode cX10_count 219 = .ok (.baload, 1) := dk_51 (dk_at dksX10_count_6 19 rfl rfl)
theorem dX10_count_220 : decode cX10_count 220 = .ok (.ifCond .eq 7, 3) := dk_153 0 7 (dk_at dksX10_count_6 20 rfl rfl)
theorem dX10_count_223 : decode cX10_count 223 = .ok (.iconst 1, 1) := dk_4 (dk_at dksX10_count_6 23 rfl rfl)
theorem dX10_count_224 : decode cX10_count 224 = .ok (.goto 4, 3) := dk_167 0 4 (dk_at dksX10_count_7 0 rfl rfl)
theorem dX10_count_227 : decode cX10_count 227 = .ok (.iconst 0, 1) := dk_3 (dk_at dksX10_count_7 3 rfl rfl)
theorem dX10_count_228 : decode cX10_count 228 = .ok (.iadd, 1) := dk_96 (dk_at dksX10_count_7 4 rfl rfl)
theorem dX10_count_229 : decode cX10_count 229 = .ok (.ireturn, 1) := dk_172 (dk_at dksX10_count_7 5 rfl rfl)
theorem dX10_count_230 : decode cX10_count 230 = .ok (.aload_n 0, 1) := dk_42 (dk_at dksX10_count_7 6 rfl rfl)
theorem dX10_count_231 : decode cX10_count 231 = .ok (.invokevirtual 382, 3) := dk_182 1 126 (dk_at dksX10_count_7 7 rfl rfl)
theorem dX10_count_234 : decode cX10_count 234 = .ok (.ifCond .eq 7, 3) := dk_153 0 7 (dk_at dksX10_count_7 10 rfl rfl)
theorem dX10_count_237 : decode cX10_count 237 = .ok (.iconst 1, 1) := dk_4 (dk_at dksX10_count_7 13 rfl rfl)
theorem dX10_count_238 : decode cX10_count 238 = .ok (.goto 4, 3) := dk_167 0 4 (dk_at dksX10_count_7 14 rfl rfl)
theorem dX10_count_241 : decode cX10_count 241 = .ok (.iconst 0, 1) := dk_3 (dk_at dksX10_count_7 17 rfl rfl)
theorem dX10_count_242 : decode cX10_count 242 = .ok (.ireturn, 1) := dk_172 (dk_at dksX10_count_7 18 rfl rfl)
theorem dX10_count_243 : decode cX10_count 243 = .ok (.aload_n 0, 1) := dk_42 (dk_at dksX10_count_7 19 rfl rfl)
theorem dX10_count_244 : decode cX10_count 244 = .ok (.bipush 6, 2) := dk_16 6 (dk_at dksX10_count_7 20 rfl rfl)
theorem dX10_count_246 : decode cX10_count 246 = .ok (.bipush 6, 2) := dk_16 6 (dk_at dksX10_count_7 22 rfl rfl)
theorem dX10_count_248 : decode cX10_count 248 = .ok (.invokevirtual 471, 3) := dk_182 1 215 (dk_at dksX10_count_8 0 rfl rfl)
theorem dX10_count_251 : decode cX10_count 251 = .ok (.ireturn, 1) := dk_172 (dk_at dksX10_count_8 3 rfl rfl)
theorem dX10_count_252 : decode cX10_count 252 = .ok (.aload_n 0, 1) := dk_42 (dk_at dksX10_count_8 4 rfl rfl)
theorem dX10_count_253 : decode cX10_count 253 = .ok (.bipush 36, 2) := dk_16 36 (dk_at dksX10_count_8 5 rfl rfl)
theorem dX10_count_255 : decode cX10_count 255 = .ok (.iconst 5, 1) := dk_8 (dk_at dksX10_count_8 7 rfl rfl)
theorem dX10_count_256 : decode cX10_count 256 = .ok (.invokevirtual 471, 3) := dk_182 1 215 (dk_at dksX10_count_8 8 rfl rfl)
theorem dX10_count_259 : decode cX10_count 259 = .ok (.ireturn, 1) := dk_172 (dk_at dksX10_count_8 11 rfl rfl)
theorem dX10_count_260 : decode cX10_count 260 = .ok (.iconst 0, 1) := dk_3 (dk_at dksX10_count_8 12 rfl rfl)
theorem dX10_count_261 : decode cX10_count 261 = .ok (.istore_n 3, 1) := dk_62 (dk_at dksX10_count_8 13 rfl rfl)
theorem dX10_count_262 : decode cX10_count 262 = .ok (.iload_n 3, 1) := dk_29 (dk_at dksX10_count_8 14 rfl rfl)
theorem dX10_count_263 : decode cX10_count 263 = .ok (.aload_n 0, 1) := dk_42 (dk_at dksX10_count_8 15 rfl rfl)
theorem dX10_count_264 : decode cX10_count 264 = .ok (.getfield 46, 3) := dk_180 0 46 (dk_at dksX10_count_8 16 rfl rfl)
theorem dX10_count_267 : decode cX10_count 267 = .ok (.aload_n 0, 1) := dk_42 (dk_at dksX10_count_8 19 rfl rfl)
theorem dX10_count_268 : decode cX10_count 268 = .ok (.getfield 251, 3) := dk_180 0 251 (dk_at dksX10_count_8 20 rfl rfl)
theorem dX10_count_271 : decode cX10_count 271 = .ok (.iaload, 1) := dk_46 (dk_at dksX10_count_8 23 rfl rfl)
theorem dX10_count_272 : decode cX10_count 272 = .ok (.if_icmp .ge 23, 3) := dk_162 0 23 (dk_at dksX10_count_9 0 rfl rfl)
theorem dX10_count_275 : decode cX10_count 275 = .ok (.aload_n 0, 1) := dk_42 (dk_at dksX10_count_9 3 rfl rfl)
theorem dX10_count_276 : decode cX10_count 276 = .ok (.iload_n 3, 1) := dk_29 (dk_at dksX10_count_9 4 rfl rfl)
theorem dX10_count_277 : decode cX10_count 277 = .ok (.invokevirtual 395, 3) := dk_182 1 139 (dk_at dksX10_count_9 5 rfl rfl)
theorem dX10_count_280 : decode cX10_count 280 = .ok (.ifCond .eq 9, 3) := dk_153 0 9 (dk_at dksX10_count_9 8 rfl rfl)
theorem dX10_count_283 : decode cX10_count 283 = .ok (.iload_n 2, 1) := dk_28 (dk_at dksX10_count_9 11 rfl rfl)
theorem dX10_count_284 : decode cX10_count 284 = .ok (.iconst 1, 1) := dk_4 (dk_at dksX10_count_9 12 rfl rfl)
theorem dX10_count_285 : decode cX10_count 285 = .ok (.iload_n 3, 1) := dk_29 (dk_at dksX10_count_9 13 rfl rfl)
theorem dX10_count_286 : decode cX10_count 286 = .ok (.ishl, 1) := dk_120 (dk_at dksX10_count_9 14 rfl rfl)
theorem dX10_count_287 : decode cX10_count 287 = .ok (.ior, 1) := dk_128 (dk_at dksX10_count_9 15 rfl rfl)
theorem dX10_count_288 : decode cX10_count 288 = .ok (.istore_n 2, 1) := dk_61 (dk_at dksX10_count_9 16 rfl rfl)
theorem dX10_count_289 : decode cX10_count 289 = .ok (.iinc 3 1, 3) := dk_132 3 1 (dk_at dksX10_count_9 17 rfl rfl)
theorem dX10_count_292 : decode cX10_count 292 = .ok (.goto (-30), 3) := dk_167 255 226 (dk_at dksX10_count_9 20 rfl rfl)
theorem dX10_count_295 : decode cX10_count 295 = .ok (.iload_n 2, 1) := dk_28 (dk_at dksX10_count_9 23 rfl rfl)
theorem dX10_count_296 : decode cX10_count 296 = .ok (.ireturn, 1) := dk_172 (dk_at dksX10_count_10 0 rfl rfl)
theorem dX10_count_297 : decode cX10_count 297 = .ok (.aload_n 0, 1) := dk_42 (dk_at dksX10_count_10 1 rfl rfl)
theorem dX10_count_298 : decode cX10_count 298 = .ok (.bipush 18, 2) := dk_16 18 (dk_at dksX10_count_10 2 rfl rfl)
theorem dX10_count_300 : decode cX10_count 300 = .ok (.bipush 6, 2) := dk_16 6 (dk_at dksX10_count_10 4 rfl rfl)
theorem dX10_count_302 : decode cX10_count 302 = .ok (.invokevirtual 471, 3) := dk_182 1 215 (dk_at dksX10_count_10 6 rfl rfl)
theorem dX10_count_305 : decode cX10_count 305 = .ok (.ireturn, 1) := dk_172 (dk_at dksX10_count_10 9 rfl rfl)
theorem dX10_count_306 : decode cX10_count 306 = .ok (.aload_n 0, 1) := dk_42 (dk_at dksX10_count_10 10 rfl rfl)
theorem dX10_count_307 : decode cX10_count 307 = .ok (.invokevirtual 432, 3) := dk_182 1 176 (dk_at dksX10_count_10 11 rfl rfl)
theorem dX10_count_310 : decode cX10_count 310 = .ok (.invokestatic 435, 3) := dk_184 1 179 (dk_at dksX10_count_10 14 rfl rfl)
theorem dX10_count_313 : decode cX10_count 313 = .ok (.ireturn, 1) := dk_172 (dk_at dksX10_count_10 17 rfl rfl)
theorem dX10_count_314 : decode cX10_count 314 = .ok (.iconst 0, 1) := dk_3 (dk_at dksX10_count_10 18 rfl rfl)
theorem dX10_count_315 : decode cX10_count 315 = .ok (.istore_n 3, 1) := dk_62 (dk_at dksX10_count_10 19 rfl rfl)
theorem dX10_count_316 : decode cX10_count 316 = .ok (.iload_n 3, 1) := dk_29 (dk_at dksX10_count_10 20 rfl rfl)
theorem dX10_count_317 : decode cX10_count 317 = .ok (.aload_n 0, 1) := dk_42 (dk_at dksX10_count_10 21 rfl rfl)
theorem dX10_count_318 : decode cX10_count 318 = .ok (.getfield 61, 3) := dk_180 0 61 (dk_at dksX10_count_11 0 rfl rfl)
theorem dX10_count_321 : decode cX10_count 321 = .ok (.aload_n 0, 1) := dk_42 (dk_at dksX10_count_11 3 rfl rfl)
theorem dX10_count_322 : decode cX10_count 322 = .ok (.getfield 251, 3) := dk_180 0 251 (dk_at dksX10_count_11 4 rfl rfl)
theorem dX10_count_325 : decode cX10_count 325 = .ok (.iaload, 1) := dk_46 (dk_at dksX10_count_11 7 rfl rfl)
theorem dX10_count_326 : decode cX10_count 326 = .ok (.if_icmp .ge 23, 3) := dk_162 0 23 (dk_at dksX10_count_11 8 rfl rfl)
theorem dX10_count_329 : decode cX10_count 329 = .ok (.iload_n 2, 1) := dk_28 (dk_at dksX10_count_11 11 rfl rfl)
theorem dX10_count_330 : decode cX10_count 330 = .ok (.aload_n 0, 1) := dk_42 (dk_at dksX10_count_11 12 rfl rfl)
theorem dX10_count_331 : decode cX10_count 331 = .ok (.getfield 128, 3) := dk_180 0 128 (dk_at dksX10_count_11 13 rfl rfl)
theorem dX10_count_334 : decode cX10_count 334 = .ok (.bipush 30, 2) := dk_16 30 (dk_at dksX10_count_11 16 rfl rfl)
theorem dX10_count_336 : decode cX10_count 336 = .ok (.iload_n 3, 1) := dk_29 (dk_at dksX10_count_11 18 rfl rfl)
theorem dX10_count_337 : decode cX10_count 337 = .ok (.iadd, 1) := dk_96 (dk_at dksX10_count_11 19 rfl rfl)
theorem dX10_count_338 : decode cX10_count 338 = .ok (.iaload, 1) := dk_46 (dk_at dksX10_count_11 20 rfl rfl)
theorem dX10_count_339 : decode cX10_count 339 = .ok (.iload_n 3, 1) := dk_29 (dk_at dksX10_count_11 21 rfl rfl)
theorem dX10_count_340 : decode cX10_count 340 = .ok (.ishl, 1) := dk_120 (dk_at dksX10_count_11 22 rfl rfl)
theorem dX10_count_341 : decode cX10_count 341 = .ok (.ior, 1) := dk_128 (dk_at dksX10_count_11 23 rfl rfl)
theorem dX10_count_342 : decode cX10_count 342 = .ok (.istore_n 2, 1) := dk_61 (dk_at dksX10_count_12 0 rfl rfl)
theorem dX10_count_343 : decode cX10_count 343 = .ok (.iinc 3 1, 3) := dk_132 3 1 (dk_at dksX10_count_12 1 rfl rfl)
theorem dX10_count_346 : decode cX10_count 346 = .ok (.goto (-30), 3) := dk_167 255 226 (dk_at dksX10_count_12 4 rfl rfl)
theorem dX10_count_349 : decode cX10_count 349 = .ok (.iload_n 2, 1) := dk_28 (dk_at dksX10_count_12 7 rfl rfl)
theorem dX10_count_350 : decode cX10_count 350 = .ok (.ireturn, 1) := dk_172 (dk_at dksX10_count_12 8 rfl rfl)
theorem dX10_count_351 : decode cX10_count 351 = .ok (.aload_n 0, 1) := dk_42 (dk_at dksX10_count_12 9 rfl rfl)
theorem dX10_count_352 : decode cX10_count 352 = .ok (.invokevirtual 462, 3) := dk_182 1 206 (dk_at dksX10_count_12 10 rfl rfl)
theorem dX10_count_355 : decode cX10_count 355 = .ok (.invokestatic 435, 3) := dk_184 1 179 (dk_at dksX10_count_12 13 rfl rfl)
theorem dX10_count_358 : decode cX10_count 358 = .ok (.ireturn, 1) := dk_172 (dk_at dksX10_count_12 16 rfl rfl)
theorem dX10_count_359 : decode cX10_count 359 = .ok (.iconst 0, 1) := dk_3 (dk_at dksX10_count_12 17 rfl rfl)
theorem dX10_count_360 : decode cX10_count 360 = .ok (.istore_n 3, 1) := dk_62 (dk_at dksX10_count_12 18 rfl rfl)
theorem dX10_count_361 : decode cX10_count 361 = .ok (.iload_n 3, 1) := dk_29 (dk_at dksX10_count_12 19 rfl rfl)
theorem dX10_count_362 : decode cX10_count 362 = .ok (.aload_n 0, 1) := dk_42 (dk_at dksX10_count_12 20 rfl rfl)
theorem dX10_count_363 : decode cX10_count 363 = .ok (.getfield 49, 3) := dk_180 0 49 (dk_at dksX10_count_12 21 rfl rfl)
theorem dX10_count_366 : decode cX10_count 366 = .ok (.aload_n 0, 1) := dk_42 (dk_at dksX10_count_13 0 rfl rfl)
theorem dX10_count_367 : decode cX10_count 367 = .ok (.getfield 251, 3) := dk_180 0 251 (dk_at dksX10_count_13 1 rfl rfl)
theorem dX10_count_370 : decode cX10_count 370 = .ok (.iaload, 1) := dk_46 (dk_at dksX10_count_13 4 rfl rfl)
theorem dX10_count_371 : decode cX10_count 371 = .ok (.if_icmp .ge 17, 3) := dk_162 0 17 (dk_at dksX10_count_13 5 rfl rfl)
theorem dX10_count_374 : decode cX10_count 374 = .ok (.iload_n 2, 1) := dk_28 (dk_at dksX10_count_13 8 rfl rfl)
theorem dX10_count_375 : decode cX10_count 375 = .ok (.aload_n 0, 1) := dk_42 (dk_at dksX10_count_13 9 rfl rfl)
theorem dX10_count_376 : decode cX10_count 376 = .ok (.iload_n 3, 1) := dk_29 (dk_at dksX10_count_13 10 rfl rfl)
theorem dX10_count_377 : decode cX10_count 377 = .ok (.invokevirtual 408, 3) := dk_182 1 152 (dk_at dksX10_count_13 11 rfl rfl)
theorem dX10_count_380 : decode cX10_count 380 = .ok (.iadd, 1) := dk_96 (dk_at dksX10_count_13 14 rfl rfl)
theorem dX10_count_381 : decode cX10_count 381 = .ok (.istore_n 2, 1) := dk_61 (dk_at dksX10_count_13 15 rfl rfl)
theorem dX10_count_382 : decode cX10_count 382 = .ok (.iinc 3 1, 3) := dk_132 3 1 (dk_at dksX10_count_13 16 rfl rfl)
theorem dX10_count_385 : decode cX10_count 385 = .ok (.goto (-24), 3) := dk_167 255 232 (dk_at dksX10_count_13 19 rfl rfl)
theorem dX10_count_388 : decode cX10_count 388 = .ok (.iload_n 2, 1) := dk_28 (dk_at dksX10_count_13 22 rfl rfl)
theorem dX10_count_389 : decode cX10_count 389 = .ok (.ireturn, 1) := dk_172 (dk_at dksX10_count_13 23 rfl rfl)
theorem dX10_count_390 : decode cX10_count 390 = .ok (.iconst (-1), 1) := dk_2 (dk_at dksX10_count_14 0 rfl rfl)
theorem dX10_count_391 : decode cX10_count 391 = .ok (.ireturn, 1) := dk_172 (dk_at dksX10_count_14 1 rfl rfl)
abbrev cX10_sumNow : ByteArray := prog_22_method_116_code
def yX10_sumNow : MethodName := ⟨RX10, "sumNow", "(II)I"⟩
def dkwX10_sumNow_1 : List UInt8 := [132, 4, 1, 167, 255, 235, 29, 172]
abbrev dktX10_sumNow_1 : List UInt8 := dkwX10_sumNow_1 ++ []
def dkwX10_sumNow_0 : List UInt8 := [3, 62, 27, 54, 4, 21, 4, 27, 28, 96, 162, 0, 19, 29, 42, 180, 0, 125, 21, 4, 46, 96, 62]
abbrev dktX10_sumNow_0 : List UInt8 := dkwX10_sumNow_0 ++ dktX10_sumNow_1
theorem dksX10_sumNow_0 : cX10_sumNow.data.toList.drop 0 = dktX10_sumNow_0 := by decide +kernel
theorem dksX10_sumNow_1 : cX10_sumNow.data.toList.drop 23 = dktX10_sumNow_1 := dk_seg dksX10_sumNow_0 23 rfl rfl
theorem dX10_sumNow_0 : decode cX10_sumNow 0 = .ok (.iconst 0, 1) := dk_3 (dk_at dksX10_sumNow_0 0 rfl rfl)
theorem dX10_sumNow_1 : decode cX10_sumNow 1 = .ok (.istore_n 3, 1) := dk_62 (dk_at dksX10_sumNow_0 1 rfl rfl)
theorem dX10_sumNow_2 : decode cX10_sumNow 2 = .ok (.iload_n 1, 1) := dk_27 (dk_at dksX10_sumNow_0 2 rfl rfl)
theorem dX10_sumNow_3 : decode cX10_sumNow 3 = .ok (.istore 4, 2) := dk_54 4 (dk_at dksX10_sumNow_0 3 rfl rfl)
theorem dX10_sumNow_5 : decode cX10_sumNow 5 = .ok (.iload 4, 2) := dk_21 4 (dk_at dksX10_sumNow_0 5 rfl rfl)
theorem dX10_sumNow_7 : decode cX10_sumNow 7 = .ok (.iload_n 1, 1) := dk_27 (dk_at dksX10_sumNow_0 7 rfl rfl)
theorem dX10_sumNow_8 : decode cX10_sumNow 8 = .ok (.iload_n 2, 1) := dk_28 (dk_at dksX10_sumNow_0 8 rfl rfl)
theorem dX10_sumNow_9 : decode cX10_sumNow 9 = .ok (.iadd, 1) := dk_96 (dk_at dksX10_sumNow_0 9 rfl rfl)
theorem dX10_sumNow_10 : decode cX10_sumNow 10 = .ok (.if_icmp .ge 19, 3) := dk_162 0 19 (dk_at dksX10_sumNow_0 10 rfl rfl)
theorem dX10_sumNow_13 : decode cX10_sumNow 13 = .ok (.iload_n 3, 1) := dk_29 (dk_at dksX10_sumNow_0 13 rfl rfl)
theorem dX10_sumNow_14 : decode cX10_sumNow 14 = .ok (.aload_n 0, 1) := dk_42 (dk_at dksX10_sumNow_0 14 rfl rfl)
theorem dX10_sumNow_15 : decode cX10_sumNow 15 = .ok (.getfield 125, 3) := dk_180 0 125 (dk_at dksX10_sumNow_0 15 rfl rfl)
theorem dX10_sumNow_18 : decode cX10_sumNow 18 = .ok (.iload 4, 2) := dk_21 4 (dk_at dksX10_sumNow_0 18 rfl rfl)
theorem dX10_sumNow_20 : decode cX10_sumNow 20 = .ok (.iaload, 1) := dk_46 (dk_at dksX10_sumNow_0 20 rfl rfl)
theorem dX10_sumNow_21 : decode cX10_sumNow 21 = .ok (.iadd, 1) := dk_96 (dk_at dksX10_sumNow_0 21 rfl rfl)
theorem dX10_sumNow_22 : decode cX10_sumNow 22 = .ok (.istore_n 3, 1) := dk_62 (dk_at dksX10_sumNow_0 22 rfl rfl)
theorem dX10_sumNow_23 : decode cX10_sumNow 23 = .ok (.iinc 4 1, 3) := dk_132 4 1 (dk_at dksX10_sumNow_1 0 rfl rfl)
theorem dX10_sumNow_26 : decode cX10_sumNow 26 = .ok (.goto (-21), 3) := dk_167 255 235 (dk_at dksX10_sumNow_1 3 rfl rfl)
theorem dX10_sumNow_29 : decode cX10_sumNow 29 = .ok (.iload_n 3, 1) := dk_29 (dk_at dksX10_sumNow_1 6 rfl rfl)
theorem dX10_sumNow_30 : decode cX10_sumNow 30 = .ok (.ireturn, 1) := dk_172 (dk_at dksX10_sumNow_1 7 rfl rfl)
theorem q137 : (Jvm.Cond.initialized "BlushLampsModel") ∈ lw_all := lw_g (lw_at lw_m1 19 rfl) rfl
theorem q1075 : (Jvm.Cond.selects "BlushLampsModel" ({ cls := "java/lang/Object", name := "getClass", desc := "()Ljava/lang/Class;" } : Jvm.MethodName) ({ cls := "java/lang/Object", name := "getClass", desc := "()Ljava/lang/Class;" } : Jvm.MethodName)) ∈ lw_all := lw_g (lw_at lw_m4 237 rfl) rfl
theorem q1526 : (Jvm.Cond.instantiable "BlushLampsModel" (72 : Nat)) ∈ lw_all := lw_g (lw_at lw_m6 208 rfl) rfl
theorem q1528 : (Jvm.Cond.instanceMethod ({ cls := "BlushLampsModel", name := "<init>", desc := "()V" } : Jvm.MethodName)) ∈ lw_all := lw_g (lw_at lw_m6 210 rfl) rfl
theorem q1529 : (Jvm.Cond.code ({ cls := "BlushLampsModel", name := "<init>", desc := "()V" } : Jvm.MethodName) prog_22_method_2_code (1 : Nat) (Option.none : Option Jvm.ClassFile.FieldType)) ∈ lw_all := lw_g (lw_at lw_m6 211 rfl) rfl
theorem q1530 : (Jvm.Cond.methodLink "BlushLampsModel" (7 : Nat) ({ cls := "java/lang/Object", name := "<init>", desc := "()V" } : Jvm.MethodName)) ∈ lw_all := lw_g (lw_at lw_m6 212 rfl) rfl
theorem q1531 : (Jvm.Cond.methodLink "BlushLampsModel" (170 : Nat) ({ cls := "BlushLampsModel", name := "plain", desc := "(I)V" } : Jvm.MethodName)) ∈ lw_all := lw_g (lw_at lw_m6 213 rfl) rfl
theorem q1532 : (Jvm.Cond.privateMethod ({ cls := "BlushLampsModel", name := "plain", desc := "(I)V" } : Jvm.MethodName)) ∈ lw_tbl := lw_at lw_m6 214 rfl
theorem q1533 : (Jvm.Cond.instanceMethod ({ cls := "BlushLampsModel", name := "plain", desc := "(I)V" } : Jvm.MethodName)) ∈ lw_all := lw_g (lw_at lw_m6 215 rfl) rfl
theorem q1534 : (Jvm.Cond.code ({ cls := "BlushLampsModel", name := "plain", desc := "(I)V" } : Jvm.MethodName) prog_22_method_19_code (3 : Nat) (Option.none : Option Jvm.ClassFile.FieldType)) ∈ lw_all := lw_g (lw_at lw_m6 216 rfl) rfl
theorem q1535 : (Jvm.Cond.methodLink "BlushLampsModel" (174 : Nat) ({ cls := "BlushLampsModel", name := "word", desc := "(IIIIIII)J" } : Jvm.MethodName)) ∈ lw_all := lw_g (lw_at lw_m6 217 rfl) rfl
theorem q1536 : (Jvm.Cond.static ({ cls := "BlushLampsModel", name := "word", desc := "(IIIIIII)J" } : Jvm.MethodName)) ∈ lw_all := lw_g (lw_at lw_m6 218 rfl) rfl
theorem q1537 : (Jvm.Cond.code ({ cls := "BlushLampsModel", name := "word", desc := "(IIIIIII)J" } : Jvm.MethodName) prog_22_method_10_code (7 : Nat) (Option.some Jvm.ClassFile.FieldType.long)) ∈ lw_all := lw_g (lw_at lw_m6 219 rfl) rfl
theorem q1538 : (Jvm.Cond.methodLink "BlushLampsModel" (195 : Nat) ({ cls := "BlushLampsModel", name := "appends", desc := "(JI)J" } : Jvm.MethodName)) ∈ lw_all := lw_g (lw_at lw_m6 220 rfl) rfl
theorem q1539 : (Jvm.Cond.static ({ cls := "BlushLampsModel", name := "appends", desc := "(JI)J" } : Jvm.MethodName)) ∈ lw_all := lw_g (lw_at lw_m6 221 rfl) rfl
theorem q1540 : (Jvm.Cond.code ({ cls := "BlushLampsModel", name := "appends", desc := "(JI)J" } : Jvm.MethodName) prog_22_method_9_code (3 : Nat) (Option.some Jvm.ClassFile.FieldType.long)) ∈ lw_all := lw_g (lw_at lw_m6 222 rfl) rfl
theorem q1541 : (Jvm.Cond.constantLong "BlushLampsModel" (193 : Nat) (27 : Int64)) ∈ lw_all := lw_g (lw_at lw_m6 223 rfl) rfl
theorem q1542 : (Jvm.Cond.methodLink "BlushLampsModel" (178 : Nat) ({ cls := "BlushLampsModel", name := "begins", desc := "()V" } : Jvm.MethodName)) ∈ lw_all := lw_g (lw_at lw_m6 224 rfl) rfl
theorem q1543 : (Jvm.Cond.privateMethod ({ cls := "BlushLampsModel", name := "begins", desc := "()V" } : Jvm.MethodName)) ∈ lw_tbl := lw_at lw_m6 225 rfl
theorem q1544 : (Jvm.Cond.instanceMethod ({ cls := "BlushLampsModel", name := "begins", desc := "()V" } : Jvm.MethodName)) ∈ lw_all := lw_g (lw_at lw_m6 226 rfl) rfl
theorem q1545 : (Jvm.Cond.code ({ cls := "BlushLampsModel", name := "begins", desc := "()V" } : Jvm.MethodName) prog_22_method_46_code (2 : Nat) (Option.none : Option Jvm.ClassFile.FieldType)) ∈ lw_all := lw_g (lw_at lw_m6 227 rfl) rfl
theorem q1546 : (Jvm.Cond.methodLink "BlushLampsModel" (181 : Nat) ({ cls := "BlushLampsModel", name := "keepsRow", desc := "()V" } : Jvm.MethodName)) ∈ lw_all := lw_g (lw_at lw_m6 228 rfl) rfl
theorem q1547 : (Jvm.Cond.privateMethod ({ cls := "BlushLampsModel", name := "keepsRow", desc := "()V" } : Jvm.MethodName)) ∈ lw_tbl := lw_at lw_m6 229 rfl
theorem q1548 : (Jvm.Cond.instanceMethod ({ cls := "BlushLampsModel", name := "keepsRow", desc := "()V" } : Jvm.MethodName)) ∈ lw_all := lw_g (lw_at lw_m6 230 rfl) rfl
theorem q1549 : (Jvm.Cond.code ({ cls := "BlushLampsModel", name := "keepsRow", desc := "()V" } : Jvm.MethodName) prog_22_method_47_code (2 : Nat) (Option.none : Option Jvm.ClassFile.FieldType)) ∈ lw_all := lw_g (lw_at lw_m6 231 rfl) rfl
theorem q1550 : (Jvm.Cond.fieldLink "BlushLampsModel" (13 : Nat) "BlushLampsModel" "tape" "[B") ∈ lw_all := lw_g (lw_at lw_m6 232 rfl) rfl
theorem q1551 : (Jvm.Cond.fieldLink "BlushLampsModel" (184 : Nat) "BlushLampsModel" "taped" "I") ∈ lw_all := lw_g (lw_at lw_m6 233 rfl) rfl
theorem q1552 : (Jvm.Cond.fieldLink "BlushLampsModel" (17 : Nat) "BlushLampsModel" "text" "[B") ∈ lw_all := lw_g (lw_at lw_m6 234 rfl) rfl
theorem q1553 : (Jvm.Cond.fieldLink "BlushLampsModel" (190 : Nat) "BlushLampsModel" "size" "I") ∈ lw_all := lw_g (lw_at lw_m6 235 rfl) rfl
theorem q1554 : (Jvm.Cond.fieldLink "BlushLampsModel" (20 : Nat) "BlushLampsModel" "tKind" "[I") ∈ lw_all := lw_g (lw_at lw_m6 236 rfl) rfl
theorem q1555 : (Jvm.Cond.fieldLink "BlushLampsModel" (24 : Nat) "BlushLampsModel" "tPlace" "[I") ∈ lw_all := lw_g (lw_at lw_m6 237 rfl) rfl
theorem q1556 : (Jvm.Cond.fieldLink "BlushLampsModel" (27 : Nat) "BlushLampsModel" "tValue" "[I") ∈ lw_all := lw_g (lw_at lw_m6 238 rfl) rfl
theorem q1557 : (Jvm.Cond.fieldLink "BlushLampsModel" (30 : Nat) "BlushLampsModel" "tName" "[J") ∈ lw_all := lw_g (lw_at lw_m6 239 rfl) rfl
theorem q1558 : (Jvm.Cond.fieldLink "BlushLampsModel" (34 : Nat) "BlushLampsModel" "keys" "[J") ∈ lw_all := lw_g (lw_at lw_m7 0 rfl) rfl
theorem q1559 : (Jvm.Cond.fieldLink "BlushLampsModel" (199 : Nat) "BlushLampsModel" "tokens" "I") ∈ lw_all := lw_g (lw_at lw_m7 1 rfl) rfl
theorem q1560 : (Jvm.Cond.fieldLink "BlushLampsModel" (224 : Nat) "BlushLampsModel" "t" "I") ∈ lw_all := lw_g (lw_at lw_m7 2 rfl) rfl
theorem q1561 : (Jvm.Cond.fieldLink "BlushLampsModel" (248 : Nat) "BlushLampsModel" "open" "I") ∈ lw_all := lw_g (lw_at lw_m7 3 rfl) rfl
theorem q1562 : (Jvm.Cond.fieldLink "BlushLampsModel" (221 : Nat) "BlushLampsModel" "fault" "I") ∈ lw_all := lw_g (lw_at lw_m7 4 rfl) rfl
theorem q1563 : (Jvm.Cond.fieldLink "BlushLampsModel" (227 : Nat) "BlushLampsModel" "faultPlace" "I") ∈ lw_all := lw_g (lw_at lw_m7 5 rfl) rfl
theorem q1564 : (Jvm.Cond.fieldLink "BlushLampsModel" (230 : Nat) "BlushLampsModel" "worst" "I") ∈ lw_all := lw_g (lw_at lw_m7 6 rfl) rfl
theorem q1565 : (Jvm.Cond.fieldLink "BlushLampsModel" (233 : Nat) "BlushLampsModel" "worstPlace" "I") ∈ lw_all := lw_g (lw_at lw_m7 7 rfl) rfl
theorem q1566 : (Jvm.Cond.fieldLink "BlushLampsModel" (37 : Nat) "BlushLampsModel" "place" "I") ∈ lw_all := lw_g (lw_at lw_m7 8 rfl) rfl
theorem q1567 : (Jvm.Cond.fieldLink "BlushLampsModel" (251 : Nat) "BlushLampsModel" "live" "I") ∈ lw_all := lw_g (lw_at lw_m7 9 rfl) rfl
theorem q1568 : (Jvm.Cond.fieldLink "BlushLampsModel" (254 : Nat) "BlushLampsModel" "side" "I") ∈ lw_all := lw_g (lw_at lw_m7 10 rfl) rfl
theorem q1569 : (Jvm.Cond.fieldLink "BlushLampsModel" (257 : Nat) "BlushLampsModel" "names" "I") ∈ lw_all := lw_g (lw_at lw_m7 11 rfl) rfl
theorem q1570 : (Jvm.Cond.fieldLink "BlushLampsModel" (40 : Nat) "BlushLampsModel" "nameOf" "[J") ∈ lw_all := lw_g (lw_at lw_m7 12 rfl) rfl
theorem q1571 : (Jvm.Cond.fieldLink "BlushLampsModel" (43 : Nat) "BlushLampsModel" "nameAt" "[I") ∈ lw_all := lw_g (lw_at lw_m7 13 rfl) rfl
theorem q1572 : (Jvm.Cond.fieldLink "BlushLampsModel" (46 : Nat) "BlushLampsModel" "corners" "[I") ∈ lw_all := lw_g (lw_at lw_m7 14 rfl) rfl
theorem q1573 : (Jvm.Cond.fieldLink "BlushLampsModel" (49 : Nat) "BlushLampsModel" "streets" "[I") ∈ lw_all := lw_g (lw_at lw_m7 15 rfl) rfl
theorem q1574 : (Jvm.Cond.fieldLink "BlushLampsModel" (52 : Nat) "BlushLampsModel" "oneOf" "[I") ∈ lw_all := lw_g (lw_at lw_m7 16 rfl) rfl
theorem q1575 : (Jvm.Cond.fieldLink "BlushLampsModel" (55 : Nat) "BlushLampsModel" "otherOf" "[I") ∈ lw_all := lw_g (lw_at lw_m7 17 rfl) rfl
theorem q1576 : (Jvm.Cond.fieldLink "BlushLampsModel" (58 : Nat) "BlushLampsModel" "longOf" "[I") ∈ lw_all := lw_g (lw_at lw_m7 18 rfl) rfl
theorem q1577 : (Jvm.Cond.fieldLink "BlushLampsModel" (61 : Nat) "BlushLampsModel" "youngs" "[I") ∈ lw_all := lw_g (lw_at lw_m7 19 rfl) rfl
theorem q1578 : (Jvm.Cond.fieldLink "BlushLampsModel" (64 : Nat) "BlushLampsModel" "ageOf" "[I") ∈ lw_all := lw_g (lw_at lw_m7 20 rfl) rfl
theorem q1579 : (Jvm.Cond.fieldLink "BlushLampsModel" (67 : Nat) "BlushLampsModel" "temperOf" "[I") ∈ lw_all := lw_g (lw_at lw_m7 21 rfl) rfl
theorem q1580 : (Jvm.Cond.fieldLink "BlushLampsModel" (70 : Nat) "BlushLampsModel" "cornerTold" "[I") ∈ lw_all := lw_g (lw_at lw_m7 22 rfl) rfl
theorem q1581 : (Jvm.Cond.fieldLink "BlushLampsModel" (73 : Nat) "BlushLampsModel" "wordMany" "[I") ∈ lw_all := lw_g (lw_at lw_m7 23 rfl) rfl
theorem q1582 : (Jvm.Cond.fieldLink "BlushLampsModel" (76 : Nat) "BlushLampsModel" "heatTold" "[I") ∈ lw_all := lw_g (lw_at lw_m7 24 rfl) rfl
theorem q1583 : (Jvm.Cond.fieldLink "BlushLampsModel" (79 : Nat) "BlushLampsModel" "lighterTold" "[I") ∈ lw_all := lw_g (lw_at lw_m7 25 rfl) rfl
theorem q1584 : (Jvm.Cond.fieldLink "BlushLampsModel" (82 : Nat) "BlushLampsModel" "draught" "[I") ∈ lw_all := lw_g (lw_at lw_m7 26 rfl) rfl
theorem q1585 : (Jvm.Cond.fieldLink "BlushLampsModel" (85 : Nat) "BlushLampsModel" "seed" "[I") ∈ lw_all := lw_g (lw_at lw_m7 27 rfl) rfl
theorem q1586 : (Jvm.Cond.fieldLink "BlushLampsModel" (88 : Nat) "BlushLampsModel" "lawFirst" "[I") ∈ lw_all := lw_g (lw_at lw_m7 28 rfl) rfl
theorem q1587 : (Jvm.Cond.fieldLink "BlushLampsModel" (91 : Nat) "BlushLampsModel" "lawLast" "[I") ∈ lw_all := lw_g (lw_at lw_m7 29 rfl) rfl
theorem q1588 : (Jvm.Cond.fieldLink "BlushLampsModel" (260 : Nat) "BlushLampsModel" "branches" "I") ∈ lw_all := lw_g (lw_at lw_m7 30 rfl) rfl
theorem q1589 : (Jvm.Cond.fieldLink "BlushLampsModel" (94 : Nat) "BlushLampsModel" "hasTest" "[Z") ∈ lw_all := lw_g (lw_at lw_m7 31 rfl) rfl
theorem q1590 : (Jvm.Cond.fieldLink "BlushLampsModel" (98 : Nat) "BlushLampsModel" "testFrom" "[I") ∈ lw_all := lw_g (lw_at lw_m7 32 rfl) rfl
theorem q1591 : (Jvm.Cond.fieldLink "BlushLampsModel" (101 : Nat) "BlushLampsModel" "testMid" "[I") ∈ lw_all := lw_g (lw_at lw_m7 33 rfl) rfl
theorem q1592 : (Jvm.Cond.fieldLink "BlushLampsModel" (104 : Nat) "BlushLampsModel" "testTo" "[I") ∈ lw_all := lw_g (lw_at lw_m7 34 rfl) rfl
theorem q1593 : (Jvm.Cond.fieldLink "BlushLampsModel" (107 : Nat) "BlushLampsModel" "termTo" "[I") ∈ lw_all := lw_g (lw_at lw_m7 35 rfl) rfl
theorem q1594 : (Jvm.Cond.fieldLink "BlushLampsModel" (263 : Nat) "BlushLampsModel" "codes" "I") ∈ lw_all := lw_g (lw_at lw_m7 36 rfl) rfl
theorem q1595 : (Jvm.Cond.fieldLink "BlushLampsModel" (110 : Nat) "BlushLampsModel" "code" "[I") ∈ lw_all := lw_g (lw_at lw_m7 37 rfl) rfl
theorem q1596 : (Jvm.Cond.fieldLink "BlushLampsModel" (113 : Nat) "BlushLampsModel" "codeInt" "[I") ∈ lw_all := lw_g (lw_at lw_m7 38 rfl) rfl
theorem q1597 : (Jvm.Cond.fieldLink "BlushLampsModel" (116 : Nat) "BlushLampsModel" "waits" "[I") ∈ lw_all := lw_g (lw_at lw_m7 39 rfl) rfl
theorem q1598 : (Jvm.Cond.fieldLink "BlushLampsModel" (317 : Nat) "BlushLampsModel" "waiting" "I") ∈ lw_all := lw_g (lw_at lw_m7 40 rfl) rfl
theorem q1599 : (Jvm.Cond.fieldLink "BlushLampsModel" (119 : Nat) "BlushLampsModel" "variables" "[I") ∈ lw_all := lw_g (lw_at lw_m7 41 rfl) rfl
theorem q1600 : (Jvm.Cond.fieldLink "BlushLampsModel" (122 : Nat) "BlushLampsModel" "pile" "[I") ∈ lw_all := lw_g (lw_at lw_m7 42 rfl) rfl
theorem q1601 : (Jvm.Cond.fieldLink "BlushLampsModel" (330 : Nat) "BlushLampsModel" "isBroken" "Z") ∈ lw_all := lw_g (lw_at lw_m7 43 rfl) rfl
theorem q1602 : (Jvm.Cond.fieldLink "BlushLampsModel" (125 : Nat) "BlushLampsModel" "now" "[I") ∈ lw_all := lw_g (lw_at lw_m7 44 rfl) rfl
theorem q1603 : (Jvm.Cond.fieldLink "BlushLampsModel" (128 : Nat) "BlushLampsModel" "row" "[I") ∈ lw_all := lw_g (lw_at lw_m7 45 rfl) rfl
theorem q1604 : (Jvm.Cond.fieldLink "BlushLampsModel" (341 : Nat) "BlushLampsModel" "lots" "I") ∈ lw_all := lw_g (lw_at lw_m7 46 rfl) rfl
theorem q1605 : (Jvm.Cond.fieldLink "BlushLampsModel" (344 : Nat) "BlushLampsModel" "isStill" "Z") ∈ lw_all := lw_g (lw_at lw_m7 47 rfl) rfl
theorem q1606 : (Jvm.Cond.fieldLink "BlushLampsModel" (131 : Nat) "BlushLampsModel" "coolsNow" "[I") ∈ lw_all := lw_g (lw_at lw_m7 48 rfl) rfl
theorem q1607 : (Jvm.Cond.fieldLink "BlushLampsModel" (134 : Nat) "BlushLampsModel" "leavesNow" "[Z") ∈ lw_all := lw_g (lw_at lw_m7 49 rfl) rfl
theorem q1608 : (Jvm.Cond.fieldLink "BlushLampsModel" (137 : Nat) "BlushLampsModel" "lights" "[I") ∈ lw_all := lw_g (lw_at lw_m7 50 rfl) rfl
theorem q1609 : (Jvm.Cond.fieldLink "BlushLampsModel" (269 : Nat) "BlushLampsModel" "undos" "I") ∈ lw_all := lw_g (lw_at lw_m7 51 rfl) rfl
theorem q1610 : (Jvm.Cond.fieldLink "BlushLampsModel" (140 : Nat) "BlushLampsModel" "history" "[I") ∈ lw_all := lw_g (lw_at lw_m7 52 rfl) rfl
theorem q1611 : (Jvm.Cond.fieldLink "BlushLampsModel" (143 : Nat) "BlushLampsModel" "bestAt" "[I") ∈ lw_all := lw_g (lw_at lw_m7 53 rfl) rfl
theorem q1612 : (Jvm.Cond.fieldLink "BlushLampsModel" (146 : Nat) "BlushLampsModel" "farOf" "[I") ∈ lw_all := lw_g (lw_at lw_m7 54 rfl) rfl
theorem q1613 : (Jvm.Cond.fieldLink "BlushLampsModel" (149 : Nat) "BlushLampsModel" "roundBy" "[I") ∈ lw_all := lw_g (lw_at lw_m7 55 rfl) rfl
theorem q1614 : (Jvm.Cond.fieldLink "BlushLampsModel" (152 : Nat) "BlushLampsModel" "stepsBy" "[I") ∈ lw_all := lw_g (lw_at lw_m7 56 rfl) rfl
theorem q1615 : (Jvm.Cond.fieldLink "BlushLampsModel" (272 : Nat) "BlushLampsModel" "tolds" "I") ∈ lw_all := lw_g (lw_at lw_m7 57 rfl) rfl
theorem q1616 : (Jvm.Cond.fieldLink "BlushLampsModel" (155 : Nat) "BlushLampsModel" "toldWho" "[I") ∈ lw_all := lw_g (lw_at lw_m7 58 rfl) rfl
theorem q1617 : (Jvm.Cond.fieldLink "BlushLampsModel" (158 : Nat) "BlushLampsModel" "toldBy" "[I") ∈ lw_all := lw_g (lw_at lw_m7 59 rfl) rfl
theorem q1618 : (Jvm.Cond.fieldLink "BlushLampsModel" (161 : Nat) "BlushLampsModel" "toldSo" "[Z") ∈ lw_all := lw_g (lw_at lw_m7 60 rfl) rfl
theorem q1619 : (Jvm.Cond.fieldLink "BlushLampsModel" (164 : Nat) "BlushLampsModel" "isHeld" "[Z") ∈ lw_all := lw_g (lw_at lw_m7 61 rfl) rfl
theorem q1620 : (Jvm.Cond.fieldLink "BlushLampsModel" (167 : Nat) "BlushLampsModel" "heldRows" "[I") ∈ lw_all := lw_g (lw_at lw_m7 62 rfl) rfl
theorem q1621 : (Jvm.Cond.lays "BlushLampsModel" "BlushLampsModel" "thrown" "I") ∈ lw_all := lw_g (lw_at lw_m7 63 rfl) rfl
theorem q1622 : (Jvm.Cond.soleField "BlushLampsModel" "thrown") ∈ lw_all := lw_g (lw_at lw_m7 64 rfl) rfl
theorem q1623 : (Jvm.Cond.laysFinal "BlushLampsModel" "BlushLampsModel" "tape" "[B") ∈ lw_all := lw_g (lw_at lw_m7 65 rfl) rfl
theorem q1624 : (Jvm.Cond.soleField "BlushLampsModel" "tape") ∈ lw_all := lw_g (lw_at lw_m7 66 rfl) rfl
theorem q1625 : (Jvm.Cond.lays "BlushLampsModel" "BlushLampsModel" "taped" "I") ∈ lw_all := lw_g (lw_at lw_m7 67 rfl) rfl
theorem q1626 : (Jvm.Cond.soleField "BlushLampsModel" "taped") ∈ lw_all := lw_g (lw_at lw_m7 68 rfl) rfl
theorem q1627 : (Jvm.Cond.laysFinal "BlushLampsModel" "BlushLampsModel" "text" "[B") ∈ lw_all := lw_g (lw_at lw_m7 69 rfl) rfl
theorem q1628 : (Jvm.Cond.soleField "BlushLampsModel" "text") ∈ lw_all := lw_g (lw_at lw_m7 70 rfl) rfl
theorem q1629 : (Jvm.Cond.lays "BlushLampsModel" "BlushLampsModel" "size" "I") ∈ lw_all := lw_g (lw_at lw_m7 71 rfl) rfl
theorem q1630 : (Jvm.Cond.soleField "BlushLampsModel" "size") ∈ lw_all := lw_g (lw_at lw_m7 72 rfl) rfl
theorem q1631 : (Jvm.Cond.laysFinal "BlushLampsModel" "BlushLampsModel" "tKind" "[I") ∈ lw_all := lw_g (lw_at lw_m7 73 rfl) rfl
theorem q1632 : (Jvm.Cond.soleField "BlushLampsModel" "tKind") ∈ lw_all := lw_g (lw_at lw_m7 74 rfl) rfl
theorem q1633 : (Jvm.Cond.laysFinal "BlushLampsModel" "BlushLampsModel" "tPlace" "[I") ∈ lw_all := lw_g (lw_at lw_m7 75 rfl) rfl
theorem q1634 : (Jvm.Cond.soleField "BlushLampsModel" "tPlace") ∈ lw_all := lw_g (lw_at lw_m7 76 rfl) rfl
theorem q1635 : (Jvm.Cond.laysFinal "BlushLampsModel" "BlushLampsModel" "tValue" "[I") ∈ lw_all := lw_g (lw_at lw_m7 77 rfl) rfl
theorem q1636 : (Jvm.Cond.soleField "BlushLampsModel" "tValue") ∈ lw_all := lw_g (lw_at lw_m7 78 rfl) rfl
theorem q1637 : (Jvm.Cond.laysFinal "BlushLampsModel" "BlushLampsModel" "tName" "[J") ∈ lw_all := lw_g (lw_at lw_m7 79 rfl) rfl
theorem q1638 : (Jvm.Cond.soleField "BlushLampsModel" "tName") ∈ lw_all := lw_g (lw_at lw_m7 80 rfl) rfl
theorem q1639 : (Jvm.Cond.laysFinal "BlushLampsModel" "BlushLampsModel" "keys" "[J") ∈ lw_all := lw_g (lw_at lw_m7 81 rfl) rfl
theorem q1640 : (Jvm.Cond.soleField "BlushLampsModel" "keys") ∈ lw_all := lw_g (lw_at lw_m7 82 rfl) rfl
theorem q1641 : (Jvm.Cond.lays "BlushLampsModel" "BlushLampsModel" "tokens" "I") ∈ lw_all := lw_g (lw_at lw_m7 83 rfl) rfl
theorem q1642 : (Jvm.Cond.soleField "BlushLampsModel" "tokens") ∈ lw_all := lw_g (lw_at lw_m7 84 rfl) rfl
theorem q1643 : (Jvm.Cond.lays "BlushLampsModel" "BlushLampsModel" "t" "I") ∈ lw_all := lw_g (lw_at lw_m7 85 rfl) rfl
theorem q1644 : (Jvm.Cond.soleField "BlushLampsModel" "t") ∈ lw_all := lw_g (lw_at lw_m7 86 rfl) rfl
theorem q1645 : (Jvm.Cond.lays "BlushLampsModel" "BlushLampsModel" "open" "I") ∈ lw_all := lw_g (lw_at lw_m7 87 rfl) rfl
theorem q1646 : (Jvm.Cond.soleField "BlushLampsModel" "open") ∈ lw_all := lw_g (lw_at lw_m7 88 rfl) rfl
theorem q1647 : (Jvm.Cond.lays "BlushLampsModel" "BlushLampsModel" "fault" "I") ∈ lw_all := lw_g (lw_at lw_m7 89 rfl) rfl
theorem q1648 : (Jvm.Cond.soleField "BlushLampsModel" "fault") ∈ lw_all := lw_g (lw_at lw_m7 90 rfl) rfl
theorem q1649 : (Jvm.Cond.lays "BlushLampsModel" "BlushLampsModel" "faultPlace" "I") ∈ lw_all := lw_g (lw_at lw_m7 91 rfl) rfl
theorem q1650 : (Jvm.Cond.soleField "BlushLampsModel" "faultPlace") ∈ lw_all := lw_g (lw_at lw_m7 92 rfl) rfl
theorem q1651 : (Jvm.Cond.lays "BlushLampsModel" "BlushLampsModel" "worst" "I") ∈ lw_all := lw_g (lw_at lw_m7 93 rfl) rfl
theorem q1652 : (Jvm.Cond.soleField "BlushLampsModel" "worst") ∈ lw_all := lw_g (lw_at lw_m7 94 rfl) rfl
theorem q1653 : (Jvm.Cond.lays "BlushLampsModel" "BlushLampsModel" "worstPlace" "I") ∈ lw_all := lw_g (lw_at lw_m7 95 rfl) rfl
theorem q1654 : (Jvm.Cond.soleField "BlushLampsModel" "worstPlace") ∈ lw_all := lw_g (lw_at lw_m7 96 rfl) rfl
theorem q1655 : (Jvm.Cond.lays "BlushLampsModel" "BlushLampsModel" "place" "I") ∈ lw_all := lw_g (lw_at lw_m7 97 rfl) rfl
theorem q1656 : (Jvm.Cond.soleField "BlushLampsModel" "place") ∈ lw_all := lw_g (lw_at lw_m7 98 rfl) rfl
theorem q1657 : (Jvm.Cond.lays "BlushLampsModel" "BlushLampsModel" "live" "I") ∈ lw_all := lw_g (lw_at lw_m7 99 rfl) rfl
theorem q1658 : (Jvm.Cond.soleField "BlushLampsModel" "live") ∈ lw_all := lw_g (lw_at lw_m7 100 rfl) rfl
theorem q1659 : (Jvm.Cond.lays "BlushLampsModel" "BlushLampsModel" "side" "I") ∈ lw_all := lw_g (lw_at lw_m7 101 rfl) rfl
theorem q1660 : (Jvm.Cond.soleField "BlushLampsModel" "side") ∈ lw_all := lw_g (lw_at lw_m7 102 rfl) rfl
theorem q1661 : (Jvm.Cond.lays "BlushLampsModel" "BlushLampsModel" "names" "I") ∈ lw_all := lw_g (lw_at lw_m7 103 rfl) rfl
theorem q1662 : (Jvm.Cond.soleField "BlushLampsModel" "names") ∈ lw_all := lw_g (lw_at lw_m7 104 rfl) rfl
theorem q1663 : (Jvm.Cond.laysFinal "BlushLampsModel" "BlushLampsModel" "nameOf" "[J") ∈ lw_all := lw_g (lw_at lw_m7 105 rfl) rfl
theorem q1664 : (Jvm.Cond.soleField "BlushLampsModel" "nameOf") ∈ lw_all := lw_g (lw_at lw_m7 106 rfl) rfl
theorem q1665 : (Jvm.Cond.laysFinal "BlushLampsModel" "BlushLampsModel" "nameAt" "[I") ∈ lw_all := lw_g (lw_at lw_m7 107 rfl) rfl
theorem q1666 : (Jvm.Cond.soleField "BlushLampsModel" "nameAt") ∈ lw_all := lw_g (lw_at lw_m7 108 rfl) rfl
theorem q1667 : (Jvm.Cond.laysFinal "BlushLampsModel" "BlushLampsModel" "corners" "[I") ∈ lw_all := lw_g (lw_at lw_m7 109 rfl) rfl
theorem q1668 : (Jvm.Cond.soleField "BlushLampsModel" "corners") ∈ lw_all := lw_g (lw_at lw_m7 110 rfl) rfl
theorem q1669 : (Jvm.Cond.laysFinal "BlushLampsModel" "BlushLampsModel" "streets" "[I") ∈ lw_all := lw_g (lw_at lw_m7 111 rfl) rfl
theorem q1670 : (Jvm.Cond.soleField "BlushLampsModel" "streets") ∈ lw_all := lw_g (lw_at lw_m7 112 rfl) rfl
theorem q1671 : (Jvm.Cond.laysFinal "BlushLampsModel" "BlushLampsModel" "oneOf" "[I") ∈ lw_all := lw_g (lw_at lw_m7 113 rfl) rfl
theorem q1672 : (Jvm.Cond.soleField "BlushLampsModel" "oneOf") ∈ lw_all := lw_g (lw_at lw_m7 114 rfl) rfl
theorem q1673 : (Jvm.Cond.laysFinal "BlushLampsModel" "BlushLampsModel" "otherOf" "[I") ∈ lw_all := lw_g (lw_at lw_m7 115 rfl) rfl
theorem q1674 : (Jvm.Cond.soleField "BlushLampsModel" "otherOf") ∈ lw_all := lw_g (lw_at lw_m7 116 rfl) rfl
theorem q1675 : (Jvm.Cond.laysFinal "BlushLampsModel" "BlushLampsModel" "longOf" "[I") ∈ lw_all := lw_g (lw_at lw_m7 117 rfl) rfl
theorem q1676 : (Jvm.Cond.soleField "BlushLampsModel" "longOf") ∈ lw_all := lw_g (lw_at lw_m7 118 rfl) rfl
theorem q1677 : (Jvm.Cond.laysFinal "BlushLampsModel" "BlushLampsModel" "youngs" "[I") ∈ lw_all := lw_g (lw_at lw_m7 119 rfl) rfl
theorem q1678 : (Jvm.Cond.soleField "BlushLampsModel" "youngs") ∈ lw_all := lw_g (lw_at lw_m7 120 rfl) rfl
theorem q1679 : (Jvm.Cond.laysFinal "BlushLampsModel" "BlushLampsModel" "ageOf" "[I") ∈ lw_all := lw_g (lw_at lw_m7 121 rfl) rfl
theorem q1680 : (Jvm.Cond.soleField "BlushLampsModel" "ageOf") ∈ lw_all := lw_g (lw_at lw_m7 122 rfl) rfl
theorem q1681 : (Jvm.Cond.laysFinal "BlushLampsModel" "BlushLampsModel" "temperOf" "[I") ∈ lw_all := lw_g (lw_at lw_m7 123 rfl) rfl
theorem q1682 : (Jvm.Cond.soleField "BlushLampsModel" "temperOf") ∈ lw_all := lw_g (lw_at lw_m7 124 rfl) rfl
theorem q1683 : (Jvm.Cond.laysFinal "BlushLampsModel" "BlushLampsModel" "cornerTold" "[I") ∈ lw_all := lw_g (lw_at lw_m7 125 rfl) rfl
theorem q1684 : (Jvm.Cond.soleField "BlushLampsModel" "cornerTold") ∈ lw_all := lw_g (lw_at lw_m7 126 rfl) rfl
theorem q1685 : (Jvm.Cond.laysFinal "BlushLampsModel" "BlushLampsModel" "wordMany" "[I") ∈ lw_all := lw_g (lw_at lw_m7 127 rfl) rfl
theorem q1686 : (Jvm.Cond.soleField "BlushLampsModel" "wordMany") ∈ lw_all := lw_g (lw_at lw_m7 128 rfl) rfl
theorem q1687 : (Jvm.Cond.laysFinal "BlushLampsModel" "BlushLampsModel" "heatTold" "[I") ∈ lw_all := lw_g (lw_at lw_m7 129 rfl) rfl
theorem q1688 : (Jvm.Cond.soleField "BlushLampsModel" "heatTold") ∈ lw_all := lw_g (lw_at lw_m7 130 rfl) rfl
theorem q1689 : (Jvm.Cond.laysFinal "BlushLampsModel" "BlushLampsModel" "lighterTold" "[I") ∈ lw_all := lw_g (lw_at lw_m7 131 rfl) rfl
theorem q1690 : (Jvm.Cond.soleField "BlushLampsModel" "lighterTold") ∈ lw_all := lw_g (lw_at lw_m7 132 rfl) rfl
theorem q1691 : (Jvm.Cond.laysFinal "BlushLampsModel" "BlushLampsModel" "draught" "[I") ∈ lw_all := lw_g (lw_at lw_m7 133 rfl) rfl
theorem q1692 : (Jvm.Cond.soleField "BlushLampsModel" "draught") ∈ lw_all := lw_g (lw_at lw_m7 134 rfl) rfl
theorem q1693 : (Jvm.Cond.laysFinal "BlushLampsModel" "BlushLampsModel" "seed" "[I") ∈ lw_all := lw_g (lw_at lw_m7 135 rfl) rfl
theorem q1694 : (Jvm.Cond.soleField "BlushLampsModel" "seed") ∈ lw_all := lw_g (lw_at lw_m7 136 rfl) rfl
theorem q1695 : (Jvm.Cond.laysFinal "BlushLampsModel" "BlushLampsModel" "lawFirst" "[I") ∈ lw_all := lw_g (lw_at lw_m7 137 rfl) rfl
theorem q1696 : (Jvm.Cond.soleField "BlushLampsModel" "lawFirst") ∈ lw_all := lw_g (lw_at lw_m7 138 rfl) rfl
theorem q1697 : (Jvm.Cond.laysFinal "BlushLampsModel" "BlushLampsModel" "lawLast" "[I") ∈ lw_all := lw_g (lw_at lw_m7 139 rfl) rfl
theorem q1698 : (Jvm.Cond.soleField "BlushLampsModel" "lawLast") ∈ lw_all := lw_g (lw_at lw_m7 140 rfl) rfl
theorem q1699 : (Jvm.Cond.lays "BlushLampsModel" "BlushLampsModel" "branches" "I") ∈ lw_all := lw_g (lw_at lw_m7 141 rfl) rfl
theorem q1700 : (Jvm.Cond.soleField "BlushLampsModel" "branches") ∈ lw_all := lw_g (lw_at lw_m7 142 rfl) rfl
theorem q1701 : (Jvm.Cond.laysFinal "BlushLampsModel" "BlushLampsModel" "hasTest" "[Z") ∈ lw_all := lw_g (lw_at lw_m7 143 rfl) rfl
theorem q1702 : (Jvm.Cond.soleField "BlushLampsModel" "hasTest") ∈ lw_all := lw_g (lw_at lw_m7 144 rfl) rfl
theorem q1703 : (Jvm.Cond.laysFinal "BlushLampsModel" "BlushLampsModel" "testFrom" "[I") ∈ lw_all := lw_g (lw_at lw_m7 145 rfl) rfl
theorem q1704 : (Jvm.Cond.soleField "BlushLampsModel" "testFrom") ∈ lw_all := lw_g (lw_at lw_m7 146 rfl) rfl
theorem q1705 : (Jvm.Cond.laysFinal "BlushLampsModel" "BlushLampsModel" "testMid" "[I") ∈ lw_all := lw_g (lw_at lw_m7 147 rfl) rfl
theorem q1706 : (Jvm.Cond.soleField "BlushLampsModel" "testMid") ∈ lw_all := lw_g (lw_at lw_m7 148 rfl) rfl
theorem q1707 : (Jvm.Cond.laysFinal "BlushLampsModel" "BlushLampsModel" "testTo" "[I") ∈ lw_all := lw_g (lw_at lw_m7 149 rfl) rfl
theorem q1708 : (Jvm.Cond.soleField "BlushLampsModel" "testTo") ∈ lw_all := lw_g (lw_at lw_m7 150 rfl) rfl
theorem q1709 : (Jvm.Cond.laysFinal "BlushLampsModel" "BlushLampsModel" "termTo" "[I") ∈ lw_all := lw_g (lw_at lw_m7 151 rfl) rfl
theorem q1710 : (Jvm.Cond.soleField "BlushLampsModel" "termTo") ∈ lw_all := lw_g (lw_at lw_m7 152 rfl) rfl
theorem q1711 : (Jvm.Cond.lays "BlushLampsModel" "BlushLampsModel" "codes" "I") ∈ lw_all := lw_g (lw_at lw_m7 153 rfl) rfl
theorem q1712 : (Jvm.Cond.soleField "BlushLampsModel" "codes") ∈ lw_all := lw_g (lw_at lw_m7 154 rfl) rfl
theorem q1713 : (Jvm.Cond.laysFinal "BlushLampsModel" "BlushLampsModel" "code" "[I") ∈ lw_all := lw_g (lw_at lw_m7 155 rfl) rfl
theorem q1714 : (Jvm.Cond.soleField "BlushLampsModel" "code") ∈ lw_all := lw_g (lw_at lw_m7 156 rfl) rfl
theorem q1715 : (Jvm.Cond.laysFinal "BlushLampsModel" "BlushLampsModel" "codeInt" "[I") ∈ lw_all := lw_g (lw_at lw_m7 157 rfl) rfl
theorem q1716 : (Jvm.Cond.soleField "BlushLampsModel" "codeInt") ∈ lw_all := lw_g (lw_at lw_m7 158 rfl) rfl
theorem q1717 : (Jvm.Cond.laysFinal "BlushLampsModel" "BlushLampsModel" "waits" "[I") ∈ lw_all := lw_g (lw_at lw_m7 159 rfl) rfl
theorem q1718 : (Jvm.Cond.soleField "BlushLampsModel" "waits") ∈ lw_all := lw_g (lw_at lw_m7 160 rfl) rfl
theorem q1719 : (Jvm.Cond.lays "BlushLampsModel" "BlushLampsModel" "waiting" "I") ∈ lw_all := lw_g (lw_at lw_m7 161 rfl) rfl
theorem q1720 : (Jvm.Cond.soleField "BlushLampsModel" "waiting") ∈ lw_all := lw_g (lw_at lw_m7 162 rfl) rfl
theorem q1721 : (Jvm.Cond.laysFinal "BlushLampsModel" "BlushLampsModel" "variables" "[I") ∈ lw_all := lw_g (lw_at lw_m7 163 rfl) rfl
theorem q1722 : (Jvm.Cond.soleField "BlushLampsModel" "variables") ∈ lw_all := lw_g (lw_at lw_m7 164 rfl) rfl
theorem q1723 : (Jvm.Cond.laysFinal "BlushLampsModel" "BlushLampsModel" "pile" "[I") ∈ lw_all := lw_g (lw_at lw_m7 165 rfl) rfl
theorem q1724 : (Jvm.Cond.soleField "BlushLampsModel" "pile") ∈ lw_all := lw_g (lw_at lw_m7 166 rfl) rfl
theorem q1725 : (Jvm.Cond.lays "BlushLampsModel" "BlushLampsModel" "isBroken" "Z") ∈ lw_all := lw_g (lw_at lw_m7 167 rfl) rfl
theorem q1726 : (Jvm.Cond.soleField "BlushLampsModel" "isBroken") ∈ lw_all := lw_g (lw_at lw_m7 168 rfl) rfl
theorem q1727 : (Jvm.Cond.laysFinal "BlushLampsModel" "BlushLampsModel" "now" "[I") ∈ lw_all := lw_g (lw_at lw_m7 169 rfl) rfl
theorem q1728 : (Jvm.Cond.soleField "BlushLampsModel" "now") ∈ lw_all := lw_g (lw_at lw_m7 170 rfl) rfl
theorem q1729 : (Jvm.Cond.laysFinal "BlushLampsModel" "BlushLampsModel" "row" "[I") ∈ lw_all := lw_g (lw_at lw_m7 171 rfl) rfl
theorem q1730 : (Jvm.Cond.soleField "BlushLampsModel" "row") ∈ lw_all := lw_g (lw_at lw_m7 172 rfl) rfl
theorem q1731 : (Jvm.Cond.lays "BlushLampsModel" "BlushLampsModel" "lots" "I") ∈ lw_all := lw_g (lw_at lw_m7 173 rfl) rfl
theorem q1732 : (Jvm.Cond.soleField "BlushLampsModel" "lots") ∈ lw_all := lw_g (lw_at lw_m7 174 rfl) rfl
theorem q1733 : (Jvm.Cond.lays "BlushLampsModel" "BlushLampsModel" "isStill" "Z") ∈ lw_all := lw_g (lw_at lw_m7 175 rfl) rfl
theorem q1734 : (Jvm.Cond.soleField "BlushLampsModel" "isStill") ∈ lw_all := lw_g (lw_at lw_m7 176 rfl) rfl
theorem q1735 : (Jvm.Cond.laysFinal "BlushLampsModel" "BlushLampsModel" "coolsNow" "[I") ∈ lw_all := lw_g (lw_at lw_m7 177 rfl) rfl
theorem q1736 : (Jvm.Cond.soleField "BlushLampsModel" "coolsNow") ∈ lw_all := lw_g (lw_at lw_m7 178 rfl) rfl
theorem q1737 : (Jvm.Cond.laysFinal "BlushLampsModel" "BlushLampsModel" "leavesNow" "[Z") ∈ lw_all := lw_g (lw_at lw_m7 179 rfl) rfl
theorem q1738 : (Jvm.Cond.soleField "BlushLampsModel" "leavesNow") ∈ lw_all := lw_g (lw_at lw_m7 180 rfl) rfl
theorem q1739 : (Jvm.Cond.laysFinal "BlushLampsModel" "BlushLampsModel" "lights" "[I") ∈ lw_all := lw_g (lw_at lw_m7 181 rfl) rfl
theorem q1740 : (Jvm.Cond.soleField "BlushLampsModel" "lights") ∈ lw_all := lw_g (lw_at lw_m7 182 rfl) rfl
theorem q1741 : (Jvm.Cond.lays "BlushLampsModel" "BlushLampsModel" "undos" "I") ∈ lw_all := lw_g (lw_at lw_m7 183 rfl) rfl
theorem q1742 : (Jvm.Cond.soleField "BlushLampsModel" "undos") ∈ lw_all := lw_g (lw_at lw_m7 184 rfl) rfl
theorem q1743 : (Jvm.Cond.laysFinal "BlushLampsModel" "BlushLampsModel" "history" "[I") ∈ lw_all := lw_g (lw_at lw_m7 185 rfl) rfl
theorem q1744 : (Jvm.Cond.soleField "BlushLampsModel" "history") ∈ lw_all := lw_g (lw_at lw_m7 186 rfl) rfl
theorem q1745 : (Jvm.Cond.laysFinal "BlushLampsModel" "BlushLampsModel" "bestAt" "[I") ∈ lw_all := lw_g (lw_at lw_m7 187 rfl) rfl
theorem q1746 : (Jvm.Cond.soleField "BlushLampsModel" "bestAt") ∈ lw_all := lw_g (lw_at lw_m7 188 rfl) rfl
theorem q1747 : (Jvm.Cond.laysFinal "BlushLampsModel" "BlushLampsModel" "farOf" "[I") ∈ lw_all := lw_g (lw_at lw_m7 189 rfl) rfl
theorem q1748 : (Jvm.Cond.soleField "BlushLampsModel" "farOf") ∈ lw_all := lw_g (lw_at lw_m7 190 rfl) rfl
theorem q1749 : (Jvm.Cond.laysFinal "BlushLampsModel" "BlushLampsModel" "roundBy" "[I") ∈ lw_all := lw_g (lw_at lw_m7 191 rfl) rfl
theorem q1750 : (Jvm.Cond.soleField "BlushLampsModel" "roundBy") ∈ lw_all := lw_g (lw_at lw_m7 192 rfl) rfl
theorem q1751 : (Jvm.Cond.laysFinal "BlushLampsModel" "BlushLampsModel" "stepsBy" "[I") ∈ lw_all := lw_g (lw_at lw_m7 193 rfl) rfl
theorem q1752 : (Jvm.Cond.soleField "BlushLampsModel" "stepsBy") ∈ lw_all := lw_g (lw_at lw_m7 194 rfl) rfl
theorem q1753 : (Jvm.Cond.lays "BlushLampsModel" "BlushLampsModel" "tolds" "I") ∈ lw_all := lw_g (lw_at lw_m7 195 rfl) rfl
theorem q1754 : (Jvm.Cond.soleField "BlushLampsModel" "tolds") ∈ lw_all := lw_g (lw_at lw_m7 196 rfl) rfl
theorem q1755 : (Jvm.Cond.laysFinal "BlushLampsModel" "BlushLampsModel" "toldWho" "[I") ∈ lw_all := lw_g (lw_at lw_m7 197 rfl) rfl
theorem q1756 : (Jvm.Cond.soleField "BlushLampsModel" "toldWho") ∈ lw_all := lw_g (lw_at lw_m7 198 rfl) rfl
theorem q1757 : (Jvm.Cond.laysFinal "BlushLampsModel" "BlushLampsModel" "toldBy" "[I") ∈ lw_all := lw_g (lw_at lw_m7 199 rfl) rfl
theorem q1758 : (Jvm.Cond.soleField "BlushLampsModel" "toldBy") ∈ lw_all := lw_g (lw_at lw_m7 200 rfl) rfl
theorem q1759 : (Jvm.Cond.laysFinal "BlushLampsModel" "BlushLampsModel" "toldSo" "[Z") ∈ lw_all := lw_g (lw_at lw_m7 201 rfl) rfl
theorem q1760 : (Jvm.Cond.soleField "BlushLampsModel" "toldSo") ∈ lw_all := lw_g (lw_at lw_m7 202 rfl) rfl
theorem q1761 : (Jvm.Cond.laysFinal "BlushLampsModel" "BlushLampsModel" "isHeld" "[Z") ∈ lw_all := lw_g (lw_at lw_m7 203 rfl) rfl
theorem q1762 : (Jvm.Cond.soleField "BlushLampsModel" "isHeld") ∈ lw_all := lw_g (lw_at lw_m7 204 rfl) rfl
theorem q1763 : (Jvm.Cond.laysFinal "BlushLampsModel" "BlushLampsModel" "heldRows" "[I") ∈ lw_all := lw_g (lw_at lw_m7 205 rfl) rfl
theorem q1764 : (Jvm.Cond.soleField "BlushLampsModel" "heldRows") ∈ lw_all := lw_g (lw_at lw_m7 206 rfl) rfl
theorem q1765 : (Jvm.Cond.superclass "BlushLampsModel" "java/lang/Object") ∈ lw_all := lw_g (lw_at lw_m7 207 rfl) rfl
theorem q1768 : (Jvm.Cond.instanceMethod ({ cls := "BlushLampsModel", name := "feed", desc := "(IIIII)I" } : Jvm.MethodName)) ∈ lw_all := lw_g (lw_at lw_m7 210 rfl) rfl
theorem q1769 : (Jvm.Cond.selects "BlushLampsModel" ({ cls := "BlushLampsModel", name := "feed", desc := "(IIIII)I" } : Jvm.MethodName) ({ cls := "BlushLampsModel", name := "feed", desc := "(IIIII)I" } : Jvm.MethodName)) ∈ lw_all := lw_g (lw_at lw_m7 211 rfl) rfl
theorem q1770 : (Jvm.Cond.code ({ cls := "BlushLampsModel", name := "feed", desc := "(IIIII)I" } : Jvm.MethodName) prog_22_method_3_code (6 : Nat) (Option.some Jvm.ClassFile.FieldType.int)) ∈ lw_all := lw_g (lw_at lw_m7 212 rfl) rfl
theorem q1771 : (Jvm.Cond.methodLink "BlushLampsModel" (187 : Nat) ({ cls := "BlushLampsModel", name := "put", desc := "(I)V" } : Jvm.MethodName)) ∈ lw_all := lw_g (lw_at lw_m7 213 rfl) rfl
theorem q1772 : (Jvm.Cond.privateMethod ({ cls := "BlushLampsModel", name := "put", desc := "(I)V" } : Jvm.MethodName)) ∈ lw_tbl := lw_at lw_m7 214 rfl
theorem q1773 : (Jvm.Cond.instanceMethod ({ cls := "BlushLampsModel", name := "put", desc := "(I)V" } : Jvm.MethodName)) ∈ lw_all := lw_g (lw_at lw_m7 215 rfl) rfl
theorem q1774 : (Jvm.Cond.code ({ cls := "BlushLampsModel", name := "put", desc := "(I)V" } : Jvm.MethodName) prog_22_method_4_code (3 : Nat) (Option.none : Option Jvm.ClassFile.FieldType)) ∈ lw_all := lw_g (lw_at lw_m7 216 rfl) rfl
theorem q1776 : (Jvm.Cond.instanceMethod ({ cls := "BlushLampsModel", name := "back", desc := "(I)I" } : Jvm.MethodName)) ∈ lw_all := lw_g (lw_at lw_m7 218 rfl) rfl
theorem q1777 : (Jvm.Cond.selects "BlushLampsModel" ({ cls := "BlushLampsModel", name := "back", desc := "(I)I" } : Jvm.MethodName) ({ cls := "BlushLampsModel", name := "back", desc := "(I)I" } : Jvm.MethodName)) ∈ lw_all := lw_g (lw_at lw_m7 219 rfl) rfl
theorem q1778 : (Jvm.Cond.code ({ cls := "BlushLampsModel", name := "back", desc := "(I)I" } : Jvm.MethodName) prog_22_method_5_code (2 : Nat) (Option.some Jvm.ClassFile.FieldType.int)) ∈ lw_all := lw_g (lw_at lw_m7 220 rfl) rfl
theorem q1780 : (Jvm.Cond.instanceMethod ({ cls := "BlushLampsModel", name := "read", desc := "()I" } : Jvm.MethodName)) ∈ lw_all := lw_g (lw_at lw_m7 222 rfl) rfl
theorem q1781 : (Jvm.Cond.selects "BlushLampsModel" ({ cls := "BlushLampsModel", name := "read", desc := "()I" } : Jvm.MethodName) ({ cls := "BlushLampsModel", name := "read", desc := "()I" } : Jvm.MethodName)) ∈ lw_all := lw_g (lw_at lw_m7 223 rfl) rfl
theorem q1782 : (Jvm.Cond.code ({ cls := "BlushLampsModel", name := "read", desc := "()I" } : Jvm.MethodName) prog_22_method_20_code (2 : Nat) (Option.some Jvm.ClassFile.FieldType.int)) ∈ lw_all := lw_g (lw_at lw_m7 224 rfl) rfl
theorem q1783 : (Jvm.Cond.methodLink "BlushLampsModel" (245 : Nat) ({ cls := "BlushLampsModel", name := "cutsUp", desc := "()V" } : Jvm.MethodName)) ∈ lw_all := lw_g (lw_at lw_m7 225 rfl) rfl
theorem q1784 : (Jvm.Cond.privateMethod ({ cls := "BlushLampsModel", name := "cutsUp", desc := "()V" } : Jvm.MethodName)) ∈ lw_tbl := lw_at lw_m7 226 rfl
theorem q1785 : (Jvm.Cond.instanceMethod ({ cls := "BlushLampsModel", name := "cutsUp", desc := "()V" } : Jvm.MethodName)) ∈ lw_all := lw_g (lw_at lw_m7 227 rfl) rfl
theorem q1786 : (Jvm.Cond.code ({ cls := "BlushLampsModel", name := "cutsUp", desc := "()V" } : Jvm.MethodName) prog_22_method_12_code (8 : Nat) (Option.none : Option Jvm.ClassFile.FieldType)) ∈ lw_all := lw_g (lw_at lw_m7 228 rfl) rfl
theorem q1787 : (Jvm.Cond.methodLink "BlushLampsModel" (202 : Nat) ({ cls := "BlushLampsModel", name := "byteAt", desc := "(I)I" } : Jvm.MethodName)) ∈ lw_all := lw_g (lw_at lw_m7 229 rfl) rfl
theorem q1788 : (Jvm.Cond.privateMethod ({ cls := "BlushLampsModel", name := "byteAt", desc := "(I)I" } : Jvm.MethodName)) ∈ lw_tbl := lw_at lw_m7 230 rfl
theorem q1789 : (Jvm.Cond.instanceMethod ({ cls := "BlushLampsModel", name := "byteAt", desc := "(I)I" } : Jvm.MethodName)) ∈ lw_all := lw_g (lw_at lw_m7 231 rfl) rfl
theorem q1790 : (Jvm.Cond.code ({ cls := "BlushLampsModel", name := "byteAt", desc := "(I)I" } : Jvm.MethodName) prog_22_method_6_code (2 : Nat) (Option.some Jvm.ClassFile.FieldType.int)) ∈ lw_all := lw_g (lw_at lw_m7 232 rfl) rfl
theorem q1791 : (Jvm.Cond.methodLink "BlushLampsModel" (206 : Nat) ({ cls := "BlushLampsModel", name := "token", desc := "(IIIJ)V" } : Jvm.MethodName)) ∈ lw_all := lw_g (lw_at lw_m7 233 rfl) rfl
theorem q1792 : (Jvm.Cond.privateMethod ({ cls := "BlushLampsModel", name := "token", desc := "(IIIJ)V" } : Jvm.MethodName)) ∈ lw_tbl := lw_at lw_m7 234 rfl
theorem q1793 : (Jvm.Cond.instanceMethod ({ cls := "BlushLampsModel", name := "token", desc := "(IIIJ)V" } : Jvm.MethodName)) ∈ lw_all := lw_g (lw_at lw_m7 235 rfl) rfl
theorem q1794 : (Jvm.Cond.code ({ cls := "BlushLampsModel", name := "token", desc := "(IIIJ)V" } : Jvm.MethodName) prog_22_method_11_code (6 : Nat) (Option.none : Option Jvm.ClassFile.FieldType)) ∈ lw_all := lw_g (lw_at lw_m7 236 rfl) rfl
theorem q1795 : (Jvm.Cond.methodLink "BlushLampsModel" (210 : Nat) ({ cls := "BlushLampsModel", name := "isLetter", desc := "(I)Z" } : Jvm.MethodName)) ∈ lw_all := lw_g (lw_at lw_m7 237 rfl) rfl
theorem q1796 : (Jvm.Cond.static ({ cls := "BlushLampsModel", name := "isLetter", desc := "(I)Z" } : Jvm.MethodName)) ∈ lw_all := lw_g (lw_at lw_m7 238 rfl) rfl
theorem q1797 : (Jvm.Cond.code ({ cls := "BlushLampsModel", name := "isLetter", desc := "(I)Z" } : Jvm.MethodName) prog_22_method_8_code (1 : Nat) (Option.some Jvm.ClassFile.FieldType.boolean)) ∈ lw_all := lw_g (lw_at lw_m7 239 rfl) rfl
theorem q1798 : (Jvm.Cond.methodLink "BlushLampsModel" (214 : Nat) ({ cls := "BlushLampsModel", name := "isDigit", desc := "(I)Z" } : Jvm.MethodName)) ∈ lw_all := lw_g (lw_at lw_m8 0 rfl) rfl
theorem q1799 : (Jvm.Cond.static ({ cls := "BlushLampsModel", name := "isDigit", desc := "(I)Z" } : Jvm.MethodName)) ∈ lw_all := lw_g (lw_at lw_m8 1 rfl) rfl
theorem q1800 : (Jvm.Cond.code ({ cls := "BlushLampsModel", name := "isDigit", desc := "(I)Z" } : Jvm.MethodName) prog_22_method_7_code (1 : Nat) (Option.some Jvm.ClassFile.FieldType.boolean)) ∈ lw_all := lw_g (lw_at lw_m8 2 rfl) rfl
theorem q1801 : (Jvm.Cond.methodLink "BlushLampsModel" (217 : Nat) ({ cls := "BlushLampsModel", name := "sign", desc := "(III)I" } : Jvm.MethodName)) ∈ lw_all := lw_g (lw_at lw_m8 3 rfl) rfl
theorem q1802 : (Jvm.Cond.privateMethod ({ cls := "BlushLampsModel", name := "sign", desc := "(III)I" } : Jvm.MethodName)) ∈ lw_tbl := lw_at lw_m8 4 rfl
theorem q1803 : (Jvm.Cond.instanceMethod ({ cls := "BlushLampsModel", name := "sign", desc := "(III)I" } : Jvm.MethodName)) ∈ lw_all := lw_g (lw_at lw_m8 5 rfl) rfl
theorem q1804 : (Jvm.Cond.code ({ cls := "BlushLampsModel", name := "sign", desc := "(III)I" } : Jvm.MethodName) prog_22_method_13_code (5 : Nat) (Option.some Jvm.ClassFile.FieldType.int)) ∈ lw_all := lw_g (lw_at lw_m8 6 rfl) rfl
theorem q1805 : (Jvm.Cond.methodLink "BlushLampsModel" (239 : Nat) ({ cls := "BlushLampsModel", name := "is", desc := "(I)Z" } : Jvm.MethodName)) ∈ lw_all := lw_g (lw_at lw_m8 7 rfl) rfl
theorem q1806 : (Jvm.Cond.privateMethod ({ cls := "BlushLampsModel", name := "is", desc := "(I)Z" } : Jvm.MethodName)) ∈ lw_tbl := lw_at lw_m8 8 rfl
theorem q1807 : (Jvm.Cond.instanceMethod ({ cls := "BlushLampsModel", name := "is", desc := "(I)Z" } : Jvm.MethodName)) ∈ lw_all := lw_g (lw_at lw_m8 9 rfl) rfl
theorem q1808 : (Jvm.Cond.code ({ cls := "BlushLampsModel", name := "is", desc := "(I)Z" } : Jvm.MethodName) prog_22_method_14_code (2 : Nat) (Option.some Jvm.ClassFile.FieldType.boolean)) ∈ lw_all := lw_g (lw_at lw_m8 10 rfl) rfl
theorem q1809 : (Jvm.Cond.methodLink "BlushLampsModel" (266 : Nat) ({ cls := "BlushLampsModel", name := "tellOne", desc := "()V" } : Jvm.MethodName)) ∈ lw_all := lw_g (lw_at lw_m8 11 rfl) rfl
theorem q1810 : (Jvm.Cond.privateMethod ({ cls := "BlushLampsModel", name := "tellOne", desc := "()V" } : Jvm.MethodName)) ∈ lw_tbl := lw_at lw_m8 12 rfl
theorem q1811 : (Jvm.Cond.instanceMethod ({ cls := "BlushLampsModel", name := "tellOne", desc := "()V" } : Jvm.MethodName)) ∈ lw_all := lw_g (lw_at lw_m8 13 rfl) rfl
theorem q1812 : (Jvm.Cond.code ({ cls := "BlushLampsModel", name := "tellOne", desc := "()V" } : Jvm.MethodName) prog_22_method_24_code (2 : Nat) (Option.none : Option Jvm.ClassFile.FieldType)) ∈ lw_all := lw_g (lw_at lw_m8 14 rfl) rfl
theorem q1813 : (Jvm.Cond.methodLink "BlushLampsModel" (282 : Nat) ({ cls := "BlushLampsModel", name := "roomFor", desc := "(II)V" } : Jvm.MethodName)) ∈ lw_all := lw_g (lw_at lw_m8 15 rfl) rfl
theorem q1814 : (Jvm.Cond.privateMethod ({ cls := "BlushLampsModel", name := "roomFor", desc := "(II)V" } : Jvm.MethodName)) ∈ lw_tbl := lw_at lw_m8 16 rfl
theorem q1815 : (Jvm.Cond.instanceMethod ({ cls := "BlushLampsModel", name := "roomFor", desc := "(II)V" } : Jvm.MethodName)) ∈ lw_all := lw_g (lw_at lw_m8 17 rfl) rfl
theorem q1816 : (Jvm.Cond.code ({ cls := "BlushLampsModel", name := "roomFor", desc := "(II)V" } : Jvm.MethodName) prog_22_method_22_code (3 : Nat) (Option.none : Option Jvm.ClassFile.FieldType)) ∈ lw_all := lw_g (lw_at lw_m8 18 rfl) rfl
theorem q1817 : (Jvm.Cond.methodLink "BlushLampsModel" (236 : Nat) ({ cls := "BlushLampsModel", name := "fail", desc := "(I)V" } : Jvm.MethodName)) ∈ lw_all := lw_g (lw_at lw_m8 19 rfl) rfl
theorem q1818 : (Jvm.Cond.privateMethod ({ cls := "BlushLampsModel", name := "fail", desc := "(I)V" } : Jvm.MethodName)) ∈ lw_tbl := lw_at lw_m8 20 rfl
theorem q1819 : (Jvm.Cond.instanceMethod ({ cls := "BlushLampsModel", name := "fail", desc := "(I)V" } : Jvm.MethodName)) ∈ lw_all := lw_g (lw_at lw_m8 21 rfl) rfl
theorem q1820 : (Jvm.Cond.code ({ cls := "BlushLampsModel", name := "fail", desc := "(I)V" } : Jvm.MethodName) prog_22_method_15_code (2 : Nat) (Option.none : Option Jvm.ClassFile.FieldType)) ∈ lw_all := lw_g (lw_at lw_m8 22 rfl) rfl
theorem q1821 : (Jvm.Cond.methodLink "BlushLampsModel" (242 : Nat) ({ cls := "BlushLampsModel", name := "goesOn", desc := "()V" } : Jvm.MethodName)) ∈ lw_all := lw_g (lw_at lw_m8 23 rfl) rfl
theorem q1822 : (Jvm.Cond.privateMethod ({ cls := "BlushLampsModel", name := "goesOn", desc := "()V" } : Jvm.MethodName)) ∈ lw_tbl := lw_at lw_m8 24 rfl
theorem q1823 : (Jvm.Cond.instanceMethod ({ cls := "BlushLampsModel", name := "goesOn", desc := "()V" } : Jvm.MethodName)) ∈ lw_all := lw_g (lw_at lw_m8 25 rfl) rfl
theorem q1824 : (Jvm.Cond.code ({ cls := "BlushLampsModel", name := "goesOn", desc := "()V" } : Jvm.MethodName) prog_22_method_17_code (1 : Nat) (Option.none : Option Jvm.ClassFile.FieldType)) ∈ lw_all := lw_g (lw_at lw_m8 26 rfl) rfl
theorem q1825 : (Jvm.Cond.methodLink "BlushLampsModel" (286 : Nat) ({ cls := "BlushLampsModel", name := "named", desc := "()I" } : Jvm.MethodName)) ∈ lw_all := lw_g (lw_at lw_m8 27 rfl) rfl
theorem q1826 : (Jvm.Cond.privateMethod ({ cls := "BlushLampsModel", name := "named", desc := "()I" } : Jvm.MethodName)) ∈ lw_tbl := lw_at lw_m8 28 rfl
theorem q1827 : (Jvm.Cond.instanceMethod ({ cls := "BlushLampsModel", name := "named", desc := "()I" } : Jvm.MethodName)) ∈ lw_all := lw_g (lw_at lw_m8 29 rfl) rfl
theorem q1828 : (Jvm.Cond.code ({ cls := "BlushLampsModel", name := "named", desc := "()I" } : Jvm.MethodName) prog_22_method_25_code (3 : Nat) (Option.some Jvm.ClassFile.FieldType.int)) ∈ lw_all := lw_g (lw_at lw_m8 30 rfl) rfl
theorem q1829 : (Jvm.Cond.methodLink "BlushLampsModel" (279 : Nat) ({ cls := "BlushLampsModel", name := "must", desc := "(I)V" } : Jvm.MethodName)) ∈ lw_all := lw_g (lw_at lw_m8 31 rfl) rfl
theorem q1830 : (Jvm.Cond.privateMethod ({ cls := "BlushLampsModel", name := "must", desc := "(I)V" } : Jvm.MethodName)) ∈ lw_tbl := lw_at lw_m8 32 rfl
theorem q1831 : (Jvm.Cond.instanceMethod ({ cls := "BlushLampsModel", name := "must", desc := "(I)V" } : Jvm.MethodName)) ∈ lw_all := lw_g (lw_at lw_m8 33 rfl) rfl
theorem q1832 : (Jvm.Cond.code ({ cls := "BlushLampsModel", name := "must", desc := "(I)V" } : Jvm.MethodName) prog_22_method_18_code (2 : Nat) (Option.none : Option Jvm.ClassFile.FieldType)) ∈ lw_all := lw_g (lw_at lw_m8 34 rfl) rfl
theorem q1833 : (Jvm.Cond.methodLink "BlushLampsModel" (308 : Nat) ({ cls := "BlushLampsModel", name := "wrong", desc := "(II)V" } : Jvm.MethodName)) ∈ lw_all := lw_g (lw_at lw_m8 35 rfl) rfl
theorem q1834 : (Jvm.Cond.privateMethod ({ cls := "BlushLampsModel", name := "wrong", desc := "(II)V" } : Jvm.MethodName)) ∈ lw_tbl := lw_at lw_m8 36 rfl
theorem q1835 : (Jvm.Cond.instanceMethod ({ cls := "BlushLampsModel", name := "wrong", desc := "(II)V" } : Jvm.MethodName)) ∈ lw_all := lw_g (lw_at lw_m8 37 rfl) rfl
theorem q1836 : (Jvm.Cond.code ({ cls := "BlushLampsModel", name := "wrong", desc := "(II)V" } : Jvm.MethodName) prog_22_method_16_code (4 : Nat) (Option.none : Option Jvm.ClassFile.FieldType)) ∈ lw_all := lw_g (lw_at lw_m8 38 rfl) rfl
theorem q1837 : (Jvm.Cond.methodLink "BlushLampsModel" (290 : Nat) ({ cls := "BlushLampsModel", name := "endsName", desc := "(II)V" } : Jvm.MethodName)) ∈ lw_all := lw_g (lw_at lw_m8 39 rfl) rfl
theorem q1838 : (Jvm.Cond.privateMethod ({ cls := "BlushLampsModel", name := "endsName", desc := "(II)V" } : Jvm.MethodName)) ∈ lw_tbl := lw_at lw_m8 40 rfl
theorem q1839 : (Jvm.Cond.instanceMethod ({ cls := "BlushLampsModel", name := "endsName", desc := "(II)V" } : Jvm.MethodName)) ∈ lw_all := lw_g (lw_at lw_m8 41 rfl) rfl
theorem q1840 : (Jvm.Cond.code ({ cls := "BlushLampsModel", name := "endsName", desc := "(II)V" } : Jvm.MethodName) prog_22_method_26_code (3 : Nat) (Option.none : Option Jvm.ClassFile.FieldType)) ∈ lw_all := lw_g (lw_at lw_m8 42 rfl) rfl
theorem q1841 : (Jvm.Cond.methodLink "BlushLampsModel" (293 : Nat) ({ cls := "BlushLampsModel", name := "tellStreet", desc := "()V" } : Jvm.MethodName)) ∈ lw_all := lw_g (lw_at lw_m8 43 rfl) rfl
theorem q1842 : (Jvm.Cond.privateMethod ({ cls := "BlushLampsModel", name := "tellStreet", desc := "()V" } : Jvm.MethodName)) ∈ lw_tbl := lw_at lw_m8 44 rfl
theorem q1843 : (Jvm.Cond.instanceMethod ({ cls := "BlushLampsModel", name := "tellStreet", desc := "()V" } : Jvm.MethodName)) ∈ lw_all := lw_g (lw_at lw_m8 45 rfl) rfl
theorem q1844 : (Jvm.Cond.code ({ cls := "BlushLampsModel", name := "tellStreet", desc := "()V" } : Jvm.MethodName) prog_22_method_29_code (3 : Nat) (Option.none : Option Jvm.ClassFile.FieldType)) ∈ lw_all := lw_g (lw_at lw_m8 46 rfl) rfl
theorem q1845 : (Jvm.Cond.methodLink "BlushLampsModel" (299 : Nat) ({ cls := "BlushLampsModel", name := "known", desc := "()I" } : Jvm.MethodName)) ∈ lw_all := lw_g (lw_at lw_m8 47 rfl) rfl
theorem q1846 : (Jvm.Cond.privateMethod ({ cls := "BlushLampsModel", name := "known", desc := "()I" } : Jvm.MethodName)) ∈ lw_tbl := lw_at lw_m8 48 rfl
theorem q1847 : (Jvm.Cond.instanceMethod ({ cls := "BlushLampsModel", name := "known", desc := "()I" } : Jvm.MethodName)) ∈ lw_all := lw_g (lw_at lw_m8 49 rfl) rfl
theorem q1848 : (Jvm.Cond.code ({ cls := "BlushLampsModel", name := "known", desc := "()I" } : Jvm.MethodName) prog_22_method_27_code (3 : Nat) (Option.some Jvm.ClassFile.FieldType.int)) ∈ lw_all := lw_g (lw_at lw_m8 50 rfl) rfl
theorem q1849 : (Jvm.Cond.methodLink "BlushLampsModel" (275 : Nat) ({ cls := "BlushLampsModel", name := "bounded", desc := "(II)I" } : Jvm.MethodName)) ∈ lw_all := lw_g (lw_at lw_m8 51 rfl) rfl
theorem q1850 : (Jvm.Cond.privateMethod ({ cls := "BlushLampsModel", name := "bounded", desc := "(II)I" } : Jvm.MethodName)) ∈ lw_tbl := lw_at lw_m8 52 rfl
theorem q1851 : (Jvm.Cond.instanceMethod ({ cls := "BlushLampsModel", name := "bounded", desc := "(II)I" } : Jvm.MethodName)) ∈ lw_all := lw_g (lw_at lw_m8 53 rfl) rfl
theorem q1852 : (Jvm.Cond.code ({ cls := "BlushLampsModel", name := "bounded", desc := "(II)I" } : Jvm.MethodName) prog_22_method_28_code (4 : Nat) (Option.some Jvm.ClassFile.FieldType.int)) ∈ lw_all := lw_g (lw_at lw_m8 54 rfl) rfl
theorem q1853 : (Jvm.Cond.methodLink "BlushLampsModel" (296 : Nat) ({ cls := "BlushLampsModel", name := "tellYoung", desc := "()V" } : Jvm.MethodName)) ∈ lw_all := lw_g (lw_at lw_m8 55 rfl) rfl
theorem q1854 : (Jvm.Cond.privateMethod ({ cls := "BlushLampsModel", name := "tellYoung", desc := "()V" } : Jvm.MethodName)) ∈ lw_tbl := lw_at lw_m8 56 rfl
theorem q1855 : (Jvm.Cond.instanceMethod ({ cls := "BlushLampsModel", name := "tellYoung", desc := "()V" } : Jvm.MethodName)) ∈ lw_all := lw_g (lw_at lw_m8 57 rfl) rfl
theorem q1856 : (Jvm.Cond.code ({ cls := "BlushLampsModel", name := "tellYoung", desc := "()V" } : Jvm.MethodName) prog_22_method_30_code (3 : Nat) (Option.none : Option Jvm.ClassFile.FieldType)) ∈ lw_all := lw_g (lw_at lw_m8 58 rfl) rfl
theorem q1857 : (Jvm.Cond.methodLink "BlushLampsModel" (302 : Nat) ({ cls := "BlushLampsModel", name := "toldInt", desc := "(I)I" } : Jvm.MethodName)) ∈ lw_all := lw_g (lw_at lw_m8 59 rfl) rfl
theorem q1858 : (Jvm.Cond.privateMethod ({ cls := "BlushLampsModel", name := "toldInt", desc := "(I)I" } : Jvm.MethodName)) ∈ lw_tbl := lw_at lw_m8 60 rfl
theorem q1859 : (Jvm.Cond.instanceMethod ({ cls := "BlushLampsModel", name := "toldInt", desc := "(I)I" } : Jvm.MethodName)) ∈ lw_all := lw_g (lw_at lw_m8 61 rfl) rfl
theorem q1860 : (Jvm.Cond.code ({ cls := "BlushLampsModel", name := "toldInt", desc := "(I)I" } : Jvm.MethodName) prog_22_method_23_code (3 : Nat) (Option.some Jvm.ClassFile.FieldType.int)) ∈ lw_all := lw_g (lw_at lw_m8 62 rfl) rfl
theorem q1861 : (Jvm.Cond.methodLink "BlushLampsModel" (305 : Nat) ({ cls := "BlushLampsModel", name := "tellLaw", desc := "(I)V" } : Jvm.MethodName)) ∈ lw_all := lw_g (lw_at lw_m8 63 rfl) rfl
theorem q1862 : (Jvm.Cond.privateMethod ({ cls := "BlushLampsModel", name := "tellLaw", desc := "(I)V" } : Jvm.MethodName)) ∈ lw_tbl := lw_at lw_m8 64 rfl
theorem q1863 : (Jvm.Cond.instanceMethod ({ cls := "BlushLampsModel", name := "tellLaw", desc := "(I)V" } : Jvm.MethodName)) ∈ lw_all := lw_g (lw_at lw_m8 65 rfl) rfl
theorem q1864 : (Jvm.Cond.code ({ cls := "BlushLampsModel", name := "tellLaw", desc := "(I)V" } : Jvm.MethodName) prog_22_method_31_code (4 : Nat) (Option.none : Option Jvm.ClassFile.FieldType)) ∈ lw_all := lw_g (lw_at lw_m8 66 rfl) rfl
theorem q1865 : (Jvm.Cond.methodLink "BlushLampsModel" (311 : Nat) ({ cls := "BlushLampsModel", name := "expression", desc := "()V" } : Jvm.MethodName)) ∈ lw_all := lw_g (lw_at lw_m8 67 rfl) rfl
theorem q1866 : (Jvm.Cond.privateMethod ({ cls := "BlushLampsModel", name := "expression", desc := "()V" } : Jvm.MethodName)) ∈ lw_tbl := lw_at lw_m8 68 rfl
theorem q1867 : (Jvm.Cond.instanceMethod ({ cls := "BlushLampsModel", name := "expression", desc := "()V" } : Jvm.MethodName)) ∈ lw_all := lw_g (lw_at lw_m8 69 rfl) rfl
theorem q1868 : (Jvm.Cond.code ({ cls := "BlushLampsModel", name := "expression", desc := "()V" } : Jvm.MethodName) prog_22_method_35_code (3 : Nat) (Option.none : Option Jvm.ClassFile.FieldType)) ∈ lw_all := lw_g (lw_at lw_m8 70 rfl) rfl
theorem q1869 : (Jvm.Cond.methodLink "BlushLampsModel" (323 : Nat) ({ cls := "BlushLampsModel", name := "unit", desc := "()V" } : Jvm.MethodName)) ∈ lw_all := lw_g (lw_at lw_m8 71 rfl) rfl
theorem q1870 : (Jvm.Cond.privateMethod ({ cls := "BlushLampsModel", name := "unit", desc := "()V" } : Jvm.MethodName)) ∈ lw_tbl := lw_at lw_m8 72 rfl
theorem q1871 : (Jvm.Cond.instanceMethod ({ cls := "BlushLampsModel", name := "unit", desc := "()V" } : Jvm.MethodName)) ∈ lw_all := lw_g (lw_at lw_m8 73 rfl) rfl
theorem q1872 : (Jvm.Cond.code ({ cls := "BlushLampsModel", name := "unit", desc := "()V" } : Jvm.MethodName) prog_22_method_36_code (1 : Nat) (Option.none : Option Jvm.ClassFile.FieldType)) ∈ lw_all := lw_g (lw_at lw_m8 74 rfl) rfl
theorem q1873 : (Jvm.Cond.methodLink "BlushLampsModel" (320 : Nat) ({ cls := "BlushLampsModel", name := "emit", desc := "(II)V" } : Jvm.MethodName)) ∈ lw_all := lw_g (lw_at lw_m8 75 rfl) rfl
theorem q1874 : (Jvm.Cond.privateMethod ({ cls := "BlushLampsModel", name := "emit", desc := "(II)V" } : Jvm.MethodName)) ∈ lw_tbl := lw_at lw_m8 76 rfl
theorem q1875 : (Jvm.Cond.instanceMethod ({ cls := "BlushLampsModel", name := "emit", desc := "(II)V" } : Jvm.MethodName)) ∈ lw_all := lw_g (lw_at lw_m8 77 rfl) rfl
theorem q1876 : (Jvm.Cond.code ({ cls := "BlushLampsModel", name := "emit", desc := "(II)V" } : Jvm.MethodName) prog_22_method_33_code (3 : Nat) (Option.none : Option Jvm.ClassFile.FieldType)) ∈ lw_all := lw_g (lw_at lw_m8 78 rfl) rfl
theorem q1877 : (Jvm.Cond.methodLink "BlushLampsModel" (326 : Nat) ({ cls := "BlushLampsModel", name := "comesOut", desc := "(Z)V" } : Jvm.MethodName)) ∈ lw_all := lw_g (lw_at lw_m8 79 rfl) rfl
theorem q1878 : (Jvm.Cond.privateMethod ({ cls := "BlushLampsModel", name := "comesOut", desc := "(Z)V" } : Jvm.MethodName)) ∈ lw_tbl := lw_at lw_m8 80 rfl
theorem q1879 : (Jvm.Cond.instanceMethod ({ cls := "BlushLampsModel", name := "comesOut", desc := "(Z)V" } : Jvm.MethodName)) ∈ lw_all := lw_g (lw_at lw_m8 81 rfl) rfl
theorem q1880 : (Jvm.Cond.code ({ cls := "BlushLampsModel", name := "comesOut", desc := "(Z)V" } : Jvm.MethodName) prog_22_method_34_code (3 : Nat) (Option.none : Option Jvm.ClassFile.FieldType)) ∈ lw_all := lw_g (lw_at lw_m8 82 rfl) rfl
theorem q1881 : (Jvm.Cond.methodLink "BlushLampsModel" (314 : Nat) ({ cls := "BlushLampsModel", name := "term", desc := "()V" } : Jvm.MethodName)) ∈ lw_all := lw_g (lw_at lw_m8 83 rfl) rfl
theorem q1882 : (Jvm.Cond.privateMethod ({ cls := "BlushLampsModel", name := "term", desc := "()V" } : Jvm.MethodName)) ∈ lw_tbl := lw_at lw_m8 84 rfl
theorem q1883 : (Jvm.Cond.instanceMethod ({ cls := "BlushLampsModel", name := "term", desc := "()V" } : Jvm.MethodName)) ∈ lw_all := lw_g (lw_at lw_m8 85 rfl) rfl
theorem q1884 : (Jvm.Cond.code ({ cls := "BlushLampsModel", name := "term", desc := "()V" } : Jvm.MethodName) prog_22_method_32_code (1 : Nat) (Option.none : Option Jvm.ClassFile.FieldType)) ∈ lw_all := lw_g (lw_at lw_m8 86 rfl) rfl
theorem q1886 : (Jvm.Cond.instanceMethod ({ cls := "BlushLampsModel", name := "place", desc := "()I" } : Jvm.MethodName)) ∈ lw_all := lw_g (lw_at lw_m8 88 rfl) rfl
theorem q1887 : (Jvm.Cond.selects "BlushLampsModel" ({ cls := "BlushLampsModel", name := "place", desc := "()I" } : Jvm.MethodName) ({ cls := "BlushLampsModel", name := "place", desc := "()I" } : Jvm.MethodName)) ∈ lw_all := lw_g (lw_at lw_m8 89 rfl) rfl
theorem q1888 : (Jvm.Cond.code ({ cls := "BlushLampsModel", name := "place", desc := "()I" } : Jvm.MethodName) prog_22_method_21_code (1 : Nat) (Option.some Jvm.ClassFile.FieldType.int)) ∈ lw_all := lw_g (lw_at lw_m8 90 rfl) rfl
theorem q1890 : (Jvm.Cond.instanceMethod ({ cls := "BlushLampsModel", name := "corner", desc := "(II)I" } : Jvm.MethodName)) ∈ lw_all := lw_g (lw_at lw_m8 92 rfl) rfl
theorem q1891 : (Jvm.Cond.selects "BlushLampsModel" ({ cls := "BlushLampsModel", name := "corner", desc := "(II)I" } : Jvm.MethodName) ({ cls := "BlushLampsModel", name := "corner", desc := "(II)I" } : Jvm.MethodName)) ∈ lw_all := lw_g (lw_at lw_m8 93 rfl) rfl
theorem q1892 : (Jvm.Cond.code ({ cls := "BlushLampsModel", name := "corner", desc := "(II)I" } : Jvm.MethodName) prog_22_method_65_code (3 : Nat) (Option.some Jvm.ClassFile.FieldType.int)) ∈ lw_all := lw_g (lw_at lw_m8 94 rfl) rfl
theorem q1893 : (Jvm.Cond.methodLink "BlushLampsModel" (392 : Nat) ({ cls := "BlushLampsModel", name := "isCorner", desc := "(I)Z" } : Jvm.MethodName)) ∈ lw_all := lw_g (lw_at lw_m8 95 rfl) rfl
theorem q1894 : (Jvm.Cond.privateMethod ({ cls := "BlushLampsModel", name := "isCorner", desc := "(I)Z" } : Jvm.MethodName)) ∈ lw_tbl := lw_at lw_m8 96 rfl
theorem q1895 : (Jvm.Cond.instanceMethod ({ cls := "BlushLampsModel", name := "isCorner", desc := "(I)Z" } : Jvm.MethodName)) ∈ lw_all := lw_g (lw_at lw_m8 97 rfl) rfl
theorem q1896 : (Jvm.Cond.code ({ cls := "BlushLampsModel", name := "isCorner", desc := "(I)Z" } : Jvm.MethodName) prog_22_method_41_code (2 : Nat) (Option.some Jvm.ClassFile.FieldType.boolean)) ∈ lw_all := lw_g (lw_at lw_m8 98 rfl) rfl
theorem q1897 : (Jvm.Cond.methodLink "BlushLampsModel" (334 : Nat) ({ cls := "BlushLampsModel", name := "in", desc := "(III)Z" } : Jvm.MethodName)) ∈ lw_all := lw_g (lw_at lw_m8 99 rfl) rfl
theorem q1898 : (Jvm.Cond.static ({ cls := "BlushLampsModel", name := "in", desc := "(III)Z" } : Jvm.MethodName)) ∈ lw_all := lw_g (lw_at lw_m8 100 rfl) rfl
theorem q1899 : (Jvm.Cond.code ({ cls := "BlushLampsModel", name := "in", desc := "(III)Z" } : Jvm.MethodName) prog_22_method_38_code (3 : Nat) (Option.some Jvm.ClassFile.FieldType.boolean)) ∈ lw_all := lw_g (lw_at lw_m8 101 rfl) rfl
theorem q1900 : (Jvm.Cond.methodLink "BlushLampsModel" (347 : Nat) ({ cls := "BlushLampsModel", name := "copies", desc := "()V" } : Jvm.MethodName)) ∈ lw_all := lw_g (lw_at lw_m8 102 rfl) rfl
theorem q1901 : (Jvm.Cond.privateMethod ({ cls := "BlushLampsModel", name := "copies", desc := "()V" } : Jvm.MethodName)) ∈ lw_tbl := lw_at lw_m8 103 rfl
theorem q1902 : (Jvm.Cond.instanceMethod ({ cls := "BlushLampsModel", name := "copies", desc := "()V" } : Jvm.MethodName)) ∈ lw_all := lw_g (lw_at lw_m8 104 rfl) rfl
theorem q1903 : (Jvm.Cond.code ({ cls := "BlushLampsModel", name := "copies", desc := "()V" } : Jvm.MethodName) prog_22_method_48_code (2 : Nat) (Option.none : Option Jvm.ClassFile.FieldType)) ∈ lw_all := lw_g (lw_at lw_m8 105 rfl) rfl
theorem q1904 : (Jvm.Cond.methodLink "BlushLampsModel" (389 : Nat) ({ cls := "BlushLampsModel", name := "lightAt", desc := "(I)I" } : Jvm.MethodName)) ∈ lw_all := lw_g (lw_at lw_m8 106 rfl) rfl
theorem q1905 : (Jvm.Cond.privateMethod ({ cls := "BlushLampsModel", name := "lightAt", desc := "(I)I" } : Jvm.MethodName)) ∈ lw_tbl := lw_at lw_m8 107 rfl
theorem q1906 : (Jvm.Cond.instanceMethod ({ cls := "BlushLampsModel", name := "lightAt", desc := "(I)I" } : Jvm.MethodName)) ∈ lw_all := lw_g (lw_at lw_m8 108 rfl) rfl
theorem q1907 : (Jvm.Cond.code ({ cls := "BlushLampsModel", name := "lightAt", desc := "(I)I" } : Jvm.MethodName) prog_22_method_62_code (4 : Nat) (Option.some Jvm.ClassFile.FieldType.int)) ∈ lw_all := lw_g (lw_at lw_m8 109 rfl) rfl
theorem q1908 : (Jvm.Cond.methodLink "BlushLampsModel" (395 : Nat) ({ cls := "BlushLampsModel", name := "outAt", desc := "(I)I" } : Jvm.MethodName)) ∈ lw_all := lw_g (lw_at lw_m8 110 rfl) rfl
theorem q1909 : (Jvm.Cond.privateMethod ({ cls := "BlushLampsModel", name := "outAt", desc := "(I)I" } : Jvm.MethodName)) ∈ lw_tbl := lw_at lw_m8 111 rfl
theorem q1910 : (Jvm.Cond.instanceMethod ({ cls := "BlushLampsModel", name := "outAt", desc := "(I)I" } : Jvm.MethodName)) ∈ lw_all := lw_g (lw_at lw_m8 112 rfl) rfl
theorem q1911 : (Jvm.Cond.code ({ cls := "BlushLampsModel", name := "outAt", desc := "(I)I" } : Jvm.MethodName) prog_22_method_66_code (4 : Nat) (Option.some Jvm.ClassFile.FieldType.int)) ∈ lw_all := lw_g (lw_at lw_m8 113 rfl) rfl
theorem q1912 : (Jvm.Cond.methodLink "BlushLampsModel" (398 : Nat) ({ cls := "BlushLampsModel", name := "streetsAt", desc := "(I)I" } : Jvm.MethodName)) ∈ lw_all := lw_g (lw_at lw_m8 114 rfl) rfl
theorem q1913 : (Jvm.Cond.privateMethod ({ cls := "BlushLampsModel", name := "streetsAt", desc := "(I)I" } : Jvm.MethodName)) ∈ lw_tbl := lw_at lw_m8 115 rfl
theorem q1914 : (Jvm.Cond.instanceMethod ({ cls := "BlushLampsModel", name := "streetsAt", desc := "(I)I" } : Jvm.MethodName)) ∈ lw_all := lw_g (lw_at lw_m8 116 rfl) rfl
theorem q1915 : (Jvm.Cond.code ({ cls := "BlushLampsModel", name := "streetsAt", desc := "(I)I" } : Jvm.MethodName) prog_22_method_69_code (4 : Nat) (Option.some Jvm.ClassFile.FieldType.int)) ∈ lw_all := lw_g (lw_at lw_m8 117 rfl) rfl
theorem q1916 : (Jvm.Cond.methodLink "BlushLampsModel" (401 : Nat) ({ cls := "BlushLampsModel", name := "isEnd", desc := "(II)Z" } : Jvm.MethodName)) ∈ lw_all := lw_g (lw_at lw_m8 118 rfl) rfl
theorem q1917 : (Jvm.Cond.privateMethod ({ cls := "BlushLampsModel", name := "isEnd", desc := "(II)Z" } : Jvm.MethodName)) ∈ lw_tbl := lw_at lw_m8 119 rfl
theorem q1918 : (Jvm.Cond.instanceMethod ({ cls := "BlushLampsModel", name := "isEnd", desc := "(II)Z" } : Jvm.MethodName)) ∈ lw_all := lw_g (lw_at lw_m8 120 rfl) rfl
theorem q1919 : (Jvm.Cond.code ({ cls := "BlushLampsModel", name := "isEnd", desc := "(II)Z" } : Jvm.MethodName) prog_22_method_67_code (3 : Nat) (Option.some Jvm.ClassFile.FieldType.boolean)) ∈ lw_all := lw_g (lw_at lw_m8 121 rfl) rfl
theorem q1921 : (Jvm.Cond.instanceMethod ({ cls := "BlushLampsModel", name := "street", desc := "(II)I" } : Jvm.MethodName)) ∈ lw_all := lw_g (lw_at lw_m8 123 rfl) rfl
theorem q1922 : (Jvm.Cond.selects "BlushLampsModel" ({ cls := "BlushLampsModel", name := "street", desc := "(II)I" } : Jvm.MethodName) ({ cls := "BlushLampsModel", name := "street", desc := "(II)I" } : Jvm.MethodName)) ∈ lw_all := lw_g (lw_at lw_m8 124 rfl) rfl
theorem q1923 : (Jvm.Cond.code ({ cls := "BlushLampsModel", name := "street", desc := "(II)I" } : Jvm.MethodName) prog_22_method_70_code (3 : Nat) (Option.some Jvm.ClassFile.FieldType.int)) ∈ lw_all := lw_g (lw_at lw_m8 125 rfl) rfl
theorem q1924 : (Jvm.Cond.methodLink "BlushLampsModel" (405 : Nat) ({ cls := "BlushLampsModel", name := "isStreet", desc := "(I)Z" } : Jvm.MethodName)) ∈ lw_all := lw_g (lw_at lw_m8 126 rfl) rfl
theorem q1925 : (Jvm.Cond.privateMethod ({ cls := "BlushLampsModel", name := "isStreet", desc := "(I)Z" } : Jvm.MethodName)) ∈ lw_tbl := lw_at lw_m8 127 rfl
theorem q1926 : (Jvm.Cond.instanceMethod ({ cls := "BlushLampsModel", name := "isStreet", desc := "(I)Z" } : Jvm.MethodName)) ∈ lw_all := lw_g (lw_at lw_m8 128 rfl) rfl
theorem q1927 : (Jvm.Cond.code ({ cls := "BlushLampsModel", name := "isStreet", desc := "(I)Z" } : Jvm.MethodName) prog_22_method_42_code (2 : Nat) (Option.some Jvm.ClassFile.FieldType.boolean)) ∈ lw_all := lw_g (lw_at lw_m8 129 rfl) rfl
theorem q1928 : (Jvm.Cond.methodLink "BlushLampsModel" (408 : Nat) ({ cls := "BlushLampsModel", name := "needsOf", desc := "(I)I" } : Jvm.MethodName)) ∈ lw_all := lw_g (lw_at lw_m8 130 rfl) rfl
theorem q1929 : (Jvm.Cond.privateMethod ({ cls := "BlushLampsModel", name := "needsOf", desc := "(I)I" } : Jvm.MethodName)) ∈ lw_tbl := lw_at lw_m8 131 rfl
theorem q1930 : (Jvm.Cond.instanceMethod ({ cls := "BlushLampsModel", name := "needsOf", desc := "(I)I" } : Jvm.MethodName)) ∈ lw_all := lw_g (lw_at lw_m8 132 rfl) rfl
theorem q1931 : (Jvm.Cond.code ({ cls := "BlushLampsModel", name := "needsOf", desc := "(I)I" } : Jvm.MethodName) prog_22_method_63_code (4 : Nat) (Option.some Jvm.ClassFile.FieldType.int)) ∈ lw_all := lw_g (lw_at lw_m8 133 rfl) rfl
theorem q1933 : (Jvm.Cond.instanceMethod ({ cls := "BlushLampsModel", name := "young", desc := "(II)I" } : Jvm.MethodName)) ∈ lw_all := lw_g (lw_at lw_m8 135 rfl) rfl
theorem q1934 : (Jvm.Cond.selects "BlushLampsModel" ({ cls := "BlushLampsModel", name := "young", desc := "(II)I" } : Jvm.MethodName) ({ cls := "BlushLampsModel", name := "young", desc := "(II)I" } : Jvm.MethodName)) ∈ lw_all := lw_g (lw_at lw_m8 136 rfl) rfl
theorem q1935 : (Jvm.Cond.code ({ cls := "BlushLampsModel", name := "young", desc := "(II)I" } : Jvm.MethodName) prog_22_method_71_code (3 : Nat) (Option.some Jvm.ClassFile.FieldType.int)) ∈ lw_all := lw_g (lw_at lw_m8 137 rfl) rfl
theorem q1936 : (Jvm.Cond.methodLink "BlushLampsModel" (338 : Nat) ({ cls := "BlushLampsModel", name := "isYoung", desc := "(I)Z" } : Jvm.MethodName)) ∈ lw_all := lw_g (lw_at lw_m8 138 rfl) rfl
theorem q1937 : (Jvm.Cond.privateMethod ({ cls := "BlushLampsModel", name := "isYoung", desc := "(I)Z" } : Jvm.MethodName)) ∈ lw_tbl := lw_at lw_m8 139 rfl
theorem q1938 : (Jvm.Cond.instanceMethod ({ cls := "BlushLampsModel", name := "isYoung", desc := "(I)Z" } : Jvm.MethodName)) ∈ lw_all := lw_g (lw_at lw_m8 140 rfl) rfl
theorem q1939 : (Jvm.Cond.code ({ cls := "BlushLampsModel", name := "isYoung", desc := "(I)Z" } : Jvm.MethodName) prog_22_method_43_code (2 : Nat) (Option.some Jvm.ClassFile.FieldType.boolean)) ∈ lw_all := lw_g (lw_at lw_m8 141 rfl) rfl
theorem q1940 : (Jvm.Cond.methodLink "BlushLampsModel" (376 : Nat) ({ cls := "BlushLampsModel", name := "coolsOf", desc := "(I)I" } : Jvm.MethodName)) ∈ lw_all := lw_g (lw_at lw_m8 142 rfl) rfl
theorem q1941 : (Jvm.Cond.privateMethod ({ cls := "BlushLampsModel", name := "coolsOf", desc := "(I)I" } : Jvm.MethodName)) ∈ lw_tbl := lw_at lw_m8 143 rfl
theorem q1942 : (Jvm.Cond.instanceMethod ({ cls := "BlushLampsModel", name := "coolsOf", desc := "(I)I" } : Jvm.MethodName)) ∈ lw_all := lw_g (lw_at lw_m8 144 rfl) rfl
theorem q1943 : (Jvm.Cond.code ({ cls := "BlushLampsModel", name := "coolsOf", desc := "(I)I" } : Jvm.MethodName) prog_22_method_57_code (2 : Nat) (Option.some Jvm.ClassFile.FieldType.int)) ∈ lw_all := lw_g (lw_at lw_m8 145 rfl) rfl
theorem q1944 : (Jvm.Cond.methodLink "BlushLampsModel" (360 : Nat) ({ cls := "BlushLampsModel", name := "looks", desc := "(III)V" } : Jvm.MethodName)) ∈ lw_all := lw_g (lw_at lw_m8 146 rfl) rfl
theorem q1945 : (Jvm.Cond.privateMethod ({ cls := "BlushLampsModel", name := "looks", desc := "(III)V" } : Jvm.MethodName)) ∈ lw_tbl := lw_at lw_m8 147 rfl
theorem q1946 : (Jvm.Cond.instanceMethod ({ cls := "BlushLampsModel", name := "looks", desc := "(III)V" } : Jvm.MethodName)) ∈ lw_all := lw_g (lw_at lw_m8 148 rfl) rfl
theorem q1947 : (Jvm.Cond.code ({ cls := "BlushLampsModel", name := "looks", desc := "(III)V" } : Jvm.MethodName) prog_22_method_54_code (4 : Nat) (Option.none : Option Jvm.ClassFile.FieldType)) ∈ lw_all := lw_g (lw_at lw_m8 149 rfl) rfl
theorem q1948 : (Jvm.Cond.methodLink "BlushLampsModel" (364 : Nat) ({ cls := "BlushLampsModel", name := "lawTells", desc := "(II)I" } : Jvm.MethodName)) ∈ lw_all := lw_g (lw_at lw_m8 150 rfl) rfl
theorem q1949 : (Jvm.Cond.privateMethod ({ cls := "BlushLampsModel", name := "lawTells", desc := "(II)I" } : Jvm.MethodName)) ∈ lw_tbl := lw_at lw_m8 151 rfl
theorem q1950 : (Jvm.Cond.instanceMethod ({ cls := "BlushLampsModel", name := "lawTells", desc := "(II)I" } : Jvm.MethodName)) ∈ lw_all := lw_g (lw_at lw_m8 152 rfl) rfl
theorem q1951 : (Jvm.Cond.code ({ cls := "BlushLampsModel", name := "lawTells", desc := "(II)I" } : Jvm.MethodName) prog_22_method_53_code (7 : Nat) (Option.some Jvm.ClassFile.FieldType.int)) ∈ lw_all := lw_g (lw_at lw_m8 153 rfl) rfl
theorem q1952 : (Jvm.Cond.methodLink "BlushLampsModel" (357 : Nat) ({ cls := "BlushLampsModel", name := "termOf", desc := "(II)I" } : Jvm.MethodName)) ∈ lw_all := lw_g (lw_at lw_m8 154 rfl) rfl
theorem q1953 : (Jvm.Cond.privateMethod ({ cls := "BlushLampsModel", name := "termOf", desc := "(II)I" } : Jvm.MethodName)) ∈ lw_tbl := lw_at lw_m8 155 rfl
theorem q1954 : (Jvm.Cond.instanceMethod ({ cls := "BlushLampsModel", name := "termOf", desc := "(II)I" } : Jvm.MethodName)) ∈ lw_all := lw_g (lw_at lw_m8 156 rfl) rfl
theorem q1955 : (Jvm.Cond.code ({ cls := "BlushLampsModel", name := "termOf", desc := "(II)I" } : Jvm.MethodName) prog_22_method_37_code (8 : Nat) (Option.some Jvm.ClassFile.FieldType.int)) ∈ lw_all := lw_g (lw_at lw_m8 157 rfl) rfl
theorem q1956 : (Jvm.Cond.methodLink "BlushLampsModel" (367 : Nat) ({ cls := "BlushLampsModel", name := "within", desc := "(III)I" } : Jvm.MethodName)) ∈ lw_all := lw_g (lw_at lw_m8 158 rfl) rfl
theorem q1957 : (Jvm.Cond.static ({ cls := "BlushLampsModel", name := "within", desc := "(III)I" } : Jvm.MethodName)) ∈ lw_all := lw_g (lw_at lw_m8 159 rfl) rfl
theorem q1958 : (Jvm.Cond.code ({ cls := "BlushLampsModel", name := "within", desc := "(III)I" } : Jvm.MethodName) prog_22_method_39_code (3 : Nat) (Option.some Jvm.ClassFile.FieldType.int)) ∈ lw_all := lw_g (lw_at lw_m8 160 rfl) rfl
theorem q1959 : (Jvm.Cond.methodLink "BlushLampsModel" (379 : Nat) ({ cls := "BlushLampsModel", name := "doesLeave", desc := "(I)Z" } : Jvm.MethodName)) ∈ lw_all := lw_g (lw_at lw_m8 161 rfl) rfl
theorem q1960 : (Jvm.Cond.privateMethod ({ cls := "BlushLampsModel", name := "doesLeave", desc := "(I)Z" } : Jvm.MethodName)) ∈ lw_tbl := lw_at lw_m8 162 rfl
theorem q1961 : (Jvm.Cond.instanceMethod ({ cls := "BlushLampsModel", name := "doesLeave", desc := "(I)Z" } : Jvm.MethodName)) ∈ lw_all := lw_g (lw_at lw_m8 163 rfl) rfl
theorem q1962 : (Jvm.Cond.code ({ cls := "BlushLampsModel", name := "doesLeave", desc := "(I)Z" } : Jvm.MethodName) prog_22_method_58_code (2 : Nat) (Option.some Jvm.ClassFile.FieldType.boolean)) ∈ lw_all := lw_g (lw_at lw_m8 164 rfl) rfl
theorem q1964 : (Jvm.Cond.instanceMethod ({ cls := "BlushLampsModel", name := "word", desc := "(II)I" } : Jvm.MethodName)) ∈ lw_all := lw_g (lw_at lw_m8 166 rfl) rfl
theorem q1965 : (Jvm.Cond.selects "BlushLampsModel" ({ cls := "BlushLampsModel", name := "word", desc := "(II)I" } : Jvm.MethodName) ({ cls := "BlushLampsModel", name := "word", desc := "(II)I" } : Jvm.MethodName)) ∈ lw_all := lw_g (lw_at lw_m8 167 rfl) rfl
theorem q1966 : (Jvm.Cond.code ({ cls := "BlushLampsModel", name := "word", desc := "(II)I" } : Jvm.MethodName) prog_22_method_72_code (3 : Nat) (Option.some Jvm.ClassFile.FieldType.int)) ∈ lw_all := lw_g (lw_at lw_m8 168 rfl) rfl
theorem q1967 : (Jvm.Cond.methodLink "BlushLampsModel" (411 : Nat) ({ cls := "BlushLampsModel", name := "isWord", desc := "(I)Z" } : Jvm.MethodName)) ∈ lw_all := lw_g (lw_at lw_m8 169 rfl) rfl
theorem q1968 : (Jvm.Cond.privateMethod ({ cls := "BlushLampsModel", name := "isWord", desc := "(I)Z" } : Jvm.MethodName)) ∈ lw_tbl := lw_at lw_m8 170 rfl
theorem q1969 : (Jvm.Cond.instanceMethod ({ cls := "BlushLampsModel", name := "isWord", desc := "(I)Z" } : Jvm.MethodName)) ∈ lw_all := lw_g (lw_at lw_m8 171 rfl) rfl
theorem q1970 : (Jvm.Cond.code ({ cls := "BlushLampsModel", name := "isWord", desc := "(I)Z" } : Jvm.MethodName) prog_22_method_44_code (2 : Nat) (Option.some Jvm.ClassFile.FieldType.boolean)) ∈ lw_all := lw_g (lw_at lw_m8 172 rfl) rfl
theorem q1972 : (Jvm.Cond.instanceMethod ({ cls := "BlushLampsModel", name := "tells", desc := "(III)I" } : Jvm.MethodName)) ∈ lw_all := lw_g (lw_at lw_m8 174 rfl) rfl
theorem q1973 : (Jvm.Cond.selects "BlushLampsModel" ({ cls := "BlushLampsModel", name := "tells", desc := "(III)I" } : Jvm.MethodName) ({ cls := "BlushLampsModel", name := "tells", desc := "(III)I" } : Jvm.MethodName)) ∈ lw_all := lw_g (lw_at lw_m8 175 rfl) rfl
theorem q1974 : (Jvm.Cond.code ({ cls := "BlushLampsModel", name := "tells", desc := "(III)I" } : Jvm.MethodName) prog_22_method_73_code (4 : Nat) (Option.some Jvm.ClassFile.FieldType.int)) ∈ lw_all := lw_g (lw_at lw_m8 176 rfl) rfl
theorem q1975 : (Jvm.Cond.methodLink "BlushLampsModel" (370 : Nat) ({ cls := "BlushLampsModel", name := "glowsOf", desc := "(II)I" } : Jvm.MethodName)) ∈ lw_all := lw_g (lw_at lw_m8 177 rfl) rfl
theorem q1976 : (Jvm.Cond.privateMethod ({ cls := "BlushLampsModel", name := "glowsOf", desc := "(II)I" } : Jvm.MethodName)) ∈ lw_tbl := lw_at lw_m8 178 rfl
theorem q1977 : (Jvm.Cond.instanceMethod ({ cls := "BlushLampsModel", name := "glowsOf", desc := "(II)I" } : Jvm.MethodName)) ∈ lw_all := lw_g (lw_at lw_m8 179 rfl) rfl
theorem q1978 : (Jvm.Cond.code ({ cls := "BlushLampsModel", name := "glowsOf", desc := "(II)I" } : Jvm.MethodName) prog_22_method_55_code (3 : Nat) (Option.some Jvm.ClassFile.FieldType.int)) ∈ lw_all := lw_g (lw_at lw_m8 180 rfl) rfl
theorem q1979 : (Jvm.Cond.methodLink "BlushLampsModel" (373 : Nat) ({ cls := "BlushLampsModel", name := "wearsOf", desc := "(II)I" } : Jvm.MethodName)) ∈ lw_all := lw_g (lw_at lw_m8 181 rfl) rfl
theorem q1980 : (Jvm.Cond.privateMethod ({ cls := "BlushLampsModel", name := "wearsOf", desc := "(II)I" } : Jvm.MethodName)) ∈ lw_tbl := lw_at lw_m8 182 rfl
theorem q1981 : (Jvm.Cond.instanceMethod ({ cls := "BlushLampsModel", name := "wearsOf", desc := "(II)I" } : Jvm.MethodName)) ∈ lw_all := lw_g (lw_at lw_m8 183 rfl) rfl
theorem q1982 : (Jvm.Cond.code ({ cls := "BlushLampsModel", name := "wearsOf", desc := "(II)I" } : Jvm.MethodName) prog_22_method_56_code (3 : Nat) (Option.some Jvm.ClassFile.FieldType.int)) ∈ lw_all := lw_g (lw_at lw_m8 184 rfl) rfl
theorem q1984 : (Jvm.Cond.instanceMethod ({ cls := "BlushLampsModel", name := "step", desc := "(I)I" } : Jvm.MethodName)) ∈ lw_all := lw_g (lw_at lw_m8 186 rfl) rfl
theorem q1985 : (Jvm.Cond.selects "BlushLampsModel" ({ cls := "BlushLampsModel", name := "step", desc := "(I)I" } : Jvm.MethodName) ({ cls := "BlushLampsModel", name := "step", desc := "(I)I" } : Jvm.MethodName)) ∈ lw_all := lw_g (lw_at lw_m8 187 rfl) rfl
theorem q1986 : (Jvm.Cond.code ({ cls := "BlushLampsModel", name := "step", desc := "(I)I" } : Jvm.MethodName) prog_22_method_75_code (2 : Nat) (Option.some Jvm.ClassFile.FieldType.int)) ∈ lw_all := lw_g (lw_at lw_m8 188 rfl) rfl
theorem q1987 : (Jvm.Cond.methodLink "BlushLampsModel" (414 : Nat) ({ cls := "BlushLampsModel", name := "otherEnd", desc := "(II)I" } : Jvm.MethodName)) ∈ lw_all := lw_g (lw_at lw_m8 189 rfl) rfl
theorem q1988 : (Jvm.Cond.privateMethod ({ cls := "BlushLampsModel", name := "otherEnd", desc := "(II)I" } : Jvm.MethodName)) ∈ lw_tbl := lw_at lw_m8 190 rfl
theorem q1989 : (Jvm.Cond.instanceMethod ({ cls := "BlushLampsModel", name := "otherEnd", desc := "(II)I" } : Jvm.MethodName)) ∈ lw_all := lw_g (lw_at lw_m8 191 rfl) rfl
theorem q1990 : (Jvm.Cond.code ({ cls := "BlushLampsModel", name := "otherEnd", desc := "(II)I" } : Jvm.MethodName) prog_22_method_68_code (3 : Nat) (Option.some Jvm.ClassFile.FieldType.int)) ∈ lw_all := lw_g (lw_at lw_m8 192 rfl) rfl
theorem q1991 : (Jvm.Cond.methodLink "BlushLampsModel" (386 : Nat) ({ cls := "BlushLampsModel", name := "hourGoes", desc := "()V" } : Jvm.MethodName)) ∈ lw_all := lw_g (lw_at lw_m8 193 rfl) rfl
theorem q1992 : (Jvm.Cond.privateMethod ({ cls := "BlushLampsModel", name := "hourGoes", desc := "()V" } : Jvm.MethodName)) ∈ lw_tbl := lw_at lw_m8 194 rfl
theorem q1993 : (Jvm.Cond.instanceMethod ({ cls := "BlushLampsModel", name := "hourGoes", desc := "()V" } : Jvm.MethodName)) ∈ lw_all := lw_g (lw_at lw_m8 195 rfl) rfl
theorem q1994 : (Jvm.Cond.code ({ cls := "BlushLampsModel", name := "hourGoes", desc := "()V" } : Jvm.MethodName) prog_22_method_60_code (3 : Nat) (Option.none : Option Jvm.ClassFile.FieldType)) ∈ lw_all := lw_g (lw_at lw_m8 196 rfl) rfl
theorem q1995 : (Jvm.Cond.methodLink "BlushLampsModel" (382 : Nat) ({ cls := "BlushLampsModel", name := "isDraught", desc := "()Z" } : Jvm.MethodName)) ∈ lw_all := lw_g (lw_at lw_m8 197 rfl) rfl
theorem q1996 : (Jvm.Cond.privateMethod ({ cls := "BlushLampsModel", name := "isDraught", desc := "()Z" } : Jvm.MethodName)) ∈ lw_tbl := lw_at lw_m8 198 rfl
theorem q1997 : (Jvm.Cond.instanceMethod ({ cls := "BlushLampsModel", name := "isDraught", desc := "()Z" } : Jvm.MethodName)) ∈ lw_all := lw_g (lw_at lw_m8 199 rfl) rfl
theorem q1998 : (Jvm.Cond.code ({ cls := "BlushLampsModel", name := "isDraught", desc := "()Z" } : Jvm.MethodName) prog_22_method_52_code (1 : Nat) (Option.some Jvm.ClassFile.FieldType.boolean)) ∈ lw_all := lw_g (lw_at lw_m8 200 rfl) rfl
theorem q1999 : (Jvm.Cond.methodLink "BlushLampsModel" (354 : Nat) ({ cls := "BlushLampsModel", name := "lotOf", desc := "(II)I" } : Jvm.MethodName)) ∈ lw_all := lw_g (lw_at lw_m8 201 rfl) rfl
theorem q2000 : (Jvm.Cond.privateMethod ({ cls := "BlushLampsModel", name := "lotOf", desc := "(II)I" } : Jvm.MethodName)) ∈ lw_tbl := lw_at lw_m8 202 rfl
theorem q2001 : (Jvm.Cond.instanceMethod ({ cls := "BlushLampsModel", name := "lotOf", desc := "(II)I" } : Jvm.MethodName)) ∈ lw_all := lw_g (lw_at lw_m8 203 rfl) rfl
theorem q2002 : (Jvm.Cond.code ({ cls := "BlushLampsModel", name := "lotOf", desc := "(II)I" } : Jvm.MethodName) prog_22_method_51_code (3 : Nat) (Option.some Jvm.ClassFile.FieldType.int)) ∈ lw_all := lw_g (lw_at lw_m8 204 rfl) rfl
theorem q2003 : (Jvm.Cond.methodLink "BlushLampsModel" (351 : Nat) ({ cls := "BlushLampsModel", name := "mixed", desc := "(II)I" } : Jvm.MethodName)) ∈ lw_all := lw_g (lw_at lw_m8 205 rfl) rfl
theorem q2004 : (Jvm.Cond.static ({ cls := "BlushLampsModel", name := "mixed", desc := "(II)I" } : Jvm.MethodName)) ∈ lw_all := lw_g (lw_at lw_m8 206 rfl) rfl
theorem q2005 : (Jvm.Cond.code ({ cls := "BlushLampsModel", name := "mixed", desc := "(II)I" } : Jvm.MethodName) prog_22_method_50_code (3 : Nat) (Option.some Jvm.ClassFile.FieldType.int)) ∈ lw_all := lw_g (lw_at lw_m8 207 rfl) rfl
theorem q2006 : (Jvm.Cond.constant "BlushLampsModel" (350 : Nat) (1103515245 : Int32)) ∈ lw_all := lw_g (lw_at lw_m8 208 rfl) rfl
theorem q2007 : (Jvm.Cond.methodLink "BlushLampsModel" (417 : Nat) ({ cls := "BlushLampsModel", name := "records", desc := "()V" } : Jvm.MethodName)) ∈ lw_all := lw_g (lw_at lw_m8 209 rfl) rfl
theorem q2008 : (Jvm.Cond.privateMethod ({ cls := "BlushLampsModel", name := "records", desc := "()V" } : Jvm.MethodName)) ∈ lw_tbl := lw_at lw_m8 210 rfl
theorem q2009 : (Jvm.Cond.instanceMethod ({ cls := "BlushLampsModel", name := "records", desc := "()V" } : Jvm.MethodName)) ∈ lw_all := lw_g (lw_at lw_m8 211 rfl) rfl
theorem q2010 : (Jvm.Cond.code ({ cls := "BlushLampsModel", name := "records", desc := "()V" } : Jvm.MethodName) prog_22_method_74_code (2 : Nat) (Option.none : Option Jvm.ClassFile.FieldType)) ∈ lw_all := lw_g (lw_at lw_m8 212 rfl) rfl
theorem q2012 : (Jvm.Cond.instanceMethod ({ cls := "BlushLampsModel", name := "say", desc := "(II)I" } : Jvm.MethodName)) ∈ lw_all := lw_g (lw_at lw_m8 214 rfl) rfl
theorem q2013 : (Jvm.Cond.selects "BlushLampsModel" ({ cls := "BlushLampsModel", name := "say", desc := "(II)I" } : Jvm.MethodName) ({ cls := "BlushLampsModel", name := "say", desc := "(II)I" } : Jvm.MethodName)) ∈ lw_all := lw_g (lw_at lw_m8 215 rfl) rfl
theorem q2014 : (Jvm.Cond.code ({ cls := "BlushLampsModel", name := "say", desc := "(II)I" } : Jvm.MethodName) prog_22_method_76_code (3 : Nat) (Option.some Jvm.ClassFile.FieldType.int)) ∈ lw_all := lw_g (lw_at lw_m8 216 rfl) rfl
theorem q2015 : (Jvm.Cond.methodLink "BlushLampsModel" (420 : Nat) ({ cls := "BlushLampsModel", name := "isOut", desc := "(I)Z" } : Jvm.MethodName)) ∈ lw_all := lw_g (lw_at lw_m8 217 rfl) rfl
theorem q2016 : (Jvm.Cond.privateMethod ({ cls := "BlushLampsModel", name := "isOut", desc := "(I)Z" } : Jvm.MethodName)) ∈ lw_tbl := lw_at lw_m8 218 rfl
theorem q2017 : (Jvm.Cond.instanceMethod ({ cls := "BlushLampsModel", name := "isOut", desc := "(I)Z" } : Jvm.MethodName)) ∈ lw_all := lw_g (lw_at lw_m8 219 rfl) rfl
theorem q2018 : (Jvm.Cond.code ({ cls := "BlushLampsModel", name := "isOut", desc := "(I)Z" } : Jvm.MethodName) prog_22_method_45_code (2 : Nat) (Option.some Jvm.ClassFile.FieldType.boolean)) ∈ lw_all := lw_g (lw_at lw_m8 220 rfl) rfl
theorem q2019 : (Jvm.Cond.methodLink "BlushLampsModel" (423 : Nat) ({ cls := "BlushLampsModel", name := "says", desc := "(II)V" } : Jvm.MethodName)) ∈ lw_all := lw_g (lw_at lw_m8 221 rfl) rfl
theorem q2020 : (Jvm.Cond.privateMethod ({ cls := "BlushLampsModel", name := "says", desc := "(II)V" } : Jvm.MethodName)) ∈ lw_tbl := lw_at lw_m8 222 rfl
theorem q2021 : (Jvm.Cond.instanceMethod ({ cls := "BlushLampsModel", name := "says", desc := "(II)V" } : Jvm.MethodName)) ∈ lw_all := lw_g (lw_at lw_m8 223 rfl) rfl
theorem q2022 : (Jvm.Cond.code ({ cls := "BlushLampsModel", name := "says", desc := "(II)V" } : Jvm.MethodName) prog_22_method_59_code (5 : Nat) (Option.none : Option Jvm.ClassFile.FieldType)) ∈ lw_all := lw_g (lw_at lw_m8 224 rfl) rfl
theorem q2024 : (Jvm.Cond.instanceMethod ({ cls := "BlushLampsModel", name := "move", desc := "(II)Z" } : Jvm.MethodName)) ∈ lw_all := lw_g (lw_at lw_m8 226 rfl) rfl
theorem q2025 : (Jvm.Cond.selects "BlushLampsModel" ({ cls := "BlushLampsModel", name := "move", desc := "(II)Z" } : Jvm.MethodName) ({ cls := "BlushLampsModel", name := "move", desc := "(II)Z" } : Jvm.MethodName)) ∈ lw_all := lw_g (lw_at lw_m8 227 rfl) rfl
theorem q2026 : (Jvm.Cond.code ({ cls := "BlushLampsModel", name := "move", desc := "(II)Z" } : Jvm.MethodName) prog_22_method_77_code (3 : Nat) (Option.some Jvm.ClassFile.FieldType.boolean)) ∈ lw_all := lw_g (lw_at lw_m8 228 rfl) rfl
theorem q2028 : (Jvm.Cond.instanceMethod ({ cls := "BlushLampsModel", name := "rouge", desc := "(I)Z" } : Jvm.MethodName)) ∈ lw_all := lw_g (lw_at lw_m8 230 rfl) rfl
theorem q2029 : (Jvm.Cond.selects "BlushLampsModel" ({ cls := "BlushLampsModel", name := "rouge", desc := "(I)Z" } : Jvm.MethodName) ({ cls := "BlushLampsModel", name := "rouge", desc := "(I)Z" } : Jvm.MethodName)) ∈ lw_all := lw_g (lw_at lw_m8 231 rfl) rfl
theorem q2030 : (Jvm.Cond.code ({ cls := "BlushLampsModel", name := "rouge", desc := "(I)Z" } : Jvm.MethodName) prog_22_method_78_code (2 : Nat) (Option.some Jvm.ClassFile.FieldType.boolean)) ∈ lw_all := lw_g (lw_at lw_m8 232 rfl) rfl
theorem q2032 : (Jvm.Cond.instanceMethod ({ cls := "BlushLampsModel", name := "hours", desc := "(I)I" } : Jvm.MethodName)) ∈ lw_all := lw_g (lw_at lw_m8 234 rfl) rfl
theorem q2033 : (Jvm.Cond.selects "BlushLampsModel" ({ cls := "BlushLampsModel", name := "hours", desc := "(I)I" } : Jvm.MethodName) ({ cls := "BlushLampsModel", name := "hours", desc := "(I)I" } : Jvm.MethodName)) ∈ lw_all := lw_g (lw_at lw_m8 235 rfl) rfl
theorem q2034 : (Jvm.Cond.code ({ cls := "BlushLampsModel", name := "hours", desc := "(I)I" } : Jvm.MethodName) prog_22_method_79_code (2 : Nat) (Option.some Jvm.ClassFile.FieldType.int)) ∈ lw_all := lw_g (lw_at lw_m8 236 rfl) rfl
theorem q2035 : (Jvm.Cond.methodLink "BlushLampsModel" (426 : Nat) ({ cls := "BlushLampsModel", name := "goes", desc := "(I)V" } : Jvm.MethodName)) ∈ lw_all := lw_g (lw_at lw_m8 237 rfl) rfl
theorem q2036 : (Jvm.Cond.privateMethod ({ cls := "BlushLampsModel", name := "goes", desc := "(I)V" } : Jvm.MethodName)) ∈ lw_tbl := lw_at lw_m8 238 rfl
theorem q2037 : (Jvm.Cond.instanceMethod ({ cls := "BlushLampsModel", name := "goes", desc := "(I)V" } : Jvm.MethodName)) ∈ lw_all := lw_g (lw_at lw_m8 239 rfl) rfl
theorem q2038 : (Jvm.Cond.code ({ cls := "BlushLampsModel", name := "goes", desc := "(I)V" } : Jvm.MethodName) prog_22_method_61_code (3 : Nat) (Option.none : Option Jvm.ClassFile.FieldType)) ∈ lw_all := lw_g (lw_at lw_m9 0 rfl) rfl
theorem q2040 : (Jvm.Cond.instanceMethod ({ cls := "BlushLampsModel", name := "undo", desc := "()Z" } : Jvm.MethodName)) ∈ lw_all := lw_g (lw_at lw_m9 2 rfl) rfl
theorem q2041 : (Jvm.Cond.selects "BlushLampsModel" ({ cls := "BlushLampsModel", name := "undo", desc := "()Z" } : Jvm.MethodName) ({ cls := "BlushLampsModel", name := "undo", desc := "()Z" } : Jvm.MethodName)) ∈ lw_all := lw_g (lw_at lw_m9 3 rfl) rfl
theorem q2042 : (Jvm.Cond.code ({ cls := "BlushLampsModel", name := "undo", desc := "()Z" } : Jvm.MethodName) prog_22_method_80_code (2 : Nat) (Option.some Jvm.ClassFile.FieldType.boolean)) ∈ lw_all := lw_g (lw_at lw_m9 4 rfl) rfl
theorem q2044 : (Jvm.Cond.instanceMethod ({ cls := "BlushLampsModel", name := "darkens", desc := "(I)I" } : Jvm.MethodName)) ∈ lw_all := lw_g (lw_at lw_m9 6 rfl) rfl
theorem q2045 : (Jvm.Cond.selects "BlushLampsModel" ({ cls := "BlushLampsModel", name := "darkens", desc := "(I)I" } : Jvm.MethodName) ({ cls := "BlushLampsModel", name := "darkens", desc := "(I)I" } : Jvm.MethodName)) ∈ lw_all := lw_g (lw_at lw_m9 7 rfl) rfl
theorem q2046 : (Jvm.Cond.code ({ cls := "BlushLampsModel", name := "darkens", desc := "(I)I" } : Jvm.MethodName) prog_22_method_81_code (3 : Nat) (Option.some Jvm.ClassFile.FieldType.int)) ∈ lw_all := lw_g (lw_at lw_m9 8 rfl) rfl
theorem q2047 : (Jvm.Cond.methodLink "BlushLampsModel" (429 : Nat) ({ cls := "BlushLampsModel", name := "copiesStill", desc := "()V" } : Jvm.MethodName)) ∈ lw_all := lw_g (lw_at lw_m9 9 rfl) rfl
theorem q2048 : (Jvm.Cond.privateMethod ({ cls := "BlushLampsModel", name := "copiesStill", desc := "()V" } : Jvm.MethodName)) ∈ lw_tbl := lw_at lw_m9 10 rfl
theorem q2049 : (Jvm.Cond.instanceMethod ({ cls := "BlushLampsModel", name := "copiesStill", desc := "()V" } : Jvm.MethodName)) ∈ lw_all := lw_g (lw_at lw_m9 11 rfl) rfl
theorem q2050 : (Jvm.Cond.code ({ cls := "BlushLampsModel", name := "copiesStill", desc := "()V" } : Jvm.MethodName) prog_22_method_49_code (1 : Nat) (Option.none : Option Jvm.ClassFile.FieldType)) ∈ lw_all := lw_g (lw_at lw_m9 12 rfl) rfl
theorem q2052 : (Jvm.Cond.instanceMethod ({ cls := "BlushLampsModel", name := "best", desc := "(I)I" } : Jvm.MethodName)) ∈ lw_all := lw_g (lw_at lw_m9 14 rfl) rfl
theorem q2053 : (Jvm.Cond.selects "BlushLampsModel" ({ cls := "BlushLampsModel", name := "best", desc := "(I)I" } : Jvm.MethodName) ({ cls := "BlushLampsModel", name := "best", desc := "(I)I" } : Jvm.MethodName)) ∈ lw_all := lw_g (lw_at lw_m9 15 rfl) rfl
theorem q2054 : (Jvm.Cond.code ({ cls := "BlushLampsModel", name := "best", desc := "(I)I" } : Jvm.MethodName) prog_22_method_83_code (3 : Nat) (Option.some Jvm.ClassFile.FieldType.int)) ∈ lw_all := lw_g (lw_at lw_m9 16 rfl) rfl
theorem q2055 : (Jvm.Cond.methodLink "BlushLampsModel" (438 : Nat) ({ cls := "BlushLampsModel", name := "fillsBest", desc := "()I" } : Jvm.MethodName)) ∈ lw_all := lw_g (lw_at lw_m9 17 rfl) rfl
theorem q2056 : (Jvm.Cond.privateMethod ({ cls := "BlushLampsModel", name := "fillsBest", desc := "()I" } : Jvm.MethodName)) ∈ lw_tbl := lw_at lw_m9 18 rfl
theorem q2057 : (Jvm.Cond.instanceMethod ({ cls := "BlushLampsModel", name := "fillsBest", desc := "()I" } : Jvm.MethodName)) ∈ lw_all := lw_g (lw_at lw_m9 19 rfl) rfl
theorem q2058 : (Jvm.Cond.code ({ cls := "BlushLampsModel", name := "fillsBest", desc := "()I" } : Jvm.MethodName) prog_22_method_82_code (7 : Nat) (Option.some Jvm.ClassFile.FieldType.int)) ∈ lw_all := lw_g (lw_at lw_m9 20 rfl) rfl
theorem q2059 : (Jvm.Cond.methodLink "BlushLampsModel" (432 : Nat) ({ cls := "BlushLampsModel", name := "litBits", desc := "()I" } : Jvm.MethodName)) ∈ lw_all := lw_g (lw_at lw_m9 21 rfl) rfl
theorem q2060 : (Jvm.Cond.privateMethod ({ cls := "BlushLampsModel", name := "litBits", desc := "()I" } : Jvm.MethodName)) ∈ lw_tbl := lw_at lw_m9 22 rfl
theorem q2061 : (Jvm.Cond.instanceMethod ({ cls := "BlushLampsModel", name := "litBits", desc := "()I" } : Jvm.MethodName)) ∈ lw_all := lw_g (lw_at lw_m9 23 rfl) rfl
theorem q2062 : (Jvm.Cond.code ({ cls := "BlushLampsModel", name := "litBits", desc := "()I" } : Jvm.MethodName) prog_22_method_64_code (3 : Nat) (Option.some Jvm.ClassFile.FieldType.int)) ∈ lw_all := lw_g (lw_at lw_m9 24 rfl) rfl
theorem q2063 : (Jvm.Cond.methodLink "BlushLampsModel" (435 : Nat) ({ cls := "BlushLampsModel", name := "bits", desc := "(I)I" } : Jvm.MethodName)) ∈ lw_all := lw_g (lw_at lw_m9 25 rfl) rfl
theorem q2064 : (Jvm.Cond.static ({ cls := "BlushLampsModel", name := "bits", desc := "(I)I" } : Jvm.MethodName)) ∈ lw_all := lw_g (lw_at lw_m9 26 rfl) rfl
theorem q2065 : (Jvm.Cond.code ({ cls := "BlushLampsModel", name := "bits", desc := "(I)I" } : Jvm.MethodName) prog_22_method_40_code (3 : Nat) (Option.some Jvm.ClassFile.FieldType.int)) ∈ lw_all := lw_g (lw_at lw_m9 27 rfl) rfl
theorem q2067 : (Jvm.Cond.instanceMethod ({ cls := "BlushLampsModel", name := "telling", desc := "(II)I" } : Jvm.MethodName)) ∈ lw_all := lw_g (lw_at lw_m9 29 rfl) rfl
theorem q2068 : (Jvm.Cond.selects "BlushLampsModel" ({ cls := "BlushLampsModel", name := "telling", desc := "(II)I" } : Jvm.MethodName) ({ cls := "BlushLampsModel", name := "telling", desc := "(II)I" } : Jvm.MethodName)) ∈ lw_all := lw_g (lw_at lw_m9 30 rfl) rfl
theorem q2069 : (Jvm.Cond.code ({ cls := "BlushLampsModel", name := "telling", desc := "(II)I" } : Jvm.MethodName) prog_22_method_85_code (5 : Nat) (Option.some Jvm.ClassFile.FieldType.int)) ∈ lw_all := lw_g (lw_at lw_m9 31 rfl) rfl
theorem q2070 : (Jvm.Cond.methodLink "BlushLampsModel" (441 : Nat) ({ cls := "BlushLampsModel", name := "glowBy", desc := "(II)I" } : Jvm.MethodName)) ∈ lw_all := lw_g (lw_at lw_m9 32 rfl) rfl
theorem q2071 : (Jvm.Cond.privateMethod ({ cls := "BlushLampsModel", name := "glowBy", desc := "(II)I" } : Jvm.MethodName)) ∈ lw_tbl := lw_at lw_m9 33 rfl
theorem q2072 : (Jvm.Cond.instanceMethod ({ cls := "BlushLampsModel", name := "glowBy", desc := "(II)I" } : Jvm.MethodName)) ∈ lw_all := lw_g (lw_at lw_m9 34 rfl) rfl
theorem q2073 : (Jvm.Cond.code ({ cls := "BlushLampsModel", name := "glowBy", desc := "(II)I" } : Jvm.MethodName) prog_22_method_84_code (3 : Nat) (Option.some Jvm.ClassFile.FieldType.int)) ∈ lw_all := lw_g (lw_at lw_m9 35 rfl) rfl
theorem q2075 : (Jvm.Cond.instanceMethod ({ cls := "BlushLampsModel", name := "keep", desc := "()I" } : Jvm.MethodName)) ∈ lw_all := lw_g (lw_at lw_m9 37 rfl) rfl
theorem q2076 : (Jvm.Cond.selects "BlushLampsModel" ({ cls := "BlushLampsModel", name := "keep", desc := "()I" } : Jvm.MethodName) ({ cls := "BlushLampsModel", name := "keep", desc := "()I" } : Jvm.MethodName)) ∈ lw_all := lw_g (lw_at lw_m9 38 rfl) rfl
theorem q2077 : (Jvm.Cond.code ({ cls := "BlushLampsModel", name := "keep", desc := "()I" } : Jvm.MethodName) prog_22_method_88_code (3 : Nat) (Option.some Jvm.ClassFile.FieldType.int)) ∈ lw_all := lw_g (lw_at lw_m9 39 rfl) rfl
theorem q2078 : (Jvm.Cond.methodLink "BlushLampsModel" (444 : Nat) ({ cls := "BlushLampsModel", name := "firstOut", desc := "()I" } : Jvm.MethodName)) ∈ lw_all := lw_g (lw_at lw_m9 40 rfl) rfl
theorem q2079 : (Jvm.Cond.privateMethod ({ cls := "BlushLampsModel", name := "firstOut", desc := "()I" } : Jvm.MethodName)) ∈ lw_tbl := lw_at lw_m9 41 rfl
theorem q2080 : (Jvm.Cond.instanceMethod ({ cls := "BlushLampsModel", name := "firstOut", desc := "()I" } : Jvm.MethodName)) ∈ lw_all := lw_g (lw_at lw_m9 42 rfl) rfl
theorem q2081 : (Jvm.Cond.code ({ cls := "BlushLampsModel", name := "firstOut", desc := "()I" } : Jvm.MethodName) prog_22_method_86_code (2 : Nat) (Option.some Jvm.ClassFile.FieldType.int)) ∈ lw_all := lw_g (lw_at lw_m9 43 rfl) rfl
theorem q2082 : (Jvm.Cond.methodLink "BlushLampsModel" (447 : Nat) ({ cls := "BlushLampsModel", name := "keepBy", desc := "(I)I" } : Jvm.MethodName)) ∈ lw_all := lw_g (lw_at lw_m9 44 rfl) rfl
theorem q2083 : (Jvm.Cond.privateMethod ({ cls := "BlushLampsModel", name := "keepBy", desc := "(I)I" } : Jvm.MethodName)) ∈ lw_tbl := lw_at lw_m9 45 rfl
theorem q2084 : (Jvm.Cond.instanceMethod ({ cls := "BlushLampsModel", name := "keepBy", desc := "(I)I" } : Jvm.MethodName)) ∈ lw_all := lw_g (lw_at lw_m9 46 rfl) rfl
theorem q2085 : (Jvm.Cond.code ({ cls := "BlushLampsModel", name := "keepBy", desc := "(I)I" } : Jvm.MethodName) prog_22_method_87_code (2 : Nat) (Option.some Jvm.ClassFile.FieldType.int)) ∈ lw_all := lw_g (lw_at lw_m9 47 rfl) rfl
theorem q2087 : (Jvm.Cond.instanceMethod ({ cls := "BlushLampsModel", name := "twins", desc := "(I)I" } : Jvm.MethodName)) ∈ lw_all := lw_g (lw_at lw_m9 49 rfl) rfl
theorem q2088 : (Jvm.Cond.selects "BlushLampsModel" ({ cls := "BlushLampsModel", name := "twins", desc := "(I)I" } : Jvm.MethodName) ({ cls := "BlushLampsModel", name := "twins", desc := "(I)I" } : Jvm.MethodName)) ∈ lw_all := lw_g (lw_at lw_m9 50 rfl) rfl
theorem q2089 : (Jvm.Cond.code ({ cls := "BlushLampsModel", name := "twins", desc := "(I)I" } : Jvm.MethodName) prog_22_method_89_code (9 : Nat) (Option.some Jvm.ClassFile.FieldType.int)) ∈ lw_all := lw_g (lw_at lw_m9 51 rfl) rfl
theorem q2091 : (Jvm.Cond.instanceMethod ({ cls := "BlushLampsModel", name := "steps", desc := "(II)I" } : Jvm.MethodName)) ∈ lw_all := lw_g (lw_at lw_m9 53 rfl) rfl
theorem q2092 : (Jvm.Cond.selects "BlushLampsModel" ({ cls := "BlushLampsModel", name := "steps", desc := "(II)I" } : Jvm.MethodName) ({ cls := "BlushLampsModel", name := "steps", desc := "(II)I" } : Jvm.MethodName)) ∈ lw_all := lw_g (lw_at lw_m9 54 rfl) rfl
theorem q2093 : (Jvm.Cond.code ({ cls := "BlushLampsModel", name := "steps", desc := "(II)I" } : Jvm.MethodName) prog_22_method_92_code (3 : Nat) (Option.some Jvm.ClassFile.FieldType.int)) ∈ lw_all := lw_g (lw_at lw_m9 55 rfl) rfl
theorem q2094 : (Jvm.Cond.methodLink "BlushLampsModel" (450 : Nat) ({ cls := "BlushLampsModel", name := "fillsFar", desc := "(III)V" } : Jvm.MethodName)) ∈ lw_all := lw_g (lw_at lw_m9 56 rfl) rfl
theorem q2095 : (Jvm.Cond.privateMethod ({ cls := "BlushLampsModel", name := "fillsFar", desc := "(III)V" } : Jvm.MethodName)) ∈ lw_tbl := lw_at lw_m9 57 rfl
theorem q2096 : (Jvm.Cond.instanceMethod ({ cls := "BlushLampsModel", name := "fillsFar", desc := "(III)V" } : Jvm.MethodName)) ∈ lw_all := lw_g (lw_at lw_m9 58 rfl) rfl
theorem q2097 : (Jvm.Cond.code ({ cls := "BlushLampsModel", name := "fillsFar", desc := "(III)V" } : Jvm.MethodName) prog_22_method_90_code (9 : Nat) (Option.none : Option Jvm.ClassFile.FieldType)) ∈ lw_all := lw_g (lw_at lw_m9 59 rfl) rfl
theorem q2098 : (Jvm.Cond.methodLink "BlushLampsModel" (453 : Nat) ({ cls := "BlushLampsModel", name := "farTo", desc := "(I)I" } : Jvm.MethodName)) ∈ lw_all := lw_g (lw_at lw_m9 60 rfl) rfl
theorem q2099 : (Jvm.Cond.privateMethod ({ cls := "BlushLampsModel", name := "farTo", desc := "(I)I" } : Jvm.MethodName)) ∈ lw_tbl := lw_at lw_m9 61 rfl
theorem q2100 : (Jvm.Cond.instanceMethod ({ cls := "BlushLampsModel", name := "farTo", desc := "(I)I" } : Jvm.MethodName)) ∈ lw_all := lw_g (lw_at lw_m9 62 rfl) rfl
theorem q2101 : (Jvm.Cond.code ({ cls := "BlushLampsModel", name := "farTo", desc := "(I)I" } : Jvm.MethodName) prog_22_method_91_code (2 : Nat) (Option.some Jvm.ClassFile.FieldType.int)) ∈ lw_all := lw_g (lw_at lw_m9 63 rfl) rfl
theorem q2103 : (Jvm.Cond.instanceMethod ({ cls := "BlushLampsModel", name := "dark", desc := "(II)I" } : Jvm.MethodName)) ∈ lw_all := lw_g (lw_at lw_m9 65 rfl) rfl
theorem q2104 : (Jvm.Cond.selects "BlushLampsModel" ({ cls := "BlushLampsModel", name := "dark", desc := "(II)I" } : Jvm.MethodName) ({ cls := "BlushLampsModel", name := "dark", desc := "(II)I" } : Jvm.MethodName)) ∈ lw_all := lw_g (lw_at lw_m9 66 rfl) rfl
theorem q2105 : (Jvm.Cond.code ({ cls := "BlushLampsModel", name := "dark", desc := "(II)I" } : Jvm.MethodName) prog_22_method_94_code (3 : Nat) (Option.some Jvm.ClassFile.FieldType.int)) ∈ lw_all := lw_g (lw_at lw_m9 67 rfl) rfl
theorem q2106 : (Jvm.Cond.methodLink "BlushLampsModel" (456 : Nat) ({ cls := "BlushLampsModel", name := "litNow", desc := "()I" } : Jvm.MethodName)) ∈ lw_all := lw_g (lw_at lw_m9 68 rfl) rfl
theorem q2107 : (Jvm.Cond.privateMethod ({ cls := "BlushLampsModel", name := "litNow", desc := "()I" } : Jvm.MethodName)) ∈ lw_tbl := lw_at lw_m9 69 rfl
theorem q2108 : (Jvm.Cond.instanceMethod ({ cls := "BlushLampsModel", name := "litNow", desc := "()I" } : Jvm.MethodName)) ∈ lw_all := lw_g (lw_at lw_m9 70 rfl) rfl
theorem q2109 : (Jvm.Cond.code ({ cls := "BlushLampsModel", name := "litNow", desc := "()I" } : Jvm.MethodName) prog_22_method_93_code (1 : Nat) (Option.some Jvm.ClassFile.FieldType.int)) ∈ lw_all := lw_g (lw_at lw_m9 71 rfl) rfl
theorem q2111 : (Jvm.Cond.instanceMethod ({ cls := "BlushLampsModel", name := "safe", desc := "(I)I" } : Jvm.MethodName)) ∈ lw_all := lw_g (lw_at lw_m9 73 rfl) rfl
theorem q2112 : (Jvm.Cond.selects "BlushLampsModel" ({ cls := "BlushLampsModel", name := "safe", desc := "(I)I" } : Jvm.MethodName) ({ cls := "BlushLampsModel", name := "safe", desc := "(I)I" } : Jvm.MethodName)) ∈ lw_all := lw_g (lw_at lw_m9 74 rfl) rfl
theorem q2113 : (Jvm.Cond.code ({ cls := "BlushLampsModel", name := "safe", desc := "(I)I" } : Jvm.MethodName) prog_22_method_96_code (4 : Nat) (Option.some Jvm.ClassFile.FieldType.int)) ∈ lw_all := lw_g (lw_at lw_m9 75 rfl) rfl
theorem q2114 : (Jvm.Cond.methodLink "BlushLampsModel" (459 : Nat) ({ cls := "BlushLampsModel", name := "fillsLit", desc := "(II)V" } : Jvm.MethodName)) ∈ lw_all := lw_g (lw_at lw_m9 76 rfl) rfl
theorem q2115 : (Jvm.Cond.privateMethod ({ cls := "BlushLampsModel", name := "fillsLit", desc := "(II)V" } : Jvm.MethodName)) ∈ lw_tbl := lw_at lw_m9 77 rfl
theorem q2116 : (Jvm.Cond.instanceMethod ({ cls := "BlushLampsModel", name := "fillsLit", desc := "(II)V" } : Jvm.MethodName)) ∈ lw_all := lw_g (lw_at lw_m9 78 rfl) rfl
theorem q2117 : (Jvm.Cond.code ({ cls := "BlushLampsModel", name := "fillsLit", desc := "(II)V" } : Jvm.MethodName) prog_22_method_95_code (3 : Nat) (Option.none : Option Jvm.ClassFile.FieldType)) ∈ lw_all := lw_g (lw_at lw_m9 79 rfl) rfl
theorem q2119 : (Jvm.Cond.instanceMethod ({ cls := "BlushLampsModel", name := "bridges", desc := "()I" } : Jvm.MethodName)) ∈ lw_all := lw_g (lw_at lw_m9 81 rfl) rfl
theorem q2120 : (Jvm.Cond.selects "BlushLampsModel" ({ cls := "BlushLampsModel", name := "bridges", desc := "()I" } : Jvm.MethodName) ({ cls := "BlushLampsModel", name := "bridges", desc := "()I" } : Jvm.MethodName)) ∈ lw_all := lw_g (lw_at lw_m9 82 rfl) rfl
theorem q2121 : (Jvm.Cond.code ({ cls := "BlushLampsModel", name := "bridges", desc := "()I" } : Jvm.MethodName) prog_22_method_97_code (4 : Nat) (Option.some Jvm.ClassFile.FieldType.int)) ∈ lw_all := lw_g (lw_at lw_m9 83 rfl) rfl
theorem q2123 : (Jvm.Cond.instanceMethod ({ cls := "BlushLampsModel", name := "cut", desc := "(II)I" } : Jvm.MethodName)) ∈ lw_all := lw_g (lw_at lw_m9 85 rfl) rfl
theorem q2124 : (Jvm.Cond.selects "BlushLampsModel" ({ cls := "BlushLampsModel", name := "cut", desc := "(II)I" } : Jvm.MethodName) ({ cls := "BlushLampsModel", name := "cut", desc := "(II)I" } : Jvm.MethodName)) ∈ lw_all := lw_g (lw_at lw_m9 86 rfl) rfl
theorem q2125 : (Jvm.Cond.code ({ cls := "BlushLampsModel", name := "cut", desc := "(II)I" } : Jvm.MethodName) prog_22_method_98_code (6 : Nat) (Option.some Jvm.ClassFile.FieldType.int)) ∈ lw_all := lw_g (lw_at lw_m9 87 rfl) rfl
theorem q2127 : (Jvm.Cond.instanceMethod ({ cls := "BlushLampsModel", name := "round", desc := "()I" } : Jvm.MethodName)) ∈ lw_all := lw_g (lw_at lw_m9 89 rfl) rfl
theorem q2128 : (Jvm.Cond.selects "BlushLampsModel" ({ cls := "BlushLampsModel", name := "round", desc := "()I" } : Jvm.MethodName) ({ cls := "BlushLampsModel", name := "round", desc := "()I" } : Jvm.MethodName)) ∈ lw_all := lw_g (lw_at lw_m9 90 rfl) rfl
theorem q2129 : (Jvm.Cond.code ({ cls := "BlushLampsModel", name := "round", desc := "()I" } : Jvm.MethodName) prog_22_method_99_code (8 : Nat) (Option.some Jvm.ClassFile.FieldType.int)) ∈ lw_all := lw_g (lw_at lw_m9 91 rfl) rfl
theorem q2131 : (Jvm.Cond.instanceMethod ({ cls := "BlushLampsModel", name := "brightest", desc := "(I)I" } : Jvm.MethodName)) ∈ lw_all := lw_g (lw_at lw_m9 93 rfl) rfl
theorem q2132 : (Jvm.Cond.selects "BlushLampsModel" ({ cls := "BlushLampsModel", name := "brightest", desc := "(I)I" } : Jvm.MethodName) ({ cls := "BlushLampsModel", name := "brightest", desc := "(I)I" } : Jvm.MethodName)) ∈ lw_all := lw_g (lw_at lw_m9 94 rfl) rfl
theorem q2133 : (Jvm.Cond.code ({ cls := "BlushLampsModel", name := "brightest", desc := "(I)I" } : Jvm.MethodName) prog_22_method_100_code (4 : Nat) (Option.some Jvm.ClassFile.FieldType.int)) ∈ lw_all := lw_g (lw_at lw_m9 95 rfl) rfl
theorem q2135 : (Jvm.Cond.instanceMethod ({ cls := "BlushLampsModel", name := "gather", desc := "(I)I" } : Jvm.MethodName)) ∈ lw_all := lw_g (lw_at lw_m9 97 rfl) rfl
theorem q2136 : (Jvm.Cond.selects "BlushLampsModel" ({ cls := "BlushLampsModel", name := "gather", desc := "(I)I" } : Jvm.MethodName) ({ cls := "BlushLampsModel", name := "gather", desc := "(I)I" } : Jvm.MethodName)) ∈ lw_all := lw_g (lw_at lw_m9 98 rfl) rfl
theorem q2137 : (Jvm.Cond.code ({ cls := "BlushLampsModel", name := "gather", desc := "(I)I" } : Jvm.MethodName) prog_22_method_101_code (7 : Nat) (Option.some Jvm.ClassFile.FieldType.int)) ∈ lw_all := lw_g (lw_at lw_m9 99 rfl) rfl
theorem q2139 : (Jvm.Cond.instanceMethod ({ cls := "BlushLampsModel", name := "moves", desc := "(II)I" } : Jvm.MethodName)) ∈ lw_all := lw_g (lw_at lw_m9 101 rfl) rfl
theorem q2140 : (Jvm.Cond.selects "BlushLampsModel" ({ cls := "BlushLampsModel", name := "moves", desc := "(II)I" } : Jvm.MethodName) ({ cls := "BlushLampsModel", name := "moves", desc := "(II)I" } : Jvm.MethodName)) ∈ lw_all := lw_g (lw_at lw_m9 102 rfl) rfl
theorem q2141 : (Jvm.Cond.code ({ cls := "BlushLampsModel", name := "moves", desc := "(II)I" } : Jvm.MethodName) prog_22_method_102_code (9 : Nat) (Option.some Jvm.ClassFile.FieldType.int)) ∈ lw_all := lw_g (lw_at lw_m9 103 rfl) rfl
theorem q2143 : (Jvm.Cond.instanceMethod ({ cls := "BlushLampsModel", name := "tree", desc := "()I" } : Jvm.MethodName)) ∈ lw_all := lw_g (lw_at lw_m9 105 rfl) rfl
theorem q2144 : (Jvm.Cond.selects "BlushLampsModel" ({ cls := "BlushLampsModel", name := "tree", desc := "()I" } : Jvm.MethodName) ({ cls := "BlushLampsModel", name := "tree", desc := "()I" } : Jvm.MethodName)) ∈ lw_all := lw_g (lw_at lw_m9 106 rfl) rfl
theorem q2145 : (Jvm.Cond.code ({ cls := "BlushLampsModel", name := "tree", desc := "()I" } : Jvm.MethodName) prog_22_method_103_code (7 : Nat) (Option.some Jvm.ClassFile.FieldType.int)) ∈ lw_all := lw_g (lw_at lw_m9 107 rfl) rfl
theorem q2147 : (Jvm.Cond.instanceMethod ({ cls := "BlushLampsModel", name := "glowIn", desc := "(II)I" } : Jvm.MethodName)) ∈ lw_all := lw_g (lw_at lw_m9 109 rfl) rfl
theorem q2148 : (Jvm.Cond.selects "BlushLampsModel" ({ cls := "BlushLampsModel", name := "glowIn", desc := "(II)I" } : Jvm.MethodName) ({ cls := "BlushLampsModel", name := "glowIn", desc := "(II)I" } : Jvm.MethodName)) ∈ lw_all := lw_g (lw_at lw_m9 110 rfl) rfl
theorem q2149 : (Jvm.Cond.code ({ cls := "BlushLampsModel", name := "glowIn", desc := "(II)I" } : Jvm.MethodName) prog_22_method_105_code (3 : Nat) (Option.some Jvm.ClassFile.FieldType.int)) ∈ lw_all := lw_g (lw_at lw_m9 111 rfl) rfl
theorem q2151 : (Jvm.Cond.instanceMethod ({ cls := "BlushLampsModel", name := "then", desc := "(II)I" } : Jvm.MethodName)) ∈ lw_all := lw_g (lw_at lw_m9 113 rfl) rfl
theorem q2152 : (Jvm.Cond.selects "BlushLampsModel" ({ cls := "BlushLampsModel", name := "then", desc := "(II)I" } : Jvm.MethodName) ({ cls := "BlushLampsModel", name := "then", desc := "(II)I" } : Jvm.MethodName)) ∈ lw_all := lw_g (lw_at lw_m9 114 rfl) rfl
theorem q2153 : (Jvm.Cond.code ({ cls := "BlushLampsModel", name := "then", desc := "(II)I" } : Jvm.MethodName) prog_22_method_106_code (3 : Nat) (Option.some Jvm.ClassFile.FieldType.int)) ∈ lw_all := lw_g (lw_at lw_m9 115 rfl) rfl
theorem q2154 : (Jvm.Cond.methodLink "BlushLampsModel" (462 : Nat) ({ cls := "BlushLampsModel", name := "homeBits", desc := "()I" } : Jvm.MethodName)) ∈ lw_all := lw_g (lw_at lw_m9 116 rfl) rfl
theorem q2155 : (Jvm.Cond.privateMethod ({ cls := "BlushLampsModel", name := "homeBits", desc := "()I" } : Jvm.MethodName)) ∈ lw_tbl := lw_at lw_m9 117 rfl
theorem q2156 : (Jvm.Cond.instanceMethod ({ cls := "BlushLampsModel", name := "homeBits", desc := "()I" } : Jvm.MethodName)) ∈ lw_all := lw_g (lw_at lw_m9 118 rfl) rfl
theorem q2157 : (Jvm.Cond.code ({ cls := "BlushLampsModel", name := "homeBits", desc := "()I" } : Jvm.MethodName) prog_22_method_104_code (3 : Nat) (Option.some Jvm.ClassFile.FieldType.int)) ∈ lw_all := lw_g (lw_at lw_m9 119 rfl) rfl
theorem q2159 : (Jvm.Cond.instanceMethod ({ cls := "BlushLampsModel", name := "year", desc := "(III)I" } : Jvm.MethodName)) ∈ lw_all := lw_g (lw_at lw_m9 121 rfl) rfl
theorem q2160 : (Jvm.Cond.selects "BlushLampsModel" ({ cls := "BlushLampsModel", name := "year", desc := "(III)I" } : Jvm.MethodName) ({ cls := "BlushLampsModel", name := "year", desc := "(III)I" } : Jvm.MethodName)) ∈ lw_all := lw_g (lw_at lw_m9 122 rfl) rfl
theorem q2161 : (Jvm.Cond.code ({ cls := "BlushLampsModel", name := "year", desc := "(III)I" } : Jvm.MethodName) prog_22_method_107_code (6 : Nat) (Option.some Jvm.ClassFile.FieldType.int)) ∈ lw_all := lw_g (lw_at lw_m9 123 rfl) rfl
theorem q2163 : (Jvm.Cond.instanceMethod ({ cls := "BlushLampsModel", name := "tell", desc := "(IIZ)I" } : Jvm.MethodName)) ∈ lw_all := lw_g (lw_at lw_m9 125 rfl) rfl
theorem q2164 : (Jvm.Cond.selects "BlushLampsModel" ({ cls := "BlushLampsModel", name := "tell", desc := "(IIZ)I" } : Jvm.MethodName) ({ cls := "BlushLampsModel", name := "tell", desc := "(IIZ)I" } : Jvm.MethodName)) ∈ lw_all := lw_g (lw_at lw_m9 126 rfl) rfl
theorem q2165 : (Jvm.Cond.code ({ cls := "BlushLampsModel", name := "tell", desc := "(IIZ)I" } : Jvm.MethodName) prog_22_method_108_code (4 : Nat) (Option.some Jvm.ClassFile.FieldType.int)) ∈ lw_all := lw_g (lw_at lw_m9 127 rfl) rfl
theorem q2167 : (Jvm.Cond.instanceMethod ({ cls := "BlushLampsModel", name := "forget", desc := "()I" } : Jvm.MethodName)) ∈ lw_all := lw_g (lw_at lw_m9 129 rfl) rfl
theorem q2168 : (Jvm.Cond.selects "BlushLampsModel" ({ cls := "BlushLampsModel", name := "forget", desc := "()I" } : Jvm.MethodName) ({ cls := "BlushLampsModel", name := "forget", desc := "()I" } : Jvm.MethodName)) ∈ lw_all := lw_g (lw_at lw_m9 130 rfl) rfl
theorem q2169 : (Jvm.Cond.code ({ cls := "BlushLampsModel", name := "forget", desc := "()I" } : Jvm.MethodName) prog_22_method_109_code (2 : Nat) (Option.some Jvm.ClassFile.FieldType.int)) ∈ lw_all := lw_g (lw_at lw_m9 131 rfl) rfl
theorem q2171 : (Jvm.Cond.instanceMethod ({ cls := "BlushLampsModel", name := "words", desc := "(II)I" } : Jvm.MethodName)) ∈ lw_all := lw_g (lw_at lw_m9 133 rfl) rfl
theorem q2172 : (Jvm.Cond.selects "BlushLampsModel" ({ cls := "BlushLampsModel", name := "words", desc := "(II)I" } : Jvm.MethodName) ({ cls := "BlushLampsModel", name := "words", desc := "(II)I" } : Jvm.MethodName)) ∈ lw_all := lw_g (lw_at lw_m9 134 rfl) rfl
theorem q2173 : (Jvm.Cond.code ({ cls := "BlushLampsModel", name := "words", desc := "(II)I" } : Jvm.MethodName) prog_22_method_112_code (4 : Nat) (Option.some Jvm.ClassFile.FieldType.int)) ∈ lw_all := lw_g (lw_at lw_m9 135 rfl) rfl
theorem q2174 : (Jvm.Cond.methodLink "BlushLampsModel" (468 : Nat) ({ cls := "BlushLampsModel", name := "wordBits", desc := "(I)I" } : Jvm.MethodName)) ∈ lw_all := lw_g (lw_at lw_m9 136 rfl) rfl
theorem q2175 : (Jvm.Cond.privateMethod ({ cls := "BlushLampsModel", name := "wordBits", desc := "(I)I" } : Jvm.MethodName)) ∈ lw_tbl := lw_at lw_m9 137 rfl
theorem q2176 : (Jvm.Cond.instanceMethod ({ cls := "BlushLampsModel", name := "wordBits", desc := "(I)I" } : Jvm.MethodName)) ∈ lw_all := lw_g (lw_at lw_m9 138 rfl) rfl
theorem q2177 : (Jvm.Cond.code ({ cls := "BlushLampsModel", name := "wordBits", desc := "(I)I" } : Jvm.MethodName) prog_22_method_111_code (6 : Nat) (Option.some Jvm.ClassFile.FieldType.int)) ∈ lw_all := lw_g (lw_at lw_m9 139 rfl) rfl
theorem q2178 : (Jvm.Cond.methodLink "BlushLampsModel" (465 : Nat) ({ cls := "BlushLampsModel", name := "wouldGlow", desc := "(II)I" } : Jvm.MethodName)) ∈ lw_all := lw_g (lw_at lw_m9 140 rfl) rfl
theorem q2179 : (Jvm.Cond.privateMethod ({ cls := "BlushLampsModel", name := "wouldGlow", desc := "(II)I" } : Jvm.MethodName)) ∈ lw_tbl := lw_at lw_m9 141 rfl
theorem q2180 : (Jvm.Cond.instanceMethod ({ cls := "BlushLampsModel", name := "wouldGlow", desc := "(II)I" } : Jvm.MethodName)) ∈ lw_all := lw_g (lw_at lw_m9 142 rfl) rfl
theorem q2181 : (Jvm.Cond.code ({ cls := "BlushLampsModel", name := "wouldGlow", desc := "(II)I" } : Jvm.MethodName) prog_22_method_110_code (3 : Nat) (Option.some Jvm.ClassFile.FieldType.int)) ∈ lw_all := lw_g (lw_at lw_m9 143 rfl) rfl
theorem q2183 : (Jvm.Cond.instanceMethod ({ cls := "BlushLampsModel", name := "look", desc := "(II)I" } : Jvm.MethodName)) ∈ lw_all := lw_g (lw_at lw_m9 145 rfl) rfl
theorem q2184 : (Jvm.Cond.selects "BlushLampsModel" ({ cls := "BlushLampsModel", name := "look", desc := "(II)I" } : Jvm.MethodName) ({ cls := "BlushLampsModel", name := "look", desc := "(II)I" } : Jvm.MethodName)) ∈ lw_all := lw_g (lw_at lw_m9 146 rfl) rfl
theorem q2185 : (Jvm.Cond.code ({ cls := "BlushLampsModel", name := "look", desc := "(II)I" } : Jvm.MethodName) prog_22_method_113_code (9 : Nat) (Option.some Jvm.ClassFile.FieldType.int)) ∈ lw_all := lw_g (lw_at lw_m9 147 rfl) rfl
theorem q2187 : (Jvm.Cond.instanceMethod ({ cls := "BlushLampsModel", name := "hold", desc := "(I)Z" } : Jvm.MethodName)) ∈ lw_all := lw_g (lw_at lw_m9 149 rfl) rfl
theorem q2188 : (Jvm.Cond.selects "BlushLampsModel" ({ cls := "BlushLampsModel", name := "hold", desc := "(I)Z" } : Jvm.MethodName) ({ cls := "BlushLampsModel", name := "hold", desc := "(I)Z" } : Jvm.MethodName)) ∈ lw_all := lw_g (lw_at lw_m9 150 rfl) rfl
theorem q2189 : (Jvm.Cond.code ({ cls := "BlushLampsModel", name := "hold", desc := "(I)Z" } : Jvm.MethodName) prog_22_method_114_code (3 : Nat) (Option.some Jvm.ClassFile.FieldType.boolean)) ∈ lw_all := lw_g (lw_at lw_m9 151 rfl) rfl
theorem q2191 : (Jvm.Cond.instanceMethod ({ cls := "BlushLampsModel", name := "restore", desc := "(I)Z" } : Jvm.MethodName)) ∈ lw_all := lw_g (lw_at lw_m9 153 rfl) rfl
theorem q2192 : (Jvm.Cond.selects "BlushLampsModel" ({ cls := "BlushLampsModel", name := "restore", desc := "(I)Z" } : Jvm.MethodName) ({ cls := "BlushLampsModel", name := "restore", desc := "(I)Z" } : Jvm.MethodName)) ∈ lw_all := lw_g (lw_at lw_m9 154 rfl) rfl
theorem q2193 : (Jvm.Cond.code ({ cls := "BlushLampsModel", name := "restore", desc := "(I)Z" } : Jvm.MethodName) prog_22_method_115_code (3 : Nat) (Option.some Jvm.ClassFile.FieldType.boolean)) ∈ lw_all := lw_g (lw_at lw_m9 155 rfl) rfl
theorem q2195 : (Jvm.Cond.instanceMethod ({ cls := "BlushLampsModel", name := "count", desc := "(I)I" } : Jvm.MethodName)) ∈ lw_all := lw_g (lw_at lw_m9 157 rfl) rfl
theorem q2196 : (Jvm.Cond.selects "BlushLampsModel" ({ cls := "BlushLampsModel", name := "count", desc := "(I)I" } : Jvm.MethodName) ({ cls := "BlushLampsModel", name := "count", desc := "(I)I" } : Jvm.MethodName)) ∈ lw_all := lw_g (lw_at lw_m9 158 rfl) rfl
theorem q2197 : (Jvm.Cond.code ({ cls := "BlushLampsModel", name := "count", desc := "(I)I" } : Jvm.MethodName) prog_22_method_117_code (4 : Nat) (Option.some Jvm.ClassFile.FieldType.int)) ∈ lw_all := lw_g (lw_at lw_m9 159 rfl) rfl
theorem q2198 : (Jvm.Cond.methodLink "BlushLampsModel" (471 : Nat) ({ cls := "BlushLampsModel", name := "sumNow", desc := "(II)I" } : Jvm.MethodName)) ∈ lw_all := lw_g (lw_at lw_m9 160 rfl) rfl
theorem q2199 : (Jvm.Cond.privateMethod ({ cls := "BlushLampsModel", name := "sumNow", desc := "(II)I" } : Jvm.MethodName)) ∈ lw_tbl := lw_at lw_m9 161 rfl
theorem q2200 : (Jvm.Cond.instanceMethod ({ cls := "BlushLampsModel", name := "sumNow", desc := "(II)I" } : Jvm.MethodName)) ∈ lw_all := lw_g (lw_at lw_m9 162 rfl) rfl
theorem q2201 : (Jvm.Cond.code ({ cls := "BlushLampsModel", name := "sumNow", desc := "(II)I" } : Jvm.MethodName) prog_22_method_116_code (5 : Nat) (Option.some Jvm.ClassFile.FieldType.int)) ∈ lw_all := lw_g (lw_at lw_m9 163 rfl) rfl
theorem q2224 : (Jvm.Cond.castable "BlushLampsModel" "java/lang/Object") ∈ lw_tbl := lw_at lw_m9 186 rfl
theorem in_X10 : ∀ w ∈ wsX100, w ∈ lw_all := lw_in wsX100 [1621, 1623, 1625, 1627, 1629, 1631, 1633, 1635, 1637, 1639, 1641, 1643, 1645, 1647, 1649, 1651, 1653, 1655, 1657, 1659, 1661, 1663, 1665, 1667, 1669, 1671, 1673, 1675, 1677, 1679, 1681, 1683, 1685, 1687, 1689, 1691, 1693, 1695, 1697, 1699, 1701, 1703, 1705, 1707, 1709, 1711, 1713, 1715, 1717, 1719, 1721, 1723, 1725, 1727, 1729, 1731, 1733, 1735, 1737, 1739, 1741, 1743, 1745, 1747, 1749, 1751, 1753, 1755, 1757, 1759, 1761, 1763] (by decide +kernel) (by decide +kernel)
