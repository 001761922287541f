/-! BlushLamps -/
set_option maxRecDepth 100000
def RX0 : String := "BlushLamps"
def TX0 : u_T := fun k => match k with
  | 0 => ("BlushLamps", "fault", "LBlushLamps$Fault;", true)
  | 1 => ("BlushLamps", "tokens", "LBlushLamps$Tokens;", true)
  | 2 => ("BlushLamps", "parser", "LBlushLamps$Parser;", true)
  | 3 => ("BlushLamps", "text", "LBlushLamps$Text;", false)
  | 4 => ("BlushLamps", "place", "I", false)
  | 5 => ("BlushLamps", "undos", "I", false)
  | 6 => ("BlushLamps", "undoAt", "I", false)
  | 7 => ("BlushLamps", "town", "LBlushLamps$Town;", true)
  | 8 => ("BlushLamps", "trial", "LBlushLamps$Town;", true)
  | 9 => ("BlushLamps", "past", "[LBlushLamps$Town;", true)
  | 10 => ("BlushLamps", "slots", "[LBlushLamps$Town;", true)
  | 11 => ("BlushLamps", "drawn", "LBlushLamps$Air;", true)
  | 12 => ("BlushLamps", "still", "LBlushLamps$Air;", true)
  | 13 => ("BlushLamps", "held", "[Z", true)
  | 14 => ("BlushLamps", "standing", "[I", true)
  | 15 => ("BlushLamps", "most", "I", false)
  | 16 => ("BlushLamps", "lightAt", "[I", true)
  | 17 => ("BlushLamps", "far", "[I", true)
  | 18 => ("BlushLamps", "few", "[[I", true)
  | 19 => ("BlushLamps", "tolds", "I", false)
  | 20 => ("BlushLamps", "toldYoung", "[I", true)
  | 21 => ("BlushLamps", "toldBy", "[I", true)
  | _ => ("BlushLamps", "toldSo", "[Z", true)
def tyX0 : Nat → FieldType := fun k => match k with
  | 0 => .object "BlushLamps$Fault"
  | 1 => .object "BlushLamps$Tokens"
  | 2 => .object "BlushLamps$Parser"
  | 3 => .object "BlushLamps$Text"
  | 4 => .int
  | 5 => .int
  | 6 => .int
  | 7 => .object "BlushLamps$Town"
  | 8 => .object "BlushLamps$Town"
  | 9 => .array (.object "BlushLamps$Town")
  | 10 => .array (.object "BlushLamps$Town")
  | 11 => .object "BlushLamps$Air"
  | 12 => .object "BlushLamps$Air"
  | 13 => .array .boolean
  | 14 => .array .int
  | 15 => .int
  | 16 => .array .int
  | 17 => .array .int
  | 18 => .array (.array .int)
  | 19 => .int
  | 20 => .array .int
  | 21 => .array .int
  | _ => .array .boolean
abbrev wsX00 : List Cond := u_ws RX0 TX0 23
set_option maxRecDepth 100000 in
theorem nmX0 : ∀ a, a < 23 → ∀ b, b < 23 → a ≠ b → (TX0 a).2.1 ≠ (TX0 b).2.1 := by decide +kernel
set_option maxRecDepth 100000 in
theorem tyX0_ok : ∀ k, k < 23 → parseFieldDescriptor (TX0 k).2.2.1 = some (tyX0 k) := by decide +kernel
abbrev cX0_init : ByteArray := prog_1_method_3_code
def yX0_init : MethodName := ⟨RX0, "<init>", "()V"⟩
def dkwX0_init_11 : List UInt8 := [182, 0, 106, 177]
abbrev dktX0_init_11 : List UInt8 := dkwX0_init_11 ++ []
def dkwX0_init_10 : List UInt8 := [187, 0, 48, 89, 183, 0, 50, 83, 132, 1, 1, 167, 255, 234, 42, 180, 0, 51, 42, 180, 0, 40]
abbrev dktX0_init_10 : List UInt8 := dkwX0_init_10 ++ dktX0_init_11
def dkwX0_init_9 : List UInt8 := [181, 0, 100, 42, 16, 20, 188, 4, 181, 0, 103, 3, 60, 27, 16, 40, 162, 0, 22, 42, 180, 0, 58, 27]
abbrev dktX0_init_9 : List UInt8 := dkwX0_init_9 ++ dktX0_init_10
def dkwX0_init_8 : List UInt8 := [16, 7, 197, 0, 92, 2, 181, 0, 94, 42, 16, 20, 188, 10, 181, 0, 97, 42, 16, 20, 188, 10]
abbrev dktX0_init_8 : List UInt8 := dkwX0_init_8 ++ dktX0_init_9
def dkwX0_init_7 : List UInt8 := [181, 0, 82, 42, 16, 7, 188, 10, 181, 0, 86, 42, 16, 7, 188, 10, 181, 0, 89, 42, 17, 0, 128]
abbrev dktX0_init_7 : List UInt8 := dkwX0_init_7 ++ dktX0_init_8
def dkwX0_init_6 : List UInt8 := [42, 187, 0, 72, 89, 183, 0, 74, 181, 0, 75, 42, 6, 188, 4, 181, 0, 78, 42, 16, 6, 188, 10]
abbrev dktX0_init_6 : List UInt8 := dkwX0_init_6 ++ dktX0_init_7
def dkwX0_init_5 : List UInt8 := [89, 5, 187, 0, 48, 89, 183, 0, 50, 83, 181, 0, 62, 42, 187, 0, 65, 89, 183, 0, 67, 181, 0, 68]
abbrev dktX0_init_5 : List UInt8 := dkwX0_init_5 ++ dktX0_init_6
def dkwX0_init_4 : List UInt8 := [6, 189, 0, 48, 89, 3, 187, 0, 48, 89, 183, 0, 50, 83, 89, 4, 187, 0, 48, 89, 183, 0, 50, 83]
abbrev dktX0_init_4 : List UInt8 := dkwX0_init_4 ++ dktX0_init_5
def dkwX0_init_3 : List UInt8 := [181, 0, 51, 42, 187, 0, 48, 89, 183, 0, 50, 181, 0, 55, 42, 16, 40, 189, 0, 48, 181, 0, 58, 42]
abbrev dktX0_init_3 : List UInt8 := dkwX0_init_3 ++ dktX0_init_4
def dkwX0_init_2 : List UInt8 := [187, 0, 37, 89, 183, 0, 39, 181, 0, 40, 42, 2, 181, 0, 44, 42, 187, 0, 48, 89, 183, 0, 50]
abbrev dktX0_init_2 : List UInt8 := dkwX0_init_2 ++ dktX0_init_3
def dkwX0_init_1 : List UInt8 := [181, 0, 24, 42, 187, 0, 28, 89, 42, 180, 0, 24, 42, 180, 0, 17, 183, 0, 30, 181, 0, 33, 42]
abbrev dktX0_init_1 : List UInt8 := dkwX0_init_1 ++ dktX0_init_2
def dkwX0_init_0 : List UInt8 := [42, 183, 0, 8, 42, 187, 0, 14, 89, 183, 0, 16, 181, 0, 17, 42, 187, 0, 21, 89, 183, 0, 23]
abbrev dktX0_init_0 : List UInt8 := dkwX0_init_0 ++ dktX0_init_1
theorem dksX0_init_0 : cX0_init.data.toList.drop 0 = dktX0_init_0 := by decide +kernel
theorem dksX0_init_1 : cX0_init.data.toList.drop 23 = dktX0_init_1 := dk_seg dksX0_init_0 23 rfl rfl
theorem dksX0_init_2 : cX0_init.data.toList.drop 46 = dktX0_init_2 := dk_seg dksX0_init_1 23 rfl rfl
theorem dksX0_init_3 : cX0_init.data.toList.drop 69 = dktX0_init_3 := dk_seg dksX0_init_2 23 rfl rfl
theorem dksX0_init_4 : cX0_init.data.toList.drop 93 = dktX0_init_4 := dk_seg dksX0_init_3 24 rfl rfl
theorem dksX0_init_5 : cX0_init.data.toList.drop 117 = dktX0_init_5 := dk_seg dksX0_init_4 24 rfl rfl
theorem dksX0_init_6 : cX0_init.data.toList.drop 141 = dktX0_init_6 := dk_seg dksX0_init_5 24 rfl rfl
theorem dksX0_init_7 : cX0_init.data.toList.drop 164 = dktX0_init_7 := dk_seg dksX0_init_6 23 rfl rfl
theorem dksX0_init_8 : cX0_init.data.toList.drop 187 = dktX0_init_8 := dk_seg dksX0_init_7 23 rfl rfl
theorem dksX0_init_9 : cX0_init.data.toList.drop 209 = dktX0_init_9 := dk_seg dksX0_init_8 22 rfl rfl
theorem dksX0_init_10 : cX0_init.data.toList.drop 233 = dktX0_init_10 := dk_seg dksX0_init_9 24 rfl rfl
theorem dksX0_init_11 : cX0_init.data.toList.drop 255 = dktX0_init_11 := dk_seg dksX0_init_10 22 rfl rfl
theorem dX0_init_0 : decode cX0_init 0 = .ok (.aload_n 0, 1) := dk_42 (dk_at dksX0_init_0 0 rfl rfl)
theorem dX0_init_1 : decode cX0_init 1 = .ok (.invokespecial 8, 3) := dk_183 0 8 (dk_at dksX0_init_0 1 rfl rfl)
theorem dX0_init_4 : decode cX0_init 4 = .ok (.aload_n 0, 1) := dk_42 (dk_at dksX0_init_0 4 rfl rfl)
theorem dX0_init_5 : decode cX0_init 5 = .ok (.new 14, 3) := dk_187 0 14 (dk_at dksX0_init_0 5 rfl rfl)
theorem dX0_init_8 : decode cX0_init 8 = .ok (.dup, 1) := dk_89 (dk_at dksX0_init_0 8 rfl rfl)
theorem dX0_init_9 : decode cX0_init 9 = .ok (.invokespecial 16, 3) := dk_183 0 16 (dk_at dksX0_init_0 9 rfl rfl)
theorem dX0_init_12 : decode cX0_init 12 = .ok (.putfield 17, 3) := dk_181 0 17 (dk_at dksX0_init_0 12 rfl rfl)
theorem dX0_init_15 : decode cX0_init 15 = .ok (.aload_n 0, 1) := dk_42 (dk_at dksX0_init_0 15 rfl rfl)
theorem dX0_init_16 : decode cX0_init 16 = .ok (.new 21, 3) := dk_187 0 21 (dk_at dksX0_init_0 16 rfl rfl)
theorem dX0_init_19 : decode cX0_init 19 = .ok (.dup, 1) := dk_89 (dk_at dksX0_init_0 19 rfl rfl)
theorem dX0_init_20 : decode cX0_init 20 = .ok (.invokespecial 23, 3) := dk_183 0 23 (dk_at dksX0_init_0 20 rfl rfl)
theorem dX0_init_23 : decode cX0_init 23 = .ok (.putfield 24, 3) := dk_181 0 24 (dk_at dksX0_init_1 0 rfl rfl)
theorem dX0_init_26 : decode cX0_init 26 = .ok (.aload_n 0, 1) := dk_42 (dk_at dksX0_init_1 3 rfl rfl)
theorem dX0_init_27 : decode cX0_init 27 = .ok (.new 28, 3) := dk_187 0 28 (dk_at dksX0_init_1 4 rfl rfl)
theorem dX0_init_30 : decode cX0_init 30 = .ok (.dup, 1) := dk_89 (dk_at dksX0_init_1 7 rfl rfl)
theorem dX0_init_31 : decode cX0_init 31 = .ok (.aload_n 0, 1) := dk_42 (dk_at dksX0_init_1 8 rfl rfl)
theorem dX0_init_32 : decode cX0_init 32 = .ok (.getfield 24, 3) := dk_180 0 24 (dk_at dksX0_init_1 9 rfl rfl)
theorem dX0_init_35 : decode cX0_init 35 = .ok (.aload_n 0, 1) := dk_42 (dk_at dksX0_init_1 12 rfl rfl)
theorem dX0_init_36 : decode cX0_init 36 = .ok (.getfield 17, 3) := dk_180 0 17 (dk_at dksX0_init_1 13 rfl rfl)
theorem dX0_init_39 : decode cX0_init 39 = .ok (.invokespecial 30, 3) := dk_183 0 30 (dk_at dksX0_init_1 16 rfl rfl)
theorem dX0_init_42 : decode cX0_init 42 = .ok (.putfield 33, 3) := dk_181 0 33 (dk_at dksX0_init_1 19 rfl rfl)
theorem dX0_init_45 : decode cX0_init 45 = .ok (.aload_n 0, 1) := dk_42 (dk_at dksX0_init_1 22 rfl rfl)
theorem dX0_init_46 : decode cX0_init 46 = .ok (.new 37, 3) := dk_187 0 37 (dk_at dksX0_init_2 0 rfl rfl)
theorem dX0_init_49 : decode cX0_init 49 = .ok (.dup, 1) := dk_89 (dk_at dksX0_init_2 3 rfl rfl)
theorem dX0_init_50 : decode cX0_init 50 = .ok (.invokespecial 39, 3) := dk_183 0 39 (dk_at dksX0_init_2 4 rfl rfl)
theorem dX0_init_53 : decode cX0_init 53 = .ok (.putfield 40, 3) := dk_181 0 40 (dk_at dksX0_init_2 7 rfl rfl)
theorem dX0_init_56 : decode cX0_init 56 = .ok (.aload_n 0, 1) := dk_42 (dk_at dksX0_init_2 10 rfl rfl)
theorem dX0_init_57 : decode cX0_init 57 = .ok (.iconst (-1), 1) := dk_2 (dk_at dksX0_init_2 11 rfl rfl)
theorem dX0_init_58 : decode cX0_init 58 = .ok (.putfield 44, 3) := dk_181 0 44 (dk_at dksX0_init_2 12 rfl rfl)
theorem dX0_init_61 : decode cX0_init 61 = .ok (.aload_n 0, 1) := dk_42 (dk_at dksX0_init_2 15 rfl rfl)
theorem dX0_init_62 : decode cX0_init 62 = .ok (.new 48, 3) := dk_187 0 48 (dk_at dksX0_init_2 16 rfl rfl)
theorem dX0_init_65 : decode cX0_init 65 = .ok (.dup, 1) := dk_89 (dk_at dksX0_init_2 19 rfl rfl)
theorem dX0_init_66 : decode cX0_init 66 = .ok (.invokespecial 50, 3) := dk_183 0 50 (dk_at dksX0_init_2 20 rfl rfl)
theorem dX0_init_69 : decode cX0_init 69 = .ok (.putfield 51, 3) := dk_181 0 51 (dk_at dksX0_init_3 0 rfl rfl)
theorem dX0_init_72 : decode cX0_init 72 = .ok (.aload_n 0, 1) := dk_42 (dk_at dksX0_init_3 3 rfl rfl)
theorem dX0_init_73 : decode cX0_init 73 = .ok (.new 48, 3) := dk_187 0 48 (dk_at dksX0_init_3 4 rfl rfl)
theorem dX0_init_76 : decode cX0_init 76 = .ok (.dup, 1) := dk_89 (dk_at dksX0_init_3 7 rfl rfl)
theorem dX0_init_77 : decode cX0_init 77 = .ok (.invokespecial 50, 3) := dk_183 0 50 (dk_at dksX0_init_3 8 rfl rfl)
theorem dX0_init_80 : decode cX0_init 80 = .ok (.putfield 55, 3) := dk_181 0 55 (dk_at dksX0_init_3 11 rfl rfl)
theorem dX0_init_83 : decode cX0_init 83 = .ok (.aload_n 0, 1) := dk_42 (dk_at dksX0_init_3 14 rfl rfl)
theorem dX0_init_84 : decode cX0_init 84 = .ok (.bipush 40, 2) := dk_16 40 (dk_at dksX0_init_3 15 rfl rfl)
theorem dX0_init_86 : decode cX0_init 86 = .ok (.anewarray 48, 3) := dk_189 0 48 (dk_at dksX0_init_3 17 rfl rfl)
theorem dX0_init_89 : decode cX0_init 89 = .ok (.putfield 58, 3) := dk_181 0 58 (dk_at dksX0_init_3 20 rfl rfl)
theorem dX0_init_92 : decode cX0_init 92 = .ok (.aload_n 0, 1) := dk_42 (dk_at dksX0_init_3 23 rfl rfl)
theorem dX0_init_93 : decode cX0_init 93 = .ok (.iconst 3, 1) := dk_6 (dk_at dksX0_init_4 0 rfl rfl)
theorem dX0_init_94 : decode cX0_init 94 = .ok (.anewarray 48, 3) := dk_189 0 48 (dk_at dksX0_init_4 1 rfl rfl)
theorem dX0_init_97 : decode cX0_init 97 = .ok (.dup, 1) := dk_89 (dk_at dksX0_init_4 4 rfl rfl)
theorem dX0_init_98 : decode cX0_init 98 = .ok (.iconst 0, 1) := dk_3 (dk_at dksX0_init_4 5 rfl rfl)
theorem dX0_init_99 : decode cX0_init 99 = .ok (.new 48, 3) := dk_187 0 48 (dk_at dksX0_init_4 6 rfl rfl)
theorem dX0_init_102 : decode cX0_init 102 = .ok (.dup, 1) := dk_89 (dk_at dksX0_init_4 9 rfl rfl)
theorem dX0_init_103 : decode cX0_init 103 = .ok (.invokespecial 50, 3) := dk_183 0 50 (dk_at dksX0_init_4 10 rfl rfl)
theorem dX0_init_106 : decode cX0_init 106 = .ok (.aastore, 1) := dk_83 (dk_at dksX0_init_4 13 rfl rfl)
theorem dX0_init_107 : decode cX0_init 107 = .ok (.dup, 1) := dk_89 (dk_at dksX0_init_4 14 rfl rfl)
theorem dX0_init_108 : decode cX0_init 108 = .ok (.iconst 1, 1) := dk_4 (dk_at dksX0_init_4 15 rfl rfl)
theorem dX0_init_109 : decode cX0_init 109 = .ok (.new 48, 3) := dk_187 0 48 (dk_at dksX0_init_4 16 rfl rfl)
theorem dX0_init_112 : decode cX0_init 112 = .ok (.dup, 1) := dk_89 (dk_at dksX0_init_4 19 rfl rfl)
theorem dX0_init_113 : decode cX0_init 113 = .ok (.invokespecial 50, 3) := dk_183 0 50 (dk_at dksX0_init_4 20 rfl rfl)
theorem dX0_init_116 : decode cX0_init 116 = .ok (.aastore, 1) := dk_83 (dk_at dksX0_init_4 23 rfl rfl)
theorem dX0_init_117 : decode cX0_init 117 = .ok (.dup, 1) := dk_89 (dk_at dksX0_init_5 0 rfl rfl)
theorem dX0_init_118 : decode cX0_init 118 = .ok (.iconst 2, 1) := dk_5 (dk_at dksX0_init_5 1 rfl rfl)
theorem dX0_init_119 : decode cX0_init 119 = .ok (.new 48, 3) := dk_187 0 48 (dk_at dksX0_init_5 2 rfl rfl)
theorem dX0_init_122 : decode cX0_init 122 = .ok (.dup, 1) := dk_89 (dk_at dksX0_init_5 5 rfl rfl)
theorem dX0_init_123 : decode cX0_init 123 = .ok (.invokespecial 50, 3) := dk_183 0 50 (dk_at dksX0_init_5 6 rfl rfl)
theorem dX0_init_126 : decode cX0_init 126 = .ok (.aastore, 1) := dk_83 (dk_at dksX0_init_5 9 rfl rfl)
theorem dX0_init_127 : decode cX0_init 127 = .ok (.putfield 62, 3) := dk_181 0 62 (dk_at dksX0_init_5 10 rfl rfl)
theorem dX0_init_130 : decode cX0_init 130 = .ok (.aload_n 0, 1) := dk_42 (dk_at dksX0_init_5 13 rfl rfl)
theorem dX0_init_131 : decode cX0_init 131 = .ok (.new 65, 3) := dk_187 0 65 (dk_at dksX0_init_5 14 rfl rfl)
theorem dX0_init_134 : decode cX0_init 134 = .ok (.dup, 1) := dk_89 (dk_at dksX0_init_5 17 rfl rfl)
theorem dX0_init_135 : decode cX0_init 135 = .ok (.invokespecial 67, 3) := dk_183 0 67 (dk_at dksX0_init_5 18 rfl rfl)
theorem dX0_init_138 : decode cX0_init 138 = .ok (.putfield 68, 3) := dk_181 0 68 (dk_at dksX0_init_5 21 rfl rfl)
theorem dX0_init_141 : decode cX0_init 141 = .ok (.aload_n 0, 1) := dk_42 (dk_at dksX0_init_6 0 rfl rfl)
theorem dX0_init_142 : decode cX0_init 142 = .ok (.new 72, 3) := dk_187 0 72 (dk_at dksX0_init_6 1 rfl rfl)
theorem dX0_init_145 : decode cX0_init 145 = .ok (.dup, 1) := dk_89 (dk_at dksX0_init_6 4 rfl rfl)
theorem dX0_init_146 : decode cX0_init 146 = .ok (.invokespecial 74, 3) := dk_183 0 74 (dk_at dksX0_init_6 5 rfl rfl)
theorem dX0_init_149 : decode cX0_init 149 = .ok (.putfield 75, 3) := dk_181 0 75 (dk_at dksX0_init_6 8 rfl rfl)
theorem dX0_init_152 : decode cX0_init 152 = .ok (.aload_n 0, 1) := dk_42 (dk_at dksX0_init_6 11 rfl rfl)
theorem dX0_init_153 : decode cX0_init 153 = .ok (.iconst 3, 1) := dk_6 (dk_at dksX0_init_6 12 rfl rfl)
theorem dX0_init_154 : decode cX0_init 154 = .ok (.newarray .boolean, 2) := dk_188_4 (dk_at dksX0_init_6 13 rfl rfl)
theorem dX0_init_156 : decode cX0_init 156 = .ok (.putfield 78, 3) := dk_181 0 78 (dk_at dksX0_init_6 15 rfl rfl)
theorem dX0_init_159 : decode cX0_init 159 = .ok (.aload_n 0, 1) := dk_42 (dk_at dksX0_init_6 18 rfl rfl)
theorem dX0_init_160 : decode cX0_init 160 = .ok (.bipush 6, 2) := dk_16 6 (dk_at dksX0_init_6 19 rfl rfl)
theorem dX0_init_162 : decode cX0_init 162 = .ok (.newarray .int, 2) := dk_188_10 (dk_at dksX0_init_6 21 rfl rfl)
theorem dX0_init_164 : decode cX0_init 164 = .ok (.putfield 82, 3) := dk_181 0 82 (dk_at dksX0_init_7 0 rfl rfl)
theorem dX0_init_167 : decode cX0_init 167 = .ok (.aload_n 0, 1) := dk_42 (dk_at dksX0_init_7 3 rfl rfl)
theorem dX0_init_168 : decode cX0_init 168 = .ok (.bipush 7, 2) := dk_16 7 (dk_at dksX0_init_7 4 rfl rfl)
theorem dX0_init_170 : decode cX0_init 170 = .ok (.newarray .int, 2) := dk_188_10 (dk_at dksX0_init_7 6 rfl rfl)
theorem dX0_init_172 : decode cX0_init 172 = .ok (.putfield 86, 3) := dk_181 0 86 (dk_at dksX0_init_7 8 rfl rfl)
theorem dX0_init_175 : decode cX0_init 175 = .ok (.aload_n 0, 1) := dk_42 (dk_at dksX0_init_7 11 rfl rfl)
theorem dX0_init_176 : decode cX0_init 176 = .ok (.bipush 7, 2) := dk_16 7 (dk_at dksX0_init_7 12 rfl rfl)
theorem dX0_init_178 : decode cX0_init 178 = .ok (.newarray .int, 2) := dk_188_10 (dk_at dksX0_init_7 14 rfl rfl)
theorem dX0_init_180 : decode cX0_init 180 = .ok (.putfield 89, 3) := dk_181 0 89 (dk_at dksX0_init_7 16 rfl rfl)
theorem dX0_init_183 : decode cX0_init 183 = .ok (.aload_n 0, 1) := dk_42 (dk_at dksX0_init_7 19 rfl rfl)
theorem dX0_init_184 : decode cX0_init 184 = .ok (.sipush 128, 3) := dk_17 0 128 (dk_at dksX0_init_7 20 rfl rfl)
theorem dX0_init_187 : decode cX0_init 187 = .ok (.bipush 7, 2) := dk_16 7 (dk_at dksX0_init_8 0 rfl rfl)
theorem dX0_init_189 : decode cX0_init 189 = .ok (.multianewarray 92 2, 4) := by decide +kernel
theorem dX0_init_193 : decode cX0_init 193 = .ok (.putfield 94, 3) := dk_181 0 94 (dk_at dksX0_init_8 6 rfl rfl)
theorem dX0_init_196 : decode cX0_init 196 = .ok (.aload_n 0, 1) := dk_42 (dk_at dksX0_init_8 9 rfl rfl)
theorem dX0_init_197 : decode cX0_init 197 = .ok (.bipush 20, 2) := dk_16 20 (dk_at dksX0_init_8 10 rfl rfl)
theorem dX0_init_199 : decode cX0_init 199 = .ok (.newarray .int, 2) := dk_188_10 (dk_at dksX0_init_8 12 rfl rfl)
theorem dX0_init_201 : decode cX0_init 201 = .ok (.putfield 97, 3) := dk_181 0 97 (dk_at dksX0_init_8 14 rfl rfl)
theorem dX0_init_204 : decode cX0_init 204 = .ok (.aload_n 0, 1) := dk_42 (dk_at dksX0_init_8 17 rfl rfl)
theorem dX0_init_205 : decode cX0_init 205 = .ok (.bipush 20, 2) := dk_16 20 (dk_at dksX0_init_8 18 rfl rfl)
theorem dX0_init_207 : decode cX0_init 207 = .ok (.newarray .int, 2) := dk_188_10 (dk_at dksX0_init_8 20 rfl rfl)
theorem dX0_init_209 : decode cX0_init 209 = .ok (.putfield 100, 3) := dk_181 0 100 (dk_at dksX0_init_9 0 rfl rfl)
theorem dX0_init_212 : decode cX0_init 212 = .ok (.aload_n 0, 1) := dk_42 (dk_at dksX0_init_9 3 rfl rfl)
theorem dX0_init_213 : decode cX0_init 213 = .ok (.bipush 20, 2) := dk_16 20 (dk_at dksX0_init_9 4 rfl rfl)
theorem dX0_init_215 : decode cX0_init 215 = .ok (.newarray .boolean, 2) := dk_188_4 (dk_at dksX0_init_9 6 rfl rfl)
theorem dX0_init_217 : decode cX0_init 217 = .ok (.putfield 103, 3) := dk_181 0 103 (dk_at dksX0_init_9 8 rfl rfl)
theorem dX0_init_220 : decode cX0_init 220 = .ok (.iconst 0, 1) := dk_3 (dk_at dksX0_init_9 11 rfl rfl)
theorem dX0_init_221 : decode cX0_init 221 = .ok (.istore_n 1, 1) := dk_60 (dk_at dksX0_init_9 12 rfl rfl)
theorem dX0_init_222 : decode cX0_init 222 = .ok (.iload_n 1, 1) := dk_27 (dk_at dksX0_init_9 13 rfl rfl)
theorem dX0_init_223 : decode cX0_init 223 = .ok (.bipush 40, 2) := dk_16 40 (dk_at dksX0_init_9 14 rfl rfl)
theorem dX0_init_225 : decode cX0_init 225 = .ok (.if_icmp .ge 22, 3) := dk_162 0 22 (dk_at dksX0_init_9 16 rfl rfl)
theorem dX0_init_228 : decode cX0_init 228 = .ok (.aload_n 0, 1) := dk_42 (dk_at dksX0_init_9 19 rfl rfl)
theorem dX0_init_229 : decode cX0_init 229 = .ok (.getfield 58, 3) := dk_180 0 58 (dk_at dksX0_init_9 20 rfl rfl)
theorem dX0_init_232 : decode cX0_init 232 = .ok (.iload_n 1, 1) := dk_27 (dk_at dksX0_init_9 23 rfl rfl)
theorem dX0_init_233 : decode cX0_init 233 = .ok (.new 48, 3) := dk_187 0 48 (dk_at dksX0_init_10 0 rfl rfl)
theorem dX0_init_236 : decode cX0_init 236 = .ok (.dup, 1) := dk_89 (dk_at dksX0_init_10 3 rfl rfl)
theorem dX0_init_237 : decode cX0_init 237 = .ok (.invokespecial 50, 3) := dk_183 0 50 (dk_at dksX0_init_10 4 rfl rfl)
theorem dX0_init_240 : decode cX0_init 240 = .ok (.aastore, 1) := dk_83 (dk_at dksX0_init_10 7 rfl rfl)
theorem dX0_init_241 : decode cX0_init 241 = .ok (.iinc 1 1, 3) := dk_132 1 1 (dk_at dksX0_init_10 8 rfl rfl)
theorem dX0_init_244 : decode cX0_init 244 = .ok (.goto (-22), 3) := dk_167 255 234 (dk_at dksX0_init_10 11 rfl rfl)
theorem dX0_init_247 : decode cX0_init 247 = .ok (.aload_n 0, 1) := dk_42 (dk_at dksX0_init_10 14 rfl rfl)
theorem dX0_init_248 : decode cX0_init 248 = .ok (.getfield 51, 3) := dk_180 0 51 (dk_at dksX0_init_10 15 rfl rfl)
theorem dX0_init_251 : decode cX0_init 251 = .ok (.aload_n 0, 1) := dk_42 (dk_at dksX0_init_10 18 rfl rfl)
theorem dX0_init_252 : decode cX0_init 252 = .ok (.getfield 40, 3) := dk_180 0 40 (dk_at dksX0_init_10 19 rfl rfl)
theorem dX0_init_255 : decode cX0_init 255 = .ok (.invokevirtual 106, 3) := dk_182 0 106 (dk_at dksX0_init_11 0 rfl rfl)
theorem dX0_init_258 : decode cX0_init 258 = .ok (.return_, 1) := dk_177 (dk_at dksX0_init_11 3 rfl rfl)
abbrev cX0_feed : ByteArray := prog_1_method_4_code
def yX0_feed : MethodName := ⟨RX0, "feed", "(IIIII)I"⟩
def dkwX0_feed_2 : List UInt8 := [180, 0, 24, 180, 0, 110, 172]
abbrev dktX0_feed_2 : List UInt8 := dkwX0_feed_2 ++ []
def dkwX0_feed_1 : List UInt8 := [28, 182, 0, 113, 42, 29, 182, 0, 113, 42, 21, 4, 182, 0, 113, 42, 21, 5, 182, 0, 113, 42]
abbrev dktX0_feed_1 : List UInt8 := dkwX0_feed_1 ++ dktX0_feed_2
def dkwX0_feed_0 : List UInt8 := [42, 180, 0, 24, 180, 0, 110, 16, 20, 96, 17, 7, 208, 164, 0, 5, 2, 172, 42, 27, 182, 0, 113, 42]
abbrev dktX0_feed_0 : List UInt8 := dkwX0_feed_0 ++ dktX0_feed_1
theorem dksX0_feed_0 : cX0_feed.data.toList.drop 0 = dktX0_feed_0 := by decide +kernel
theorem dksX0_feed_1 : cX0_feed.data.toList.drop 24 = dktX0_feed_1 := dk_seg dksX0_feed_0 24 rfl rfl
theorem dksX0_feed_2 : cX0_feed.data.toList.drop 46 = dktX0_feed_2 := dk_seg dksX0_feed_1 22 rfl rfl
theorem dX0_feed_0 : decode cX0_feed 0 = .ok (.aload_n 0, 1) := dk_42 (dk_at dksX0_feed_0 0 rfl rfl)
theorem dX0_feed_1 : decode cX0_feed 1 = .ok (.getfield 24, 3) := dk_180 0 24 (dk_at dksX0_feed_0 1 rfl rfl)
theorem dX0_feed_4 : decode cX0_feed 4 = .ok (.getfield 110, 3) := dk_180 0 110 (dk_at dksX0_feed_0 4 rfl rfl)
theorem dX0_feed_7 : decode cX0_feed 7 = .ok (.bipush 20, 2) := dk_16 20 (dk_at dksX0_feed_0 7 rfl rfl)
theorem dX0_feed_9 : decode cX0_feed 9 = .ok (.iadd, 1) := dk_96 (dk_at dksX0_feed_0 9 rfl rfl)
theorem dX0_feed_10 : decode cX0_feed 10 = .ok (.sipush 2000, 3) := dk_17 7 208 (dk_at dksX0_feed_0 10 rfl rfl)
theorem dX0_feed_13 : decode cX0_feed 13 = .ok (.if_icmp .le 5, 3) := dk_164 0 5 (dk_at dksX0_feed_0 13 rfl rfl)
theorem dX0_feed_16 : decode cX0_feed 16 = .ok (.iconst (-1), 1) := dk_2 (dk_at dksX0_feed_0 16 rfl rfl)
theorem dX0_feed_17 : decode cX0_feed 17 = .ok (.ireturn, 1) := dk_172 (dk_at dksX0_feed_0 17 rfl rfl)
theorem dX0_feed_18 : decode cX0_feed 18 = .ok (.aload_n 0, 1) := dk_42 (dk_at dksX0_feed_0 18 rfl rfl)
theorem dX0_feed_19 : decode cX0_feed 19 = .ok (.iload_n 1, 1) := dk_27 (dk_at dksX0_feed_0 19 rfl rfl)
theorem dX0_feed_20 : decode cX0_feed 20 = .ok (.invokevirtual 113, 3) := dk_182 0 113 (dk_at dksX0_feed_0 20 rfl rfl)
theorem dX0_feed_23 : decode cX0_feed 23 = .ok (.aload_n 0, 1) := dk_42 (dk_at dksX0_feed_0 23 rfl rfl)
theorem dX0_feed_24 : decode cX0_feed 24 = .ok (.iload_n 2, 1) := dk_28 (dk_at dksX0_feed_1 0 rfl rfl)
theorem dX0_feed_25 : decode cX0_feed 25 = .ok (.invokevirtual 113, 3) := dk_182 0 113 (dk_at dksX0_feed_1 1 rfl rfl)
theorem dX0_feed_28 : decode cX0_feed 28 = .ok (.aload_n 0, 1) := dk_42 (dk_at dksX0_feed_1 4 rfl rfl)
theorem dX0_feed_29 : decode cX0_feed 29 = .ok (.iload_n 3, 1) := dk_29 (dk_at dksX0_feed_1 5 rfl rfl)
theorem dX0_feed_30 : decode cX0_feed 30 = .ok (.invokevirtual 113, 3) := dk_182 0 113 (dk_at dksX0_feed_1 6 rfl rfl)
theorem dX0_feed_33 : decode cX0_feed 33 = .ok (.aload_n 0, 1) := dk_42 (dk_at dksX0_feed_1 9 rfl rfl)
theorem dX0_feed_34 : decode cX0_feed 34 = .ok (.iload 4, 2) := dk_21 4 (dk_at dksX0_feed_1 10 rfl rfl)
theorem dX0_feed_36 : decode cX0_feed 36 = .ok (.invokevirtual 113, 3) := dk_182 0 113 (dk_at dksX0_feed_1 12 rfl rfl)
theorem dX0_feed_39 : decode cX0_feed 39 = .ok (.aload_n 0, 1) := dk_42 (dk_at dksX0_feed_1 15 rfl rfl)
theorem dX0_feed_40 : decode cX0_feed 40 = .ok (.iload 5, 2) := dk_21 5 (dk_at dksX0_feed_1 16 rfl rfl)
theorem dX0_feed_42 : decode cX0_feed 42 = .ok (.invokevirtual 113, 3) := dk_182 0 113 (dk_at dksX0_feed_1 18 rfl rfl)
theorem dX0_feed_45 : decode cX0_feed 45 = .ok (.aload_n 0, 1) := dk_42 (dk_at dksX0_feed_1 21 rfl rfl)
theorem dX0_feed_46 : decode cX0_feed 46 = .ok (.getfield 24, 3) := dk_180 0 24 (dk_at dksX0_feed_2 0 rfl rfl)
theorem dX0_feed_49 : decode cX0_feed 49 = .ok (.getfield 110, 3) := dk_180 0 110 (dk_at dksX0_feed_2 3 rfl rfl)
theorem dX0_feed_52 : decode cX0_feed 52 = .ok (.ireturn, 1) := dk_172 (dk_at dksX0_feed_2 6 rfl rfl)
abbrev cX0_typed : ByteArray := prog_1_method_5_code
def yX0_typed : MethodName := ⟨RX0, "typed", "(I)V"⟩
def dkwX0_typed_1 : List UInt8 := [145, 84, 42, 180, 0, 24, 89, 180, 0, 110, 4, 96, 181, 0, 110, 132, 2, 248, 167, 255, 217, 177]
abbrev dktX0_typed_1 : List UInt8 := dkwX0_typed_1 ++ []
def dkwX0_typed_0 : List UInt8 := [16, 24, 61, 28, 155, 0, 41, 42, 180, 0, 24, 180, 0, 117, 42, 180, 0, 24, 180, 0, 110, 27, 28, 122]
abbrev dktX0_typed_0 : List UInt8 := dkwX0_typed_0 ++ dktX0_typed_1
theorem dksX0_typed_0 : cX0_typed.data.toList.drop 0 = dktX0_typed_0 := by decide +kernel
theorem dksX0_typed_1 : cX0_typed.data.toList.drop 24 = dktX0_typed_1 := dk_seg dksX0_typed_0 24 rfl rfl
theorem dX0_typed_0 : decode cX0_typed 0 = .ok (.bipush 24, 2) := dk_16 24 (dk_at dksX0_typed_0 0 rfl rfl)
theorem dX0_typed_2 : decode cX0_typed 2 = .ok (.istore_n 2, 1) := dk_61 (dk_at dksX0_typed_0 2 rfl rfl)
theorem dX0_typed_3 : decode cX0_typed 3 = .ok (.iload_n 2, 1) := dk_28 (dk_at dksX0_typed_0 3 rfl rfl)
theorem dX0_typed_4 : decode cX0_typed 4 = .ok (.ifCond .lt 41, 3) := dk_155 0 41 (dk_at dksX0_typed_0 4 rfl rfl)
theorem dX0_typed_7 : decode cX0_typed 7 = .ok (.aload_n 0, 1) := dk_42 (dk_at dksX0_typed_0 7 rfl rfl)
theorem dX0_typed_8 : decode cX0_typed 8 = .ok (.getfield 24, 3) := dk_180 0 24 (dk_at dksX0_typed_0 8 rfl rfl)
theorem dX0_typed_11 : decode cX0_typed 11 = .ok (.getfield 117, 3) := dk_180 0 117 (dk_at dksX0_typed_0 11 rfl rfl)
theorem dX0_typed_14 : decode cX0_typed 14 = .ok (.aload_n 0, 1) := dk_42 (dk_at dksX0_typed_0 14 rfl rfl)
theorem dX0_typed_15 : decode cX0_typed 15 = .ok (.getfield 24, 3) := dk_180 0 24 (dk_at dksX0_typed_0 15 rfl rfl)
theorem dX0_typed_18 : decode cX0_typed 18 = .ok (.getfield 110, 3) := dk_180 0 110 (dk_at dksX0_typed_0 18 rfl rfl)
theorem dX0_typed_21 : decode cX0_typed 21 = .ok (.iload_n 1, 1) := dk_27 (dk_at dksX0_typed_0 21 rfl rfl)
theorem dX0_typed_22 : decode cX0_typed 22 = .ok (.iload_n 2, 1) := dk_28 (dk_at dksX0_typed_0 22 rfl rfl)
theorem dX0_typed_23 : decode cX0_typed 23 = .ok (.ishr, 1) := dk_122 (dk_at dksX0_typed_0 23 rfl rfl)
theorem dX0_typed_24 : decode cX0_typed 24 = .ok (.i2b, 1) := dk_145 (dk_at dksX0_typed_1 0 rfl rfl)
theorem dX0_typed_25 : decode cX0_typed 25 = .ok (.bastore, 1) := dk_84 (dk_at dksX0_typed_1 1 rfl rfl)
theorem dX0_typed_26 : decode cX0_typed 26 = .ok (.aload_n 0, 1) := dk_42 (dk_at dksX0_typed_1 2 rfl rfl)
theorem dX0_typed_27 : decode cX0_typed 27 = .ok (.getfield 24, 3) := dk_180 0 24 (dk_at dksX0_typed_1 3 rfl rfl)
theorem dX0_typed_30 : decode cX0_typed 30 = .ok (.dup, 1) := dk_89 (dk_at dksX0_typed_1 6 rfl rfl)
theorem dX0_typed_31 : decode cX0_typed 31 = .ok (.getfield 110, 3) := dk_180 0 110 (dk_at dksX0_typed_1 7 rfl rfl)
theorem dX0_typed_34 : decode cX0_typed 34 = .ok (.iconst 1, 1) := dk_4 (dk_at dksX0_typed_1 10 rfl rfl)
theorem dX0_typed_35 : decode cX0_typed 35 = .ok (.iadd, 1) := dk_96 (dk_at dksX0_typed_1 11 rfl rfl)
theorem dX0_typed_36 : decode cX0_typed 36 = .ok (.putfield 110, 3) := dk_181 0 110 (dk_at dksX0_typed_1 12 rfl rfl)
theorem dX0_typed_39 : decode cX0_typed 39 = .ok (.iinc 2 (-8), 3) := dk_132 2 248 (dk_at dksX0_typed_1 15 rfl rfl)
theorem dX0_typed_42 : decode cX0_typed 42 = .ok (.goto (-39), 3) := dk_167 255 217 (dk_at dksX0_typed_1 18 rfl rfl)
theorem dX0_typed_45 : decode cX0_typed 45 = .ok (.return_, 1) := dk_177 (dk_at dksX0_typed_1 21 rfl rfl)
abbrev cX0_back : ByteArray := prog_1_method_6_code
def yX0_back : MethodName := ⟨RX0, "back", "(I)I"⟩
def dkwX0_back_1 : List UInt8 := [180, 0, 110, 27, 100, 181, 0, 110, 42, 180, 0, 24, 180, 0, 110, 172]
abbrev dktX0_back_1 : List UInt8 := dkwX0_back_1 ++ []
def dkwX0_back_0 : List UInt8 := [27, 155, 0, 14, 27, 42, 180, 0, 24, 180, 0, 110, 164, 0, 5, 2, 172, 42, 180, 0, 24, 89]
abbrev dktX0_back_0 : List UInt8 := dkwX0_back_0 ++ dktX0_back_1
theorem dksX0_back_0 : cX0_back.data.toList.drop 0 = dktX0_back_0 := by decide +kernel
theorem dksX0_back_1 : cX0_back.data.toList.drop 22 = dktX0_back_1 := dk_seg dksX0_back_0 22 rfl rfl
theorem dX0_back_0 : decode cX0_back 0 = .ok (.iload_n 1, 1) := dk_27 (dk_at dksX0_back_0 0 rfl rfl)
theorem dX0_back_1 : decode cX0_back 1 = .ok (.ifCond .lt 14, 3) := dk_155 0 14 (dk_at dksX0_back_0 1 rfl rfl)
theorem dX0_back_4 : decode cX0_back 4 = .ok (.iload_n 1, 1) := dk_27 (dk_at dksX0_back_0 4 rfl rfl)
theorem dX0_back_5 : decode cX0_back 5 = .ok (.aload_n 0, 1) := dk_42 (dk_at dksX0_back_0 5 rfl rfl)
theorem dX0_back_6 : decode cX0_back 6 = .ok (.getfield 24, 3) := dk_180 0 24 (dk_at dksX0_back_0 6 rfl rfl)
theorem dX0_back_9 : decode cX0_back 9 = .ok (.getfield 110, 3) := dk_180 0 110 (dk_at dksX0_back_0 9 rfl rfl)
theorem dX0_back_12 : decode cX0_back 12 = .ok (.if_icmp .le 5, 3) := dk_164 0 5 (dk_at dksX0_back_0 12 rfl rfl)
theorem dX0_back_15 : decode cX0_back 15 = .ok (.iconst (-1), 1) := dk_2 (dk_at dksX0_back_0 15 rfl rfl)
theorem dX0_back_16 : decode cX0_back 16 = .ok (.ireturn, 1) := dk_172 (dk_at dksX0_back_0 16 rfl rfl)
theorem dX0_back_17 : decode cX0_back 17 = .ok (.aload_n 0, 1) := dk_42 (dk_at dksX0_back_0 17 rfl rfl)
theorem dX0_back_18 : decode cX0_back 18 = .ok (.getfield 24, 3) := dk_180 0 24 (dk_at dksX0_back_0 18 rfl rfl)
theorem dX0_back_21 : decode cX0_back 21 = .ok (.dup, 1) := dk_89 (dk_at dksX0_back_0 21 rfl rfl)
theorem dX0_back_22 : decode cX0_back 22 = .ok (.getfield 110, 3) := dk_180 0 110 (dk_at dksX0_back_1 0 rfl rfl)
theorem dX0_back_25 : decode cX0_back 25 = .ok (.iload_n 1, 1) := dk_27 (dk_at dksX0_back_1 3 rfl rfl)
theorem dX0_back_26 : decode cX0_back 26 = .ok (.isub, 1) := dk_100 (dk_at dksX0_back_1 4 rfl rfl)
theorem dX0_back_27 : decode cX0_back 27 = .ok (.putfield 110, 3) := dk_181 0 110 (dk_at dksX0_back_1 5 rfl rfl)
theorem dX0_back_30 : decode cX0_back 30 = .ok (.aload_n 0, 1) := dk_42 (dk_at dksX0_back_1 8 rfl rfl)
theorem dX0_back_31 : decode cX0_back 31 = .ok (.getfield 24, 3) := dk_180 0 24 (dk_at dksX0_back_1 9 rfl rfl)
theorem dX0_back_34 : decode cX0_back 34 = .ok (.getfield 110, 3) := dk_180 0 110 (dk_at dksX0_back_1 12 rfl rfl)
theorem dX0_back_37 : decode cX0_back 37 = .ok (.ireturn, 1) := dk_172 (dk_at dksX0_back_1 15 rfl rfl)
abbrev cX0_read : ByteArray := prog_1_method_7_code
def yX0_read : MethodName := ⟨RX0, "read", "()I"⟩
def dkwX0_read_3 : List UInt8 := [180, 0, 134, 181, 0, 44, 42, 180, 0, 24, 3, 181, 0, 110, 27, 172]
abbrev dktX0_read_3 : List UInt8 := dkwX0_read_3 ++ []
def dkwX0_read_2 : List UInt8 := [180, 0, 78, 28, 3, 84, 132, 2, 1, 167, 255, 241, 167, 0, 17, 77, 44, 180, 0, 131, 60, 42, 44]
abbrev dktX0_read_2 : List UInt8 := dkwX0_read_2 ++ dktX0_read_3
def dkwX0_read_1 : List UInt8 := [180, 0, 40, 182, 0, 106, 42, 3, 181, 0, 125, 42, 3, 181, 0, 128, 3, 61, 28, 6, 162, 0, 16, 42]
abbrev dktX0_read_1 : List UInt8 := dkwX0_read_1 ++ dktX0_read_2
def dkwX0_read_0 : List UInt8 := [3, 60, 42, 2, 181, 0, 44, 42, 42, 180, 0, 33, 182, 0, 121, 181, 0, 40, 42, 180, 0, 51, 42]
abbrev dktX0_read_0 : List UInt8 := dkwX0_read_0 ++ dktX0_read_1
theorem dksX0_read_0 : cX0_read.data.toList.drop 0 = dktX0_read_0 := by decide +kernel
theorem dksX0_read_1 : cX0_read.data.toList.drop 23 = dktX0_read_1 := dk_seg dksX0_read_0 23 rfl rfl
theorem dksX0_read_2 : cX0_read.data.toList.drop 47 = dktX0_read_2 := dk_seg dksX0_read_1 24 rfl rfl
theorem dksX0_read_3 : cX0_read.data.toList.drop 70 = dktX0_read_3 := dk_seg dksX0_read_2 23 rfl rfl
theorem dX0_read_0 : decode cX0_read 0 = .ok (.iconst 0, 1) := dk_3 (dk_at dksX0_read_0 0 rfl rfl)
theorem dX0_read_1 : decode cX0_read 1 = .ok (.istore_n 1, 1) := dk_60 (dk_at dksX0_read_0 1 rfl rfl)
theorem dX0_read_2 : decode cX0_read 2 = .ok (.aload_n 0, 1) := dk_42 (dk_at dksX0_read_0 2 rfl rfl)
theorem dX0_read_3 : decode cX0_read 3 = .ok (.iconst (-1), 1) := dk_2 (dk_at dksX0_read_0 3 rfl rfl)
theorem dX0_read_4 : decode cX0_read 4 = .ok (.putfield 44, 3) := dk_181 0 44 (dk_at dksX0_read_0 4 rfl rfl)
theorem dX0_read_7 : decode cX0_read 7 = .ok (.aload_n 0, 1) := dk_42 (dk_at dksX0_read_0 7 rfl rfl)
theorem dX0_read_8 : decode cX0_read 8 = .ok (.aload_n 0, 1) := dk_42 (dk_at dksX0_read_0 8 rfl rfl)
theorem dX0_read_9 : decode cX0_read 9 = .ok (.getfield 33, 3) := dk_180 0 33 (dk_at dksX0_read_0 9 rfl rfl)
theorem dX0_read_12 : decode cX0_read 12 = .ok (.invokevirtual 121, 3) := dk_182 0 121 (dk_at dksX0_read_0 12 rfl rfl)
theorem dX0_read_15 : decode cX0_read 15 = .ok (.putfield 40, 3) := dk_181 0 40 (dk_at dksX0_read_0 15 rfl rfl)
theorem dX0_read_18 : decode cX0_read 18 = .ok (.aload_n 0, 1) := dk_42 (dk_at dksX0_read_0 18 rfl rfl)
theorem dX0_read_19 : decode cX0_read 19 = .ok (.getfield 51, 3) := dk_180 0 51 (dk_at dksX0_read_0 19 rfl rfl)
theorem dX0_read_22 : decode cX0_read 22 = .ok (.aload_n 0, 1) := dk_42 (dk_at dksX0_read_0 22 rfl rfl)
theorem dX0_read_23 : decode cX0_read 23 = .ok (.getfield 40, 3) := dk_180 0 40 (dk_at dksX0_read_1 0 rfl rfl)
theorem dX0_read_26 : decode cX0_read 26 = .ok (.invokevirtual 106, 3) := dk_182 0 106 (dk_at dksX0_read_1 3 rfl rfl)
theorem dX0_read_29 : decode cX0_read 29 = .ok (.aload_n 0, 1) := dk_42 (dk_at dksX0_read_1 6 rfl rfl)
theorem dX0_read_30 : decode cX0_read 30 = .ok (.iconst 0, 1) := dk_3 (dk_at dksX0_read_1 7 rfl rfl)
theorem dX0_read_31 : decode cX0_read 31 = .ok (.putfield 125, 3) := dk_181 0 125 (dk_at dksX0_read_1 8 rfl rfl)
theorem dX0_read_34 : decode cX0_read 34 = .ok (.aload_n 0, 1) := dk_42 (dk_at dksX0_read_1 11 rfl rfl)
theorem dX0_read_35 : decode cX0_read 35 = .ok (.iconst 0, 1) := dk_3 (dk_at dksX0_read_1 12 rfl rfl)
theorem dX0_read_36 : decode cX0_read 36 = .ok (.putfield 128, 3) := dk_181 0 128 (dk_at dksX0_read_1 13 rfl rfl)
theorem dX0_read_39 : decode cX0_read 39 = .ok (.iconst 0, 1) := dk_3 (dk_at dksX0_read_1 16 rfl rfl)
theorem dX0_read_40 : decode cX0_read 40 = .ok (.istore_n 2, 1) := dk_61 (dk_at dksX0_read_1 17 rfl rfl)
theorem dX0_read_41 : decode cX0_read 41 = .ok (.iload_n 2, 1) := dk_28 (dk_at dksX0_read_1 18 rfl rfl)
theorem dX0_read_42 : decode cX0_read 42 = .ok (.iconst 3, 1) := dk_6 (dk_at dksX0_read_1 19 rfl rfl)
theorem dX0_read_43 : decode cX0_read 43 = .ok (.if_icmp .ge 16, 3) := dk_162 0 16 (dk_at dksX0_read_1 20 rfl rfl)
theorem dX0_read_46 : decode cX0_read 46 = .ok (.aload_n 0, 1) := dk_42 (dk_at dksX0_read_1 23 rfl rfl)
theorem dX0_read_47 : decode cX0_read 47 = .ok (.getfield 78, 3) := dk_180 0 78 (dk_at dksX0_read_2 0 rfl rfl)
theorem dX0_read_50 : decode cX0_read 50 = .ok (.iload_n 2, 1) := dk_28 (dk_at dksX0_read_2 3 rfl rfl)
theorem dX0_read_51 : decode cX0_read 51 = .ok (.iconst 0, 1) := dk_3 (dk_at dksX0_read_2 4 rfl rfl)
theorem dX0_read_52 : decode cX0_read 52 = .ok (.bastore, 1) := dk_84 (dk_at dksX0_read_2 5 rfl rfl)
theorem dX0_read_53 : decode cX0_read 53 = .ok (.iinc 2 1, 3) := dk_132 2 1 (dk_at dksX0_read_2 6 rfl rfl)
theorem dX0_read_56 : decode cX0_read 56 = .ok (.goto (-15), 3) := dk_167 255 241 (dk_at dksX0_read_2 9 rfl rfl)
theorem dX0_read_59 : decode cX0_read 59 = .ok (.goto 17, 3) := dk_167 0 17 (dk_at dksX0_read_2 12 rfl rfl)
theorem dX0_read_62 : decode cX0_read 62 = .ok (.astore_n 2, 1) := dk_77 (dk_at dksX0_read_2 15 rfl rfl)
theorem dX0_read_63 : decode cX0_read 63 = .ok (.aload_n 2, 1) := dk_44 (dk_at dksX0_read_2 16 rfl rfl)
theorem dX0_read_64 : decode cX0_read 64 = .ok (.getfield 131, 3) := dk_180 0 131 (dk_at dksX0_read_2 17 rfl rfl)
theorem dX0_read_67 : decode cX0_read 67 = .ok (.istore_n 1, 1) := dk_60 (dk_at dksX0_read_2 20 rfl rfl)
theorem dX0_read_68 : decode cX0_read 68 = .ok (.aload_n 0, 1) := dk_42 (dk_at dksX0_read_2 21 rfl rfl)
theorem dX0_read_69 : decode cX0_read 69 = .ok (.aload_n 2, 1) := dk_44 (dk_at dksX0_read_2 22 rfl rfl)
theorem dX0_read_70 : decode cX0_read 70 = .ok (.getfield 134, 3) := dk_180 0 134 (dk_at dksX0_read_3 0 rfl rfl)
theorem dX0_read_73 : decode cX0_read 73 = .ok (.putfield 44, 3) := dk_181 0 44 (dk_at dksX0_read_3 3 rfl rfl)
theorem dX0_read_76 : decode cX0_read 76 = .ok (.aload_n 0, 1) := dk_42 (dk_at dksX0_read_3 6 rfl rfl)
theorem dX0_read_77 : decode cX0_read 77 = .ok (.getfield 24, 3) := dk_180 0 24 (dk_at dksX0_read_3 7 rfl rfl)
theorem dX0_read_80 : decode cX0_read 80 = .ok (.iconst 0, 1) := dk_3 (dk_at dksX0_read_3 10 rfl rfl)
theorem dX0_read_81 : decode cX0_read 81 = .ok (.putfield 110, 3) := dk_181 0 110 (dk_at dksX0_read_3 11 rfl rfl)
theorem dX0_read_84 : decode cX0_read 84 = .ok (.iload_n 1, 1) := dk_27 (dk_at dksX0_read_3 14 rfl rfl)
theorem dX0_read_85 : decode cX0_read 85 = .ok (.ireturn, 1) := dk_172 (dk_at dksX0_read_3 15 rfl rfl)
abbrev cX0_place : ByteArray := prog_1_method_8_code
def yX0_place : MethodName := ⟨RX0, "place", "()I"⟩
theorem dX0_place_0 : decode cX0_place 0 = .ok (.aload_n 0, 1) := by decide +kernel
theorem dX0_place_1 : decode cX0_place 1 = .ok (.getfield 44, 3) := by decide +kernel
theorem dX0_place_4 : decode cX0_place 4 = .ok (.ireturn, 1) := by decide +kernel
abbrev cX0_corner : ByteArray := prog_1_method_20_code
def yX0_corner : MethodName := ⟨RX0, "corner", "(II)I"⟩
def dkwX0_corner_5 : List UInt8 := [160, 0, 7, 29, 167, 0, 4, 2, 172]
abbrev dktX0_corner_5 : List UInt8 := dkwX0_corner_5 ++ []
def dkwX0_corner_4 : List UInt8 := [160, 0, 22, 42, 180, 0, 51, 180, 0, 194, 27, 160, 0, 7, 4, 167, 0, 17, 3, 167, 0, 13, 28, 6]
abbrev dktX0_corner_4 : List UInt8 := dkwX0_corner_4 ++ dktX0_corner_5
def dkwX0_corner_3 : List UInt8 := [182, 0, 188, 167, 0, 53, 28, 4, 160, 0, 14, 42, 180, 0, 51, 27, 182, 0, 191, 167, 0, 37, 28, 5]
abbrev dktX0_corner_3 : List UInt8 := dkwX0_corner_3 ++ dktX0_corner_4
def dkwX0_corner_2 : List UInt8 := [21, 4, 120, 167, 0, 4, 3, 128, 62, 132, 4, 1, 167, 255, 211, 28, 154, 0, 14, 42, 180, 0, 51, 27]
abbrev dktX0_corner_2 : List UInt8 := dkwX0_corner_2 ++ dktX0_corner_3
def dkwX0_corner_1 : List UInt8 := [29, 42, 180, 0, 40, 180, 0, 145, 21, 4, 182, 0, 178, 192, 0, 182, 27, 182, 0, 184, 155, 0, 10, 4]
abbrev dktX0_corner_1 : List UInt8 := dkwX0_corner_1 ++ dktX0_corner_2
def dkwX0_corner_0 : List UInt8 := [42, 27, 182, 0, 175, 154, 0, 5, 2, 172, 3, 62, 3, 54, 4, 21, 4, 42, 182, 0, 160, 162, 0, 42]
abbrev dktX0_corner_0 : List UInt8 := dkwX0_corner_0 ++ dktX0_corner_1
theorem dksX0_corner_0 : cX0_corner.data.toList.drop 0 = dktX0_corner_0 := by decide +kernel
theorem dksX0_corner_1 : cX0_corner.data.toList.drop 24 = dktX0_corner_1 := dk_seg dksX0_corner_0 24 rfl rfl
theorem dksX0_corner_2 : cX0_corner.data.toList.drop 48 = dktX0_corner_2 := dk_seg dksX0_corner_1 24 rfl rfl
theorem dksX0_corner_3 : cX0_corner.data.toList.drop 72 = dktX0_corner_3 := dk_seg dksX0_corner_2 24 rfl rfl
theorem dksX0_corner_4 : cX0_corner.data.toList.drop 96 = dktX0_corner_4 := dk_seg dksX0_corner_3 24 rfl rfl
theorem dksX0_corner_5 : cX0_corner.data.toList.drop 120 = dktX0_corner_5 := dk_seg dksX0_corner_4 24 rfl rfl
theorem dX0_corner_0 : decode cX0_corner 0 = .ok (.aload_n 0, 1) := dk_42 (dk_at dksX0_corner_0 0 rfl rfl)
theorem dX0_corner_1 : decode cX0_corner 1 = .ok (.iload_n 1, 1) := dk_27 (dk_at dksX0_corner_0 1 rfl rfl)
theorem dX0_corner_2 : decode cX0_corner 2 = .ok (.invokevirtual 175, 3) := dk_182 0 175 (dk_at dksX0_corner_0 2 rfl rfl)
theorem dX0_corner_5 : decode cX0_corner 5 = .ok (.ifCond .ne 5, 3) := dk_154 0 5 (dk_at dksX0_corner_0 5 rfl rfl)
theorem dX0_corner_8 : decode cX0_corner 8 = .ok (.iconst (-1), 1) := dk_2 (dk_at dksX0_corner_0 8 rfl rfl)
theorem dX0_corner_9 : decode cX0_corner 9 = .ok (.ireturn, 1) := dk_172 (dk_at dksX0_corner_0 9 rfl rfl)
theorem dX0_corner_10 : decode cX0_corner 10 = .ok (.iconst 0, 1) := dk_3 (dk_at dksX0_corner_0 10 rfl rfl)
theorem dX0_corner_11 : decode cX0_corner 11 = .ok (.istore_n 3, 1) := dk_62 (dk_at dksX0_corner_0 11 rfl rfl)
theorem dX0_corner_12 : decode cX0_corner 12 = .ok (.iconst 0, 1) := dk_3 (dk_at dksX0_corner_0 12 rfl rfl)
theorem dX0_corner_13 : decode cX0_corner 13 = .ok (.istore 4, 2) := dk_54 4 (dk_at dksX0_corner_0 13 rfl rfl)
theorem dX0_corner_15 : decode cX0_corner 15 = .ok (.iload 4, 2) := dk_21 4 (dk_at dksX0_corner_0 15 rfl rfl)
theorem dX0_corner_17 : decode cX0_corner 17 = .ok (.aload_n 0, 1) := dk_42 (dk_at dksX0_corner_0 17 rfl rfl)
theorem dX0_corner_18 : decode cX0_corner 18 = .ok (.invokevirtual 160, 3) := dk_182 0 160 (dk_at dksX0_corner_0 18 rfl rfl)
theorem dX0_corner_21 : decode cX0_corner 21 = .ok (.if_icmp .ge 42, 3) := dk_162 0 42 (dk_at dksX0_corner_0 21 rfl rfl)
theorem dX0_corner_24 : decode cX0_corner 24 = .ok (.iload_n 3, 1) := dk_29 (dk_at dksX0_corner_1 0 rfl rfl)
theorem dX0_corner_25 : decode cX0_corner 25 = .ok (.aload_n 0, 1) := dk_42 (dk_at dksX0_corner_1 1 rfl rfl)
theorem dX0_corner_26 : decode cX0_corner 26 = .ok (.getfield 40, 3) := dk_180 0 40 (dk_at dksX0_corner_1 2 rfl rfl)
theorem dX0_corner_29 : decode cX0_corner 29 = .ok (.getfield 145, 3) := dk_180 0 145 (dk_at dksX0_corner_1 5 rfl rfl)
theorem dX0_corner_32 : decode cX0_corner 32 = .ok (.iload 4, 2) := dk_21 4 (dk_at dksX0_corner_1 8 rfl rfl)
theorem dX0_corner_34 : decode cX0_corner 34 = .ok (.invokevirtual 178, 3) := dk_182 0 178 (dk_at dksX0_corner_1 10 rfl rfl)
theorem dX0_corner_37 : decode cX0_corner 37 = .ok (.checkcast 182, 3) := dk_192 0 182 (dk_at dksX0_corner_1 13 rfl rfl)
theorem dX0_corner_40 : decode cX0_corner 40 = .ok (.iload_n 1, 1) := dk_27 (dk_at dksX0_corner_1 16 rfl rfl)
theorem dX0_corner_41 : decode cX0_corner 41 = .ok (.invokevirtual 184, 3) := dk_182 0 184 (dk_at dksX0_corner_1 17 rfl rfl)
theorem dX0_corner_44 : decode cX0_corner 44 = .ok (.ifCond .lt 10, 3) := dk_155 0 10 (dk_at dksX0_corner_1 20 rfl rfl)
theorem dX0_corner_47 : decode cX0_corner 47 = .ok (.iconst 1, 1) := dk_4 (dk_at dksX0_corner_1 23 rfl rfl)
theorem dX0_corner_48 : decode cX0_corner 48 = .ok (.iload 4, 2) := dk_21 4 (dk_at dksX0_corner_2 0 rfl rfl)
theorem dX0_corner_50 : decode cX0_corner 50 = .ok (.ishl, 1) := dk_120 (dk_at dksX0_corner_2 2 rfl rfl)
theorem dX0_corner_51 : decode cX0_corner 51 = .ok (.goto 4, 3) := dk_167 0 4 (dk_at dksX0_corner_2 3 rfl rfl)
theorem dX0_corner_54 : decode cX0_corner 54 = .ok (.iconst 0, 1) := dk_3 (dk_at dksX0_corner_2 6 rfl rfl)
theorem dX0_corner_55 : decode cX0_corner 55 = .ok (.ior, 1) := dk_128 (dk_at dksX0_corner_2 7 rfl rfl)
theorem dX0_corner_56 : decode cX0_corner 56 = .ok (.istore_n 3, 1) := dk_62 (dk_at dksX0_corner_2 8 rfl rfl)
theorem dX0_corner_57 : decode cX0_corner 57 = .ok (.iinc 4 1, 3) := dk_132 4 1 (dk_at dksX0_corner_2 9 rfl rfl)
theorem dX0_corner_60 : decode cX0_corner 60 = .ok (.goto (-45), 3) := dk_167 255 211 (dk_at dksX0_corner_2 12 rfl rfl)
theorem dX0_corner_63 : decode cX0_corner 63 = .ok (.iload_n 2, 1) := dk_28 (dk_at dksX0_corner_2 15 rfl rfl)
theorem dX0_corner_64 : decode cX0_corner 64 = .ok (.ifCond .ne 14, 3) := dk_154 0 14 (dk_at dksX0_corner_2 16 rfl rfl)
theorem dX0_corner_67 : decode cX0_corner 67 = .ok (.aload_n 0, 1) := dk_42 (dk_at dksX0_corner_2 19 rfl rfl)
theorem dX0_corner_68 : decode cX0_corner 68 = .ok (.getfield 51, 3) := dk_180 0 51 (dk_at dksX0_corner_2 20 rfl rfl)
theorem dX0_corner_71 : decode cX0_corner 71 = .ok (.iload_n 1, 1) := dk_27 (dk_at dksX0_corner_2 23 rfl rfl)
theorem dX0_corner_72 : decode cX0_corner 72 = .ok (.invokevirtual 188, 3) := dk_182 0 188 (dk_at dksX0_corner_3 0 rfl rfl)
theorem dX0_corner_75 : decode cX0_corner 75 = .ok (.goto 53, 3) := dk_167 0 53 (dk_at dksX0_corner_3 3 rfl rfl)
theorem dX0_corner_78 : decode cX0_corner 78 = .ok (.iload_n 2, 1) := dk_28 (dk_at dksX0_corner_3 6 rfl rfl)
theorem dX0_corner_79 : decode cX0_corner 79 = .ok (.iconst 1, 1) := dk_4 (dk_at dksX0_corner_3 7 rfl rfl)
theorem dX0_corner_80 : decode cX0_corner 80 = .ok (.if_icmp .ne 14, 3) := dk_160 0 14 (dk_at dksX0_corner_3 8 rfl rfl)
theorem dX0_corner_83 : decode cX0_corner 83 = .ok (.aload_n 0, 1) := dk_42 (dk_at dksX0_corner_3 11 rfl rfl)
theorem dX0_corner_84 : decode cX0_corner 84 = .ok (.getfield 51, 3) := dk_180 0 51 (dk_at dksX0_corner_3 12 rfl rfl)
theorem dX0_corner_87 : decode cX0_corner 87 = .ok (.iload_n 1, 1) := dk_27 (dk_at dksX0_corner_3 15 rfl rfl)
theorem dX0_corner_88 : decode cX0_corner 88 = .ok (.invokevirtual 191, 3) := dk_182 0 191 (dk_at dksX0_corner_3 16 rfl rfl)
theorem dX0_corner_91 : decode cX0_corner 91 = .ok (.goto 37, 3) := dk_167 0 37 (dk_at dksX0_corner_3 19 rfl rfl)
theorem dX0_corner_94 : decode cX0_corner 94 = .ok (.iload_n 2, 1) := dk_28 (dk_at dksX0_corner_3 22 rfl rfl)
theorem dX0_corner_95 : decode cX0_corner 95 = .ok (.iconst 2, 1) := dk_5 (dk_at dksX0_corner_3 23 rfl rfl)
theorem dX0_corner_96 : decode cX0_corner 96 = .ok (.if_icmp .ne 22, 3) := dk_160 0 22 (dk_at dksX0_corner_4 0 rfl rfl)
theorem dX0_corner_99 : decode cX0_corner 99 = .ok (.aload_n 0, 1) := dk_42 (dk_at dksX0_corner_4 3 rfl rfl)
theorem dX0_corner_100 : decode cX0_corner 100 = .ok (.getfield 51, 3) := dk_180 0 51 (dk_at dksX0_corner_4 4 rfl rfl)
theorem dX0_corner_103 : decode cX0_corner 103 = .ok (.getfield 194, 3) := dk_180 0 194 (dk_at dksX0_corner_4 7 rfl rfl)
theorem dX0_corner_106 : decode cX0_corner 106 = .ok (.iload_n 1, 1) := dk_27 (dk_at dksX0_corner_4 10 rfl rfl)
theorem dX0_corner_107 : decode cX0_corner 107 = .ok (.if_icmp .ne 7, 3) := dk_160 0 7 (dk_at dksX0_corner_4 11 rfl rfl)
theorem dX0_corner_110 : decode cX0_corner 110 = .ok (.iconst 1, 1) := dk_4 (dk_at dksX0_corner_4 14 rfl rfl)
theorem dX0_corner_111 : decode cX0_corner 111 = .ok (.goto 17, 3) := dk_167 0 17 (dk_at dksX0_corner_4 15 rfl rfl)
theorem dX0_corner_114 : decode cX0_corner 114 = .ok (.iconst 0, 1) := dk_3 (dk_at dksX0_corner_4 18 rfl rfl)
theorem dX0_corner_115 : decode cX0_corner 115 = .ok (.goto 13, 3) := dk_167 0 13 (dk_at dksX0_corner_4 19 rfl rfl)
theorem dX0_corner_118 : decode cX0_corner 118 = .ok (.iload_n 2, 1) := dk_28 (dk_at dksX0_corner_4 22 rfl rfl)
theorem dX0_corner_119 : decode cX0_corner 119 = .ok (.iconst 3, 1) := dk_6 (dk_at dksX0_corner_4 23 rfl rfl)
theorem dX0_corner_120 : decode cX0_corner 120 = .ok (.if_icmp .ne 7, 3) := dk_160 0 7 (dk_at dksX0_corner_5 0 rfl rfl)
theorem dX0_corner_123 : decode cX0_corner 123 = .ok (.iload_n 3, 1) := dk_29 (dk_at dksX0_corner_5 3 rfl rfl)
theorem dX0_corner_124 : decode cX0_corner 124 = .ok (.goto 4, 3) := dk_167 0 4 (dk_at dksX0_corner_5 4 rfl rfl)
theorem dX0_corner_127 : decode cX0_corner 127 = .ok (.iconst (-1), 1) := dk_2 (dk_at dksX0_corner_5 7 rfl rfl)
theorem dX0_corner_128 : decode cX0_corner 128 = .ok (.ireturn, 1) := dk_172 (dk_at dksX0_corner_5 8 rfl rfl)
abbrev cX0_isCorner : ByteArray := prog_1_method_14_code
def yX0_isCorner : MethodName := ⟨RX0, "isCorner", "(I)Z"⟩
def dkwX0_isCorner_0 : List UInt8 := [27, 3, 42, 182, 0, 154, 4, 100, 184, 0, 156, 172]
abbrev dktX0_isCorner_0 : List UInt8 := dkwX0_isCorner_0 ++ []
theorem dksX0_isCorner_0 : cX0_isCorner.data.toList.drop 0 = dktX0_isCorner_0 := by decide +kernel
theorem dX0_isCorner_0 : decode cX0_isCorner 0 = .ok (.iload_n 1, 1) := dk_27 (dk_at dksX0_isCorner_0 0 rfl rfl)
theorem dX0_isCorner_1 : decode cX0_isCorner 1 = .ok (.iconst 0, 1) := dk_3 (dk_at dksX0_isCorner_0 1 rfl rfl)
theorem dX0_isCorner_2 : decode cX0_isCorner 2 = .ok (.aload_n 0, 1) := dk_42 (dk_at dksX0_isCorner_0 2 rfl rfl)
theorem dX0_isCorner_3 : decode cX0_isCorner 3 = .ok (.invokevirtual 154, 3) := dk_182 0 154 (dk_at dksX0_isCorner_0 3 rfl rfl)
theorem dX0_isCorner_6 : decode cX0_isCorner 6 = .ok (.iconst 1, 1) := dk_4 (dk_at dksX0_isCorner_0 6 rfl rfl)
theorem dX0_isCorner_7 : decode cX0_isCorner 7 = .ok (.isub, 1) := dk_100 (dk_at dksX0_isCorner_0 7 rfl rfl)
theorem dX0_isCorner_8 : decode cX0_isCorner 8 = .ok (.invokestatic 156, 3) := dk_184 0 156 (dk_at dksX0_isCorner_0 8 rfl rfl)
theorem dX0_isCorner_11 : decode cX0_isCorner 11 = .ok (.ireturn, 1) := dk_172 (dk_at dksX0_isCorner_0 11 rfl rfl)
abbrev cX0_corners : ByteArray := prog_1_method_10_code
def yX0_corners : MethodName := ⟨RX0, "corners", "()I"⟩
def dkwX0_corners_0 : List UInt8 := [42, 180, 0, 40, 180, 0, 135, 182, 0, 139, 172]
abbrev dktX0_corners_0 : List UInt8 := dkwX0_corners_0 ++ []
theorem dksX0_corners_0 : cX0_corners.data.toList.drop 0 = dktX0_corners_0 := by decide +kernel
theorem dX0_corners_0 : decode cX0_corners 0 = .ok (.aload_n 0, 1) := dk_42 (dk_at dksX0_corners_0 0 rfl rfl)
theorem dX0_corners_1 : decode cX0_corners 1 = .ok (.getfield 40, 3) := dk_180 0 40 (dk_at dksX0_corners_0 1 rfl rfl)
theorem dX0_corners_4 : decode cX0_corners 4 = .ok (.getfield 135, 3) := dk_180 0 135 (dk_at dksX0_corners_0 4 rfl rfl)
theorem dX0_corners_7 : decode cX0_corners 7 = .ok (.invokevirtual 139, 3) := dk_182 0 139 (dk_at dksX0_corners_0 7 rfl rfl)
theorem dX0_corners_10 : decode cX0_corners 10 = .ok (.ireturn, 1) := dk_172 (dk_at dksX0_corners_0 10 rfl rfl)
abbrev cX0_isIn : ByteArray := prog_1_method_9_code
def yX0_isIn : MethodName := ⟨RX0, "isIn", "(III)Z"⟩
def dkwX0_isIn_0 : List UInt8 := [26, 27, 161, 0, 12, 26, 28, 163, 0, 7, 4, 167, 0, 4, 3, 172]
abbrev dktX0_isIn_0 : List UInt8 := dkwX0_isIn_0 ++ []
theorem dksX0_isIn_0 : cX0_isIn.data.toList.drop 0 = dktX0_isIn_0 := by decide +kernel
theorem dX0_isIn_0 : decode cX0_isIn 0 = .ok (.iload_n 0, 1) := dk_26 (dk_at dksX0_isIn_0 0 rfl rfl)
theorem dX0_isIn_1 : decode cX0_isIn 1 = .ok (.iload_n 1, 1) := dk_27 (dk_at dksX0_isIn_0 1 rfl rfl)
theorem dX0_isIn_2 : decode cX0_isIn 2 = .ok (.if_icmp .lt 12, 3) := dk_161 0 12 (dk_at dksX0_isIn_0 2 rfl rfl)
theorem dX0_isIn_5 : decode cX0_isIn 5 = .ok (.iload_n 0, 1) := dk_26 (dk_at dksX0_isIn_0 5 rfl rfl)
theorem dX0_isIn_6 : decode cX0_isIn 6 = .ok (.iload_n 2, 1) := dk_28 (dk_at dksX0_isIn_0 6 rfl rfl)
theorem dX0_isIn_7 : decode cX0_isIn 7 = .ok (.if_icmp .gt 7, 3) := dk_163 0 7 (dk_at dksX0_isIn_0 7 rfl rfl)
theorem dX0_isIn_10 : decode cX0_isIn 10 = .ok (.iconst 1, 1) := dk_4 (dk_at dksX0_isIn_0 10 rfl rfl)
theorem dX0_isIn_11 : decode cX0_isIn 11 = .ok (.goto 4, 3) := dk_167 0 4 (dk_at dksX0_isIn_0 11 rfl rfl)
theorem dX0_isIn_14 : decode cX0_isIn 14 = .ok (.iconst 0, 1) := dk_3 (dk_at dksX0_isIn_0 14 rfl rfl)
theorem dX0_isIn_15 : decode cX0_isIn 15 = .ok (.ireturn, 1) := dk_172 (dk_at dksX0_isIn_0 15 rfl rfl)
abbrev cX0_streets : ByteArray := prog_1_method_11_code
def yX0_streets : MethodName := ⟨RX0, "streets", "()I"⟩
def dkwX0_streets_0 : List UInt8 := [42, 180, 0, 40, 180, 0, 145, 182, 0, 139, 172]
abbrev dktX0_streets_0 : List UInt8 := dkwX0_streets_0 ++ []
theorem dksX0_streets_0 : cX0_streets.data.toList.drop 0 = dktX0_streets_0 := by decide +kernel
theorem dX0_streets_0 : decode cX0_streets 0 = .ok (.aload_n 0, 1) := dk_42 (dk_at dksX0_streets_0 0 rfl rfl)
theorem dX0_streets_1 : decode cX0_streets 1 = .ok (.getfield 40, 3) := dk_180 0 40 (dk_at dksX0_streets_0 1 rfl rfl)
theorem dX0_streets_4 : decode cX0_streets 4 = .ok (.getfield 145, 3) := dk_180 0 145 (dk_at dksX0_streets_0 4 rfl rfl)
theorem dX0_streets_7 : decode cX0_streets 7 = .ok (.invokevirtual 139, 3) := dk_182 0 139 (dk_at dksX0_streets_0 7 rfl rfl)
theorem dX0_streets_10 : decode cX0_streets 10 = .ok (.ireturn, 1) := dk_172 (dk_at dksX0_streets_0 10 rfl rfl)
abbrev cX0_street : ByteArray := prog_1_method_21_code
def yX0_street : MethodName := ⟨RX0, "street", "(II)I"⟩
def dkwX0_street_4 : List UInt8 := [160, 0, 8, 21, 4, 167, 0, 4, 2, 172]
abbrev dktX0_street_4 : List UInt8 := dkwX0_street_4 ++ []
def dkwX0_street_3 : List UInt8 := [167, 0, 32, 28, 6, 160, 0, 16, 21, 4, 154, 0, 7, 4, 167, 0, 18, 3, 167, 0, 14, 28, 7]
abbrev dktX0_street_3 : List UInt8 := dkwX0_street_3 ++ dktX0_street_4
def dkwX0_street_2 : List UInt8 := [167, 0, 56, 28, 4, 160, 0, 10, 45, 180, 0, 207, 167, 0, 44, 28, 5, 160, 0, 10, 45, 180, 0, 210]
abbrev dktX0_street_2 : List UInt8 := dkwX0_street_2 ++ dktX0_street_3
def dkwX0_street_1 : List UInt8 := [78, 42, 180, 0, 51, 42, 180, 0, 40, 27, 182, 0, 200, 54, 4, 28, 154, 0, 10, 45, 180, 0, 204]
abbrev dktX0_street_1 : List UInt8 := dkwX0_street_1 ++ dktX0_street_2
def dkwX0_street_0 : List UInt8 := [42, 27, 182, 0, 197, 154, 0, 5, 2, 172, 42, 180, 0, 40, 180, 0, 145, 27, 182, 0, 178, 192, 0, 182]
abbrev dktX0_street_0 : List UInt8 := dkwX0_street_0 ++ dktX0_street_1
theorem dksX0_street_0 : cX0_street.data.toList.drop 0 = dktX0_street_0 := by decide +kernel
theorem dksX0_street_1 : cX0_street.data.toList.drop 24 = dktX0_street_1 := dk_seg dksX0_street_0 24 rfl rfl
theorem dksX0_street_2 : cX0_street.data.toList.drop 47 = dktX0_street_2 := dk_seg dksX0_street_1 23 rfl rfl
theorem dksX0_street_3 : cX0_street.data.toList.drop 71 = dktX0_street_3 := dk_seg dksX0_street_2 24 rfl rfl
theorem dksX0_street_4 : cX0_street.data.toList.drop 94 = dktX0_street_4 := dk_seg dksX0_street_3 23 rfl rfl
theorem dX0_street_0 : decode cX0_street 0 = .ok (.aload_n 0, 1) := dk_42 (dk_at dksX0_street_0 0 rfl rfl)
theorem dX0_street_1 : decode cX0_street 1 = .ok (.iload_n 1, 1) := dk_27 (dk_at dksX0_street_0 1 rfl rfl)
theorem dX0_street_2 : decode cX0_street 2 = .ok (.invokevirtual 197, 3) := dk_182 0 197 (dk_at dksX0_street_0 2 rfl rfl)
theorem dX0_street_5 : decode cX0_street 5 = .ok (.ifCond .ne 5, 3) := dk_154 0 5 (dk_at dksX0_street_0 5 rfl rfl)
theorem dX0_street_8 : decode cX0_street 8 = .ok (.iconst (-1), 1) := dk_2 (dk_at dksX0_street_0 8 rfl rfl)
theorem dX0_street_9 : decode cX0_street 9 = .ok (.ireturn, 1) := dk_172 (dk_at dksX0_street_0 9 rfl rfl)
theorem dX0_street_10 : decode cX0_street 10 = .ok (.aload_n 0, 1) := dk_42 (dk_at dksX0_street_0 10 rfl rfl)
theorem dX0_street_11 : decode cX0_street 11 = .ok (.getfield 40, 3) := dk_180 0 40 (dk_at dksX0_street_0 11 rfl rfl)
theorem dX0_street_14 : decode cX0_street 14 = .ok (.getfield 145, 3) := dk_180 0 145 (dk_at dksX0_street_0 14 rfl rfl)
theorem dX0_street_17 : decode cX0_street 17 = .ok (.iload_n 1, 1) := dk_27 (dk_at dksX0_street_0 17 rfl rfl)
theorem dX0_street_18 : decode cX0_street 18 = .ok (.invokevirtual 178, 3) := dk_182 0 178 (dk_at dksX0_street_0 18 rfl rfl)
theorem dX0_street_21 : decode cX0_street 21 = .ok (.checkcast 182, 3) := dk_192 0 182 (dk_at dksX0_street_0 21 rfl rfl)
theorem dX0_street_24 : decode cX0_street 24 = .ok (.astore_n 3, 1) := dk_78 (dk_at dksX0_street_1 0 rfl rfl)
theorem dX0_street_25 : decode cX0_street 25 = .ok (.aload_n 0, 1) := dk_42 (dk_at dksX0_street_1 1 rfl rfl)
theorem dX0_street_26 : decode cX0_street 26 = .ok (.getfield 51, 3) := dk_180 0 51 (dk_at dksX0_street_1 2 rfl rfl)
theorem dX0_street_29 : decode cX0_street 29 = .ok (.aload_n 0, 1) := dk_42 (dk_at dksX0_street_1 5 rfl rfl)
theorem dX0_street_30 : decode cX0_street 30 = .ok (.getfield 40, 3) := dk_180 0 40 (dk_at dksX0_street_1 6 rfl rfl)
theorem dX0_street_33 : decode cX0_street 33 = .ok (.iload_n 1, 1) := dk_27 (dk_at dksX0_street_1 9 rfl rfl)
theorem dX0_street_34 : decode cX0_street 34 = .ok (.invokevirtual 200, 3) := dk_182 0 200 (dk_at dksX0_street_1 10 rfl rfl)
theorem dX0_street_37 : decode cX0_street 37 = .ok (.istore 4, 2) := dk_54 4 (dk_at dksX0_street_1 13 rfl rfl)
theorem dX0_street_39 : decode cX0_street 39 = .ok (.iload_n 2, 1) := dk_28 (dk_at dksX0_street_1 15 rfl rfl)
theorem dX0_street_40 : decode cX0_street 40 = .ok (.ifCond .ne 10, 3) := dk_154 0 10 (dk_at dksX0_street_1 16 rfl rfl)
theorem dX0_street_43 : decode cX0_street 43 = .ok (.aload_n 3, 1) := dk_45 (dk_at dksX0_street_1 19 rfl rfl)
theorem dX0_street_44 : decode cX0_street 44 = .ok (.getfield 204, 3) := dk_180 0 204 (dk_at dksX0_street_1 20 rfl rfl)
theorem dX0_street_47 : decode cX0_street 47 = .ok (.goto 56, 3) := dk_167 0 56 (dk_at dksX0_street_2 0 rfl rfl)
theorem dX0_street_50 : decode cX0_street 50 = .ok (.iload_n 2, 1) := dk_28 (dk_at dksX0_street_2 3 rfl rfl)
theorem dX0_street_51 : decode cX0_street 51 = .ok (.iconst 1, 1) := dk_4 (dk_at dksX0_street_2 4 rfl rfl)
theorem dX0_street_52 : decode cX0_street 52 = .ok (.if_icmp .ne 10, 3) := dk_160 0 10 (dk_at dksX0_street_2 5 rfl rfl)
theorem dX0_street_55 : decode cX0_street 55 = .ok (.aload_n 3, 1) := dk_45 (dk_at dksX0_street_2 8 rfl rfl)
theorem dX0_street_56 : decode cX0_street 56 = .ok (.getfield 207, 3) := dk_180 0 207 (dk_at dksX0_street_2 9 rfl rfl)
theorem dX0_street_59 : decode cX0_street 59 = .ok (.goto 44, 3) := dk_167 0 44 (dk_at dksX0_street_2 12 rfl rfl)
theorem dX0_street_62 : decode cX0_street 62 = .ok (.iload_n 2, 1) := dk_28 (dk_at dksX0_street_2 15 rfl rfl)
theorem dX0_street_63 : decode cX0_street 63 = .ok (.iconst 2, 1) := dk_5 (dk_at dksX0_street_2 16 rfl rfl)
theorem dX0_street_64 : decode cX0_street 64 = .ok (.if_icmp .ne 10, 3) := dk_160 0 10 (dk_at dksX0_street_2 17 rfl rfl)
theorem dX0_street_67 : decode cX0_street 67 = .ok (.aload_n 3, 1) := dk_45 (dk_at dksX0_street_2 20 rfl rfl)
theorem dX0_street_68 : decode cX0_street 68 = .ok (.getfield 210, 3) := dk_180 0 210 (dk_at dksX0_street_2 21 rfl rfl)
theorem dX0_street_71 : decode cX0_street 71 = .ok (.goto 32, 3) := dk_167 0 32 (dk_at dksX0_street_3 0 rfl rfl)
theorem dX0_street_74 : decode cX0_street 74 = .ok (.iload_n 2, 1) := dk_28 (dk_at dksX0_street_3 3 rfl rfl)
theorem dX0_street_75 : decode cX0_street 75 = .ok (.iconst 3, 1) := dk_6 (dk_at dksX0_street_3 4 rfl rfl)
theorem dX0_street_76 : decode cX0_street 76 = .ok (.if_icmp .ne 16, 3) := dk_160 0 16 (dk_at dksX0_street_3 5 rfl rfl)
theorem dX0_street_79 : decode cX0_street 79 = .ok (.iload 4, 2) := dk_21 4 (dk_at dksX0_street_3 8 rfl rfl)
theorem dX0_street_81 : decode cX0_street 81 = .ok (.ifCond .ne 7, 3) := dk_154 0 7 (dk_at dksX0_street_3 10 rfl rfl)
theorem dX0_street_84 : decode cX0_street 84 = .ok (.iconst 1, 1) := dk_4 (dk_at dksX0_street_3 13 rfl rfl)
theorem dX0_street_85 : decode cX0_street 85 = .ok (.goto 18, 3) := dk_167 0 18 (dk_at dksX0_street_3 14 rfl rfl)
theorem dX0_street_88 : decode cX0_street 88 = .ok (.iconst 0, 1) := dk_3 (dk_at dksX0_street_3 17 rfl rfl)
theorem dX0_street_89 : decode cX0_street 89 = .ok (.goto 14, 3) := dk_167 0 14 (dk_at dksX0_street_3 18 rfl rfl)
theorem dX0_street_92 : decode cX0_street 92 = .ok (.iload_n 2, 1) := dk_28 (dk_at dksX0_street_3 21 rfl rfl)
theorem dX0_street_93 : decode cX0_street 93 = .ok (.iconst 4, 1) := dk_7 (dk_at dksX0_street_3 22 rfl rfl)
theorem dX0_street_94 : decode cX0_street 94 = .ok (.if_icmp .ne 8, 3) := dk_160 0 8 (dk_at dksX0_street_4 0 rfl rfl)
theorem dX0_street_97 : decode cX0_street 97 = .ok (.iload 4, 2) := dk_21 4 (dk_at dksX0_street_4 3 rfl rfl)
theorem dX0_street_99 : decode cX0_street 99 = .ok (.goto 4, 3) := dk_167 0 4 (dk_at dksX0_street_4 5 rfl rfl)
theorem dX0_street_102 : decode cX0_street 102 = .ok (.iconst (-1), 1) := dk_2 (dk_at dksX0_street_4 8 rfl rfl)
theorem dX0_street_103 : decode cX0_street 103 = .ok (.ireturn, 1) := dk_172 (dk_at dksX0_street_4 9 rfl rfl)
abbrev cX0_isStreet : ByteArray := prog_1_method_15_code
def yX0_isStreet : MethodName := ⟨RX0, "isStreet", "(I)Z"⟩
def dkwX0_isStreet_0 : List UInt8 := [27, 3, 42, 182, 0, 160, 4, 100, 184, 0, 156, 172]
abbrev dktX0_isStreet_0 : List UInt8 := dkwX0_isStreet_0 ++ []
theorem dksX0_isStreet_0 : cX0_isStreet.data.toList.drop 0 = dktX0_isStreet_0 := by decide +kernel
theorem dX0_isStreet_0 : decode cX0_isStreet 0 = .ok (.iload_n 1, 1) := dk_27 (dk_at dksX0_isStreet_0 0 rfl rfl)
theorem dX0_isStreet_1 : decode cX0_isStreet 1 = .ok (.iconst 0, 1) := dk_3 (dk_at dksX0_isStreet_0 1 rfl rfl)
theorem dX0_isStreet_2 : decode cX0_isStreet 2 = .ok (.aload_n 0, 1) := dk_42 (dk_at dksX0_isStreet_0 2 rfl rfl)
theorem dX0_isStreet_3 : decode cX0_isStreet 3 = .ok (.invokevirtual 160, 3) := dk_182 0 160 (dk_at dksX0_isStreet_0 3 rfl rfl)
theorem dX0_isStreet_6 : decode cX0_isStreet 6 = .ok (.iconst 1, 1) := dk_4 (dk_at dksX0_isStreet_0 6 rfl rfl)
theorem dX0_isStreet_7 : decode cX0_isStreet 7 = .ok (.isub, 1) := dk_100 (dk_at dksX0_isStreet_0 7 rfl rfl)
theorem dX0_isStreet_8 : decode cX0_isStreet 8 = .ok (.invokestatic 156, 3) := dk_184 0 156 (dk_at dksX0_isStreet_0 8 rfl rfl)
theorem dX0_isStreet_11 : decode cX0_isStreet 11 = .ok (.ireturn, 1) := dk_172 (dk_at dksX0_isStreet_0 11 rfl rfl)
abbrev cX0_young : ByteArray := prog_1_method_22_code
def yX0_young : MethodName := ⟨RX0, "young", "(II)I"⟩
def dkwX0_young_7 : List UInt8 := [172, 42, 180, 0, 51, 42, 180, 0, 40, 27, 182, 0, 239, 153, 0, 7, 4, 167, 0, 4, 3, 172, 2, 172]
abbrev dktX0_young_7 : List UInt8 := dkwX0_young_7 ++ []
def dkwX0_young_6 : List UInt8 := [42, 180, 0, 51, 180, 0, 233, 27, 122, 4, 126, 172, 42, 180, 0, 51, 42, 180, 0, 40, 27, 182, 0, 236]
abbrev dktX0_young_6 : List UInt8 := dkwX0_young_6 ++ dktX0_young_7
def dkwX0_young_5 : List UInt8 := [167, 0, 4, 3, 172, 42, 180, 0, 51, 180, 0, 227, 27, 46, 172, 42, 180, 0, 51, 27, 182, 0, 230, 172]
abbrev dktX0_young_5 : List UInt8 := dkwX0_young_5 ++ dktX0_young_6
def dkwX0_young_4 : List UInt8 := [42, 180, 0, 51, 180, 0, 224, 27, 46, 172, 42, 180, 0, 51, 27, 182, 0, 169, 153, 0, 7, 4]
abbrev dktX0_young_4 : List UInt8 := dkwX0_young_4 ++ dktX0_young_5
def dkwX0_young_3 : List UInt8 := [180, 0, 148, 27, 182, 0, 178, 192, 0, 213, 180, 0, 218, 172, 42, 180, 0, 51, 180, 0, 221, 27, 46, 172]
abbrev dktX0_young_3 : List UInt8 := dkwX0_young_3 ++ dktX0_young_4
def dkwX0_young_2 : List UInt8 := [42, 180, 0, 40, 180, 0, 148, 27, 182, 0, 178, 192, 0, 213, 180, 0, 215, 172, 42, 180, 0, 40]
abbrev dktX0_young_2 : List UInt8 := dkwX0_young_2 ++ dktX0_young_3
def dkwX0_young_1 : List UInt8 := [170, 0, 0, 0, 191, 0, 0, 0, 0, 0, 0, 0, 9, 0, 0, 0, 53, 0, 0, 0, 71, 0, 0, 0, 89, 0, 0, 0, 99, 0, 0, 0, 109, 0, 0, 0, 126, 0, 0, 0, 136, 0, 0, 0, 145, 0, 0, 0, 157, 0, 0, 0, 170]
abbrev dktX0_young_1 : List UInt8 := dkwX0_young_1 ++ dktX0_young_2
def dkwX0_young_0 : List UInt8 := [42, 27, 182, 0, 165, 154, 0, 5, 2, 172, 28]
abbrev dktX0_young_0 : List UInt8 := dkwX0_young_0 ++ dktX0_young_1
theorem dksX0_young_0 : cX0_young.data.toList.drop 0 = dktX0_young_0 := by decide +kernel
theorem dksX0_young_1 : cX0_young.data.toList.drop 11 = dktX0_young_1 := dk_seg dksX0_young_0 11 rfl rfl
theorem dksX0_young_2 : cX0_young.data.toList.drop 64 = dktX0_young_2 := dk_seg dksX0_young_1 53 rfl rfl
theorem dksX0_young_3 : cX0_young.data.toList.drop 86 = dktX0_young_3 := dk_seg dksX0_young_2 22 rfl rfl
theorem dksX0_young_4 : cX0_young.data.toList.drop 110 = dktX0_young_4 := dk_seg dksX0_young_3 24 rfl rfl
theorem dksX0_young_5 : cX0_young.data.toList.drop 132 = dktX0_young_5 := dk_seg dksX0_young_4 22 rfl rfl
theorem dksX0_young_6 : cX0_young.data.toList.drop 156 = dktX0_young_6 := dk_seg dksX0_young_5 24 rfl rfl
theorem dksX0_young_7 : cX0_young.data.toList.drop 180 = dktX0_young_7 := dk_seg dksX0_young_6 24 rfl rfl
theorem dX0_young_0 : decode cX0_young 0 = .ok (.aload_n 0, 1) := dk_42 (dk_at dksX0_young_0 0 rfl rfl)
theorem dX0_young_1 : decode cX0_young 1 = .ok (.iload_n 1, 1) := dk_27 (dk_at dksX0_young_0 1 rfl rfl)
theorem dX0_young_2 : decode cX0_young 2 = .ok (.invokevirtual 165, 3) := dk_182 0 165 (dk_at dksX0_young_0 2 rfl rfl)
theorem dX0_young_5 : decode cX0_young 5 = .ok (.ifCond .ne 5, 3) := dk_154 0 5 (dk_at dksX0_young_0 5 rfl rfl)
theorem dX0_young_8 : decode cX0_young 8 = .ok (.iconst (-1), 1) := dk_2 (dk_at dksX0_young_0 8 rfl rfl)
theorem dX0_young_9 : decode cX0_young 9 = .ok (.ireturn, 1) := dk_172 (dk_at dksX0_young_0 9 rfl rfl)
theorem dX0_young_10 : decode cX0_young 10 = .ok (.iload_n 2, 1) := dk_28 (dk_at dksX0_young_0 10 rfl rfl)
theorem dX0_young_11 : decode cX0_young 11 = .ok (.tableswitch 191 0 9 #[53, 71, 89, 99, 109, 126, 136, 145, 157, 170], 53) := by decide +kernel
theorem dX0_young_64 : decode cX0_young 64 = .ok (.aload_n 0, 1) := dk_42 (dk_at dksX0_young_2 0 rfl rfl)
theorem dX0_young_65 : decode cX0_young 65 = .ok (.getfield 40, 3) := dk_180 0 40 (dk_at dksX0_young_2 1 rfl rfl)
theorem dX0_young_68 : decode cX0_young 68 = .ok (.getfield 148, 3) := dk_180 0 148 (dk_at dksX0_young_2 4 rfl rfl)
theorem dX0_young_71 : decode cX0_young 71 = .ok (.iload_n 1, 1) := dk_27 (dk_at dksX0_young_2 7 rfl rfl)
theorem dX0_young_72 : decode cX0_young 72 = .ok (.invokevirtual 178, 3) := dk_182 0 178 (dk_at dksX0_young_2 8 rfl rfl)
theorem dX0_young_75 : decode cX0_young 75 = .ok (.checkcast 213, 3) := dk_192 0 213 (dk_at dksX0_young_2 11 rfl rfl)
theorem dX0_young_78 : decode cX0_young 78 = .ok (.getfield 215, 3) := dk_180 0 215 (dk_at dksX0_young_2 14 rfl rfl)
theorem dX0_young_81 : decode cX0_young 81 = .ok (.ireturn, 1) := dk_172 (dk_at dksX0_young_2 17 rfl rfl)
theorem dX0_young_82 : decode cX0_young 82 = .ok (.aload_n 0, 1) := dk_42 (dk_at dksX0_young_2 18 rfl rfl)
theorem dX0_young_83 : decode cX0_young 83 = .ok (.getfield 40, 3) := dk_180 0 40 (dk_at dksX0_young_2 19 rfl rfl)
theorem dX0_young_86 : decode cX0_young 86 = .ok (.getfield 148, 3) := dk_180 0 148 (dk_at dksX0_young_3 0 rfl rfl)
theorem dX0_young_89 : decode cX0_young 89 = .ok (.iload_n 1, 1) := dk_27 (dk_at dksX0_young_3 3 rfl rfl)
theorem dX0_young_90 : decode cX0_young 90 = .ok (.invokevirtual 178, 3) := dk_182 0 178 (dk_at dksX0_young_3 4 rfl rfl)
theorem dX0_young_93 : decode cX0_young 93 = .ok (.checkcast 213, 3) := dk_192 0 213 (dk_at dksX0_young_3 7 rfl rfl)
theorem dX0_young_96 : decode cX0_young 96 = .ok (.getfield 218, 3) := dk_180 0 218 (dk_at dksX0_young_3 10 rfl rfl)
theorem dX0_young_99 : decode cX0_young 99 = .ok (.ireturn, 1) := dk_172 (dk_at dksX0_young_3 13 rfl rfl)
theorem dX0_young_100 : decode cX0_young 100 = .ok (.aload_n 0, 1) := dk_42 (dk_at dksX0_young_3 14 rfl rfl)
theorem dX0_young_101 : decode cX0_young 101 = .ok (.getfield 51, 3) := dk_180 0 51 (dk_at dksX0_young_3 15 rfl rfl)
theorem dX0_young_104 : decode cX0_young 104 = .ok (.getfield 221, 3) := dk_180 0 221 (dk_at dksX0_young_3 18 rfl rfl)
theorem dX0_young_107 : decode cX0_young 107 = .ok (.iload_n 1, 1) := dk_27 (dk_at dksX0_young_3 21 rfl rfl)
theorem dX0_young_108 : decode cX0_young 108 = .ok (.iaload, 1) := dk_46 (dk_at dksX0_young_3 22 rfl rfl)
theorem dX0_young_109 : decode cX0_young 109 = .ok (.ireturn, 1) := dk_172 (dk_at dksX0_young_3 23 rfl rfl)
theorem dX0_young_110 : decode cX0_young 110 = .ok (.aload_n 0, 1) := dk_42 (dk_at dksX0_young_4 0 rfl rfl)
theorem dX0_young_111 : decode cX0_young 111 = .ok (.getfield 51, 3) := dk_180 0 51 (dk_at dksX0_young_4 1 rfl rfl)
theorem dX0_young_114 : decode cX0_young 114 = .ok (.getfield 224, 3) := dk_180 0 224 (dk_at dksX0_young_4 4 rfl rfl)
theorem dX0_young_117 : decode cX0_young 117 = .ok (.iload_n 1, 1) := dk_27 (dk_at dksX0_young_4 7 rfl rfl)
theorem dX0_young_118 : decode cX0_young 118 = .ok (.iaload, 1) := dk_46 (dk_at dksX0_young_4 8 rfl rfl)
theorem dX0_young_119 : decode cX0_young 119 = .ok (.ireturn, 1) := dk_172 (dk_at dksX0_young_4 9 rfl rfl)
theorem dX0_young_120 : decode cX0_young 120 = .ok (.aload_n 0, 1) := dk_42 (dk_at dksX0_young_4 10 rfl rfl)
theorem dX0_young_121 : decode cX0_young 121 = .ok (.getfield 51, 3) := dk_180 0 51 (dk_at dksX0_young_4 11 rfl rfl)
theorem dX0_young_124 : decode cX0_young 124 = .ok (.iload_n 1, 1) := dk_27 (dk_at dksX0_young_4 14 rfl rfl)
theorem dX0_young_125 : decode cX0_young 125 = .ok (.invokevirtual 169, 3) := dk_182 0 169 (dk_at dksX0_young_4 15 rfl rfl)
theorem dX0_young_128 : decode cX0_young 128 = .ok (.ifCond .eq 7, 3) := dk_153 0 7 (dk_at dksX0_young_4 18 rfl rfl)
theorem dX0_young_131 : decode cX0_young 131 = .ok (.iconst 1, 1) := dk_4 (dk_at dksX0_young_4 21 rfl rfl)
theorem dX0_young_132 : decode cX0_young 132 = .ok (.goto 4, 3) := dk_167 0 4 (dk_at dksX0_young_5 0 rfl rfl)
theorem dX0_young_135 : decode cX0_young 135 = .ok (.iconst 0, 1) := dk_3 (dk_at dksX0_young_5 3 rfl rfl)
theorem dX0_young_136 : decode cX0_young 136 = .ok (.ireturn, 1) := dk_172 (dk_at dksX0_young_5 4 rfl rfl)
theorem dX0_young_137 : decode cX0_young 137 = .ok (.aload_n 0, 1) := dk_42 (dk_at dksX0_young_5 5 rfl rfl)
theorem dX0_young_138 : decode cX0_young 138 = .ok (.getfield 51, 3) := dk_180 0 51 (dk_at dksX0_young_5 6 rfl rfl)
theorem dX0_young_141 : decode cX0_young 141 = .ok (.getfield 227, 3) := dk_180 0 227 (dk_at dksX0_young_5 9 rfl rfl)
theorem dX0_young_144 : decode cX0_young 144 = .ok (.iload_n 1, 1) := dk_27 (dk_at dksX0_young_5 12 rfl rfl)
theorem dX0_young_145 : decode cX0_young 145 = .ok (.iaload, 1) := dk_46 (dk_at dksX0_young_5 13 rfl rfl)
theorem dX0_young_146 : decode cX0_young 146 = .ok (.ireturn, 1) := dk_172 (dk_at dksX0_young_5 14 rfl rfl)
theorem dX0_young_147 : decode cX0_young 147 = .ok (.aload_n 0, 1) := dk_42 (dk_at dksX0_young_5 15 rfl rfl)
theorem dX0_young_148 : decode cX0_young 148 = .ok (.getfield 51, 3) := dk_180 0 51 (dk_at dksX0_young_5 16 rfl rfl)
theorem dX0_young_151 : decode cX0_young 151 = .ok (.iload_n 1, 1) := dk_27 (dk_at dksX0_young_5 19 rfl rfl)
theorem dX0_young_152 : decode cX0_young 152 = .ok (.invokevirtual 230, 3) := dk_182 0 230 (dk_at dksX0_young_5 20 rfl rfl)
theorem dX0_young_155 : decode cX0_young 155 = .ok (.ireturn, 1) := dk_172 (dk_at dksX0_young_5 23 rfl rfl)
theorem dX0_young_156 : decode cX0_young 156 = .ok (.aload_n 0, 1) := dk_42 (dk_at dksX0_young_6 0 rfl rfl)
theorem dX0_young_157 : decode cX0_young 157 = .ok (.getfield 51, 3) := dk_180 0 51 (dk_at dksX0_young_6 1 rfl rfl)
theorem dX0_young_160 : decode cX0_young 160 = .ok (.getfield 233, 3) := dk_180 0 233 (dk_at dksX0_young_6 4 rfl rfl)
theorem dX0_young_163 : decode cX0_young 163 = .ok (.iload_n 1, 1) := dk_27 (dk_at dksX0_young_6 7 rfl rfl)
theorem dX0_young_164 : decode cX0_young 164 = .ok (.ishr, 1) := dk_122 (dk_at dksX0_young_6 8 rfl rfl)
theorem dX0_young_165 : decode cX0_young 165 = .ok (.iconst 1, 1) := dk_4 (dk_at dksX0_young_6 9 rfl rfl)
theorem dX0_young_166 : decode cX0_young 166 = .ok (.iand, 1) := dk_126 (dk_at dksX0_young_6 10 rfl rfl)
theorem dX0_young_167 : decode cX0_young 167 = .ok (.ireturn, 1) := dk_172 (dk_at dksX0_young_6 11 rfl rfl)
theorem dX0_young_168 : decode cX0_young 168 = .ok (.aload_n 0, 1) := dk_42 (dk_at dksX0_young_6 12 rfl rfl)
theorem dX0_young_169 : decode cX0_young 169 = .ok (.getfield 51, 3) := dk_180 0 51 (dk_at dksX0_young_6 13 rfl rfl)
theorem dX0_young_172 : decode cX0_young 172 = .ok (.aload_n 0, 1) := dk_42 (dk_at dksX0_young_6 16 rfl rfl)
theorem dX0_young_173 : decode cX0_young 173 = .ok (.getfield 40, 3) := dk_180 0 40 (dk_at dksX0_young_6 17 rfl rfl)
theorem dX0_young_176 : decode cX0_young 176 = .ok (.iload_n 1, 1) := dk_27 (dk_at dksX0_young_6 20 rfl rfl)
theorem dX0_young_177 : decode cX0_young 177 = .ok (.invokevirtual 236, 3) := dk_182 0 236 (dk_at dksX0_young_6 21 rfl rfl)
theorem dX0_young_180 : decode cX0_young 180 = .ok (.ireturn, 1) := dk_172 (dk_at dksX0_young_7 0 rfl rfl)
theorem dX0_young_181 : decode cX0_young 181 = .ok (.aload_n 0, 1) := dk_42 (dk_at dksX0_young_7 1 rfl rfl)
theorem dX0_young_182 : decode cX0_young 182 = .ok (.getfield 51, 3) := dk_180 0 51 (dk_at dksX0_young_7 2 rfl rfl)
theorem dX0_young_185 : decode cX0_young 185 = .ok (.aload_n 0, 1) := dk_42 (dk_at dksX0_young_7 5 rfl rfl)
theorem dX0_young_186 : decode cX0_young 186 = .ok (.getfield 40, 3) := dk_180 0 40 (dk_at dksX0_young_7 6 rfl rfl)
theorem dX0_young_189 : decode cX0_young 189 = .ok (.iload_n 1, 1) := dk_27 (dk_at dksX0_young_7 9 rfl rfl)
theorem dX0_young_190 : decode cX0_young 190 = .ok (.invokevirtual 239, 3) := dk_182 0 239 (dk_at dksX0_young_7 10 rfl rfl)
theorem dX0_young_193 : decode cX0_young 193 = .ok (.ifCond .eq 7, 3) := dk_153 0 7 (dk_at dksX0_young_7 13 rfl rfl)
theorem dX0_young_196 : decode cX0_young 196 = .ok (.iconst 1, 1) := dk_4 (dk_at dksX0_young_7 16 rfl rfl)
theorem dX0_young_197 : decode cX0_young 197 = .ok (.goto 4, 3) := dk_167 0 4 (dk_at dksX0_young_7 17 rfl rfl)
theorem dX0_young_200 : decode cX0_young 200 = .ok (.iconst 0, 1) := dk_3 (dk_at dksX0_young_7 20 rfl rfl)
theorem dX0_young_201 : decode cX0_young 201 = .ok (.ireturn, 1) := dk_172 (dk_at dksX0_young_7 21 rfl rfl)
theorem dX0_young_202 : decode cX0_young 202 = .ok (.iconst (-1), 1) := dk_2 (dk_at dksX0_young_7 22 rfl rfl)
theorem dX0_young_203 : decode cX0_young 203 = .ok (.ireturn, 1) := dk_172 (dk_at dksX0_young_7 23 rfl rfl)
abbrev cX0_isYoung : ByteArray := prog_1_method_16_code
def yX0_isYoung : MethodName := ⟨RX0, "isYoung", "(I)Z"⟩
def dkwX0_isYoung_0 : List UInt8 := [27, 3, 42, 182, 0, 162, 4, 100, 184, 0, 156, 172]
abbrev dktX0_isYoung_0 : List UInt8 := dkwX0_isYoung_0 ++ []
theorem dksX0_isYoung_0 : cX0_isYoung.data.toList.drop 0 = dktX0_isYoung_0 := by decide +kernel
theorem dX0_isYoung_0 : decode cX0_isYoung 0 = .ok (.iload_n 1, 1) := dk_27 (dk_at dksX0_isYoung_0 0 rfl rfl)
theorem dX0_isYoung_1 : decode cX0_isYoung 1 = .ok (.iconst 0, 1) := dk_3 (dk_at dksX0_isYoung_0 1 rfl rfl)
theorem dX0_isYoung_2 : decode cX0_isYoung 2 = .ok (.aload_n 0, 1) := dk_42 (dk_at dksX0_isYoung_0 2 rfl rfl)
theorem dX0_isYoung_3 : decode cX0_isYoung 3 = .ok (.invokevirtual 162, 3) := dk_182 0 162 (dk_at dksX0_isYoung_0 3 rfl rfl)
theorem dX0_isYoung_6 : decode cX0_isYoung 6 = .ok (.iconst 1, 1) := dk_4 (dk_at dksX0_isYoung_0 6 rfl rfl)
theorem dX0_isYoung_7 : decode cX0_isYoung 7 = .ok (.isub, 1) := dk_100 (dk_at dksX0_isYoung_0 7 rfl rfl)
theorem dX0_isYoung_8 : decode cX0_isYoung 8 = .ok (.invokestatic 156, 3) := dk_184 0 156 (dk_at dksX0_isYoung_0 8 rfl rfl)
theorem dX0_isYoung_11 : decode cX0_isYoung 11 = .ok (.ireturn, 1) := dk_172 (dk_at dksX0_isYoung_0 11 rfl rfl)
abbrev cX0_youngs : ByteArray := prog_1_method_12_code
def yX0_youngs : MethodName := ⟨RX0, "youngs", "()I"⟩
def dkwX0_youngs_0 : List UInt8 := [42, 180, 0, 40, 180, 0, 148, 182, 0, 139, 172]
abbrev dktX0_youngs_0 : List UInt8 := dkwX0_youngs_0 ++ []
theorem dksX0_youngs_0 : cX0_youngs.data.toList.drop 0 = dktX0_youngs_0 := by decide +kernel
theorem dX0_youngs_0 : decode cX0_youngs 0 = .ok (.aload_n 0, 1) := dk_42 (dk_at dksX0_youngs_0 0 rfl rfl)
theorem dX0_youngs_1 : decode cX0_youngs 1 = .ok (.getfield 40, 3) := dk_180 0 40 (dk_at dksX0_youngs_0 1 rfl rfl)
theorem dX0_youngs_4 : decode cX0_youngs 4 = .ok (.getfield 148, 3) := dk_180 0 148 (dk_at dksX0_youngs_0 4 rfl rfl)
theorem dX0_youngs_7 : decode cX0_youngs 7 = .ok (.invokevirtual 139, 3) := dk_182 0 139 (dk_at dksX0_youngs_0 7 rfl rfl)
theorem dX0_youngs_10 : decode cX0_youngs 10 = .ok (.ireturn, 1) := dk_172 (dk_at dksX0_youngs_0 10 rfl rfl)
abbrev cX0_word : ByteArray := prog_1_method_23_code
def yX0_word : MethodName := ⟨RX0, "word", "(II)I"⟩
def dkwX0_word_1 : List UInt8 := [46, 167, 0, 21, 28, 4, 160, 0, 15, 42, 180, 0, 51, 180, 0, 249, 27, 46, 167, 0, 4, 2, 172]
abbrev dktX0_word_1 : List UInt8 := dkwX0_word_1 ++ []
def dkwX0_word_0 : List UInt8 := [42, 27, 182, 0, 243, 154, 0, 7, 2, 167, 0, 37, 28, 154, 0, 15, 42, 180, 0, 51, 180, 0, 246, 27]
abbrev dktX0_word_0 : List UInt8 := dkwX0_word_0 ++ dktX0_word_1
theorem dksX0_word_0 : cX0_word.data.toList.drop 0 = dktX0_word_0 := by decide +kernel
theorem dksX0_word_1 : cX0_word.data.toList.drop 24 = dktX0_word_1 := dk_seg dksX0_word_0 24 rfl rfl
theorem dX0_word_0 : decode cX0_word 0 = .ok (.aload_n 0, 1) := dk_42 (dk_at dksX0_word_0 0 rfl rfl)
theorem dX0_word_1 : decode cX0_word 1 = .ok (.iload_n 1, 1) := dk_27 (dk_at dksX0_word_0 1 rfl rfl)
theorem dX0_word_2 : decode cX0_word 2 = .ok (.invokevirtual 243, 3) := dk_182 0 243 (dk_at dksX0_word_0 2 rfl rfl)
theorem dX0_word_5 : decode cX0_word 5 = .ok (.ifCond .ne 7, 3) := dk_154 0 7 (dk_at dksX0_word_0 5 rfl rfl)
theorem dX0_word_8 : decode cX0_word 8 = .ok (.iconst (-1), 1) := dk_2 (dk_at dksX0_word_0 8 rfl rfl)
theorem dX0_word_9 : decode cX0_word 9 = .ok (.goto 37, 3) := dk_167 0 37 (dk_at dksX0_word_0 9 rfl rfl)
theorem dX0_word_12 : decode cX0_word 12 = .ok (.iload_n 2, 1) := dk_28 (dk_at dksX0_word_0 12 rfl rfl)
theorem dX0_word_13 : decode cX0_word 13 = .ok (.ifCond .ne 15, 3) := dk_154 0 15 (dk_at dksX0_word_0 13 rfl rfl)
theorem dX0_word_16 : decode cX0_word 16 = .ok (.aload_n 0, 1) := dk_42 (dk_at dksX0_word_0 16 rfl rfl)
theorem dX0_word_17 : decode cX0_word 17 = .ok (.getfield 51, 3) := dk_180 0 51 (dk_at dksX0_word_0 17 rfl rfl)
theorem dX0_word_20 : decode cX0_word 20 = .ok (.getfield 246, 3) := dk_180 0 246 (dk_at dksX0_word_0 20 rfl rfl)
theorem dX0_word_23 : decode cX0_word 23 = .ok (.iload_n 1, 1) := dk_27 (dk_at dksX0_word_0 23 rfl rfl)
theorem dX0_word_24 : decode cX0_word 24 = .ok (.iaload, 1) := dk_46 (dk_at dksX0_word_1 0 rfl rfl)
theorem dX0_word_25 : decode cX0_word 25 = .ok (.goto 21, 3) := dk_167 0 21 (dk_at dksX0_word_1 1 rfl rfl)
theorem dX0_word_28 : decode cX0_word 28 = .ok (.iload_n 2, 1) := dk_28 (dk_at dksX0_word_1 4 rfl rfl)
theorem dX0_word_29 : decode cX0_word 29 = .ok (.iconst 1, 1) := dk_4 (dk_at dksX0_word_1 5 rfl rfl)
theorem dX0_word_30 : decode cX0_word 30 = .ok (.if_icmp .ne 15, 3) := dk_160 0 15 (dk_at dksX0_word_1 6 rfl rfl)
theorem dX0_word_33 : decode cX0_word 33 = .ok (.aload_n 0, 1) := dk_42 (dk_at dksX0_word_1 9 rfl rfl)
theorem dX0_word_34 : decode cX0_word 34 = .ok (.getfield 51, 3) := dk_180 0 51 (dk_at dksX0_word_1 10 rfl rfl)
theorem dX0_word_37 : decode cX0_word 37 = .ok (.getfield 249, 3) := dk_180 0 249 (dk_at dksX0_word_1 13 rfl rfl)
theorem dX0_word_40 : decode cX0_word 40 = .ok (.iload_n 1, 1) := dk_27 (dk_at dksX0_word_1 16 rfl rfl)
theorem dX0_word_41 : decode cX0_word 41 = .ok (.iaload, 1) := dk_46 (dk_at dksX0_word_1 17 rfl rfl)
theorem dX0_word_42 : decode cX0_word 42 = .ok (.goto 4, 3) := dk_167 0 4 (dk_at dksX0_word_1 18 rfl rfl)
theorem dX0_word_45 : decode cX0_word 45 = .ok (.iconst (-1), 1) := dk_2 (dk_at dksX0_word_1 21 rfl rfl)
theorem dX0_word_46 : decode cX0_word 46 = .ok (.ireturn, 1) := dk_172 (dk_at dksX0_word_1 22 rfl rfl)
abbrev cX0_isWord : ByteArray := prog_1_method_18_code
def yX0_isWord : MethodName := ⟨RX0, "isWord", "(I)Z"⟩
def dkwX0_isWord_0 : List UInt8 := [27, 3, 42, 182, 0, 172, 4, 100, 184, 0, 156, 172]
abbrev dktX0_isWord_0 : List UInt8 := dkwX0_isWord_0 ++ []
theorem dksX0_isWord_0 : cX0_isWord.data.toList.drop 0 = dktX0_isWord_0 := by decide +kernel
theorem dX0_isWord_0 : decode cX0_isWord 0 = .ok (.iload_n 1, 1) := dk_27 (dk_at dksX0_isWord_0 0 rfl rfl)
theorem dX0_isWord_1 : decode cX0_isWord 1 = .ok (.iconst 0, 1) := dk_3 (dk_at dksX0_isWord_0 1 rfl rfl)
theorem dX0_isWord_2 : decode cX0_isWord 2 = .ok (.aload_n 0, 1) := dk_42 (dk_at dksX0_isWord_0 2 rfl rfl)
theorem dX0_isWord_3 : decode cX0_isWord 3 = .ok (.invokevirtual 172, 3) := dk_182 0 172 (dk_at dksX0_isWord_0 3 rfl rfl)
theorem dX0_isWord_6 : decode cX0_isWord 6 = .ok (.iconst 1, 1) := dk_4 (dk_at dksX0_isWord_0 6 rfl rfl)
theorem dX0_isWord_7 : decode cX0_isWord 7 = .ok (.isub, 1) := dk_100 (dk_at dksX0_isWord_0 7 rfl rfl)
theorem dX0_isWord_8 : decode cX0_isWord 8 = .ok (.invokestatic 156, 3) := dk_184 0 156 (dk_at dksX0_isWord_0 8 rfl rfl)
theorem dX0_isWord_11 : decode cX0_isWord 11 = .ok (.ireturn, 1) := dk_172 (dk_at dksX0_isWord_0 11 rfl rfl)
abbrev cX0_allWords : ByteArray := prog_1_method_13_code
def yX0_allWords : MethodName := ⟨RX0, "allWords", "()I"⟩
def dkwX0_allWords_0 : List UInt8 := [42, 180, 0, 40, 180, 0, 151, 182, 0, 139, 172]
abbrev dktX0_allWords_0 : List UInt8 := dkwX0_allWords_0 ++ []
theorem dksX0_allWords_0 : cX0_allWords.data.toList.drop 0 = dktX0_allWords_0 := by decide +kernel
theorem dX0_allWords_0 : decode cX0_allWords 0 = .ok (.aload_n 0, 1) := dk_42 (dk_at dksX0_allWords_0 0 rfl rfl)
theorem dX0_allWords_1 : decode cX0_allWords 1 = .ok (.getfield 40, 3) := dk_180 0 40 (dk_at dksX0_allWords_0 1 rfl rfl)
theorem dX0_allWords_4 : decode cX0_allWords 4 = .ok (.getfield 151, 3) := dk_180 0 151 (dk_at dksX0_allWords_0 4 rfl rfl)
theorem dX0_allWords_7 : decode cX0_allWords 7 = .ok (.invokevirtual 139, 3) := dk_182 0 139 (dk_at dksX0_allWords_0 7 rfl rfl)
theorem dX0_allWords_10 : decode cX0_allWords 10 = .ok (.ireturn, 1) := dk_172 (dk_at dksX0_allWords_0 10 rfl rfl)
abbrev cX0_tells : ByteArray := prog_1_method_24_code
def yX0_tells : MethodName := ⟨RX0, "tells", "(III)I"⟩
def dkwX0_tells_2 : List UInt8 := [180, 0, 51, 42, 180, 0, 40, 27, 28, 182, 1, 0, 167, 0, 4, 2, 172]
abbrev dktX0_tells_2 : List UInt8 := dkwX0_tells_2 ++ []
def dkwX0_tells_1 : List UInt8 := [42, 180, 0, 51, 42, 180, 0, 40, 27, 28, 182, 0, 252, 167, 0, 25, 29, 4, 160, 0, 19, 42]
abbrev dktX0_tells_1 : List UInt8 := dkwX0_tells_1 ++ dktX0_tells_2
def dkwX0_tells_0 : List UInt8 := [42, 27, 182, 0, 165, 153, 0, 11, 42, 28, 182, 0, 243, 154, 0, 7, 2, 167, 0, 45, 29, 154, 0, 19]
abbrev dktX0_tells_0 : List UInt8 := dkwX0_tells_0 ++ dktX0_tells_1
theorem dksX0_tells_0 : cX0_tells.data.toList.drop 0 = dktX0_tells_0 := by decide +kernel
theorem dksX0_tells_1 : cX0_tells.data.toList.drop 24 = dktX0_tells_1 := dk_seg dksX0_tells_0 24 rfl rfl
theorem dksX0_tells_2 : cX0_tells.data.toList.drop 46 = dktX0_tells_2 := dk_seg dksX0_tells_1 22 rfl rfl
theorem dX0_tells_0 : decode cX0_tells 0 = .ok (.aload_n 0, 1) := dk_42 (dk_at dksX0_tells_0 0 rfl rfl)
theorem dX0_tells_1 : decode cX0_tells 1 = .ok (.iload_n 1, 1) := dk_27 (dk_at dksX0_tells_0 1 rfl rfl)
theorem dX0_tells_2 : decode cX0_tells 2 = .ok (.invokevirtual 165, 3) := dk_182 0 165 (dk_at dksX0_tells_0 2 rfl rfl)
theorem dX0_tells_5 : decode cX0_tells 5 = .ok (.ifCond .eq 11, 3) := dk_153 0 11 (dk_at dksX0_tells_0 5 rfl rfl)
theorem dX0_tells_8 : decode cX0_tells 8 = .ok (.aload_n 0, 1) := dk_42 (dk_at dksX0_tells_0 8 rfl rfl)
theorem dX0_tells_9 : decode cX0_tells 9 = .ok (.iload_n 2, 1) := dk_28 (dk_at dksX0_tells_0 9 rfl rfl)
theorem dX0_tells_10 : decode cX0_tells 10 = .ok (.invokevirtual 243, 3) := dk_182 0 243 (dk_at dksX0_tells_0 10 rfl rfl)
theorem dX0_tells_13 : decode cX0_tells 13 = .ok (.ifCond .ne 7, 3) := dk_154 0 7 (dk_at dksX0_tells_0 13 rfl rfl)
theorem dX0_tells_16 : decode cX0_tells 16 = .ok (.iconst (-1), 1) := dk_2 (dk_at dksX0_tells_0 16 rfl rfl)
theorem dX0_tells_17 : decode cX0_tells 17 = .ok (.goto 45, 3) := dk_167 0 45 (dk_at dksX0_tells_0 17 rfl rfl)
theorem dX0_tells_20 : decode cX0_tells 20 = .ok (.iload_n 3, 1) := dk_29 (dk_at dksX0_tells_0 20 rfl rfl)
theorem dX0_tells_21 : decode cX0_tells 21 = .ok (.ifCond .ne 19, 3) := dk_154 0 19 (dk_at dksX0_tells_0 21 rfl rfl)
theorem dX0_tells_24 : decode cX0_tells 24 = .ok (.aload_n 0, 1) := dk_42 (dk_at dksX0_tells_1 0 rfl rfl)
theorem dX0_tells_25 : decode cX0_tells 25 = .ok (.getfield 51, 3) := dk_180 0 51 (dk_at dksX0_tells_1 1 rfl rfl)
theorem dX0_tells_28 : decode cX0_tells 28 = .ok (.aload_n 0, 1) := dk_42 (dk_at dksX0_tells_1 4 rfl rfl)
theorem dX0_tells_29 : decode cX0_tells 29 = .ok (.getfield 40, 3) := dk_180 0 40 (dk_at dksX0_tells_1 5 rfl rfl)
theorem dX0_tells_32 : decode cX0_tells 32 = .ok (.iload_n 1, 1) := dk_27 (dk_at dksX0_tells_1 8 rfl rfl)
theorem dX0_tells_33 : decode cX0_tells 33 = .ok (.iload_n 2, 1) := dk_28 (dk_at dksX0_tells_1 9 rfl rfl)
theorem dX0_tells_34 : decode cX0_tells 34 = .ok (.invokevirtual 252, 3) := dk_182 0 252 (dk_at dksX0_tells_1 10 rfl rfl)
theorem dX0_tells_37 : decode cX0_tells 37 = .ok (.goto 25, 3) := dk_167 0 25 (dk_at dksX0_tells_1 13 rfl rfl)
theorem dX0_tells_40 : decode cX0_tells 40 = .ok (.iload_n 3, 1) := dk_29 (dk_at dksX0_tells_1 16 rfl rfl)
theorem dX0_tells_41 : decode cX0_tells 41 = .ok (.iconst 1, 1) := dk_4 (dk_at dksX0_tells_1 17 rfl rfl)
theorem dX0_tells_42 : decode cX0_tells 42 = .ok (.if_icmp .ne 19, 3) := dk_160 0 19 (dk_at dksX0_tells_1 18 rfl rfl)
theorem dX0_tells_45 : decode cX0_tells 45 = .ok (.aload_n 0, 1) := dk_42 (dk_at dksX0_tells_1 21 rfl rfl)
theorem dX0_tells_46 : decode cX0_tells 46 = .ok (.getfield 51, 3) := dk_180 0 51 (dk_at dksX0_tells_2 0 rfl rfl)
theorem dX0_tells_49 : decode cX0_tells 49 = .ok (.aload_n 0, 1) := dk_42 (dk_at dksX0_tells_2 3 rfl rfl)
theorem dX0_tells_50 : decode cX0_tells 50 = .ok (.getfield 40, 3) := dk_180 0 40 (dk_at dksX0_tells_2 4 rfl rfl)
theorem dX0_tells_53 : decode cX0_tells 53 = .ok (.iload_n 1, 1) := dk_27 (dk_at dksX0_tells_2 7 rfl rfl)
theorem dX0_tells_54 : decode cX0_tells 54 = .ok (.iload_n 2, 1) := dk_28 (dk_at dksX0_tells_2 8 rfl rfl)
theorem dX0_tells_55 : decode cX0_tells 55 = .ok (.invokevirtual 256, 3) := dk_182 1 0 (dk_at dksX0_tells_2 9 rfl rfl)
theorem dX0_tells_58 : decode cX0_tells 58 = .ok (.goto 4, 3) := dk_167 0 4 (dk_at dksX0_tells_2 12 rfl rfl)
theorem dX0_tells_61 : decode cX0_tells 61 = .ok (.iconst (-1), 1) := dk_2 (dk_at dksX0_tells_2 15 rfl rfl)
theorem dX0_tells_62 : decode cX0_tells 62 = .ok (.ireturn, 1) := dk_172 (dk_at dksX0_tells_2 16 rfl rfl)
abbrev cX0_step : ByteArray := prog_1_method_26_code
def yX0_step : MethodName := ⟨RX0, "step", "(I)I"⟩
def dkwX0_step_4 : List UInt8 := [180, 0, 194, 172]
abbrev dktX0_step_4 : List UInt8 := dkwX0_step_4 ++ []
def dkwX0_step_3 : List UInt8 := [181, 0, 194, 42, 180, 0, 51, 42, 180, 0, 40, 42, 180, 0, 68, 182, 1, 18, 42, 180, 0, 51]
abbrev dktX0_step_3 : List UInt8 := dkwX0_step_3 ++ dktX0_step_4
def dkwX0_step_2 : List UInt8 := [180, 0, 40, 180, 0, 145, 27, 182, 0, 178, 192, 0, 182, 42, 180, 0, 51, 180, 0, 194, 182, 0, 184]
abbrev dktX0_step_2 : List UInt8 := dkwX0_step_2 ++ dktX0_step_3
def dkwX0_step_1 : List UInt8 := [180, 0, 51, 180, 0, 194, 182, 0, 184, 156, 0, 5, 2, 172, 42, 182, 1, 15, 42, 180, 0, 51, 42]
abbrev dktX0_step_1 : List UInt8 := dkwX0_step_1 ++ dktX0_step_2
def dkwX0_step_0 : List UInt8 := [42, 27, 182, 0, 197, 153, 0, 30, 42, 180, 0, 40, 180, 0, 145, 27, 182, 0, 178, 192, 0, 182, 42]
abbrev dktX0_step_0 : List UInt8 := dkwX0_step_0 ++ dktX0_step_1
theorem dksX0_step_0 : cX0_step.data.toList.drop 0 = dktX0_step_0 := by decide +kernel
theorem dksX0_step_1 : cX0_step.data.toList.drop 23 = dktX0_step_1 := dk_seg dksX0_step_0 23 rfl rfl
theorem dksX0_step_2 : cX0_step.data.toList.drop 46 = dktX0_step_2 := dk_seg dksX0_step_1 23 rfl rfl
theorem dksX0_step_3 : cX0_step.data.toList.drop 69 = dktX0_step_3 := dk_seg dksX0_step_2 23 rfl rfl
theorem dksX0_step_4 : cX0_step.data.toList.drop 91 = dktX0_step_4 := dk_seg dksX0_step_3 22 rfl rfl
theorem dX0_step_0 : decode cX0_step 0 = .ok (.aload_n 0, 1) := dk_42 (dk_at dksX0_step_0 0 rfl rfl)
theorem dX0_step_1 : decode cX0_step 1 = .ok (.iload_n 1, 1) := dk_27 (dk_at dksX0_step_0 1 rfl rfl)
theorem dX0_step_2 : decode cX0_step 2 = .ok (.invokevirtual 197, 3) := dk_182 0 197 (dk_at dksX0_step_0 2 rfl rfl)
theorem dX0_step_5 : decode cX0_step 5 = .ok (.ifCond .eq 30, 3) := dk_153 0 30 (dk_at dksX0_step_0 5 rfl rfl)
theorem dX0_step_8 : decode cX0_step 8 = .ok (.aload_n 0, 1) := dk_42 (dk_at dksX0_step_0 8 rfl rfl)
theorem dX0_step_9 : decode cX0_step 9 = .ok (.getfield 40, 3) := dk_180 0 40 (dk_at dksX0_step_0 9 rfl rfl)
theorem dX0_step_12 : decode cX0_step 12 = .ok (.getfield 145, 3) := dk_180 0 145 (dk_at dksX0_step_0 12 rfl rfl)
theorem dX0_step_15 : decode cX0_step 15 = .ok (.iload_n 1, 1) := dk_27 (dk_at dksX0_step_0 15 rfl rfl)
theorem dX0_step_16 : decode cX0_step 16 = .ok (.invokevirtual 178, 3) := dk_182 0 178 (dk_at dksX0_step_0 16 rfl rfl)
theorem dX0_step_19 : decode cX0_step 19 = .ok (.checkcast 182, 3) := dk_192 0 182 (dk_at dksX0_step_0 19 rfl rfl)
theorem dX0_step_22 : decode cX0_step 22 = .ok (.aload_n 0, 1) := dk_42 (dk_at dksX0_step_0 22 rfl rfl)
theorem dX0_step_23 : decode cX0_step 23 = .ok (.getfield 51, 3) := dk_180 0 51 (dk_at dksX0_step_1 0 rfl rfl)
theorem dX0_step_26 : decode cX0_step 26 = .ok (.getfield 194, 3) := dk_180 0 194 (dk_at dksX0_step_1 3 rfl rfl)
theorem dX0_step_29 : decode cX0_step 29 = .ok (.invokevirtual 184, 3) := dk_182 0 184 (dk_at dksX0_step_1 6 rfl rfl)
theorem dX0_step_32 : decode cX0_step 32 = .ok (.ifCond .ge 5, 3) := dk_156 0 5 (dk_at dksX0_step_1 9 rfl rfl)
theorem dX0_step_35 : decode cX0_step 35 = .ok (.iconst (-1), 1) := dk_2 (dk_at dksX0_step_1 12 rfl rfl)
theorem dX0_step_36 : decode cX0_step 36 = .ok (.ireturn, 1) := dk_172 (dk_at dksX0_step_1 13 rfl rfl)
theorem dX0_step_37 : decode cX0_step 37 = .ok (.aload_n 0, 1) := dk_42 (dk_at dksX0_step_1 14 rfl rfl)
theorem dX0_step_38 : decode cX0_step 38 = .ok (.invokevirtual 271, 3) := dk_182 1 15 (dk_at dksX0_step_1 15 rfl rfl)
theorem dX0_step_41 : decode cX0_step 41 = .ok (.aload_n 0, 1) := dk_42 (dk_at dksX0_step_1 18 rfl rfl)
theorem dX0_step_42 : decode cX0_step 42 = .ok (.getfield 51, 3) := dk_180 0 51 (dk_at dksX0_step_1 19 rfl rfl)
theorem dX0_step_45 : decode cX0_step 45 = .ok (.aload_n 0, 1) := dk_42 (dk_at dksX0_step_1 22 rfl rfl)
theorem dX0_step_46 : decode cX0_step 46 = .ok (.getfield 40, 3) := dk_180 0 40 (dk_at dksX0_step_2 0 rfl rfl)
theorem dX0_step_49 : decode cX0_step 49 = .ok (.getfield 145, 3) := dk_180 0 145 (dk_at dksX0_step_2 3 rfl rfl)
theorem dX0_step_52 : decode cX0_step 52 = .ok (.iload_n 1, 1) := dk_27 (dk_at dksX0_step_2 6 rfl rfl)
theorem dX0_step_53 : decode cX0_step 53 = .ok (.invokevirtual 178, 3) := dk_182 0 178 (dk_at dksX0_step_2 7 rfl rfl)
theorem dX0_step_56 : decode cX0_step 56 = .ok (.checkcast 182, 3) := dk_192 0 182 (dk_at dksX0_step_2 10 rfl rfl)
theorem dX0_step_59 : decode cX0_step 59 = .ok (.aload_n 0, 1) := dk_42 (dk_at dksX0_step_2 13 rfl rfl)
theorem dX0_step_60 : decode cX0_step 60 = .ok (.getfield 51, 3) := dk_180 0 51 (dk_at dksX0_step_2 14 rfl rfl)
theorem dX0_step_63 : decode cX0_step 63 = .ok (.getfield 194, 3) := dk_180 0 194 (dk_at dksX0_step_2 17 rfl rfl)
theorem dX0_step_66 : decode cX0_step 66 = .ok (.invokevirtual 184, 3) := dk_182 0 184 (dk_at dksX0_step_2 20 rfl rfl)
theorem dX0_step_69 : decode cX0_step 69 = .ok (.putfield 194, 3) := dk_181 0 194 (dk_at dksX0_step_3 0 rfl rfl)
theorem dX0_step_72 : decode cX0_step 72 = .ok (.aload_n 0, 1) := dk_42 (dk_at dksX0_step_3 3 rfl rfl)
theorem dX0_step_73 : decode cX0_step 73 = .ok (.getfield 51, 3) := dk_180 0 51 (dk_at dksX0_step_3 4 rfl rfl)
theorem dX0_step_76 : decode cX0_step 76 = .ok (.aload_n 0, 1) := dk_42 (dk_at dksX0_step_3 7 rfl rfl)
theorem dX0_step_77 : decode cX0_step 77 = .ok (.getfield 40, 3) := dk_180 0 40 (dk_at dksX0_step_3 8 rfl rfl)
theorem dX0_step_80 : decode cX0_step 80 = .ok (.aload_n 0, 1) := dk_42 (dk_at dksX0_step_3 11 rfl rfl)
theorem dX0_step_81 : decode cX0_step 81 = .ok (.getfield 68, 3) := dk_180 0 68 (dk_at dksX0_step_3 12 rfl rfl)
theorem dX0_step_84 : decode cX0_step 84 = .ok (.invokevirtual 274, 3) := dk_182 1 18 (dk_at dksX0_step_3 15 rfl rfl)
theorem dX0_step_87 : decode cX0_step 87 = .ok (.aload_n 0, 1) := dk_42 (dk_at dksX0_step_3 18 rfl rfl)
theorem dX0_step_88 : decode cX0_step 88 = .ok (.getfield 51, 3) := dk_180 0 51 (dk_at dksX0_step_3 19 rfl rfl)
theorem dX0_step_91 : decode cX0_step 91 = .ok (.getfield 194, 3) := dk_180 0 194 (dk_at dksX0_step_4 0 rfl rfl)
theorem dX0_step_94 : decode cX0_step 94 = .ok (.ireturn, 1) := dk_172 (dk_at dksX0_step_4 3 rfl rfl)
abbrev cX0_keeps : ByteArray := prog_1_method_25_code
def yX0_keeps : MethodName := ⟨RX0, "keeps", "()V"⟩
def dkwX0_keeps_1 : List UInt8 := [16, 40, 112, 181, 1, 3, 42, 16, 40, 42, 180, 0, 125, 4, 96, 184, 1, 10, 181, 0, 125, 177]
abbrev dktX0_keeps_1 : List UInt8 := dkwX0_keeps_1 ++ []
def dkwX0_keeps_0 : List UInt8 := [42, 180, 0, 58, 42, 180, 1, 3, 50, 42, 180, 0, 51, 182, 1, 6, 42, 42, 180, 1, 3, 4, 96]
abbrev dktX0_keeps_0 : List UInt8 := dkwX0_keeps_0 ++ dktX0_keeps_1
theorem dksX0_keeps_0 : cX0_keeps.data.toList.drop 0 = dktX0_keeps_0 := by decide +kernel
theorem dksX0_keeps_1 : cX0_keeps.data.toList.drop 23 = dktX0_keeps_1 := dk_seg dksX0_keeps_0 23 rfl rfl
theorem dX0_keeps_0 : decode cX0_keeps 0 = .ok (.aload_n 0, 1) := dk_42 (dk_at dksX0_keeps_0 0 rfl rfl)
theorem dX0_keeps_1 : decode cX0_keeps 1 = .ok (.getfield 58, 3) := dk_180 0 58 (dk_at dksX0_keeps_0 1 rfl rfl)
theorem dX0_keeps_4 : decode cX0_keeps 4 = .ok (.aload_n 0, 1) := dk_42 (dk_at dksX0_keeps_0 4 rfl rfl)
theorem dX0_keeps_5 : decode cX0_keeps 5 = .ok (.getfield 259, 3) := dk_180 1 3 (dk_at dksX0_keeps_0 5 rfl rfl)
theorem dX0_keeps_8 : decode cX0_keeps 8 = .ok (.aaload, 1) := dk_50 (dk_at dksX0_keeps_0 8 rfl rfl)
theorem dX0_keeps_9 : decode cX0_keeps 9 = .ok (.aload_n 0, 1) := dk_42 (dk_at dksX0_keeps_0 9 rfl rfl)
theorem dX0_keeps_10 : decode cX0_keeps 10 = .ok (.getfield 51, 3) := dk_180 0 51 (dk_at dksX0_keeps_0 10 rfl rfl)
theorem dX0_keeps_13 : decode cX0_keeps 13 = .ok (.invokevirtual 262, 3) := dk_182 1 6 (dk_at dksX0_keeps_0 13 rfl rfl)
theorem dX0_keeps_16 : decode cX0_keeps 16 = .ok (.aload_n 0, 1) := dk_42 (dk_at dksX0_keeps_0 16 rfl rfl)
theorem dX0_keeps_17 : decode cX0_keeps 17 = .ok (.aload_n 0, 1) := dk_42 (dk_at dksX0_keeps_0 17 rfl rfl)
theorem dX0_keeps_18 : decode cX0_keeps 18 = .ok (.getfield 259, 3) := dk_180 1 3 (dk_at dksX0_keeps_0 18 rfl rfl)
theorem dX0_keeps_21 : decode cX0_keeps 21 = .ok (.iconst 1, 1) := dk_4 (dk_at dksX0_keeps_0 21 rfl rfl)
theorem dX0_keeps_22 : decode cX0_keeps 22 = .ok (.iadd, 1) := dk_96 (dk_at dksX0_keeps_0 22 rfl rfl)
theorem dX0_keeps_23 : decode cX0_keeps 23 = .ok (.bipush 40, 2) := dk_16 40 (dk_at dksX0_keeps_1 0 rfl rfl)
theorem dX0_keeps_25 : decode cX0_keeps 25 = .ok (.irem, 1) := dk_112 (dk_at dksX0_keeps_1 2 rfl rfl)
theorem dX0_keeps_26 : decode cX0_keeps 26 = .ok (.putfield 259, 3) := dk_181 1 3 (dk_at dksX0_keeps_1 3 rfl rfl)
theorem dX0_keeps_29 : decode cX0_keeps 29 = .ok (.aload_n 0, 1) := dk_42 (dk_at dksX0_keeps_1 6 rfl rfl)
theorem dX0_keeps_30 : decode cX0_keeps 30 = .ok (.bipush 40, 2) := dk_16 40 (dk_at dksX0_keeps_1 7 rfl rfl)
theorem dX0_keeps_32 : decode cX0_keeps 32 = .ok (.aload_n 0, 1) := dk_42 (dk_at dksX0_keeps_1 9 rfl rfl)
theorem dX0_keeps_33 : decode cX0_keeps 33 = .ok (.getfield 125, 3) := dk_180 0 125 (dk_at dksX0_keeps_1 10 rfl rfl)
theorem dX0_keeps_36 : decode cX0_keeps 36 = .ok (.iconst 1, 1) := dk_4 (dk_at dksX0_keeps_1 13 rfl rfl)
theorem dX0_keeps_37 : decode cX0_keeps 37 = .ok (.iadd, 1) := dk_96 (dk_at dksX0_keeps_1 14 rfl rfl)
theorem dX0_keeps_38 : decode cX0_keeps 38 = .ok (.invokestatic 266, 3) := dk_184 1 10 (dk_at dksX0_keeps_1 15 rfl rfl)
theorem dX0_keeps_41 : decode cX0_keeps 41 = .ok (.putfield 125, 3) := dk_181 0 125 (dk_at dksX0_keeps_1 18 rfl rfl)
theorem dX0_keeps_44 : decode cX0_keeps 44 = .ok (.return_, 1) := dk_177 (dk_at dksX0_keeps_1 21 rfl rfl)
abbrev cX0_lot : ByteArray := prog_1_method_2_code
def yX0_lot : MethodName := ⟨RX0, "lot", "(III)I"⟩
def dkwX0_lot_0 : List UInt8 := [26, 17, 0, 175, 184, 0, 2, 27, 184, 0, 2, 4, 124, 28, 112, 172]
abbrev dktX0_lot_0 : List UInt8 := dkwX0_lot_0 ++ []
theorem dksX0_lot_0 : cX0_lot.data.toList.drop 0 = dktX0_lot_0 := by decide +kernel
theorem dX0_lot_0 : decode cX0_lot 0 = .ok (.iload_n 0, 1) := dk_26 (dk_at dksX0_lot_0 0 rfl rfl)
theorem dX0_lot_1 : decode cX0_lot 1 = .ok (.sipush 175, 3) := dk_17 0 175 (dk_at dksX0_lot_0 1 rfl rfl)
theorem dX0_lot_4 : decode cX0_lot 4 = .ok (.invokestatic 2, 3) := dk_184 0 2 (dk_at dksX0_lot_0 4 rfl rfl)
theorem dX0_lot_7 : decode cX0_lot 7 = .ok (.iload_n 1, 1) := dk_27 (dk_at dksX0_lot_0 7 rfl rfl)
theorem dX0_lot_8 : decode cX0_lot 8 = .ok (.invokestatic 2, 3) := dk_184 0 2 (dk_at dksX0_lot_0 8 rfl rfl)
theorem dX0_lot_11 : decode cX0_lot 11 = .ok (.iconst 1, 1) := dk_4 (dk_at dksX0_lot_0 11 rfl rfl)
theorem dX0_lot_12 : decode cX0_lot 12 = .ok (.iushr, 1) := dk_124 (dk_at dksX0_lot_0 12 rfl rfl)
theorem dX0_lot_13 : decode cX0_lot 13 = .ok (.iload_n 2, 1) := dk_28 (dk_at dksX0_lot_0 13 rfl rfl)
theorem dX0_lot_14 : decode cX0_lot 14 = .ok (.irem, 1) := dk_112 (dk_at dksX0_lot_0 14 rfl rfl)
theorem dX0_lot_15 : decode cX0_lot 15 = .ok (.ireturn, 1) := dk_172 (dk_at dksX0_lot_0 15 rfl rfl)
abbrev cX0_mixed : ByteArray := prog_1_method_1_code
def yX0_mixed : MethodName := ⟨RX0, "mixed", "(II)I"⟩
def dkwX0_mixed_0 : List UInt8 := [26, 27, 130, 18, 1, 104, 17, 48, 57, 96, 61, 28, 28, 16, 15, 124, 130, 172]
abbrev dktX0_mixed_0 : List UInt8 := dkwX0_mixed_0 ++ []
theorem dksX0_mixed_0 : cX0_mixed.data.toList.drop 0 = dktX0_mixed_0 := by decide +kernel
theorem dX0_mixed_0 : decode cX0_mixed 0 = .ok (.iload_n 0, 1) := dk_26 (dk_at dksX0_mixed_0 0 rfl rfl)
theorem dX0_mixed_1 : decode cX0_mixed 1 = .ok (.iload_n 1, 1) := dk_27 (dk_at dksX0_mixed_0 1 rfl rfl)
theorem dX0_mixed_2 : decode cX0_mixed 2 = .ok (.ixor, 1) := dk_130 (dk_at dksX0_mixed_0 2 rfl rfl)
theorem dX0_mixed_3 : decode cX0_mixed 3 = .ok (.ldc 1, 2) := dk_18 1 (dk_at dksX0_mixed_0 3 rfl rfl)
theorem dX0_mixed_5 : decode cX0_mixed 5 = .ok (.imul, 1) := dk_104 (dk_at dksX0_mixed_0 5 rfl rfl)
theorem dX0_mixed_6 : decode cX0_mixed 6 = .ok (.sipush 12345, 3) := dk_17 48 57 (dk_at dksX0_mixed_0 6 rfl rfl)
theorem dX0_mixed_9 : decode cX0_mixed 9 = .ok (.iadd, 1) := dk_96 (dk_at dksX0_mixed_0 9 rfl rfl)
theorem dX0_mixed_10 : decode cX0_mixed 10 = .ok (.istore_n 2, 1) := dk_61 (dk_at dksX0_mixed_0 10 rfl rfl)
theorem dX0_mixed_11 : decode cX0_mixed 11 = .ok (.iload_n 2, 1) := dk_28 (dk_at dksX0_mixed_0 11 rfl rfl)
theorem dX0_mixed_12 : decode cX0_mixed 12 = .ok (.iload_n 2, 1) := dk_28 (dk_at dksX0_mixed_0 12 rfl rfl)
theorem dX0_mixed_13 : decode cX0_mixed 13 = .ok (.bipush 15, 2) := dk_16 15 (dk_at dksX0_mixed_0 13 rfl rfl)
theorem dX0_mixed_15 : decode cX0_mixed 15 = .ok (.iushr, 1) := dk_124 (dk_at dksX0_mixed_0 15 rfl rfl)
theorem dX0_mixed_16 : decode cX0_mixed 16 = .ok (.ixor, 1) := dk_130 (dk_at dksX0_mixed_0 16 rfl rfl)
theorem dX0_mixed_17 : decode cX0_mixed 17 = .ok (.ireturn, 1) := dk_172 (dk_at dksX0_mixed_0 17 rfl rfl)
abbrev cX0_say : ByteArray := prog_1_method_27_code
def yX0_say : MethodName := ⟨RX0, "say", "(II)I"⟩
def dkwX0_say_2 : List UInt8 := [180, 0, 40, 27, 28, 182, 1, 25, 42, 180, 0, 51, 180, 0, 224, 27, 46, 172]
abbrev dktX0_say_2 : List UInt8 := dkwX0_say_2 ++ []
def dkwX0_say_1 : List UInt8 := [46, 42, 180, 0, 51, 180, 0, 194, 159, 0, 5, 2, 172, 42, 182, 1, 15, 42, 180, 0, 51, 42]
abbrev dktX0_say_1 : List UInt8 := dkwX0_say_1 ++ dktX0_say_2
def dkwX0_say_0 : List UInt8 := [42, 27, 182, 1, 22, 153, 0, 30, 42, 28, 182, 0, 243, 153, 0, 22, 42, 180, 0, 51, 180, 0, 221, 27]
abbrev dktX0_say_0 : List UInt8 := dkwX0_say_0 ++ dktX0_say_1
theorem dksX0_say_0 : cX0_say.data.toList.drop 0 = dktX0_say_0 := by decide +kernel
theorem dksX0_say_1 : cX0_say.data.toList.drop 24 = dktX0_say_1 := dk_seg dksX0_say_0 24 rfl rfl
theorem dksX0_say_2 : cX0_say.data.toList.drop 46 = dktX0_say_2 := dk_seg dksX0_say_1 22 rfl rfl
theorem dX0_say_0 : decode cX0_say 0 = .ok (.aload_n 0, 1) := dk_42 (dk_at dksX0_say_0 0 rfl rfl)
theorem dX0_say_1 : decode cX0_say 1 = .ok (.iload_n 1, 1) := dk_27 (dk_at dksX0_say_0 1 rfl rfl)
theorem dX0_say_2 : decode cX0_say 2 = .ok (.invokevirtual 278, 3) := dk_182 1 22 (dk_at dksX0_say_0 2 rfl rfl)
theorem dX0_say_5 : decode cX0_say 5 = .ok (.ifCond .eq 30, 3) := dk_153 0 30 (dk_at dksX0_say_0 5 rfl rfl)
theorem dX0_say_8 : decode cX0_say 8 = .ok (.aload_n 0, 1) := dk_42 (dk_at dksX0_say_0 8 rfl rfl)
theorem dX0_say_9 : decode cX0_say 9 = .ok (.iload_n 2, 1) := dk_28 (dk_at dksX0_say_0 9 rfl rfl)
theorem dX0_say_10 : decode cX0_say 10 = .ok (.invokevirtual 243, 3) := dk_182 0 243 (dk_at dksX0_say_0 10 rfl rfl)
theorem dX0_say_13 : decode cX0_say 13 = .ok (.ifCond .eq 22, 3) := dk_153 0 22 (dk_at dksX0_say_0 13 rfl rfl)
theorem dX0_say_16 : decode cX0_say 16 = .ok (.aload_n 0, 1) := dk_42 (dk_at dksX0_say_0 16 rfl rfl)
theorem dX0_say_17 : decode cX0_say 17 = .ok (.getfield 51, 3) := dk_180 0 51 (dk_at dksX0_say_0 17 rfl rfl)
theorem dX0_say_20 : decode cX0_say 20 = .ok (.getfield 221, 3) := dk_180 0 221 (dk_at dksX0_say_0 20 rfl rfl)
theorem dX0_say_23 : decode cX0_say 23 = .ok (.iload_n 1, 1) := dk_27 (dk_at dksX0_say_0 23 rfl rfl)
theorem dX0_say_24 : decode cX0_say 24 = .ok (.iaload, 1) := dk_46 (dk_at dksX0_say_1 0 rfl rfl)
theorem dX0_say_25 : decode cX0_say 25 = .ok (.aload_n 0, 1) := dk_42 (dk_at dksX0_say_1 1 rfl rfl)
theorem dX0_say_26 : decode cX0_say 26 = .ok (.getfield 51, 3) := dk_180 0 51 (dk_at dksX0_say_1 2 rfl rfl)
theorem dX0_say_29 : decode cX0_say 29 = .ok (.getfield 194, 3) := dk_180 0 194 (dk_at dksX0_say_1 5 rfl rfl)
theorem dX0_say_32 : decode cX0_say 32 = .ok (.if_icmp .eq 5, 3) := dk_159 0 5 (dk_at dksX0_say_1 8 rfl rfl)
theorem dX0_say_35 : decode cX0_say 35 = .ok (.iconst (-1), 1) := dk_2 (dk_at dksX0_say_1 11 rfl rfl)
theorem dX0_say_36 : decode cX0_say 36 = .ok (.ireturn, 1) := dk_172 (dk_at dksX0_say_1 12 rfl rfl)
theorem dX0_say_37 : decode cX0_say 37 = .ok (.aload_n 0, 1) := dk_42 (dk_at dksX0_say_1 13 rfl rfl)
theorem dX0_say_38 : decode cX0_say 38 = .ok (.invokevirtual 271, 3) := dk_182 1 15 (dk_at dksX0_say_1 14 rfl rfl)
theorem dX0_say_41 : decode cX0_say 41 = .ok (.aload_n 0, 1) := dk_42 (dk_at dksX0_say_1 17 rfl rfl)
theorem dX0_say_42 : decode cX0_say 42 = .ok (.getfield 51, 3) := dk_180 0 51 (dk_at dksX0_say_1 18 rfl rfl)
theorem dX0_say_45 : decode cX0_say 45 = .ok (.aload_n 0, 1) := dk_42 (dk_at dksX0_say_1 21 rfl rfl)
theorem dX0_say_46 : decode cX0_say 46 = .ok (.getfield 40, 3) := dk_180 0 40 (dk_at dksX0_say_2 0 rfl rfl)
theorem dX0_say_49 : decode cX0_say 49 = .ok (.iload_n 1, 1) := dk_27 (dk_at dksX0_say_2 3 rfl rfl)
theorem dX0_say_50 : decode cX0_say 50 = .ok (.iload_n 2, 1) := dk_28 (dk_at dksX0_say_2 4 rfl rfl)
theorem dX0_say_51 : decode cX0_say 51 = .ok (.invokevirtual 281, 3) := dk_182 1 25 (dk_at dksX0_say_2 5 rfl rfl)
theorem dX0_say_54 : decode cX0_say 54 = .ok (.aload_n 0, 1) := dk_42 (dk_at dksX0_say_2 8 rfl rfl)
theorem dX0_say_55 : decode cX0_say 55 = .ok (.getfield 51, 3) := dk_180 0 51 (dk_at dksX0_say_2 9 rfl rfl)
theorem dX0_say_58 : decode cX0_say 58 = .ok (.getfield 224, 3) := dk_180 0 224 (dk_at dksX0_say_2 12 rfl rfl)
theorem dX0_say_61 : decode cX0_say 61 = .ok (.iload_n 1, 1) := dk_27 (dk_at dksX0_say_2 15 rfl rfl)
theorem dX0_say_62 : decode cX0_say 62 = .ok (.iaload, 1) := dk_46 (dk_at dksX0_say_2 16 rfl rfl)
theorem dX0_say_63 : decode cX0_say 63 = .ok (.ireturn, 1) := dk_172 (dk_at dksX0_say_2 17 rfl rfl)
abbrev cX0_isOut : ByteArray := prog_1_method_17_code
def yX0_isOut : MethodName := ⟨RX0, "isOut", "(I)Z"⟩
def dkwX0_isOut_1 : List UInt8 := [172]
abbrev dktX0_isOut_1 : List UInt8 := dkwX0_isOut_1 ++ []
def dkwX0_isOut_0 : List UInt8 := [42, 27, 182, 0, 165, 153, 0, 18, 42, 180, 0, 51, 27, 182, 0, 169, 154, 0, 7, 4, 167, 0, 4, 3]
abbrev dktX0_isOut_0 : List UInt8 := dkwX0_isOut_0 ++ dktX0_isOut_1
theorem dksX0_isOut_0 : cX0_isOut.data.toList.drop 0 = dktX0_isOut_0 := by decide +kernel
theorem dksX0_isOut_1 : cX0_isOut.data.toList.drop 24 = dktX0_isOut_1 := dk_seg dksX0_isOut_0 24 rfl rfl
theorem dX0_isOut_0 : decode cX0_isOut 0 = .ok (.aload_n 0, 1) := dk_42 (dk_at dksX0_isOut_0 0 rfl rfl)
theorem dX0_isOut_1 : decode cX0_isOut 1 = .ok (.iload_n 1, 1) := dk_27 (dk_at dksX0_isOut_0 1 rfl rfl)
theorem dX0_isOut_2 : decode cX0_isOut 2 = .ok (.invokevirtual 165, 3) := dk_182 0 165 (dk_at dksX0_isOut_0 2 rfl rfl)
theorem dX0_isOut_5 : decode cX0_isOut 5 = .ok (.ifCond .eq 18, 3) := dk_153 0 18 (dk_at dksX0_isOut_0 5 rfl rfl)
theorem dX0_isOut_8 : decode cX0_isOut 8 = .ok (.aload_n 0, 1) := dk_42 (dk_at dksX0_isOut_0 8 rfl rfl)
theorem dX0_isOut_9 : decode cX0_isOut 9 = .ok (.getfield 51, 3) := dk_180 0 51 (dk_at dksX0_isOut_0 9 rfl rfl)
theorem dX0_isOut_12 : decode cX0_isOut 12 = .ok (.iload_n 1, 1) := dk_27 (dk_at dksX0_isOut_0 12 rfl rfl)
theorem dX0_isOut_13 : decode cX0_isOut 13 = .ok (.invokevirtual 169, 3) := dk_182 0 169 (dk_at dksX0_isOut_0 13 rfl rfl)
theorem dX0_isOut_16 : decode cX0_isOut 16 = .ok (.ifCond .ne 7, 3) := dk_154 0 7 (dk_at dksX0_isOut_0 16 rfl rfl)
theorem dX0_isOut_19 : decode cX0_isOut 19 = .ok (.iconst 1, 1) := dk_4 (dk_at dksX0_isOut_0 19 rfl rfl)
theorem dX0_isOut_20 : decode cX0_isOut 20 = .ok (.goto 4, 3) := dk_167 0 4 (dk_at dksX0_isOut_0 20 rfl rfl)
theorem dX0_isOut_23 : decode cX0_isOut 23 = .ok (.iconst 0, 1) := dk_3 (dk_at dksX0_isOut_0 23 rfl rfl)
theorem dX0_isOut_24 : decode cX0_isOut 24 = .ok (.ireturn, 1) := dk_172 (dk_at dksX0_isOut_1 0 rfl rfl)
abbrev cX0_move : ByteArray := prog_1_method_28_code
def yX0_move : MethodName := ⟨RX0, "move", "(II)Z"⟩
def dkwX0_move_1 : List UInt8 := [46, 28, 160, 0, 5, 3, 172, 42, 182, 1, 15, 42, 180, 0, 51, 180, 0, 221, 27, 28, 79, 4, 172]
abbrev dktX0_move_1 : List UInt8 := dkwX0_move_1 ++ []
def dkwX0_move_0 : List UInt8 := [42, 27, 182, 1, 22, 153, 0, 24, 42, 28, 182, 0, 175, 153, 0, 16, 42, 180, 0, 51, 180, 0, 221, 27]
abbrev dktX0_move_0 : List UInt8 := dkwX0_move_0 ++ dktX0_move_1
theorem dksX0_move_0 : cX0_move.data.toList.drop 0 = dktX0_move_0 := by decide +kernel
theorem dksX0_move_1 : cX0_move.data.toList.drop 24 = dktX0_move_1 := dk_seg dksX0_move_0 24 rfl rfl
theorem dX0_move_0 : decode cX0_move 0 = .ok (.aload_n 0, 1) := dk_42 (dk_at dksX0_move_0 0 rfl rfl)
theorem dX0_move_1 : decode cX0_move 1 = .ok (.iload_n 1, 1) := dk_27 (dk_at dksX0_move_0 1 rfl rfl)
theorem dX0_move_2 : decode cX0_move 2 = .ok (.invokevirtual 278, 3) := dk_182 1 22 (dk_at dksX0_move_0 2 rfl rfl)
theorem dX0_move_5 : decode cX0_move 5 = .ok (.ifCond .eq 24, 3) := dk_153 0 24 (dk_at dksX0_move_0 5 rfl rfl)
theorem dX0_move_8 : decode cX0_move 8 = .ok (.aload_n 0, 1) := dk_42 (dk_at dksX0_move_0 8 rfl rfl)
theorem dX0_move_9 : decode cX0_move 9 = .ok (.iload_n 2, 1) := dk_28 (dk_at dksX0_move_0 9 rfl rfl)
theorem dX0_move_10 : decode cX0_move 10 = .ok (.invokevirtual 175, 3) := dk_182 0 175 (dk_at dksX0_move_0 10 rfl rfl)
theorem dX0_move_13 : decode cX0_move 13 = .ok (.ifCond .eq 16, 3) := dk_153 0 16 (dk_at dksX0_move_0 13 rfl rfl)
theorem dX0_move_16 : decode cX0_move 16 = .ok (.aload_n 0, 1) := dk_42 (dk_at dksX0_move_0 16 rfl rfl)
theorem dX0_move_17 : decode cX0_move 17 = .ok (.getfield 51, 3) := dk_180 0 51 (dk_at dksX0_move_0 17 rfl rfl)
theorem dX0_move_20 : decode cX0_move 20 = .ok (.getfield 221, 3) := dk_180 0 221 (dk_at dksX0_move_0 20 rfl rfl)
theorem dX0_move_23 : decode cX0_move 23 = .ok (.iload_n 1, 1) := dk_27 (dk_at dksX0_move_0 23 rfl rfl)
theorem dX0_move_24 : decode cX0_move 24 = .ok (.iaload, 1) := dk_46 (dk_at dksX0_move_1 0 rfl rfl)
theorem dX0_move_25 : decode cX0_move 25 = .ok (.iload_n 2, 1) := dk_28 (dk_at dksX0_move_1 1 rfl rfl)
theorem dX0_move_26 : decode cX0_move 26 = .ok (.if_icmp .ne 5, 3) := dk_160 0 5 (dk_at dksX0_move_1 2 rfl rfl)
theorem dX0_move_29 : decode cX0_move 29 = .ok (.iconst 0, 1) := dk_3 (dk_at dksX0_move_1 5 rfl rfl)
theorem dX0_move_30 : decode cX0_move 30 = .ok (.ireturn, 1) := dk_172 (dk_at dksX0_move_1 6 rfl rfl)
theorem dX0_move_31 : decode cX0_move 31 = .ok (.aload_n 0, 1) := dk_42 (dk_at dksX0_move_1 7 rfl rfl)
theorem dX0_move_32 : decode cX0_move 32 = .ok (.invokevirtual 271, 3) := dk_182 1 15 (dk_at dksX0_move_1 8 rfl rfl)
theorem dX0_move_35 : decode cX0_move 35 = .ok (.aload_n 0, 1) := dk_42 (dk_at dksX0_move_1 11 rfl rfl)
theorem dX0_move_36 : decode cX0_move 36 = .ok (.getfield 51, 3) := dk_180 0 51 (dk_at dksX0_move_1 12 rfl rfl)
theorem dX0_move_39 : decode cX0_move 39 = .ok (.getfield 221, 3) := dk_180 0 221 (dk_at dksX0_move_1 15 rfl rfl)
theorem dX0_move_42 : decode cX0_move 42 = .ok (.iload_n 1, 1) := dk_27 (dk_at dksX0_move_1 18 rfl rfl)
theorem dX0_move_43 : decode cX0_move 43 = .ok (.iload_n 2, 1) := dk_28 (dk_at dksX0_move_1 19 rfl rfl)
theorem dX0_move_44 : decode cX0_move 44 = .ok (.iastore, 1) := dk_79 (dk_at dksX0_move_1 20 rfl rfl)
theorem dX0_move_45 : decode cX0_move 45 = .ok (.iconst 1, 1) := dk_4 (dk_at dksX0_move_1 21 rfl rfl)
theorem dX0_move_46 : decode cX0_move 46 = .ok (.ireturn, 1) := dk_172 (dk_at dksX0_move_1 22 rfl rfl)
abbrev cX0_rouge : ByteArray := prog_1_method_29_code
def yX0_rouge : MethodName := ⟨RX0, "rouge", "(I)Z"⟩
def dkwX0_rouge_2 : List UInt8 := [180, 0, 233, 4, 27, 120, 128, 181, 0, 233, 4, 172]
abbrev dktX0_rouge_2 : List UInt8 := dkwX0_rouge_2 ++ []
def dkwX0_rouge_1 : List UInt8 := [17, 3, 231, 42, 180, 0, 51, 180, 0, 224, 27, 46, 16, 20, 96, 184, 1, 10, 79, 42, 180, 0, 51, 89]
abbrev dktX0_rouge_1 : List UInt8 := dkwX0_rouge_1 ++ dktX0_rouge_2
def dkwX0_rouge_0 : List UInt8 := [42, 27, 182, 1, 22, 154, 0, 5, 3, 172, 42, 182, 1, 15, 42, 180, 0, 51, 180, 0, 224, 27]
abbrev dktX0_rouge_0 : List UInt8 := dkwX0_rouge_0 ++ dktX0_rouge_1
theorem dksX0_rouge_0 : cX0_rouge.data.toList.drop 0 = dktX0_rouge_0 := by decide +kernel
theorem dksX0_rouge_1 : cX0_rouge.data.toList.drop 22 = dktX0_rouge_1 := dk_seg dksX0_rouge_0 22 rfl rfl
theorem dksX0_rouge_2 : cX0_rouge.data.toList.drop 46 = dktX0_rouge_2 := dk_seg dksX0_rouge_1 24 rfl rfl
theorem dX0_rouge_0 : decode cX0_rouge 0 = .ok (.aload_n 0, 1) := dk_42 (dk_at dksX0_rouge_0 0 rfl rfl)
theorem dX0_rouge_1 : decode cX0_rouge 1 = .ok (.iload_n 1, 1) := dk_27 (dk_at dksX0_rouge_0 1 rfl rfl)
theorem dX0_rouge_2 : decode cX0_rouge 2 = .ok (.invokevirtual 278, 3) := dk_182 1 22 (dk_at dksX0_rouge_0 2 rfl rfl)
theorem dX0_rouge_5 : decode cX0_rouge 5 = .ok (.ifCond .ne 5, 3) := dk_154 0 5 (dk_at dksX0_rouge_0 5 rfl rfl)
theorem dX0_rouge_8 : decode cX0_rouge 8 = .ok (.iconst 0, 1) := dk_3 (dk_at dksX0_rouge_0 8 rfl rfl)
theorem dX0_rouge_9 : decode cX0_rouge 9 = .ok (.ireturn, 1) := dk_172 (dk_at dksX0_rouge_0 9 rfl rfl)
theorem dX0_rouge_10 : decode cX0_rouge 10 = .ok (.aload_n 0, 1) := dk_42 (dk_at dksX0_rouge_0 10 rfl rfl)
theorem dX0_rouge_11 : decode cX0_rouge 11 = .ok (.invokevirtual 271, 3) := dk_182 1 15 (dk_at dksX0_rouge_0 11 rfl rfl)
theorem dX0_rouge_14 : decode cX0_rouge 14 = .ok (.aload_n 0, 1) := dk_42 (dk_at dksX0_rouge_0 14 rfl rfl)
theorem dX0_rouge_15 : decode cX0_rouge 15 = .ok (.getfield 51, 3) := dk_180 0 51 (dk_at dksX0_rouge_0 15 rfl rfl)
theorem dX0_rouge_18 : decode cX0_rouge 18 = .ok (.getfield 224, 3) := dk_180 0 224 (dk_at dksX0_rouge_0 18 rfl rfl)
theorem dX0_rouge_21 : decode cX0_rouge 21 = .ok (.iload_n 1, 1) := dk_27 (dk_at dksX0_rouge_0 21 rfl rfl)
theorem dX0_rouge_22 : decode cX0_rouge 22 = .ok (.sipush 999, 3) := dk_17 3 231 (dk_at dksX0_rouge_1 0 rfl rfl)
theorem dX0_rouge_25 : decode cX0_rouge 25 = .ok (.aload_n 0, 1) := dk_42 (dk_at dksX0_rouge_1 3 rfl rfl)
theorem dX0_rouge_26 : decode cX0_rouge 26 = .ok (.getfield 51, 3) := dk_180 0 51 (dk_at dksX0_rouge_1 4 rfl rfl)
theorem dX0_rouge_29 : decode cX0_rouge 29 = .ok (.getfield 224, 3) := dk_180 0 224 (dk_at dksX0_rouge_1 7 rfl rfl)
theorem dX0_rouge_32 : decode cX0_rouge 32 = .ok (.iload_n 1, 1) := dk_27 (dk_at dksX0_rouge_1 10 rfl rfl)
theorem dX0_rouge_33 : decode cX0_rouge 33 = .ok (.iaload, 1) := dk_46 (dk_at dksX0_rouge_1 11 rfl rfl)
theorem dX0_rouge_34 : decode cX0_rouge 34 = .ok (.bipush 20, 2) := dk_16 20 (dk_at dksX0_rouge_1 12 rfl rfl)
theorem dX0_rouge_36 : decode cX0_rouge 36 = .ok (.iadd, 1) := dk_96 (dk_at dksX0_rouge_1 14 rfl rfl)
theorem dX0_rouge_37 : decode cX0_rouge 37 = .ok (.invokestatic 266, 3) := dk_184 1 10 (dk_at dksX0_rouge_1 15 rfl rfl)
theorem dX0_rouge_40 : decode cX0_rouge 40 = .ok (.iastore, 1) := dk_79 (dk_at dksX0_rouge_1 18 rfl rfl)
theorem dX0_rouge_41 : decode cX0_rouge 41 = .ok (.aload_n 0, 1) := dk_42 (dk_at dksX0_rouge_1 19 rfl rfl)
theorem dX0_rouge_42 : decode cX0_rouge 42 = .ok (.getfield 51, 3) := dk_180 0 51 (dk_at dksX0_rouge_1 20 rfl rfl)
theorem dX0_rouge_45 : decode cX0_rouge 45 = .ok (.dup, 1) := dk_89 (dk_at dksX0_rouge_1 23 rfl rfl)
theorem dX0_rouge_46 : decode cX0_rouge 46 = .ok (.getfield 233, 3) := dk_180 0 233 (dk_at dksX0_rouge_2 0 rfl rfl)
theorem dX0_rouge_49 : decode cX0_rouge 49 = .ok (.iconst 1, 1) := dk_4 (dk_at dksX0_rouge_2 3 rfl rfl)
theorem dX0_rouge_50 : decode cX0_rouge 50 = .ok (.iload_n 1, 1) := dk_27 (dk_at dksX0_rouge_2 4 rfl rfl)
theorem dX0_rouge_51 : decode cX0_rouge 51 = .ok (.ishl, 1) := dk_120 (dk_at dksX0_rouge_2 5 rfl rfl)
theorem dX0_rouge_52 : decode cX0_rouge 52 = .ok (.ior, 1) := dk_128 (dk_at dksX0_rouge_2 6 rfl rfl)
theorem dX0_rouge_53 : decode cX0_rouge 53 = .ok (.putfield 233, 3) := dk_181 0 233 (dk_at dksX0_rouge_2 7 rfl rfl)
theorem dX0_rouge_56 : decode cX0_rouge 56 = .ok (.iconst 1, 1) := dk_4 (dk_at dksX0_rouge_2 10 rfl rfl)
theorem dX0_rouge_57 : decode cX0_rouge 57 = .ok (.ireturn, 1) := dk_172 (dk_at dksX0_rouge_2 11 rfl rfl)
abbrev cX0_hours : ByteArray := prog_1_method_31_code
def yX0_hours : MethodName := ⟨RX0, "hours", "(I)I"⟩
def dkwX0_hours_1 : List UInt8 := [180, 0, 68, 182, 1, 32, 42, 180, 0, 51, 180, 1, 36, 172]
abbrev dktX0_hours_1 : List UInt8 := dkwX0_hours_1 ++ []
def dkwX0_hours_0 : List UInt8 := [27, 184, 1, 29, 154, 0, 5, 2, 172, 27, 158, 0, 7, 42, 182, 1, 15, 42, 42, 180, 0, 51, 27, 42]
abbrev dktX0_hours_0 : List UInt8 := dkwX0_hours_0 ++ dktX0_hours_1
theorem dksX0_hours_0 : cX0_hours.data.toList.drop 0 = dktX0_hours_0 := by decide +kernel
theorem dksX0_hours_1 : cX0_hours.data.toList.drop 24 = dktX0_hours_1 := dk_seg dksX0_hours_0 24 rfl rfl
theorem dX0_hours_0 : decode cX0_hours 0 = .ok (.iload_n 1, 1) := dk_27 (dk_at dksX0_hours_0 0 rfl rfl)
theorem dX0_hours_1 : decode cX0_hours 1 = .ok (.invokestatic 285, 3) := dk_184 1 29 (dk_at dksX0_hours_0 1 rfl rfl)
theorem dX0_hours_4 : decode cX0_hours 4 = .ok (.ifCond .ne 5, 3) := dk_154 0 5 (dk_at dksX0_hours_0 4 rfl rfl)
theorem dX0_hours_7 : decode cX0_hours 7 = .ok (.iconst (-1), 1) := dk_2 (dk_at dksX0_hours_0 7 rfl rfl)
theorem dX0_hours_8 : decode cX0_hours 8 = .ok (.ireturn, 1) := dk_172 (dk_at dksX0_hours_0 8 rfl rfl)
theorem dX0_hours_9 : decode cX0_hours 9 = .ok (.iload_n 1, 1) := dk_27 (dk_at dksX0_hours_0 9 rfl rfl)
theorem dX0_hours_10 : decode cX0_hours 10 = .ok (.ifCond .le 7, 3) := dk_158 0 7 (dk_at dksX0_hours_0 10 rfl rfl)
theorem dX0_hours_13 : decode cX0_hours 13 = .ok (.aload_n 0, 1) := dk_42 (dk_at dksX0_hours_0 13 rfl rfl)
theorem dX0_hours_14 : decode cX0_hours 14 = .ok (.invokevirtual 271, 3) := dk_182 1 15 (dk_at dksX0_hours_0 14 rfl rfl)
theorem dX0_hours_17 : decode cX0_hours 17 = .ok (.aload_n 0, 1) := dk_42 (dk_at dksX0_hours_0 17 rfl rfl)
theorem dX0_hours_18 : decode cX0_hours 18 = .ok (.aload_n 0, 1) := dk_42 (dk_at dksX0_hours_0 18 rfl rfl)
theorem dX0_hours_19 : decode cX0_hours 19 = .ok (.getfield 51, 3) := dk_180 0 51 (dk_at dksX0_hours_0 19 rfl rfl)
theorem dX0_hours_22 : decode cX0_hours 22 = .ok (.iload_n 1, 1) := dk_27 (dk_at dksX0_hours_0 22 rfl rfl)
theorem dX0_hours_23 : decode cX0_hours 23 = .ok (.aload_n 0, 1) := dk_42 (dk_at dksX0_hours_0 23 rfl rfl)
theorem dX0_hours_24 : decode cX0_hours 24 = .ok (.getfield 68, 3) := dk_180 0 68 (dk_at dksX0_hours_1 0 rfl rfl)
theorem dX0_hours_27 : decode cX0_hours 27 = .ok (.invokevirtual 288, 3) := dk_182 1 32 (dk_at dksX0_hours_1 3 rfl rfl)
theorem dX0_hours_30 : decode cX0_hours 30 = .ok (.aload_n 0, 1) := dk_42 (dk_at dksX0_hours_1 6 rfl rfl)
theorem dX0_hours_31 : decode cX0_hours 31 = .ok (.getfield 51, 3) := dk_180 0 51 (dk_at dksX0_hours_1 7 rfl rfl)
theorem dX0_hours_34 : decode cX0_hours 34 = .ok (.getfield 292, 3) := dk_180 1 36 (dk_at dksX0_hours_1 10 rfl rfl)
theorem dX0_hours_37 : decode cX0_hours 37 = .ok (.ireturn, 1) := dk_172 (dk_at dksX0_hours_1 13 rfl rfl)
abbrev cX0_isAhead : ByteArray := prog_1_method_19_code
def yX0_isAhead : MethodName := ⟨RX0, "isAhead", "(I)Z"⟩
def dkwX0_isAhead_0 : List UInt8 := [26, 3, 16, 72, 184, 0, 156, 172]
abbrev dktX0_isAhead_0 : List UInt8 := dkwX0_isAhead_0 ++ []
theorem dksX0_isAhead_0 : cX0_isAhead.data.toList.drop 0 = dktX0_isAhead_0 := by decide +kernel
theorem dX0_isAhead_0 : decode cX0_isAhead 0 = .ok (.iload_n 0, 1) := dk_26 (dk_at dksX0_isAhead_0 0 rfl rfl)
theorem dX0_isAhead_1 : decode cX0_isAhead 1 = .ok (.iconst 0, 1) := dk_3 (dk_at dksX0_isAhead_0 1 rfl rfl)
theorem dX0_isAhead_2 : decode cX0_isAhead 2 = .ok (.bipush 72, 2) := dk_16 72 (dk_at dksX0_isAhead_0 2 rfl rfl)
theorem dX0_isAhead_4 : decode cX0_isAhead 4 = .ok (.invokestatic 156, 3) := dk_184 0 156 (dk_at dksX0_isAhead_0 4 rfl rfl)
theorem dX0_isAhead_7 : decode cX0_isAhead 7 = .ok (.ireturn, 1) := dk_172 (dk_at dksX0_isAhead_0 7 rfl rfl)
abbrev cX0_runs : ByteArray := prog_1_method_30_code
def yX0_runs : MethodName := ⟨RX0, "runs", "(LBlushLamps$Town;ILBlushLamps$Air;)V"⟩
def dkwX0_runs_1 : List UInt8 := [177]
abbrev dktX0_runs_1 : List UInt8 := dkwX0_runs_1 ++ []
def dkwX0_runs_0 : List UInt8 := [3, 54, 4, 21, 4, 28, 162, 0, 18, 43, 42, 180, 0, 40, 45, 182, 1, 18, 132, 4, 1, 167, 255, 238]
abbrev dktX0_runs_0 : List UInt8 := dkwX0_runs_0 ++ dktX0_runs_1
theorem dksX0_runs_0 : cX0_runs.data.toList.drop 0 = dktX0_runs_0 := by decide +kernel
theorem dksX0_runs_1 : cX0_runs.data.toList.drop 24 = dktX0_runs_1 := dk_seg dksX0_runs_0 24 rfl rfl
theorem dX0_runs_0 : decode cX0_runs 0 = .ok (.iconst 0, 1) := dk_3 (dk_at dksX0_runs_0 0 rfl rfl)
theorem dX0_runs_1 : decode cX0_runs 1 = .ok (.istore 4, 2) := dk_54 4 (dk_at dksX0_runs_0 1 rfl rfl)
theorem dX0_runs_3 : decode cX0_runs 3 = .ok (.iload 4, 2) := dk_21 4 (dk_at dksX0_runs_0 3 rfl rfl)
theorem dX0_runs_5 : decode cX0_runs 5 = .ok (.iload_n 2, 1) := dk_28 (dk_at dksX0_runs_0 5 rfl rfl)
theorem dX0_runs_6 : decode cX0_runs 6 = .ok (.if_icmp .ge 18, 3) := dk_162 0 18 (dk_at dksX0_runs_0 6 rfl rfl)
theorem dX0_runs_9 : decode cX0_runs 9 = .ok (.aload_n 1, 1) := dk_43 (dk_at dksX0_runs_0 9 rfl rfl)
theorem dX0_runs_10 : decode cX0_runs 10 = .ok (.aload_n 0, 1) := dk_42 (dk_at dksX0_runs_0 10 rfl rfl)
theorem dX0_runs_11 : decode cX0_runs 11 = .ok (.getfield 40, 3) := dk_180 0 40 (dk_at dksX0_runs_0 11 rfl rfl)
theorem dX0_runs_14 : decode cX0_runs 14 = .ok (.aload_n 3, 1) := dk_45 (dk_at dksX0_runs_0 14 rfl rfl)
theorem dX0_runs_15 : decode cX0_runs 15 = .ok (.invokevirtual 274, 3) := dk_182 1 18 (dk_at dksX0_runs_0 15 rfl rfl)
theorem dX0_runs_18 : decode cX0_runs 18 = .ok (.iinc 4 1, 3) := dk_132 4 1 (dk_at dksX0_runs_0 18 rfl rfl)
theorem dX0_runs_21 : decode cX0_runs 21 = .ok (.goto (-18), 3) := dk_167 255 238 (dk_at dksX0_runs_0 21 rfl rfl)
theorem dX0_runs_24 : decode cX0_runs 24 = .ok (.return_, 1) := dk_177 (dk_at dksX0_runs_1 0 rfl rfl)
abbrev cX0_undo : ByteArray := prog_1_method_32_code
def yX0_undo : MethodName := ⟨RX0, "undo", "()Z"⟩
def dkwX0_undo_2 : List UInt8 := [182, 1, 6, 4, 172]
abbrev dktX0_undo_2 : List UInt8 := dkwX0_undo_2 ++ []
def dkwX0_undo_1 : List UInt8 := [16, 40, 96, 4, 100, 16, 40, 112, 181, 1, 3, 42, 180, 0, 51, 42, 180, 0, 58, 42, 180, 1, 3, 50]
abbrev dktX0_undo_1 : List UInt8 := dkwX0_undo_1 ++ dktX0_undo_2
def dkwX0_undo_0 : List UInt8 := [42, 180, 0, 125, 154, 0, 5, 3, 172, 42, 89, 180, 0, 125, 4, 100, 181, 0, 125, 42, 42, 180, 1, 3]
abbrev dktX0_undo_0 : List UInt8 := dkwX0_undo_0 ++ dktX0_undo_1
theorem dksX0_undo_0 : cX0_undo.data.toList.drop 0 = dktX0_undo_0 := by decide +kernel
theorem dksX0_undo_1 : cX0_undo.data.toList.drop 24 = dktX0_undo_1 := dk_seg dksX0_undo_0 24 rfl rfl
theorem dksX0_undo_2 : cX0_undo.data.toList.drop 48 = dktX0_undo_2 := dk_seg dksX0_undo_1 24 rfl rfl
theorem dX0_undo_0 : decode cX0_undo 0 = .ok (.aload_n 0, 1) := dk_42 (dk_at dksX0_undo_0 0 rfl rfl)
theorem dX0_undo_1 : decode cX0_undo 1 = .ok (.getfield 125, 3) := dk_180 0 125 (dk_at dksX0_undo_0 1 rfl rfl)
theorem dX0_undo_4 : decode cX0_undo 4 = .ok (.ifCond .ne 5, 3) := dk_154 0 5 (dk_at dksX0_undo_0 4 rfl rfl)
theorem dX0_undo_7 : decode cX0_undo 7 = .ok (.iconst 0, 1) := dk_3 (dk_at dksX0_undo_0 7 rfl rfl)
theorem dX0_undo_8 : decode cX0_undo 8 = .ok (.ireturn, 1) := dk_172 (dk_at dksX0_undo_0 8 rfl rfl)
theorem dX0_undo_9 : decode cX0_undo 9 = .ok (.aload_n 0, 1) := dk_42 (dk_at dksX0_undo_0 9 rfl rfl)
theorem dX0_undo_10 : decode cX0_undo 10 = .ok (.dup, 1) := dk_89 (dk_at dksX0_undo_0 10 rfl rfl)
theorem dX0_undo_11 : decode cX0_undo 11 = .ok (.getfield 125, 3) := dk_180 0 125 (dk_at dksX0_undo_0 11 rfl rfl)
theorem dX0_undo_14 : decode cX0_undo 14 = .ok (.iconst 1, 1) := dk_4 (dk_at dksX0_undo_0 14 rfl rfl)
theorem dX0_undo_15 : decode cX0_undo 15 = .ok (.isub, 1) := dk_100 (dk_at dksX0_undo_0 15 rfl rfl)
theorem dX0_undo_16 : decode cX0_undo 16 = .ok (.putfield 125, 3) := dk_181 0 125 (dk_at dksX0_undo_0 16 rfl rfl)
theorem dX0_undo_19 : decode cX0_undo 19 = .ok (.aload_n 0, 1) := dk_42 (dk_at dksX0_undo_0 19 rfl rfl)
theorem dX0_undo_20 : decode cX0_undo 20 = .ok (.aload_n 0, 1) := dk_42 (dk_at dksX0_undo_0 20 rfl rfl)
theorem dX0_undo_21 : decode cX0_undo 21 = .ok (.getfield 259, 3) := dk_180 1 3 (dk_at dksX0_undo_0 21 rfl rfl)
theorem dX0_undo_24 : decode cX0_undo 24 = .ok (.bipush 40, 2) := dk_16 40 (dk_at dksX0_undo_1 0 rfl rfl)
theorem dX0_undo_26 : decode cX0_undo 26 = .ok (.iadd, 1) := dk_96 (dk_at dksX0_undo_1 2 rfl rfl)
theorem dX0_undo_27 : decode cX0_undo 27 = .ok (.iconst 1, 1) := dk_4 (dk_at dksX0_undo_1 3 rfl rfl)
theorem dX0_undo_28 : decode cX0_undo 28 = .ok (.isub, 1) := dk_100 (dk_at dksX0_undo_1 4 rfl rfl)
theorem dX0_undo_29 : decode cX0_undo 29 = .ok (.bipush 40, 2) := dk_16 40 (dk_at dksX0_undo_1 5 rfl rfl)
theorem dX0_undo_31 : decode cX0_undo 31 = .ok (.irem, 1) := dk_112 (dk_at dksX0_undo_1 7 rfl rfl)
theorem dX0_undo_32 : decode cX0_undo 32 = .ok (.putfield 259, 3) := dk_181 1 3 (dk_at dksX0_undo_1 8 rfl rfl)
theorem dX0_undo_35 : decode cX0_undo 35 = .ok (.aload_n 0, 1) := dk_42 (dk_at dksX0_undo_1 11 rfl rfl)
theorem dX0_undo_36 : decode cX0_undo 36 = .ok (.getfield 51, 3) := dk_180 0 51 (dk_at dksX0_undo_1 12 rfl rfl)
theorem dX0_undo_39 : decode cX0_undo 39 = .ok (.aload_n 0, 1) := dk_42 (dk_at dksX0_undo_1 15 rfl rfl)
theorem dX0_undo_40 : decode cX0_undo 40 = .ok (.getfield 58, 3) := dk_180 0 58 (dk_at dksX0_undo_1 16 rfl rfl)
theorem dX0_undo_43 : decode cX0_undo 43 = .ok (.aload_n 0, 1) := dk_42 (dk_at dksX0_undo_1 19 rfl rfl)
theorem dX0_undo_44 : decode cX0_undo 44 = .ok (.getfield 259, 3) := dk_180 1 3 (dk_at dksX0_undo_1 20 rfl rfl)
theorem dX0_undo_47 : decode cX0_undo 47 = .ok (.aaload, 1) := dk_50 (dk_at dksX0_undo_1 23 rfl rfl)
theorem dX0_undo_48 : decode cX0_undo 48 = .ok (.invokevirtual 262, 3) := dk_182 1 6 (dk_at dksX0_undo_2 0 rfl rfl)
theorem dX0_undo_51 : decode cX0_undo 51 = .ok (.iconst 1, 1) := dk_4 (dk_at dksX0_undo_2 3 rfl rfl)
theorem dX0_undo_52 : decode cX0_undo 52 = .ok (.ireturn, 1) := dk_172 (dk_at dksX0_undo_2 4 rfl rfl)
abbrev cX0_darkens : ByteArray := prog_1_method_33_code
def yX0_darkens : MethodName := ⟨RX0, "darkens", "(I)I"⟩
def dkwX0_darkens_2 : List UInt8 := [180, 0, 55, 42, 180, 0, 40, 42, 180, 0, 75, 182, 1, 18, 132, 2, 1, 167, 255, 215, 16, 254, 172]
abbrev dktX0_darkens_2 : List UInt8 := dkwX0_darkens_2 ++ []
def dkwX0_darkens_1 : List UInt8 := [16, 100, 163, 0, 41, 42, 180, 0, 55, 42, 180, 0, 40, 27, 182, 0, 200, 158, 0, 5, 28, 172, 42]
abbrev dktX0_darkens_1 : List UInt8 := dkwX0_darkens_1 ++ dktX0_darkens_2
def dkwX0_darkens_0 : List UInt8 := [42, 27, 182, 0, 197, 154, 0, 5, 2, 172, 42, 180, 0, 55, 42, 180, 0, 51, 182, 1, 6, 3, 61, 28]
abbrev dktX0_darkens_0 : List UInt8 := dkwX0_darkens_0 ++ dktX0_darkens_1
theorem dksX0_darkens_0 : cX0_darkens.data.toList.drop 0 = dktX0_darkens_0 := by decide +kernel
theorem dksX0_darkens_1 : cX0_darkens.data.toList.drop 24 = dktX0_darkens_1 := dk_seg dksX0_darkens_0 24 rfl rfl
theorem dksX0_darkens_2 : cX0_darkens.data.toList.drop 47 = dktX0_darkens_2 := dk_seg dksX0_darkens_1 23 rfl rfl
theorem dX0_darkens_0 : decode cX0_darkens 0 = .ok (.aload_n 0, 1) := dk_42 (dk_at dksX0_darkens_0 0 rfl rfl)
theorem dX0_darkens_1 : decode cX0_darkens 1 = .ok (.iload_n 1, 1) := dk_27 (dk_at dksX0_darkens_0 1 rfl rfl)
theorem dX0_darkens_2 : decode cX0_darkens 2 = .ok (.invokevirtual 197, 3) := dk_182 0 197 (dk_at dksX0_darkens_0 2 rfl rfl)
theorem dX0_darkens_5 : decode cX0_darkens 5 = .ok (.ifCond .ne 5, 3) := dk_154 0 5 (dk_at dksX0_darkens_0 5 rfl rfl)
theorem dX0_darkens_8 : decode cX0_darkens 8 = .ok (.iconst (-1), 1) := dk_2 (dk_at dksX0_darkens_0 8 rfl rfl)
theorem dX0_darkens_9 : decode cX0_darkens 9 = .ok (.ireturn, 1) := dk_172 (dk_at dksX0_darkens_0 9 rfl rfl)
theorem dX0_darkens_10 : decode cX0_darkens 10 = .ok (.aload_n 0, 1) := dk_42 (dk_at dksX0_darkens_0 10 rfl rfl)
theorem dX0_darkens_11 : decode cX0_darkens 11 = .ok (.getfield 55, 3) := dk_180 0 55 (dk_at dksX0_darkens_0 11 rfl rfl)
theorem dX0_darkens_14 : decode cX0_darkens 14 = .ok (.aload_n 0, 1) := dk_42 (dk_at dksX0_darkens_0 14 rfl rfl)
theorem dX0_darkens_15 : decode cX0_darkens 15 = .ok (.getfield 51, 3) := dk_180 0 51 (dk_at dksX0_darkens_0 15 rfl rfl)
theorem dX0_darkens_18 : decode cX0_darkens 18 = .ok (.invokevirtual 262, 3) := dk_182 1 6 (dk_at dksX0_darkens_0 18 rfl rfl)
theorem dX0_darkens_21 : decode cX0_darkens 21 = .ok (.iconst 0, 1) := dk_3 (dk_at dksX0_darkens_0 21 rfl rfl)
theorem dX0_darkens_22 : decode cX0_darkens 22 = .ok (.istore_n 2, 1) := dk_61 (dk_at dksX0_darkens_0 22 rfl rfl)
theorem dX0_darkens_23 : decode cX0_darkens 23 = .ok (.iload_n 2, 1) := dk_28 (dk_at dksX0_darkens_0 23 rfl rfl)
theorem dX0_darkens_24 : decode cX0_darkens 24 = .ok (.bipush 100, 2) := dk_16 100 (dk_at dksX0_darkens_1 0 rfl rfl)
theorem dX0_darkens_26 : decode cX0_darkens 26 = .ok (.if_icmp .gt 41, 3) := dk_163 0 41 (dk_at dksX0_darkens_1 2 rfl rfl)
theorem dX0_darkens_29 : decode cX0_darkens 29 = .ok (.aload_n 0, 1) := dk_42 (dk_at dksX0_darkens_1 5 rfl rfl)
theorem dX0_darkens_30 : decode cX0_darkens 30 = .ok (.getfield 55, 3) := dk_180 0 55 (dk_at dksX0_darkens_1 6 rfl rfl)
theorem dX0_darkens_33 : decode cX0_darkens 33 = .ok (.aload_n 0, 1) := dk_42 (dk_at dksX0_darkens_1 9 rfl rfl)
theorem dX0_darkens_34 : decode cX0_darkens 34 = .ok (.getfield 40, 3) := dk_180 0 40 (dk_at dksX0_darkens_1 10 rfl rfl)
theorem dX0_darkens_37 : decode cX0_darkens 37 = .ok (.iload_n 1, 1) := dk_27 (dk_at dksX0_darkens_1 13 rfl rfl)
theorem dX0_darkens_38 : decode cX0_darkens 38 = .ok (.invokevirtual 200, 3) := dk_182 0 200 (dk_at dksX0_darkens_1 14 rfl rfl)
theorem dX0_darkens_41 : decode cX0_darkens 41 = .ok (.ifCond .le 5, 3) := dk_158 0 5 (dk_at dksX0_darkens_1 17 rfl rfl)
theorem dX0_darkens_44 : decode cX0_darkens 44 = .ok (.iload_n 2, 1) := dk_28 (dk_at dksX0_darkens_1 20 rfl rfl)
theorem dX0_darkens_45 : decode cX0_darkens 45 = .ok (.ireturn, 1) := dk_172 (dk_at dksX0_darkens_1 21 rfl rfl)
theorem dX0_darkens_46 : decode cX0_darkens 46 = .ok (.aload_n 0, 1) := dk_42 (dk_at dksX0_darkens_1 22 rfl rfl)
theorem dX0_darkens_47 : decode cX0_darkens 47 = .ok (.getfield 55, 3) := dk_180 0 55 (dk_at dksX0_darkens_2 0 rfl rfl)
theorem dX0_darkens_50 : decode cX0_darkens 50 = .ok (.aload_n 0, 1) := dk_42 (dk_at dksX0_darkens_2 3 rfl rfl)
theorem dX0_darkens_51 : decode cX0_darkens 51 = .ok (.getfield 40, 3) := dk_180 0 40 (dk_at dksX0_darkens_2 4 rfl rfl)
theorem dX0_darkens_54 : decode cX0_darkens 54 = .ok (.aload_n 0, 1) := dk_42 (dk_at dksX0_darkens_2 7 rfl rfl)
theorem dX0_darkens_55 : decode cX0_darkens 55 = .ok (.getfield 75, 3) := dk_180 0 75 (dk_at dksX0_darkens_2 8 rfl rfl)
theorem dX0_darkens_58 : decode cX0_darkens 58 = .ok (.invokevirtual 274, 3) := dk_182 1 18 (dk_at dksX0_darkens_2 11 rfl rfl)
theorem dX0_darkens_61 : decode cX0_darkens 61 = .ok (.iinc 2 1, 3) := dk_132 2 1 (dk_at dksX0_darkens_2 14 rfl rfl)
theorem dX0_darkens_64 : decode cX0_darkens 64 = .ok (.goto (-41), 3) := dk_167 255 215 (dk_at dksX0_darkens_2 17 rfl rfl)
theorem dX0_darkens_67 : decode cX0_darkens 67 = .ok (.bipush (-2), 2) := dk_16 254 (dk_at dksX0_darkens_2 20 rfl rfl)
theorem dX0_darkens_69 : decode cX0_darkens 69 = .ok (.ireturn, 1) := dk_172 (dk_at dksX0_darkens_2 22 rfl rfl)
abbrev cX0_best : ByteArray := prog_1_method_36_code
def yX0_best : MethodName := ⟨RX0, "best", "(I)I"⟩
def dkwX0_best_6 : List UInt8 := [180, 0, 82, 27, 46, 172]
abbrev dktX0_best_6 : List UInt8 := dkwX0_best_6 ++ []
def dkwX0_best_5 : List UInt8 := [180, 1, 42, 167, 0, 25, 42, 180, 0, 51, 27, 182, 0, 169, 153, 0, 8, 16, 254, 167, 0, 9, 42]
abbrev dktX0_best_5 : List UInt8 := dkwX0_best_5 ++ dktX0_best_6
def dkwX0_best_4 : List UInt8 := [180, 0, 224, 28, 46, 96, 79, 132, 2, 1, 167, 255, 208, 42, 3, 182, 1, 45, 27, 2, 160, 0, 10, 42]
abbrev dktX0_best_4 : List UInt8 := dkwX0_best_4 ++ dktX0_best_5
def dkwX0_best_3 : List UInt8 := [153, 0, 29, 42, 180, 0, 86, 42, 180, 0, 55, 180, 0, 221, 28, 46, 92, 46, 42, 180, 0, 55]
abbrev dktX0_best_3 : List UInt8 := dkwX0_best_3 ++ dktX0_best_4
def dkwX0_best_2 : List UInt8 := [132, 2, 1, 167, 255, 240, 3, 61, 28, 42, 182, 0, 162, 162, 0, 46, 42, 180, 0, 51, 28, 182, 0, 169]
abbrev dktX0_best_2 : List UInt8 := dkwX0_best_2 ++ dktX0_best_3
def dkwX0_best_1 : List UInt8 := [182, 1, 6, 42, 2, 181, 1, 42, 3, 61, 28, 16, 7, 162, 0, 16, 42, 180, 0, 86, 28, 3, 79]
abbrev dktX0_best_1 : List UInt8 := dkwX0_best_1 ++ dktX0_best_2
def dkwX0_best_0 : List UInt8 := [27, 2, 159, 0, 13, 42, 27, 182, 0, 165, 154, 0, 5, 2, 172, 42, 180, 0, 55, 42, 180, 0, 51]
abbrev dktX0_best_0 : List UInt8 := dkwX0_best_0 ++ dktX0_best_1
theorem dksX0_best_0 : cX0_best.data.toList.drop 0 = dktX0_best_0 := by decide +kernel
theorem dksX0_best_1 : cX0_best.data.toList.drop 23 = dktX0_best_1 := dk_seg dksX0_best_0 23 rfl rfl
theorem dksX0_best_2 : cX0_best.data.toList.drop 46 = dktX0_best_2 := dk_seg dksX0_best_1 23 rfl rfl
theorem dksX0_best_3 : cX0_best.data.toList.drop 70 = dktX0_best_3 := dk_seg dksX0_best_2 24 rfl rfl
theorem dksX0_best_4 : cX0_best.data.toList.drop 92 = dktX0_best_4 := dk_seg dksX0_best_3 22 rfl rfl
theorem dksX0_best_5 : cX0_best.data.toList.drop 116 = dktX0_best_5 := dk_seg dksX0_best_4 24 rfl rfl
theorem dksX0_best_6 : cX0_best.data.toList.drop 139 = dktX0_best_6 := dk_seg dksX0_best_5 23 rfl rfl
theorem dX0_best_0 : decode cX0_best 0 = .ok (.iload_n 1, 1) := dk_27 (dk_at dksX0_best_0 0 rfl rfl)
theorem dX0_best_1 : decode cX0_best 1 = .ok (.iconst (-1), 1) := dk_2 (dk_at dksX0_best_0 1 rfl rfl)
theorem dX0_best_2 : decode cX0_best 2 = .ok (.if_icmp .eq 13, 3) := dk_159 0 13 (dk_at dksX0_best_0 2 rfl rfl)
theorem dX0_best_5 : decode cX0_best 5 = .ok (.aload_n 0, 1) := dk_42 (dk_at dksX0_best_0 5 rfl rfl)
theorem dX0_best_6 : decode cX0_best 6 = .ok (.iload_n 1, 1) := dk_27 (dk_at dksX0_best_0 6 rfl rfl)
theorem dX0_best_7 : decode cX0_best 7 = .ok (.invokevirtual 165, 3) := dk_182 0 165 (dk_at dksX0_best_0 7 rfl rfl)
theorem dX0_best_10 : decode cX0_best 10 = .ok (.ifCond .ne 5, 3) := dk_154 0 5 (dk_at dksX0_best_0 10 rfl rfl)
theorem dX0_best_13 : decode cX0_best 13 = .ok (.iconst (-1), 1) := dk_2 (dk_at dksX0_best_0 13 rfl rfl)
theorem dX0_best_14 : decode cX0_best 14 = .ok (.ireturn, 1) := dk_172 (dk_at dksX0_best_0 14 rfl rfl)
theorem dX0_best_15 : decode cX0_best 15 = .ok (.aload_n 0, 1) := dk_42 (dk_at dksX0_best_0 15 rfl rfl)
theorem dX0_best_16 : decode cX0_best 16 = .ok (.getfield 55, 3) := dk_180 0 55 (dk_at dksX0_best_0 16 rfl rfl)
theorem dX0_best_19 : decode cX0_best 19 = .ok (.aload_n 0, 1) := dk_42 (dk_at dksX0_best_0 19 rfl rfl)
theorem dX0_best_20 : decode cX0_best 20 = .ok (.getfield 51, 3) := dk_180 0 51 (dk_at dksX0_best_0 20 rfl rfl)
theorem dX0_best_23 : decode cX0_best 23 = .ok (.invokevirtual 262, 3) := dk_182 1 6 (dk_at dksX0_best_1 0 rfl rfl)
theorem dX0_best_26 : decode cX0_best 26 = .ok (.aload_n 0, 1) := dk_42 (dk_at dksX0_best_1 3 rfl rfl)
theorem dX0_best_27 : decode cX0_best 27 = .ok (.iconst (-1), 1) := dk_2 (dk_at dksX0_best_1 4 rfl rfl)
theorem dX0_best_28 : decode cX0_best 28 = .ok (.putfield 298, 3) := dk_181 1 42 (dk_at dksX0_best_1 5 rfl rfl)
theorem dX0_best_31 : decode cX0_best 31 = .ok (.iconst 0, 1) := dk_3 (dk_at dksX0_best_1 8 rfl rfl)
theorem dX0_best_32 : decode cX0_best 32 = .ok (.istore_n 2, 1) := dk_61 (dk_at dksX0_best_1 9 rfl rfl)
theorem dX0_best_33 : decode cX0_best 33 = .ok (.iload_n 2, 1) := dk_28 (dk_at dksX0_best_1 10 rfl rfl)
theorem dX0_best_34 : decode cX0_best 34 = .ok (.bipush 7, 2) := dk_16 7 (dk_at dksX0_best_1 11 rfl rfl)
theorem dX0_best_36 : decode cX0_best 36 = .ok (.if_icmp .ge 16, 3) := dk_162 0 16 (dk_at dksX0_best_1 13 rfl rfl)
theorem dX0_best_39 : decode cX0_best 39 = .ok (.aload_n 0, 1) := dk_42 (dk_at dksX0_best_1 16 rfl rfl)
theorem dX0_best_40 : decode cX0_best 40 = .ok (.getfield 86, 3) := dk_180 0 86 (dk_at dksX0_best_1 17 rfl rfl)
theorem dX0_best_43 : decode cX0_best 43 = .ok (.iload_n 2, 1) := dk_28 (dk_at dksX0_best_1 20 rfl rfl)
theorem dX0_best_44 : decode cX0_best 44 = .ok (.iconst 0, 1) := dk_3 (dk_at dksX0_best_1 21 rfl rfl)
theorem dX0_best_45 : decode cX0_best 45 = .ok (.iastore, 1) := dk_79 (dk_at dksX0_best_1 22 rfl rfl)
theorem dX0_best_46 : decode cX0_best 46 = .ok (.iinc 2 1, 3) := dk_132 2 1 (dk_at dksX0_best_2 0 rfl rfl)
theorem dX0_best_49 : decode cX0_best 49 = .ok (.goto (-16), 3) := dk_167 255 240 (dk_at dksX0_best_2 3 rfl rfl)
theorem dX0_best_52 : decode cX0_best 52 = .ok (.iconst 0, 1) := dk_3 (dk_at dksX0_best_2 6 rfl rfl)
theorem dX0_best_53 : decode cX0_best 53 = .ok (.istore_n 2, 1) := dk_61 (dk_at dksX0_best_2 7 rfl rfl)
theorem dX0_best_54 : decode cX0_best 54 = .ok (.iload_n 2, 1) := dk_28 (dk_at dksX0_best_2 8 rfl rfl)
theorem dX0_best_55 : decode cX0_best 55 = .ok (.aload_n 0, 1) := dk_42 (dk_at dksX0_best_2 9 rfl rfl)
theorem dX0_best_56 : decode cX0_best 56 = .ok (.invokevirtual 162, 3) := dk_182 0 162 (dk_at dksX0_best_2 10 rfl rfl)
theorem dX0_best_59 : decode cX0_best 59 = .ok (.if_icmp .ge 46, 3) := dk_162 0 46 (dk_at dksX0_best_2 13 rfl rfl)
theorem dX0_best_62 : decode cX0_best 62 = .ok (.aload_n 0, 1) := dk_42 (dk_at dksX0_best_2 16 rfl rfl)
theorem dX0_best_63 : decode cX0_best 63 = .ok (.getfield 51, 3) := dk_180 0 51 (dk_at dksX0_best_2 17 rfl rfl)
theorem dX0_best_66 : decode cX0_best 66 = .ok (.iload_n 2, 1) := dk_28 (dk_at dksX0_best_2 20 rfl rfl)
theorem dX0_best_67 : decode cX0_best 67 = .ok (.invokevirtual 169, 3) := dk_182 0 169 (dk_at dksX0_best_2 21 rfl rfl)
theorem dX0_best_70 : decode cX0_best 70 = .ok (.ifCond .eq 29, 3) := dk_153 0 29 (dk_at dksX0_best_3 0 rfl rfl)
theorem dX0_best_73 : decode cX0_best 73 = .ok (.aload_n 0, 1) := dk_42 (dk_at dksX0_best_3 3 rfl rfl)
theorem dX0_best_74 : decode cX0_best 74 = .ok (.getfield 86, 3) := dk_180 0 86 (dk_at dksX0_best_3 4 rfl rfl)
theorem dX0_best_77 : decode cX0_best 77 = .ok (.aload_n 0, 1) := dk_42 (dk_at dksX0_best_3 7 rfl rfl)
theorem dX0_best_78 : decode cX0_best 78 = .ok (.getfield 55, 3) := dk_180 0 55 (dk_at dksX0_best_3 8 rfl rfl)
theorem dX0_best_81 : decode cX0_best 81 = .ok (.getfield 221, 3) := dk_180 0 221 (dk_at dksX0_best_3 11 rfl rfl)
theorem dX0_best_84 : decode cX0_best 84 = .ok (.iload_n 2, 1) := dk_28 (dk_at dksX0_best_3 14 rfl rfl)
theorem dX0_best_85 : decode cX0_best 85 = .ok (.iaload, 1) := dk_46 (dk_at dksX0_best_3 15 rfl rfl)
theorem dX0_best_86 : decode cX0_best 86 = .ok (.dup2, 1) := dk_92 (dk_at dksX0_best_3 16 rfl rfl)
theorem dX0_best_87 : decode cX0_best 87 = .ok (.iaload, 1) := dk_46 (dk_at dksX0_best_3 17 rfl rfl)
theorem dX0_best_88 : decode cX0_best 88 = .ok (.aload_n 0, 1) := dk_42 (dk_at dksX0_best_3 18 rfl rfl)
theorem dX0_best_89 : decode cX0_best 89 = .ok (.getfield 55, 3) := dk_180 0 55 (dk_at dksX0_best_3 19 rfl rfl)
theorem dX0_best_92 : decode cX0_best 92 = .ok (.getfield 224, 3) := dk_180 0 224 (dk_at dksX0_best_4 0 rfl rfl)
theorem dX0_best_95 : decode cX0_best 95 = .ok (.iload_n 2, 1) := dk_28 (dk_at dksX0_best_4 3 rfl rfl)
theorem dX0_best_96 : decode cX0_best 96 = .ok (.iaload, 1) := dk_46 (dk_at dksX0_best_4 4 rfl rfl)
theorem dX0_best_97 : decode cX0_best 97 = .ok (.iadd, 1) := dk_96 (dk_at dksX0_best_4 5 rfl rfl)
theorem dX0_best_98 : decode cX0_best 98 = .ok (.iastore, 1) := dk_79 (dk_at dksX0_best_4 6 rfl rfl)
theorem dX0_best_99 : decode cX0_best 99 = .ok (.iinc 2 1, 3) := dk_132 2 1 (dk_at dksX0_best_4 7 rfl rfl)
theorem dX0_best_102 : decode cX0_best 102 = .ok (.goto (-48), 3) := dk_167 255 208 (dk_at dksX0_best_4 10 rfl rfl)
theorem dX0_best_105 : decode cX0_best 105 = .ok (.aload_n 0, 1) := dk_42 (dk_at dksX0_best_4 13 rfl rfl)
theorem dX0_best_106 : decode cX0_best 106 = .ok (.iconst 0, 1) := dk_3 (dk_at dksX0_best_4 14 rfl rfl)
theorem dX0_best_107 : decode cX0_best 107 = .ok (.invokevirtual 301, 3) := dk_182 1 45 (dk_at dksX0_best_4 15 rfl rfl)
theorem dX0_best_110 : decode cX0_best 110 = .ok (.iload_n 1, 1) := dk_27 (dk_at dksX0_best_4 18 rfl rfl)
theorem dX0_best_111 : decode cX0_best 111 = .ok (.iconst (-1), 1) := dk_2 (dk_at dksX0_best_4 19 rfl rfl)
theorem dX0_best_112 : decode cX0_best 112 = .ok (.if_icmp .ne 10, 3) := dk_160 0 10 (dk_at dksX0_best_4 20 rfl rfl)
theorem dX0_best_115 : decode cX0_best 115 = .ok (.aload_n 0, 1) := dk_42 (dk_at dksX0_best_4 23 rfl rfl)
theorem dX0_best_116 : decode cX0_best 116 = .ok (.getfield 298, 3) := dk_180 1 42 (dk_at dksX0_best_5 0 rfl rfl)
theorem dX0_best_119 : decode cX0_best 119 = .ok (.goto 25, 3) := dk_167 0 25 (dk_at dksX0_best_5 3 rfl rfl)
theorem dX0_best_122 : decode cX0_best 122 = .ok (.aload_n 0, 1) := dk_42 (dk_at dksX0_best_5 6 rfl rfl)
theorem dX0_best_123 : decode cX0_best 123 = .ok (.getfield 51, 3) := dk_180 0 51 (dk_at dksX0_best_5 7 rfl rfl)
theorem dX0_best_126 : decode cX0_best 126 = .ok (.iload_n 1, 1) := dk_27 (dk_at dksX0_best_5 10 rfl rfl)
theorem dX0_best_127 : decode cX0_best 127 = .ok (.invokevirtual 169, 3) := dk_182 0 169 (dk_at dksX0_best_5 11 rfl rfl)
theorem dX0_best_130 : decode cX0_best 130 = .ok (.ifCond .eq 8, 3) := dk_153 0 8 (dk_at dksX0_best_5 14 rfl rfl)
theorem dX0_best_133 : decode cX0_best 133 = .ok (.bipush (-2), 2) := dk_16 254 (dk_at dksX0_best_5 17 rfl rfl)
theorem dX0_best_135 : decode cX0_best 135 = .ok (.goto 9, 3) := dk_167 0 9 (dk_at dksX0_best_5 19 rfl rfl)
theorem dX0_best_138 : decode cX0_best 138 = .ok (.aload_n 0, 1) := dk_42 (dk_at dksX0_best_5 22 rfl rfl)
theorem dX0_best_139 : decode cX0_best 139 = .ok (.getfield 82, 3) := dk_180 0 82 (dk_at dksX0_best_6 0 rfl rfl)
theorem dX0_best_142 : decode cX0_best 142 = .ok (.iload_n 1, 1) := dk_27 (dk_at dksX0_best_6 3 rfl rfl)
theorem dX0_best_143 : decode cX0_best 143 = .ok (.iaload, 1) := dk_46 (dk_at dksX0_best_6 4 rfl rfl)
theorem dX0_best_144 : decode cX0_best 144 = .ok (.ireturn, 1) := dk_172 (dk_at dksX0_best_6 5 rfl rfl)
abbrev cX0_laysFrom : ByteArray := prog_1_method_35_code
def yX0_laysFrom : MethodName := ⟨RX0, "laysFrom", "(I)V"⟩
def dkwX0_laysFrom_6 : List UInt8 := [180, 0, 55, 180, 0, 224, 27, 46, 100, 79, 132, 2, 1, 167, 255, 181, 177]
abbrev dktX0_laysFrom_6 : List UInt8 := dkwX0_laysFrom_6 ++ []
def dkwX0_laysFrom_5 : List UInt8 := [180, 0, 224, 27, 46, 96, 79, 42, 27, 4, 96, 182, 1, 45, 42, 180, 0, 86, 28, 92, 46, 42]
abbrev dktX0_laysFrom_5 : List UInt8 := dkwX0_laysFrom_5 ++ dktX0_laysFrom_6
def dkwX0_laysFrom_4 : List UInt8 := [162, 0, 62, 42, 180, 0, 55, 180, 0, 221, 27, 28, 79, 42, 180, 0, 86, 28, 92, 46, 42, 180, 0, 55]
abbrev dktX0_laysFrom_4 : List UInt8 := dkwX0_laysFrom_4 ++ dktX0_laysFrom_5
def dkwX0_laysFrom_3 : List UInt8 := [182, 1, 45, 177, 3, 61, 28, 42, 182, 0, 154, 162, 0, 73, 42, 180, 1, 42, 42, 182, 0, 160]
abbrev dktX0_laysFrom_3 : List UInt8 := dkwX0_laysFrom_3 ++ dktX0_laysFrom_4
def dkwX0_laysFrom_2 : List UInt8 := [46, 79, 132, 3, 1, 167, 255, 232, 177, 42, 180, 0, 51, 27, 182, 0, 169, 153, 0, 11, 42, 27, 4, 96]
abbrev dktX0_laysFrom_2 : List UInt8 := dkwX0_laysFrom_2 ++ dktX0_laysFrom_3
def dkwX0_laysFrom_1 : List UInt8 := [181, 1, 42, 3, 62, 29, 16, 6, 162, 0, 24, 42, 180, 0, 82, 29, 42, 180, 0, 55, 180, 0, 221, 29]
abbrev dktX0_laysFrom_1 : List UInt8 := dkwX0_laysFrom_1 ++ dktX0_laysFrom_2
def dkwX0_laysFrom_0 : List UInt8 := [27, 42, 182, 0, 162, 160, 0, 52, 42, 182, 1, 39, 61, 28, 42, 180, 1, 42, 163, 0, 4, 177, 42, 28]
abbrev dktX0_laysFrom_0 : List UInt8 := dkwX0_laysFrom_0 ++ dktX0_laysFrom_1
theorem dksX0_laysFrom_0 : cX0_laysFrom.data.toList.drop 0 = dktX0_laysFrom_0 := by decide +kernel
theorem dksX0_laysFrom_1 : cX0_laysFrom.data.toList.drop 24 = dktX0_laysFrom_1 := dk_seg dksX0_laysFrom_0 24 rfl rfl
theorem dksX0_laysFrom_2 : cX0_laysFrom.data.toList.drop 48 = dktX0_laysFrom_2 := dk_seg dksX0_laysFrom_1 24 rfl rfl
theorem dksX0_laysFrom_3 : cX0_laysFrom.data.toList.drop 72 = dktX0_laysFrom_3 := dk_seg dksX0_laysFrom_2 24 rfl rfl
theorem dksX0_laysFrom_4 : cX0_laysFrom.data.toList.drop 94 = dktX0_laysFrom_4 := dk_seg dksX0_laysFrom_3 22 rfl rfl
theorem dksX0_laysFrom_5 : cX0_laysFrom.data.toList.drop 118 = dktX0_laysFrom_5 := dk_seg dksX0_laysFrom_4 24 rfl rfl
theorem dksX0_laysFrom_6 : cX0_laysFrom.data.toList.drop 140 = dktX0_laysFrom_6 := dk_seg dksX0_laysFrom_5 22 rfl rfl
theorem dX0_laysFrom_0 : decode cX0_laysFrom 0 = .ok (.iload_n 1, 1) := dk_27 (dk_at dksX0_laysFrom_0 0 rfl rfl)
theorem dX0_laysFrom_1 : decode cX0_laysFrom 1 = .ok (.aload_n 0, 1) := dk_42 (dk_at dksX0_laysFrom_0 1 rfl rfl)
theorem dX0_laysFrom_2 : decode cX0_laysFrom 2 = .ok (.invokevirtual 162, 3) := dk_182 0 162 (dk_at dksX0_laysFrom_0 2 rfl rfl)
theorem dX0_laysFrom_5 : decode cX0_laysFrom 5 = .ok (.if_icmp .ne 52, 3) := dk_160 0 52 (dk_at dksX0_laysFrom_0 5 rfl rfl)
theorem dX0_laysFrom_8 : decode cX0_laysFrom 8 = .ok (.aload_n 0, 1) := dk_42 (dk_at dksX0_laysFrom_0 8 rfl rfl)
theorem dX0_laysFrom_9 : decode cX0_laysFrom 9 = .ok (.invokevirtual 295, 3) := dk_182 1 39 (dk_at dksX0_laysFrom_0 9 rfl rfl)
theorem dX0_laysFrom_12 : decode cX0_laysFrom 12 = .ok (.istore_n 2, 1) := dk_61 (dk_at dksX0_laysFrom_0 12 rfl rfl)
theorem dX0_laysFrom_13 : decode cX0_laysFrom 13 = .ok (.iload_n 2, 1) := dk_28 (dk_at dksX0_laysFrom_0 13 rfl rfl)
theorem dX0_laysFrom_14 : decode cX0_laysFrom 14 = .ok (.aload_n 0, 1) := dk_42 (dk_at dksX0_laysFrom_0 14 rfl rfl)
theorem dX0_laysFrom_15 : decode cX0_laysFrom 15 = .ok (.getfield 298, 3) := dk_180 1 42 (dk_at dksX0_laysFrom_0 15 rfl rfl)
theorem dX0_laysFrom_18 : decode cX0_laysFrom 18 = .ok (.if_icmp .gt 4, 3) := dk_163 0 4 (dk_at dksX0_laysFrom_0 18 rfl rfl)
theorem dX0_laysFrom_21 : decode cX0_laysFrom 21 = .ok (.return_, 1) := dk_177 (dk_at dksX0_laysFrom_0 21 rfl rfl)
theorem dX0_laysFrom_22 : decode cX0_laysFrom 22 = .ok (.aload_n 0, 1) := dk_42 (dk_at dksX0_laysFrom_0 22 rfl rfl)
theorem dX0_laysFrom_23 : decode cX0_laysFrom 23 = .ok (.iload_n 2, 1) := dk_28 (dk_at dksX0_laysFrom_0 23 rfl rfl)
theorem dX0_laysFrom_24 : decode cX0_laysFrom 24 = .ok (.putfield 298, 3) := dk_181 1 42 (dk_at dksX0_laysFrom_1 0 rfl rfl)
theorem dX0_laysFrom_27 : decode cX0_laysFrom 27 = .ok (.iconst 0, 1) := dk_3 (dk_at dksX0_laysFrom_1 3 rfl rfl)
theorem dX0_laysFrom_28 : decode cX0_laysFrom 28 = .ok (.istore_n 3, 1) := dk_62 (dk_at dksX0_laysFrom_1 4 rfl rfl)
theorem dX0_laysFrom_29 : decode cX0_laysFrom 29 = .ok (.iload_n 3, 1) := dk_29 (dk_at dksX0_laysFrom_1 5 rfl rfl)
theorem dX0_laysFrom_30 : decode cX0_laysFrom 30 = .ok (.bipush 6, 2) := dk_16 6 (dk_at dksX0_laysFrom_1 6 rfl rfl)
theorem dX0_laysFrom_32 : decode cX0_laysFrom 32 = .ok (.if_icmp .ge 24, 3) := dk_162 0 24 (dk_at dksX0_laysFrom_1 8 rfl rfl)
theorem dX0_laysFrom_35 : decode cX0_laysFrom 35 = .ok (.aload_n 0, 1) := dk_42 (dk_at dksX0_laysFrom_1 11 rfl rfl)
theorem dX0_laysFrom_36 : decode cX0_laysFrom 36 = .ok (.getfield 82, 3) := dk_180 0 82 (dk_at dksX0_laysFrom_1 12 rfl rfl)
theorem dX0_laysFrom_39 : decode cX0_laysFrom 39 = .ok (.iload_n 3, 1) := dk_29 (dk_at dksX0_laysFrom_1 15 rfl rfl)
theorem dX0_laysFrom_40 : decode cX0_laysFrom 40 = .ok (.aload_n 0, 1) := dk_42 (dk_at dksX0_laysFrom_1 16 rfl rfl)
theorem dX0_laysFrom_41 : decode cX0_laysFrom 41 = .ok (.getfield 55, 3) := dk_180 0 55 (dk_at dksX0_laysFrom_1 17 rfl rfl)
theorem dX0_laysFrom_44 : decode cX0_laysFrom 44 = .ok (.getfield 221, 3) := dk_180 0 221 (dk_at dksX0_laysFrom_1 20 rfl rfl)
theorem dX0_laysFrom_47 : decode cX0_laysFrom 47 = .ok (.iload_n 3, 1) := dk_29 (dk_at dksX0_laysFrom_1 23 rfl rfl)
theorem dX0_laysFrom_48 : decode cX0_laysFrom 48 = .ok (.iaload, 1) := dk_46 (dk_at dksX0_laysFrom_2 0 rfl rfl)
theorem dX0_laysFrom_49 : decode cX0_laysFrom 49 = .ok (.iastore, 1) := dk_79 (dk_at dksX0_laysFrom_2 1 rfl rfl)
theorem dX0_laysFrom_50 : decode cX0_laysFrom 50 = .ok (.iinc 3 1, 3) := dk_132 3 1 (dk_at dksX0_laysFrom_2 2 rfl rfl)
theorem dX0_laysFrom_53 : decode cX0_laysFrom 53 = .ok (.goto (-24), 3) := dk_167 255 232 (dk_at dksX0_laysFrom_2 5 rfl rfl)
theorem dX0_laysFrom_56 : decode cX0_laysFrom 56 = .ok (.return_, 1) := dk_177 (dk_at dksX0_laysFrom_2 8 rfl rfl)
theorem dX0_laysFrom_57 : decode cX0_laysFrom 57 = .ok (.aload_n 0, 1) := dk_42 (dk_at dksX0_laysFrom_2 9 rfl rfl)
theorem dX0_laysFrom_58 : decode cX0_laysFrom 58 = .ok (.getfield 51, 3) := dk_180 0 51 (dk_at dksX0_laysFrom_2 10 rfl rfl)
theorem dX0_laysFrom_61 : decode cX0_laysFrom 61 = .ok (.iload_n 1, 1) := dk_27 (dk_at dksX0_laysFrom_2 13 rfl rfl)
theorem dX0_laysFrom_62 : decode cX0_laysFrom 62 = .ok (.invokevirtual 169, 3) := dk_182 0 169 (dk_at dksX0_laysFrom_2 14 rfl rfl)
theorem dX0_laysFrom_65 : decode cX0_laysFrom 65 = .ok (.ifCond .eq 11, 3) := dk_153 0 11 (dk_at dksX0_laysFrom_2 17 rfl rfl)
theorem dX0_laysFrom_68 : decode cX0_laysFrom 68 = .ok (.aload_n 0, 1) := dk_42 (dk_at dksX0_laysFrom_2 20 rfl rfl)
theorem dX0_laysFrom_69 : decode cX0_laysFrom 69 = .ok (.iload_n 1, 1) := dk_27 (dk_at dksX0_laysFrom_2 21 rfl rfl)
theorem dX0_laysFrom_70 : decode cX0_laysFrom 70 = .ok (.iconst 1, 1) := dk_4 (dk_at dksX0_laysFrom_2 22 rfl rfl)
theorem dX0_laysFrom_71 : decode cX0_laysFrom 71 = .ok (.iadd, 1) := dk_96 (dk_at dksX0_laysFrom_2 23 rfl rfl)
theorem dX0_laysFrom_72 : decode cX0_laysFrom 72 = .ok (.invokevirtual 301, 3) := dk_182 1 45 (dk_at dksX0_laysFrom_3 0 rfl rfl)
theorem dX0_laysFrom_75 : decode cX0_laysFrom 75 = .ok (.return_, 1) := dk_177 (dk_at dksX0_laysFrom_3 3 rfl rfl)
theorem dX0_laysFrom_76 : decode cX0_laysFrom 76 = .ok (.iconst 0, 1) := dk_3 (dk_at dksX0_laysFrom_3 4 rfl rfl)
theorem dX0_laysFrom_77 : decode cX0_laysFrom 77 = .ok (.istore_n 2, 1) := dk_61 (dk_at dksX0_laysFrom_3 5 rfl rfl)
theorem dX0_laysFrom_78 : decode cX0_laysFrom 78 = .ok (.iload_n 2, 1) := dk_28 (dk_at dksX0_laysFrom_3 6 rfl rfl)
theorem dX0_laysFrom_79 : decode cX0_laysFrom 79 = .ok (.aload_n 0, 1) := dk_42 (dk_at dksX0_laysFrom_3 7 rfl rfl)
theorem dX0_laysFrom_80 : decode cX0_laysFrom 80 = .ok (.invokevirtual 154, 3) := dk_182 0 154 (dk_at dksX0_laysFrom_3 8 rfl rfl)
theorem dX0_laysFrom_83 : decode cX0_laysFrom 83 = .ok (.if_icmp .ge 73, 3) := dk_162 0 73 (dk_at dksX0_laysFrom_3 11 rfl rfl)
theorem dX0_laysFrom_86 : decode cX0_laysFrom 86 = .ok (.aload_n 0, 1) := dk_42 (dk_at dksX0_laysFrom_3 14 rfl rfl)
theorem dX0_laysFrom_87 : decode cX0_laysFrom 87 = .ok (.getfield 298, 3) := dk_180 1 42 (dk_at dksX0_laysFrom_3 15 rfl rfl)
theorem dX0_laysFrom_90 : decode cX0_laysFrom 90 = .ok (.aload_n 0, 1) := dk_42 (dk_at dksX0_laysFrom_3 18 rfl rfl)
theorem dX0_laysFrom_91 : decode cX0_laysFrom 91 = .ok (.invokevirtual 160, 3) := dk_182 0 160 (dk_at dksX0_laysFrom_3 19 rfl rfl)
theorem dX0_laysFrom_94 : decode cX0_laysFrom 94 = .ok (.if_icmp .ge 62, 3) := dk_162 0 62 (dk_at dksX0_laysFrom_4 0 rfl rfl)
theorem dX0_laysFrom_97 : decode cX0_laysFrom 97 = .ok (.aload_n 0, 1) := dk_42 (dk_at dksX0_laysFrom_4 3 rfl rfl)
theorem dX0_laysFrom_98 : decode cX0_laysFrom 98 = .ok (.getfield 55, 3) := dk_180 0 55 (dk_at dksX0_laysFrom_4 4 rfl rfl)
theorem dX0_laysFrom_101 : decode cX0_laysFrom 101 = .ok (.getfield 221, 3) := dk_180 0 221 (dk_at dksX0_laysFrom_4 7 rfl rfl)
theorem dX0_laysFrom_104 : decode cX0_laysFrom 104 = .ok (.iload_n 1, 1) := dk_27 (dk_at dksX0_laysFrom_4 10 rfl rfl)
theorem dX0_laysFrom_105 : decode cX0_laysFrom 105 = .ok (.iload_n 2, 1) := dk_28 (dk_at dksX0_laysFrom_4 11 rfl rfl)
theorem dX0_laysFrom_106 : decode cX0_laysFrom 106 = .ok (.iastore, 1) := dk_79 (dk_at dksX0_laysFrom_4 12 rfl rfl)
theorem dX0_laysFrom_107 : decode cX0_laysFrom 107 = .ok (.aload_n 0, 1) := dk_42 (dk_at dksX0_laysFrom_4 13 rfl rfl)
theorem dX0_laysFrom_108 : decode cX0_laysFrom 108 = .ok (.getfield 86, 3) := dk_180 0 86 (dk_at dksX0_laysFrom_4 14 rfl rfl)
theorem dX0_laysFrom_111 : decode cX0_laysFrom 111 = .ok (.iload_n 2, 1) := dk_28 (dk_at dksX0_laysFrom_4 17 rfl rfl)
theorem dX0_laysFrom_112 : decode cX0_laysFrom 112 = .ok (.dup2, 1) := dk_92 (dk_at dksX0_laysFrom_4 18 rfl rfl)
theorem dX0_laysFrom_113 : decode cX0_laysFrom 113 = .ok (.iaload, 1) := dk_46 (dk_at dksX0_laysFrom_4 19 rfl rfl)
theorem dX0_laysFrom_114 : decode cX0_laysFrom 114 = .ok (.aload_n 0, 1) := dk_42 (dk_at dksX0_laysFrom_4 20 rfl rfl)
theorem dX0_laysFrom_115 : decode cX0_laysFrom 115 = .ok (.getfield 55, 3) := dk_180 0 55 (dk_at dksX0_laysFrom_4 21 rfl rfl)
theorem dX0_laysFrom_118 : decode cX0_laysFrom 118 = .ok (.getfield 224, 3) := dk_180 0 224 (dk_at dksX0_laysFrom_5 0 rfl rfl)
theorem dX0_laysFrom_121 : decode cX0_laysFrom 121 = .ok (.iload_n 1, 1) := dk_27 (dk_at dksX0_laysFrom_5 3 rfl rfl)
theorem dX0_laysFrom_122 : decode cX0_laysFrom 122 = .ok (.iaload, 1) := dk_46 (dk_at dksX0_laysFrom_5 4 rfl rfl)
theorem dX0_laysFrom_123 : decode cX0_laysFrom 123 = .ok (.iadd, 1) := dk_96 (dk_at dksX0_laysFrom_5 5 rfl rfl)
theorem dX0_laysFrom_124 : decode cX0_laysFrom 124 = .ok (.iastore, 1) := dk_79 (dk_at dksX0_laysFrom_5 6 rfl rfl)
theorem dX0_laysFrom_125 : decode cX0_laysFrom 125 = .ok (.aload_n 0, 1) := dk_42 (dk_at dksX0_laysFrom_5 7 rfl rfl)
theorem dX0_laysFrom_126 : decode cX0_laysFrom 126 = .ok (.iload_n 1, 1) := dk_27 (dk_at dksX0_laysFrom_5 8 rfl rfl)
theorem dX0_laysFrom_127 : decode cX0_laysFrom 127 = .ok (.iconst 1, 1) := dk_4 (dk_at dksX0_laysFrom_5 9 rfl rfl)
theorem dX0_laysFrom_128 : decode cX0_laysFrom 128 = .ok (.iadd, 1) := dk_96 (dk_at dksX0_laysFrom_5 10 rfl rfl)
theorem dX0_laysFrom_129 : decode cX0_laysFrom 129 = .ok (.invokevirtual 301, 3) := dk_182 1 45 (dk_at dksX0_laysFrom_5 11 rfl rfl)
theorem dX0_laysFrom_132 : decode cX0_laysFrom 132 = .ok (.aload_n 0, 1) := dk_42 (dk_at dksX0_laysFrom_5 14 rfl rfl)
theorem dX0_laysFrom_133 : decode cX0_laysFrom 133 = .ok (.getfield 86, 3) := dk_180 0 86 (dk_at dksX0_laysFrom_5 15 rfl rfl)
theorem dX0_laysFrom_136 : decode cX0_laysFrom 136 = .ok (.iload_n 2, 1) := dk_28 (dk_at dksX0_laysFrom_5 18 rfl rfl)
theorem dX0_laysFrom_137 : decode cX0_laysFrom 137 = .ok (.dup2, 1) := dk_92 (dk_at dksX0_laysFrom_5 19 rfl rfl)
theorem dX0_laysFrom_138 : decode cX0_laysFrom 138 = .ok (.iaload, 1) := dk_46 (dk_at dksX0_laysFrom_5 20 rfl rfl)
theorem dX0_laysFrom_139 : decode cX0_laysFrom 139 = .ok (.aload_n 0, 1) := dk_42 (dk_at dksX0_laysFrom_5 21 rfl rfl)
theorem dX0_laysFrom_140 : decode cX0_laysFrom 140 = .ok (.getfield 55, 3) := dk_180 0 55 (dk_at dksX0_laysFrom_6 0 rfl rfl)
theorem dX0_laysFrom_143 : decode cX0_laysFrom 143 = .ok (.getfield 224, 3) := dk_180 0 224 (dk_at dksX0_laysFrom_6 3 rfl rfl)
theorem dX0_laysFrom_146 : decode cX0_laysFrom 146 = .ok (.iload_n 1, 1) := dk_27 (dk_at dksX0_laysFrom_6 6 rfl rfl)
theorem dX0_laysFrom_147 : decode cX0_laysFrom 147 = .ok (.iaload, 1) := dk_46 (dk_at dksX0_laysFrom_6 7 rfl rfl)
theorem dX0_laysFrom_148 : decode cX0_laysFrom 148 = .ok (.isub, 1) := dk_100 (dk_at dksX0_laysFrom_6 8 rfl rfl)
theorem dX0_laysFrom_149 : decode cX0_laysFrom 149 = .ok (.iastore, 1) := dk_79 (dk_at dksX0_laysFrom_6 9 rfl rfl)
theorem dX0_laysFrom_150 : decode cX0_laysFrom 150 = .ok (.iinc 2 1, 3) := dk_132 2 1 (dk_at dksX0_laysFrom_6 10 rfl rfl)
theorem dX0_laysFrom_153 : decode cX0_laysFrom 153 = .ok (.goto (-75), 3) := dk_167 255 181 (dk_at dksX0_laysFrom_6 13 rfl rfl)
theorem dX0_laysFrom_156 : decode cX0_laysFrom 156 = .ok (.return_, 1) := dk_177 (dk_at dksX0_laysFrom_6 16 rfl rfl)
abbrev cX0_litSoFar : ByteArray := prog_1_method_34_code
def yX0_litSoFar : MethodName := ⟨RX0, "litSoFar", "()I"⟩
def dkwX0_litSoFar_2 : List UInt8 := [180, 0, 207, 46, 96, 163, 0, 7, 4, 167, 0, 4, 3, 96, 60, 132, 2, 1, 167, 255, 196, 27, 172]
abbrev dktX0_litSoFar_2 : List UInt8 := dkwX0_litSoFar_2 ++ []
def dkwX0_litSoFar_1 : List UInt8 := [192, 0, 182, 78, 27, 45, 180, 0, 210, 42, 180, 0, 86, 45, 180, 0, 204, 46, 42, 180, 0, 86, 45]
abbrev dktX0_litSoFar_1 : List UInt8 := dkwX0_litSoFar_1 ++ dktX0_litSoFar_2
def dkwX0_litSoFar_0 : List UInt8 := [3, 60, 3, 61, 28, 42, 182, 0, 160, 162, 0, 58, 42, 180, 0, 40, 180, 0, 145, 28, 182, 0, 178]
abbrev dktX0_litSoFar_0 : List UInt8 := dkwX0_litSoFar_0 ++ dktX0_litSoFar_1
theorem dksX0_litSoFar_0 : cX0_litSoFar.data.toList.drop 0 = dktX0_litSoFar_0 := by decide +kernel
theorem dksX0_litSoFar_1 : cX0_litSoFar.data.toList.drop 23 = dktX0_litSoFar_1 := dk_seg dksX0_litSoFar_0 23 rfl rfl
theorem dksX0_litSoFar_2 : cX0_litSoFar.data.toList.drop 46 = dktX0_litSoFar_2 := dk_seg dksX0_litSoFar_1 23 rfl rfl
theorem dX0_litSoFar_0 : decode cX0_litSoFar 0 = .ok (.iconst 0, 1) := dk_3 (dk_at dksX0_litSoFar_0 0 rfl rfl)
theorem dX0_litSoFar_1 : decode cX0_litSoFar 1 = .ok (.istore_n 1, 1) := dk_60 (dk_at dksX0_litSoFar_0 1 rfl rfl)
theorem dX0_litSoFar_2 : decode cX0_litSoFar 2 = .ok (.iconst 0, 1) := dk_3 (dk_at dksX0_litSoFar_0 2 rfl rfl)
theorem dX0_litSoFar_3 : decode cX0_litSoFar 3 = .ok (.istore_n 2, 1) := dk_61 (dk_at dksX0_litSoFar_0 3 rfl rfl)
theorem dX0_litSoFar_4 : decode cX0_litSoFar 4 = .ok (.iload_n 2, 1) := dk_28 (dk_at dksX0_litSoFar_0 4 rfl rfl)
theorem dX0_litSoFar_5 : decode cX0_litSoFar 5 = .ok (.aload_n 0, 1) := dk_42 (dk_at dksX0_litSoFar_0 5 rfl rfl)
theorem dX0_litSoFar_6 : decode cX0_litSoFar 6 = .ok (.invokevirtual 160, 3) := dk_182 0 160 (dk_at dksX0_litSoFar_0 6 rfl rfl)
theorem dX0_litSoFar_9 : decode cX0_litSoFar 9 = .ok (.if_icmp .ge 58, 3) := dk_162 0 58 (dk_at dksX0_litSoFar_0 9 rfl rfl)
theorem dX0_litSoFar_12 : decode cX0_litSoFar 12 = .ok (.aload_n 0, 1) := dk_42 (dk_at dksX0_litSoFar_0 12 rfl rfl)
theorem dX0_litSoFar_13 : decode cX0_litSoFar 13 = .ok (.getfield 40, 3) := dk_180 0 40 (dk_at dksX0_litSoFar_0 13 rfl rfl)
theorem dX0_litSoFar_16 : decode cX0_litSoFar 16 = .ok (.getfield 145, 3) := dk_180 0 145 (dk_at dksX0_litSoFar_0 16 rfl rfl)
theorem dX0_litSoFar_19 : decode cX0_litSoFar 19 = .ok (.iload_n 2, 1) := dk_28 (dk_at dksX0_litSoFar_0 19 rfl rfl)
theorem dX0_litSoFar_20 : decode cX0_litSoFar 20 = .ok (.invokevirtual 178, 3) := dk_182 0 178 (dk_at dksX0_litSoFar_0 20 rfl rfl)
theorem dX0_litSoFar_23 : decode cX0_litSoFar 23 = .ok (.checkcast 182, 3) := dk_192 0 182 (dk_at dksX0_litSoFar_1 0 rfl rfl)
theorem dX0_litSoFar_26 : decode cX0_litSoFar 26 = .ok (.astore_n 3, 1) := dk_78 (dk_at dksX0_litSoFar_1 3 rfl rfl)
theorem dX0_litSoFar_27 : decode cX0_litSoFar 27 = .ok (.iload_n 1, 1) := dk_27 (dk_at dksX0_litSoFar_1 4 rfl rfl)
theorem dX0_litSoFar_28 : decode cX0_litSoFar 28 = .ok (.aload_n 3, 1) := dk_45 (dk_at dksX0_litSoFar_1 5 rfl rfl)
theorem dX0_litSoFar_29 : decode cX0_litSoFar 29 = .ok (.getfield 210, 3) := dk_180 0 210 (dk_at dksX0_litSoFar_1 6 rfl rfl)
theorem dX0_litSoFar_32 : decode cX0_litSoFar 32 = .ok (.aload_n 0, 1) := dk_42 (dk_at dksX0_litSoFar_1 9 rfl rfl)
theorem dX0_litSoFar_33 : decode cX0_litSoFar 33 = .ok (.getfield 86, 3) := dk_180 0 86 (dk_at dksX0_litSoFar_1 10 rfl rfl)
theorem dX0_litSoFar_36 : decode cX0_litSoFar 36 = .ok (.aload_n 3, 1) := dk_45 (dk_at dksX0_litSoFar_1 13 rfl rfl)
theorem dX0_litSoFar_37 : decode cX0_litSoFar 37 = .ok (.getfield 204, 3) := dk_180 0 204 (dk_at dksX0_litSoFar_1 14 rfl rfl)
theorem dX0_litSoFar_40 : decode cX0_litSoFar 40 = .ok (.iaload, 1) := dk_46 (dk_at dksX0_litSoFar_1 17 rfl rfl)
theorem dX0_litSoFar_41 : decode cX0_litSoFar 41 = .ok (.aload_n 0, 1) := dk_42 (dk_at dksX0_litSoFar_1 18 rfl rfl)
theorem dX0_litSoFar_42 : decode cX0_litSoFar 42 = .ok (.getfield 86, 3) := dk_180 0 86 (dk_at dksX0_litSoFar_1 19 rfl rfl)
theorem dX0_litSoFar_45 : decode cX0_litSoFar 45 = .ok (.aload_n 3, 1) := dk_45 (dk_at dksX0_litSoFar_1 22 rfl rfl)
theorem dX0_litSoFar_46 : decode cX0_litSoFar 46 = .ok (.getfield 207, 3) := dk_180 0 207 (dk_at dksX0_litSoFar_2 0 rfl rfl)
theorem dX0_litSoFar_49 : decode cX0_litSoFar 49 = .ok (.iaload, 1) := dk_46 (dk_at dksX0_litSoFar_2 3 rfl rfl)
theorem dX0_litSoFar_50 : decode cX0_litSoFar 50 = .ok (.iadd, 1) := dk_96 (dk_at dksX0_litSoFar_2 4 rfl rfl)
theorem dX0_litSoFar_51 : decode cX0_litSoFar 51 = .ok (.if_icmp .gt 7, 3) := dk_163 0 7 (dk_at dksX0_litSoFar_2 5 rfl rfl)
theorem dX0_litSoFar_54 : decode cX0_litSoFar 54 = .ok (.iconst 1, 1) := dk_4 (dk_at dksX0_litSoFar_2 8 rfl rfl)
theorem dX0_litSoFar_55 : decode cX0_litSoFar 55 = .ok (.goto 4, 3) := dk_167 0 4 (dk_at dksX0_litSoFar_2 9 rfl rfl)
theorem dX0_litSoFar_58 : decode cX0_litSoFar 58 = .ok (.iconst 0, 1) := dk_3 (dk_at dksX0_litSoFar_2 12 rfl rfl)
theorem dX0_litSoFar_59 : decode cX0_litSoFar 59 = .ok (.iadd, 1) := dk_96 (dk_at dksX0_litSoFar_2 13 rfl rfl)
theorem dX0_litSoFar_60 : decode cX0_litSoFar 60 = .ok (.istore_n 1, 1) := dk_60 (dk_at dksX0_litSoFar_2 14 rfl rfl)
theorem dX0_litSoFar_61 : decode cX0_litSoFar 61 = .ok (.iinc 2 1, 3) := dk_132 2 1 (dk_at dksX0_litSoFar_2 15 rfl rfl)
theorem dX0_litSoFar_64 : decode cX0_litSoFar 64 = .ok (.goto (-60), 3) := dk_167 255 196 (dk_at dksX0_litSoFar_2 18 rfl rfl)
theorem dX0_litSoFar_67 : decode cX0_litSoFar 67 = .ok (.iload_n 1, 1) := dk_27 (dk_at dksX0_litSoFar_2 21 rfl rfl)
theorem dX0_litSoFar_68 : decode cX0_litSoFar 68 = .ok (.ireturn, 1) := dk_172 (dk_at dksX0_litSoFar_2 22 rfl rfl)
abbrev cX0_telling : ByteArray := prog_1_method_37_code
def yX0_telling : MethodName := ⟨RX0, "telling", "(II)I"⟩
def dkwX0_telling_5 : List UInt8 := [154, 0, 7, 29, 167, 0, 5, 21, 4, 172]
abbrev dktX0_telling_5 : List UInt8 := dkwX0_telling_5 ++ []
def dkwX0_telling_4 : List UInt8 := [62, 42, 180, 0, 55, 180, 0, 224, 27, 46, 54, 4, 132, 5, 1, 167, 255, 177, 29, 155, 0, 7, 28]
abbrev dktX0_telling_4 : List UInt8 := dkwX0_telling_4 ++ dktX0_telling_5
def dkwX0_telling_3 : List UInt8 := [21, 5, 182, 1, 25, 42, 180, 0, 55, 180, 0, 224, 27, 46, 21, 4, 163, 0, 6, 167, 0, 17, 21, 5]
abbrev dktX0_telling_3 : List UInt8 := dkwX0_telling_3 ++ dktX0_telling_4
def dkwX0_telling_2 : List UInt8 := [154, 0, 65, 42, 180, 0, 55, 42, 180, 0, 51, 182, 1, 6, 42, 180, 0, 55, 42, 180, 0, 40, 27]
abbrev dktX0_telling_2 : List UInt8 := dkwX0_telling_2 ++ dktX0_telling_3
def dkwX0_telling_1 : List UInt8 := [54, 4, 3, 54, 5, 21, 5, 42, 182, 0, 172, 162, 0, 76, 42, 180, 0, 51, 27, 182, 0, 169]
abbrev dktX0_telling_1 : List UInt8 := dkwX0_telling_1 ++ dktX0_telling_2
def dkwX0_telling_0 : List UInt8 := [42, 27, 182, 0, 165, 153, 0, 12, 28, 3, 4, 184, 0, 156, 154, 0, 5, 2, 172, 16, 254, 62, 2]
abbrev dktX0_telling_0 : List UInt8 := dkwX0_telling_0 ++ dktX0_telling_1
theorem dksX0_telling_0 : cX0_telling.data.toList.drop 0 = dktX0_telling_0 := by decide +kernel
theorem dksX0_telling_1 : cX0_telling.data.toList.drop 23 = dktX0_telling_1 := dk_seg dksX0_telling_0 23 rfl rfl
theorem dksX0_telling_2 : cX0_telling.data.toList.drop 45 = dktX0_telling_2 := dk_seg dksX0_telling_1 22 rfl rfl
theorem dksX0_telling_3 : cX0_telling.data.toList.drop 68 = dktX0_telling_3 := dk_seg dksX0_telling_2 23 rfl rfl
theorem dksX0_telling_4 : cX0_telling.data.toList.drop 92 = dktX0_telling_4 := dk_seg dksX0_telling_3 24 rfl rfl
theorem dksX0_telling_5 : cX0_telling.data.toList.drop 115 = dktX0_telling_5 := dk_seg dksX0_telling_4 23 rfl rfl
theorem dX0_telling_0 : decode cX0_telling 0 = .ok (.aload_n 0, 1) := dk_42 (dk_at dksX0_telling_0 0 rfl rfl)
theorem dX0_telling_1 : decode cX0_telling 1 = .ok (.iload_n 1, 1) := dk_27 (dk_at dksX0_telling_0 1 rfl rfl)
theorem dX0_telling_2 : decode cX0_telling 2 = .ok (.invokevirtual 165, 3) := dk_182 0 165 (dk_at dksX0_telling_0 2 rfl rfl)
theorem dX0_telling_5 : decode cX0_telling 5 = .ok (.ifCond .eq 12, 3) := dk_153 0 12 (dk_at dksX0_telling_0 5 rfl rfl)
theorem dX0_telling_8 : decode cX0_telling 8 = .ok (.iload_n 2, 1) := dk_28 (dk_at dksX0_telling_0 8 rfl rfl)
theorem dX0_telling_9 : decode cX0_telling 9 = .ok (.iconst 0, 1) := dk_3 (dk_at dksX0_telling_0 9 rfl rfl)
theorem dX0_telling_10 : decode cX0_telling 10 = .ok (.iconst 1, 1) := dk_4 (dk_at dksX0_telling_0 10 rfl rfl)
theorem dX0_telling_11 : decode cX0_telling 11 = .ok (.invokestatic 156, 3) := dk_184 0 156 (dk_at dksX0_telling_0 11 rfl rfl)
theorem dX0_telling_14 : decode cX0_telling 14 = .ok (.ifCond .ne 5, 3) := dk_154 0 5 (dk_at dksX0_telling_0 14 rfl rfl)
theorem dX0_telling_17 : decode cX0_telling 17 = .ok (.iconst (-1), 1) := dk_2 (dk_at dksX0_telling_0 17 rfl rfl)
theorem dX0_telling_18 : decode cX0_telling 18 = .ok (.ireturn, 1) := dk_172 (dk_at dksX0_telling_0 18 rfl rfl)
theorem dX0_telling_19 : decode cX0_telling 19 = .ok (.bipush (-2), 2) := dk_16 254 (dk_at dksX0_telling_0 19 rfl rfl)
theorem dX0_telling_21 : decode cX0_telling 21 = .ok (.istore_n 3, 1) := dk_62 (dk_at dksX0_telling_0 21 rfl rfl)
theorem dX0_telling_22 : decode cX0_telling 22 = .ok (.iconst (-1), 1) := dk_2 (dk_at dksX0_telling_0 22 rfl rfl)
theorem dX0_telling_23 : decode cX0_telling 23 = .ok (.istore 4, 2) := dk_54 4 (dk_at dksX0_telling_1 0 rfl rfl)
theorem dX0_telling_25 : decode cX0_telling 25 = .ok (.iconst 0, 1) := dk_3 (dk_at dksX0_telling_1 2 rfl rfl)
theorem dX0_telling_26 : decode cX0_telling 26 = .ok (.istore 5, 2) := dk_54 5 (dk_at dksX0_telling_1 3 rfl rfl)
theorem dX0_telling_28 : decode cX0_telling 28 = .ok (.iload 5, 2) := dk_21 5 (dk_at dksX0_telling_1 5 rfl rfl)
theorem dX0_telling_30 : decode cX0_telling 30 = .ok (.aload_n 0, 1) := dk_42 (dk_at dksX0_telling_1 7 rfl rfl)
theorem dX0_telling_31 : decode cX0_telling 31 = .ok (.invokevirtual 172, 3) := dk_182 0 172 (dk_at dksX0_telling_1 8 rfl rfl)
theorem dX0_telling_34 : decode cX0_telling 34 = .ok (.if_icmp .ge 76, 3) := dk_162 0 76 (dk_at dksX0_telling_1 11 rfl rfl)
theorem dX0_telling_37 : decode cX0_telling 37 = .ok (.aload_n 0, 1) := dk_42 (dk_at dksX0_telling_1 14 rfl rfl)
theorem dX0_telling_38 : decode cX0_telling 38 = .ok (.getfield 51, 3) := dk_180 0 51 (dk_at dksX0_telling_1 15 rfl rfl)
theorem dX0_telling_41 : decode cX0_telling 41 = .ok (.iload_n 1, 1) := dk_27 (dk_at dksX0_telling_1 18 rfl rfl)
theorem dX0_telling_42 : decode cX0_telling 42 = .ok (.invokevirtual 169, 3) := dk_182 0 169 (dk_at dksX0_telling_1 19 rfl rfl)
theorem dX0_telling_45 : decode cX0_telling 45 = .ok (.ifCond .ne 65, 3) := dk_154 0 65 (dk_at dksX0_telling_2 0 rfl rfl)
theorem dX0_telling_48 : decode cX0_telling 48 = .ok (.aload_n 0, 1) := dk_42 (dk_at dksX0_telling_2 3 rfl rfl)
theorem dX0_telling_49 : decode cX0_telling 49 = .ok (.getfield 55, 3) := dk_180 0 55 (dk_at dksX0_telling_2 4 rfl rfl)
theorem dX0_telling_52 : decode cX0_telling 52 = .ok (.aload_n 0, 1) := dk_42 (dk_at dksX0_telling_2 7 rfl rfl)
theorem dX0_telling_53 : decode cX0_telling 53 = .ok (.getfield 51, 3) := dk_180 0 51 (dk_at dksX0_telling_2 8 rfl rfl)
theorem dX0_telling_56 : decode cX0_telling 56 = .ok (.invokevirtual 262, 3) := dk_182 1 6 (dk_at dksX0_telling_2 11 rfl rfl)
theorem dX0_telling_59 : decode cX0_telling 59 = .ok (.aload_n 0, 1) := dk_42 (dk_at dksX0_telling_2 14 rfl rfl)
theorem dX0_telling_60 : decode cX0_telling 60 = .ok (.getfield 55, 3) := dk_180 0 55 (dk_at dksX0_telling_2 15 rfl rfl)
theorem dX0_telling_63 : decode cX0_telling 63 = .ok (.aload_n 0, 1) := dk_42 (dk_at dksX0_telling_2 18 rfl rfl)
theorem dX0_telling_64 : decode cX0_telling 64 = .ok (.getfield 40, 3) := dk_180 0 40 (dk_at dksX0_telling_2 19 rfl rfl)
theorem dX0_telling_67 : decode cX0_telling 67 = .ok (.iload_n 1, 1) := dk_27 (dk_at dksX0_telling_2 22 rfl rfl)
theorem dX0_telling_68 : decode cX0_telling 68 = .ok (.iload 5, 2) := dk_21 5 (dk_at dksX0_telling_3 0 rfl rfl)
theorem dX0_telling_70 : decode cX0_telling 70 = .ok (.invokevirtual 281, 3) := dk_182 1 25 (dk_at dksX0_telling_3 2 rfl rfl)
theorem dX0_telling_73 : decode cX0_telling 73 = .ok (.aload_n 0, 1) := dk_42 (dk_at dksX0_telling_3 5 rfl rfl)
theorem dX0_telling_74 : decode cX0_telling 74 = .ok (.getfield 55, 3) := dk_180 0 55 (dk_at dksX0_telling_3 6 rfl rfl)
theorem dX0_telling_77 : decode cX0_telling 77 = .ok (.getfield 224, 3) := dk_180 0 224 (dk_at dksX0_telling_3 9 rfl rfl)
theorem dX0_telling_80 : decode cX0_telling 80 = .ok (.iload_n 1, 1) := dk_27 (dk_at dksX0_telling_3 12 rfl rfl)
theorem dX0_telling_81 : decode cX0_telling 81 = .ok (.iaload, 1) := dk_46 (dk_at dksX0_telling_3 13 rfl rfl)
theorem dX0_telling_82 : decode cX0_telling 82 = .ok (.iload 4, 2) := dk_21 4 (dk_at dksX0_telling_3 14 rfl rfl)
theorem dX0_telling_84 : decode cX0_telling 84 = .ok (.if_icmp .gt 6, 3) := dk_163 0 6 (dk_at dksX0_telling_3 16 rfl rfl)
theorem dX0_telling_87 : decode cX0_telling 87 = .ok (.goto 17, 3) := dk_167 0 17 (dk_at dksX0_telling_3 19 rfl rfl)
theorem dX0_telling_90 : decode cX0_telling 90 = .ok (.iload 5, 2) := dk_21 5 (dk_at dksX0_telling_3 22 rfl rfl)
theorem dX0_telling_92 : decode cX0_telling 92 = .ok (.istore_n 3, 1) := dk_62 (dk_at dksX0_telling_4 0 rfl rfl)
theorem dX0_telling_93 : decode cX0_telling 93 = .ok (.aload_n 0, 1) := dk_42 (dk_at dksX0_telling_4 1 rfl rfl)
theorem dX0_telling_94 : decode cX0_telling 94 = .ok (.getfield 55, 3) := dk_180 0 55 (dk_at dksX0_telling_4 2 rfl rfl)
theorem dX0_telling_97 : decode cX0_telling 97 = .ok (.getfield 224, 3) := dk_180 0 224 (dk_at dksX0_telling_4 5 rfl rfl)
theorem dX0_telling_100 : decode cX0_telling 100 = .ok (.iload_n 1, 1) := dk_27 (dk_at dksX0_telling_4 8 rfl rfl)
theorem dX0_telling_101 : decode cX0_telling 101 = .ok (.iaload, 1) := dk_46 (dk_at dksX0_telling_4 9 rfl rfl)
theorem dX0_telling_102 : decode cX0_telling 102 = .ok (.istore 4, 2) := dk_54 4 (dk_at dksX0_telling_4 10 rfl rfl)
theorem dX0_telling_104 : decode cX0_telling 104 = .ok (.iinc 5 1, 3) := dk_132 5 1 (dk_at dksX0_telling_4 12 rfl rfl)
theorem dX0_telling_107 : decode cX0_telling 107 = .ok (.goto (-79), 3) := dk_167 255 177 (dk_at dksX0_telling_4 15 rfl rfl)
theorem dX0_telling_110 : decode cX0_telling 110 = .ok (.iload_n 3, 1) := dk_29 (dk_at dksX0_telling_4 18 rfl rfl)
theorem dX0_telling_111 : decode cX0_telling 111 = .ok (.ifCond .lt 7, 3) := dk_155 0 7 (dk_at dksX0_telling_4 19 rfl rfl)
theorem dX0_telling_114 : decode cX0_telling 114 = .ok (.iload_n 2, 1) := dk_28 (dk_at dksX0_telling_4 22 rfl rfl)
theorem dX0_telling_115 : decode cX0_telling 115 = .ok (.ifCond .ne 7, 3) := dk_154 0 7 (dk_at dksX0_telling_5 0 rfl rfl)
theorem dX0_telling_118 : decode cX0_telling 118 = .ok (.iload_n 3, 1) := dk_29 (dk_at dksX0_telling_5 3 rfl rfl)
theorem dX0_telling_119 : decode cX0_telling 119 = .ok (.goto 5, 3) := dk_167 0 5 (dk_at dksX0_telling_5 4 rfl rfl)
theorem dX0_telling_122 : decode cX0_telling 122 = .ok (.iload 4, 2) := dk_21 4 (dk_at dksX0_telling_5 7 rfl rfl)
theorem dX0_telling_124 : decode cX0_telling 124 = .ok (.ireturn, 1) := dk_172 (dk_at dksX0_telling_5 9 rfl rfl)
abbrev cX0_keep : ByteArray := prog_1_method_38_code
def yX0_keep : MethodName := ⟨RX0, "keep", "()I"⟩
def dkwX0_keep_4 : List UInt8 := [167, 0, 9, 21, 4, 61, 21, 5, 62, 132, 4, 1, 167, 255, 202, 28, 172]
abbrev dktX0_keep_4 : List UInt8 := dkwX0_keep_4 ++ []
def dkwX0_keep_3 : List UInt8 := [180, 0, 51, 42, 180, 0, 40, 27, 21, 4, 182, 1, 0, 100, 54, 5, 21, 5, 29, 163, 0, 6]
abbrev dktX0_keep_3 : List UInt8 := dkwX0_keep_3 ++ dktX0_keep_4
def dkwX0_keep_2 : List UInt8 := [54, 4, 21, 4, 42, 182, 0, 172, 162, 0, 51, 42, 180, 0, 51, 180, 0, 246, 21, 4, 46, 42]
abbrev dktX0_keep_2 : List UInt8 := dkwX0_keep_2 ++ dktX0_keep_3
def dkwX0_keep_1 : List UInt8 := [182, 0, 169, 153, 0, 9, 132, 1, 1, 167, 255, 234, 27, 42, 182, 0, 162, 160, 0, 6, 16, 254, 172, 3]
abbrev dktX0_keep_1 : List UInt8 := dkwX0_keep_1 ++ dktX0_keep_2
def dkwX0_keep_0 : List UInt8 := [3, 60, 16, 254, 61, 19, 1, 48, 62, 27, 42, 182, 0, 162, 162, 0, 20, 42, 180, 0, 51, 27]
abbrev dktX0_keep_0 : List UInt8 := dkwX0_keep_0 ++ dktX0_keep_1
theorem dksX0_keep_0 : cX0_keep.data.toList.drop 0 = dktX0_keep_0 := by decide +kernel
theorem dksX0_keep_1 : cX0_keep.data.toList.drop 22 = dktX0_keep_1 := dk_seg dksX0_keep_0 22 rfl rfl
theorem dksX0_keep_2 : cX0_keep.data.toList.drop 46 = dktX0_keep_2 := dk_seg dksX0_keep_1 24 rfl rfl
theorem dksX0_keep_3 : cX0_keep.data.toList.drop 68 = dktX0_keep_3 := dk_seg dksX0_keep_2 22 rfl rfl
theorem dksX0_keep_4 : cX0_keep.data.toList.drop 90 = dktX0_keep_4 := dk_seg dksX0_keep_3 22 rfl rfl
theorem dX0_keep_0 : decode cX0_keep 0 = .ok (.iconst 0, 1) := dk_3 (dk_at dksX0_keep_0 0 rfl rfl)
theorem dX0_keep_1 : decode cX0_keep 1 = .ok (.istore_n 1, 1) := dk_60 (dk_at dksX0_keep_0 1 rfl rfl)
theorem dX0_keep_2 : decode cX0_keep 2 = .ok (.bipush (-2), 2) := dk_16 254 (dk_at dksX0_keep_0 2 rfl rfl)
theorem dX0_keep_4 : decode cX0_keep 4 = .ok (.istore_n 2, 1) := dk_61 (dk_at dksX0_keep_0 4 rfl rfl)
theorem dX0_keep_5 : decode cX0_keep 5 = .ok (.ldc_w 304, 3) := dk_19 1 48 (dk_at dksX0_keep_0 5 rfl rfl)
theorem dX0_keep_8 : decode cX0_keep 8 = .ok (.istore_n 3, 1) := dk_62 (dk_at dksX0_keep_0 8 rfl rfl)
theorem dX0_keep_9 : decode cX0_keep 9 = .ok (.iload_n 1, 1) := dk_27 (dk_at dksX0_keep_0 9 rfl rfl)
theorem dX0_keep_10 : decode cX0_keep 10 = .ok (.aload_n 0, 1) := dk_42 (dk_at dksX0_keep_0 10 rfl rfl)
theorem dX0_keep_11 : decode cX0_keep 11 = .ok (.invokevirtual 162, 3) := dk_182 0 162 (dk_at dksX0_keep_0 11 rfl rfl)
theorem dX0_keep_14 : decode cX0_keep 14 = .ok (.if_icmp .ge 20, 3) := dk_162 0 20 (dk_at dksX0_keep_0 14 rfl rfl)
theorem dX0_keep_17 : decode cX0_keep 17 = .ok (.aload_n 0, 1) := dk_42 (dk_at dksX0_keep_0 17 rfl rfl)
theorem dX0_keep_18 : decode cX0_keep 18 = .ok (.getfield 51, 3) := dk_180 0 51 (dk_at dksX0_keep_0 18 rfl rfl)
theorem dX0_keep_21 : decode cX0_keep 21 = .ok (.iload_n 1, 1) := dk_27 (dk_at dksX0_keep_0 21 rfl rfl)
theorem dX0_keep_22 : decode cX0_keep 22 = .ok (.invokevirtual 169, 3) := dk_182 0 169 (dk_at dksX0_keep_1 0 rfl rfl)
theorem dX0_keep_25 : decode cX0_keep 25 = .ok (.ifCond .eq 9, 3) := dk_153 0 9 (dk_at dksX0_keep_1 3 rfl rfl)
theorem dX0_keep_28 : decode cX0_keep 28 = .ok (.iinc 1 1, 3) := dk_132 1 1 (dk_at dksX0_keep_1 6 rfl rfl)
theorem dX0_keep_31 : decode cX0_keep 31 = .ok (.goto (-22), 3) := dk_167 255 234 (dk_at dksX0_keep_1 9 rfl rfl)
theorem dX0_keep_34 : decode cX0_keep 34 = .ok (.iload_n 1, 1) := dk_27 (dk_at dksX0_keep_1 12 rfl rfl)
theorem dX0_keep_35 : decode cX0_keep 35 = .ok (.aload_n 0, 1) := dk_42 (dk_at dksX0_keep_1 13 rfl rfl)
theorem dX0_keep_36 : decode cX0_keep 36 = .ok (.invokevirtual 162, 3) := dk_182 0 162 (dk_at dksX0_keep_1 14 rfl rfl)
theorem dX0_keep_39 : decode cX0_keep 39 = .ok (.if_icmp .ne 6, 3) := dk_160 0 6 (dk_at dksX0_keep_1 17 rfl rfl)
theorem dX0_keep_42 : decode cX0_keep 42 = .ok (.bipush (-2), 2) := dk_16 254 (dk_at dksX0_keep_1 20 rfl rfl)
theorem dX0_keep_44 : decode cX0_keep 44 = .ok (.ireturn, 1) := dk_172 (dk_at dksX0_keep_1 22 rfl rfl)
theorem dX0_keep_45 : decode cX0_keep 45 = .ok (.iconst 0, 1) := dk_3 (dk_at dksX0_keep_1 23 rfl rfl)
theorem dX0_keep_46 : decode cX0_keep 46 = .ok (.istore 4, 2) := dk_54 4 (dk_at dksX0_keep_2 0 rfl rfl)
theorem dX0_keep_48 : decode cX0_keep 48 = .ok (.iload 4, 2) := dk_21 4 (dk_at dksX0_keep_2 2 rfl rfl)
theorem dX0_keep_50 : decode cX0_keep 50 = .ok (.aload_n 0, 1) := dk_42 (dk_at dksX0_keep_2 4 rfl rfl)
theorem dX0_keep_51 : decode cX0_keep 51 = .ok (.invokevirtual 172, 3) := dk_182 0 172 (dk_at dksX0_keep_2 5 rfl rfl)
theorem dX0_keep_54 : decode cX0_keep 54 = .ok (.if_icmp .ge 51, 3) := dk_162 0 51 (dk_at dksX0_keep_2 8 rfl rfl)
theorem dX0_keep_57 : decode cX0_keep 57 = .ok (.aload_n 0, 1) := dk_42 (dk_at dksX0_keep_2 11 rfl rfl)
theorem dX0_keep_58 : decode cX0_keep 58 = .ok (.getfield 51, 3) := dk_180 0 51 (dk_at dksX0_keep_2 12 rfl rfl)
theorem dX0_keep_61 : decode cX0_keep 61 = .ok (.getfield 246, 3) := dk_180 0 246 (dk_at dksX0_keep_2 15 rfl rfl)
theorem dX0_keep_64 : decode cX0_keep 64 = .ok (.iload 4, 2) := dk_21 4 (dk_at dksX0_keep_2 18 rfl rfl)
theorem dX0_keep_66 : decode cX0_keep 66 = .ok (.iaload, 1) := dk_46 (dk_at dksX0_keep_2 20 rfl rfl)
theorem dX0_keep_67 : decode cX0_keep 67 = .ok (.aload_n 0, 1) := dk_42 (dk_at dksX0_keep_2 21 rfl rfl)
theorem dX0_keep_68 : decode cX0_keep 68 = .ok (.getfield 51, 3) := dk_180 0 51 (dk_at dksX0_keep_3 0 rfl rfl)
theorem dX0_keep_71 : decode cX0_keep 71 = .ok (.aload_n 0, 1) := dk_42 (dk_at dksX0_keep_3 3 rfl rfl)
theorem dX0_keep_72 : decode cX0_keep 72 = .ok (.getfield 40, 3) := dk_180 0 40 (dk_at dksX0_keep_3 4 rfl rfl)
theorem dX0_keep_75 : decode cX0_keep 75 = .ok (.iload_n 1, 1) := dk_27 (dk_at dksX0_keep_3 7 rfl rfl)
theorem dX0_keep_76 : decode cX0_keep 76 = .ok (.iload 4, 2) := dk_21 4 (dk_at dksX0_keep_3 8 rfl rfl)
theorem dX0_keep_78 : decode cX0_keep 78 = .ok (.invokevirtual 256, 3) := dk_182 1 0 (dk_at dksX0_keep_3 10 rfl rfl)
theorem dX0_keep_81 : decode cX0_keep 81 = .ok (.isub, 1) := dk_100 (dk_at dksX0_keep_3 13 rfl rfl)
theorem dX0_keep_82 : decode cX0_keep 82 = .ok (.istore 5, 2) := dk_54 5 (dk_at dksX0_keep_3 14 rfl rfl)
theorem dX0_keep_84 : decode cX0_keep 84 = .ok (.iload 5, 2) := dk_21 5 (dk_at dksX0_keep_3 16 rfl rfl)
theorem dX0_keep_86 : decode cX0_keep 86 = .ok (.iload_n 3, 1) := dk_29 (dk_at dksX0_keep_3 18 rfl rfl)
theorem dX0_keep_87 : decode cX0_keep 87 = .ok (.if_icmp .gt 6, 3) := dk_163 0 6 (dk_at dksX0_keep_3 19 rfl rfl)
theorem dX0_keep_90 : decode cX0_keep 90 = .ok (.goto 9, 3) := dk_167 0 9 (dk_at dksX0_keep_4 0 rfl rfl)
theorem dX0_keep_93 : decode cX0_keep 93 = .ok (.iload 4, 2) := dk_21 4 (dk_at dksX0_keep_4 3 rfl rfl)
theorem dX0_keep_95 : decode cX0_keep 95 = .ok (.istore_n 2, 1) := dk_61 (dk_at dksX0_keep_4 5 rfl rfl)
theorem dX0_keep_96 : decode cX0_keep 96 = .ok (.iload 5, 2) := dk_21 5 (dk_at dksX0_keep_4 6 rfl rfl)
theorem dX0_keep_98 : decode cX0_keep 98 = .ok (.istore_n 3, 1) := dk_62 (dk_at dksX0_keep_4 8 rfl rfl)
theorem dX0_keep_99 : decode cX0_keep 99 = .ok (.iinc 4 1, 3) := dk_132 4 1 (dk_at dksX0_keep_4 9 rfl rfl)
theorem dX0_keep_102 : decode cX0_keep 102 = .ok (.goto (-54), 3) := dk_167 255 202 (dk_at dksX0_keep_4 12 rfl rfl)
theorem dX0_keep_105 : decode cX0_keep 105 = .ok (.iload_n 2, 1) := dk_28 (dk_at dksX0_keep_4 15 rfl rfl)
theorem dX0_keep_106 : decode cX0_keep 106 = .ok (.ireturn, 1) := dk_172 (dk_at dksX0_keep_4 16 rfl rfl)
abbrev cX0_brightest : ByteArray := prog_1_method_39_code
def yX0_brightest : MethodName := ⟨RX0, "brightest", "(I)I"⟩
def dkwX0_brightest_3 : List UInt8 := [182, 0, 188, 172]
abbrev dktX0_brightest_3 : List UInt8 := dkwX0_brightest_3 ++ []
def dkwX0_brightest_2 : List UInt8 := [61, 132, 3, 1, 167, 255, 220, 28, 155, 0, 7, 27, 154, 0, 7, 28, 167, 0, 11, 42, 180, 0, 51, 28]
abbrev dktX0_brightest_2 : List UInt8 := dkwX0_brightest_2 ++ dktX0_brightest_3
def dkwX0_brightest_1 : List UInt8 := [28, 155, 0, 22, 42, 180, 0, 51, 29, 182, 0, 188, 42, 180, 0, 51, 28, 182, 0, 188, 164, 0, 5, 29]
abbrev dktX0_brightest_1 : List UInt8 := dkwX0_brightest_1 ++ dktX0_brightest_2
def dkwX0_brightest_0 : List UInt8 := [27, 3, 4, 184, 0, 156, 154, 0, 5, 2, 172, 16, 254, 61, 3, 62, 29, 42, 182, 0, 154, 162, 0, 34]
abbrev dktX0_brightest_0 : List UInt8 := dkwX0_brightest_0 ++ dktX0_brightest_1
theorem dksX0_brightest_0 : cX0_brightest.data.toList.drop 0 = dktX0_brightest_0 := by decide +kernel
theorem dksX0_brightest_1 : cX0_brightest.data.toList.drop 24 = dktX0_brightest_1 := dk_seg dksX0_brightest_0 24 rfl rfl
theorem dksX0_brightest_2 : cX0_brightest.data.toList.drop 48 = dktX0_brightest_2 := dk_seg dksX0_brightest_1 24 rfl rfl
theorem dksX0_brightest_3 : cX0_brightest.data.toList.drop 72 = dktX0_brightest_3 := dk_seg dksX0_brightest_2 24 rfl rfl
theorem dX0_brightest_0 : decode cX0_brightest 0 = .ok (.iload_n 1, 1) := dk_27 (dk_at dksX0_brightest_0 0 rfl rfl)
theorem dX0_brightest_1 : decode cX0_brightest 1 = .ok (.iconst 0, 1) := dk_3 (dk_at dksX0_brightest_0 1 rfl rfl)
theorem dX0_brightest_2 : decode cX0_brightest 2 = .ok (.iconst 1, 1) := dk_4 (dk_at dksX0_brightest_0 2 rfl rfl)
theorem dX0_brightest_3 : decode cX0_brightest 3 = .ok (.invokestatic 156, 3) := dk_184 0 156 (dk_at dksX0_brightest_0 3 rfl rfl)
theorem dX0_brightest_6 : decode cX0_brightest 6 = .ok (.ifCond .ne 5, 3) := dk_154 0 5 (dk_at dksX0_brightest_0 6 rfl rfl)
theorem dX0_brightest_9 : decode cX0_brightest 9 = .ok (.iconst (-1), 1) := dk_2 (dk_at dksX0_brightest_0 9 rfl rfl)
theorem dX0_brightest_10 : decode cX0_brightest 10 = .ok (.ireturn, 1) := dk_172 (dk_at dksX0_brightest_0 10 rfl rfl)
theorem dX0_brightest_11 : decode cX0_brightest 11 = .ok (.bipush (-2), 2) := dk_16 254 (dk_at dksX0_brightest_0 11 rfl rfl)
theorem dX0_brightest_13 : decode cX0_brightest 13 = .ok (.istore_n 2, 1) := dk_61 (dk_at dksX0_brightest_0 13 rfl rfl)
theorem dX0_brightest_14 : decode cX0_brightest 14 = .ok (.iconst 0, 1) := dk_3 (dk_at dksX0_brightest_0 14 rfl rfl)
theorem dX0_brightest_15 : decode cX0_brightest 15 = .ok (.istore_n 3, 1) := dk_62 (dk_at dksX0_brightest_0 15 rfl rfl)
theorem dX0_brightest_16 : decode cX0_brightest 16 = .ok (.iload_n 3, 1) := dk_29 (dk_at dksX0_brightest_0 16 rfl rfl)
theorem dX0_brightest_17 : decode cX0_brightest 17 = .ok (.aload_n 0, 1) := dk_42 (dk_at dksX0_brightest_0 17 rfl rfl)
theorem dX0_brightest_18 : decode cX0_brightest 18 = .ok (.invokevirtual 154, 3) := dk_182 0 154 (dk_at dksX0_brightest_0 18 rfl rfl)
theorem dX0_brightest_21 : decode cX0_brightest 21 = .ok (.if_icmp .ge 34, 3) := dk_162 0 34 (dk_at dksX0_brightest_0 21 rfl rfl)
theorem dX0_brightest_24 : decode cX0_brightest 24 = .ok (.iload_n 2, 1) := dk_28 (dk_at dksX0_brightest_1 0 rfl rfl)
theorem dX0_brightest_25 : decode cX0_brightest 25 = .ok (.ifCond .lt 22, 3) := dk_155 0 22 (dk_at dksX0_brightest_1 1 rfl rfl)
theorem dX0_brightest_28 : decode cX0_brightest 28 = .ok (.aload_n 0, 1) := dk_42 (dk_at dksX0_brightest_1 4 rfl rfl)
theorem dX0_brightest_29 : decode cX0_brightest 29 = .ok (.getfield 51, 3) := dk_180 0 51 (dk_at dksX0_brightest_1 5 rfl rfl)
theorem dX0_brightest_32 : decode cX0_brightest 32 = .ok (.iload_n 3, 1) := dk_29 (dk_at dksX0_brightest_1 8 rfl rfl)
theorem dX0_brightest_33 : decode cX0_brightest 33 = .ok (.invokevirtual 188, 3) := dk_182 0 188 (dk_at dksX0_brightest_1 9 rfl rfl)
theorem dX0_brightest_36 : decode cX0_brightest 36 = .ok (.aload_n 0, 1) := dk_42 (dk_at dksX0_brightest_1 12 rfl rfl)
theorem dX0_brightest_37 : decode cX0_brightest 37 = .ok (.getfield 51, 3) := dk_180 0 51 (dk_at dksX0_brightest_1 13 rfl rfl)
theorem dX0_brightest_40 : decode cX0_brightest 40 = .ok (.iload_n 2, 1) := dk_28 (dk_at dksX0_brightest_1 16 rfl rfl)
theorem dX0_brightest_41 : decode cX0_brightest 41 = .ok (.invokevirtual 188, 3) := dk_182 0 188 (dk_at dksX0_brightest_1 17 rfl rfl)
theorem dX0_brightest_44 : decode cX0_brightest 44 = .ok (.if_icmp .le 5, 3) := dk_164 0 5 (dk_at dksX0_brightest_1 20 rfl rfl)
theorem dX0_brightest_47 : decode cX0_brightest 47 = .ok (.iload_n 3, 1) := dk_29 (dk_at dksX0_brightest_1 23 rfl rfl)
theorem dX0_brightest_48 : decode cX0_brightest 48 = .ok (.istore_n 2, 1) := dk_61 (dk_at dksX0_brightest_2 0 rfl rfl)
theorem dX0_brightest_49 : decode cX0_brightest 49 = .ok (.iinc 3 1, 3) := dk_132 3 1 (dk_at dksX0_brightest_2 1 rfl rfl)
theorem dX0_brightest_52 : decode cX0_brightest 52 = .ok (.goto (-36), 3) := dk_167 255 220 (dk_at dksX0_brightest_2 4 rfl rfl)
theorem dX0_brightest_55 : decode cX0_brightest 55 = .ok (.iload_n 2, 1) := dk_28 (dk_at dksX0_brightest_2 7 rfl rfl)
theorem dX0_brightest_56 : decode cX0_brightest 56 = .ok (.ifCond .lt 7, 3) := dk_155 0 7 (dk_at dksX0_brightest_2 8 rfl rfl)
theorem dX0_brightest_59 : decode cX0_brightest 59 = .ok (.iload_n 1, 1) := dk_27 (dk_at dksX0_brightest_2 11 rfl rfl)
theorem dX0_brightest_60 : decode cX0_brightest 60 = .ok (.ifCond .ne 7, 3) := dk_154 0 7 (dk_at dksX0_brightest_2 12 rfl rfl)
theorem dX0_brightest_63 : decode cX0_brightest 63 = .ok (.iload_n 2, 1) := dk_28 (dk_at dksX0_brightest_2 15 rfl rfl)
theorem dX0_brightest_64 : decode cX0_brightest 64 = .ok (.goto 11, 3) := dk_167 0 11 (dk_at dksX0_brightest_2 16 rfl rfl)
theorem dX0_brightest_67 : decode cX0_brightest 67 = .ok (.aload_n 0, 1) := dk_42 (dk_at dksX0_brightest_2 19 rfl rfl)
theorem dX0_brightest_68 : decode cX0_brightest 68 = .ok (.getfield 51, 3) := dk_180 0 51 (dk_at dksX0_brightest_2 20 rfl rfl)
theorem dX0_brightest_71 : decode cX0_brightest 71 = .ok (.iload_n 2, 1) := dk_28 (dk_at dksX0_brightest_2 23 rfl rfl)
theorem dX0_brightest_72 : decode cX0_brightest 72 = .ok (.invokevirtual 188, 3) := dk_182 0 188 (dk_at dksX0_brightest_3 0 rfl rfl)
theorem dX0_brightest_75 : decode cX0_brightest 75 = .ok (.ireturn, 1) := dk_172 (dk_at dksX0_brightest_3 3 rfl rfl)
abbrev cX0_steps : ByteArray := prog_1_method_42_code
def yX0_steps : MethodName := ⟨RX0, "steps", "(II)I"⟩
def dkwX0_steps_0 : List UInt8 := [42, 27, 28, 3, 182, 1, 54, 172]
abbrev dktX0_steps_0 : List UInt8 := dkwX0_steps_0 ++ []
theorem dksX0_steps_0 : cX0_steps.data.toList.drop 0 = dktX0_steps_0 := by decide +kernel
theorem dX0_steps_0 : decode cX0_steps 0 = .ok (.aload_n 0, 1) := dk_42 (dk_at dksX0_steps_0 0 rfl rfl)
theorem dX0_steps_1 : decode cX0_steps 1 = .ok (.iload_n 1, 1) := dk_27 (dk_at dksX0_steps_0 1 rfl rfl)
theorem dX0_steps_2 : decode cX0_steps 2 = .ok (.iload_n 2, 1) := dk_28 (dk_at dksX0_steps_0 2 rfl rfl)
theorem dX0_steps_3 : decode cX0_steps 3 = .ok (.iconst 0, 1) := dk_3 (dk_at dksX0_steps_0 3 rfl rfl)
theorem dX0_steps_4 : decode cX0_steps 4 = .ok (.invokevirtual 310, 3) := dk_182 1 54 (dk_at dksX0_steps_0 4 rfl rfl)
theorem dX0_steps_7 : decode cX0_steps 7 = .ok (.ireturn, 1) := dk_172 (dk_at dksX0_steps_0 7 rfl rfl)
abbrev cX0_farTo : ByteArray := prog_1_method_41_code
def yX0_farTo : MethodName := ⟨RX0, "farTo", "(III)I"⟩
def dkwX0_farTo_1 : List UInt8 := [42, 180, 0, 89, 28, 46, 19, 1, 49, 161, 0, 8, 16, 254, 167, 0, 9, 42, 180, 0, 89, 28, 46, 172]
abbrev dktX0_farTo_1 : List UInt8 := dkwX0_farTo_1 ++ []
def dkwX0_farTo_0 : List UInt8 := [42, 27, 182, 0, 175, 153, 0, 11, 42, 28, 182, 0, 175, 154, 0, 5, 2, 172, 42, 27, 29, 182, 1, 50]
abbrev dktX0_farTo_0 : List UInt8 := dkwX0_farTo_0 ++ dktX0_farTo_1
theorem dksX0_farTo_0 : cX0_farTo.data.toList.drop 0 = dktX0_farTo_0 := by decide +kernel
theorem dksX0_farTo_1 : cX0_farTo.data.toList.drop 24 = dktX0_farTo_1 := dk_seg dksX0_farTo_0 24 rfl rfl
theorem dX0_farTo_0 : decode cX0_farTo 0 = .ok (.aload_n 0, 1) := dk_42 (dk_at dksX0_farTo_0 0 rfl rfl)
theorem dX0_farTo_1 : decode cX0_farTo 1 = .ok (.iload_n 1, 1) := dk_27 (dk_at dksX0_farTo_0 1 rfl rfl)
theorem dX0_farTo_2 : decode cX0_farTo 2 = .ok (.invokevirtual 175, 3) := dk_182 0 175 (dk_at dksX0_farTo_0 2 rfl rfl)
theorem dX0_farTo_5 : decode cX0_farTo 5 = .ok (.ifCond .eq 11, 3) := dk_153 0 11 (dk_at dksX0_farTo_0 5 rfl rfl)
theorem dX0_farTo_8 : decode cX0_farTo 8 = .ok (.aload_n 0, 1) := dk_42 (dk_at dksX0_farTo_0 8 rfl rfl)
theorem dX0_farTo_9 : decode cX0_farTo 9 = .ok (.iload_n 2, 1) := dk_28 (dk_at dksX0_farTo_0 9 rfl rfl)
theorem dX0_farTo_10 : decode cX0_farTo 10 = .ok (.invokevirtual 175, 3) := dk_182 0 175 (dk_at dksX0_farTo_0 10 rfl rfl)
theorem dX0_farTo_13 : decode cX0_farTo 13 = .ok (.ifCond .ne 5, 3) := dk_154 0 5 (dk_at dksX0_farTo_0 13 rfl rfl)
theorem dX0_farTo_16 : decode cX0_farTo 16 = .ok (.iconst (-1), 1) := dk_2 (dk_at dksX0_farTo_0 16 rfl rfl)
theorem dX0_farTo_17 : decode cX0_farTo 17 = .ok (.ireturn, 1) := dk_172 (dk_at dksX0_farTo_0 17 rfl rfl)
theorem dX0_farTo_18 : decode cX0_farTo 18 = .ok (.aload_n 0, 1) := dk_42 (dk_at dksX0_farTo_0 18 rfl rfl)
theorem dX0_farTo_19 : decode cX0_farTo 19 = .ok (.iload_n 1, 1) := dk_27 (dk_at dksX0_farTo_0 19 rfl rfl)
theorem dX0_farTo_20 : decode cX0_farTo 20 = .ok (.iload_n 3, 1) := dk_29 (dk_at dksX0_farTo_0 20 rfl rfl)
theorem dX0_farTo_21 : decode cX0_farTo 21 = .ok (.invokevirtual 306, 3) := dk_182 1 50 (dk_at dksX0_farTo_0 21 rfl rfl)
theorem dX0_farTo_24 : decode cX0_farTo 24 = .ok (.aload_n 0, 1) := dk_42 (dk_at dksX0_farTo_1 0 rfl rfl)
theorem dX0_farTo_25 : decode cX0_farTo 25 = .ok (.getfield 89, 3) := dk_180 0 89 (dk_at dksX0_farTo_1 1 rfl rfl)
theorem dX0_farTo_28 : decode cX0_farTo 28 = .ok (.iload_n 2, 1) := dk_28 (dk_at dksX0_farTo_1 4 rfl rfl)
theorem dX0_farTo_29 : decode cX0_farTo 29 = .ok (.iaload, 1) := dk_46 (dk_at dksX0_farTo_1 5 rfl rfl)
theorem dX0_farTo_30 : decode cX0_farTo 30 = .ok (.ldc_w 305, 3) := dk_19 1 49 (dk_at dksX0_farTo_1 6 rfl rfl)
theorem dX0_farTo_33 : decode cX0_farTo 33 = .ok (.if_icmp .lt 8, 3) := dk_161 0 8 (dk_at dksX0_farTo_1 9 rfl rfl)
theorem dX0_farTo_36 : decode cX0_farTo 36 = .ok (.bipush (-2), 2) := dk_16 254 (dk_at dksX0_farTo_1 12 rfl rfl)
theorem dX0_farTo_38 : decode cX0_farTo 38 = .ok (.goto 9, 3) := dk_167 0 9 (dk_at dksX0_farTo_1 14 rfl rfl)
theorem dX0_farTo_41 : decode cX0_farTo 41 = .ok (.aload_n 0, 1) := dk_42 (dk_at dksX0_farTo_1 17 rfl rfl)
theorem dX0_farTo_42 : decode cX0_farTo 42 = .ok (.getfield 89, 3) := dk_180 0 89 (dk_at dksX0_farTo_1 18 rfl rfl)
theorem dX0_farTo_45 : decode cX0_farTo 45 = .ok (.iload_n 2, 1) := dk_28 (dk_at dksX0_farTo_1 21 rfl rfl)
theorem dX0_farTo_46 : decode cX0_farTo 46 = .ok (.iaload, 1) := dk_46 (dk_at dksX0_farTo_1 22 rfl rfl)
theorem dX0_farTo_47 : decode cX0_farTo 47 = .ok (.ireturn, 1) := dk_172 (dk_at dksX0_farTo_1 23 rfl rfl)
abbrev cX0_laysFar : ByteArray := prog_1_method_40_code
def yX0_laysFar : MethodName := ⟨RX0, "laysFar", "(II)V"⟩
def dkwX0_laysFar_7 : List UInt8 := [184, 1, 10, 79, 132, 4, 1, 167, 255, 133, 132, 3, 1, 167, 255, 116, 177]
abbrev dktX0_laysFar_7 : List UInt8 := dkwX0_laysFar_7 ++ []
def dkwX0_laysFar_6 : List UInt8 := [180, 0, 89, 21, 6, 42, 180, 0, 89, 21, 6, 46, 42, 180, 0, 89, 21, 5, 46, 21, 7, 96]
abbrev dktX0_laysFar_6 : List UInt8 := dkwX0_laysFar_6 ++ dktX0_laysFar_7
def dkwX0_laysFar_5 : List UInt8 := [21, 5, 42, 180, 0, 89, 21, 5, 46, 42, 180, 0, 89, 21, 6, 46, 21, 7, 96, 184, 1, 10, 79, 42]
abbrev dktX0_laysFar_5 : List UInt8 := dkwX0_laysFar_5 ++ dktX0_laysFar_6
def dkwX0_laysFar_4 : List UInt8 := [54, 6, 28, 21, 4, 122, 4, 126, 4, 160, 0, 7, 3, 167, 0, 4, 4, 54, 7, 42, 180, 0, 89]
abbrev dktX0_laysFar_4 : List UInt8 := dkwX0_laysFar_4 ++ dktX0_laysFar_5
def dkwX0_laysFar_3 : List UInt8 := [180, 0, 204, 54, 5, 42, 180, 0, 40, 180, 0, 145, 21, 4, 182, 0, 178, 192, 0, 182, 180, 0, 207]
abbrev dktX0_laysFar_3 : List UInt8 := dkwX0_laysFar_3 ++ dktX0_laysFar_4
def dkwX0_laysFar_2 : List UInt8 := [21, 4, 42, 182, 0, 160, 162, 0, 120, 42, 180, 0, 40, 180, 0, 145, 21, 4, 182, 0, 178, 192, 0, 182]
abbrev dktX0_laysFar_2 : List UInt8 := dkwX0_laysFar_2 ++ dktX0_laysFar_3
def dkwX0_laysFar_1 : List UInt8 := [19, 1, 49, 79, 132, 3, 1, 167, 255, 227, 3, 62, 29, 42, 182, 0, 154, 162, 0, 138, 3, 54, 4]
abbrev dktX0_laysFar_1 : List UInt8 := dkwX0_laysFar_1 ++ dktX0_laysFar_2
def dkwX0_laysFar_0 : List UInt8 := [3, 62, 29, 42, 182, 0, 154, 162, 0, 27, 42, 180, 0, 89, 29, 29, 27, 160, 0, 7, 3, 167, 0, 6]
abbrev dktX0_laysFar_0 : List UInt8 := dkwX0_laysFar_0 ++ dktX0_laysFar_1
theorem dksX0_laysFar_0 : cX0_laysFar.data.toList.drop 0 = dktX0_laysFar_0 := by decide +kernel
theorem dksX0_laysFar_1 : cX0_laysFar.data.toList.drop 24 = dktX0_laysFar_1 := dk_seg dksX0_laysFar_0 24 rfl rfl
theorem dksX0_laysFar_2 : cX0_laysFar.data.toList.drop 47 = dktX0_laysFar_2 := dk_seg dksX0_laysFar_1 23 rfl rfl
theorem dksX0_laysFar_3 : cX0_laysFar.data.toList.drop 71 = dktX0_laysFar_3 := dk_seg dksX0_laysFar_2 24 rfl rfl
theorem dksX0_laysFar_4 : cX0_laysFar.data.toList.drop 94 = dktX0_laysFar_4 := dk_seg dksX0_laysFar_3 23 rfl rfl
theorem dksX0_laysFar_5 : cX0_laysFar.data.toList.drop 117 = dktX0_laysFar_5 := dk_seg dksX0_laysFar_4 23 rfl rfl
theorem dksX0_laysFar_6 : cX0_laysFar.data.toList.drop 141 = dktX0_laysFar_6 := dk_seg dksX0_laysFar_5 24 rfl rfl
theorem dksX0_laysFar_7 : cX0_laysFar.data.toList.drop 163 = dktX0_laysFar_7 := dk_seg dksX0_laysFar_6 22 rfl rfl
theorem dX0_laysFar_0 : decode cX0_laysFar 0 = .ok (.iconst 0, 1) := dk_3 (dk_at dksX0_laysFar_0 0 rfl rfl)
theorem dX0_laysFar_1 : decode cX0_laysFar 1 = .ok (.istore_n 3, 1) := dk_62 (dk_at dksX0_laysFar_0 1 rfl rfl)
theorem dX0_laysFar_2 : decode cX0_laysFar 2 = .ok (.iload_n 3, 1) := dk_29 (dk_at dksX0_laysFar_0 2 rfl rfl)
theorem dX0_laysFar_3 : decode cX0_laysFar 3 = .ok (.aload_n 0, 1) := dk_42 (dk_at dksX0_laysFar_0 3 rfl rfl)
theorem dX0_laysFar_4 : decode cX0_laysFar 4 = .ok (.invokevirtual 154, 3) := dk_182 0 154 (dk_at dksX0_laysFar_0 4 rfl rfl)
theorem dX0_laysFar_7 : decode cX0_laysFar 7 = .ok (.if_icmp .ge 27, 3) := dk_162 0 27 (dk_at dksX0_laysFar_0 7 rfl rfl)
theorem dX0_laysFar_10 : decode cX0_laysFar 10 = .ok (.aload_n 0, 1) := dk_42 (dk_at dksX0_laysFar_0 10 rfl rfl)
theorem dX0_laysFar_11 : decode cX0_laysFar 11 = .ok (.getfield 89, 3) := dk_180 0 89 (dk_at dksX0_laysFar_0 11 rfl rfl)
theorem dX0_laysFar_14 : decode cX0_laysFar 14 = .ok (.iload_n 3, 1) := dk_29 (dk_at dksX0_laysFar_0 14 rfl rfl)
theorem dX0_laysFar_15 : decode cX0_laysFar 15 = .ok (.iload_n 3, 1) := dk_29 (dk_at dksX0_laysFar_0 15 rfl rfl)
theorem dX0_laysFar_16 : decode cX0_laysFar 16 = .ok (.iload_n 1, 1) := dk_27 (dk_at dksX0_laysFar_0 16 rfl rfl)
theorem dX0_laysFar_17 : decode cX0_laysFar 17 = .ok (.if_icmp .ne 7, 3) := dk_160 0 7 (dk_at dksX0_laysFar_0 17 rfl rfl)
theorem dX0_laysFar_20 : decode cX0_laysFar 20 = .ok (.iconst 0, 1) := dk_3 (dk_at dksX0_laysFar_0 20 rfl rfl)
theorem dX0_laysFar_21 : decode cX0_laysFar 21 = .ok (.goto 6, 3) := dk_167 0 6 (dk_at dksX0_laysFar_0 21 rfl rfl)
theorem dX0_laysFar_24 : decode cX0_laysFar 24 = .ok (.ldc_w 305, 3) := dk_19 1 49 (dk_at dksX0_laysFar_1 0 rfl rfl)
theorem dX0_laysFar_27 : decode cX0_laysFar 27 = .ok (.iastore, 1) := dk_79 (dk_at dksX0_laysFar_1 3 rfl rfl)
theorem dX0_laysFar_28 : decode cX0_laysFar 28 = .ok (.iinc 3 1, 3) := dk_132 3 1 (dk_at dksX0_laysFar_1 4 rfl rfl)
theorem dX0_laysFar_31 : decode cX0_laysFar 31 = .ok (.goto (-29), 3) := dk_167 255 227 (dk_at dksX0_laysFar_1 7 rfl rfl)
theorem dX0_laysFar_34 : decode cX0_laysFar 34 = .ok (.iconst 0, 1) := dk_3 (dk_at dksX0_laysFar_1 10 rfl rfl)
theorem dX0_laysFar_35 : decode cX0_laysFar 35 = .ok (.istore_n 3, 1) := dk_62 (dk_at dksX0_laysFar_1 11 rfl rfl)
theorem dX0_laysFar_36 : decode cX0_laysFar 36 = .ok (.iload_n 3, 1) := dk_29 (dk_at dksX0_laysFar_1 12 rfl rfl)
theorem dX0_laysFar_37 : decode cX0_laysFar 37 = .ok (.aload_n 0, 1) := dk_42 (dk_at dksX0_laysFar_1 13 rfl rfl)
theorem dX0_laysFar_38 : decode cX0_laysFar 38 = .ok (.invokevirtual 154, 3) := dk_182 0 154 (dk_at dksX0_laysFar_1 14 rfl rfl)
theorem dX0_laysFar_41 : decode cX0_laysFar 41 = .ok (.if_icmp .ge 138, 3) := dk_162 0 138 (dk_at dksX0_laysFar_1 17 rfl rfl)
theorem dX0_laysFar_44 : decode cX0_laysFar 44 = .ok (.iconst 0, 1) := dk_3 (dk_at dksX0_laysFar_1 20 rfl rfl)
theorem dX0_laysFar_45 : decode cX0_laysFar 45 = .ok (.istore 4, 2) := dk_54 4 (dk_at dksX0_laysFar_1 21 rfl rfl)
theorem dX0_laysFar_47 : decode cX0_laysFar 47 = .ok (.iload 4, 2) := dk_21 4 (dk_at dksX0_laysFar_2 0 rfl rfl)
theorem dX0_laysFar_49 : decode cX0_laysFar 49 = .ok (.aload_n 0, 1) := dk_42 (dk_at dksX0_laysFar_2 2 rfl rfl)
theorem dX0_laysFar_50 : decode cX0_laysFar 50 = .ok (.invokevirtual 160, 3) := dk_182 0 160 (dk_at dksX0_laysFar_2 3 rfl rfl)
theorem dX0_laysFar_53 : decode cX0_laysFar 53 = .ok (.if_icmp .ge 120, 3) := dk_162 0 120 (dk_at dksX0_laysFar_2 6 rfl rfl)
theorem dX0_laysFar_56 : decode cX0_laysFar 56 = .ok (.aload_n 0, 1) := dk_42 (dk_at dksX0_laysFar_2 9 rfl rfl)
theorem dX0_laysFar_57 : decode cX0_laysFar 57 = .ok (.getfield 40, 3) := dk_180 0 40 (dk_at dksX0_laysFar_2 10 rfl rfl)
theorem dX0_laysFar_60 : decode cX0_laysFar 60 = .ok (.getfield 145, 3) := dk_180 0 145 (dk_at dksX0_laysFar_2 13 rfl rfl)
theorem dX0_laysFar_63 : decode cX0_laysFar 63 = .ok (.iload 4, 2) := dk_21 4 (dk_at dksX0_laysFar_2 16 rfl rfl)
theorem dX0_laysFar_65 : decode cX0_laysFar 65 = .ok (.invokevirtual 178, 3) := dk_182 0 178 (dk_at dksX0_laysFar_2 18 rfl rfl)
theorem dX0_laysFar_68 : decode cX0_laysFar 68 = .ok (.checkcast 182, 3) := dk_192 0 182 (dk_at dksX0_laysFar_2 21 rfl rfl)
theorem dX0_laysFar_71 : decode cX0_laysFar 71 = .ok (.getfield 204, 3) := dk_180 0 204 (dk_at dksX0_laysFar_3 0 rfl rfl)
theorem dX0_laysFar_74 : decode cX0_laysFar 74 = .ok (.istore 5, 2) := dk_54 5 (dk_at dksX0_laysFar_3 3 rfl rfl)
theorem dX0_laysFar_76 : decode cX0_laysFar 76 = .ok (.aload_n 0, 1) := dk_42 (dk_at dksX0_laysFar_3 5 rfl rfl)
theorem dX0_laysFar_77 : decode cX0_laysFar 77 = .ok (.getfield 40, 3) := dk_180 0 40 (dk_at dksX0_laysFar_3 6 rfl rfl)
theorem dX0_laysFar_80 : decode cX0_laysFar 80 = .ok (.getfield 145, 3) := dk_180 0 145 (dk_at dksX0_laysFar_3 9 rfl rfl)
theorem dX0_laysFar_83 : decode cX0_laysFar 83 = .ok (.iload 4, 2) := dk_21 4 (dk_at dksX0_laysFar_3 12 rfl rfl)
theorem dX0_laysFar_85 : decode cX0_laysFar 85 = .ok (.invokevirtual 178, 3) := dk_182 0 178 (dk_at dksX0_laysFar_3 14 rfl rfl)
theorem dX0_laysFar_88 : decode cX0_laysFar 88 = .ok (.checkcast 182, 3) := dk_192 0 182 (dk_at dksX0_laysFar_3 17 rfl rfl)
theorem dX0_laysFar_91 : decode cX0_laysFar 91 = .ok (.getfield 207, 3) := dk_180 0 207 (dk_at dksX0_laysFar_3 20 rfl rfl)
theorem dX0_laysFar_94 : decode cX0_laysFar 94 = .ok (.istore 6, 2) := dk_54 6 (dk_at dksX0_laysFar_4 0 rfl rfl)
theorem dX0_laysFar_96 : decode cX0_laysFar 96 = .ok (.iload_n 2, 1) := dk_28 (dk_at dksX0_laysFar_4 2 rfl rfl)
theorem dX0_laysFar_97 : decode cX0_laysFar 97 = .ok (.iload 4, 2) := dk_21 4 (dk_at dksX0_laysFar_4 3 rfl rfl)
theorem dX0_laysFar_99 : decode cX0_laysFar 99 = .ok (.ishr, 1) := dk_122 (dk_at dksX0_laysFar_4 5 rfl rfl)
theorem dX0_laysFar_100 : decode cX0_laysFar 100 = .ok (.iconst 1, 1) := dk_4 (dk_at dksX0_laysFar_4 6 rfl rfl)
theorem dX0_laysFar_101 : decode cX0_laysFar 101 = .ok (.iand, 1) := dk_126 (dk_at dksX0_laysFar_4 7 rfl rfl)
theorem dX0_laysFar_102 : decode cX0_laysFar 102 = .ok (.iconst 1, 1) := dk_4 (dk_at dksX0_laysFar_4 8 rfl rfl)
theorem dX0_laysFar_103 : decode cX0_laysFar 103 = .ok (.if_icmp .ne 7, 3) := dk_160 0 7 (dk_at dksX0_laysFar_4 9 rfl rfl)
theorem dX0_laysFar_106 : decode cX0_laysFar 106 = .ok (.iconst 0, 1) := dk_3 (dk_at dksX0_laysFar_4 12 rfl rfl)
theorem dX0_laysFar_107 : decode cX0_laysFar 107 = .ok (.goto 4, 3) := dk_167 0 4 (dk_at dksX0_laysFar_4 13 rfl rfl)
theorem dX0_laysFar_110 : decode cX0_laysFar 110 = .ok (.iconst 1, 1) := dk_4 (dk_at dksX0_laysFar_4 16 rfl rfl)
theorem dX0_laysFar_111 : decode cX0_laysFar 111 = .ok (.istore 7, 2) := dk_54 7 (dk_at dksX0_laysFar_4 17 rfl rfl)
theorem dX0_laysFar_113 : decode cX0_laysFar 113 = .ok (.aload_n 0, 1) := dk_42 (dk_at dksX0_laysFar_4 19 rfl rfl)
theorem dX0_laysFar_114 : decode cX0_laysFar 114 = .ok (.getfield 89, 3) := dk_180 0 89 (dk_at dksX0_laysFar_4 20 rfl rfl)
theorem dX0_laysFar_117 : decode cX0_laysFar 117 = .ok (.iload 5, 2) := dk_21 5 (dk_at dksX0_laysFar_5 0 rfl rfl)
theorem dX0_laysFar_119 : decode cX0_laysFar 119 = .ok (.aload_n 0, 1) := dk_42 (dk_at dksX0_laysFar_5 2 rfl rfl)
theorem dX0_laysFar_120 : decode cX0_laysFar 120 = .ok (.getfield 89, 3) := dk_180 0 89 (dk_at dksX0_laysFar_5 3 rfl rfl)
theorem dX0_laysFar_123 : decode cX0_laysFar 123 = .ok (.iload 5, 2) := dk_21 5 (dk_at dksX0_laysFar_5 6 rfl rfl)
theorem dX0_laysFar_125 : decode cX0_laysFar 125 = .ok (.iaload, 1) := dk_46 (dk_at dksX0_laysFar_5 8 rfl rfl)
theorem dX0_laysFar_126 : decode cX0_laysFar 126 = .ok (.aload_n 0, 1) := dk_42 (dk_at dksX0_laysFar_5 9 rfl rfl)
theorem dX0_laysFar_127 : decode cX0_laysFar 127 = .ok (.getfield 89, 3) := dk_180 0 89 (dk_at dksX0_laysFar_5 10 rfl rfl)
theorem dX0_laysFar_130 : decode cX0_laysFar 130 = .ok (.iload 6, 2) := dk_21 6 (dk_at dksX0_laysFar_5 13 rfl rfl)
theorem dX0_laysFar_132 : decode cX0_laysFar 132 = .ok (.iaload, 1) := dk_46 (dk_at dksX0_laysFar_5 15 rfl rfl)
theorem dX0_laysFar_133 : decode cX0_laysFar 133 = .ok (.iload 7, 2) := dk_21 7 (dk_at dksX0_laysFar_5 16 rfl rfl)
theorem dX0_laysFar_135 : decode cX0_laysFar 135 = .ok (.iadd, 1) := dk_96 (dk_at dksX0_laysFar_5 18 rfl rfl)
theorem dX0_laysFar_136 : decode cX0_laysFar 136 = .ok (.invokestatic 266, 3) := dk_184 1 10 (dk_at dksX0_laysFar_5 19 rfl rfl)
theorem dX0_laysFar_139 : decode cX0_laysFar 139 = .ok (.iastore, 1) := dk_79 (dk_at dksX0_laysFar_5 22 rfl rfl)
theorem dX0_laysFar_140 : decode cX0_laysFar 140 = .ok (.aload_n 0, 1) := dk_42 (dk_at dksX0_laysFar_5 23 rfl rfl)
theorem dX0_laysFar_141 : decode cX0_laysFar 141 = .ok (.getfield 89, 3) := dk_180 0 89 (dk_at dksX0_laysFar_6 0 rfl rfl)
theorem dX0_laysFar_144 : decode cX0_laysFar 144 = .ok (.iload 6, 2) := dk_21 6 (dk_at dksX0_laysFar_6 3 rfl rfl)
theorem dX0_laysFar_146 : decode cX0_laysFar 146 = .ok (.aload_n 0, 1) := dk_42 (dk_at dksX0_laysFar_6 5 rfl rfl)
theorem dX0_laysFar_147 : decode cX0_laysFar 147 = .ok (.getfield 89, 3) := dk_180 0 89 (dk_at dksX0_laysFar_6 6 rfl rfl)
theorem dX0_laysFar_150 : decode cX0_laysFar 150 = .ok (.iload 6, 2) := dk_21 6 (dk_at dksX0_laysFar_6 9 rfl rfl)
theorem dX0_laysFar_152 : decode cX0_laysFar 152 = .ok (.iaload, 1) := dk_46 (dk_at dksX0_laysFar_6 11 rfl rfl)
theorem dX0_laysFar_153 : decode cX0_laysFar 153 = .ok (.aload_n 0, 1) := dk_42 (dk_at dksX0_laysFar_6 12 rfl rfl)
theorem dX0_laysFar_154 : decode cX0_laysFar 154 = .ok (.getfield 89, 3) := dk_180 0 89 (dk_at dksX0_laysFar_6 13 rfl rfl)
theorem dX0_laysFar_157 : decode cX0_laysFar 157 = .ok (.iload 5, 2) := dk_21 5 (dk_at dksX0_laysFar_6 16 rfl rfl)
theorem dX0_laysFar_159 : decode cX0_laysFar 159 = .ok (.iaload, 1) := dk_46 (dk_at dksX0_laysFar_6 18 rfl rfl)
theorem dX0_laysFar_160 : decode cX0_laysFar 160 = .ok (.iload 7, 2) := dk_21 7 (dk_at dksX0_laysFar_6 19 rfl rfl)
theorem dX0_laysFar_162 : decode cX0_laysFar 162 = .ok (.iadd, 1) := dk_96 (dk_at dksX0_laysFar_6 21 rfl rfl)
theorem dX0_laysFar_163 : decode cX0_laysFar 163 = .ok (.invokestatic 266, 3) := dk_184 1 10 (dk_at dksX0_laysFar_7 0 rfl rfl)
theorem dX0_laysFar_166 : decode cX0_laysFar 166 = .ok (.iastore, 1) := dk_79 (dk_at dksX0_laysFar_7 3 rfl rfl)
theorem dX0_laysFar_167 : decode cX0_laysFar 167 = .ok (.iinc 4 1, 3) := dk_132 4 1 (dk_at dksX0_laysFar_7 4 rfl rfl)
theorem dX0_laysFar_170 : decode cX0_laysFar 170 = .ok (.goto (-123), 3) := dk_167 255 133 (dk_at dksX0_laysFar_7 7 rfl rfl)
theorem dX0_laysFar_173 : decode cX0_laysFar 173 = .ok (.iinc 3 1, 3) := dk_132 3 1 (dk_at dksX0_laysFar_7 10 rfl rfl)
theorem dX0_laysFar_176 : decode cX0_laysFar 176 = .ok (.goto (-140), 3) := dk_167 255 116 (dk_at dksX0_laysFar_7 13 rfl rfl)
theorem dX0_laysFar_179 : decode cX0_laysFar 179 = .ok (.return_, 1) := dk_177 (dk_at dksX0_laysFar_7 16 rfl rfl)
abbrev cX0_dark : ByteArray := prog_1_method_43_code
def yX0_dark : MethodName := ⟨RX0, "dark", "(II)I"⟩
def dkwX0_dark_0 : List UInt8 := [42, 27, 28, 42, 180, 0, 51, 42, 180, 0, 40, 182, 1, 58, 182, 1, 54, 172]
abbrev dktX0_dark_0 : List UInt8 := dkwX0_dark_0 ++ []
theorem dksX0_dark_0 : cX0_dark.data.toList.drop 0 = dktX0_dark_0 := by decide +kernel
theorem dX0_dark_0 : decode cX0_dark 0 = .ok (.aload_n 0, 1) := dk_42 (dk_at dksX0_dark_0 0 rfl rfl)
theorem dX0_dark_1 : decode cX0_dark 1 = .ok (.iload_n 1, 1) := dk_27 (dk_at dksX0_dark_0 1 rfl rfl)
theorem dX0_dark_2 : decode cX0_dark 2 = .ok (.iload_n 2, 1) := dk_28 (dk_at dksX0_dark_0 2 rfl rfl)
theorem dX0_dark_3 : decode cX0_dark 3 = .ok (.aload_n 0, 1) := dk_42 (dk_at dksX0_dark_0 3 rfl rfl)
theorem dX0_dark_4 : decode cX0_dark 4 = .ok (.getfield 51, 3) := dk_180 0 51 (dk_at dksX0_dark_0 4 rfl rfl)
theorem dX0_dark_7 : decode cX0_dark 7 = .ok (.aload_n 0, 1) := dk_42 (dk_at dksX0_dark_0 7 rfl rfl)
theorem dX0_dark_8 : decode cX0_dark 8 = .ok (.getfield 40, 3) := dk_180 0 40 (dk_at dksX0_dark_0 8 rfl rfl)
theorem dX0_dark_11 : decode cX0_dark 11 = .ok (.invokevirtual 314, 3) := dk_182 1 58 (dk_at dksX0_dark_0 11 rfl rfl)
theorem dX0_dark_14 : decode cX0_dark 14 = .ok (.invokevirtual 310, 3) := dk_182 1 54 (dk_at dksX0_dark_0 14 rfl rfl)
theorem dX0_dark_17 : decode cX0_dark 17 = .ok (.ireturn, 1) := dk_172 (dk_at dksX0_dark_0 17 rfl rfl)
abbrev cX0_round : ByteArray := prog_1_method_44_code
def yX0_round : MethodName := ⟨RX0, "round", "()I"⟩
def dkwX0_round_10 : List UInt8 := [16, 254, 167, 0, 4, 28, 172]
abbrev dktX0_round_10 : List UInt8 := dkwX0_round_10 ++ []
def dkwX0_round_9 : List UInt8 := [184, 1, 10, 61, 132, 4, 1, 167, 255, 223, 132, 3, 1, 167, 255, 161, 28, 19, 1, 49, 161, 0, 8]
abbrev dktX0_round_9 : List UInt8 := dkwX0_round_9 ++ dktX0_round_10
def dkwX0_round_8 : List UInt8 := [42, 182, 0, 154, 162, 0, 30, 29, 27, 126, 27, 160, 0, 23, 28, 42, 180, 0, 94, 29, 50, 21, 4, 46]
abbrev dktX0_round_8 : List UInt8 := dkwX0_round_8 ++ dktX0_round_9
def dkwX0_round_7 : List UInt8 := [42, 29, 21, 5, 182, 1, 62, 132, 5, 1, 167, 255, 237, 132, 4, 1, 167, 255, 219, 3, 54, 4, 21, 4]
abbrev dktX0_round_7 : List UInt8 := dkwX0_round_7 ++ dktX0_round_8
def dkwX0_round_6 : List UInt8 := [3, 54, 4, 21, 4, 42, 182, 0, 154, 162, 0, 34, 3, 54, 5, 21, 5, 42, 182, 0, 160, 162, 0, 16]
abbrev dktX0_round_6 : List UInt8 := dkwX0_round_6 ++ dktX0_round_7
def dkwX0_round_5 : List UInt8 := [132, 4, 1, 167, 255, 203, 132, 3, 1, 167, 255, 184, 4, 62, 29, 4, 42, 182, 0, 154, 120, 162, 0, 91]
abbrev dktX0_round_5 : List UInt8 := dkwX0_round_5 ++ dktX0_round_6
def dkwX0_round_4 : List UInt8 := [160, 0, 19, 21, 4, 42, 180, 0, 51, 180, 0, 194, 160, 0, 7, 3, 167, 0, 6, 19, 1, 49, 79]
abbrev dktX0_round_4 : List UInt8 := dkwX0_round_4 ++ dktX0_round_5
def dkwX0_round_3 : List UInt8 := [182, 0, 154, 162, 0, 50, 42, 180, 0, 94, 29, 50, 21, 4, 29, 4, 42, 180, 0, 51, 180, 0, 194, 120]
abbrev dktX0_round_3 : List UInt8 := dkwX0_round_3 ++ dktX0_round_4
def dkwX0_round_2 : List UInt8 := [132, 3, 1, 167, 255, 224, 3, 62, 29, 4, 42, 182, 0, 154, 120, 162, 0, 68, 3, 54, 4, 21, 4, 42]
abbrev dktX0_round_2 : List UInt8 := dkwX0_round_2 ++ dktX0_round_3
def dkwX0_round_1 : List UInt8 := [162, 0, 30, 27, 42, 180, 0, 51, 29, 182, 0, 191, 153, 0, 9, 4, 29, 120, 167, 0, 4, 3, 128, 60]
abbrev dktX0_round_1 : List UInt8 := dkwX0_round_1 ++ dktX0_round_2
def dkwX0_round_0 : List UInt8 := [42, 182, 0, 154, 154, 0, 6, 16, 254, 172, 3, 60, 19, 1, 49, 61, 3, 62, 29, 42, 182, 0, 154]
abbrev dktX0_round_0 : List UInt8 := dkwX0_round_0 ++ dktX0_round_1
theorem dksX0_round_0 : cX0_round.data.toList.drop 0 = dktX0_round_0 := by decide +kernel
theorem dksX0_round_1 : cX0_round.data.toList.drop 23 = dktX0_round_1 := dk_seg dksX0_round_0 23 rfl rfl
theorem dksX0_round_2 : cX0_round.data.toList.drop 47 = dktX0_round_2 := dk_seg dksX0_round_1 24 rfl rfl
theorem dksX0_round_3 : cX0_round.data.toList.drop 71 = dktX0_round_3 := dk_seg dksX0_round_2 24 rfl rfl
theorem dksX0_round_4 : cX0_round.data.toList.drop 95 = dktX0_round_4 := dk_seg dksX0_round_3 24 rfl rfl
theorem dksX0_round_5 : cX0_round.data.toList.drop 118 = dktX0_round_5 := dk_seg dksX0_round_4 23 rfl rfl
theorem dksX0_round_6 : cX0_round.data.toList.drop 142 = dktX0_round_6 := dk_seg dksX0_round_5 24 rfl rfl
theorem dksX0_round_7 : cX0_round.data.toList.drop 166 = dktX0_round_7 := dk_seg dksX0_round_6 24 rfl rfl
theorem dksX0_round_8 : cX0_round.data.toList.drop 190 = dktX0_round_8 := dk_seg dksX0_round_7 24 rfl rfl
theorem dksX0_round_9 : cX0_round.data.toList.drop 214 = dktX0_round_9 := dk_seg dksX0_round_8 24 rfl rfl
theorem dksX0_round_10 : cX0_round.data.toList.drop 237 = dktX0_round_10 := dk_seg dksX0_round_9 23 rfl rfl
theorem dX0_round_0 : decode cX0_round 0 = .ok (.aload_n 0, 1) := dk_42 (dk_at dksX0_round_0 0 rfl rfl)
theorem dX0_round_1 : decode cX0_round 1 = .ok (.invokevirtual 154, 3) := dk_182 0 154 (dk_at dksX0_round_0 1 rfl rfl)
theorem dX0_round_4 : decode cX0_round 4 = .ok (.ifCond .ne 6, 3) := dk_154 0 6 (dk_at dksX0_round_0 4 rfl rfl)
theorem dX0_round_7 : decode cX0_round 7 = .ok (.bipush (-2), 2) := dk_16 254 (dk_at dksX0_round_0 7 rfl rfl)
theorem dX0_round_9 : decode cX0_round 9 = .ok (.ireturn, 1) := dk_172 (dk_at dksX0_round_0 9 rfl rfl)
theorem dX0_round_10 : decode cX0_round 10 = .ok (.iconst 0, 1) := dk_3 (dk_at dksX0_round_0 10 rfl rfl)
theorem dX0_round_11 : decode cX0_round 11 = .ok (.istore_n 1, 1) := dk_60 (dk_at dksX0_round_0 11 rfl rfl)
theorem dX0_round_12 : decode cX0_round 12 = .ok (.ldc_w 305, 3) := dk_19 1 49 (dk_at dksX0_round_0 12 rfl rfl)
theorem dX0_round_15 : decode cX0_round 15 = .ok (.istore_n 2, 1) := dk_61 (dk_at dksX0_round_0 15 rfl rfl)
theorem dX0_round_16 : decode cX0_round 16 = .ok (.iconst 0, 1) := dk_3 (dk_at dksX0_round_0 16 rfl rfl)
theorem dX0_round_17 : decode cX0_round 17 = .ok (.istore_n 3, 1) := dk_62 (dk_at dksX0_round_0 17 rfl rfl)
theorem dX0_round_18 : decode cX0_round 18 = .ok (.iload_n 3, 1) := dk_29 (dk_at dksX0_round_0 18 rfl rfl)
theorem dX0_round_19 : decode cX0_round 19 = .ok (.aload_n 0, 1) := dk_42 (dk_at dksX0_round_0 19 rfl rfl)
theorem dX0_round_20 : decode cX0_round 20 = .ok (.invokevirtual 154, 3) := dk_182 0 154 (dk_at dksX0_round_0 20 rfl rfl)
theorem dX0_round_23 : decode cX0_round 23 = .ok (.if_icmp .ge 30, 3) := dk_162 0 30 (dk_at dksX0_round_1 0 rfl rfl)
theorem dX0_round_26 : decode cX0_round 26 = .ok (.iload_n 1, 1) := dk_27 (dk_at dksX0_round_1 3 rfl rfl)
theorem dX0_round_27 : decode cX0_round 27 = .ok (.aload_n 0, 1) := dk_42 (dk_at dksX0_round_1 4 rfl rfl)
theorem dX0_round_28 : decode cX0_round 28 = .ok (.getfield 51, 3) := dk_180 0 51 (dk_at dksX0_round_1 5 rfl rfl)
theorem dX0_round_31 : decode cX0_round 31 = .ok (.iload_n 3, 1) := dk_29 (dk_at dksX0_round_1 8 rfl rfl)
theorem dX0_round_32 : decode cX0_round 32 = .ok (.invokevirtual 191, 3) := dk_182 0 191 (dk_at dksX0_round_1 9 rfl rfl)
theorem dX0_round_35 : decode cX0_round 35 = .ok (.ifCond .eq 9, 3) := dk_153 0 9 (dk_at dksX0_round_1 12 rfl rfl)
theorem dX0_round_38 : decode cX0_round 38 = .ok (.iconst 1, 1) := dk_4 (dk_at dksX0_round_1 15 rfl rfl)
theorem dX0_round_39 : decode cX0_round 39 = .ok (.iload_n 3, 1) := dk_29 (dk_at dksX0_round_1 16 rfl rfl)
theorem dX0_round_40 : decode cX0_round 40 = .ok (.ishl, 1) := dk_120 (dk_at dksX0_round_1 17 rfl rfl)
theorem dX0_round_41 : decode cX0_round 41 = .ok (.goto 4, 3) := dk_167 0 4 (dk_at dksX0_round_1 18 rfl rfl)
theorem dX0_round_44 : decode cX0_round 44 = .ok (.iconst 0, 1) := dk_3 (dk_at dksX0_round_1 21 rfl rfl)
theorem dX0_round_45 : decode cX0_round 45 = .ok (.ior, 1) := dk_128 (dk_at dksX0_round_1 22 rfl rfl)
theorem dX0_round_46 : decode cX0_round 46 = .ok (.istore_n 1, 1) := dk_60 (dk_at dksX0_round_1 23 rfl rfl)
theorem dX0_round_47 : decode cX0_round 47 = .ok (.iinc 3 1, 3) := dk_132 3 1 (dk_at dksX0_round_2 0 rfl rfl)
theorem dX0_round_50 : decode cX0_round 50 = .ok (.goto (-32), 3) := dk_167 255 224 (dk_at dksX0_round_2 3 rfl rfl)
theorem dX0_round_53 : decode cX0_round 53 = .ok (.iconst 0, 1) := dk_3 (dk_at dksX0_round_2 6 rfl rfl)
theorem dX0_round_54 : decode cX0_round 54 = .ok (.istore_n 3, 1) := dk_62 (dk_at dksX0_round_2 7 rfl rfl)
theorem dX0_round_55 : decode cX0_round 55 = .ok (.iload_n 3, 1) := dk_29 (dk_at dksX0_round_2 8 rfl rfl)
theorem dX0_round_56 : decode cX0_round 56 = .ok (.iconst 1, 1) := dk_4 (dk_at dksX0_round_2 9 rfl rfl)
theorem dX0_round_57 : decode cX0_round 57 = .ok (.aload_n 0, 1) := dk_42 (dk_at dksX0_round_2 10 rfl rfl)
theorem dX0_round_58 : decode cX0_round 58 = .ok (.invokevirtual 154, 3) := dk_182 0 154 (dk_at dksX0_round_2 11 rfl rfl)
theorem dX0_round_61 : decode cX0_round 61 = .ok (.ishl, 1) := dk_120 (dk_at dksX0_round_2 14 rfl rfl)
theorem dX0_round_62 : decode cX0_round 62 = .ok (.if_icmp .ge 68, 3) := dk_162 0 68 (dk_at dksX0_round_2 15 rfl rfl)
theorem dX0_round_65 : decode cX0_round 65 = .ok (.iconst 0, 1) := dk_3 (dk_at dksX0_round_2 18 rfl rfl)
theorem dX0_round_66 : decode cX0_round 66 = .ok (.istore 4, 2) := dk_54 4 (dk_at dksX0_round_2 19 rfl rfl)
theorem dX0_round_68 : decode cX0_round 68 = .ok (.iload 4, 2) := dk_21 4 (dk_at dksX0_round_2 21 rfl rfl)
theorem dX0_round_70 : decode cX0_round 70 = .ok (.aload_n 0, 1) := dk_42 (dk_at dksX0_round_2 23 rfl rfl)
theorem dX0_round_71 : decode cX0_round 71 = .ok (.invokevirtual 154, 3) := dk_182 0 154 (dk_at dksX0_round_3 0 rfl rfl)
theorem dX0_round_74 : decode cX0_round 74 = .ok (.if_icmp .ge 50, 3) := dk_162 0 50 (dk_at dksX0_round_3 3 rfl rfl)
theorem dX0_round_77 : decode cX0_round 77 = .ok (.aload_n 0, 1) := dk_42 (dk_at dksX0_round_3 6 rfl rfl)
theorem dX0_round_78 : decode cX0_round 78 = .ok (.getfield 94, 3) := dk_180 0 94 (dk_at dksX0_round_3 7 rfl rfl)
theorem dX0_round_81 : decode cX0_round 81 = .ok (.iload_n 3, 1) := dk_29 (dk_at dksX0_round_3 10 rfl rfl)
theorem dX0_round_82 : decode cX0_round 82 = .ok (.aaload, 1) := dk_50 (dk_at dksX0_round_3 11 rfl rfl)
theorem dX0_round_83 : decode cX0_round 83 = .ok (.iload 4, 2) := dk_21 4 (dk_at dksX0_round_3 12 rfl rfl)
theorem dX0_round_85 : decode cX0_round 85 = .ok (.iload_n 3, 1) := dk_29 (dk_at dksX0_round_3 14 rfl rfl)
theorem dX0_round_86 : decode cX0_round 86 = .ok (.iconst 1, 1) := dk_4 (dk_at dksX0_round_3 15 rfl rfl)
theorem dX0_round_87 : decode cX0_round 87 = .ok (.aload_n 0, 1) := dk_42 (dk_at dksX0_round_3 16 rfl rfl)
theorem dX0_round_88 : decode cX0_round 88 = .ok (.getfield 51, 3) := dk_180 0 51 (dk_at dksX0_round_3 17 rfl rfl)
theorem dX0_round_91 : decode cX0_round 91 = .ok (.getfield 194, 3) := dk_180 0 194 (dk_at dksX0_round_3 20 rfl rfl)
theorem dX0_round_94 : decode cX0_round 94 = .ok (.ishl, 1) := dk_120 (dk_at dksX0_round_3 23 rfl rfl)
theorem dX0_round_95 : decode cX0_round 95 = .ok (.if_icmp .ne 19, 3) := dk_160 0 19 (dk_at dksX0_round_4 0 rfl rfl)
theorem dX0_round_98 : decode cX0_round 98 = .ok (.iload 4, 2) := dk_21 4 (dk_at dksX0_round_4 3 rfl rfl)
theorem dX0_round_100 : decode cX0_round 100 = .ok (.aload_n 0, 1) := dk_42 (dk_at dksX0_round_4 5 rfl rfl)
theorem dX0_round_101 : decode cX0_round 101 = .ok (.getfield 51, 3) := dk_180 0 51 (dk_at dksX0_round_4 6 rfl rfl)
theorem dX0_round_104 : decode cX0_round 104 = .ok (.getfield 194, 3) := dk_180 0 194 (dk_at dksX0_round_4 9 rfl rfl)
theorem dX0_round_107 : decode cX0_round 107 = .ok (.if_icmp .ne 7, 3) := dk_160 0 7 (dk_at dksX0_round_4 12 rfl rfl)
theorem dX0_round_110 : decode cX0_round 110 = .ok (.iconst 0, 1) := dk_3 (dk_at dksX0_round_4 15 rfl rfl)
theorem dX0_round_111 : decode cX0_round 111 = .ok (.goto 6, 3) := dk_167 0 6 (dk_at dksX0_round_4 16 rfl rfl)
theorem dX0_round_114 : decode cX0_round 114 = .ok (.ldc_w 305, 3) := dk_19 1 49 (dk_at dksX0_round_4 19 rfl rfl)
theorem dX0_round_117 : decode cX0_round 117 = .ok (.iastore, 1) := dk_79 (dk_at dksX0_round_4 22 rfl rfl)
theorem dX0_round_118 : decode cX0_round 118 = .ok (.iinc 4 1, 3) := dk_132 4 1 (dk_at dksX0_round_5 0 rfl rfl)
theorem dX0_round_121 : decode cX0_round 121 = .ok (.goto (-53), 3) := dk_167 255 203 (dk_at dksX0_round_5 3 rfl rfl)
theorem dX0_round_124 : decode cX0_round 124 = .ok (.iinc 3 1, 3) := dk_132 3 1 (dk_at dksX0_round_5 6 rfl rfl)
theorem dX0_round_127 : decode cX0_round 127 = .ok (.goto (-72), 3) := dk_167 255 184 (dk_at dksX0_round_5 9 rfl rfl)
theorem dX0_round_130 : decode cX0_round 130 = .ok (.iconst 1, 1) := dk_4 (dk_at dksX0_round_5 12 rfl rfl)
theorem dX0_round_131 : decode cX0_round 131 = .ok (.istore_n 3, 1) := dk_62 (dk_at dksX0_round_5 13 rfl rfl)
theorem dX0_round_132 : decode cX0_round 132 = .ok (.iload_n 3, 1) := dk_29 (dk_at dksX0_round_5 14 rfl rfl)
theorem dX0_round_133 : decode cX0_round 133 = .ok (.iconst 1, 1) := dk_4 (dk_at dksX0_round_5 15 rfl rfl)
theorem dX0_round_134 : decode cX0_round 134 = .ok (.aload_n 0, 1) := dk_42 (dk_at dksX0_round_5 16 rfl rfl)
theorem dX0_round_135 : decode cX0_round 135 = .ok (.invokevirtual 154, 3) := dk_182 0 154 (dk_at dksX0_round_5 17 rfl rfl)
theorem dX0_round_138 : decode cX0_round 138 = .ok (.ishl, 1) := dk_120 (dk_at dksX0_round_5 20 rfl rfl)
theorem dX0_round_139 : decode cX0_round 139 = .ok (.if_icmp .ge 91, 3) := dk_162 0 91 (dk_at dksX0_round_5 21 rfl rfl)
theorem dX0_round_142 : decode cX0_round 142 = .ok (.iconst 0, 1) := dk_3 (dk_at dksX0_round_6 0 rfl rfl)
theorem dX0_round_143 : decode cX0_round 143 = .ok (.istore 4, 2) := dk_54 4 (dk_at dksX0_round_6 1 rfl rfl)
theorem dX0_round_145 : decode cX0_round 145 = .ok (.iload 4, 2) := dk_21 4 (dk_at dksX0_round_6 3 rfl rfl)
theorem dX0_round_147 : decode cX0_round 147 = .ok (.aload_n 0, 1) := dk_42 (dk_at dksX0_round_6 5 rfl rfl)
theorem dX0_round_148 : decode cX0_round 148 = .ok (.invokevirtual 154, 3) := dk_182 0 154 (dk_at dksX0_round_6 6 rfl rfl)
theorem dX0_round_151 : decode cX0_round 151 = .ok (.if_icmp .ge 34, 3) := dk_162 0 34 (dk_at dksX0_round_6 9 rfl rfl)
theorem dX0_round_154 : decode cX0_round 154 = .ok (.iconst 0, 1) := dk_3 (dk_at dksX0_round_6 12 rfl rfl)
theorem dX0_round_155 : decode cX0_round 155 = .ok (.istore 5, 2) := dk_54 5 (dk_at dksX0_round_6 13 rfl rfl)
theorem dX0_round_157 : decode cX0_round 157 = .ok (.iload 5, 2) := dk_21 5 (dk_at dksX0_round_6 15 rfl rfl)
theorem dX0_round_159 : decode cX0_round 159 = .ok (.aload_n 0, 1) := dk_42 (dk_at dksX0_round_6 17 rfl rfl)
theorem dX0_round_160 : decode cX0_round 160 = .ok (.invokevirtual 160, 3) := dk_182 0 160 (dk_at dksX0_round_6 18 rfl rfl)
theorem dX0_round_163 : decode cX0_round 163 = .ok (.if_icmp .ge 16, 3) := dk_162 0 16 (dk_at dksX0_round_6 21 rfl rfl)
theorem dX0_round_166 : decode cX0_round 166 = .ok (.aload_n 0, 1) := dk_42 (dk_at dksX0_round_7 0 rfl rfl)
theorem dX0_round_167 : decode cX0_round 167 = .ok (.iload_n 3, 1) := dk_29 (dk_at dksX0_round_7 1 rfl rfl)
theorem dX0_round_168 : decode cX0_round 168 = .ok (.iload 5, 2) := dk_21 5 (dk_at dksX0_round_7 2 rfl rfl)
theorem dX0_round_170 : decode cX0_round 170 = .ok (.invokevirtual 318, 3) := dk_182 1 62 (dk_at dksX0_round_7 4 rfl rfl)
theorem dX0_round_173 : decode cX0_round 173 = .ok (.iinc 5 1, 3) := dk_132 5 1 (dk_at dksX0_round_7 7 rfl rfl)
theorem dX0_round_176 : decode cX0_round 176 = .ok (.goto (-19), 3) := dk_167 255 237 (dk_at dksX0_round_7 10 rfl rfl)
theorem dX0_round_179 : decode cX0_round 179 = .ok (.iinc 4 1, 3) := dk_132 4 1 (dk_at dksX0_round_7 13 rfl rfl)
theorem dX0_round_182 : decode cX0_round 182 = .ok (.goto (-37), 3) := dk_167 255 219 (dk_at dksX0_round_7 16 rfl rfl)
theorem dX0_round_185 : decode cX0_round 185 = .ok (.iconst 0, 1) := dk_3 (dk_at dksX0_round_7 19 rfl rfl)
theorem dX0_round_186 : decode cX0_round 186 = .ok (.istore 4, 2) := dk_54 4 (dk_at dksX0_round_7 20 rfl rfl)
theorem dX0_round_188 : decode cX0_round 188 = .ok (.iload 4, 2) := dk_21 4 (dk_at dksX0_round_7 22 rfl rfl)
theorem dX0_round_190 : decode cX0_round 190 = .ok (.aload_n 0, 1) := dk_42 (dk_at dksX0_round_8 0 rfl rfl)
theorem dX0_round_191 : decode cX0_round 191 = .ok (.invokevirtual 154, 3) := dk_182 0 154 (dk_at dksX0_round_8 1 rfl rfl)
theorem dX0_round_194 : decode cX0_round 194 = .ok (.if_icmp .ge 30, 3) := dk_162 0 30 (dk_at dksX0_round_8 4 rfl rfl)
theorem dX0_round_197 : decode cX0_round 197 = .ok (.iload_n 3, 1) := dk_29 (dk_at dksX0_round_8 7 rfl rfl)
theorem dX0_round_198 : decode cX0_round 198 = .ok (.iload_n 1, 1) := dk_27 (dk_at dksX0_round_8 8 rfl rfl)
theorem dX0_round_199 : decode cX0_round 199 = .ok (.iand, 1) := dk_126 (dk_at dksX0_round_8 9 rfl rfl)
theorem dX0_round_200 : decode cX0_round 200 = .ok (.iload_n 1, 1) := dk_27 (dk_at dksX0_round_8 10 rfl rfl)
theorem dX0_round_201 : decode cX0_round 201 = .ok (.if_icmp .ne 23, 3) := dk_160 0 23 (dk_at dksX0_round_8 11 rfl rfl)
theorem dX0_round_204 : decode cX0_round 204 = .ok (.iload_n 2, 1) := dk_28 (dk_at dksX0_round_8 14 rfl rfl)
theorem dX0_round_205 : decode cX0_round 205 = .ok (.aload_n 0, 1) := dk_42 (dk_at dksX0_round_8 15 rfl rfl)
theorem dX0_round_206 : decode cX0_round 206 = .ok (.getfield 94, 3) := dk_180 0 94 (dk_at dksX0_round_8 16 rfl rfl)
theorem dX0_round_209 : decode cX0_round 209 = .ok (.iload_n 3, 1) := dk_29 (dk_at dksX0_round_8 19 rfl rfl)
theorem dX0_round_210 : decode cX0_round 210 = .ok (.aaload, 1) := dk_50 (dk_at dksX0_round_8 20 rfl rfl)
theorem dX0_round_211 : decode cX0_round 211 = .ok (.iload 4, 2) := dk_21 4 (dk_at dksX0_round_8 21 rfl rfl)
theorem dX0_round_213 : decode cX0_round 213 = .ok (.iaload, 1) := dk_46 (dk_at dksX0_round_8 23 rfl rfl)
theorem dX0_round_214 : decode cX0_round 214 = .ok (.invokestatic 266, 3) := dk_184 1 10 (dk_at dksX0_round_9 0 rfl rfl)
theorem dX0_round_217 : decode cX0_round 217 = .ok (.istore_n 2, 1) := dk_61 (dk_at dksX0_round_9 3 rfl rfl)
theorem dX0_round_218 : decode cX0_round 218 = .ok (.iinc 4 1, 3) := dk_132 4 1 (dk_at dksX0_round_9 4 rfl rfl)
theorem dX0_round_221 : decode cX0_round 221 = .ok (.goto (-33), 3) := dk_167 255 223 (dk_at dksX0_round_9 7 rfl rfl)
theorem dX0_round_224 : decode cX0_round 224 = .ok (.iinc 3 1, 3) := dk_132 3 1 (dk_at dksX0_round_9 10 rfl rfl)
theorem dX0_round_227 : decode cX0_round 227 = .ok (.goto (-95), 3) := dk_167 255 161 (dk_at dksX0_round_9 13 rfl rfl)
theorem dX0_round_230 : decode cX0_round 230 = .ok (.iload_n 2, 1) := dk_28 (dk_at dksX0_round_9 16 rfl rfl)
theorem dX0_round_231 : decode cX0_round 231 = .ok (.ldc_w 305, 3) := dk_19 1 49 (dk_at dksX0_round_9 17 rfl rfl)
theorem dX0_round_234 : decode cX0_round 234 = .ok (.if_icmp .lt 8, 3) := dk_161 0 8 (dk_at dksX0_round_9 20 rfl rfl)
theorem dX0_round_237 : decode cX0_round 237 = .ok (.bipush (-2), 2) := dk_16 254 (dk_at dksX0_round_10 0 rfl rfl)
theorem dX0_round_239 : decode cX0_round 239 = .ok (.goto 4, 3) := dk_167 0 4 (dk_at dksX0_round_10 2 rfl rfl)
theorem dX0_round_242 : decode cX0_round 242 = .ok (.iload_n 2, 1) := dk_28 (dk_at dksX0_round_10 5 rfl rfl)
theorem dX0_round_243 : decode cX0_round 243 = .ok (.ireturn, 1) := dk_172 (dk_at dksX0_round_10 6 rfl rfl)
abbrev cX0_laysFew : ByteArray := prog_1_method_45_code
def yX0_laysFew : MethodName := ⟨RX0, "laysFew", "(II)V"⟩
def dkwX0_laysFew_6 : List UInt8 := [50, 29, 46, 184, 1, 10, 96, 184, 1, 10, 79, 177]
abbrev dktX0_laysFew_6 : List UInt8 := dkwX0_laysFew_6 ++ []
def dkwX0_laysFew_5 : List UInt8 := [21, 4, 46, 4, 42, 180, 0, 94, 27, 50, 29, 46, 42, 180, 0, 94, 27, 4, 21, 4, 120, 2, 130, 126]
abbrev dktX0_laysFew_5 : List UInt8 := dkwX0_laysFew_5 ++ dktX0_laysFew_6
def dkwX0_laysFew_4 : List UInt8 := [46, 184, 1, 10, 96, 184, 1, 10, 79, 42, 180, 0, 94, 27, 50, 21, 4, 42, 180, 0, 94, 27, 50]
abbrev dktX0_laysFew_4 : List UInt8 := dkwX0_laysFew_4 ++ dktX0_laysFew_5
def dkwX0_laysFew_3 : List UInt8 := [4, 42, 180, 0, 94, 27, 50, 21, 4, 46, 42, 180, 0, 94, 27, 4, 29, 120, 2, 130, 126, 50, 21, 4]
abbrev dktX0_laysFew_3 : List UInt8 := dkwX0_laysFew_3 ++ dktX0_laysFew_4
def dkwX0_laysFew_2 : List UInt8 := [21, 4, 122, 4, 126, 154, 0, 4, 177, 42, 180, 0, 94, 27, 50, 29, 42, 180, 0, 94, 27, 50, 29, 46]
abbrev dktX0_laysFew_2 : List UInt8 := dkwX0_laysFew_2 ++ dktX0_laysFew_3
def dkwX0_laysFew_1 : List UInt8 := [180, 0, 145, 28, 182, 0, 178, 192, 0, 182, 180, 0, 207, 54, 4, 27, 29, 122, 4, 126, 153, 0, 12, 27]
abbrev dktX0_laysFew_1 : List UInt8 := dkwX0_laysFew_1 ++ dktX0_laysFew_2
def dkwX0_laysFew_0 : List UInt8 := [42, 180, 0, 40, 180, 0, 145, 28, 182, 0, 178, 192, 0, 182, 180, 0, 204, 62, 42, 180, 0, 40]
abbrev dktX0_laysFew_0 : List UInt8 := dkwX0_laysFew_0 ++ dktX0_laysFew_1
theorem dksX0_laysFew_0 : cX0_laysFew.data.toList.drop 0 = dktX0_laysFew_0 := by decide +kernel
theorem dksX0_laysFew_1 : cX0_laysFew.data.toList.drop 22 = dktX0_laysFew_1 := dk_seg dksX0_laysFew_0 22 rfl rfl
theorem dksX0_laysFew_2 : cX0_laysFew.data.toList.drop 46 = dktX0_laysFew_2 := dk_seg dksX0_laysFew_1 24 rfl rfl
theorem dksX0_laysFew_3 : cX0_laysFew.data.toList.drop 70 = dktX0_laysFew_3 := dk_seg dksX0_laysFew_2 24 rfl rfl
theorem dksX0_laysFew_4 : cX0_laysFew.data.toList.drop 94 = dktX0_laysFew_4 := dk_seg dksX0_laysFew_3 24 rfl rfl
theorem dksX0_laysFew_5 : cX0_laysFew.data.toList.drop 117 = dktX0_laysFew_5 := dk_seg dksX0_laysFew_4 23 rfl rfl
theorem dksX0_laysFew_6 : cX0_laysFew.data.toList.drop 141 = dktX0_laysFew_6 := dk_seg dksX0_laysFew_5 24 rfl rfl
theorem dX0_laysFew_0 : decode cX0_laysFew 0 = .ok (.aload_n 0, 1) := dk_42 (dk_at dksX0_laysFew_0 0 rfl rfl)
theorem dX0_laysFew_1 : decode cX0_laysFew 1 = .ok (.getfield 40, 3) := dk_180 0 40 (dk_at dksX0_laysFew_0 1 rfl rfl)
theorem dX0_laysFew_4 : decode cX0_laysFew 4 = .ok (.getfield 145, 3) := dk_180 0 145 (dk_at dksX0_laysFew_0 4 rfl rfl)
theorem dX0_laysFew_7 : decode cX0_laysFew 7 = .ok (.iload_n 2, 1) := dk_28 (dk_at dksX0_laysFew_0 7 rfl rfl)
theorem dX0_laysFew_8 : decode cX0_laysFew 8 = .ok (.invokevirtual 178, 3) := dk_182 0 178 (dk_at dksX0_laysFew_0 8 rfl rfl)
theorem dX0_laysFew_11 : decode cX0_laysFew 11 = .ok (.checkcast 182, 3) := dk_192 0 182 (dk_at dksX0_laysFew_0 11 rfl rfl)
theorem dX0_laysFew_14 : decode cX0_laysFew 14 = .ok (.getfield 204, 3) := dk_180 0 204 (dk_at dksX0_laysFew_0 14 rfl rfl)
theorem dX0_laysFew_17 : decode cX0_laysFew 17 = .ok (.istore_n 3, 1) := dk_62 (dk_at dksX0_laysFew_0 17 rfl rfl)
theorem dX0_laysFew_18 : decode cX0_laysFew 18 = .ok (.aload_n 0, 1) := dk_42 (dk_at dksX0_laysFew_0 18 rfl rfl)
theorem dX0_laysFew_19 : decode cX0_laysFew 19 = .ok (.getfield 40, 3) := dk_180 0 40 (dk_at dksX0_laysFew_0 19 rfl rfl)
theorem dX0_laysFew_22 : decode cX0_laysFew 22 = .ok (.getfield 145, 3) := dk_180 0 145 (dk_at dksX0_laysFew_1 0 rfl rfl)
theorem dX0_laysFew_25 : decode cX0_laysFew 25 = .ok (.iload_n 2, 1) := dk_28 (dk_at dksX0_laysFew_1 3 rfl rfl)
theorem dX0_laysFew_26 : decode cX0_laysFew 26 = .ok (.invokevirtual 178, 3) := dk_182 0 178 (dk_at dksX0_laysFew_1 4 rfl rfl)
theorem dX0_laysFew_29 : decode cX0_laysFew 29 = .ok (.checkcast 182, 3) := dk_192 0 182 (dk_at dksX0_laysFew_1 7 rfl rfl)
theorem dX0_laysFew_32 : decode cX0_laysFew 32 = .ok (.getfield 207, 3) := dk_180 0 207 (dk_at dksX0_laysFew_1 10 rfl rfl)
theorem dX0_laysFew_35 : decode cX0_laysFew 35 = .ok (.istore 4, 2) := dk_54 4 (dk_at dksX0_laysFew_1 13 rfl rfl)
theorem dX0_laysFew_37 : decode cX0_laysFew 37 = .ok (.iload_n 1, 1) := dk_27 (dk_at dksX0_laysFew_1 15 rfl rfl)
theorem dX0_laysFew_38 : decode cX0_laysFew 38 = .ok (.iload_n 3, 1) := dk_29 (dk_at dksX0_laysFew_1 16 rfl rfl)
theorem dX0_laysFew_39 : decode cX0_laysFew 39 = .ok (.ishr, 1) := dk_122 (dk_at dksX0_laysFew_1 17 rfl rfl)
theorem dX0_laysFew_40 : decode cX0_laysFew 40 = .ok (.iconst 1, 1) := dk_4 (dk_at dksX0_laysFew_1 18 rfl rfl)
theorem dX0_laysFew_41 : decode cX0_laysFew 41 = .ok (.iand, 1) := dk_126 (dk_at dksX0_laysFew_1 19 rfl rfl)
theorem dX0_laysFew_42 : decode cX0_laysFew 42 = .ok (.ifCond .eq 12, 3) := dk_153 0 12 (dk_at dksX0_laysFew_1 20 rfl rfl)
theorem dX0_laysFew_45 : decode cX0_laysFew 45 = .ok (.iload_n 1, 1) := dk_27 (dk_at dksX0_laysFew_1 23 rfl rfl)
theorem dX0_laysFew_46 : decode cX0_laysFew 46 = .ok (.iload 4, 2) := dk_21 4 (dk_at dksX0_laysFew_2 0 rfl rfl)
theorem dX0_laysFew_48 : decode cX0_laysFew 48 = .ok (.ishr, 1) := dk_122 (dk_at dksX0_laysFew_2 2 rfl rfl)
theorem dX0_laysFew_49 : decode cX0_laysFew 49 = .ok (.iconst 1, 1) := dk_4 (dk_at dksX0_laysFew_2 3 rfl rfl)
theorem dX0_laysFew_50 : decode cX0_laysFew 50 = .ok (.iand, 1) := dk_126 (dk_at dksX0_laysFew_2 4 rfl rfl)
theorem dX0_laysFew_51 : decode cX0_laysFew 51 = .ok (.ifCond .ne 4, 3) := dk_154 0 4 (dk_at dksX0_laysFew_2 5 rfl rfl)
theorem dX0_laysFew_54 : decode cX0_laysFew 54 = .ok (.return_, 1) := dk_177 (dk_at dksX0_laysFew_2 8 rfl rfl)
theorem dX0_laysFew_55 : decode cX0_laysFew 55 = .ok (.aload_n 0, 1) := dk_42 (dk_at dksX0_laysFew_2 9 rfl rfl)
theorem dX0_laysFew_56 : decode cX0_laysFew 56 = .ok (.getfield 94, 3) := dk_180 0 94 (dk_at dksX0_laysFew_2 10 rfl rfl)
theorem dX0_laysFew_59 : decode cX0_laysFew 59 = .ok (.iload_n 1, 1) := dk_27 (dk_at dksX0_laysFew_2 13 rfl rfl)
theorem dX0_laysFew_60 : decode cX0_laysFew 60 = .ok (.aaload, 1) := dk_50 (dk_at dksX0_laysFew_2 14 rfl rfl)
theorem dX0_laysFew_61 : decode cX0_laysFew 61 = .ok (.iload_n 3, 1) := dk_29 (dk_at dksX0_laysFew_2 15 rfl rfl)
theorem dX0_laysFew_62 : decode cX0_laysFew 62 = .ok (.aload_n 0, 1) := dk_42 (dk_at dksX0_laysFew_2 16 rfl rfl)
theorem dX0_laysFew_63 : decode cX0_laysFew 63 = .ok (.getfield 94, 3) := dk_180 0 94 (dk_at dksX0_laysFew_2 17 rfl rfl)
theorem dX0_laysFew_66 : decode cX0_laysFew 66 = .ok (.iload_n 1, 1) := dk_27 (dk_at dksX0_laysFew_2 20 rfl rfl)
theorem dX0_laysFew_67 : decode cX0_laysFew 67 = .ok (.aaload, 1) := dk_50 (dk_at dksX0_laysFew_2 21 rfl rfl)
theorem dX0_laysFew_68 : decode cX0_laysFew 68 = .ok (.iload_n 3, 1) := dk_29 (dk_at dksX0_laysFew_2 22 rfl rfl)
theorem dX0_laysFew_69 : decode cX0_laysFew 69 = .ok (.iaload, 1) := dk_46 (dk_at dksX0_laysFew_2 23 rfl rfl)
theorem dX0_laysFew_70 : decode cX0_laysFew 70 = .ok (.iconst 1, 1) := dk_4 (dk_at dksX0_laysFew_3 0 rfl rfl)
theorem dX0_laysFew_71 : decode cX0_laysFew 71 = .ok (.aload_n 0, 1) := dk_42 (dk_at dksX0_laysFew_3 1 rfl rfl)
theorem dX0_laysFew_72 : decode cX0_laysFew 72 = .ok (.getfield 94, 3) := dk_180 0 94 (dk_at dksX0_laysFew_3 2 rfl rfl)
theorem dX0_laysFew_75 : decode cX0_laysFew 75 = .ok (.iload_n 1, 1) := dk_27 (dk_at dksX0_laysFew_3 5 rfl rfl)
theorem dX0_laysFew_76 : decode cX0_laysFew 76 = .ok (.aaload, 1) := dk_50 (dk_at dksX0_laysFew_3 6 rfl rfl)
theorem dX0_laysFew_77 : decode cX0_laysFew 77 = .ok (.iload 4, 2) := dk_21 4 (dk_at dksX0_laysFew_3 7 rfl rfl)
theorem dX0_laysFew_79 : decode cX0_laysFew 79 = .ok (.iaload, 1) := dk_46 (dk_at dksX0_laysFew_3 9 rfl rfl)
theorem dX0_laysFew_80 : decode cX0_laysFew 80 = .ok (.aload_n 0, 1) := dk_42 (dk_at dksX0_laysFew_3 10 rfl rfl)
theorem dX0_laysFew_81 : decode cX0_laysFew 81 = .ok (.getfield 94, 3) := dk_180 0 94 (dk_at dksX0_laysFew_3 11 rfl rfl)
theorem dX0_laysFew_84 : decode cX0_laysFew 84 = .ok (.iload_n 1, 1) := dk_27 (dk_at dksX0_laysFew_3 14 rfl rfl)
theorem dX0_laysFew_85 : decode cX0_laysFew 85 = .ok (.iconst 1, 1) := dk_4 (dk_at dksX0_laysFew_3 15 rfl rfl)
theorem dX0_laysFew_86 : decode cX0_laysFew 86 = .ok (.iload_n 3, 1) := dk_29 (dk_at dksX0_laysFew_3 16 rfl rfl)
theorem dX0_laysFew_87 : decode cX0_laysFew 87 = .ok (.ishl, 1) := dk_120 (dk_at dksX0_laysFew_3 17 rfl rfl)
theorem dX0_laysFew_88 : decode cX0_laysFew 88 = .ok (.iconst (-1), 1) := dk_2 (dk_at dksX0_laysFew_3 18 rfl rfl)
theorem dX0_laysFew_89 : decode cX0_laysFew 89 = .ok (.ixor, 1) := dk_130 (dk_at dksX0_laysFew_3 19 rfl rfl)
theorem dX0_laysFew_90 : decode cX0_laysFew 90 = .ok (.iand, 1) := dk_126 (dk_at dksX0_laysFew_3 20 rfl rfl)
theorem dX0_laysFew_91 : decode cX0_laysFew 91 = .ok (.aaload, 1) := dk_50 (dk_at dksX0_laysFew_3 21 rfl rfl)
theorem dX0_laysFew_92 : decode cX0_laysFew 92 = .ok (.iload 4, 2) := dk_21 4 (dk_at dksX0_laysFew_3 22 rfl rfl)
theorem dX0_laysFew_94 : decode cX0_laysFew 94 = .ok (.iaload, 1) := dk_46 (dk_at dksX0_laysFew_4 0 rfl rfl)
theorem dX0_laysFew_95 : decode cX0_laysFew 95 = .ok (.invokestatic 266, 3) := dk_184 1 10 (dk_at dksX0_laysFew_4 1 rfl rfl)
theorem dX0_laysFew_98 : decode cX0_laysFew 98 = .ok (.iadd, 1) := dk_96 (dk_at dksX0_laysFew_4 4 rfl rfl)
theorem dX0_laysFew_99 : decode cX0_laysFew 99 = .ok (.invokestatic 266, 3) := dk_184 1 10 (dk_at dksX0_laysFew_4 5 rfl rfl)
theorem dX0_laysFew_102 : decode cX0_laysFew 102 = .ok (.iastore, 1) := dk_79 (dk_at dksX0_laysFew_4 8 rfl rfl)
theorem dX0_laysFew_103 : decode cX0_laysFew 103 = .ok (.aload_n 0, 1) := dk_42 (dk_at dksX0_laysFew_4 9 rfl rfl)
theorem dX0_laysFew_104 : decode cX0_laysFew 104 = .ok (.getfield 94, 3) := dk_180 0 94 (dk_at dksX0_laysFew_4 10 rfl rfl)
theorem dX0_laysFew_107 : decode cX0_laysFew 107 = .ok (.iload_n 1, 1) := dk_27 (dk_at dksX0_laysFew_4 13 rfl rfl)
theorem dX0_laysFew_108 : decode cX0_laysFew 108 = .ok (.aaload, 1) := dk_50 (dk_at dksX0_laysFew_4 14 rfl rfl)
theorem dX0_laysFew_109 : decode cX0_laysFew 109 = .ok (.iload 4, 2) := dk_21 4 (dk_at dksX0_laysFew_4 15 rfl rfl)
theorem dX0_laysFew_111 : decode cX0_laysFew 111 = .ok (.aload_n 0, 1) := dk_42 (dk_at dksX0_laysFew_4 17 rfl rfl)
theorem dX0_laysFew_112 : decode cX0_laysFew 112 = .ok (.getfield 94, 3) := dk_180 0 94 (dk_at dksX0_laysFew_4 18 rfl rfl)
theorem dX0_laysFew_115 : decode cX0_laysFew 115 = .ok (.iload_n 1, 1) := dk_27 (dk_at dksX0_laysFew_4 21 rfl rfl)
theorem dX0_laysFew_116 : decode cX0_laysFew 116 = .ok (.aaload, 1) := dk_50 (dk_at dksX0_laysFew_4 22 rfl rfl)
theorem dX0_laysFew_117 : decode cX0_laysFew 117 = .ok (.iload 4, 2) := dk_21 4 (dk_at dksX0_laysFew_5 0 rfl rfl)
theorem dX0_laysFew_119 : decode cX0_laysFew 119 = .ok (.iaload, 1) := dk_46 (dk_at dksX0_laysFew_5 2 rfl rfl)
theorem dX0_laysFew_120 : decode cX0_laysFew 120 = .ok (.iconst 1, 1) := dk_4 (dk_at dksX0_laysFew_5 3 rfl rfl)
theorem dX0_laysFew_121 : decode cX0_laysFew 121 = .ok (.aload_n 0, 1) := dk_42 (dk_at dksX0_laysFew_5 4 rfl rfl)
theorem dX0_laysFew_122 : decode cX0_laysFew 122 = .ok (.getfield 94, 3) := dk_180 0 94 (dk_at dksX0_laysFew_5 5 rfl rfl)
theorem dX0_laysFew_125 : decode cX0_laysFew 125 = .ok (.iload_n 1, 1) := dk_27 (dk_at dksX0_laysFew_5 8 rfl rfl)
theorem dX0_laysFew_126 : decode cX0_laysFew 126 = .ok (.aaload, 1) := dk_50 (dk_at dksX0_laysFew_5 9 rfl rfl)
theorem dX0_laysFew_127 : decode cX0_laysFew 127 = .ok (.iload_n 3, 1) := dk_29 (dk_at dksX0_laysFew_5 10 rfl rfl)
theorem dX0_laysFew_128 : decode cX0_laysFew 128 = .ok (.iaload, 1) := dk_46 (dk_at dksX0_laysFew_5 11 rfl rfl)
theorem dX0_laysFew_129 : decode cX0_laysFew 129 = .ok (.aload_n 0, 1) := dk_42 (dk_at dksX0_laysFew_5 12 rfl rfl)
theorem dX0_laysFew_130 : decode cX0_laysFew 130 = .ok (.getfield 94, 3) := dk_180 0 94 (dk_at dksX0_laysFew_5 13 rfl rfl)
theorem dX0_laysFew_133 : decode cX0_laysFew 133 = .ok (.iload_n 1, 1) := dk_27 (dk_at dksX0_laysFew_5 16 rfl rfl)
theorem dX0_laysFew_134 : decode cX0_laysFew 134 = .ok (.iconst 1, 1) := dk_4 (dk_at dksX0_laysFew_5 17 rfl rfl)
theorem dX0_laysFew_135 : decode cX0_laysFew 135 = .ok (.iload 4, 2) := dk_21 4 (dk_at dksX0_laysFew_5 18 rfl rfl)
theorem dX0_laysFew_137 : decode cX0_laysFew 137 = .ok (.ishl, 1) := dk_120 (dk_at dksX0_laysFew_5 20 rfl rfl)
theorem dX0_laysFew_138 : decode cX0_laysFew 138 = .ok (.iconst (-1), 1) := dk_2 (dk_at dksX0_laysFew_5 21 rfl rfl)
theorem dX0_laysFew_139 : decode cX0_laysFew 139 = .ok (.ixor, 1) := dk_130 (dk_at dksX0_laysFew_5 22 rfl rfl)
theorem dX0_laysFew_140 : decode cX0_laysFew 140 = .ok (.iand, 1) := dk_126 (dk_at dksX0_laysFew_5 23 rfl rfl)
theorem dX0_laysFew_141 : decode cX0_laysFew 141 = .ok (.aaload, 1) := dk_50 (dk_at dksX0_laysFew_6 0 rfl rfl)
theorem dX0_laysFew_142 : decode cX0_laysFew 142 = .ok (.iload_n 3, 1) := dk_29 (dk_at dksX0_laysFew_6 1 rfl rfl)
theorem dX0_laysFew_143 : decode cX0_laysFew 143 = .ok (.iaload, 1) := dk_46 (dk_at dksX0_laysFew_6 2 rfl rfl)
theorem dX0_laysFew_144 : decode cX0_laysFew 144 = .ok (.invokestatic 266, 3) := dk_184 1 10 (dk_at dksX0_laysFew_6 3 rfl rfl)
theorem dX0_laysFew_147 : decode cX0_laysFew 147 = .ok (.iadd, 1) := dk_96 (dk_at dksX0_laysFew_6 6 rfl rfl)
theorem dX0_laysFew_148 : decode cX0_laysFew 148 = .ok (.invokestatic 266, 3) := dk_184 1 10 (dk_at dksX0_laysFew_6 7 rfl rfl)
theorem dX0_laysFew_151 : decode cX0_laysFew 151 = .ok (.iastore, 1) := dk_79 (dk_at dksX0_laysFew_6 10 rfl rfl)
theorem dX0_laysFew_152 : decode cX0_laysFew 152 = .ok (.return_, 1) := dk_177 (dk_at dksX0_laysFew_6 11 rfl rfl)
abbrev cX0_safe : ByteArray := prog_1_method_47_code
def yX0_safe : MethodName := ⟨RX0, "safe", "(I)I"⟩
def dkwX0_safe_1 : List UInt8 := [167, 0, 4, 2, 172]
abbrev dktX0_safe_1 : List UInt8 := dkwX0_safe_1 ++ []
def dkwX0_safe_0 : List UInt8 := [42, 27, 182, 0, 175, 153, 0, 22, 42, 27, 42, 180, 0, 51, 42, 180, 0, 40, 182, 1, 58, 182, 1, 65]
abbrev dktX0_safe_0 : List UInt8 := dkwX0_safe_0 ++ dktX0_safe_1
theorem dksX0_safe_0 : cX0_safe.data.toList.drop 0 = dktX0_safe_0 := by decide +kernel
theorem dksX0_safe_1 : cX0_safe.data.toList.drop 24 = dktX0_safe_1 := dk_seg dksX0_safe_0 24 rfl rfl
theorem dX0_safe_0 : decode cX0_safe 0 = .ok (.aload_n 0, 1) := dk_42 (dk_at dksX0_safe_0 0 rfl rfl)
theorem dX0_safe_1 : decode cX0_safe 1 = .ok (.iload_n 1, 1) := dk_27 (dk_at dksX0_safe_0 1 rfl rfl)
theorem dX0_safe_2 : decode cX0_safe 2 = .ok (.invokevirtual 175, 3) := dk_182 0 175 (dk_at dksX0_safe_0 2 rfl rfl)
theorem dX0_safe_5 : decode cX0_safe 5 = .ok (.ifCond .eq 22, 3) := dk_153 0 22 (dk_at dksX0_safe_0 5 rfl rfl)
theorem dX0_safe_8 : decode cX0_safe 8 = .ok (.aload_n 0, 1) := dk_42 (dk_at dksX0_safe_0 8 rfl rfl)
theorem dX0_safe_9 : decode cX0_safe 9 = .ok (.iload_n 1, 1) := dk_27 (dk_at dksX0_safe_0 9 rfl rfl)
theorem dX0_safe_10 : decode cX0_safe 10 = .ok (.aload_n 0, 1) := dk_42 (dk_at dksX0_safe_0 10 rfl rfl)
theorem dX0_safe_11 : decode cX0_safe 11 = .ok (.getfield 51, 3) := dk_180 0 51 (dk_at dksX0_safe_0 11 rfl rfl)
theorem dX0_safe_14 : decode cX0_safe 14 = .ok (.aload_n 0, 1) := dk_42 (dk_at dksX0_safe_0 14 rfl rfl)
theorem dX0_safe_15 : decode cX0_safe 15 = .ok (.getfield 40, 3) := dk_180 0 40 (dk_at dksX0_safe_0 15 rfl rfl)
theorem dX0_safe_18 : decode cX0_safe 18 = .ok (.invokevirtual 314, 3) := dk_182 1 58 (dk_at dksX0_safe_0 18 rfl rfl)
theorem dX0_safe_21 : decode cX0_safe 21 = .ok (.invokevirtual 321, 3) := dk_182 1 65 (dk_at dksX0_safe_0 21 rfl rfl)
theorem dX0_safe_24 : decode cX0_safe 24 = .ok (.goto 4, 3) := dk_167 0 4 (dk_at dksX0_safe_1 0 rfl rfl)
theorem dX0_safe_27 : decode cX0_safe 27 = .ok (.iconst (-1), 1) := dk_2 (dk_at dksX0_safe_1 3 rfl rfl)
theorem dX0_safe_28 : decode cX0_safe 28 = .ok (.ireturn, 1) := dk_172 (dk_at dksX0_safe_1 4 rfl rfl)
abbrev cX0_reach : ByteArray := prog_1_method_46_code
def yX0_reach : MethodName := ⟨RX0, "reach", "(II)I"⟩
def dkwX0_reach_4 : List UInt8 := [62, 132, 5, 1, 167, 255, 179, 132, 4, 1, 167, 255, 161, 29, 172]
abbrev dktX0_reach_4 : List UInt8 := dkwX0_reach_4 ++ []
def dkwX0_reach_3 : List UInt8 := [128, 54, 6, 28, 21, 5, 122, 4, 126, 4, 160, 0, 15, 29, 21, 6, 126, 153, 0, 8, 29, 21, 6, 128]
abbrev dktX0_reach_3 : List UInt8 := dkwX0_reach_3 ++ dktX0_reach_4
def dkwX0_reach_2 : List UInt8 := [180, 0, 204, 120, 4, 42, 180, 0, 40, 180, 0, 145, 21, 5, 182, 0, 178, 192, 0, 182, 180, 0, 207, 120]
abbrev dktX0_reach_2 : List UInt8 := dkwX0_reach_2 ++ dktX0_reach_3
def dkwX0_reach_1 : List UInt8 := [182, 0, 160, 162, 0, 74, 4, 42, 180, 0, 40, 180, 0, 145, 21, 5, 182, 0, 178, 192, 0, 182]
abbrev dktX0_reach_1 : List UInt8 := dkwX0_reach_1 ++ dktX0_reach_2
def dkwX0_reach_0 : List UInt8 := [4, 27, 120, 62, 3, 54, 4, 21, 4, 42, 182, 0, 154, 162, 0, 92, 3, 54, 5, 21, 5, 42]
abbrev dktX0_reach_0 : List UInt8 := dkwX0_reach_0 ++ dktX0_reach_1
theorem dksX0_reach_0 : cX0_reach.data.toList.drop 0 = dktX0_reach_0 := by decide +kernel
theorem dksX0_reach_1 : cX0_reach.data.toList.drop 22 = dktX0_reach_1 := dk_seg dksX0_reach_0 22 rfl rfl
theorem dksX0_reach_2 : cX0_reach.data.toList.drop 44 = dktX0_reach_2 := dk_seg dksX0_reach_1 22 rfl rfl
theorem dksX0_reach_3 : cX0_reach.data.toList.drop 68 = dktX0_reach_3 := dk_seg dksX0_reach_2 24 rfl rfl
theorem dksX0_reach_4 : cX0_reach.data.toList.drop 92 = dktX0_reach_4 := dk_seg dksX0_reach_3 24 rfl rfl
theorem dX0_reach_0 : decode cX0_reach 0 = .ok (.iconst 1, 1) := dk_4 (dk_at dksX0_reach_0 0 rfl rfl)
theorem dX0_reach_1 : decode cX0_reach 1 = .ok (.iload_n 1, 1) := dk_27 (dk_at dksX0_reach_0 1 rfl rfl)
theorem dX0_reach_2 : decode cX0_reach 2 = .ok (.ishl, 1) := dk_120 (dk_at dksX0_reach_0 2 rfl rfl)
theorem dX0_reach_3 : decode cX0_reach 3 = .ok (.istore_n 3, 1) := dk_62 (dk_at dksX0_reach_0 3 rfl rfl)
theorem dX0_reach_4 : decode cX0_reach 4 = .ok (.iconst 0, 1) := dk_3 (dk_at dksX0_reach_0 4 rfl rfl)
theorem dX0_reach_5 : decode cX0_reach 5 = .ok (.istore 4, 2) := dk_54 4 (dk_at dksX0_reach_0 5 rfl rfl)
theorem dX0_reach_7 : decode cX0_reach 7 = .ok (.iload 4, 2) := dk_21 4 (dk_at dksX0_reach_0 7 rfl rfl)
theorem dX0_reach_9 : decode cX0_reach 9 = .ok (.aload_n 0, 1) := dk_42 (dk_at dksX0_reach_0 9 rfl rfl)
theorem dX0_reach_10 : decode cX0_reach 10 = .ok (.invokevirtual 154, 3) := dk_182 0 154 (dk_at dksX0_reach_0 10 rfl rfl)
theorem dX0_reach_13 : decode cX0_reach 13 = .ok (.if_icmp .ge 92, 3) := dk_162 0 92 (dk_at dksX0_reach_0 13 rfl rfl)
theorem dX0_reach_16 : decode cX0_reach 16 = .ok (.iconst 0, 1) := dk_3 (dk_at dksX0_reach_0 16 rfl rfl)
theorem dX0_reach_17 : decode cX0_reach 17 = .ok (.istore 5, 2) := dk_54 5 (dk_at dksX0_reach_0 17 rfl rfl)
theorem dX0_reach_19 : decode cX0_reach 19 = .ok (.iload 5, 2) := dk_21 5 (dk_at dksX0_reach_0 19 rfl rfl)
theorem dX0_reach_21 : decode cX0_reach 21 = .ok (.aload_n 0, 1) := dk_42 (dk_at dksX0_reach_0 21 rfl rfl)
theorem dX0_reach_22 : decode cX0_reach 22 = .ok (.invokevirtual 160, 3) := dk_182 0 160 (dk_at dksX0_reach_1 0 rfl rfl)
theorem dX0_reach_25 : decode cX0_reach 25 = .ok (.if_icmp .ge 74, 3) := dk_162 0 74 (dk_at dksX0_reach_1 3 rfl rfl)
theorem dX0_reach_28 : decode cX0_reach 28 = .ok (.iconst 1, 1) := dk_4 (dk_at dksX0_reach_1 6 rfl rfl)
theorem dX0_reach_29 : decode cX0_reach 29 = .ok (.aload_n 0, 1) := dk_42 (dk_at dksX0_reach_1 7 rfl rfl)
theorem dX0_reach_30 : decode cX0_reach 30 = .ok (.getfield 40, 3) := dk_180 0 40 (dk_at dksX0_reach_1 8 rfl rfl)
theorem dX0_reach_33 : decode cX0_reach 33 = .ok (.getfield 145, 3) := dk_180 0 145 (dk_at dksX0_reach_1 11 rfl rfl)
theorem dX0_reach_36 : decode cX0_reach 36 = .ok (.iload 5, 2) := dk_21 5 (dk_at dksX0_reach_1 14 rfl rfl)
theorem dX0_reach_38 : decode cX0_reach 38 = .ok (.invokevirtual 178, 3) := dk_182 0 178 (dk_at dksX0_reach_1 16 rfl rfl)
theorem dX0_reach_41 : decode cX0_reach 41 = .ok (.checkcast 182, 3) := dk_192 0 182 (dk_at dksX0_reach_1 19 rfl rfl)
theorem dX0_reach_44 : decode cX0_reach 44 = .ok (.getfield 204, 3) := dk_180 0 204 (dk_at dksX0_reach_2 0 rfl rfl)
theorem dX0_reach_47 : decode cX0_reach 47 = .ok (.ishl, 1) := dk_120 (dk_at dksX0_reach_2 3 rfl rfl)
theorem dX0_reach_48 : decode cX0_reach 48 = .ok (.iconst 1, 1) := dk_4 (dk_at dksX0_reach_2 4 rfl rfl)
theorem dX0_reach_49 : decode cX0_reach 49 = .ok (.aload_n 0, 1) := dk_42 (dk_at dksX0_reach_2 5 rfl rfl)
theorem dX0_reach_50 : decode cX0_reach 50 = .ok (.getfield 40, 3) := dk_180 0 40 (dk_at dksX0_reach_2 6 rfl rfl)
theorem dX0_reach_53 : decode cX0_reach 53 = .ok (.getfield 145, 3) := dk_180 0 145 (dk_at dksX0_reach_2 9 rfl rfl)
theorem dX0_reach_56 : decode cX0_reach 56 = .ok (.iload 5, 2) := dk_21 5 (dk_at dksX0_reach_2 12 rfl rfl)
theorem dX0_reach_58 : decode cX0_reach 58 = .ok (.invokevirtual 178, 3) := dk_182 0 178 (dk_at dksX0_reach_2 14 rfl rfl)
theorem dX0_reach_61 : decode cX0_reach 61 = .ok (.checkcast 182, 3) := dk_192 0 182 (dk_at dksX0_reach_2 17 rfl rfl)
theorem dX0_reach_64 : decode cX0_reach 64 = .ok (.getfield 207, 3) := dk_180 0 207 (dk_at dksX0_reach_2 20 rfl rfl)
theorem dX0_reach_67 : decode cX0_reach 67 = .ok (.ishl, 1) := dk_120 (dk_at dksX0_reach_2 23 rfl rfl)
theorem dX0_reach_68 : decode cX0_reach 68 = .ok (.ior, 1) := dk_128 (dk_at dksX0_reach_3 0 rfl rfl)
theorem dX0_reach_69 : decode cX0_reach 69 = .ok (.istore 6, 2) := dk_54 6 (dk_at dksX0_reach_3 1 rfl rfl)
theorem dX0_reach_71 : decode cX0_reach 71 = .ok (.iload_n 2, 1) := dk_28 (dk_at dksX0_reach_3 3 rfl rfl)
theorem dX0_reach_72 : decode cX0_reach 72 = .ok (.iload 5, 2) := dk_21 5 (dk_at dksX0_reach_3 4 rfl rfl)
theorem dX0_reach_74 : decode cX0_reach 74 = .ok (.ishr, 1) := dk_122 (dk_at dksX0_reach_3 6 rfl rfl)
theorem dX0_reach_75 : decode cX0_reach 75 = .ok (.iconst 1, 1) := dk_4 (dk_at dksX0_reach_3 7 rfl rfl)
theorem dX0_reach_76 : decode cX0_reach 76 = .ok (.iand, 1) := dk_126 (dk_at dksX0_reach_3 8 rfl rfl)
theorem dX0_reach_77 : decode cX0_reach 77 = .ok (.iconst 1, 1) := dk_4 (dk_at dksX0_reach_3 9 rfl rfl)
theorem dX0_reach_78 : decode cX0_reach 78 = .ok (.if_icmp .ne 15, 3) := dk_160 0 15 (dk_at dksX0_reach_3 10 rfl rfl)
theorem dX0_reach_81 : decode cX0_reach 81 = .ok (.iload_n 3, 1) := dk_29 (dk_at dksX0_reach_3 13 rfl rfl)
theorem dX0_reach_82 : decode cX0_reach 82 = .ok (.iload 6, 2) := dk_21 6 (dk_at dksX0_reach_3 14 rfl rfl)
theorem dX0_reach_84 : decode cX0_reach 84 = .ok (.iand, 1) := dk_126 (dk_at dksX0_reach_3 16 rfl rfl)
theorem dX0_reach_85 : decode cX0_reach 85 = .ok (.ifCond .eq 8, 3) := dk_153 0 8 (dk_at dksX0_reach_3 17 rfl rfl)
theorem dX0_reach_88 : decode cX0_reach 88 = .ok (.iload_n 3, 1) := dk_29 (dk_at dksX0_reach_3 20 rfl rfl)
theorem dX0_reach_89 : decode cX0_reach 89 = .ok (.iload 6, 2) := dk_21 6 (dk_at dksX0_reach_3 21 rfl rfl)
theorem dX0_reach_91 : decode cX0_reach 91 = .ok (.ior, 1) := dk_128 (dk_at dksX0_reach_3 23 rfl rfl)
theorem dX0_reach_92 : decode cX0_reach 92 = .ok (.istore_n 3, 1) := dk_62 (dk_at dksX0_reach_4 0 rfl rfl)
theorem dX0_reach_93 : decode cX0_reach 93 = .ok (.iinc 5 1, 3) := dk_132 5 1 (dk_at dksX0_reach_4 1 rfl rfl)
theorem dX0_reach_96 : decode cX0_reach 96 = .ok (.goto (-77), 3) := dk_167 255 179 (dk_at dksX0_reach_4 4 rfl rfl)
theorem dX0_reach_99 : decode cX0_reach 99 = .ok (.iinc 4 1, 3) := dk_132 4 1 (dk_at dksX0_reach_4 7 rfl rfl)
theorem dX0_reach_102 : decode cX0_reach 102 = .ok (.goto (-95), 3) := dk_167 255 161 (dk_at dksX0_reach_4 10 rfl rfl)
theorem dX0_reach_105 : decode cX0_reach 105 = .ok (.iload_n 3, 1) := dk_29 (dk_at dksX0_reach_4 13 rfl rfl)
theorem dX0_reach_106 : decode cX0_reach 106 = .ok (.ireturn, 1) := dk_172 (dk_at dksX0_reach_4 14 rfl rfl)
abbrev cX0_bridges : ByteArray := prog_1_method_48_code
def yX0_bridges : MethodName := ⟨RX0, "bridges", "()I"⟩
def dkwX0_bridges_3 : List UInt8 := [122, 4, 126, 154, 0, 9, 4, 29, 120, 167, 0, 4, 3, 128, 60, 132, 3, 1, 167, 255, 183, 27, 172]
abbrev dktX0_bridges_3 : List UInt8 := dkwX0_bridges_3 ++ []
def dkwX0_bridges_2 : List UInt8 := [160, 0, 36, 42, 25, 4, 180, 0, 204, 28, 4, 29, 120, 2, 130, 126, 182, 1, 65, 25, 4, 180, 0, 207]
abbrev dktX0_bridges_2 : List UInt8 := dkwX0_bridges_2 ++ dktX0_bridges_3
def dkwX0_bridges_1 : List UInt8 := [42, 180, 0, 40, 180, 0, 145, 29, 182, 0, 178, 192, 0, 182, 58, 4, 27, 28, 29, 122, 4, 126, 4]
abbrev dktX0_bridges_1 : List UInt8 := dkwX0_bridges_1 ++ dktX0_bridges_2
def dkwX0_bridges_0 : List UInt8 := [3, 60, 42, 180, 0, 51, 42, 180, 0, 40, 182, 1, 58, 61, 3, 62, 29, 42, 182, 0, 160, 162, 0, 71]
abbrev dktX0_bridges_0 : List UInt8 := dkwX0_bridges_0 ++ dktX0_bridges_1
theorem dksX0_bridges_0 : cX0_bridges.data.toList.drop 0 = dktX0_bridges_0 := by decide +kernel
theorem dksX0_bridges_1 : cX0_bridges.data.toList.drop 24 = dktX0_bridges_1 := dk_seg dksX0_bridges_0 24 rfl rfl
theorem dksX0_bridges_2 : cX0_bridges.data.toList.drop 47 = dktX0_bridges_2 := dk_seg dksX0_bridges_1 23 rfl rfl
theorem dksX0_bridges_3 : cX0_bridges.data.toList.drop 71 = dktX0_bridges_3 := dk_seg dksX0_bridges_2 24 rfl rfl
theorem dX0_bridges_0 : decode cX0_bridges 0 = .ok (.iconst 0, 1) := dk_3 (dk_at dksX0_bridges_0 0 rfl rfl)
theorem dX0_bridges_1 : decode cX0_bridges 1 = .ok (.istore_n 1, 1) := dk_60 (dk_at dksX0_bridges_0 1 rfl rfl)
theorem dX0_bridges_2 : decode cX0_bridges 2 = .ok (.aload_n 0, 1) := dk_42 (dk_at dksX0_bridges_0 2 rfl rfl)
theorem dX0_bridges_3 : decode cX0_bridges 3 = .ok (.getfield 51, 3) := dk_180 0 51 (dk_at dksX0_bridges_0 3 rfl rfl)
theorem dX0_bridges_6 : decode cX0_bridges 6 = .ok (.aload_n 0, 1) := dk_42 (dk_at dksX0_bridges_0 6 rfl rfl)
theorem dX0_bridges_7 : decode cX0_bridges 7 = .ok (.getfield 40, 3) := dk_180 0 40 (dk_at dksX0_bridges_0 7 rfl rfl)
theorem dX0_bridges_10 : decode cX0_bridges 10 = .ok (.invokevirtual 314, 3) := dk_182 1 58 (dk_at dksX0_bridges_0 10 rfl rfl)
theorem dX0_bridges_13 : decode cX0_bridges 13 = .ok (.istore_n 2, 1) := dk_61 (dk_at dksX0_bridges_0 13 rfl rfl)
theorem dX0_bridges_14 : decode cX0_bridges 14 = .ok (.iconst 0, 1) := dk_3 (dk_at dksX0_bridges_0 14 rfl rfl)
theorem dX0_bridges_15 : decode cX0_bridges 15 = .ok (.istore_n 3, 1) := dk_62 (dk_at dksX0_bridges_0 15 rfl rfl)
theorem dX0_bridges_16 : decode cX0_bridges 16 = .ok (.iload_n 3, 1) := dk_29 (dk_at dksX0_bridges_0 16 rfl rfl)
theorem dX0_bridges_17 : decode cX0_bridges 17 = .ok (.aload_n 0, 1) := dk_42 (dk_at dksX0_bridges_0 17 rfl rfl)
theorem dX0_bridges_18 : decode cX0_bridges 18 = .ok (.invokevirtual 160, 3) := dk_182 0 160 (dk_at dksX0_bridges_0 18 rfl rfl)
theorem dX0_bridges_21 : decode cX0_bridges 21 = .ok (.if_icmp .ge 71, 3) := dk_162 0 71 (dk_at dksX0_bridges_0 21 rfl rfl)
theorem dX0_bridges_24 : decode cX0_bridges 24 = .ok (.aload_n 0, 1) := dk_42 (dk_at dksX0_bridges_1 0 rfl rfl)
theorem dX0_bridges_25 : decode cX0_bridges 25 = .ok (.getfield 40, 3) := dk_180 0 40 (dk_at dksX0_bridges_1 1 rfl rfl)
theorem dX0_bridges_28 : decode cX0_bridges 28 = .ok (.getfield 145, 3) := dk_180 0 145 (dk_at dksX0_bridges_1 4 rfl rfl)
theorem dX0_bridges_31 : decode cX0_bridges 31 = .ok (.iload_n 3, 1) := dk_29 (dk_at dksX0_bridges_1 7 rfl rfl)
theorem dX0_bridges_32 : decode cX0_bridges 32 = .ok (.invokevirtual 178, 3) := dk_182 0 178 (dk_at dksX0_bridges_1 8 rfl rfl)
theorem dX0_bridges_35 : decode cX0_bridges 35 = .ok (.checkcast 182, 3) := dk_192 0 182 (dk_at dksX0_bridges_1 11 rfl rfl)
theorem dX0_bridges_38 : decode cX0_bridges 38 = .ok (.astore 4, 2) := dk_58 4 (dk_at dksX0_bridges_1 14 rfl rfl)
theorem dX0_bridges_40 : decode cX0_bridges 40 = .ok (.iload_n 1, 1) := dk_27 (dk_at dksX0_bridges_1 16 rfl rfl)
theorem dX0_bridges_41 : decode cX0_bridges 41 = .ok (.iload_n 2, 1) := dk_28 (dk_at dksX0_bridges_1 17 rfl rfl)
theorem dX0_bridges_42 : decode cX0_bridges 42 = .ok (.iload_n 3, 1) := dk_29 (dk_at dksX0_bridges_1 18 rfl rfl)
theorem dX0_bridges_43 : decode cX0_bridges 43 = .ok (.ishr, 1) := dk_122 (dk_at dksX0_bridges_1 19 rfl rfl)
theorem dX0_bridges_44 : decode cX0_bridges 44 = .ok (.iconst 1, 1) := dk_4 (dk_at dksX0_bridges_1 20 rfl rfl)
theorem dX0_bridges_45 : decode cX0_bridges 45 = .ok (.iand, 1) := dk_126 (dk_at dksX0_bridges_1 21 rfl rfl)
theorem dX0_bridges_46 : decode cX0_bridges 46 = .ok (.iconst 1, 1) := dk_4 (dk_at dksX0_bridges_1 22 rfl rfl)
theorem dX0_bridges_47 : decode cX0_bridges 47 = .ok (.if_icmp .ne 36, 3) := dk_160 0 36 (dk_at dksX0_bridges_2 0 rfl rfl)
theorem dX0_bridges_50 : decode cX0_bridges 50 = .ok (.aload_n 0, 1) := dk_42 (dk_at dksX0_bridges_2 3 rfl rfl)
theorem dX0_bridges_51 : decode cX0_bridges 51 = .ok (.aload 4, 2) := dk_25 4 (dk_at dksX0_bridges_2 4 rfl rfl)
theorem dX0_bridges_53 : decode cX0_bridges 53 = .ok (.getfield 204, 3) := dk_180 0 204 (dk_at dksX0_bridges_2 6 rfl rfl)
theorem dX0_bridges_56 : decode cX0_bridges 56 = .ok (.iload_n 2, 1) := dk_28 (dk_at dksX0_bridges_2 9 rfl rfl)
theorem dX0_bridges_57 : decode cX0_bridges 57 = .ok (.iconst 1, 1) := dk_4 (dk_at dksX0_bridges_2 10 rfl rfl)
theorem dX0_bridges_58 : decode cX0_bridges 58 = .ok (.iload_n 3, 1) := dk_29 (dk_at dksX0_bridges_2 11 rfl rfl)
theorem dX0_bridges_59 : decode cX0_bridges 59 = .ok (.ishl, 1) := dk_120 (dk_at dksX0_bridges_2 12 rfl rfl)
theorem dX0_bridges_60 : decode cX0_bridges 60 = .ok (.iconst (-1), 1) := dk_2 (dk_at dksX0_bridges_2 13 rfl rfl)
theorem dX0_bridges_61 : decode cX0_bridges 61 = .ok (.ixor, 1) := dk_130 (dk_at dksX0_bridges_2 14 rfl rfl)
theorem dX0_bridges_62 : decode cX0_bridges 62 = .ok (.iand, 1) := dk_126 (dk_at dksX0_bridges_2 15 rfl rfl)
theorem dX0_bridges_63 : decode cX0_bridges 63 = .ok (.invokevirtual 321, 3) := dk_182 1 65 (dk_at dksX0_bridges_2 16 rfl rfl)
theorem dX0_bridges_66 : decode cX0_bridges 66 = .ok (.aload 4, 2) := dk_25 4 (dk_at dksX0_bridges_2 19 rfl rfl)
theorem dX0_bridges_68 : decode cX0_bridges 68 = .ok (.getfield 207, 3) := dk_180 0 207 (dk_at dksX0_bridges_2 21 rfl rfl)
theorem dX0_bridges_71 : decode cX0_bridges 71 = .ok (.ishr, 1) := dk_122 (dk_at dksX0_bridges_3 0 rfl rfl)
theorem dX0_bridges_72 : decode cX0_bridges 72 = .ok (.iconst 1, 1) := dk_4 (dk_at dksX0_bridges_3 1 rfl rfl)
theorem dX0_bridges_73 : decode cX0_bridges 73 = .ok (.iand, 1) := dk_126 (dk_at dksX0_bridges_3 2 rfl rfl)
theorem dX0_bridges_74 : decode cX0_bridges 74 = .ok (.ifCond .ne 9, 3) := dk_154 0 9 (dk_at dksX0_bridges_3 3 rfl rfl)
theorem dX0_bridges_77 : decode cX0_bridges 77 = .ok (.iconst 1, 1) := dk_4 (dk_at dksX0_bridges_3 6 rfl rfl)
theorem dX0_bridges_78 : decode cX0_bridges 78 = .ok (.iload_n 3, 1) := dk_29 (dk_at dksX0_bridges_3 7 rfl rfl)
theorem dX0_bridges_79 : decode cX0_bridges 79 = .ok (.ishl, 1) := dk_120 (dk_at dksX0_bridges_3 8 rfl rfl)
theorem dX0_bridges_80 : decode cX0_bridges 80 = .ok (.goto 4, 3) := dk_167 0 4 (dk_at dksX0_bridges_3 9 rfl rfl)
theorem dX0_bridges_83 : decode cX0_bridges 83 = .ok (.iconst 0, 1) := dk_3 (dk_at dksX0_bridges_3 12 rfl rfl)
theorem dX0_bridges_84 : decode cX0_bridges 84 = .ok (.ior, 1) := dk_128 (dk_at dksX0_bridges_3 13 rfl rfl)
theorem dX0_bridges_85 : decode cX0_bridges 85 = .ok (.istore_n 1, 1) := dk_60 (dk_at dksX0_bridges_3 14 rfl rfl)
theorem dX0_bridges_86 : decode cX0_bridges 86 = .ok (.iinc 3 1, 3) := dk_132 3 1 (dk_at dksX0_bridges_3 15 rfl rfl)
theorem dX0_bridges_89 : decode cX0_bridges 89 = .ok (.goto (-73), 3) := dk_167 255 183 (dk_at dksX0_bridges_3 18 rfl rfl)
theorem dX0_bridges_92 : decode cX0_bridges 92 = .ok (.iload_n 1, 1) := dk_27 (dk_at dksX0_bridges_3 21 rfl rfl)
theorem dX0_bridges_93 : decode cX0_bridges 93 = .ok (.ireturn, 1) := dk_172 (dk_at dksX0_bridges_3 22 rfl rfl)
abbrev cX0_gather : ByteArray := prog_1_method_49_code
def yX0_gather : MethodName := ⟨RX0, "gather", "(I)I"⟩
def dkwX0_gather_5 : List UInt8 := [155, 0, 7, 27, 154, 0, 7, 28, 167, 0, 4, 29, 172]
abbrev dktX0_gather_5 : List UInt8 := dkwX0_gather_5 ++ []
def dkwX0_gather_4 : List UInt8 := [21, 5, 29, 161, 0, 6, 167, 0, 9, 21, 4, 61, 21, 5, 62, 132, 4, 1, 167, 255, 165, 28]
abbrev dktX0_gather_4 : List UInt8 := dkwX0_gather_4 ++ dktX0_gather_5
def dkwX0_gather_3 : List UInt8 := [42, 180, 0, 89, 42, 180, 0, 51, 180, 0, 221, 21, 6, 46, 46, 96, 54, 5, 132, 6, 1, 167, 255, 208]
abbrev dktX0_gather_3 : List UInt8 := dkwX0_gather_3 ++ dktX0_gather_4
def dkwX0_gather_2 : List UInt8 := [182, 0, 162, 162, 0, 45, 21, 5, 42, 180, 0, 51, 21, 6, 182, 0, 169, 153, 0, 7, 3, 167, 0, 18]
abbrev dktX0_gather_2 : List UInt8 := dkwX0_gather_2 ++ dktX0_gather_3
def dkwX0_gather_1 : List UInt8 := [182, 0, 154, 162, 0, 88, 3, 54, 5, 42, 21, 4, 3, 182, 1, 50, 3, 54, 6, 21, 6, 42]
abbrev dktX0_gather_1 : List UInt8 := dkwX0_gather_1 ++ dktX0_gather_2
def dkwX0_gather_0 : List UInt8 := [27, 3, 4, 184, 0, 156, 154, 0, 5, 2, 172, 16, 254, 61, 19, 1, 49, 62, 3, 54, 4, 21, 4, 42]
abbrev dktX0_gather_0 : List UInt8 := dkwX0_gather_0 ++ dktX0_gather_1
theorem dksX0_gather_0 : cX0_gather.data.toList.drop 0 = dktX0_gather_0 := by decide +kernel
theorem dksX0_gather_1 : cX0_gather.data.toList.drop 24 = dktX0_gather_1 := dk_seg dksX0_gather_0 24 rfl rfl
theorem dksX0_gather_2 : cX0_gather.data.toList.drop 46 = dktX0_gather_2 := dk_seg dksX0_gather_1 22 rfl rfl
theorem dksX0_gather_3 : cX0_gather.data.toList.drop 70 = dktX0_gather_3 := dk_seg dksX0_gather_2 24 rfl rfl
theorem dksX0_gather_4 : cX0_gather.data.toList.drop 94 = dktX0_gather_4 := dk_seg dksX0_gather_3 24 rfl rfl
theorem dksX0_gather_5 : cX0_gather.data.toList.drop 116 = dktX0_gather_5 := dk_seg dksX0_gather_4 22 rfl rfl
theorem dX0_gather_0 : decode cX0_gather 0 = .ok (.iload_n 1, 1) := dk_27 (dk_at dksX0_gather_0 0 rfl rfl)
theorem dX0_gather_1 : decode cX0_gather 1 = .ok (.iconst 0, 1) := dk_3 (dk_at dksX0_gather_0 1 rfl rfl)
theorem dX0_gather_2 : decode cX0_gather 2 = .ok (.iconst 1, 1) := dk_4 (dk_at dksX0_gather_0 2 rfl rfl)
theorem dX0_gather_3 : decode cX0_gather 3 = .ok (.invokestatic 156, 3) := dk_184 0 156 (dk_at dksX0_gather_0 3 rfl rfl)
theorem dX0_gather_6 : decode cX0_gather 6 = .ok (.ifCond .ne 5, 3) := dk_154 0 5 (dk_at dksX0_gather_0 6 rfl rfl)
theorem dX0_gather_9 : decode cX0_gather 9 = .ok (.iconst (-1), 1) := dk_2 (dk_at dksX0_gather_0 9 rfl rfl)
theorem dX0_gather_10 : decode cX0_gather 10 = .ok (.ireturn, 1) := dk_172 (dk_at dksX0_gather_0 10 rfl rfl)
theorem dX0_gather_11 : decode cX0_gather 11 = .ok (.bipush (-2), 2) := dk_16 254 (dk_at dksX0_gather_0 11 rfl rfl)
theorem dX0_gather_13 : decode cX0_gather 13 = .ok (.istore_n 2, 1) := dk_61 (dk_at dksX0_gather_0 13 rfl rfl)
theorem dX0_gather_14 : decode cX0_gather 14 = .ok (.ldc_w 305, 3) := dk_19 1 49 (dk_at dksX0_gather_0 14 rfl rfl)
theorem dX0_gather_17 : decode cX0_gather 17 = .ok (.istore_n 3, 1) := dk_62 (dk_at dksX0_gather_0 17 rfl rfl)
theorem dX0_gather_18 : decode cX0_gather 18 = .ok (.iconst 0, 1) := dk_3 (dk_at dksX0_gather_0 18 rfl rfl)
theorem dX0_gather_19 : decode cX0_gather 19 = .ok (.istore 4, 2) := dk_54 4 (dk_at dksX0_gather_0 19 rfl rfl)
theorem dX0_gather_21 : decode cX0_gather 21 = .ok (.iload 4, 2) := dk_21 4 (dk_at dksX0_gather_0 21 rfl rfl)
theorem dX0_gather_23 : decode cX0_gather 23 = .ok (.aload_n 0, 1) := dk_42 (dk_at dksX0_gather_0 23 rfl rfl)
theorem dX0_gather_24 : decode cX0_gather 24 = .ok (.invokevirtual 154, 3) := dk_182 0 154 (dk_at dksX0_gather_1 0 rfl rfl)
theorem dX0_gather_27 : decode cX0_gather 27 = .ok (.if_icmp .ge 88, 3) := dk_162 0 88 (dk_at dksX0_gather_1 3 rfl rfl)
theorem dX0_gather_30 : decode cX0_gather 30 = .ok (.iconst 0, 1) := dk_3 (dk_at dksX0_gather_1 6 rfl rfl)
theorem dX0_gather_31 : decode cX0_gather 31 = .ok (.istore 5, 2) := dk_54 5 (dk_at dksX0_gather_1 7 rfl rfl)
theorem dX0_gather_33 : decode cX0_gather 33 = .ok (.aload_n 0, 1) := dk_42 (dk_at dksX0_gather_1 9 rfl rfl)
theorem dX0_gather_34 : decode cX0_gather 34 = .ok (.iload 4, 2) := dk_21 4 (dk_at dksX0_gather_1 10 rfl rfl)
theorem dX0_gather_36 : decode cX0_gather 36 = .ok (.iconst 0, 1) := dk_3 (dk_at dksX0_gather_1 12 rfl rfl)
theorem dX0_gather_37 : decode cX0_gather 37 = .ok (.invokevirtual 306, 3) := dk_182 1 50 (dk_at dksX0_gather_1 13 rfl rfl)
theorem dX0_gather_40 : decode cX0_gather 40 = .ok (.iconst 0, 1) := dk_3 (dk_at dksX0_gather_1 16 rfl rfl)
theorem dX0_gather_41 : decode cX0_gather 41 = .ok (.istore 6, 2) := dk_54 6 (dk_at dksX0_gather_1 17 rfl rfl)
theorem dX0_gather_43 : decode cX0_gather 43 = .ok (.iload 6, 2) := dk_21 6 (dk_at dksX0_gather_1 19 rfl rfl)
theorem dX0_gather_45 : decode cX0_gather 45 = .ok (.aload_n 0, 1) := dk_42 (dk_at dksX0_gather_1 21 rfl rfl)
theorem dX0_gather_46 : decode cX0_gather 46 = .ok (.invokevirtual 162, 3) := dk_182 0 162 (dk_at dksX0_gather_2 0 rfl rfl)
theorem dX0_gather_49 : decode cX0_gather 49 = .ok (.if_icmp .ge 45, 3) := dk_162 0 45 (dk_at dksX0_gather_2 3 rfl rfl)
theorem dX0_gather_52 : decode cX0_gather 52 = .ok (.iload 5, 2) := dk_21 5 (dk_at dksX0_gather_2 6 rfl rfl)
theorem dX0_gather_54 : decode cX0_gather 54 = .ok (.aload_n 0, 1) := dk_42 (dk_at dksX0_gather_2 8 rfl rfl)
theorem dX0_gather_55 : decode cX0_gather 55 = .ok (.getfield 51, 3) := dk_180 0 51 (dk_at dksX0_gather_2 9 rfl rfl)
theorem dX0_gather_58 : decode cX0_gather 58 = .ok (.iload 6, 2) := dk_21 6 (dk_at dksX0_gather_2 12 rfl rfl)
theorem dX0_gather_60 : decode cX0_gather 60 = .ok (.invokevirtual 169, 3) := dk_182 0 169 (dk_at dksX0_gather_2 14 rfl rfl)
theorem dX0_gather_63 : decode cX0_gather 63 = .ok (.ifCond .eq 7, 3) := dk_153 0 7 (dk_at dksX0_gather_2 17 rfl rfl)
theorem dX0_gather_66 : decode cX0_gather 66 = .ok (.iconst 0, 1) := dk_3 (dk_at dksX0_gather_2 20 rfl rfl)
theorem dX0_gather_67 : decode cX0_gather 67 = .ok (.goto 18, 3) := dk_167 0 18 (dk_at dksX0_gather_2 21 rfl rfl)
theorem dX0_gather_70 : decode cX0_gather 70 = .ok (.aload_n 0, 1) := dk_42 (dk_at dksX0_gather_3 0 rfl rfl)
theorem dX0_gather_71 : decode cX0_gather 71 = .ok (.getfield 89, 3) := dk_180 0 89 (dk_at dksX0_gather_3 1 rfl rfl)
theorem dX0_gather_74 : decode cX0_gather 74 = .ok (.aload_n 0, 1) := dk_42 (dk_at dksX0_gather_3 4 rfl rfl)
theorem dX0_gather_75 : decode cX0_gather 75 = .ok (.getfield 51, 3) := dk_180 0 51 (dk_at dksX0_gather_3 5 rfl rfl)
theorem dX0_gather_78 : decode cX0_gather 78 = .ok (.getfield 221, 3) := dk_180 0 221 (dk_at dksX0_gather_3 8 rfl rfl)
theorem dX0_gather_81 : decode cX0_gather 81 = .ok (.iload 6, 2) := dk_21 6 (dk_at dksX0_gather_3 11 rfl rfl)
theorem dX0_gather_83 : decode cX0_gather 83 = .ok (.iaload, 1) := dk_46 (dk_at dksX0_gather_3 13 rfl rfl)
theorem dX0_gather_84 : decode cX0_gather 84 = .ok (.iaload, 1) := dk_46 (dk_at dksX0_gather_3 14 rfl rfl)
theorem dX0_gather_85 : decode cX0_gather 85 = .ok (.iadd, 1) := dk_96 (dk_at dksX0_gather_3 15 rfl rfl)
theorem dX0_gather_86 : decode cX0_gather 86 = .ok (.istore 5, 2) := dk_54 5 (dk_at dksX0_gather_3 16 rfl rfl)
theorem dX0_gather_88 : decode cX0_gather 88 = .ok (.iinc 6 1, 3) := dk_132 6 1 (dk_at dksX0_gather_3 18 rfl rfl)
theorem dX0_gather_91 : decode cX0_gather 91 = .ok (.goto (-48), 3) := dk_167 255 208 (dk_at dksX0_gather_3 21 rfl rfl)
theorem dX0_gather_94 : decode cX0_gather 94 = .ok (.iload 5, 2) := dk_21 5 (dk_at dksX0_gather_4 0 rfl rfl)
theorem dX0_gather_96 : decode cX0_gather 96 = .ok (.iload_n 3, 1) := dk_29 (dk_at dksX0_gather_4 2 rfl rfl)
theorem dX0_gather_97 : decode cX0_gather 97 = .ok (.if_icmp .lt 6, 3) := dk_161 0 6 (dk_at dksX0_gather_4 3 rfl rfl)
theorem dX0_gather_100 : decode cX0_gather 100 = .ok (.goto 9, 3) := dk_167 0 9 (dk_at dksX0_gather_4 6 rfl rfl)
theorem dX0_gather_103 : decode cX0_gather 103 = .ok (.iload 4, 2) := dk_21 4 (dk_at dksX0_gather_4 9 rfl rfl)
theorem dX0_gather_105 : decode cX0_gather 105 = .ok (.istore_n 2, 1) := dk_61 (dk_at dksX0_gather_4 11 rfl rfl)
theorem dX0_gather_106 : decode cX0_gather 106 = .ok (.iload 5, 2) := dk_21 5 (dk_at dksX0_gather_4 12 rfl rfl)
theorem dX0_gather_108 : decode cX0_gather 108 = .ok (.istore_n 3, 1) := dk_62 (dk_at dksX0_gather_4 14 rfl rfl)
theorem dX0_gather_109 : decode cX0_gather 109 = .ok (.iinc 4 1, 3) := dk_132 4 1 (dk_at dksX0_gather_4 15 rfl rfl)
theorem dX0_gather_112 : decode cX0_gather 112 = .ok (.goto (-91), 3) := dk_167 255 165 (dk_at dksX0_gather_4 18 rfl rfl)
theorem dX0_gather_115 : decode cX0_gather 115 = .ok (.iload_n 2, 1) := dk_28 (dk_at dksX0_gather_4 21 rfl rfl)
theorem dX0_gather_116 : decode cX0_gather 116 = .ok (.ifCond .lt 7, 3) := dk_155 0 7 (dk_at dksX0_gather_5 0 rfl rfl)
theorem dX0_gather_119 : decode cX0_gather 119 = .ok (.iload_n 1, 1) := dk_27 (dk_at dksX0_gather_5 3 rfl rfl)
theorem dX0_gather_120 : decode cX0_gather 120 = .ok (.ifCond .ne 7, 3) := dk_154 0 7 (dk_at dksX0_gather_5 4 rfl rfl)
theorem dX0_gather_123 : decode cX0_gather 123 = .ok (.iload_n 2, 1) := dk_28 (dk_at dksX0_gather_5 7 rfl rfl)
theorem dX0_gather_124 : decode cX0_gather 124 = .ok (.goto 4, 3) := dk_167 0 4 (dk_at dksX0_gather_5 8 rfl rfl)
theorem dX0_gather_127 : decode cX0_gather 127 = .ok (.iload_n 3, 1) := dk_29 (dk_at dksX0_gather_5 11 rfl rfl)
theorem dX0_gather_128 : decode cX0_gather 128 = .ok (.ireturn, 1) := dk_172 (dk_at dksX0_gather_5 12 rfl rfl)
abbrev cX0_moves : ByteArray := prog_1_method_50_code
def yX0_moves : MethodName := ⟨RX0, "moves", "(II)I"⟩
def dkwX0_moves_9 : List UInt8 := [184, 1, 71, 172]
abbrev dktX0_moves_9 : List UInt8 := dkwX0_moves_9 ++ []
def dkwX0_moves_8 : List UInt8 := [132, 7, 1, 167, 255, 151, 21, 4, 155, 0, 8, 28, 4, 160, 0, 8, 21, 4, 167, 0, 8, 21, 4]
abbrev dktX0_moves_8 : List UInt8 := dkwX0_moves_8 ++ dktX0_moves_9
def dkwX0_moves_7 : List UInt8 := [167, 0, 4, 3, 96, 54, 8, 132, 9, 1, 167, 255, 214, 21, 8, 21, 5, 161, 0, 7, 21, 7, 54, 4]
abbrev dktX0_moves_7 : List UInt8 := dkwX0_moves_7 ++ dktX0_moves_8
def dkwX0_moves_6 : List UInt8 := [21, 8, 21, 7, 21, 9, 122, 4, 126, 4, 160, 0, 16, 42, 180, 0, 51, 180, 0, 224, 21, 9, 46]
abbrev dktX0_moves_6 : List UInt8 := dkwX0_moves_6 ++ dktX0_moves_7
def dkwX0_moves_5 : List UInt8 := [184, 1, 71, 161, 0, 6, 167, 0, 65, 3, 54, 8, 3, 54, 9, 21, 9, 42, 182, 0, 162, 162, 0, 39]
abbrev dktX0_moves_5 : List UInt8 := dkwX0_moves_5 ++ dktX0_moves_6
def dkwX0_moves_4 : List UInt8 := [120, 162, 0, 100, 21, 7, 21, 6, 126, 154, 0, 86, 21, 4, 155, 0, 19, 21, 7, 184, 1, 71, 21, 4]
abbrev dktX0_moves_4 : List UInt8 := dkwX0_moves_4 ++ dktX0_moves_5
def dkwX0_moves_3 : List UInt8 := [182, 0, 191, 128, 42, 180, 0, 51, 180, 1, 68, 128, 54, 6, 3, 54, 7, 21, 7, 4, 42, 182, 0, 162]
abbrev dktX0_moves_3 : List UInt8 := dkwX0_moves_3 ++ dktX0_moves_4
def dkwX0_moves_2 : List UInt8 := [182, 0, 200, 54, 5, 42, 180, 0, 51, 45, 180, 0, 204, 182, 0, 191, 42, 180, 0, 51, 45, 180, 0, 207]
abbrev dktX0_moves_2 : List UInt8 := dkwX0_moves_2 ++ dktX0_moves_3
def dkwX0_moves_1 : List UInt8 := [180, 0, 145, 27, 182, 0, 178, 192, 0, 182, 78, 16, 254, 54, 4, 42, 180, 0, 51, 42, 180, 0, 40, 27]
abbrev dktX0_moves_1 : List UInt8 := dkwX0_moves_1 ++ dktX0_moves_2
def dkwX0_moves_0 : List UInt8 := [42, 27, 182, 0, 197, 153, 0, 12, 28, 3, 4, 184, 0, 156, 154, 0, 5, 2, 172, 42, 180, 0, 40]
abbrev dktX0_moves_0 : List UInt8 := dkwX0_moves_0 ++ dktX0_moves_1
theorem dksX0_moves_0 : cX0_moves.data.toList.drop 0 = dktX0_moves_0 := by decide +kernel
theorem dksX0_moves_1 : cX0_moves.data.toList.drop 23 = dktX0_moves_1 := dk_seg dksX0_moves_0 23 rfl rfl
theorem dksX0_moves_2 : cX0_moves.data.toList.drop 47 = dktX0_moves_2 := dk_seg dksX0_moves_1 24 rfl rfl
theorem dksX0_moves_3 : cX0_moves.data.toList.drop 71 = dktX0_moves_3 := dk_seg dksX0_moves_2 24 rfl rfl
theorem dksX0_moves_4 : cX0_moves.data.toList.drop 95 = dktX0_moves_4 := dk_seg dksX0_moves_3 24 rfl rfl
theorem dksX0_moves_5 : cX0_moves.data.toList.drop 119 = dktX0_moves_5 := dk_seg dksX0_moves_4 24 rfl rfl
theorem dksX0_moves_6 : cX0_moves.data.toList.drop 143 = dktX0_moves_6 := dk_seg dksX0_moves_5 24 rfl rfl
theorem dksX0_moves_7 : cX0_moves.data.toList.drop 166 = dktX0_moves_7 := dk_seg dksX0_moves_6 23 rfl rfl
theorem dksX0_moves_8 : cX0_moves.data.toList.drop 190 = dktX0_moves_8 := dk_seg dksX0_moves_7 24 rfl rfl
theorem dksX0_moves_9 : cX0_moves.data.toList.drop 213 = dktX0_moves_9 := dk_seg dksX0_moves_8 23 rfl rfl
theorem dX0_moves_0 : decode cX0_moves 0 = .ok (.aload_n 0, 1) := dk_42 (dk_at dksX0_moves_0 0 rfl rfl)
theorem dX0_moves_1 : decode cX0_moves 1 = .ok (.iload_n 1, 1) := dk_27 (dk_at dksX0_moves_0 1 rfl rfl)
theorem dX0_moves_2 : decode cX0_moves 2 = .ok (.invokevirtual 197, 3) := dk_182 0 197 (dk_at dksX0_moves_0 2 rfl rfl)
theorem dX0_moves_5 : decode cX0_moves 5 = .ok (.ifCond .eq 12, 3) := dk_153 0 12 (dk_at dksX0_moves_0 5 rfl rfl)
theorem dX0_moves_8 : decode cX0_moves 8 = .ok (.iload_n 2, 1) := dk_28 (dk_at dksX0_moves_0 8 rfl rfl)
theorem dX0_moves_9 : decode cX0_moves 9 = .ok (.iconst 0, 1) := dk_3 (dk_at dksX0_moves_0 9 rfl rfl)
theorem dX0_moves_10 : decode cX0_moves 10 = .ok (.iconst 1, 1) := dk_4 (dk_at dksX0_moves_0 10 rfl rfl)
theorem dX0_moves_11 : decode cX0_moves 11 = .ok (.invokestatic 156, 3) := dk_184 0 156 (dk_at dksX0_moves_0 11 rfl rfl)
theorem dX0_moves_14 : decode cX0_moves 14 = .ok (.ifCond .ne 5, 3) := dk_154 0 5 (dk_at dksX0_moves_0 14 rfl rfl)
theorem dX0_moves_17 : decode cX0_moves 17 = .ok (.iconst (-1), 1) := dk_2 (dk_at dksX0_moves_0 17 rfl rfl)
theorem dX0_moves_18 : decode cX0_moves 18 = .ok (.ireturn, 1) := dk_172 (dk_at dksX0_moves_0 18 rfl rfl)
theorem dX0_moves_19 : decode cX0_moves 19 = .ok (.aload_n 0, 1) := dk_42 (dk_at dksX0_moves_0 19 rfl rfl)
theorem dX0_moves_20 : decode cX0_moves 20 = .ok (.getfield 40, 3) := dk_180 0 40 (dk_at dksX0_moves_0 20 rfl rfl)
theorem dX0_moves_23 : decode cX0_moves 23 = .ok (.getfield 145, 3) := dk_180 0 145 (dk_at dksX0_moves_1 0 rfl rfl)
theorem dX0_moves_26 : decode cX0_moves 26 = .ok (.iload_n 1, 1) := dk_27 (dk_at dksX0_moves_1 3 rfl rfl)
theorem dX0_moves_27 : decode cX0_moves 27 = .ok (.invokevirtual 178, 3) := dk_182 0 178 (dk_at dksX0_moves_1 4 rfl rfl)
theorem dX0_moves_30 : decode cX0_moves 30 = .ok (.checkcast 182, 3) := dk_192 0 182 (dk_at dksX0_moves_1 7 rfl rfl)
theorem dX0_moves_33 : decode cX0_moves 33 = .ok (.astore_n 3, 1) := dk_78 (dk_at dksX0_moves_1 10 rfl rfl)
theorem dX0_moves_34 : decode cX0_moves 34 = .ok (.bipush (-2), 2) := dk_16 254 (dk_at dksX0_moves_1 11 rfl rfl)
theorem dX0_moves_36 : decode cX0_moves 36 = .ok (.istore 4, 2) := dk_54 4 (dk_at dksX0_moves_1 13 rfl rfl)
theorem dX0_moves_38 : decode cX0_moves 38 = .ok (.aload_n 0, 1) := dk_42 (dk_at dksX0_moves_1 15 rfl rfl)
theorem dX0_moves_39 : decode cX0_moves 39 = .ok (.getfield 51, 3) := dk_180 0 51 (dk_at dksX0_moves_1 16 rfl rfl)
theorem dX0_moves_42 : decode cX0_moves 42 = .ok (.aload_n 0, 1) := dk_42 (dk_at dksX0_moves_1 19 rfl rfl)
theorem dX0_moves_43 : decode cX0_moves 43 = .ok (.getfield 40, 3) := dk_180 0 40 (dk_at dksX0_moves_1 20 rfl rfl)
theorem dX0_moves_46 : decode cX0_moves 46 = .ok (.iload_n 1, 1) := dk_27 (dk_at dksX0_moves_1 23 rfl rfl)
theorem dX0_moves_47 : decode cX0_moves 47 = .ok (.invokevirtual 200, 3) := dk_182 0 200 (dk_at dksX0_moves_2 0 rfl rfl)
theorem dX0_moves_50 : decode cX0_moves 50 = .ok (.istore 5, 2) := dk_54 5 (dk_at dksX0_moves_2 3 rfl rfl)
theorem dX0_moves_52 : decode cX0_moves 52 = .ok (.aload_n 0, 1) := dk_42 (dk_at dksX0_moves_2 5 rfl rfl)
theorem dX0_moves_53 : decode cX0_moves 53 = .ok (.getfield 51, 3) := dk_180 0 51 (dk_at dksX0_moves_2 6 rfl rfl)
theorem dX0_moves_56 : decode cX0_moves 56 = .ok (.aload_n 3, 1) := dk_45 (dk_at dksX0_moves_2 9 rfl rfl)
theorem dX0_moves_57 : decode cX0_moves 57 = .ok (.getfield 204, 3) := dk_180 0 204 (dk_at dksX0_moves_2 10 rfl rfl)
theorem dX0_moves_60 : decode cX0_moves 60 = .ok (.invokevirtual 191, 3) := dk_182 0 191 (dk_at dksX0_moves_2 13 rfl rfl)
theorem dX0_moves_63 : decode cX0_moves 63 = .ok (.aload_n 0, 1) := dk_42 (dk_at dksX0_moves_2 16 rfl rfl)
theorem dX0_moves_64 : decode cX0_moves 64 = .ok (.getfield 51, 3) := dk_180 0 51 (dk_at dksX0_moves_2 17 rfl rfl)
theorem dX0_moves_67 : decode cX0_moves 67 = .ok (.aload_n 3, 1) := dk_45 (dk_at dksX0_moves_2 20 rfl rfl)
theorem dX0_moves_68 : decode cX0_moves 68 = .ok (.getfield 207, 3) := dk_180 0 207 (dk_at dksX0_moves_2 21 rfl rfl)
theorem dX0_moves_71 : decode cX0_moves 71 = .ok (.invokevirtual 191, 3) := dk_182 0 191 (dk_at dksX0_moves_3 0 rfl rfl)
theorem dX0_moves_74 : decode cX0_moves 74 = .ok (.ior, 1) := dk_128 (dk_at dksX0_moves_3 3 rfl rfl)
theorem dX0_moves_75 : decode cX0_moves 75 = .ok (.aload_n 0, 1) := dk_42 (dk_at dksX0_moves_3 4 rfl rfl)
theorem dX0_moves_76 : decode cX0_moves 76 = .ok (.getfield 51, 3) := dk_180 0 51 (dk_at dksX0_moves_3 5 rfl rfl)
theorem dX0_moves_79 : decode cX0_moves 79 = .ok (.getfield 324, 3) := dk_180 1 68 (dk_at dksX0_moves_3 8 rfl rfl)
theorem dX0_moves_82 : decode cX0_moves 82 = .ok (.ior, 1) := dk_128 (dk_at dksX0_moves_3 11 rfl rfl)
theorem dX0_moves_83 : decode cX0_moves 83 = .ok (.istore 6, 2) := dk_54 6 (dk_at dksX0_moves_3 12 rfl rfl)
theorem dX0_moves_85 : decode cX0_moves 85 = .ok (.iconst 0, 1) := dk_3 (dk_at dksX0_moves_3 14 rfl rfl)
theorem dX0_moves_86 : decode cX0_moves 86 = .ok (.istore 7, 2) := dk_54 7 (dk_at dksX0_moves_3 15 rfl rfl)
theorem dX0_moves_88 : decode cX0_moves 88 = .ok (.iload 7, 2) := dk_21 7 (dk_at dksX0_moves_3 17 rfl rfl)
theorem dX0_moves_90 : decode cX0_moves 90 = .ok (.iconst 1, 1) := dk_4 (dk_at dksX0_moves_3 19 rfl rfl)
theorem dX0_moves_91 : decode cX0_moves 91 = .ok (.aload_n 0, 1) := dk_42 (dk_at dksX0_moves_3 20 rfl rfl)
theorem dX0_moves_92 : decode cX0_moves 92 = .ok (.invokevirtual 162, 3) := dk_182 0 162 (dk_at dksX0_moves_3 21 rfl rfl)
theorem dX0_moves_95 : decode cX0_moves 95 = .ok (.ishl, 1) := dk_120 (dk_at dksX0_moves_4 0 rfl rfl)
theorem dX0_moves_96 : decode cX0_moves 96 = .ok (.if_icmp .ge 100, 3) := dk_162 0 100 (dk_at dksX0_moves_4 1 rfl rfl)
theorem dX0_moves_99 : decode cX0_moves 99 = .ok (.iload 7, 2) := dk_21 7 (dk_at dksX0_moves_4 4 rfl rfl)
theorem dX0_moves_101 : decode cX0_moves 101 = .ok (.iload 6, 2) := dk_21 6 (dk_at dksX0_moves_4 6 rfl rfl)
theorem dX0_moves_103 : decode cX0_moves 103 = .ok (.iand, 1) := dk_126 (dk_at dksX0_moves_4 8 rfl rfl)
theorem dX0_moves_104 : decode cX0_moves 104 = .ok (.ifCond .ne 86, 3) := dk_154 0 86 (dk_at dksX0_moves_4 9 rfl rfl)
theorem dX0_moves_107 : decode cX0_moves 107 = .ok (.iload 4, 2) := dk_21 4 (dk_at dksX0_moves_4 12 rfl rfl)
theorem dX0_moves_109 : decode cX0_moves 109 = .ok (.ifCond .lt 19, 3) := dk_155 0 19 (dk_at dksX0_moves_4 14 rfl rfl)
theorem dX0_moves_112 : decode cX0_moves 112 = .ok (.iload 7, 2) := dk_21 7 (dk_at dksX0_moves_4 17 rfl rfl)
theorem dX0_moves_114 : decode cX0_moves 114 = .ok (.invokestatic 327, 3) := dk_184 1 71 (dk_at dksX0_moves_4 19 rfl rfl)
theorem dX0_moves_117 : decode cX0_moves 117 = .ok (.iload 4, 2) := dk_21 4 (dk_at dksX0_moves_4 22 rfl rfl)
theorem dX0_moves_119 : decode cX0_moves 119 = .ok (.invokestatic 327, 3) := dk_184 1 71 (dk_at dksX0_moves_5 0 rfl rfl)
theorem dX0_moves_122 : decode cX0_moves 122 = .ok (.if_icmp .lt 6, 3) := dk_161 0 6 (dk_at dksX0_moves_5 3 rfl rfl)
theorem dX0_moves_125 : decode cX0_moves 125 = .ok (.goto 65, 3) := dk_167 0 65 (dk_at dksX0_moves_5 6 rfl rfl)
theorem dX0_moves_128 : decode cX0_moves 128 = .ok (.iconst 0, 1) := dk_3 (dk_at dksX0_moves_5 9 rfl rfl)
theorem dX0_moves_129 : decode cX0_moves 129 = .ok (.istore 8, 2) := dk_54 8 (dk_at dksX0_moves_5 10 rfl rfl)
theorem dX0_moves_131 : decode cX0_moves 131 = .ok (.iconst 0, 1) := dk_3 (dk_at dksX0_moves_5 12 rfl rfl)
theorem dX0_moves_132 : decode cX0_moves 132 = .ok (.istore 9, 2) := dk_54 9 (dk_at dksX0_moves_5 13 rfl rfl)
theorem dX0_moves_134 : decode cX0_moves 134 = .ok (.iload 9, 2) := dk_21 9 (dk_at dksX0_moves_5 15 rfl rfl)
theorem dX0_moves_136 : decode cX0_moves 136 = .ok (.aload_n 0, 1) := dk_42 (dk_at dksX0_moves_5 17 rfl rfl)
theorem dX0_moves_137 : decode cX0_moves 137 = .ok (.invokevirtual 162, 3) := dk_182 0 162 (dk_at dksX0_moves_5 18 rfl rfl)
theorem dX0_moves_140 : decode cX0_moves 140 = .ok (.if_icmp .ge 39, 3) := dk_162 0 39 (dk_at dksX0_moves_5 21 rfl rfl)
theorem dX0_moves_143 : decode cX0_moves 143 = .ok (.iload 8, 2) := dk_21 8 (dk_at dksX0_moves_6 0 rfl rfl)
theorem dX0_moves_145 : decode cX0_moves 145 = .ok (.iload 7, 2) := dk_21 7 (dk_at dksX0_moves_6 2 rfl rfl)
theorem dX0_moves_147 : decode cX0_moves 147 = .ok (.iload 9, 2) := dk_21 9 (dk_at dksX0_moves_6 4 rfl rfl)
theorem dX0_moves_149 : decode cX0_moves 149 = .ok (.ishr, 1) := dk_122 (dk_at dksX0_moves_6 6 rfl rfl)
theorem dX0_moves_150 : decode cX0_moves 150 = .ok (.iconst 1, 1) := dk_4 (dk_at dksX0_moves_6 7 rfl rfl)
theorem dX0_moves_151 : decode cX0_moves 151 = .ok (.iand, 1) := dk_126 (dk_at dksX0_moves_6 8 rfl rfl)
theorem dX0_moves_152 : decode cX0_moves 152 = .ok (.iconst 1, 1) := dk_4 (dk_at dksX0_moves_6 9 rfl rfl)
theorem dX0_moves_153 : decode cX0_moves 153 = .ok (.if_icmp .ne 16, 3) := dk_160 0 16 (dk_at dksX0_moves_6 10 rfl rfl)
theorem dX0_moves_156 : decode cX0_moves 156 = .ok (.aload_n 0, 1) := dk_42 (dk_at dksX0_moves_6 13 rfl rfl)
theorem dX0_moves_157 : decode cX0_moves 157 = .ok (.getfield 51, 3) := dk_180 0 51 (dk_at dksX0_moves_6 14 rfl rfl)
theorem dX0_moves_160 : decode cX0_moves 160 = .ok (.getfield 224, 3) := dk_180 0 224 (dk_at dksX0_moves_6 17 rfl rfl)
theorem dX0_moves_163 : decode cX0_moves 163 = .ok (.iload 9, 2) := dk_21 9 (dk_at dksX0_moves_6 20 rfl rfl)
theorem dX0_moves_165 : decode cX0_moves 165 = .ok (.iaload, 1) := dk_46 (dk_at dksX0_moves_6 22 rfl rfl)
theorem dX0_moves_166 : decode cX0_moves 166 = .ok (.goto 4, 3) := dk_167 0 4 (dk_at dksX0_moves_7 0 rfl rfl)
theorem dX0_moves_169 : decode cX0_moves 169 = .ok (.iconst 0, 1) := dk_3 (dk_at dksX0_moves_7 3 rfl rfl)
theorem dX0_moves_170 : decode cX0_moves 170 = .ok (.iadd, 1) := dk_96 (dk_at dksX0_moves_7 4 rfl rfl)
theorem dX0_moves_171 : decode cX0_moves 171 = .ok (.istore 8, 2) := dk_54 8 (dk_at dksX0_moves_7 5 rfl rfl)
theorem dX0_moves_173 : decode cX0_moves 173 = .ok (.iinc 9 1, 3) := dk_132 9 1 (dk_at dksX0_moves_7 7 rfl rfl)
theorem dX0_moves_176 : decode cX0_moves 176 = .ok (.goto (-42), 3) := dk_167 255 214 (dk_at dksX0_moves_7 10 rfl rfl)
theorem dX0_moves_179 : decode cX0_moves 179 = .ok (.iload 8, 2) := dk_21 8 (dk_at dksX0_moves_7 13 rfl rfl)
theorem dX0_moves_181 : decode cX0_moves 181 = .ok (.iload 5, 2) := dk_21 5 (dk_at dksX0_moves_7 15 rfl rfl)
theorem dX0_moves_183 : decode cX0_moves 183 = .ok (.if_icmp .lt 7, 3) := dk_161 0 7 (dk_at dksX0_moves_7 17 rfl rfl)
theorem dX0_moves_186 : decode cX0_moves 186 = .ok (.iload 7, 2) := dk_21 7 (dk_at dksX0_moves_7 20 rfl rfl)
theorem dX0_moves_188 : decode cX0_moves 188 = .ok (.istore 4, 2) := dk_54 4 (dk_at dksX0_moves_7 22 rfl rfl)
theorem dX0_moves_190 : decode cX0_moves 190 = .ok (.iinc 7 1, 3) := dk_132 7 1 (dk_at dksX0_moves_8 0 rfl rfl)
theorem dX0_moves_193 : decode cX0_moves 193 = .ok (.goto (-105), 3) := dk_167 255 151 (dk_at dksX0_moves_8 3 rfl rfl)
theorem dX0_moves_196 : decode cX0_moves 196 = .ok (.iload 4, 2) := dk_21 4 (dk_at dksX0_moves_8 6 rfl rfl)
theorem dX0_moves_198 : decode cX0_moves 198 = .ok (.ifCond .lt 8, 3) := dk_155 0 8 (dk_at dksX0_moves_8 8 rfl rfl)
theorem dX0_moves_201 : decode cX0_moves 201 = .ok (.iload_n 2, 1) := dk_28 (dk_at dksX0_moves_8 11 rfl rfl)
theorem dX0_moves_202 : decode cX0_moves 202 = .ok (.iconst 1, 1) := dk_4 (dk_at dksX0_moves_8 12 rfl rfl)
theorem dX0_moves_203 : decode cX0_moves 203 = .ok (.if_icmp .ne 8, 3) := dk_160 0 8 (dk_at dksX0_moves_8 13 rfl rfl)
theorem dX0_moves_206 : decode cX0_moves 206 = .ok (.iload 4, 2) := dk_21 4 (dk_at dksX0_moves_8 16 rfl rfl)
theorem dX0_moves_208 : decode cX0_moves 208 = .ok (.goto 8, 3) := dk_167 0 8 (dk_at dksX0_moves_8 18 rfl rfl)
theorem dX0_moves_211 : decode cX0_moves 211 = .ok (.iload 4, 2) := dk_21 4 (dk_at dksX0_moves_8 21 rfl rfl)
theorem dX0_moves_213 : decode cX0_moves 213 = .ok (.invokestatic 327, 3) := dk_184 1 71 (dk_at dksX0_moves_9 0 rfl rfl)
theorem dX0_moves_216 : decode cX0_moves 216 = .ok (.ireturn, 1) := dk_172 (dk_at dksX0_moves_9 3 rfl rfl)
abbrev cX0_cut : ByteArray := prog_1_method_51_code
def yX0_cut : MethodName := ⟨RX0, "cut", "(II)I"⟩
def dkwX0_cut_4 : List UInt8 := [184, 1, 71, 54, 4, 132, 5, 1, 167, 255, 200, 21, 4, 172]
abbrev dktX0_cut_4 : List UInt8 := dkwX0_cut_4 ++ []
def dkwX0_cut_3 : List UInt8 := [167, 0, 28, 42, 27, 29, 21, 5, 2, 130, 126, 182, 1, 65, 28, 122, 4, 126, 154, 0, 10, 21, 5]
abbrev dktX0_cut_3 : List UInt8 := dkwX0_cut_3 ++ dktX0_cut_4
def dkwX0_cut_2 : List UInt8 := [163, 0, 56, 21, 5, 29, 2, 130, 126, 154, 0, 41, 21, 5, 184, 1, 71, 21, 4, 161, 0, 6]
abbrev dktX0_cut_2 : List UInt8 := dkwX0_cut_2 ++ dktX0_cut_3
def dkwX0_cut_1 : List UInt8 := [180, 0, 51, 42, 180, 0, 40, 182, 1, 58, 62, 19, 1, 49, 54, 4, 3, 54, 5, 21, 5, 29]
abbrev dktX0_cut_1 : List UInt8 := dkwX0_cut_1 ++ dktX0_cut_2
def dkwX0_cut_0 : List UInt8 := [42, 27, 182, 0, 175, 153, 0, 16, 42, 28, 182, 0, 175, 153, 0, 8, 27, 28, 160, 0, 5, 2, 172, 42]
abbrev dktX0_cut_0 : List UInt8 := dkwX0_cut_0 ++ dktX0_cut_1
theorem dksX0_cut_0 : cX0_cut.data.toList.drop 0 = dktX0_cut_0 := by decide +kernel
theorem dksX0_cut_1 : cX0_cut.data.toList.drop 24 = dktX0_cut_1 := dk_seg dksX0_cut_0 24 rfl rfl
theorem dksX0_cut_2 : cX0_cut.data.toList.drop 46 = dktX0_cut_2 := dk_seg dksX0_cut_1 22 rfl rfl
theorem dksX0_cut_3 : cX0_cut.data.toList.drop 68 = dktX0_cut_3 := dk_seg dksX0_cut_2 22 rfl rfl
theorem dksX0_cut_4 : cX0_cut.data.toList.drop 91 = dktX0_cut_4 := dk_seg dksX0_cut_3 23 rfl rfl
theorem dX0_cut_0 : decode cX0_cut 0 = .ok (.aload_n 0, 1) := dk_42 (dk_at dksX0_cut_0 0 rfl rfl)
theorem dX0_cut_1 : decode cX0_cut 1 = .ok (.iload_n 1, 1) := dk_27 (dk_at dksX0_cut_0 1 rfl rfl)
theorem dX0_cut_2 : decode cX0_cut 2 = .ok (.invokevirtual 175, 3) := dk_182 0 175 (dk_at dksX0_cut_0 2 rfl rfl)
theorem dX0_cut_5 : decode cX0_cut 5 = .ok (.ifCond .eq 16, 3) := dk_153 0 16 (dk_at dksX0_cut_0 5 rfl rfl)
theorem dX0_cut_8 : decode cX0_cut 8 = .ok (.aload_n 0, 1) := dk_42 (dk_at dksX0_cut_0 8 rfl rfl)
theorem dX0_cut_9 : decode cX0_cut 9 = .ok (.iload_n 2, 1) := dk_28 (dk_at dksX0_cut_0 9 rfl rfl)
theorem dX0_cut_10 : decode cX0_cut 10 = .ok (.invokevirtual 175, 3) := dk_182 0 175 (dk_at dksX0_cut_0 10 rfl rfl)
theorem dX0_cut_13 : decode cX0_cut 13 = .ok (.ifCond .eq 8, 3) := dk_153 0 8 (dk_at dksX0_cut_0 13 rfl rfl)
theorem dX0_cut_16 : decode cX0_cut 16 = .ok (.iload_n 1, 1) := dk_27 (dk_at dksX0_cut_0 16 rfl rfl)
theorem dX0_cut_17 : decode cX0_cut 17 = .ok (.iload_n 2, 1) := dk_28 (dk_at dksX0_cut_0 17 rfl rfl)
theorem dX0_cut_18 : decode cX0_cut 18 = .ok (.if_icmp .ne 5, 3) := dk_160 0 5 (dk_at dksX0_cut_0 18 rfl rfl)
theorem dX0_cut_21 : decode cX0_cut 21 = .ok (.iconst (-1), 1) := dk_2 (dk_at dksX0_cut_0 21 rfl rfl)
theorem dX0_cut_22 : decode cX0_cut 22 = .ok (.ireturn, 1) := dk_172 (dk_at dksX0_cut_0 22 rfl rfl)
theorem dX0_cut_23 : decode cX0_cut 23 = .ok (.aload_n 0, 1) := dk_42 (dk_at dksX0_cut_0 23 rfl rfl)
theorem dX0_cut_24 : decode cX0_cut 24 = .ok (.getfield 51, 3) := dk_180 0 51 (dk_at dksX0_cut_1 0 rfl rfl)
theorem dX0_cut_27 : decode cX0_cut 27 = .ok (.aload_n 0, 1) := dk_42 (dk_at dksX0_cut_1 3 rfl rfl)
theorem dX0_cut_28 : decode cX0_cut 28 = .ok (.getfield 40, 3) := dk_180 0 40 (dk_at dksX0_cut_1 4 rfl rfl)
theorem dX0_cut_31 : decode cX0_cut 31 = .ok (.invokevirtual 314, 3) := dk_182 1 58 (dk_at dksX0_cut_1 7 rfl rfl)
theorem dX0_cut_34 : decode cX0_cut 34 = .ok (.istore_n 3, 1) := dk_62 (dk_at dksX0_cut_1 10 rfl rfl)
theorem dX0_cut_35 : decode cX0_cut 35 = .ok (.ldc_w 305, 3) := dk_19 1 49 (dk_at dksX0_cut_1 11 rfl rfl)
theorem dX0_cut_38 : decode cX0_cut 38 = .ok (.istore 4, 2) := dk_54 4 (dk_at dksX0_cut_1 14 rfl rfl)
theorem dX0_cut_40 : decode cX0_cut 40 = .ok (.iconst 0, 1) := dk_3 (dk_at dksX0_cut_1 16 rfl rfl)
theorem dX0_cut_41 : decode cX0_cut 41 = .ok (.istore 5, 2) := dk_54 5 (dk_at dksX0_cut_1 17 rfl rfl)
theorem dX0_cut_43 : decode cX0_cut 43 = .ok (.iload 5, 2) := dk_21 5 (dk_at dksX0_cut_1 19 rfl rfl)
theorem dX0_cut_45 : decode cX0_cut 45 = .ok (.iload_n 3, 1) := dk_29 (dk_at dksX0_cut_1 21 rfl rfl)
theorem dX0_cut_46 : decode cX0_cut 46 = .ok (.if_icmp .gt 56, 3) := dk_163 0 56 (dk_at dksX0_cut_2 0 rfl rfl)
theorem dX0_cut_49 : decode cX0_cut 49 = .ok (.iload 5, 2) := dk_21 5 (dk_at dksX0_cut_2 3 rfl rfl)
theorem dX0_cut_51 : decode cX0_cut 51 = .ok (.iload_n 3, 1) := dk_29 (dk_at dksX0_cut_2 5 rfl rfl)
theorem dX0_cut_52 : decode cX0_cut 52 = .ok (.iconst (-1), 1) := dk_2 (dk_at dksX0_cut_2 6 rfl rfl)
theorem dX0_cut_53 : decode cX0_cut 53 = .ok (.ixor, 1) := dk_130 (dk_at dksX0_cut_2 7 rfl rfl)
theorem dX0_cut_54 : decode cX0_cut 54 = .ok (.iand, 1) := dk_126 (dk_at dksX0_cut_2 8 rfl rfl)
theorem dX0_cut_55 : decode cX0_cut 55 = .ok (.ifCond .ne 41, 3) := dk_154 0 41 (dk_at dksX0_cut_2 9 rfl rfl)
theorem dX0_cut_58 : decode cX0_cut 58 = .ok (.iload 5, 2) := dk_21 5 (dk_at dksX0_cut_2 12 rfl rfl)
theorem dX0_cut_60 : decode cX0_cut 60 = .ok (.invokestatic 327, 3) := dk_184 1 71 (dk_at dksX0_cut_2 14 rfl rfl)
theorem dX0_cut_63 : decode cX0_cut 63 = .ok (.iload 4, 2) := dk_21 4 (dk_at dksX0_cut_2 17 rfl rfl)
theorem dX0_cut_65 : decode cX0_cut 65 = .ok (.if_icmp .lt 6, 3) := dk_161 0 6 (dk_at dksX0_cut_2 19 rfl rfl)
theorem dX0_cut_68 : decode cX0_cut 68 = .ok (.goto 28, 3) := dk_167 0 28 (dk_at dksX0_cut_3 0 rfl rfl)
theorem dX0_cut_71 : decode cX0_cut 71 = .ok (.aload_n 0, 1) := dk_42 (dk_at dksX0_cut_3 3 rfl rfl)
theorem dX0_cut_72 : decode cX0_cut 72 = .ok (.iload_n 1, 1) := dk_27 (dk_at dksX0_cut_3 4 rfl rfl)
theorem dX0_cut_73 : decode cX0_cut 73 = .ok (.iload_n 3, 1) := dk_29 (dk_at dksX0_cut_3 5 rfl rfl)
theorem dX0_cut_74 : decode cX0_cut 74 = .ok (.iload 5, 2) := dk_21 5 (dk_at dksX0_cut_3 6 rfl rfl)
theorem dX0_cut_76 : decode cX0_cut 76 = .ok (.iconst (-1), 1) := dk_2 (dk_at dksX0_cut_3 8 rfl rfl)
theorem dX0_cut_77 : decode cX0_cut 77 = .ok (.ixor, 1) := dk_130 (dk_at dksX0_cut_3 9 rfl rfl)
theorem dX0_cut_78 : decode cX0_cut 78 = .ok (.iand, 1) := dk_126 (dk_at dksX0_cut_3 10 rfl rfl)
theorem dX0_cut_79 : decode cX0_cut 79 = .ok (.invokevirtual 321, 3) := dk_182 1 65 (dk_at dksX0_cut_3 11 rfl rfl)
theorem dX0_cut_82 : decode cX0_cut 82 = .ok (.iload_n 2, 1) := dk_28 (dk_at dksX0_cut_3 14 rfl rfl)
theorem dX0_cut_83 : decode cX0_cut 83 = .ok (.ishr, 1) := dk_122 (dk_at dksX0_cut_3 15 rfl rfl)
theorem dX0_cut_84 : decode cX0_cut 84 = .ok (.iconst 1, 1) := dk_4 (dk_at dksX0_cut_3 16 rfl rfl)
theorem dX0_cut_85 : decode cX0_cut 85 = .ok (.iand, 1) := dk_126 (dk_at dksX0_cut_3 17 rfl rfl)
theorem dX0_cut_86 : decode cX0_cut 86 = .ok (.ifCond .ne 10, 3) := dk_154 0 10 (dk_at dksX0_cut_3 18 rfl rfl)
theorem dX0_cut_89 : decode cX0_cut 89 = .ok (.iload 5, 2) := dk_21 5 (dk_at dksX0_cut_3 21 rfl rfl)
theorem dX0_cut_91 : decode cX0_cut 91 = .ok (.invokestatic 327, 3) := dk_184 1 71 (dk_at dksX0_cut_4 0 rfl rfl)
theorem dX0_cut_94 : decode cX0_cut 94 = .ok (.istore 4, 2) := dk_54 4 (dk_at dksX0_cut_4 3 rfl rfl)
theorem dX0_cut_96 : decode cX0_cut 96 = .ok (.iinc 5 1, 3) := dk_132 5 1 (dk_at dksX0_cut_4 5 rfl rfl)
theorem dX0_cut_99 : decode cX0_cut 99 = .ok (.goto (-56), 3) := dk_167 255 200 (dk_at dksX0_cut_4 8 rfl rfl)
theorem dX0_cut_102 : decode cX0_cut 102 = .ok (.iload 4, 2) := dk_21 4 (dk_at dksX0_cut_4 11 rfl rfl)
theorem dX0_cut_104 : decode cX0_cut 104 = .ok (.ireturn, 1) := dk_172 (dk_at dksX0_cut_4 13 rfl rfl)
abbrev cX0_tree : ByteArray := prog_1_method_53_code
def yX0_tree : MethodName := ⟨RX0, "tree", "()I"⟩
def dkwX0_tree_4 : List UInt8 := [192, 0, 182, 180, 0, 207, 120, 128, 128, 60, 167, 255, 169, 28, 172]
abbrev dktX0_tree_4 : List UInt8 := dkwX0_tree_4 ++ []
def dkwX0_tree_3 : List UInt8 := [182, 0, 178, 192, 0, 182, 180, 0, 204, 120, 4, 42, 180, 0, 40, 180, 0, 145, 29, 182, 0, 178]
abbrev dktX0_tree_3 : List UInt8 := dkwX0_tree_3 ++ dktX0_tree_4
def dkwX0_tree_2 : List UInt8 := [29, 182, 0, 178, 192, 0, 182, 180, 0, 210, 96, 61, 27, 4, 42, 180, 0, 40, 180, 0, 145, 29]
abbrev dktX0_tree_2 : List UInt8 := dkwX0_tree_2 ++ dktX0_tree_3
def dkwX0_tree_1 : List UInt8 := [159, 0, 81, 42, 27, 182, 1, 76, 62, 29, 156, 0, 6, 16, 254, 172, 28, 42, 180, 0, 40, 180, 0, 145]
abbrev dktX0_tree_1 : List UInt8 := dkwX0_tree_1 ++ dktX0_tree_2
def dkwX0_tree_0 : List UInt8 := [4, 60, 3, 61, 42, 182, 0, 154, 154, 0, 6, 16, 254, 172, 27, 4, 42, 182, 0, 154, 120, 4, 100]
abbrev dktX0_tree_0 : List UInt8 := dkwX0_tree_0 ++ dktX0_tree_1
theorem dksX0_tree_0 : cX0_tree.data.toList.drop 0 = dktX0_tree_0 := by decide +kernel
theorem dksX0_tree_1 : cX0_tree.data.toList.drop 23 = dktX0_tree_1 := dk_seg dksX0_tree_0 23 rfl rfl
theorem dksX0_tree_2 : cX0_tree.data.toList.drop 47 = dktX0_tree_2 := dk_seg dksX0_tree_1 24 rfl rfl
theorem dksX0_tree_3 : cX0_tree.data.toList.drop 69 = dktX0_tree_3 := dk_seg dksX0_tree_2 22 rfl rfl
theorem dksX0_tree_4 : cX0_tree.data.toList.drop 91 = dktX0_tree_4 := dk_seg dksX0_tree_3 22 rfl rfl
theorem dX0_tree_0 : decode cX0_tree 0 = .ok (.iconst 1, 1) := dk_4 (dk_at dksX0_tree_0 0 rfl rfl)
theorem dX0_tree_1 : decode cX0_tree 1 = .ok (.istore_n 1, 1) := dk_60 (dk_at dksX0_tree_0 1 rfl rfl)
theorem dX0_tree_2 : decode cX0_tree 2 = .ok (.iconst 0, 1) := dk_3 (dk_at dksX0_tree_0 2 rfl rfl)
theorem dX0_tree_3 : decode cX0_tree 3 = .ok (.istore_n 2, 1) := dk_61 (dk_at dksX0_tree_0 3 rfl rfl)
theorem dX0_tree_4 : decode cX0_tree 4 = .ok (.aload_n 0, 1) := dk_42 (dk_at dksX0_tree_0 4 rfl rfl)
theorem dX0_tree_5 : decode cX0_tree 5 = .ok (.invokevirtual 154, 3) := dk_182 0 154 (dk_at dksX0_tree_0 5 rfl rfl)
theorem dX0_tree_8 : decode cX0_tree 8 = .ok (.ifCond .ne 6, 3) := dk_154 0 6 (dk_at dksX0_tree_0 8 rfl rfl)
theorem dX0_tree_11 : decode cX0_tree 11 = .ok (.bipush (-2), 2) := dk_16 254 (dk_at dksX0_tree_0 11 rfl rfl)
theorem dX0_tree_13 : decode cX0_tree 13 = .ok (.ireturn, 1) := dk_172 (dk_at dksX0_tree_0 13 rfl rfl)
theorem dX0_tree_14 : decode cX0_tree 14 = .ok (.iload_n 1, 1) := dk_27 (dk_at dksX0_tree_0 14 rfl rfl)
theorem dX0_tree_15 : decode cX0_tree 15 = .ok (.iconst 1, 1) := dk_4 (dk_at dksX0_tree_0 15 rfl rfl)
theorem dX0_tree_16 : decode cX0_tree 16 = .ok (.aload_n 0, 1) := dk_42 (dk_at dksX0_tree_0 16 rfl rfl)
theorem dX0_tree_17 : decode cX0_tree 17 = .ok (.invokevirtual 154, 3) := dk_182 0 154 (dk_at dksX0_tree_0 17 rfl rfl)
theorem dX0_tree_20 : decode cX0_tree 20 = .ok (.ishl, 1) := dk_120 (dk_at dksX0_tree_0 20 rfl rfl)
theorem dX0_tree_21 : decode cX0_tree 21 = .ok (.iconst 1, 1) := dk_4 (dk_at dksX0_tree_0 21 rfl rfl)
theorem dX0_tree_22 : decode cX0_tree 22 = .ok (.isub, 1) := dk_100 (dk_at dksX0_tree_0 22 rfl rfl)
theorem dX0_tree_23 : decode cX0_tree 23 = .ok (.if_icmp .eq 81, 3) := dk_159 0 81 (dk_at dksX0_tree_1 0 rfl rfl)
theorem dX0_tree_26 : decode cX0_tree 26 = .ok (.aload_n 0, 1) := dk_42 (dk_at dksX0_tree_1 3 rfl rfl)
theorem dX0_tree_27 : decode cX0_tree 27 = .ok (.iload_n 1, 1) := dk_27 (dk_at dksX0_tree_1 4 rfl rfl)
theorem dX0_tree_28 : decode cX0_tree 28 = .ok (.invokevirtual 332, 3) := dk_182 1 76 (dk_at dksX0_tree_1 5 rfl rfl)
theorem dX0_tree_31 : decode cX0_tree 31 = .ok (.istore_n 3, 1) := dk_62 (dk_at dksX0_tree_1 8 rfl rfl)
theorem dX0_tree_32 : decode cX0_tree 32 = .ok (.iload_n 3, 1) := dk_29 (dk_at dksX0_tree_1 9 rfl rfl)
theorem dX0_tree_33 : decode cX0_tree 33 = .ok (.ifCond .ge 6, 3) := dk_156 0 6 (dk_at dksX0_tree_1 10 rfl rfl)
theorem dX0_tree_36 : decode cX0_tree 36 = .ok (.bipush (-2), 2) := dk_16 254 (dk_at dksX0_tree_1 13 rfl rfl)
theorem dX0_tree_38 : decode cX0_tree 38 = .ok (.ireturn, 1) := dk_172 (dk_at dksX0_tree_1 15 rfl rfl)
theorem dX0_tree_39 : decode cX0_tree 39 = .ok (.iload_n 2, 1) := dk_28 (dk_at dksX0_tree_1 16 rfl rfl)
theorem dX0_tree_40 : decode cX0_tree 40 = .ok (.aload_n 0, 1) := dk_42 (dk_at dksX0_tree_1 17 rfl rfl)
theorem dX0_tree_41 : decode cX0_tree 41 = .ok (.getfield 40, 3) := dk_180 0 40 (dk_at dksX0_tree_1 18 rfl rfl)
theorem dX0_tree_44 : decode cX0_tree 44 = .ok (.getfield 145, 3) := dk_180 0 145 (dk_at dksX0_tree_1 21 rfl rfl)
theorem dX0_tree_47 : decode cX0_tree 47 = .ok (.iload_n 3, 1) := dk_29 (dk_at dksX0_tree_2 0 rfl rfl)
theorem dX0_tree_48 : decode cX0_tree 48 = .ok (.invokevirtual 178, 3) := dk_182 0 178 (dk_at dksX0_tree_2 1 rfl rfl)
theorem dX0_tree_51 : decode cX0_tree 51 = .ok (.checkcast 182, 3) := dk_192 0 182 (dk_at dksX0_tree_2 4 rfl rfl)
theorem dX0_tree_54 : decode cX0_tree 54 = .ok (.getfield 210, 3) := dk_180 0 210 (dk_at dksX0_tree_2 7 rfl rfl)
theorem dX0_tree_57 : decode cX0_tree 57 = .ok (.iadd, 1) := dk_96 (dk_at dksX0_tree_2 10 rfl rfl)
theorem dX0_tree_58 : decode cX0_tree 58 = .ok (.istore_n 2, 1) := dk_61 (dk_at dksX0_tree_2 11 rfl rfl)
theorem dX0_tree_59 : decode cX0_tree 59 = .ok (.iload_n 1, 1) := dk_27 (dk_at dksX0_tree_2 12 rfl rfl)
theorem dX0_tree_60 : decode cX0_tree 60 = .ok (.iconst 1, 1) := dk_4 (dk_at dksX0_tree_2 13 rfl rfl)
theorem dX0_tree_61 : decode cX0_tree 61 = .ok (.aload_n 0, 1) := dk_42 (dk_at dksX0_tree_2 14 rfl rfl)
theorem dX0_tree_62 : decode cX0_tree 62 = .ok (.getfield 40, 3) := dk_180 0 40 (dk_at dksX0_tree_2 15 rfl rfl)
theorem dX0_tree_65 : decode cX0_tree 65 = .ok (.getfield 145, 3) := dk_180 0 145 (dk_at dksX0_tree_2 18 rfl rfl)
theorem dX0_tree_68 : decode cX0_tree 68 = .ok (.iload_n 3, 1) := dk_29 (dk_at dksX0_tree_2 21 rfl rfl)
theorem dX0_tree_69 : decode cX0_tree 69 = .ok (.invokevirtual 178, 3) := dk_182 0 178 (dk_at dksX0_tree_3 0 rfl rfl)
theorem dX0_tree_72 : decode cX0_tree 72 = .ok (.checkcast 182, 3) := dk_192 0 182 (dk_at dksX0_tree_3 3 rfl rfl)
theorem dX0_tree_75 : decode cX0_tree 75 = .ok (.getfield 204, 3) := dk_180 0 204 (dk_at dksX0_tree_3 6 rfl rfl)
theorem dX0_tree_78 : decode cX0_tree 78 = .ok (.ishl, 1) := dk_120 (dk_at dksX0_tree_3 9 rfl rfl)
theorem dX0_tree_79 : decode cX0_tree 79 = .ok (.iconst 1, 1) := dk_4 (dk_at dksX0_tree_3 10 rfl rfl)
theorem dX0_tree_80 : decode cX0_tree 80 = .ok (.aload_n 0, 1) := dk_42 (dk_at dksX0_tree_3 11 rfl rfl)
theorem dX0_tree_81 : decode cX0_tree 81 = .ok (.getfield 40, 3) := dk_180 0 40 (dk_at dksX0_tree_3 12 rfl rfl)
theorem dX0_tree_84 : decode cX0_tree 84 = .ok (.getfield 145, 3) := dk_180 0 145 (dk_at dksX0_tree_3 15 rfl rfl)
theorem dX0_tree_87 : decode cX0_tree 87 = .ok (.iload_n 3, 1) := dk_29 (dk_at dksX0_tree_3 18 rfl rfl)
theorem dX0_tree_88 : decode cX0_tree 88 = .ok (.invokevirtual 178, 3) := dk_182 0 178 (dk_at dksX0_tree_3 19 rfl rfl)
theorem dX0_tree_91 : decode cX0_tree 91 = .ok (.checkcast 182, 3) := dk_192 0 182 (dk_at dksX0_tree_4 0 rfl rfl)
theorem dX0_tree_94 : decode cX0_tree 94 = .ok (.getfield 207, 3) := dk_180 0 207 (dk_at dksX0_tree_4 3 rfl rfl)
theorem dX0_tree_97 : decode cX0_tree 97 = .ok (.ishl, 1) := dk_120 (dk_at dksX0_tree_4 6 rfl rfl)
theorem dX0_tree_98 : decode cX0_tree 98 = .ok (.ior, 1) := dk_128 (dk_at dksX0_tree_4 7 rfl rfl)
theorem dX0_tree_99 : decode cX0_tree 99 = .ok (.ior, 1) := dk_128 (dk_at dksX0_tree_4 8 rfl rfl)
theorem dX0_tree_100 : decode cX0_tree 100 = .ok (.istore_n 1, 1) := dk_60 (dk_at dksX0_tree_4 9 rfl rfl)
theorem dX0_tree_101 : decode cX0_tree 101 = .ok (.goto (-87), 3) := dk_167 255 169 (dk_at dksX0_tree_4 10 rfl rfl)
theorem dX0_tree_104 : decode cX0_tree 104 = .ok (.iload_n 2, 1) := dk_28 (dk_at dksX0_tree_4 13 rfl rfl)
theorem dX0_tree_105 : decode cX0_tree 105 = .ok (.ireturn, 1) := dk_172 (dk_at dksX0_tree_4 14 rfl rfl)
abbrev cX0_shortest : ByteArray := prog_1_method_52_code
def yX0_shortest : MethodName := ⟨RX0, "shortest", "(I)I"⟩
def dkwX0_shortest_4 : List UInt8 := [132, 3, 1, 167, 255, 165, 28, 172]
abbrev dktX0_shortest_4 : List UInt8 := dkwX0_shortest_4 ++ []
def dkwX0_shortest_3 : List UInt8 := [42, 180, 0, 40, 180, 0, 145, 28, 182, 0, 178, 192, 0, 182, 180, 0, 210, 162, 0, 5, 29, 61]
abbrev dktX0_shortest_3 : List UInt8 := dkwX0_shortest_3 ++ dktX0_shortest_4
def dkwX0_shortest_2 : List UInt8 := [159, 0, 7, 4, 167, 0, 4, 3, 54, 5, 21, 5, 153, 0, 34, 28, 155, 0, 28, 25, 4, 180, 0, 210]
abbrev dktX0_shortest_2 : List UInt8 := dkwX0_shortest_2 ++ dktX0_shortest_3
def dkwX0_shortest_1 : List UInt8 := [192, 0, 182, 58, 4, 27, 25, 4, 180, 0, 204, 122, 4, 126, 27, 25, 4, 180, 0, 207, 122, 4, 126]
abbrev dktX0_shortest_1 : List UInt8 := dkwX0_shortest_1 ++ dktX0_shortest_2
def dkwX0_shortest_0 : List UInt8 := [2, 61, 3, 62, 29, 42, 182, 0, 160, 162, 0, 89, 42, 180, 0, 40, 180, 0, 145, 29, 182, 0, 178]
abbrev dktX0_shortest_0 : List UInt8 := dkwX0_shortest_0 ++ dktX0_shortest_1
theorem dksX0_shortest_0 : cX0_shortest.data.toList.drop 0 = dktX0_shortest_0 := by decide +kernel
theorem dksX0_shortest_1 : cX0_shortest.data.toList.drop 23 = dktX0_shortest_1 := dk_seg dksX0_shortest_0 23 rfl rfl
theorem dksX0_shortest_2 : cX0_shortest.data.toList.drop 46 = dktX0_shortest_2 := dk_seg dksX0_shortest_1 23 rfl rfl
theorem dksX0_shortest_3 : cX0_shortest.data.toList.drop 70 = dktX0_shortest_3 := dk_seg dksX0_shortest_2 24 rfl rfl
theorem dksX0_shortest_4 : cX0_shortest.data.toList.drop 92 = dktX0_shortest_4 := dk_seg dksX0_shortest_3 22 rfl rfl
theorem dX0_shortest_0 : decode cX0_shortest 0 = .ok (.iconst (-1), 1) := dk_2 (dk_at dksX0_shortest_0 0 rfl rfl)
theorem dX0_shortest_1 : decode cX0_shortest 1 = .ok (.istore_n 2, 1) := dk_61 (dk_at dksX0_shortest_0 1 rfl rfl)
theorem dX0_shortest_2 : decode cX0_shortest 2 = .ok (.iconst 0, 1) := dk_3 (dk_at dksX0_shortest_0 2 rfl rfl)
theorem dX0_shortest_3 : decode cX0_shortest 3 = .ok (.istore_n 3, 1) := dk_62 (dk_at dksX0_shortest_0 3 rfl rfl)
theorem dX0_shortest_4 : decode cX0_shortest 4 = .ok (.iload_n 3, 1) := dk_29 (dk_at dksX0_shortest_0 4 rfl rfl)
theorem dX0_shortest_5 : decode cX0_shortest 5 = .ok (.aload_n 0, 1) := dk_42 (dk_at dksX0_shortest_0 5 rfl rfl)
theorem dX0_shortest_6 : decode cX0_shortest 6 = .ok (.invokevirtual 160, 3) := dk_182 0 160 (dk_at dksX0_shortest_0 6 rfl rfl)
theorem dX0_shortest_9 : decode cX0_shortest 9 = .ok (.if_icmp .ge 89, 3) := dk_162 0 89 (dk_at dksX0_shortest_0 9 rfl rfl)
theorem dX0_shortest_12 : decode cX0_shortest 12 = .ok (.aload_n 0, 1) := dk_42 (dk_at dksX0_shortest_0 12 rfl rfl)
theorem dX0_shortest_13 : decode cX0_shortest 13 = .ok (.getfield 40, 3) := dk_180 0 40 (dk_at dksX0_shortest_0 13 rfl rfl)
theorem dX0_shortest_16 : decode cX0_shortest 16 = .ok (.getfield 145, 3) := dk_180 0 145 (dk_at dksX0_shortest_0 16 rfl rfl)
theorem dX0_shortest_19 : decode cX0_shortest 19 = .ok (.iload_n 3, 1) := dk_29 (dk_at dksX0_shortest_0 19 rfl rfl)
theorem dX0_shortest_20 : decode cX0_shortest 20 = .ok (.invokevirtual 178, 3) := dk_182 0 178 (dk_at dksX0_shortest_0 20 rfl rfl)
theorem dX0_shortest_23 : decode cX0_shortest 23 = .ok (.checkcast 182, 3) := dk_192 0 182 (dk_at dksX0_shortest_1 0 rfl rfl)
theorem dX0_shortest_26 : decode cX0_shortest 26 = .ok (.astore 4, 2) := dk_58 4 (dk_at dksX0_shortest_1 3 rfl rfl)
theorem dX0_shortest_28 : decode cX0_shortest 28 = .ok (.iload_n 1, 1) := dk_27 (dk_at dksX0_shortest_1 5 rfl rfl)
theorem dX0_shortest_29 : decode cX0_shortest 29 = .ok (.aload 4, 2) := dk_25 4 (dk_at dksX0_shortest_1 6 rfl rfl)
theorem dX0_shortest_31 : decode cX0_shortest 31 = .ok (.getfield 204, 3) := dk_180 0 204 (dk_at dksX0_shortest_1 8 rfl rfl)
theorem dX0_shortest_34 : decode cX0_shortest 34 = .ok (.ishr, 1) := dk_122 (dk_at dksX0_shortest_1 11 rfl rfl)
theorem dX0_shortest_35 : decode cX0_shortest 35 = .ok (.iconst 1, 1) := dk_4 (dk_at dksX0_shortest_1 12 rfl rfl)
theorem dX0_shortest_36 : decode cX0_shortest 36 = .ok (.iand, 1) := dk_126 (dk_at dksX0_shortest_1 13 rfl rfl)
theorem dX0_shortest_37 : decode cX0_shortest 37 = .ok (.iload_n 1, 1) := dk_27 (dk_at dksX0_shortest_1 14 rfl rfl)
theorem dX0_shortest_38 : decode cX0_shortest 38 = .ok (.aload 4, 2) := dk_25 4 (dk_at dksX0_shortest_1 15 rfl rfl)
theorem dX0_shortest_40 : decode cX0_shortest 40 = .ok (.getfield 207, 3) := dk_180 0 207 (dk_at dksX0_shortest_1 17 rfl rfl)
theorem dX0_shortest_43 : decode cX0_shortest 43 = .ok (.ishr, 1) := dk_122 (dk_at dksX0_shortest_1 20 rfl rfl)
theorem dX0_shortest_44 : decode cX0_shortest 44 = .ok (.iconst 1, 1) := dk_4 (dk_at dksX0_shortest_1 21 rfl rfl)
theorem dX0_shortest_45 : decode cX0_shortest 45 = .ok (.iand, 1) := dk_126 (dk_at dksX0_shortest_1 22 rfl rfl)
theorem dX0_shortest_46 : decode cX0_shortest 46 = .ok (.if_icmp .eq 7, 3) := dk_159 0 7 (dk_at dksX0_shortest_2 0 rfl rfl)
theorem dX0_shortest_49 : decode cX0_shortest 49 = .ok (.iconst 1, 1) := dk_4 (dk_at dksX0_shortest_2 3 rfl rfl)
theorem dX0_shortest_50 : decode cX0_shortest 50 = .ok (.goto 4, 3) := dk_167 0 4 (dk_at dksX0_shortest_2 4 rfl rfl)
theorem dX0_shortest_53 : decode cX0_shortest 53 = .ok (.iconst 0, 1) := dk_3 (dk_at dksX0_shortest_2 7 rfl rfl)
theorem dX0_shortest_54 : decode cX0_shortest 54 = .ok (.istore 5, 2) := dk_54 5 (dk_at dksX0_shortest_2 8 rfl rfl)
theorem dX0_shortest_56 : decode cX0_shortest 56 = .ok (.iload 5, 2) := dk_21 5 (dk_at dksX0_shortest_2 10 rfl rfl)
theorem dX0_shortest_58 : decode cX0_shortest 58 = .ok (.ifCond .eq 34, 3) := dk_153 0 34 (dk_at dksX0_shortest_2 12 rfl rfl)
theorem dX0_shortest_61 : decode cX0_shortest 61 = .ok (.iload_n 2, 1) := dk_28 (dk_at dksX0_shortest_2 15 rfl rfl)
theorem dX0_shortest_62 : decode cX0_shortest 62 = .ok (.ifCond .lt 28, 3) := dk_155 0 28 (dk_at dksX0_shortest_2 16 rfl rfl)
theorem dX0_shortest_65 : decode cX0_shortest 65 = .ok (.aload 4, 2) := dk_25 4 (dk_at dksX0_shortest_2 19 rfl rfl)
theorem dX0_shortest_67 : decode cX0_shortest 67 = .ok (.getfield 210, 3) := dk_180 0 210 (dk_at dksX0_shortest_2 21 rfl rfl)
theorem dX0_shortest_70 : decode cX0_shortest 70 = .ok (.aload_n 0, 1) := dk_42 (dk_at dksX0_shortest_3 0 rfl rfl)
theorem dX0_shortest_71 : decode cX0_shortest 71 = .ok (.getfield 40, 3) := dk_180 0 40 (dk_at dksX0_shortest_3 1 rfl rfl)
theorem dX0_shortest_74 : decode cX0_shortest 74 = .ok (.getfield 145, 3) := dk_180 0 145 (dk_at dksX0_shortest_3 4 rfl rfl)
theorem dX0_shortest_77 : decode cX0_shortest 77 = .ok (.iload_n 2, 1) := dk_28 (dk_at dksX0_shortest_3 7 rfl rfl)
theorem dX0_shortest_78 : decode cX0_shortest 78 = .ok (.invokevirtual 178, 3) := dk_182 0 178 (dk_at dksX0_shortest_3 8 rfl rfl)
theorem dX0_shortest_81 : decode cX0_shortest 81 = .ok (.checkcast 182, 3) := dk_192 0 182 (dk_at dksX0_shortest_3 11 rfl rfl)
theorem dX0_shortest_84 : decode cX0_shortest 84 = .ok (.getfield 210, 3) := dk_180 0 210 (dk_at dksX0_shortest_3 14 rfl rfl)
theorem dX0_shortest_87 : decode cX0_shortest 87 = .ok (.if_icmp .ge 5, 3) := dk_162 0 5 (dk_at dksX0_shortest_3 17 rfl rfl)
theorem dX0_shortest_90 : decode cX0_shortest 90 = .ok (.iload_n 3, 1) := dk_29 (dk_at dksX0_shortest_3 20 rfl rfl)
theorem dX0_shortest_91 : decode cX0_shortest 91 = .ok (.istore_n 2, 1) := dk_61 (dk_at dksX0_shortest_3 21 rfl rfl)
theorem dX0_shortest_92 : decode cX0_shortest 92 = .ok (.iinc 3 1, 3) := dk_132 3 1 (dk_at dksX0_shortest_4 0 rfl rfl)
theorem dX0_shortest_95 : decode cX0_shortest 95 = .ok (.goto (-91), 3) := dk_167 255 165 (dk_at dksX0_shortest_4 3 rfl rfl)
theorem dX0_shortest_98 : decode cX0_shortest 98 = .ok (.iload_n 2, 1) := dk_28 (dk_at dksX0_shortest_4 6 rfl rfl)
theorem dX0_shortest_99 : decode cX0_shortest 99 = .ok (.ireturn, 1) := dk_172 (dk_at dksX0_shortest_4 7 rfl rfl)
abbrev cX0_twins : ByteArray := prog_1_method_54_code
def yX0_twins : MethodName := ⟨RX0, "twins", "(I)I"⟩
def dkwX0_twins_7 : List UInt8 := [29, 172]
abbrev dktX0_twins_7 : List UInt8 := dkwX0_twins_7 ++ []
def dkwX0_twins_6 : List UInt8 := [132, 5, 1, 167, 255, 147, 132, 4, 1, 167, 255, 126, 28, 155, 0, 7, 27, 154, 0, 7, 28, 167, 0, 4]
abbrev dktX0_twins_6 : List UInt8 := dkwX0_twins_6 ++ dktX0_twins_7
def dkwX0_twins_5 : List UInt8 := [167, 255, 189, 21, 6, 29, 161, 0, 6, 167, 0, 15, 16, 10, 21, 4, 104, 21, 5, 96, 61, 21, 6, 62]
abbrev dktX0_twins_5 : List UInt8 := dkwX0_twins_5 ++ dktX0_twins_6
def dkwX0_twins_4 : List UInt8 := [180, 0, 51, 42, 180, 0, 40, 21, 7, 21, 5, 182, 0, 252, 100, 184, 1, 79, 96, 54, 6, 132, 7, 1]
abbrev dktX0_twins_4 : List UInt8 := dkwX0_twins_4 ++ dktX0_twins_5
def dkwX0_twins_3 : List UInt8 := [153, 0, 7, 3, 167, 0, 37, 42, 180, 0, 51, 42, 180, 0, 40, 21, 7, 21, 4, 182, 0, 252, 42]
abbrev dktX0_twins_3 : List UInt8 := dkwX0_twins_3 ++ dktX0_twins_4
def dkwX0_twins_2 : List UInt8 := [3, 54, 7, 21, 7, 42, 182, 0, 162, 162, 0, 64, 21, 6, 42, 180, 0, 51, 21, 7, 182, 0, 169]
abbrev dktX0_twins_2 : List UInt8 := dkwX0_twins_2 ++ dktX0_twins_3
def dkwX0_twins_1 : List UInt8 := [182, 0, 172, 162, 0, 127, 21, 4, 4, 96, 54, 5, 21, 5, 42, 182, 0, 172, 162, 0, 106, 3, 54, 6]
abbrev dktX0_twins_1 : List UInt8 := dkwX0_twins_1 ++ dktX0_twins_2
def dkwX0_twins_0 : List UInt8 := [27, 3, 4, 184, 0, 156, 154, 0, 5, 2, 172, 16, 254, 61, 19, 1, 49, 62, 3, 54, 4, 21, 4, 42]
abbrev dktX0_twins_0 : List UInt8 := dkwX0_twins_0 ++ dktX0_twins_1
theorem dksX0_twins_0 : cX0_twins.data.toList.drop 0 = dktX0_twins_0 := by decide +kernel
theorem dksX0_twins_1 : cX0_twins.data.toList.drop 24 = dktX0_twins_1 := dk_seg dksX0_twins_0 24 rfl rfl
theorem dksX0_twins_2 : cX0_twins.data.toList.drop 48 = dktX0_twins_2 := dk_seg dksX0_twins_1 24 rfl rfl
theorem dksX0_twins_3 : cX0_twins.data.toList.drop 71 = dktX0_twins_3 := dk_seg dksX0_twins_2 23 rfl rfl
theorem dksX0_twins_4 : cX0_twins.data.toList.drop 94 = dktX0_twins_4 := dk_seg dksX0_twins_3 23 rfl rfl
theorem dksX0_twins_5 : cX0_twins.data.toList.drop 118 = dktX0_twins_5 := dk_seg dksX0_twins_4 24 rfl rfl
theorem dksX0_twins_6 : cX0_twins.data.toList.drop 142 = dktX0_twins_6 := dk_seg dksX0_twins_5 24 rfl rfl
theorem dksX0_twins_7 : cX0_twins.data.toList.drop 166 = dktX0_twins_7 := dk_seg dksX0_twins_6 24 rfl rfl
theorem dX0_twins_0 : decode cX0_twins 0 = .ok (.iload_n 1, 1) := dk_27 (dk_at dksX0_twins_0 0 rfl rfl)
theorem dX0_twins_1 : decode cX0_twins 1 = .ok (.iconst 0, 1) := dk_3 (dk_at dksX0_twins_0 1 rfl rfl)
theorem dX0_twins_2 : decode cX0_twins 2 = .ok (.iconst 1, 1) := dk_4 (dk_at dksX0_twins_0 2 rfl rfl)
theorem dX0_twins_3 : decode cX0_twins 3 = .ok (.invokestatic 156, 3) := dk_184 0 156 (dk_at dksX0_twins_0 3 rfl rfl)
theorem dX0_twins_6 : decode cX0_twins 6 = .ok (.ifCond .ne 5, 3) := dk_154 0 5 (dk_at dksX0_twins_0 6 rfl rfl)
theorem dX0_twins_9 : decode cX0_twins 9 = .ok (.iconst (-1), 1) := dk_2 (dk_at dksX0_twins_0 9 rfl rfl)
theorem dX0_twins_10 : decode cX0_twins 10 = .ok (.ireturn, 1) := dk_172 (dk_at dksX0_twins_0 10 rfl rfl)
theorem dX0_twins_11 : decode cX0_twins 11 = .ok (.bipush (-2), 2) := dk_16 254 (dk_at dksX0_twins_0 11 rfl rfl)
theorem dX0_twins_13 : decode cX0_twins 13 = .ok (.istore_n 2, 1) := dk_61 (dk_at dksX0_twins_0 13 rfl rfl)
theorem dX0_twins_14 : decode cX0_twins 14 = .ok (.ldc_w 305, 3) := dk_19 1 49 (dk_at dksX0_twins_0 14 rfl rfl)
theorem dX0_twins_17 : decode cX0_twins 17 = .ok (.istore_n 3, 1) := dk_62 (dk_at dksX0_twins_0 17 rfl rfl)
theorem dX0_twins_18 : decode cX0_twins 18 = .ok (.iconst 0, 1) := dk_3 (dk_at dksX0_twins_0 18 rfl rfl)
theorem dX0_twins_19 : decode cX0_twins 19 = .ok (.istore 4, 2) := dk_54 4 (dk_at dksX0_twins_0 19 rfl rfl)
theorem dX0_twins_21 : decode cX0_twins 21 = .ok (.iload 4, 2) := dk_21 4 (dk_at dksX0_twins_0 21 rfl rfl)
theorem dX0_twins_23 : decode cX0_twins 23 = .ok (.aload_n 0, 1) := dk_42 (dk_at dksX0_twins_0 23 rfl rfl)
theorem dX0_twins_24 : decode cX0_twins 24 = .ok (.invokevirtual 172, 3) := dk_182 0 172 (dk_at dksX0_twins_1 0 rfl rfl)
theorem dX0_twins_27 : decode cX0_twins 27 = .ok (.if_icmp .ge 127, 3) := dk_162 0 127 (dk_at dksX0_twins_1 3 rfl rfl)
theorem dX0_twins_30 : decode cX0_twins 30 = .ok (.iload 4, 2) := dk_21 4 (dk_at dksX0_twins_1 6 rfl rfl)
theorem dX0_twins_32 : decode cX0_twins 32 = .ok (.iconst 1, 1) := dk_4 (dk_at dksX0_twins_1 8 rfl rfl)
theorem dX0_twins_33 : decode cX0_twins 33 = .ok (.iadd, 1) := dk_96 (dk_at dksX0_twins_1 9 rfl rfl)
theorem dX0_twins_34 : decode cX0_twins 34 = .ok (.istore 5, 2) := dk_54 5 (dk_at dksX0_twins_1 10 rfl rfl)
theorem dX0_twins_36 : decode cX0_twins 36 = .ok (.iload 5, 2) := dk_21 5 (dk_at dksX0_twins_1 12 rfl rfl)
theorem dX0_twins_38 : decode cX0_twins 38 = .ok (.aload_n 0, 1) := dk_42 (dk_at dksX0_twins_1 14 rfl rfl)
theorem dX0_twins_39 : decode cX0_twins 39 = .ok (.invokevirtual 172, 3) := dk_182 0 172 (dk_at dksX0_twins_1 15 rfl rfl)
theorem dX0_twins_42 : decode cX0_twins 42 = .ok (.if_icmp .ge 106, 3) := dk_162 0 106 (dk_at dksX0_twins_1 18 rfl rfl)
theorem dX0_twins_45 : decode cX0_twins 45 = .ok (.iconst 0, 1) := dk_3 (dk_at dksX0_twins_1 21 rfl rfl)
theorem dX0_twins_46 : decode cX0_twins 46 = .ok (.istore 6, 2) := dk_54 6 (dk_at dksX0_twins_1 22 rfl rfl)
theorem dX0_twins_48 : decode cX0_twins 48 = .ok (.iconst 0, 1) := dk_3 (dk_at dksX0_twins_2 0 rfl rfl)
theorem dX0_twins_49 : decode cX0_twins 49 = .ok (.istore 7, 2) := dk_54 7 (dk_at dksX0_twins_2 1 rfl rfl)
theorem dX0_twins_51 : decode cX0_twins 51 = .ok (.iload 7, 2) := dk_21 7 (dk_at dksX0_twins_2 3 rfl rfl)
theorem dX0_twins_53 : decode cX0_twins 53 = .ok (.aload_n 0, 1) := dk_42 (dk_at dksX0_twins_2 5 rfl rfl)
theorem dX0_twins_54 : decode cX0_twins 54 = .ok (.invokevirtual 162, 3) := dk_182 0 162 (dk_at dksX0_twins_2 6 rfl rfl)
theorem dX0_twins_57 : decode cX0_twins 57 = .ok (.if_icmp .ge 64, 3) := dk_162 0 64 (dk_at dksX0_twins_2 9 rfl rfl)
theorem dX0_twins_60 : decode cX0_twins 60 = .ok (.iload 6, 2) := dk_21 6 (dk_at dksX0_twins_2 12 rfl rfl)
theorem dX0_twins_62 : decode cX0_twins 62 = .ok (.aload_n 0, 1) := dk_42 (dk_at dksX0_twins_2 14 rfl rfl)
theorem dX0_twins_63 : decode cX0_twins 63 = .ok (.getfield 51, 3) := dk_180 0 51 (dk_at dksX0_twins_2 15 rfl rfl)
theorem dX0_twins_66 : decode cX0_twins 66 = .ok (.iload 7, 2) := dk_21 7 (dk_at dksX0_twins_2 18 rfl rfl)
theorem dX0_twins_68 : decode cX0_twins 68 = .ok (.invokevirtual 169, 3) := dk_182 0 169 (dk_at dksX0_twins_2 20 rfl rfl)
theorem dX0_twins_71 : decode cX0_twins 71 = .ok (.ifCond .eq 7, 3) := dk_153 0 7 (dk_at dksX0_twins_3 0 rfl rfl)
theorem dX0_twins_74 : decode cX0_twins 74 = .ok (.iconst 0, 1) := dk_3 (dk_at dksX0_twins_3 3 rfl rfl)
theorem dX0_twins_75 : decode cX0_twins 75 = .ok (.goto 37, 3) := dk_167 0 37 (dk_at dksX0_twins_3 4 rfl rfl)
theorem dX0_twins_78 : decode cX0_twins 78 = .ok (.aload_n 0, 1) := dk_42 (dk_at dksX0_twins_3 7 rfl rfl)
theorem dX0_twins_79 : decode cX0_twins 79 = .ok (.getfield 51, 3) := dk_180 0 51 (dk_at dksX0_twins_3 8 rfl rfl)
theorem dX0_twins_82 : decode cX0_twins 82 = .ok (.aload_n 0, 1) := dk_42 (dk_at dksX0_twins_3 11 rfl rfl)
theorem dX0_twins_83 : decode cX0_twins 83 = .ok (.getfield 40, 3) := dk_180 0 40 (dk_at dksX0_twins_3 12 rfl rfl)
theorem dX0_twins_86 : decode cX0_twins 86 = .ok (.iload 7, 2) := dk_21 7 (dk_at dksX0_twins_3 15 rfl rfl)
theorem dX0_twins_88 : decode cX0_twins 88 = .ok (.iload 4, 2) := dk_21 4 (dk_at dksX0_twins_3 17 rfl rfl)
theorem dX0_twins_90 : decode cX0_twins 90 = .ok (.invokevirtual 252, 3) := dk_182 0 252 (dk_at dksX0_twins_3 19 rfl rfl)
theorem dX0_twins_93 : decode cX0_twins 93 = .ok (.aload_n 0, 1) := dk_42 (dk_at dksX0_twins_3 22 rfl rfl)
theorem dX0_twins_94 : decode cX0_twins 94 = .ok (.getfield 51, 3) := dk_180 0 51 (dk_at dksX0_twins_4 0 rfl rfl)
theorem dX0_twins_97 : decode cX0_twins 97 = .ok (.aload_n 0, 1) := dk_42 (dk_at dksX0_twins_4 3 rfl rfl)
theorem dX0_twins_98 : decode cX0_twins 98 = .ok (.getfield 40, 3) := dk_180 0 40 (dk_at dksX0_twins_4 4 rfl rfl)
theorem dX0_twins_101 : decode cX0_twins 101 = .ok (.iload 7, 2) := dk_21 7 (dk_at dksX0_twins_4 7 rfl rfl)
theorem dX0_twins_103 : decode cX0_twins 103 = .ok (.iload 5, 2) := dk_21 5 (dk_at dksX0_twins_4 9 rfl rfl)
theorem dX0_twins_105 : decode cX0_twins 105 = .ok (.invokevirtual 252, 3) := dk_182 0 252 (dk_at dksX0_twins_4 11 rfl rfl)
theorem dX0_twins_108 : decode cX0_twins 108 = .ok (.isub, 1) := dk_100 (dk_at dksX0_twins_4 14 rfl rfl)
theorem dX0_twins_109 : decode cX0_twins 109 = .ok (.invokestatic 335, 3) := dk_184 1 79 (dk_at dksX0_twins_4 15 rfl rfl)
theorem dX0_twins_112 : decode cX0_twins 112 = .ok (.iadd, 1) := dk_96 (dk_at dksX0_twins_4 18 rfl rfl)
theorem dX0_twins_113 : decode cX0_twins 113 = .ok (.istore 6, 2) := dk_54 6 (dk_at dksX0_twins_4 19 rfl rfl)
theorem dX0_twins_115 : decode cX0_twins 115 = .ok (.iinc 7 1, 3) := dk_132 7 1 (dk_at dksX0_twins_4 21 rfl rfl)
theorem dX0_twins_118 : decode cX0_twins 118 = .ok (.goto (-67), 3) := dk_167 255 189 (dk_at dksX0_twins_5 0 rfl rfl)
theorem dX0_twins_121 : decode cX0_twins 121 = .ok (.iload 6, 2) := dk_21 6 (dk_at dksX0_twins_5 3 rfl rfl)
theorem dX0_twins_123 : decode cX0_twins 123 = .ok (.iload_n 3, 1) := dk_29 (dk_at dksX0_twins_5 5 rfl rfl)
theorem dX0_twins_124 : decode cX0_twins 124 = .ok (.if_icmp .lt 6, 3) := dk_161 0 6 (dk_at dksX0_twins_5 6 rfl rfl)
theorem dX0_twins_127 : decode cX0_twins 127 = .ok (.goto 15, 3) := dk_167 0 15 (dk_at dksX0_twins_5 9 rfl rfl)
theorem dX0_twins_130 : decode cX0_twins 130 = .ok (.bipush 10, 2) := dk_16 10 (dk_at dksX0_twins_5 12 rfl rfl)
theorem dX0_twins_132 : decode cX0_twins 132 = .ok (.iload 4, 2) := dk_21 4 (dk_at dksX0_twins_5 14 rfl rfl)
theorem dX0_twins_134 : decode cX0_twins 134 = .ok (.imul, 1) := dk_104 (dk_at dksX0_twins_5 16 rfl rfl)
theorem dX0_twins_135 : decode cX0_twins 135 = .ok (.iload 5, 2) := dk_21 5 (dk_at dksX0_twins_5 17 rfl rfl)
theorem dX0_twins_137 : decode cX0_twins 137 = .ok (.iadd, 1) := dk_96 (dk_at dksX0_twins_5 19 rfl rfl)
theorem dX0_twins_138 : decode cX0_twins 138 = .ok (.istore_n 2, 1) := dk_61 (dk_at dksX0_twins_5 20 rfl rfl)
theorem dX0_twins_139 : decode cX0_twins 139 = .ok (.iload 6, 2) := dk_21 6 (dk_at dksX0_twins_5 21 rfl rfl)
theorem dX0_twins_141 : decode cX0_twins 141 = .ok (.istore_n 3, 1) := dk_62 (dk_at dksX0_twins_5 23 rfl rfl)
theorem dX0_twins_142 : decode cX0_twins 142 = .ok (.iinc 5 1, 3) := dk_132 5 1 (dk_at dksX0_twins_6 0 rfl rfl)
theorem dX0_twins_145 : decode cX0_twins 145 = .ok (.goto (-109), 3) := dk_167 255 147 (dk_at dksX0_twins_6 3 rfl rfl)
theorem dX0_twins_148 : decode cX0_twins 148 = .ok (.iinc 4 1, 3) := dk_132 4 1 (dk_at dksX0_twins_6 6 rfl rfl)
theorem dX0_twins_151 : decode cX0_twins 151 = .ok (.goto (-130), 3) := dk_167 255 126 (dk_at dksX0_twins_6 9 rfl rfl)
theorem dX0_twins_154 : decode cX0_twins 154 = .ok (.iload_n 2, 1) := dk_28 (dk_at dksX0_twins_6 12 rfl rfl)
theorem dX0_twins_155 : decode cX0_twins 155 = .ok (.ifCond .lt 7, 3) := dk_155 0 7 (dk_at dksX0_twins_6 13 rfl rfl)
theorem dX0_twins_158 : decode cX0_twins 158 = .ok (.iload_n 1, 1) := dk_27 (dk_at dksX0_twins_6 16 rfl rfl)
theorem dX0_twins_159 : decode cX0_twins 159 = .ok (.ifCond .ne 7, 3) := dk_154 0 7 (dk_at dksX0_twins_6 17 rfl rfl)
theorem dX0_twins_162 : decode cX0_twins 162 = .ok (.iload_n 2, 1) := dk_28 (dk_at dksX0_twins_6 20 rfl rfl)
theorem dX0_twins_163 : decode cX0_twins 163 = .ok (.goto 4, 3) := dk_167 0 4 (dk_at dksX0_twins_6 21 rfl rfl)
theorem dX0_twins_166 : decode cX0_twins 166 = .ok (.iload_n 3, 1) := dk_29 (dk_at dksX0_twins_7 0 rfl rfl)
theorem dX0_twins_167 : decode cX0_twins 167 = .ok (.ireturn, 1) := dk_172 (dk_at dksX0_twins_7 1 rfl rfl)
abbrev cX0_glowIn : ByteArray := prog_1_method_55_code
def yX0_glowIn : MethodName := ⟨RX0, "glowIn", "(II)I"⟩
def dkwX0_glowIn_2 : List UInt8 := [180, 0, 224, 27, 46, 172]
abbrev dktX0_glowIn_2 : List UInt8 := dkwX0_glowIn_2 ++ []
def dkwX0_glowIn_1 : List UInt8 := [180, 0, 51, 182, 1, 6, 42, 42, 180, 0, 55, 28, 42, 180, 0, 68, 182, 1, 32, 42, 180, 0, 55]
abbrev dktX0_glowIn_1 : List UInt8 := dkwX0_glowIn_1 ++ dktX0_glowIn_2
def dkwX0_glowIn_0 : List UInt8 := [42, 27, 182, 0, 165, 153, 0, 10, 28, 184, 1, 29, 154, 0, 5, 2, 172, 42, 180, 0, 55, 42]
abbrev dktX0_glowIn_0 : List UInt8 := dkwX0_glowIn_0 ++ dktX0_glowIn_1
theorem dksX0_glowIn_0 : cX0_glowIn.data.toList.drop 0 = dktX0_glowIn_0 := by decide +kernel
theorem dksX0_glowIn_1 : cX0_glowIn.data.toList.drop 22 = dktX0_glowIn_1 := dk_seg dksX0_glowIn_0 22 rfl rfl
theorem dksX0_glowIn_2 : cX0_glowIn.data.toList.drop 45 = dktX0_glowIn_2 := dk_seg dksX0_glowIn_1 23 rfl rfl
theorem dX0_glowIn_0 : decode cX0_glowIn 0 = .ok (.aload_n 0, 1) := dk_42 (dk_at dksX0_glowIn_0 0 rfl rfl)
theorem dX0_glowIn_1 : decode cX0_glowIn 1 = .ok (.iload_n 1, 1) := dk_27 (dk_at dksX0_glowIn_0 1 rfl rfl)
theorem dX0_glowIn_2 : decode cX0_glowIn 2 = .ok (.invokevirtual 165, 3) := dk_182 0 165 (dk_at dksX0_glowIn_0 2 rfl rfl)
theorem dX0_glowIn_5 : decode cX0_glowIn 5 = .ok (.ifCond .eq 10, 3) := dk_153 0 10 (dk_at dksX0_glowIn_0 5 rfl rfl)
theorem dX0_glowIn_8 : decode cX0_glowIn 8 = .ok (.iload_n 2, 1) := dk_28 (dk_at dksX0_glowIn_0 8 rfl rfl)
theorem dX0_glowIn_9 : decode cX0_glowIn 9 = .ok (.invokestatic 285, 3) := dk_184 1 29 (dk_at dksX0_glowIn_0 9 rfl rfl)
theorem dX0_glowIn_12 : decode cX0_glowIn 12 = .ok (.ifCond .ne 5, 3) := dk_154 0 5 (dk_at dksX0_glowIn_0 12 rfl rfl)
theorem dX0_glowIn_15 : decode cX0_glowIn 15 = .ok (.iconst (-1), 1) := dk_2 (dk_at dksX0_glowIn_0 15 rfl rfl)
theorem dX0_glowIn_16 : decode cX0_glowIn 16 = .ok (.ireturn, 1) := dk_172 (dk_at dksX0_glowIn_0 16 rfl rfl)
theorem dX0_glowIn_17 : decode cX0_glowIn 17 = .ok (.aload_n 0, 1) := dk_42 (dk_at dksX0_glowIn_0 17 rfl rfl)
theorem dX0_glowIn_18 : decode cX0_glowIn 18 = .ok (.getfield 55, 3) := dk_180 0 55 (dk_at dksX0_glowIn_0 18 rfl rfl)
theorem dX0_glowIn_21 : decode cX0_glowIn 21 = .ok (.aload_n 0, 1) := dk_42 (dk_at dksX0_glowIn_0 21 rfl rfl)
theorem dX0_glowIn_22 : decode cX0_glowIn 22 = .ok (.getfield 51, 3) := dk_180 0 51 (dk_at dksX0_glowIn_1 0 rfl rfl)
theorem dX0_glowIn_25 : decode cX0_glowIn 25 = .ok (.invokevirtual 262, 3) := dk_182 1 6 (dk_at dksX0_glowIn_1 3 rfl rfl)
theorem dX0_glowIn_28 : decode cX0_glowIn 28 = .ok (.aload_n 0, 1) := dk_42 (dk_at dksX0_glowIn_1 6 rfl rfl)
theorem dX0_glowIn_29 : decode cX0_glowIn 29 = .ok (.aload_n 0, 1) := dk_42 (dk_at dksX0_glowIn_1 7 rfl rfl)
theorem dX0_glowIn_30 : decode cX0_glowIn 30 = .ok (.getfield 55, 3) := dk_180 0 55 (dk_at dksX0_glowIn_1 8 rfl rfl)
theorem dX0_glowIn_33 : decode cX0_glowIn 33 = .ok (.iload_n 2, 1) := dk_28 (dk_at dksX0_glowIn_1 11 rfl rfl)
theorem dX0_glowIn_34 : decode cX0_glowIn 34 = .ok (.aload_n 0, 1) := dk_42 (dk_at dksX0_glowIn_1 12 rfl rfl)
theorem dX0_glowIn_35 : decode cX0_glowIn 35 = .ok (.getfield 68, 3) := dk_180 0 68 (dk_at dksX0_glowIn_1 13 rfl rfl)
theorem dX0_glowIn_38 : decode cX0_glowIn 38 = .ok (.invokevirtual 288, 3) := dk_182 1 32 (dk_at dksX0_glowIn_1 16 rfl rfl)
theorem dX0_glowIn_41 : decode cX0_glowIn 41 = .ok (.aload_n 0, 1) := dk_42 (dk_at dksX0_glowIn_1 19 rfl rfl)
theorem dX0_glowIn_42 : decode cX0_glowIn 42 = .ok (.getfield 55, 3) := dk_180 0 55 (dk_at dksX0_glowIn_1 20 rfl rfl)
theorem dX0_glowIn_45 : decode cX0_glowIn 45 = .ok (.getfield 224, 3) := dk_180 0 224 (dk_at dksX0_glowIn_2 0 rfl rfl)
theorem dX0_glowIn_48 : decode cX0_glowIn 48 = .ok (.iload_n 1, 1) := dk_27 (dk_at dksX0_glowIn_2 3 rfl rfl)
theorem dX0_glowIn_49 : decode cX0_glowIn 49 = .ok (.iaload, 1) := dk_46 (dk_at dksX0_glowIn_2 4 rfl rfl)
theorem dX0_glowIn_50 : decode cX0_glowIn 50 = .ok (.ireturn, 1) := dk_172 (dk_at dksX0_glowIn_2 5 rfl rfl)
abbrev cX0_then : ByteArray := prog_1_method_56_code
def yX0_then : MethodName := ⟨RX0, "then", "(II)I"⟩
def dkwX0_then_2 : List UInt8 := [180, 0, 55, 42, 180, 0, 40, 182, 1, 58, 167, 0, 10, 42, 180, 0, 55, 180, 1, 68, 172]
abbrev dktX0_then_2 : List UInt8 := dkwX0_then_2 ++ []
def dkwX0_then_1 : List UInt8 := [180, 0, 51, 182, 1, 6, 42, 42, 180, 0, 55, 27, 42, 180, 0, 68, 182, 1, 32, 28, 154, 0, 17, 42]
abbrev dktX0_then_1 : List UInt8 := dkwX0_then_1 ++ dktX0_then_2
def dkwX0_then_0 : List UInt8 := [27, 184, 1, 29, 153, 0, 12, 28, 3, 4, 184, 0, 156, 154, 0, 5, 2, 172, 42, 180, 0, 55, 42]
abbrev dktX0_then_0 : List UInt8 := dkwX0_then_0 ++ dktX0_then_1
theorem dksX0_then_0 : cX0_then.data.toList.drop 0 = dktX0_then_0 := by decide +kernel
theorem dksX0_then_1 : cX0_then.data.toList.drop 23 = dktX0_then_1 := dk_seg dksX0_then_0 23 rfl rfl
theorem dksX0_then_2 : cX0_then.data.toList.drop 47 = dktX0_then_2 := dk_seg dksX0_then_1 24 rfl rfl
theorem dX0_then_0 : decode cX0_then 0 = .ok (.iload_n 1, 1) := dk_27 (dk_at dksX0_then_0 0 rfl rfl)
theorem dX0_then_1 : decode cX0_then 1 = .ok (.invokestatic 285, 3) := dk_184 1 29 (dk_at dksX0_then_0 1 rfl rfl)
theorem dX0_then_4 : decode cX0_then 4 = .ok (.ifCond .eq 12, 3) := dk_153 0 12 (dk_at dksX0_then_0 4 rfl rfl)
theorem dX0_then_7 : decode cX0_then 7 = .ok (.iload_n 2, 1) := dk_28 (dk_at dksX0_then_0 7 rfl rfl)
theorem dX0_then_8 : decode cX0_then 8 = .ok (.iconst 0, 1) := dk_3 (dk_at dksX0_then_0 8 rfl rfl)
theorem dX0_then_9 : decode cX0_then 9 = .ok (.iconst 1, 1) := dk_4 (dk_at dksX0_then_0 9 rfl rfl)
theorem dX0_then_10 : decode cX0_then 10 = .ok (.invokestatic 156, 3) := dk_184 0 156 (dk_at dksX0_then_0 10 rfl rfl)
theorem dX0_then_13 : decode cX0_then 13 = .ok (.ifCond .ne 5, 3) := dk_154 0 5 (dk_at dksX0_then_0 13 rfl rfl)
theorem dX0_then_16 : decode cX0_then 16 = .ok (.iconst (-1), 1) := dk_2 (dk_at dksX0_then_0 16 rfl rfl)
theorem dX0_then_17 : decode cX0_then 17 = .ok (.ireturn, 1) := dk_172 (dk_at dksX0_then_0 17 rfl rfl)
theorem dX0_then_18 : decode cX0_then 18 = .ok (.aload_n 0, 1) := dk_42 (dk_at dksX0_then_0 18 rfl rfl)
theorem dX0_then_19 : decode cX0_then 19 = .ok (.getfield 55, 3) := dk_180 0 55 (dk_at dksX0_then_0 19 rfl rfl)
theorem dX0_then_22 : decode cX0_then 22 = .ok (.aload_n 0, 1) := dk_42 (dk_at dksX0_then_0 22 rfl rfl)
theorem dX0_then_23 : decode cX0_then 23 = .ok (.getfield 51, 3) := dk_180 0 51 (dk_at dksX0_then_1 0 rfl rfl)
theorem dX0_then_26 : decode cX0_then 26 = .ok (.invokevirtual 262, 3) := dk_182 1 6 (dk_at dksX0_then_1 3 rfl rfl)
theorem dX0_then_29 : decode cX0_then 29 = .ok (.aload_n 0, 1) := dk_42 (dk_at dksX0_then_1 6 rfl rfl)
theorem dX0_then_30 : decode cX0_then 30 = .ok (.aload_n 0, 1) := dk_42 (dk_at dksX0_then_1 7 rfl rfl)
theorem dX0_then_31 : decode cX0_then 31 = .ok (.getfield 55, 3) := dk_180 0 55 (dk_at dksX0_then_1 8 rfl rfl)
theorem dX0_then_34 : decode cX0_then 34 = .ok (.iload_n 1, 1) := dk_27 (dk_at dksX0_then_1 11 rfl rfl)
theorem dX0_then_35 : decode cX0_then 35 = .ok (.aload_n 0, 1) := dk_42 (dk_at dksX0_then_1 12 rfl rfl)
theorem dX0_then_36 : decode cX0_then 36 = .ok (.getfield 68, 3) := dk_180 0 68 (dk_at dksX0_then_1 13 rfl rfl)
theorem dX0_then_39 : decode cX0_then 39 = .ok (.invokevirtual 288, 3) := dk_182 1 32 (dk_at dksX0_then_1 16 rfl rfl)
theorem dX0_then_42 : decode cX0_then 42 = .ok (.iload_n 2, 1) := dk_28 (dk_at dksX0_then_1 19 rfl rfl)
theorem dX0_then_43 : decode cX0_then 43 = .ok (.ifCond .ne 17, 3) := dk_154 0 17 (dk_at dksX0_then_1 20 rfl rfl)
theorem dX0_then_46 : decode cX0_then 46 = .ok (.aload_n 0, 1) := dk_42 (dk_at dksX0_then_1 23 rfl rfl)
theorem dX0_then_47 : decode cX0_then 47 = .ok (.getfield 55, 3) := dk_180 0 55 (dk_at dksX0_then_2 0 rfl rfl)
theorem dX0_then_50 : decode cX0_then 50 = .ok (.aload_n 0, 1) := dk_42 (dk_at dksX0_then_2 3 rfl rfl)
theorem dX0_then_51 : decode cX0_then 51 = .ok (.getfield 40, 3) := dk_180 0 40 (dk_at dksX0_then_2 4 rfl rfl)
theorem dX0_then_54 : decode cX0_then 54 = .ok (.invokevirtual 314, 3) := dk_182 1 58 (dk_at dksX0_then_2 7 rfl rfl)
theorem dX0_then_57 : decode cX0_then 57 = .ok (.goto 10, 3) := dk_167 0 10 (dk_at dksX0_then_2 10 rfl rfl)
theorem dX0_then_60 : decode cX0_then 60 = .ok (.aload_n 0, 1) := dk_42 (dk_at dksX0_then_2 13 rfl rfl)
theorem dX0_then_61 : decode cX0_then 61 = .ok (.getfield 55, 3) := dk_180 0 55 (dk_at dksX0_then_2 14 rfl rfl)
theorem dX0_then_64 : decode cX0_then 64 = .ok (.getfield 324, 3) := dk_180 1 68 (dk_at dksX0_then_2 17 rfl rfl)
theorem dX0_then_67 : decode cX0_then 67 = .ok (.ireturn, 1) := dk_172 (dk_at dksX0_then_2 20 rfl rfl)
abbrev cX0_year : ByteArray := prog_1_method_57_code
def yX0_year : MethodName := ⟨RX0, "year", "(III)I"⟩
def dkwX0_year_4 : List UInt8 := [182, 0, 200, 154, 0, 7, 4, 167, 0, 4, 3, 96, 54, 4, 132, 5, 1, 167, 255, 181, 21, 4, 172]
abbrev dktX0_year_4 : List UInt8 := dkwX0_year_4 ++ []
def dkwX0_year_3 : List UInt8 := [42, 180, 0, 55, 28, 42, 180, 0, 68, 182, 1, 32, 21, 4, 42, 180, 0, 55, 42, 180, 0, 40, 27]
abbrev dktX0_year_3 : List UInt8 := dkwX0_year_3 ++ dktX0_year_4
def dkwX0_year_2 : List UInt8 := [180, 0, 51, 182, 1, 6, 42, 180, 0, 55, 42, 180, 0, 40, 180, 1, 82, 21, 5, 96, 181, 1, 85, 42]
abbrev dktX0_year_2 : List UInt8 := dkwX0_year_2 ++ dktX0_year_3
def dkwX0_year_1 : List UInt8 := [154, 0, 5, 2, 172, 3, 54, 4, 3, 54, 5, 21, 5, 29, 162, 0, 75, 42, 180, 0, 55, 42]
abbrev dktX0_year_1 : List UInt8 := dkwX0_year_1 ++ dktX0_year_2
def dkwX0_year_0 : List UInt8 := [42, 27, 182, 0, 197, 153, 0, 20, 28, 184, 1, 29, 153, 0, 13, 29, 4, 16, 20, 184, 0, 156]
abbrev dktX0_year_0 : List UInt8 := dkwX0_year_0 ++ dktX0_year_1
theorem dksX0_year_0 : cX0_year.data.toList.drop 0 = dktX0_year_0 := by decide +kernel
theorem dksX0_year_1 : cX0_year.data.toList.drop 22 = dktX0_year_1 := dk_seg dksX0_year_0 22 rfl rfl
theorem dksX0_year_2 : cX0_year.data.toList.drop 44 = dktX0_year_2 := dk_seg dksX0_year_1 22 rfl rfl
theorem dksX0_year_3 : cX0_year.data.toList.drop 68 = dktX0_year_3 := dk_seg dksX0_year_2 24 rfl rfl
theorem dksX0_year_4 : cX0_year.data.toList.drop 91 = dktX0_year_4 := dk_seg dksX0_year_3 23 rfl rfl
theorem dX0_year_0 : decode cX0_year 0 = .ok (.aload_n 0, 1) := dk_42 (dk_at dksX0_year_0 0 rfl rfl)
theorem dX0_year_1 : decode cX0_year 1 = .ok (.iload_n 1, 1) := dk_27 (dk_at dksX0_year_0 1 rfl rfl)
theorem dX0_year_2 : decode cX0_year 2 = .ok (.invokevirtual 197, 3) := dk_182 0 197 (dk_at dksX0_year_0 2 rfl rfl)
theorem dX0_year_5 : decode cX0_year 5 = .ok (.ifCond .eq 20, 3) := dk_153 0 20 (dk_at dksX0_year_0 5 rfl rfl)
theorem dX0_year_8 : decode cX0_year 8 = .ok (.iload_n 2, 1) := dk_28 (dk_at dksX0_year_0 8 rfl rfl)
theorem dX0_year_9 : decode cX0_year 9 = .ok (.invokestatic 285, 3) := dk_184 1 29 (dk_at dksX0_year_0 9 rfl rfl)
theorem dX0_year_12 : decode cX0_year 12 = .ok (.ifCond .eq 13, 3) := dk_153 0 13 (dk_at dksX0_year_0 12 rfl rfl)
theorem dX0_year_15 : decode cX0_year 15 = .ok (.iload_n 3, 1) := dk_29 (dk_at dksX0_year_0 15 rfl rfl)
theorem dX0_year_16 : decode cX0_year 16 = .ok (.iconst 1, 1) := dk_4 (dk_at dksX0_year_0 16 rfl rfl)
theorem dX0_year_17 : decode cX0_year 17 = .ok (.bipush 20, 2) := dk_16 20 (dk_at dksX0_year_0 17 rfl rfl)
theorem dX0_year_19 : decode cX0_year 19 = .ok (.invokestatic 156, 3) := dk_184 0 156 (dk_at dksX0_year_0 19 rfl rfl)
theorem dX0_year_22 : decode cX0_year 22 = .ok (.ifCond .ne 5, 3) := dk_154 0 5 (dk_at dksX0_year_1 0 rfl rfl)
theorem dX0_year_25 : decode cX0_year 25 = .ok (.iconst (-1), 1) := dk_2 (dk_at dksX0_year_1 3 rfl rfl)
theorem dX0_year_26 : decode cX0_year 26 = .ok (.ireturn, 1) := dk_172 (dk_at dksX0_year_1 4 rfl rfl)
theorem dX0_year_27 : decode cX0_year 27 = .ok (.iconst 0, 1) := dk_3 (dk_at dksX0_year_1 5 rfl rfl)
theorem dX0_year_28 : decode cX0_year 28 = .ok (.istore 4, 2) := dk_54 4 (dk_at dksX0_year_1 6 rfl rfl)
theorem dX0_year_30 : decode cX0_year 30 = .ok (.iconst 0, 1) := dk_3 (dk_at dksX0_year_1 8 rfl rfl)
theorem dX0_year_31 : decode cX0_year 31 = .ok (.istore 5, 2) := dk_54 5 (dk_at dksX0_year_1 9 rfl rfl)
theorem dX0_year_33 : decode cX0_year 33 = .ok (.iload 5, 2) := dk_21 5 (dk_at dksX0_year_1 11 rfl rfl)
theorem dX0_year_35 : decode cX0_year 35 = .ok (.iload_n 3, 1) := dk_29 (dk_at dksX0_year_1 13 rfl rfl)
theorem dX0_year_36 : decode cX0_year 36 = .ok (.if_icmp .ge 75, 3) := dk_162 0 75 (dk_at dksX0_year_1 14 rfl rfl)
theorem dX0_year_39 : decode cX0_year 39 = .ok (.aload_n 0, 1) := dk_42 (dk_at dksX0_year_1 17 rfl rfl)
theorem dX0_year_40 : decode cX0_year 40 = .ok (.getfield 55, 3) := dk_180 0 55 (dk_at dksX0_year_1 18 rfl rfl)
theorem dX0_year_43 : decode cX0_year 43 = .ok (.aload_n 0, 1) := dk_42 (dk_at dksX0_year_1 21 rfl rfl)
theorem dX0_year_44 : decode cX0_year 44 = .ok (.getfield 51, 3) := dk_180 0 51 (dk_at dksX0_year_2 0 rfl rfl)
theorem dX0_year_47 : decode cX0_year 47 = .ok (.invokevirtual 262, 3) := dk_182 1 6 (dk_at dksX0_year_2 3 rfl rfl)
theorem dX0_year_50 : decode cX0_year 50 = .ok (.aload_n 0, 1) := dk_42 (dk_at dksX0_year_2 6 rfl rfl)
theorem dX0_year_51 : decode cX0_year 51 = .ok (.getfield 55, 3) := dk_180 0 55 (dk_at dksX0_year_2 7 rfl rfl)
theorem dX0_year_54 : decode cX0_year 54 = .ok (.aload_n 0, 1) := dk_42 (dk_at dksX0_year_2 10 rfl rfl)
theorem dX0_year_55 : decode cX0_year 55 = .ok (.getfield 40, 3) := dk_180 0 40 (dk_at dksX0_year_2 11 rfl rfl)
theorem dX0_year_58 : decode cX0_year 58 = .ok (.getfield 338, 3) := dk_180 1 82 (dk_at dksX0_year_2 14 rfl rfl)
theorem dX0_year_61 : decode cX0_year 61 = .ok (.iload 5, 2) := dk_21 5 (dk_at dksX0_year_2 17 rfl rfl)
theorem dX0_year_63 : decode cX0_year 63 = .ok (.iadd, 1) := dk_96 (dk_at dksX0_year_2 19 rfl rfl)
theorem dX0_year_64 : decode cX0_year 64 = .ok (.putfield 341, 3) := dk_181 1 85 (dk_at dksX0_year_2 20 rfl rfl)
theorem dX0_year_67 : decode cX0_year 67 = .ok (.aload_n 0, 1) := dk_42 (dk_at dksX0_year_2 23 rfl rfl)
theorem dX0_year_68 : decode cX0_year 68 = .ok (.aload_n 0, 1) := dk_42 (dk_at dksX0_year_3 0 rfl rfl)
theorem dX0_year_69 : decode cX0_year 69 = .ok (.getfield 55, 3) := dk_180 0 55 (dk_at dksX0_year_3 1 rfl rfl)
theorem dX0_year_72 : decode cX0_year 72 = .ok (.iload_n 2, 1) := dk_28 (dk_at dksX0_year_3 4 rfl rfl)
theorem dX0_year_73 : decode cX0_year 73 = .ok (.aload_n 0, 1) := dk_42 (dk_at dksX0_year_3 5 rfl rfl)
theorem dX0_year_74 : decode cX0_year 74 = .ok (.getfield 68, 3) := dk_180 0 68 (dk_at dksX0_year_3 6 rfl rfl)
theorem dX0_year_77 : decode cX0_year 77 = .ok (.invokevirtual 288, 3) := dk_182 1 32 (dk_at dksX0_year_3 9 rfl rfl)
theorem dX0_year_80 : decode cX0_year 80 = .ok (.iload 4, 2) := dk_21 4 (dk_at dksX0_year_3 12 rfl rfl)
theorem dX0_year_82 : decode cX0_year 82 = .ok (.aload_n 0, 1) := dk_42 (dk_at dksX0_year_3 14 rfl rfl)
theorem dX0_year_83 : decode cX0_year 83 = .ok (.getfield 55, 3) := dk_180 0 55 (dk_at dksX0_year_3 15 rfl rfl)
theorem dX0_year_86 : decode cX0_year 86 = .ok (.aload_n 0, 1) := dk_42 (dk_at dksX0_year_3 18 rfl rfl)
theorem dX0_year_87 : decode cX0_year 87 = .ok (.getfield 40, 3) := dk_180 0 40 (dk_at dksX0_year_3 19 rfl rfl)
theorem dX0_year_90 : decode cX0_year 90 = .ok (.iload_n 1, 1) := dk_27 (dk_at dksX0_year_3 22 rfl rfl)
theorem dX0_year_91 : decode cX0_year 91 = .ok (.invokevirtual 200, 3) := dk_182 0 200 (dk_at dksX0_year_4 0 rfl rfl)
theorem dX0_year_94 : decode cX0_year 94 = .ok (.ifCond .ne 7, 3) := dk_154 0 7 (dk_at dksX0_year_4 3 rfl rfl)
theorem dX0_year_97 : decode cX0_year 97 = .ok (.iconst 1, 1) := dk_4 (dk_at dksX0_year_4 6 rfl rfl)
theorem dX0_year_98 : decode cX0_year 98 = .ok (.goto 4, 3) := dk_167 0 4 (dk_at dksX0_year_4 7 rfl rfl)
theorem dX0_year_101 : decode cX0_year 101 = .ok (.iconst 0, 1) := dk_3 (dk_at dksX0_year_4 10 rfl rfl)
theorem dX0_year_102 : decode cX0_year 102 = .ok (.iadd, 1) := dk_96 (dk_at dksX0_year_4 11 rfl rfl)
theorem dX0_year_103 : decode cX0_year 103 = .ok (.istore 4, 2) := dk_54 4 (dk_at dksX0_year_4 12 rfl rfl)
theorem dX0_year_105 : decode cX0_year 105 = .ok (.iinc 5 1, 3) := dk_132 5 1 (dk_at dksX0_year_4 14 rfl rfl)
theorem dX0_year_108 : decode cX0_year 108 = .ok (.goto (-75), 3) := dk_167 255 181 (dk_at dksX0_year_4 17 rfl rfl)
theorem dX0_year_111 : decode cX0_year 111 = .ok (.iload 4, 2) := dk_21 4 (dk_at dksX0_year_4 20 rfl rfl)
theorem dX0_year_113 : decode cX0_year 113 = .ok (.ireturn, 1) := dk_172 (dk_at dksX0_year_4 22 rfl rfl)
abbrev cX0_tell : ByteArray := prog_1_method_58_code
def yX0_tell : MethodName := ⟨RX0, "tell", "(IIZ)I"⟩
def dkwX0_tell_3 : List UInt8 := [181, 0, 128, 42, 180, 0, 128, 4, 100, 172]
abbrev dktX0_tell_3 : List UInt8 := dkwX0_tell_3 ++ []
def dkwX0_tell_2 : List UInt8 := [180, 0, 128, 28, 79, 42, 180, 0, 103, 42, 180, 0, 128, 29, 84, 42, 89, 180, 0, 128, 4, 96]
abbrev dktX0_tell_2 : List UInt8 := dkwX0_tell_2 ++ dktX0_tell_3
def dkwX0_tell_1 : List UInt8 := [16, 20, 160, 0, 5, 2, 172, 42, 180, 0, 97, 42, 180, 0, 128, 27, 79, 42, 180, 0, 100, 42]
abbrev dktX0_tell_1 : List UInt8 := dkwX0_tell_1 ++ dktX0_tell_2
def dkwX0_tell_0 : List UInt8 := [42, 27, 182, 1, 22, 153, 0, 23, 28, 3, 17, 3, 231, 184, 0, 156, 153, 0, 12, 42, 180, 0, 128]
abbrev dktX0_tell_0 : List UInt8 := dkwX0_tell_0 ++ dktX0_tell_1
theorem dksX0_tell_0 : cX0_tell.data.toList.drop 0 = dktX0_tell_0 := by decide +kernel
theorem dksX0_tell_1 : cX0_tell.data.toList.drop 23 = dktX0_tell_1 := dk_seg dksX0_tell_0 23 rfl rfl
theorem dksX0_tell_2 : cX0_tell.data.toList.drop 45 = dktX0_tell_2 := dk_seg dksX0_tell_1 22 rfl rfl
theorem dksX0_tell_3 : cX0_tell.data.toList.drop 67 = dktX0_tell_3 := dk_seg dksX0_tell_2 22 rfl rfl
theorem dX0_tell_0 : decode cX0_tell 0 = .ok (.aload_n 0, 1) := dk_42 (dk_at dksX0_tell_0 0 rfl rfl)
theorem dX0_tell_1 : decode cX0_tell 1 = .ok (.iload_n 1, 1) := dk_27 (dk_at dksX0_tell_0 1 rfl rfl)
theorem dX0_tell_2 : decode cX0_tell 2 = .ok (.invokevirtual 278, 3) := dk_182 1 22 (dk_at dksX0_tell_0 2 rfl rfl)
theorem dX0_tell_5 : decode cX0_tell 5 = .ok (.ifCond .eq 23, 3) := dk_153 0 23 (dk_at dksX0_tell_0 5 rfl rfl)
theorem dX0_tell_8 : decode cX0_tell 8 = .ok (.iload_n 2, 1) := dk_28 (dk_at dksX0_tell_0 8 rfl rfl)
theorem dX0_tell_9 : decode cX0_tell 9 = .ok (.iconst 0, 1) := dk_3 (dk_at dksX0_tell_0 9 rfl rfl)
theorem dX0_tell_10 : decode cX0_tell 10 = .ok (.sipush 999, 3) := dk_17 3 231 (dk_at dksX0_tell_0 10 rfl rfl)
theorem dX0_tell_13 : decode cX0_tell 13 = .ok (.invokestatic 156, 3) := dk_184 0 156 (dk_at dksX0_tell_0 13 rfl rfl)
theorem dX0_tell_16 : decode cX0_tell 16 = .ok (.ifCond .eq 12, 3) := dk_153 0 12 (dk_at dksX0_tell_0 16 rfl rfl)
theorem dX0_tell_19 : decode cX0_tell 19 = .ok (.aload_n 0, 1) := dk_42 (dk_at dksX0_tell_0 19 rfl rfl)
theorem dX0_tell_20 : decode cX0_tell 20 = .ok (.getfield 128, 3) := dk_180 0 128 (dk_at dksX0_tell_0 20 rfl rfl)
theorem dX0_tell_23 : decode cX0_tell 23 = .ok (.bipush 20, 2) := dk_16 20 (dk_at dksX0_tell_1 0 rfl rfl)
theorem dX0_tell_25 : decode cX0_tell 25 = .ok (.if_icmp .ne 5, 3) := dk_160 0 5 (dk_at dksX0_tell_1 2 rfl rfl)
theorem dX0_tell_28 : decode cX0_tell 28 = .ok (.iconst (-1), 1) := dk_2 (dk_at dksX0_tell_1 5 rfl rfl)
theorem dX0_tell_29 : decode cX0_tell 29 = .ok (.ireturn, 1) := dk_172 (dk_at dksX0_tell_1 6 rfl rfl)
theorem dX0_tell_30 : decode cX0_tell 30 = .ok (.aload_n 0, 1) := dk_42 (dk_at dksX0_tell_1 7 rfl rfl)
theorem dX0_tell_31 : decode cX0_tell 31 = .ok (.getfield 97, 3) := dk_180 0 97 (dk_at dksX0_tell_1 8 rfl rfl)
theorem dX0_tell_34 : decode cX0_tell 34 = .ok (.aload_n 0, 1) := dk_42 (dk_at dksX0_tell_1 11 rfl rfl)
theorem dX0_tell_35 : decode cX0_tell 35 = .ok (.getfield 128, 3) := dk_180 0 128 (dk_at dksX0_tell_1 12 rfl rfl)
theorem dX0_tell_38 : decode cX0_tell 38 = .ok (.iload_n 1, 1) := dk_27 (dk_at dksX0_tell_1 15 rfl rfl)
theorem dX0_tell_39 : decode cX0_tell 39 = .ok (.iastore, 1) := dk_79 (dk_at dksX0_tell_1 16 rfl rfl)
theorem dX0_tell_40 : decode cX0_tell 40 = .ok (.aload_n 0, 1) := dk_42 (dk_at dksX0_tell_1 17 rfl rfl)
theorem dX0_tell_41 : decode cX0_tell 41 = .ok (.getfield 100, 3) := dk_180 0 100 (dk_at dksX0_tell_1 18 rfl rfl)
theorem dX0_tell_44 : decode cX0_tell 44 = .ok (.aload_n 0, 1) := dk_42 (dk_at dksX0_tell_1 21 rfl rfl)
theorem dX0_tell_45 : decode cX0_tell 45 = .ok (.getfield 128, 3) := dk_180 0 128 (dk_at dksX0_tell_2 0 rfl rfl)
theorem dX0_tell_48 : decode cX0_tell 48 = .ok (.iload_n 2, 1) := dk_28 (dk_at dksX0_tell_2 3 rfl rfl)
theorem dX0_tell_49 : decode cX0_tell 49 = .ok (.iastore, 1) := dk_79 (dk_at dksX0_tell_2 4 rfl rfl)
theorem dX0_tell_50 : decode cX0_tell 50 = .ok (.aload_n 0, 1) := dk_42 (dk_at dksX0_tell_2 5 rfl rfl)
theorem dX0_tell_51 : decode cX0_tell 51 = .ok (.getfield 103, 3) := dk_180 0 103 (dk_at dksX0_tell_2 6 rfl rfl)
theorem dX0_tell_54 : decode cX0_tell 54 = .ok (.aload_n 0, 1) := dk_42 (dk_at dksX0_tell_2 9 rfl rfl)
theorem dX0_tell_55 : decode cX0_tell 55 = .ok (.getfield 128, 3) := dk_180 0 128 (dk_at dksX0_tell_2 10 rfl rfl)
theorem dX0_tell_58 : decode cX0_tell 58 = .ok (.iload_n 3, 1) := dk_29 (dk_at dksX0_tell_2 13 rfl rfl)
theorem dX0_tell_59 : decode cX0_tell 59 = .ok (.bastore, 1) := dk_84 (dk_at dksX0_tell_2 14 rfl rfl)
theorem dX0_tell_60 : decode cX0_tell 60 = .ok (.aload_n 0, 1) := dk_42 (dk_at dksX0_tell_2 15 rfl rfl)
theorem dX0_tell_61 : decode cX0_tell 61 = .ok (.dup, 1) := dk_89 (dk_at dksX0_tell_2 16 rfl rfl)
theorem dX0_tell_62 : decode cX0_tell 62 = .ok (.getfield 128, 3) := dk_180 0 128 (dk_at dksX0_tell_2 17 rfl rfl)
theorem dX0_tell_65 : decode cX0_tell 65 = .ok (.iconst 1, 1) := dk_4 (dk_at dksX0_tell_2 20 rfl rfl)
theorem dX0_tell_66 : decode cX0_tell 66 = .ok (.iadd, 1) := dk_96 (dk_at dksX0_tell_2 21 rfl rfl)
theorem dX0_tell_67 : decode cX0_tell 67 = .ok (.putfield 128, 3) := dk_181 0 128 (dk_at dksX0_tell_3 0 rfl rfl)
theorem dX0_tell_70 : decode cX0_tell 70 = .ok (.aload_n 0, 1) := dk_42 (dk_at dksX0_tell_3 3 rfl rfl)
theorem dX0_tell_71 : decode cX0_tell 71 = .ok (.getfield 128, 3) := dk_180 0 128 (dk_at dksX0_tell_3 4 rfl rfl)
theorem dX0_tell_74 : decode cX0_tell 74 = .ok (.iconst 1, 1) := dk_4 (dk_at dksX0_tell_3 7 rfl rfl)
theorem dX0_tell_75 : decode cX0_tell 75 = .ok (.isub, 1) := dk_100 (dk_at dksX0_tell_3 8 rfl rfl)
theorem dX0_tell_76 : decode cX0_tell 76 = .ok (.ireturn, 1) := dk_172 (dk_at dksX0_tell_3 9 rfl rfl)
abbrev cX0_forget : ByteArray := prog_1_method_59_code
def yX0_forget : MethodName := ⟨RX0, "forget", "()I"⟩
def dkwX0_forget_0 : List UInt8 := [42, 180, 0, 128, 60, 42, 3, 181, 0, 128, 27, 172]
abbrev dktX0_forget_0 : List UInt8 := dkwX0_forget_0 ++ []
theorem dksX0_forget_0 : cX0_forget.data.toList.drop 0 = dktX0_forget_0 := by decide +kernel
theorem dX0_forget_0 : decode cX0_forget 0 = .ok (.aload_n 0, 1) := dk_42 (dk_at dksX0_forget_0 0 rfl rfl)
theorem dX0_forget_1 : decode cX0_forget 1 = .ok (.getfield 128, 3) := dk_180 0 128 (dk_at dksX0_forget_0 1 rfl rfl)
theorem dX0_forget_4 : decode cX0_forget 4 = .ok (.istore_n 1, 1) := dk_60 (dk_at dksX0_forget_0 4 rfl rfl)
theorem dX0_forget_5 : decode cX0_forget 5 = .ok (.aload_n 0, 1) := dk_42 (dk_at dksX0_forget_0 5 rfl rfl)
theorem dX0_forget_6 : decode cX0_forget 6 = .ok (.iconst 0, 1) := dk_3 (dk_at dksX0_forget_0 6 rfl rfl)
theorem dX0_forget_7 : decode cX0_forget 7 = .ok (.putfield 128, 3) := dk_181 0 128 (dk_at dksX0_forget_0 7 rfl rfl)
theorem dX0_forget_10 : decode cX0_forget 10 = .ok (.iload_n 1, 1) := dk_27 (dk_at dksX0_forget_0 10 rfl rfl)
theorem dX0_forget_11 : decode cX0_forget 11 = .ok (.ireturn, 1) := dk_172 (dk_at dksX0_forget_0 11 rfl rfl)
abbrev cX0_words : ByteArray := prog_1_method_62_code
def yX0_words : MethodName := ⟨RX0, "words", "(II)I"⟩
def dkwX0_words_1 : List UInt8 := [27, 182, 1, 89, 62, 28, 154, 0, 10, 29, 184, 1, 71, 167, 0, 4, 29, 172]
abbrev dktX0_words_1 : List UInt8 := dkwX0_words_1 ++ []
def dkwX0_words_0 : List UInt8 := [27, 3, 42, 180, 0, 128, 184, 0, 156, 153, 0, 12, 28, 3, 4, 184, 0, 156, 154, 0, 5, 2, 172, 42]
abbrev dktX0_words_0 : List UInt8 := dkwX0_words_0 ++ dktX0_words_1
theorem dksX0_words_0 : cX0_words.data.toList.drop 0 = dktX0_words_0 := by decide +kernel
theorem dksX0_words_1 : cX0_words.data.toList.drop 24 = dktX0_words_1 := dk_seg dksX0_words_0 24 rfl rfl
theorem dX0_words_0 : decode cX0_words 0 = .ok (.iload_n 1, 1) := dk_27 (dk_at dksX0_words_0 0 rfl rfl)
theorem dX0_words_1 : decode cX0_words 1 = .ok (.iconst 0, 1) := dk_3 (dk_at dksX0_words_0 1 rfl rfl)
theorem dX0_words_2 : decode cX0_words 2 = .ok (.aload_n 0, 1) := dk_42 (dk_at dksX0_words_0 2 rfl rfl)
theorem dX0_words_3 : decode cX0_words 3 = .ok (.getfield 128, 3) := dk_180 0 128 (dk_at dksX0_words_0 3 rfl rfl)
theorem dX0_words_6 : decode cX0_words 6 = .ok (.invokestatic 156, 3) := dk_184 0 156 (dk_at dksX0_words_0 6 rfl rfl)
theorem dX0_words_9 : decode cX0_words 9 = .ok (.ifCond .eq 12, 3) := dk_153 0 12 (dk_at dksX0_words_0 9 rfl rfl)
theorem dX0_words_12 : decode cX0_words 12 = .ok (.iload_n 2, 1) := dk_28 (dk_at dksX0_words_0 12 rfl rfl)
theorem dX0_words_13 : decode cX0_words 13 = .ok (.iconst 0, 1) := dk_3 (dk_at dksX0_words_0 13 rfl rfl)
theorem dX0_words_14 : decode cX0_words 14 = .ok (.iconst 1, 1) := dk_4 (dk_at dksX0_words_0 14 rfl rfl)
theorem dX0_words_15 : decode cX0_words 15 = .ok (.invokestatic 156, 3) := dk_184 0 156 (dk_at dksX0_words_0 15 rfl rfl)
theorem dX0_words_18 : decode cX0_words 18 = .ok (.ifCond .ne 5, 3) := dk_154 0 5 (dk_at dksX0_words_0 18 rfl rfl)
theorem dX0_words_21 : decode cX0_words 21 = .ok (.iconst (-1), 1) := dk_2 (dk_at dksX0_words_0 21 rfl rfl)
theorem dX0_words_22 : decode cX0_words 22 = .ok (.ireturn, 1) := dk_172 (dk_at dksX0_words_0 22 rfl rfl)
theorem dX0_words_23 : decode cX0_words 23 = .ok (.aload_n 0, 1) := dk_42 (dk_at dksX0_words_0 23 rfl rfl)
theorem dX0_words_24 : decode cX0_words 24 = .ok (.iload_n 1, 1) := dk_27 (dk_at dksX0_words_1 0 rfl rfl)
theorem dX0_words_25 : decode cX0_words 25 = .ok (.invokevirtual 345, 3) := dk_182 1 89 (dk_at dksX0_words_1 1 rfl rfl)
theorem dX0_words_28 : decode cX0_words 28 = .ok (.istore_n 3, 1) := dk_62 (dk_at dksX0_words_1 4 rfl rfl)
theorem dX0_words_29 : decode cX0_words 29 = .ok (.iload_n 2, 1) := dk_28 (dk_at dksX0_words_1 5 rfl rfl)
theorem dX0_words_30 : decode cX0_words 30 = .ok (.ifCond .ne 10, 3) := dk_154 0 10 (dk_at dksX0_words_1 6 rfl rfl)
theorem dX0_words_33 : decode cX0_words 33 = .ok (.iload_n 3, 1) := dk_29 (dk_at dksX0_words_1 9 rfl rfl)
theorem dX0_words_34 : decode cX0_words 34 = .ok (.invokestatic 327, 3) := dk_184 1 71 (dk_at dksX0_words_1 10 rfl rfl)
theorem dX0_words_37 : decode cX0_words 37 = .ok (.goto 4, 3) := dk_167 0 4 (dk_at dksX0_words_1 13 rfl rfl)
theorem dX0_words_40 : decode cX0_words 40 = .ok (.iload_n 3, 1) := dk_29 (dk_at dksX0_words_1 16 rfl rfl)
theorem dX0_words_41 : decode cX0_words 41 = .ok (.ireturn, 1) := dk_172 (dk_at dksX0_words_1 17 rfl rfl)
abbrev cX0_wordsBy : ByteArray := prog_1_method_61_code
def yX0_wordsBy : MethodName := ⟨RX0, "wordsBy", "(I)I"⟩
def dkwX0_wordsBy_4 : List UInt8 := [132, 3, 1, 167, 255, 163, 28, 172]
abbrev dktX0_wordsBy_4 : List UInt8 := dkwX0_wordsBy_4 ++ []
def dkwX0_wordsBy_3 : List UInt8 := [54, 4, 132, 5, 1, 167, 255, 198, 28, 21, 4, 153, 0, 9, 4, 29, 120, 167, 0, 4, 3, 128, 61]
abbrev dktX0_wordsBy_3 : List UInt8 := dkwX0_wordsBy_3 ++ dktX0_wordsBy_4
def dkwX0_wordsBy_2 : List UInt8 := [161, 0, 7, 4, 167, 0, 4, 3, 42, 180, 0, 103, 21, 5, 51, 160, 0, 7, 4, 167, 0, 4, 3]
abbrev dktX0_wordsBy_2 : List UInt8 := dkwX0_wordsBy_2 ++ dktX0_wordsBy_3
def dkwX0_wordsBy_1 : List UInt8 := [21, 4, 153, 0, 44, 42, 42, 180, 0, 97, 21, 5, 46, 29, 182, 1, 86, 42, 180, 0, 100, 21, 5, 46]
abbrev dktX0_wordsBy_1 : List UInt8 := dkwX0_wordsBy_1 ++ dktX0_wordsBy_2
def dkwX0_wordsBy_0 : List UInt8 := [3, 61, 3, 62, 29, 42, 182, 0, 172, 162, 0, 91, 4, 54, 4, 3, 54, 5, 21, 5, 27, 162, 0, 58]
abbrev dktX0_wordsBy_0 : List UInt8 := dkwX0_wordsBy_0 ++ dktX0_wordsBy_1
theorem dksX0_wordsBy_0 : cX0_wordsBy.data.toList.drop 0 = dktX0_wordsBy_0 := by decide +kernel
theorem dksX0_wordsBy_1 : cX0_wordsBy.data.toList.drop 24 = dktX0_wordsBy_1 := dk_seg dksX0_wordsBy_0 24 rfl rfl
theorem dksX0_wordsBy_2 : cX0_wordsBy.data.toList.drop 48 = dktX0_wordsBy_2 := dk_seg dksX0_wordsBy_1 24 rfl rfl
theorem dksX0_wordsBy_3 : cX0_wordsBy.data.toList.drop 71 = dktX0_wordsBy_3 := dk_seg dksX0_wordsBy_2 23 rfl rfl
theorem dksX0_wordsBy_4 : cX0_wordsBy.data.toList.drop 94 = dktX0_wordsBy_4 := dk_seg dksX0_wordsBy_3 23 rfl rfl
theorem dX0_wordsBy_0 : decode cX0_wordsBy 0 = .ok (.iconst 0, 1) := dk_3 (dk_at dksX0_wordsBy_0 0 rfl rfl)
theorem dX0_wordsBy_1 : decode cX0_wordsBy 1 = .ok (.istore_n 2, 1) := dk_61 (dk_at dksX0_wordsBy_0 1 rfl rfl)
theorem dX0_wordsBy_2 : decode cX0_wordsBy 2 = .ok (.iconst 0, 1) := dk_3 (dk_at dksX0_wordsBy_0 2 rfl rfl)
theorem dX0_wordsBy_3 : decode cX0_wordsBy 3 = .ok (.istore_n 3, 1) := dk_62 (dk_at dksX0_wordsBy_0 3 rfl rfl)
theorem dX0_wordsBy_4 : decode cX0_wordsBy 4 = .ok (.iload_n 3, 1) := dk_29 (dk_at dksX0_wordsBy_0 4 rfl rfl)
theorem dX0_wordsBy_5 : decode cX0_wordsBy 5 = .ok (.aload_n 0, 1) := dk_42 (dk_at dksX0_wordsBy_0 5 rfl rfl)
theorem dX0_wordsBy_6 : decode cX0_wordsBy 6 = .ok (.invokevirtual 172, 3) := dk_182 0 172 (dk_at dksX0_wordsBy_0 6 rfl rfl)
theorem dX0_wordsBy_9 : decode cX0_wordsBy 9 = .ok (.if_icmp .ge 91, 3) := dk_162 0 91 (dk_at dksX0_wordsBy_0 9 rfl rfl)
theorem dX0_wordsBy_12 : decode cX0_wordsBy 12 = .ok (.iconst 1, 1) := dk_4 (dk_at dksX0_wordsBy_0 12 rfl rfl)
theorem dX0_wordsBy_13 : decode cX0_wordsBy 13 = .ok (.istore 4, 2) := dk_54 4 (dk_at dksX0_wordsBy_0 13 rfl rfl)
theorem dX0_wordsBy_15 : decode cX0_wordsBy 15 = .ok (.iconst 0, 1) := dk_3 (dk_at dksX0_wordsBy_0 15 rfl rfl)
theorem dX0_wordsBy_16 : decode cX0_wordsBy 16 = .ok (.istore 5, 2) := dk_54 5 (dk_at dksX0_wordsBy_0 16 rfl rfl)
theorem dX0_wordsBy_18 : decode cX0_wordsBy 18 = .ok (.iload 5, 2) := dk_21 5 (dk_at dksX0_wordsBy_0 18 rfl rfl)
theorem dX0_wordsBy_20 : decode cX0_wordsBy 20 = .ok (.iload_n 1, 1) := dk_27 (dk_at dksX0_wordsBy_0 20 rfl rfl)
theorem dX0_wordsBy_21 : decode cX0_wordsBy 21 = .ok (.if_icmp .ge 58, 3) := dk_162 0 58 (dk_at dksX0_wordsBy_0 21 rfl rfl)
theorem dX0_wordsBy_24 : decode cX0_wordsBy 24 = .ok (.iload 4, 2) := dk_21 4 (dk_at dksX0_wordsBy_1 0 rfl rfl)
theorem dX0_wordsBy_26 : decode cX0_wordsBy 26 = .ok (.ifCond .eq 44, 3) := dk_153 0 44 (dk_at dksX0_wordsBy_1 2 rfl rfl)
theorem dX0_wordsBy_29 : decode cX0_wordsBy 29 = .ok (.aload_n 0, 1) := dk_42 (dk_at dksX0_wordsBy_1 5 rfl rfl)
theorem dX0_wordsBy_30 : decode cX0_wordsBy 30 = .ok (.aload_n 0, 1) := dk_42 (dk_at dksX0_wordsBy_1 6 rfl rfl)
theorem dX0_wordsBy_31 : decode cX0_wordsBy 31 = .ok (.getfield 97, 3) := dk_180 0 97 (dk_at dksX0_wordsBy_1 7 rfl rfl)
theorem dX0_wordsBy_34 : decode cX0_wordsBy 34 = .ok (.iload 5, 2) := dk_21 5 (dk_at dksX0_wordsBy_1 10 rfl rfl)
theorem dX0_wordsBy_36 : decode cX0_wordsBy 36 = .ok (.iaload, 1) := dk_46 (dk_at dksX0_wordsBy_1 12 rfl rfl)
theorem dX0_wordsBy_37 : decode cX0_wordsBy 37 = .ok (.iload_n 3, 1) := dk_29 (dk_at dksX0_wordsBy_1 13 rfl rfl)
theorem dX0_wordsBy_38 : decode cX0_wordsBy 38 = .ok (.invokevirtual 342, 3) := dk_182 1 86 (dk_at dksX0_wordsBy_1 14 rfl rfl)
theorem dX0_wordsBy_41 : decode cX0_wordsBy 41 = .ok (.aload_n 0, 1) := dk_42 (dk_at dksX0_wordsBy_1 17 rfl rfl)
theorem dX0_wordsBy_42 : decode cX0_wordsBy 42 = .ok (.getfield 100, 3) := dk_180 0 100 (dk_at dksX0_wordsBy_1 18 rfl rfl)
theorem dX0_wordsBy_45 : decode cX0_wordsBy 45 = .ok (.iload 5, 2) := dk_21 5 (dk_at dksX0_wordsBy_1 21 rfl rfl)
theorem dX0_wordsBy_47 : decode cX0_wordsBy 47 = .ok (.iaload, 1) := dk_46 (dk_at dksX0_wordsBy_1 23 rfl rfl)
theorem dX0_wordsBy_48 : decode cX0_wordsBy 48 = .ok (.if_icmp .lt 7, 3) := dk_161 0 7 (dk_at dksX0_wordsBy_2 0 rfl rfl)
theorem dX0_wordsBy_51 : decode cX0_wordsBy 51 = .ok (.iconst 1, 1) := dk_4 (dk_at dksX0_wordsBy_2 3 rfl rfl)
theorem dX0_wordsBy_52 : decode cX0_wordsBy 52 = .ok (.goto 4, 3) := dk_167 0 4 (dk_at dksX0_wordsBy_2 4 rfl rfl)
theorem dX0_wordsBy_55 : decode cX0_wordsBy 55 = .ok (.iconst 0, 1) := dk_3 (dk_at dksX0_wordsBy_2 7 rfl rfl)
theorem dX0_wordsBy_56 : decode cX0_wordsBy 56 = .ok (.aload_n 0, 1) := dk_42 (dk_at dksX0_wordsBy_2 8 rfl rfl)
theorem dX0_wordsBy_57 : decode cX0_wordsBy 57 = .ok (.getfield 103, 3) := dk_180 0 103 (dk_at dksX0_wordsBy_2 9 rfl rfl)
theorem dX0_wordsBy_60 : decode cX0_wordsBy 60 = .ok (.iload 5, 2) := dk_21 5 (dk_at dksX0_wordsBy_2 12 rfl rfl)
theorem dX0_wordsBy_62 : decode cX0_wordsBy 62 = .ok (.baload, 1) := dk_51 (dk_at dksX0_wordsBy_2 14 rfl rfl)
theorem dX0_wordsBy_63 : decode cX0_wordsBy 63 = .ok (.if_icmp .ne 7, 3) := dk_160 0 7 (dk_at dksX0_wordsBy_2 15 rfl rfl)
theorem dX0_wordsBy_66 : decode cX0_wordsBy 66 = .ok (.iconst 1, 1) := dk_4 (dk_at dksX0_wordsBy_2 18 rfl rfl)
theorem dX0_wordsBy_67 : decode cX0_wordsBy 67 = .ok (.goto 4, 3) := dk_167 0 4 (dk_at dksX0_wordsBy_2 19 rfl rfl)
theorem dX0_wordsBy_70 : decode cX0_wordsBy 70 = .ok (.iconst 0, 1) := dk_3 (dk_at dksX0_wordsBy_2 22 rfl rfl)
theorem dX0_wordsBy_71 : decode cX0_wordsBy 71 = .ok (.istore 4, 2) := dk_54 4 (dk_at dksX0_wordsBy_3 0 rfl rfl)
theorem dX0_wordsBy_73 : decode cX0_wordsBy 73 = .ok (.iinc 5 1, 3) := dk_132 5 1 (dk_at dksX0_wordsBy_3 2 rfl rfl)
theorem dX0_wordsBy_76 : decode cX0_wordsBy 76 = .ok (.goto (-58), 3) := dk_167 255 198 (dk_at dksX0_wordsBy_3 5 rfl rfl)
theorem dX0_wordsBy_79 : decode cX0_wordsBy 79 = .ok (.iload_n 2, 1) := dk_28 (dk_at dksX0_wordsBy_3 8 rfl rfl)
theorem dX0_wordsBy_80 : decode cX0_wordsBy 80 = .ok (.iload 4, 2) := dk_21 4 (dk_at dksX0_wordsBy_3 9 rfl rfl)
theorem dX0_wordsBy_82 : decode cX0_wordsBy 82 = .ok (.ifCond .eq 9, 3) := dk_153 0 9 (dk_at dksX0_wordsBy_3 11 rfl rfl)
theorem dX0_wordsBy_85 : decode cX0_wordsBy 85 = .ok (.iconst 1, 1) := dk_4 (dk_at dksX0_wordsBy_3 14 rfl rfl)
theorem dX0_wordsBy_86 : decode cX0_wordsBy 86 = .ok (.iload_n 3, 1) := dk_29 (dk_at dksX0_wordsBy_3 15 rfl rfl)
theorem dX0_wordsBy_87 : decode cX0_wordsBy 87 = .ok (.ishl, 1) := dk_120 (dk_at dksX0_wordsBy_3 16 rfl rfl)
theorem dX0_wordsBy_88 : decode cX0_wordsBy 88 = .ok (.goto 4, 3) := dk_167 0 4 (dk_at dksX0_wordsBy_3 17 rfl rfl)
theorem dX0_wordsBy_91 : decode cX0_wordsBy 91 = .ok (.iconst 0, 1) := dk_3 (dk_at dksX0_wordsBy_3 20 rfl rfl)
theorem dX0_wordsBy_92 : decode cX0_wordsBy 92 = .ok (.ior, 1) := dk_128 (dk_at dksX0_wordsBy_3 21 rfl rfl)
theorem dX0_wordsBy_93 : decode cX0_wordsBy 93 = .ok (.istore_n 2, 1) := dk_61 (dk_at dksX0_wordsBy_3 22 rfl rfl)
theorem dX0_wordsBy_94 : decode cX0_wordsBy 94 = .ok (.iinc 3 1, 3) := dk_132 3 1 (dk_at dksX0_wordsBy_4 0 rfl rfl)
theorem dX0_wordsBy_97 : decode cX0_wordsBy 97 = .ok (.goto (-93), 3) := dk_167 255 163 (dk_at dksX0_wordsBy_4 3 rfl rfl)
theorem dX0_wordsBy_100 : decode cX0_wordsBy 100 = .ok (.iload_n 2, 1) := dk_28 (dk_at dksX0_wordsBy_4 6 rfl rfl)
theorem dX0_wordsBy_101 : decode cX0_wordsBy 101 = .ok (.ireturn, 1) := dk_172 (dk_at dksX0_wordsBy_4 7 rfl rfl)
abbrev cX0_glowBy : ByteArray := prog_1_method_60_code
def yX0_glowBy : MethodName := ⟨RX0, "glowBy", "(II)I"⟩
def dkwX0_glowBy_1 : List UInt8 := [180, 0, 224, 27, 46, 42, 180, 0, 51, 42, 180, 0, 40, 27, 28, 182, 0, 252, 96, 184, 1, 10, 172]
abbrev dktX0_glowBy_1 : List UInt8 := dkwX0_glowBy_1 ++ []
def dkwX0_glowBy_0 : List UInt8 := [42, 180, 0, 51, 27, 182, 0, 169, 153, 0, 7, 3, 167, 0, 32, 17, 3, 231, 42, 180, 0, 51]
abbrev dktX0_glowBy_0 : List UInt8 := dkwX0_glowBy_0 ++ dktX0_glowBy_1
theorem dksX0_glowBy_0 : cX0_glowBy.data.toList.drop 0 = dktX0_glowBy_0 := by decide +kernel
theorem dksX0_glowBy_1 : cX0_glowBy.data.toList.drop 22 = dktX0_glowBy_1 := dk_seg dksX0_glowBy_0 22 rfl rfl
theorem dX0_glowBy_0 : decode cX0_glowBy 0 = .ok (.aload_n 0, 1) := dk_42 (dk_at dksX0_glowBy_0 0 rfl rfl)
theorem dX0_glowBy_1 : decode cX0_glowBy 1 = .ok (.getfield 51, 3) := dk_180 0 51 (dk_at dksX0_glowBy_0 1 rfl rfl)
theorem dX0_glowBy_4 : decode cX0_glowBy 4 = .ok (.iload_n 1, 1) := dk_27 (dk_at dksX0_glowBy_0 4 rfl rfl)
theorem dX0_glowBy_5 : decode cX0_glowBy 5 = .ok (.invokevirtual 169, 3) := dk_182 0 169 (dk_at dksX0_glowBy_0 5 rfl rfl)
theorem dX0_glowBy_8 : decode cX0_glowBy 8 = .ok (.ifCond .eq 7, 3) := dk_153 0 7 (dk_at dksX0_glowBy_0 8 rfl rfl)
theorem dX0_glowBy_11 : decode cX0_glowBy 11 = .ok (.iconst 0, 1) := dk_3 (dk_at dksX0_glowBy_0 11 rfl rfl)
theorem dX0_glowBy_12 : decode cX0_glowBy 12 = .ok (.goto 32, 3) := dk_167 0 32 (dk_at dksX0_glowBy_0 12 rfl rfl)
theorem dX0_glowBy_15 : decode cX0_glowBy 15 = .ok (.sipush 999, 3) := dk_17 3 231 (dk_at dksX0_glowBy_0 15 rfl rfl)
theorem dX0_glowBy_18 : decode cX0_glowBy 18 = .ok (.aload_n 0, 1) := dk_42 (dk_at dksX0_glowBy_0 18 rfl rfl)
theorem dX0_glowBy_19 : decode cX0_glowBy 19 = .ok (.getfield 51, 3) := dk_180 0 51 (dk_at dksX0_glowBy_0 19 rfl rfl)
theorem dX0_glowBy_22 : decode cX0_glowBy 22 = .ok (.getfield 224, 3) := dk_180 0 224 (dk_at dksX0_glowBy_1 0 rfl rfl)
theorem dX0_glowBy_25 : decode cX0_glowBy 25 = .ok (.iload_n 1, 1) := dk_27 (dk_at dksX0_glowBy_1 3 rfl rfl)
theorem dX0_glowBy_26 : decode cX0_glowBy 26 = .ok (.iaload, 1) := dk_46 (dk_at dksX0_glowBy_1 4 rfl rfl)
theorem dX0_glowBy_27 : decode cX0_glowBy 27 = .ok (.aload_n 0, 1) := dk_42 (dk_at dksX0_glowBy_1 5 rfl rfl)
theorem dX0_glowBy_28 : decode cX0_glowBy 28 = .ok (.getfield 51, 3) := dk_180 0 51 (dk_at dksX0_glowBy_1 6 rfl rfl)
theorem dX0_glowBy_31 : decode cX0_glowBy 31 = .ok (.aload_n 0, 1) := dk_42 (dk_at dksX0_glowBy_1 9 rfl rfl)
theorem dX0_glowBy_32 : decode cX0_glowBy 32 = .ok (.getfield 40, 3) := dk_180 0 40 (dk_at dksX0_glowBy_1 10 rfl rfl)
theorem dX0_glowBy_35 : decode cX0_glowBy 35 = .ok (.iload_n 1, 1) := dk_27 (dk_at dksX0_glowBy_1 13 rfl rfl)
theorem dX0_glowBy_36 : decode cX0_glowBy 36 = .ok (.iload_n 2, 1) := dk_28 (dk_at dksX0_glowBy_1 14 rfl rfl)
theorem dX0_glowBy_37 : decode cX0_glowBy 37 = .ok (.invokevirtual 252, 3) := dk_182 0 252 (dk_at dksX0_glowBy_1 15 rfl rfl)
theorem dX0_glowBy_40 : decode cX0_glowBy 40 = .ok (.iadd, 1) := dk_96 (dk_at dksX0_glowBy_1 18 rfl rfl)
theorem dX0_glowBy_41 : decode cX0_glowBy 41 = .ok (.invokestatic 266, 3) := dk_184 1 10 (dk_at dksX0_glowBy_1 19 rfl rfl)
theorem dX0_glowBy_44 : decode cX0_glowBy 44 = .ok (.ireturn, 1) := dk_172 (dk_at dksX0_glowBy_1 22 rfl rfl)
abbrev cX0_look : ByteArray := prog_1_method_63_code
def yX0_look : MethodName := ⟨RX0, "look", "(II)I"⟩
def dkwX0_look_7 : List UInt8 := [172]
abbrev dktX0_look_7 : List UInt8 := dkwX0_look_7 ++ []
def dkwX0_look_6 : List UInt8 := [21, 5, 161, 0, 6, 167, 0, 11, 21, 6, 54, 4, 21, 8, 54, 5, 132, 6, 1, 167, 255, 140, 21, 4]
abbrev dktX0_look_6 : List UInt8 := dkwX0_look_6 ++ dktX0_look_7
def dkwX0_look_5 : List UInt8 := [54, 7, 132, 8, 1, 167, 255, 212, 21, 7, 29, 184, 1, 71, 21, 7, 100, 184, 1, 92, 54, 8, 21, 8]
abbrev dktX0_look_5 : List UInt8 := dkwX0_look_5 ++ dktX0_look_6
def dkwX0_look_4 : List UInt8 := [4, 126, 4, 160, 0, 19, 42, 21, 6, 21, 8, 182, 1, 86, 28, 161, 0, 7, 4, 167, 0, 4, 3, 96]
abbrev dktX0_look_4 : List UInt8 := dkwX0_look_4 ++ dktX0_look_5
def dkwX0_look_3 : List UInt8 := [167, 0, 88, 3, 54, 7, 3, 54, 8, 21, 8, 42, 182, 0, 172, 162, 0, 41, 21, 7, 29, 21, 8, 122]
abbrev dktX0_look_3 : List UInt8 := dkwX0_look_3 ++ dktX0_look_4
def dkwX0_look_2 : List UInt8 := [182, 0, 162, 162, 0, 113, 29, 153, 0, 109, 42, 180, 0, 51, 21, 6, 182, 0, 169, 153, 0, 6]
abbrev dktX0_look_2 : List UInt8 := dkwX0_look_2 ++ dktX0_look_3
def dkwX0_look_1 : List UInt8 := [172, 42, 27, 182, 1, 89, 62, 16, 254, 54, 4, 19, 1, 49, 54, 5, 3, 54, 6, 21, 6, 42]
abbrev dktX0_look_1 : List UInt8 := dkwX0_look_1 ++ dktX0_look_2
def dkwX0_look_0 : List UInt8 := [27, 3, 42, 180, 0, 128, 184, 0, 156, 153, 0, 14, 28, 3, 17, 3, 231, 184, 0, 156, 154, 0, 5, 2]
abbrev dktX0_look_0 : List UInt8 := dkwX0_look_0 ++ dktX0_look_1
theorem dksX0_look_0 : cX0_look.data.toList.drop 0 = dktX0_look_0 := by decide +kernel
theorem dksX0_look_1 : cX0_look.data.toList.drop 24 = dktX0_look_1 := dk_seg dksX0_look_0 24 rfl rfl
theorem dksX0_look_2 : cX0_look.data.toList.drop 46 = dktX0_look_2 := dk_seg dksX0_look_1 22 rfl rfl
theorem dksX0_look_3 : cX0_look.data.toList.drop 68 = dktX0_look_3 := dk_seg dksX0_look_2 22 rfl rfl
theorem dksX0_look_4 : cX0_look.data.toList.drop 92 = dktX0_look_4 := dk_seg dksX0_look_3 24 rfl rfl
theorem dksX0_look_5 : cX0_look.data.toList.drop 116 = dktX0_look_5 := dk_seg dksX0_look_4 24 rfl rfl
theorem dksX0_look_6 : cX0_look.data.toList.drop 140 = dktX0_look_6 := dk_seg dksX0_look_5 24 rfl rfl
theorem dksX0_look_7 : cX0_look.data.toList.drop 164 = dktX0_look_7 := dk_seg dksX0_look_6 24 rfl rfl
theorem dX0_look_0 : decode cX0_look 0 = .ok (.iload_n 1, 1) := dk_27 (dk_at dksX0_look_0 0 rfl rfl)
theorem dX0_look_1 : decode cX0_look 1 = .ok (.iconst 0, 1) := dk_3 (dk_at dksX0_look_0 1 rfl rfl)
theorem dX0_look_2 : decode cX0_look 2 = .ok (.aload_n 0, 1) := dk_42 (dk_at dksX0_look_0 2 rfl rfl)
theorem dX0_look_3 : decode cX0_look 3 = .ok (.getfield 128, 3) := dk_180 0 128 (dk_at dksX0_look_0 3 rfl rfl)
theorem dX0_look_6 : decode cX0_look 6 = .ok (.invokestatic 156, 3) := dk_184 0 156 (dk_at dksX0_look_0 6 rfl rfl)
theorem dX0_look_9 : decode cX0_look 9 = .ok (.ifCond .eq 14, 3) := dk_153 0 14 (dk_at dksX0_look_0 9 rfl rfl)
theorem dX0_look_12 : decode cX0_look 12 = .ok (.iload_n 2, 1) := dk_28 (dk_at dksX0_look_0 12 rfl rfl)
theorem dX0_look_13 : decode cX0_look 13 = .ok (.iconst 0, 1) := dk_3 (dk_at dksX0_look_0 13 rfl rfl)
theorem dX0_look_14 : decode cX0_look 14 = .ok (.sipush 999, 3) := dk_17 3 231 (dk_at dksX0_look_0 14 rfl rfl)
theorem dX0_look_17 : decode cX0_look 17 = .ok (.invokestatic 156, 3) := dk_184 0 156 (dk_at dksX0_look_0 17 rfl rfl)
theorem dX0_look_20 : decode cX0_look 20 = .ok (.ifCond .ne 5, 3) := dk_154 0 5 (dk_at dksX0_look_0 20 rfl rfl)
theorem dX0_look_23 : decode cX0_look 23 = .ok (.iconst (-1), 1) := dk_2 (dk_at dksX0_look_0 23 rfl rfl)
theorem dX0_look_24 : decode cX0_look 24 = .ok (.ireturn, 1) := dk_172 (dk_at dksX0_look_1 0 rfl rfl)
theorem dX0_look_25 : decode cX0_look 25 = .ok (.aload_n 0, 1) := dk_42 (dk_at dksX0_look_1 1 rfl rfl)
theorem dX0_look_26 : decode cX0_look 26 = .ok (.iload_n 1, 1) := dk_27 (dk_at dksX0_look_1 2 rfl rfl)
theorem dX0_look_27 : decode cX0_look 27 = .ok (.invokevirtual 345, 3) := dk_182 1 89 (dk_at dksX0_look_1 3 rfl rfl)
theorem dX0_look_30 : decode cX0_look 30 = .ok (.istore_n 3, 1) := dk_62 (dk_at dksX0_look_1 6 rfl rfl)
theorem dX0_look_31 : decode cX0_look 31 = .ok (.bipush (-2), 2) := dk_16 254 (dk_at dksX0_look_1 7 rfl rfl)
theorem dX0_look_33 : decode cX0_look 33 = .ok (.istore 4, 2) := dk_54 4 (dk_at dksX0_look_1 9 rfl rfl)
theorem dX0_look_35 : decode cX0_look 35 = .ok (.ldc_w 305, 3) := dk_19 1 49 (dk_at dksX0_look_1 11 rfl rfl)
theorem dX0_look_38 : decode cX0_look 38 = .ok (.istore 5, 2) := dk_54 5 (dk_at dksX0_look_1 14 rfl rfl)
theorem dX0_look_40 : decode cX0_look 40 = .ok (.iconst 0, 1) := dk_3 (dk_at dksX0_look_1 16 rfl rfl)
theorem dX0_look_41 : decode cX0_look 41 = .ok (.istore 6, 2) := dk_54 6 (dk_at dksX0_look_1 17 rfl rfl)
theorem dX0_look_43 : decode cX0_look 43 = .ok (.iload 6, 2) := dk_21 6 (dk_at dksX0_look_1 19 rfl rfl)
theorem dX0_look_45 : decode cX0_look 45 = .ok (.aload_n 0, 1) := dk_42 (dk_at dksX0_look_1 21 rfl rfl)
theorem dX0_look_46 : decode cX0_look 46 = .ok (.invokevirtual 162, 3) := dk_182 0 162 (dk_at dksX0_look_2 0 rfl rfl)
theorem dX0_look_49 : decode cX0_look 49 = .ok (.if_icmp .ge 113, 3) := dk_162 0 113 (dk_at dksX0_look_2 3 rfl rfl)
theorem dX0_look_52 : decode cX0_look 52 = .ok (.iload_n 3, 1) := dk_29 (dk_at dksX0_look_2 6 rfl rfl)
theorem dX0_look_53 : decode cX0_look 53 = .ok (.ifCond .eq 109, 3) := dk_153 0 109 (dk_at dksX0_look_2 7 rfl rfl)
theorem dX0_look_56 : decode cX0_look 56 = .ok (.aload_n 0, 1) := dk_42 (dk_at dksX0_look_2 10 rfl rfl)
theorem dX0_look_57 : decode cX0_look 57 = .ok (.getfield 51, 3) := dk_180 0 51 (dk_at dksX0_look_2 11 rfl rfl)
theorem dX0_look_60 : decode cX0_look 60 = .ok (.iload 6, 2) := dk_21 6 (dk_at dksX0_look_2 14 rfl rfl)
theorem dX0_look_62 : decode cX0_look 62 = .ok (.invokevirtual 169, 3) := dk_182 0 169 (dk_at dksX0_look_2 16 rfl rfl)
theorem dX0_look_65 : decode cX0_look 65 = .ok (.ifCond .eq 6, 3) := dk_153 0 6 (dk_at dksX0_look_2 19 rfl rfl)
theorem dX0_look_68 : decode cX0_look 68 = .ok (.goto 88, 3) := dk_167 0 88 (dk_at dksX0_look_3 0 rfl rfl)
theorem dX0_look_71 : decode cX0_look 71 = .ok (.iconst 0, 1) := dk_3 (dk_at dksX0_look_3 3 rfl rfl)
theorem dX0_look_72 : decode cX0_look 72 = .ok (.istore 7, 2) := dk_54 7 (dk_at dksX0_look_3 4 rfl rfl)
theorem dX0_look_74 : decode cX0_look 74 = .ok (.iconst 0, 1) := dk_3 (dk_at dksX0_look_3 6 rfl rfl)
theorem dX0_look_75 : decode cX0_look 75 = .ok (.istore 8, 2) := dk_54 8 (dk_at dksX0_look_3 7 rfl rfl)
theorem dX0_look_77 : decode cX0_look 77 = .ok (.iload 8, 2) := dk_21 8 (dk_at dksX0_look_3 9 rfl rfl)
theorem dX0_look_79 : decode cX0_look 79 = .ok (.aload_n 0, 1) := dk_42 (dk_at dksX0_look_3 11 rfl rfl)
theorem dX0_look_80 : decode cX0_look 80 = .ok (.invokevirtual 172, 3) := dk_182 0 172 (dk_at dksX0_look_3 12 rfl rfl)
theorem dX0_look_83 : decode cX0_look 83 = .ok (.if_icmp .ge 41, 3) := dk_162 0 41 (dk_at dksX0_look_3 15 rfl rfl)
theorem dX0_look_86 : decode cX0_look 86 = .ok (.iload 7, 2) := dk_21 7 (dk_at dksX0_look_3 18 rfl rfl)
theorem dX0_look_88 : decode cX0_look 88 = .ok (.iload_n 3, 1) := dk_29 (dk_at dksX0_look_3 20 rfl rfl)
theorem dX0_look_89 : decode cX0_look 89 = .ok (.iload 8, 2) := dk_21 8 (dk_at dksX0_look_3 21 rfl rfl)
theorem dX0_look_91 : decode cX0_look 91 = .ok (.ishr, 1) := dk_122 (dk_at dksX0_look_3 23 rfl rfl)
theorem dX0_look_92 : decode cX0_look 92 = .ok (.iconst 1, 1) := dk_4 (dk_at dksX0_look_4 0 rfl rfl)
theorem dX0_look_93 : decode cX0_look 93 = .ok (.iand, 1) := dk_126 (dk_at dksX0_look_4 1 rfl rfl)
theorem dX0_look_94 : decode cX0_look 94 = .ok (.iconst 1, 1) := dk_4 (dk_at dksX0_look_4 2 rfl rfl)
theorem dX0_look_95 : decode cX0_look 95 = .ok (.if_icmp .ne 19, 3) := dk_160 0 19 (dk_at dksX0_look_4 3 rfl rfl)
theorem dX0_look_98 : decode cX0_look 98 = .ok (.aload_n 0, 1) := dk_42 (dk_at dksX0_look_4 6 rfl rfl)
theorem dX0_look_99 : decode cX0_look 99 = .ok (.iload 6, 2) := dk_21 6 (dk_at dksX0_look_4 7 rfl rfl)
theorem dX0_look_101 : decode cX0_look 101 = .ok (.iload 8, 2) := dk_21 8 (dk_at dksX0_look_4 9 rfl rfl)
theorem dX0_look_103 : decode cX0_look 103 = .ok (.invokevirtual 342, 3) := dk_182 1 86 (dk_at dksX0_look_4 11 rfl rfl)
theorem dX0_look_106 : decode cX0_look 106 = .ok (.iload_n 2, 1) := dk_28 (dk_at dksX0_look_4 14 rfl rfl)
theorem dX0_look_107 : decode cX0_look 107 = .ok (.if_icmp .lt 7, 3) := dk_161 0 7 (dk_at dksX0_look_4 15 rfl rfl)
theorem dX0_look_110 : decode cX0_look 110 = .ok (.iconst 1, 1) := dk_4 (dk_at dksX0_look_4 18 rfl rfl)
theorem dX0_look_111 : decode cX0_look 111 = .ok (.goto 4, 3) := dk_167 0 4 (dk_at dksX0_look_4 19 rfl rfl)
theorem dX0_look_114 : decode cX0_look 114 = .ok (.iconst 0, 1) := dk_3 (dk_at dksX0_look_4 22 rfl rfl)
theorem dX0_look_115 : decode cX0_look 115 = .ok (.iadd, 1) := dk_96 (dk_at dksX0_look_4 23 rfl rfl)
theorem dX0_look_116 : decode cX0_look 116 = .ok (.istore 7, 2) := dk_54 7 (dk_at dksX0_look_5 0 rfl rfl)
theorem dX0_look_118 : decode cX0_look 118 = .ok (.iinc 8 1, 3) := dk_132 8 1 (dk_at dksX0_look_5 2 rfl rfl)
theorem dX0_look_121 : decode cX0_look 121 = .ok (.goto (-44), 3) := dk_167 255 212 (dk_at dksX0_look_5 5 rfl rfl)
theorem dX0_look_124 : decode cX0_look 124 = .ok (.iload 7, 2) := dk_21 7 (dk_at dksX0_look_5 8 rfl rfl)
theorem dX0_look_126 : decode cX0_look 126 = .ok (.iload_n 3, 1) := dk_29 (dk_at dksX0_look_5 10 rfl rfl)
theorem dX0_look_127 : decode cX0_look 127 = .ok (.invokestatic 327, 3) := dk_184 1 71 (dk_at dksX0_look_5 11 rfl rfl)
theorem dX0_look_130 : decode cX0_look 130 = .ok (.iload 7, 2) := dk_21 7 (dk_at dksX0_look_5 14 rfl rfl)
theorem dX0_look_132 : decode cX0_look 132 = .ok (.isub, 1) := dk_100 (dk_at dksX0_look_5 16 rfl rfl)
theorem dX0_look_133 : decode cX0_look 133 = .ok (.invokestatic 348, 3) := dk_184 1 92 (dk_at dksX0_look_5 17 rfl rfl)
theorem dX0_look_136 : decode cX0_look 136 = .ok (.istore 8, 2) := dk_54 8 (dk_at dksX0_look_5 20 rfl rfl)
theorem dX0_look_138 : decode cX0_look 138 = .ok (.iload 8, 2) := dk_21 8 (dk_at dksX0_look_5 22 rfl rfl)
theorem dX0_look_140 : decode cX0_look 140 = .ok (.iload 5, 2) := dk_21 5 (dk_at dksX0_look_6 0 rfl rfl)
theorem dX0_look_142 : decode cX0_look 142 = .ok (.if_icmp .lt 6, 3) := dk_161 0 6 (dk_at dksX0_look_6 2 rfl rfl)
theorem dX0_look_145 : decode cX0_look 145 = .ok (.goto 11, 3) := dk_167 0 11 (dk_at dksX0_look_6 5 rfl rfl)
theorem dX0_look_148 : decode cX0_look 148 = .ok (.iload 6, 2) := dk_21 6 (dk_at dksX0_look_6 8 rfl rfl)
theorem dX0_look_150 : decode cX0_look 150 = .ok (.istore 4, 2) := dk_54 4 (dk_at dksX0_look_6 10 rfl rfl)
theorem dX0_look_152 : decode cX0_look 152 = .ok (.iload 8, 2) := dk_21 8 (dk_at dksX0_look_6 12 rfl rfl)
theorem dX0_look_154 : decode cX0_look 154 = .ok (.istore 5, 2) := dk_54 5 (dk_at dksX0_look_6 14 rfl rfl)
theorem dX0_look_156 : decode cX0_look 156 = .ok (.iinc 6 1, 3) := dk_132 6 1 (dk_at dksX0_look_6 16 rfl rfl)
theorem dX0_look_159 : decode cX0_look 159 = .ok (.goto (-116), 3) := dk_167 255 140 (dk_at dksX0_look_6 19 rfl rfl)
theorem dX0_look_162 : decode cX0_look 162 = .ok (.iload 4, 2) := dk_21 4 (dk_at dksX0_look_6 22 rfl rfl)
theorem dX0_look_164 : decode cX0_look 164 = .ok (.ireturn, 1) := dk_172 (dk_at dksX0_look_7 0 rfl rfl)
abbrev cX0_hold : ByteArray := prog_1_method_64_code
def yX0_hold : MethodName := ⟨RX0, "hold", "(I)Z"⟩
def dkwX0_hold_1 : List UInt8 := [42, 180, 0, 78, 27, 4, 84, 4, 172]
abbrev dktX0_hold_1 : List UInt8 := dkwX0_hold_1 ++ []
def dkwX0_hold_0 : List UInt8 := [27, 3, 5, 184, 0, 156, 154, 0, 5, 3, 172, 42, 180, 0, 62, 27, 50, 42, 180, 0, 51, 182, 1, 6]
abbrev dktX0_hold_0 : List UInt8 := dkwX0_hold_0 ++ dktX0_hold_1
theorem dksX0_hold_0 : cX0_hold.data.toList.drop 0 = dktX0_hold_0 := by decide +kernel
theorem dksX0_hold_1 : cX0_hold.data.toList.drop 24 = dktX0_hold_1 := dk_seg dksX0_hold_0 24 rfl rfl
theorem dX0_hold_0 : decode cX0_hold 0 = .ok (.iload_n 1, 1) := dk_27 (dk_at dksX0_hold_0 0 rfl rfl)
theorem dX0_hold_1 : decode cX0_hold 1 = .ok (.iconst 0, 1) := dk_3 (dk_at dksX0_hold_0 1 rfl rfl)
theorem dX0_hold_2 : decode cX0_hold 2 = .ok (.iconst 2, 1) := dk_5 (dk_at dksX0_hold_0 2 rfl rfl)
theorem dX0_hold_3 : decode cX0_hold 3 = .ok (.invokestatic 156, 3) := dk_184 0 156 (dk_at dksX0_hold_0 3 rfl rfl)
theorem dX0_hold_6 : decode cX0_hold 6 = .ok (.ifCond .ne 5, 3) := dk_154 0 5 (dk_at dksX0_hold_0 6 rfl rfl)
theorem dX0_hold_9 : decode cX0_hold 9 = .ok (.iconst 0, 1) := dk_3 (dk_at dksX0_hold_0 9 rfl rfl)
theorem dX0_hold_10 : decode cX0_hold 10 = .ok (.ireturn, 1) := dk_172 (dk_at dksX0_hold_0 10 rfl rfl)
theorem dX0_hold_11 : decode cX0_hold 11 = .ok (.aload_n 0, 1) := dk_42 (dk_at dksX0_hold_0 11 rfl rfl)
theorem dX0_hold_12 : decode cX0_hold 12 = .ok (.getfield 62, 3) := dk_180 0 62 (dk_at dksX0_hold_0 12 rfl rfl)
theorem dX0_hold_15 : decode cX0_hold 15 = .ok (.iload_n 1, 1) := dk_27 (dk_at dksX0_hold_0 15 rfl rfl)
theorem dX0_hold_16 : decode cX0_hold 16 = .ok (.aaload, 1) := dk_50 (dk_at dksX0_hold_0 16 rfl rfl)
theorem dX0_hold_17 : decode cX0_hold 17 = .ok (.aload_n 0, 1) := dk_42 (dk_at dksX0_hold_0 17 rfl rfl)
theorem dX0_hold_18 : decode cX0_hold 18 = .ok (.getfield 51, 3) := dk_180 0 51 (dk_at dksX0_hold_0 18 rfl rfl)
theorem dX0_hold_21 : decode cX0_hold 21 = .ok (.invokevirtual 262, 3) := dk_182 1 6 (dk_at dksX0_hold_0 21 rfl rfl)
theorem dX0_hold_24 : decode cX0_hold 24 = .ok (.aload_n 0, 1) := dk_42 (dk_at dksX0_hold_1 0 rfl rfl)
theorem dX0_hold_25 : decode cX0_hold 25 = .ok (.getfield 78, 3) := dk_180 0 78 (dk_at dksX0_hold_1 1 rfl rfl)
theorem dX0_hold_28 : decode cX0_hold 28 = .ok (.iload_n 1, 1) := dk_27 (dk_at dksX0_hold_1 4 rfl rfl)
theorem dX0_hold_29 : decode cX0_hold 29 = .ok (.iconst 1, 1) := dk_4 (dk_at dksX0_hold_1 5 rfl rfl)
theorem dX0_hold_30 : decode cX0_hold 30 = .ok (.bastore, 1) := dk_84 (dk_at dksX0_hold_1 6 rfl rfl)
theorem dX0_hold_31 : decode cX0_hold 31 = .ok (.iconst 1, 1) := dk_4 (dk_at dksX0_hold_1 7 rfl rfl)
theorem dX0_hold_32 : decode cX0_hold 32 = .ok (.ireturn, 1) := dk_172 (dk_at dksX0_hold_1 8 rfl rfl)
abbrev cX0_restore : ByteArray := prog_1_method_65_code
def yX0_restore : MethodName := ⟨RX0, "restore", "(I)Z"⟩
def dkwX0_restore_1 : List UInt8 := [42, 180, 0, 62, 27, 50, 182, 1, 6, 42, 3, 181, 0, 125, 4, 172]
abbrev dktX0_restore_1 : List UInt8 := dkwX0_restore_1 ++ []
def dkwX0_restore_0 : List UInt8 := [27, 3, 5, 184, 0, 156, 153, 0, 12, 42, 180, 0, 78, 27, 51, 154, 0, 5, 3, 172, 42, 180, 0, 51]
abbrev dktX0_restore_0 : List UInt8 := dkwX0_restore_0 ++ dktX0_restore_1
theorem dksX0_restore_0 : cX0_restore.data.toList.drop 0 = dktX0_restore_0 := by decide +kernel
theorem dksX0_restore_1 : cX0_restore.data.toList.drop 24 = dktX0_restore_1 := dk_seg dksX0_restore_0 24 rfl rfl
theorem dX0_restore_0 : decode cX0_restore 0 = .ok (.iload_n 1, 1) := dk_27 (dk_at dksX0_restore_0 0 rfl rfl)
theorem dX0_restore_1 : decode cX0_restore 1 = .ok (.iconst 0, 1) := dk_3 (dk_at dksX0_restore_0 1 rfl rfl)
theorem dX0_restore_2 : decode cX0_restore 2 = .ok (.iconst 2, 1) := dk_5 (dk_at dksX0_restore_0 2 rfl rfl)
theorem dX0_restore_3 : decode cX0_restore 3 = .ok (.invokestatic 156, 3) := dk_184 0 156 (dk_at dksX0_restore_0 3 rfl rfl)
theorem dX0_restore_6 : decode cX0_restore 6 = .ok (.ifCond .eq 12, 3) := dk_153 0 12 (dk_at dksX0_restore_0 6 rfl rfl)
theorem dX0_restore_9 : decode cX0_restore 9 = .ok (.aload_n 0, 1) := dk_42 (dk_at dksX0_restore_0 9 rfl rfl)
theorem dX0_restore_10 : decode cX0_restore 10 = .ok (.getfield 78, 3) := dk_180 0 78 (dk_at dksX0_restore_0 10 rfl rfl)
theorem dX0_restore_13 : decode cX0_restore 13 = .ok (.iload_n 1, 1) := dk_27 (dk_at dksX0_restore_0 13 rfl rfl)
theorem dX0_restore_14 : decode cX0_restore 14 = .ok (.baload, 1) := dk_51 (dk_at dksX0_restore_0 14 rfl rfl)
theorem dX0_restore_15 : decode cX0_restore 15 = .ok (.ifCond .ne 5, 3) := dk_154 0 5 (dk_at dksX0_restore_0 15 rfl rfl)
theorem dX0_restore_18 : decode cX0_restore 18 = .ok (.iconst 0, 1) := dk_3 (dk_at dksX0_restore_0 18 rfl rfl)
theorem dX0_restore_19 : decode cX0_restore 19 = .ok (.ireturn, 1) := dk_172 (dk_at dksX0_restore_0 19 rfl rfl)
theorem dX0_restore_20 : decode cX0_restore 20 = .ok (.aload_n 0, 1) := dk_42 (dk_at dksX0_restore_0 20 rfl rfl)
theorem dX0_restore_21 : decode cX0_restore 21 = .ok (.getfield 51, 3) := dk_180 0 51 (dk_at dksX0_restore_0 21 rfl rfl)
theorem dX0_restore_24 : decode cX0_restore 24 = .ok (.aload_n 0, 1) := dk_42 (dk_at dksX0_restore_1 0 rfl rfl)
theorem dX0_restore_25 : decode cX0_restore 25 = .ok (.getfield 62, 3) := dk_180 0 62 (dk_at dksX0_restore_1 1 rfl rfl)
theorem dX0_restore_28 : decode cX0_restore 28 = .ok (.iload_n 1, 1) := dk_27 (dk_at dksX0_restore_1 4 rfl rfl)
theorem dX0_restore_29 : decode cX0_restore 29 = .ok (.aaload, 1) := dk_50 (dk_at dksX0_restore_1 5 rfl rfl)
theorem dX0_restore_30 : decode cX0_restore 30 = .ok (.invokevirtual 262, 3) := dk_182 1 6 (dk_at dksX0_restore_1 6 rfl rfl)
theorem dX0_restore_33 : decode cX0_restore 33 = .ok (.aload_n 0, 1) := dk_42 (dk_at dksX0_restore_1 9 rfl rfl)
theorem dX0_restore_34 : decode cX0_restore 34 = .ok (.iconst 0, 1) := dk_3 (dk_at dksX0_restore_1 10 rfl rfl)
theorem dX0_restore_35 : decode cX0_restore 35 = .ok (.putfield 125, 3) := dk_181 0 125 (dk_at dksX0_restore_1 11 rfl rfl)
theorem dX0_restore_38 : decode cX0_restore 38 = .ok (.iconst 1, 1) := dk_4 (dk_at dksX0_restore_1 14 rfl rfl)
theorem dX0_restore_39 : decode cX0_restore 39 = .ok (.ireturn, 1) := dk_172 (dk_at dksX0_restore_1 15 rfl rfl)
abbrev cX0_count : ByteArray := prog_1_method_67_code
def yX0_count : MethodName := ⟨RX0, "count", "(I)I"⟩
def dkwX0_count_14 : List UInt8 := [167, 255, 230, 28, 172, 2, 172]
abbrev dktX0_count_14 : List UInt8 := dkwX0_count_14 ++ []
def dkwX0_count_13 : List UInt8 := [182, 0, 160, 162, 0, 24, 28, 42, 180, 0, 51, 42, 180, 0, 40, 29, 182, 0, 200, 96, 61, 132, 3, 1]
abbrev dktX0_count_13 : List UInt8 := dkwX0_count_13 ++ dktX0_count_14
def dkwX0_count_12 : List UInt8 := [172, 42, 180, 0, 51, 180, 0, 233, 172, 42, 180, 0, 51, 180, 1, 68, 184, 1, 71, 172, 3, 62, 29, 42]
abbrev dktX0_count_12 : List UInt8 := dkwX0_count_12 ++ dktX0_count_13
def dkwX0_count_11 : List UInt8 := [180, 0, 51, 180, 0, 227, 184, 1, 99, 172, 42, 180, 0, 51, 42, 180, 0, 40, 182, 1, 58, 184, 1, 71]
abbrev dktX0_count_11 : List UInt8 := dkwX0_count_11 ++ dktX0_count_12
def dkwX0_count_10 : List UInt8 := [182, 0, 191, 153, 0, 9, 4, 29, 120, 167, 0, 4, 3, 128, 61, 132, 3, 1, 167, 255, 224, 28, 172, 42]
abbrev dktX0_count_10 : List UInt8 := dkwX0_count_10 ++ dktX0_count_11
def dkwX0_count_9 : List UInt8 := [180, 0, 246, 184, 1, 99, 172, 3, 62, 29, 42, 182, 0, 154, 162, 0, 30, 28, 42, 180, 0, 51, 29]
abbrev dktX0_count_9 : List UInt8 := dkwX0_count_9 ++ dktX0_count_10
def dkwX0_count_8 : List UInt8 := [153, 0, 7, 4, 167, 0, 4, 3, 172, 42, 180, 0, 51, 180, 0, 224, 184, 1, 99, 172, 42, 180, 0, 51]
abbrev dktX0_count_8 : List UInt8 := dkwX0_count_8 ++ dktX0_count_9
def dkwX0_count_7 : List UInt8 := [51, 153, 0, 7, 4, 167, 0, 4, 3, 96, 172, 42, 180, 0, 51, 42, 180, 0, 40, 182, 1, 95]
abbrev dktX0_count_7 : List UInt8 := dkwX0_count_7 ++ dktX0_count_8
def dkwX0_count_6 : List UInt8 := [167, 0, 4, 3, 42, 180, 0, 78, 4, 51, 153, 0, 7, 4, 167, 0, 4, 3, 96, 42, 180, 0, 78, 5]
abbrev dktX0_count_6 : List UInt8 := dkwX0_count_6 ++ dktX0_count_7
def dkwX0_count_5 : List UInt8 := [180, 0, 110, 172, 42, 180, 0, 125, 172, 42, 180, 0, 128, 172, 42, 180, 0, 78, 3, 51, 153, 0, 7, 4]
abbrev dktX0_count_5 : List UInt8 := dkwX0_count_5 ++ dktX0_count_6
def dkwX0_count_4 : List UInt8 := [42, 180, 0, 51, 42, 180, 0, 40, 182, 1, 58, 172, 42, 180, 0, 51, 180, 1, 68, 172, 42, 180, 0, 24]
abbrev dktX0_count_4 : List UInt8 := dkwX0_count_4 ++ dktX0_count_5
def dkwX0_count_3 : List UInt8 := [180, 1, 36, 172, 42, 182, 0, 154, 154, 0, 8, 16, 254, 167, 0, 10, 42, 180, 0, 51, 180, 0, 194, 172]
abbrev dktX0_count_3 : List UInt8 := dkwX0_count_3 ++ dktX0_count_4
def dkwX0_count_2 : List UInt8 := [42, 182, 0, 154, 172, 42, 182, 0, 160, 172, 42, 182, 0, 162, 172, 42, 182, 0, 172, 172, 42, 180, 0, 51]
abbrev dktX0_count_2 : List UInt8 := dkwX0_count_2 ++ dktX0_count_3
def dkwX0_count_1 : List UInt8 := [170, 0, 0, 1, 131, 0, 0, 0, 0, 0, 0, 0, 20, 0, 0, 0, 97, 0, 0, 0, 102, 0, 0, 0, 107, 0, 0, 0, 112, 0, 0, 0, 117, 0, 0, 0, 125, 0, 0, 0, 145, 0, 0, 0, 157, 0, 0, 0, 165, 0, 0, 0, 173, 0, 0, 0, 178, 0, 0, 0, 183, 0, 0, 0, 228, 0, 0, 0, 248, 0, 0, 1, 3, 0, 0, 1, 14, 0, 0, 1, 53, 0, 0, 1, 64, 0, 0, 1, 79, 0, 0, 1, 87, 0, 0, 1, 98]
abbrev dktX0_count_1 : List UInt8 := dkwX0_count_1 ++ dktX0_count_2
def dkwX0_count_0 : List UInt8 := [3, 61, 27]
abbrev dktX0_count_0 : List UInt8 := dkwX0_count_0 ++ dktX0_count_1
theorem dksX0_count_0 : cX0_count.data.toList.drop 0 = dktX0_count_0 := by decide +kernel
theorem dksX0_count_1 : cX0_count.data.toList.drop 3 = dktX0_count_1 := dk_seg dksX0_count_0 3 rfl rfl
theorem dksX0_count_2 : cX0_count.data.toList.drop 100 = dktX0_count_2 := dk_seg dksX0_count_1 97 rfl rfl
theorem dksX0_count_3 : cX0_count.data.toList.drop 124 = dktX0_count_3 := dk_seg dksX0_count_2 24 rfl rfl
theorem dksX0_count_4 : cX0_count.data.toList.drop 148 = dktX0_count_4 := dk_seg dksX0_count_3 24 rfl rfl
theorem dksX0_count_5 : cX0_count.data.toList.drop 172 = dktX0_count_5 := dk_seg dksX0_count_4 24 rfl rfl
theorem dksX0_count_6 : cX0_count.data.toList.drop 196 = dktX0_count_6 := dk_seg dksX0_count_5 24 rfl rfl
theorem dksX0_count_7 : cX0_count.data.toList.drop 220 = dktX0_count_7 := dk_seg dksX0_count_6 24 rfl rfl
theorem dksX0_count_8 : cX0_count.data.toList.drop 242 = dktX0_count_8 := dk_seg dksX0_count_7 22 rfl rfl
theorem dksX0_count_9 : cX0_count.data.toList.drop 266 = dktX0_count_9 := dk_seg dksX0_count_8 24 rfl rfl
theorem dksX0_count_10 : cX0_count.data.toList.drop 289 = dktX0_count_10 := dk_seg dksX0_count_9 23 rfl rfl
theorem dksX0_count_11 : cX0_count.data.toList.drop 313 = dktX0_count_11 := dk_seg dksX0_count_10 24 rfl rfl
theorem dksX0_count_12 : cX0_count.data.toList.drop 337 = dktX0_count_12 := dk_seg dksX0_count_11 24 rfl rfl
theorem dksX0_count_13 : cX0_count.data.toList.drop 361 = dktX0_count_13 := dk_seg dksX0_count_12 24 rfl rfl
theorem dksX0_count_14 : cX0_count.data.toList.drop 385 = dktX0_count_14 := dk_seg dksX0_count_13 24 rfl rfl
theorem dX0_count_0 : decode cX0_count 0 = .ok (.iconst 0, 1) := dk_3 (dk_at dksX0_count_0 0 rfl rfl)
theorem dX0_count_1 : decode cX0_count 1 = .ok (.istore_n 2, 1) := dk_61 (dk_at dksX0_count_0 1 rfl rfl)
theorem dX0_count_2 : decode cX0_count 2 = .ok (.iload_n 1, 1) := dk_27 (dk_at dksX0_count_0 2 rfl rfl)
theorem dX0_count_3 : decode cX0_count 3 = .ok (.tableswitch 387 0 20 #[97, 102, 107, 112, 117, 125, 145, 157, 165, 173, 178, 183, 228, 248, 259, 270, 309, 320, 335, 343, 354], 97) := by decide +kernel
theorem dX0_count_100 : decode cX0_count 100 = .ok (.aload_n 0, 1) := dk_42 (dk_at dksX0_count_2 0 rfl rfl)
theorem dX0_count_101 : decode cX0_count 101 = .ok (.invokevirtual 154, 3) := dk_182 0 154 (dk_at dksX0_count_2 1 rfl rfl)
theorem dX0_count_104 : decode cX0_count 104 = .ok (.ireturn, 1) := dk_172 (dk_at dksX0_count_2 4 rfl rfl)
theorem dX0_count_105 : decode cX0_count 105 = .ok (.aload_n 0, 1) := dk_42 (dk_at dksX0_count_2 5 rfl rfl)
theorem dX0_count_106 : decode cX0_count 106 = .ok (.invokevirtual 160, 3) := dk_182 0 160 (dk_at dksX0_count_2 6 rfl rfl)
theorem dX0_count_109 : decode cX0_count 109 = .ok (.ireturn, 1) := dk_172 (dk_at dksX0_count_2 9 rfl rfl)
theorem dX0_count_110 : decode cX0_count 110 = .ok (.aload_n 0, 1) := dk_42 (dk_at dksX0_count_2 10 rfl rfl)
theorem dX0_count_111 : decode cX0_count 111 = .ok (.invokevirtual 162, 3) := dk_182 0 162 (dk_at dksX0_count_2 11 rfl rfl)
theorem dX0_count_114 : decode cX0_count 114 = .ok (.ireturn, 1) := dk_172 (dk_at dksX0_count_2 14 rfl rfl)
theorem dX0_count_115 : decode cX0_count 115 = .ok (.aload_n 0, 1) := dk_42 (dk_at dksX0_count_2 15 rfl rfl)
theorem dX0_count_116 : decode cX0_count 116 = .ok (.invokevirtual 172, 3) := dk_182 0 172 (dk_at dksX0_count_2 16 rfl rfl)
theorem dX0_count_119 : decode cX0_count 119 = .ok (.ireturn, 1) := dk_172 (dk_at dksX0_count_2 19 rfl rfl)
theorem dX0_count_120 : decode cX0_count 120 = .ok (.aload_n 0, 1) := dk_42 (dk_at dksX0_count_2 20 rfl rfl)
theorem dX0_count_121 : decode cX0_count 121 = .ok (.getfield 51, 3) := dk_180 0 51 (dk_at dksX0_count_2 21 rfl rfl)
theorem dX0_count_124 : decode cX0_count 124 = .ok (.getfield 292, 3) := dk_180 1 36 (dk_at dksX0_count_3 0 rfl rfl)
theorem dX0_count_127 : decode cX0_count 127 = .ok (.ireturn, 1) := dk_172 (dk_at dksX0_count_3 3 rfl rfl)
theorem dX0_count_128 : decode cX0_count 128 = .ok (.aload_n 0, 1) := dk_42 (dk_at dksX0_count_3 4 rfl rfl)
theorem dX0_count_129 : decode cX0_count 129 = .ok (.invokevirtual 154, 3) := dk_182 0 154 (dk_at dksX0_count_3 5 rfl rfl)
theorem dX0_count_132 : decode cX0_count 132 = .ok (.ifCond .ne 8, 3) := dk_154 0 8 (dk_at dksX0_count_3 8 rfl rfl)
theorem dX0_count_135 : decode cX0_count 135 = .ok (.bipush (-2), 2) := dk_16 254 (dk_at dksX0_count_3 11 rfl rfl)
theorem dX0_count_137 : decode cX0_count 137 = .ok (.goto 10, 3) := dk_167 0 10 (dk_at dksX0_count_3 13 rfl rfl)
theorem dX0_count_140 : decode cX0_count 140 = .ok (.aload_n 0, 1) := dk_42 (dk_at dksX0_count_3 16 rfl rfl)
theorem dX0_count_141 : decode cX0_count 141 = .ok (.getfield 51, 3) := dk_180 0 51 (dk_at dksX0_count_3 17 rfl rfl)
theorem dX0_count_144 : decode cX0_count 144 = .ok (.getfield 194, 3) := dk_180 0 194 (dk_at dksX0_count_3 20 rfl rfl)
theorem dX0_count_147 : decode cX0_count 147 = .ok (.ireturn, 1) := dk_172 (dk_at dksX0_count_3 23 rfl rfl)
theorem dX0_count_148 : decode cX0_count 148 = .ok (.aload_n 0, 1) := dk_42 (dk_at dksX0_count_4 0 rfl rfl)
theorem dX0_count_149 : decode cX0_count 149 = .ok (.getfield 51, 3) := dk_180 0 51 (dk_at dksX0_count_4 1 rfl rfl)
theorem dX0_count_152 : decode cX0_count 152 = .ok (.aload_n 0, 1) := dk_42 (dk_at dksX0_count_4 4 rfl rfl)
theorem dX0_count_153 : decode cX0_count 153 = .ok (.getfield 40, 3) := dk_180 0 40 (dk_at dksX0_count_4 5 rfl rfl)
theorem dX0_count_156 : decode cX0_count 156 = .ok (.invokevirtual 314, 3) := dk_182 1 58 (dk_at dksX0_count_4 8 rfl rfl)
theorem dX0_count_159 : decode cX0_count 159 = .ok (.ireturn, 1) := dk_172 (dk_at dksX0_count_4 11 rfl rfl)
theorem dX0_count_160 : decode cX0_count 160 = .ok (.aload_n 0, 1) := dk_42 (dk_at dksX0_count_4 12 rfl rfl)
theorem dX0_count_161 : decode cX0_count 161 = .ok (.getfield 51, 3) := dk_180 0 51 (dk_at dksX0_count_4 13 rfl rfl)
theorem dX0_count_164 : decode cX0_count 164 = .ok (.getfield 324, 3) := dk_180 1 68 (dk_at dksX0_count_4 16 rfl rfl)
theorem dX0_count_167 : decode cX0_count 167 = .ok (.ireturn, 1) := dk_172 (dk_at dksX0_count_4 19 rfl rfl)
theorem dX0_count_168 : decode cX0_count 168 = .ok (.aload_n 0, 1) := dk_42 (dk_at dksX0_count_4 20 rfl rfl)
theorem dX0_count_169 : decode cX0_count 169 = .ok (.getfield 24, 3) := dk_180 0 24 (dk_at dksX0_count_4 21 rfl rfl)
theorem dX0_count_172 : decode cX0_count 172 = .ok (.getfield 110, 3) := dk_180 0 110 (dk_at dksX0_count_5 0 rfl rfl)
theorem dX0_count_175 : decode cX0_count 175 = .ok (.ireturn, 1) := dk_172 (dk_at dksX0_count_5 3 rfl rfl)
theorem dX0_count_176 : decode cX0_count 176 = .ok (.aload_n 0, 1) := dk_42 (dk_at dksX0_count_5 4 rfl rfl)
theorem dX0_count_177 : decode cX0_count 177 = .ok (.getfield 125, 3) := dk_180 0 125 (dk_at dksX0_count_5 5 rfl rfl)
theorem dX0_count_180 : decode cX0_count 180 = .ok (.ireturn, 1) := dk_172 (dk_at dksX0_count_5 8 rfl rfl)
theorem dX0_count_181 : decode cX0_count 181 = .ok (.aload_n 0, 1) := dk_42 (dk_at dksX0_count_5 9 rfl rfl)
theorem dX0_count_182 : decode cX0_count 182 = .ok (.getfield 128, 3) := dk_180 0 128 (dk_at dksX0_count_5 10 rfl rfl)
theorem dX0_count_185 : decode cX0_count 185 = .ok (.ireturn, 1) := dk_172 (dk_at dksX0_count_5 13 rfl rfl)
theorem dX0_count_186 : decode cX0_count 186 = .ok (.aload_n 0, 1) := dk_42 (dk_at dksX0_count_5 14 rfl rfl)
theorem dX0_count_187 : decode cX0_count 187 = .ok (.getfield 78, 3) := dk_180 0 78 (dk_at dksX0_count_5 15 rfl rfl)
theorem dX0_count_190 : decode cX0_count 190 = .ok (.iconst 0, 1) := dk_3 (dk_at dksX0_count_5 18 rfl rfl)
theorem dX0_count_191 : decode cX0_count 191 = .ok (.baload, 1) := dk_51 (dk_at dksX0_count_5 19 rfl rfl)
theorem dX0_count_192 : decode cX0_count 192 = .ok (.ifCond .eq 7, 3) := dk_153 0 7 (dk_at dksX0_count_5 20 rfl rfl)
theorem dX0_count_195 : decode cX0_count 195 = .ok (.iconst 1, 1) := dk_4 (dk_at dksX0_count_5 23 rfl rfl)
theorem dX0_count_196 : decode cX0_count 196 = .ok (.goto 4, 3) := dk_167 0 4 (dk_at dksX0_count_6 0 rfl rfl)
theorem dX0_count_199 : decode cX0_count 199 = .ok (.iconst 0, 1) := dk_3 (dk_at dksX0_count_6 3 rfl rfl)
theorem dX0_count_200 : decode cX0_count 200 = .ok (.aload_n 0, 1) := dk_42 (dk_at dksX0_count_6 4 rfl rfl)
theorem dX0_count_201 : decode cX0_count 201 = .ok (.getfield 78, 3) := dk_180 0 78 (dk_at dksX0_count_6 5 rfl rfl)
theorem dX0_count_204 : decode cX0_count 204 = .ok (.iconst 1, 1) := dk_4 (dk_at dksX0_count_6 8 rfl rfl)
theorem dX0_count_205 : decode cX0_count 205 = .ok (.baload, 1) := dk_51 (dk_at dksX0_count_6 9 rfl rfl)
theorem dX0_count_206 : decode cX0_count 206 = .ok (.ifCond .eq 7, 3) := dk_153 0 7 (dk_at dksX0_count_6 10 rfl rfl)
theorem dX0_count_209 : decode cX0_count 209 = .ok (.iconst 1, 1) := dk_4 (dk_at dksX0_count_6 13 rfl rfl)
theorem dX0_count_210 : decode cX0_count 210 = .ok (.goto 4, 3) := dk_167 0 4 (dk_at dksX0_count_6 14 rfl rfl)
theorem dX0_count_213 : decode cX0_count 213 = .ok (.iconst 0, 1) := dk_3 (dk_at dksX0_count_6 17 rfl rfl)
theorem dX0_count_214 : decode cX0_count 214 = .ok (.iadd, 1) := dk_96 (dk_at dksX0_count_6 18 rfl rfl)
theorem dX0_count_215 : decode cX0_count 215 = .ok (.aload_n 0, 1) := dk_42 (dk_at dksX0_count_6 19 rfl rfl)
theorem dX0_count_216 : decode cX0_count 216 = .ok (.getfield 78, 3) := dk_180 0 78 (dk_at dksX0_count_6 20 rfl rfl)
theorem dX0_count_219 : decode cX0_count 219 = .ok (.iconst 2, 1) := dk_5 (dk_at dksX0_count_6 23 rfl rfl)
theorem dX0_count_220 : decode cX0_count 220 = .ok (.baload, 1) := dk_51 (dk_at dksX0_count_7 0 rfl rfl)
theorem dX0_count_221 : decode cX0_count 221 = .ok (.ifCond .eq 7, 3) := dk_153 0 7 (dk_at dksX0_count_7 1 rfl rfl)
theorem dX0_count_224 : decode cX0_count 224 = .ok (.iconst 1, 1) := dk_4 (dk_at dksX0_count_7 4 rfl rfl)
theorem dX0_count_225 : decode cX0_count 225 = .ok (.goto 4, 3) := dk_167 0 4 (dk_at dksX0_count_7 5 rfl rfl)
theorem dX0_count_228 : decode cX0_count 228 = .ok (.iconst 0, 1) := dk_3 (dk_at dksX0_count_7 8 rfl rfl)
theorem dX0_count_229 : decode cX0_count 229 = .ok (.iadd, 1) := dk_96 (dk_at dksX0_count_7 9 rfl rfl)
theorem dX0_count_230 : decode cX0_count 230 = .ok (.ireturn, 1) := dk_172 (dk_at dksX0_count_7 10 rfl rfl)
theorem dX0_count_231 : decode cX0_count 231 = .ok (.aload_n 0, 1) := dk_42 (dk_at dksX0_count_7 11 rfl rfl)
theorem dX0_count_232 : decode cX0_count 232 = .ok (.getfield 51, 3) := dk_180 0 51 (dk_at dksX0_count_7 12 rfl rfl)
theorem dX0_count_235 : decode cX0_count 235 = .ok (.aload_n 0, 1) := dk_42 (dk_at dksX0_count_7 15 rfl rfl)
theorem dX0_count_236 : decode cX0_count 236 = .ok (.getfield 40, 3) := dk_180 0 40 (dk_at dksX0_count_7 16 rfl rfl)
theorem dX0_count_239 : decode cX0_count 239 = .ok (.invokevirtual 351, 3) := dk_182 1 95 (dk_at dksX0_count_7 19 rfl rfl)
theorem dX0_count_242 : decode cX0_count 242 = .ok (.ifCond .eq 7, 3) := dk_153 0 7 (dk_at dksX0_count_8 0 rfl rfl)
theorem dX0_count_245 : decode cX0_count 245 = .ok (.iconst 1, 1) := dk_4 (dk_at dksX0_count_8 3 rfl rfl)
theorem dX0_count_246 : decode cX0_count 246 = .ok (.goto 4, 3) := dk_167 0 4 (dk_at dksX0_count_8 4 rfl rfl)
theorem dX0_count_249 : decode cX0_count 249 = .ok (.iconst 0, 1) := dk_3 (dk_at dksX0_count_8 7 rfl rfl)
theorem dX0_count_250 : decode cX0_count 250 = .ok (.ireturn, 1) := dk_172 (dk_at dksX0_count_8 8 rfl rfl)
theorem dX0_count_251 : decode cX0_count 251 = .ok (.aload_n 0, 1) := dk_42 (dk_at dksX0_count_8 9 rfl rfl)
theorem dX0_count_252 : decode cX0_count 252 = .ok (.getfield 51, 3) := dk_180 0 51 (dk_at dksX0_count_8 10 rfl rfl)
theorem dX0_count_255 : decode cX0_count 255 = .ok (.getfield 224, 3) := dk_180 0 224 (dk_at dksX0_count_8 13 rfl rfl)
theorem dX0_count_258 : decode cX0_count 258 = .ok (.invokestatic 355, 3) := dk_184 1 99 (dk_at dksX0_count_8 16 rfl rfl)
theorem dX0_count_261 : decode cX0_count 261 = .ok (.ireturn, 1) := dk_172 (dk_at dksX0_count_8 19 rfl rfl)
theorem dX0_count_262 : decode cX0_count 262 = .ok (.aload_n 0, 1) := dk_42 (dk_at dksX0_count_8 20 rfl rfl)
theorem dX0_count_263 : decode cX0_count 263 = .ok (.getfield 51, 3) := dk_180 0 51 (dk_at dksX0_count_8 21 rfl rfl)
theorem dX0_count_266 : decode cX0_count 266 = .ok (.getfield 246, 3) := dk_180 0 246 (dk_at dksX0_count_9 0 rfl rfl)
theorem dX0_count_269 : decode cX0_count 269 = .ok (.invokestatic 355, 3) := dk_184 1 99 (dk_at dksX0_count_9 3 rfl rfl)
theorem dX0_count_272 : decode cX0_count 272 = .ok (.ireturn, 1) := dk_172 (dk_at dksX0_count_9 6 rfl rfl)
theorem dX0_count_273 : decode cX0_count 273 = .ok (.iconst 0, 1) := dk_3 (dk_at dksX0_count_9 7 rfl rfl)
theorem dX0_count_274 : decode cX0_count 274 = .ok (.istore_n 3, 1) := dk_62 (dk_at dksX0_count_9 8 rfl rfl)
theorem dX0_count_275 : decode cX0_count 275 = .ok (.iload_n 3, 1) := dk_29 (dk_at dksX0_count_9 9 rfl rfl)
theorem dX0_count_276 : decode cX0_count 276 = .ok (.aload_n 0, 1) := dk_42 (dk_at dksX0_count_9 10 rfl rfl)
theorem dX0_count_277 : decode cX0_count 277 = .ok (.invokevirtual 154, 3) := dk_182 0 154 (dk_at dksX0_count_9 11 rfl rfl)
theorem dX0_count_280 : decode cX0_count 280 = .ok (.if_icmp .ge 30, 3) := dk_162 0 30 (dk_at dksX0_count_9 14 rfl rfl)
theorem dX0_count_283 : decode cX0_count 283 = .ok (.iload_n 2, 1) := dk_28 (dk_at dksX0_count_9 17 rfl rfl)
theorem dX0_count_284 : decode cX0_count 284 = .ok (.aload_n 0, 1) := dk_42 (dk_at dksX0_count_9 18 rfl rfl)
theorem dX0_count_285 : decode cX0_count 285 = .ok (.getfield 51, 3) := dk_180 0 51 (dk_at dksX0_count_9 19 rfl rfl)
theorem dX0_count_288 : decode cX0_count 288 = .ok (.iload_n 3, 1) := dk_29 (dk_at dksX0_count_9 22 rfl rfl)
theorem dX0_count_289 : decode cX0_count 289 = .ok (.invokevirtual 191, 3) := dk_182 0 191 (dk_at dksX0_count_10 0 rfl rfl)
theorem dX0_count_292 : decode cX0_count 292 = .ok (.ifCond .eq 9, 3) := dk_153 0 9 (dk_at dksX0_count_10 3 rfl rfl)
theorem dX0_count_295 : decode cX0_count 295 = .ok (.iconst 1, 1) := dk_4 (dk_at dksX0_count_10 6 rfl rfl)
theorem dX0_count_296 : decode cX0_count 296 = .ok (.iload_n 3, 1) := dk_29 (dk_at dksX0_count_10 7 rfl rfl)
theorem dX0_count_297 : decode cX0_count 297 = .ok (.ishl, 1) := dk_120 (dk_at dksX0_count_10 8 rfl rfl)
theorem dX0_count_298 : decode cX0_count 298 = .ok (.goto 4, 3) := dk_167 0 4 (dk_at dksX0_count_10 9 rfl rfl)
theorem dX0_count_301 : decode cX0_count 301 = .ok (.iconst 0, 1) := dk_3 (dk_at dksX0_count_10 12 rfl rfl)
theorem dX0_count_302 : decode cX0_count 302 = .ok (.ior, 1) := dk_128 (dk_at dksX0_count_10 13 rfl rfl)
theorem dX0_count_303 : decode cX0_count 303 = .ok (.istore_n 2, 1) := dk_61 (dk_at dksX0_count_10 14 rfl rfl)
theorem dX0_count_304 : decode cX0_count 304 = .ok (.iinc 3 1, 3) := dk_132 3 1 (dk_at dksX0_count_10 15 rfl rfl)
theorem dX0_count_307 : decode cX0_count 307 = .ok (.goto (-32), 3) := dk_167 255 224 (dk_at dksX0_count_10 18 rfl rfl)
theorem dX0_count_310 : decode cX0_count 310 = .ok (.iload_n 2, 1) := dk_28 (dk_at dksX0_count_10 21 rfl rfl)
theorem dX0_count_311 : decode cX0_count 311 = .ok (.ireturn, 1) := dk_172 (dk_at dksX0_count_10 22 rfl rfl)
theorem dX0_count_312 : decode cX0_count 312 = .ok (.aload_n 0, 1) := dk_42 (dk_at dksX0_count_10 23 rfl rfl)
theorem dX0_count_313 : decode cX0_count 313 = .ok (.getfield 51, 3) := dk_180 0 51 (dk_at dksX0_count_11 0 rfl rfl)
theorem dX0_count_316 : decode cX0_count 316 = .ok (.getfield 227, 3) := dk_180 0 227 (dk_at dksX0_count_11 3 rfl rfl)
theorem dX0_count_319 : decode cX0_count 319 = .ok (.invokestatic 355, 3) := dk_184 1 99 (dk_at dksX0_count_11 6 rfl rfl)
theorem dX0_count_322 : decode cX0_count 322 = .ok (.ireturn, 1) := dk_172 (dk_at dksX0_count_11 9 rfl rfl)
theorem dX0_count_323 : decode cX0_count 323 = .ok (.aload_n 0, 1) := dk_42 (dk_at dksX0_count_11 10 rfl rfl)
theorem dX0_count_324 : decode cX0_count 324 = .ok (.getfield 51, 3) := dk_180 0 51 (dk_at dksX0_count_11 11 rfl rfl)
theorem dX0_count_327 : decode cX0_count 327 = .ok (.aload_n 0, 1) := dk_42 (dk_at dksX0_count_11 14 rfl rfl)
theorem dX0_count_328 : decode cX0_count 328 = .ok (.getfield 40, 3) := dk_180 0 40 (dk_at dksX0_count_11 15 rfl rfl)
theorem dX0_count_331 : decode cX0_count 331 = .ok (.invokevirtual 314, 3) := dk_182 1 58 (dk_at dksX0_count_11 18 rfl rfl)
theorem dX0_count_334 : decode cX0_count 334 = .ok (.invokestatic 327, 3) := dk_184 1 71 (dk_at dksX0_count_11 21 rfl rfl)
theorem dX0_count_337 : decode cX0_count 337 = .ok (.ireturn, 1) := dk_172 (dk_at dksX0_count_12 0 rfl rfl)
theorem dX0_count_338 : decode cX0_count 338 = .ok (.aload_n 0, 1) := dk_42 (dk_at dksX0_count_12 1 rfl rfl)
theorem dX0_count_339 : decode cX0_count 339 = .ok (.getfield 51, 3) := dk_180 0 51 (dk_at dksX0_count_12 2 rfl rfl)
theorem dX0_count_342 : decode cX0_count 342 = .ok (.getfield 233, 3) := dk_180 0 233 (dk_at dksX0_count_12 5 rfl rfl)
theorem dX0_count_345 : decode cX0_count 345 = .ok (.ireturn, 1) := dk_172 (dk_at dksX0_count_12 8 rfl rfl)
theorem dX0_count_346 : decode cX0_count 346 = .ok (.aload_n 0, 1) := dk_42 (dk_at dksX0_count_12 9 rfl rfl)
theorem dX0_count_347 : decode cX0_count 347 = .ok (.getfield 51, 3) := dk_180 0 51 (dk_at dksX0_count_12 10 rfl rfl)
theorem dX0_count_350 : decode cX0_count 350 = .ok (.getfield 324, 3) := dk_180 1 68 (dk_at dksX0_count_12 13 rfl rfl)
theorem dX0_count_353 : decode cX0_count 353 = .ok (.invokestatic 327, 3) := dk_184 1 71 (dk_at dksX0_count_12 16 rfl rfl)
theorem dX0_count_356 : decode cX0_count 356 = .ok (.ireturn, 1) := dk_172 (dk_at dksX0_count_12 19 rfl rfl)
theorem dX0_count_357 : decode cX0_count 357 = .ok (.iconst 0, 1) := dk_3 (dk_at dksX0_count_12 20 rfl rfl)
theorem dX0_count_358 : decode cX0_count 358 = .ok (.istore_n 3, 1) := dk_62 (dk_at dksX0_count_12 21 rfl rfl)
theorem dX0_count_359 : decode cX0_count 359 = .ok (.iload_n 3, 1) := dk_29 (dk_at dksX0_count_12 22 rfl rfl)
theorem dX0_count_360 : decode cX0_count 360 = .ok (.aload_n 0, 1) := dk_42 (dk_at dksX0_count_12 23 rfl rfl)
theorem dX0_count_361 : decode cX0_count 361 = .ok (.invokevirtual 160, 3) := dk_182 0 160 (dk_at dksX0_count_13 0 rfl rfl)
theorem dX0_count_364 : decode cX0_count 364 = .ok (.if_icmp .ge 24, 3) := dk_162 0 24 (dk_at dksX0_count_13 3 rfl rfl)
theorem dX0_count_367 : decode cX0_count 367 = .ok (.iload_n 2, 1) := dk_28 (dk_at dksX0_count_13 6 rfl rfl)
theorem dX0_count_368 : decode cX0_count 368 = .ok (.aload_n 0, 1) := dk_42 (dk_at dksX0_count_13 7 rfl rfl)
theorem dX0_count_369 : decode cX0_count 369 = .ok (.getfield 51, 3) := dk_180 0 51 (dk_at dksX0_count_13 8 rfl rfl)
theorem dX0_count_372 : decode cX0_count 372 = .ok (.aload_n 0, 1) := dk_42 (dk_at dksX0_count_13 11 rfl rfl)
theorem dX0_count_373 : decode cX0_count 373 = .ok (.getfield 40, 3) := dk_180 0 40 (dk_at dksX0_count_13 12 rfl rfl)
theorem dX0_count_376 : decode cX0_count 376 = .ok (.iload_n 3, 1) := dk_29 (dk_at dksX0_count_13 15 rfl rfl)
theorem dX0_count_377 : decode cX0_count 377 = .ok (.invokevirtual 200, 3) := dk_182 0 200 (dk_at dksX0_count_13 16 rfl rfl)
theorem dX0_count_380 : decode cX0_count 380 = .ok (.iadd, 1) := dk_96 (dk_at dksX0_count_13 19 rfl rfl)
theorem dX0_count_381 : decode cX0_count 381 = .ok (.istore_n 2, 1) := dk_61 (dk_at dksX0_count_13 20 rfl rfl)
theorem dX0_count_382 : decode cX0_count 382 = .ok (.iinc 3 1, 3) := dk_132 3 1 (dk_at dksX0_count_13 21 rfl rfl)
theorem dX0_count_385 : decode cX0_count 385 = .ok (.goto (-26), 3) := dk_167 255 230 (dk_at dksX0_count_14 0 rfl rfl)
theorem dX0_count_388 : decode cX0_count 388 = .ok (.iload_n 2, 1) := dk_28 (dk_at dksX0_count_14 3 rfl rfl)
theorem dX0_count_389 : decode cX0_count 389 = .ok (.ireturn, 1) := dk_172 (dk_at dksX0_count_14 4 rfl rfl)
theorem dX0_count_390 : decode cX0_count 390 = .ok (.iconst (-1), 1) := dk_2 (dk_at dksX0_count_14 5 rfl rfl)
theorem dX0_count_391 : decode cX0_count 391 = .ok (.ireturn, 1) := dk_172 (dk_at dksX0_count_14 6 rfl rfl)
abbrev cX0_sum : ByteArray := prog_1_method_66_code
def yX0_sum : MethodName := ⟨RX0, "sum", "([I)I"⟩
def dkwX0_sum_0 : List UInt8 := [3, 60, 3, 61, 28, 42, 190, 162, 0, 15, 27, 42, 28, 46, 96, 60, 132, 2, 1, 167, 255, 241, 27, 172]
abbrev dktX0_sum_0 : List UInt8 := dkwX0_sum_0 ++ []
theorem dksX0_sum_0 : cX0_sum.data.toList.drop 0 = dktX0_sum_0 := by decide +kernel
theorem dX0_sum_0 : decode cX0_sum 0 = .ok (.iconst 0, 1) := dk_3 (dk_at dksX0_sum_0 0 rfl rfl)
theorem dX0_sum_1 : decode cX0_sum 1 = .ok (.istore_n 1, 1) := dk_60 (dk_at dksX0_sum_0 1 rfl rfl)
theorem dX0_sum_2 : decode cX0_sum 2 = .ok (.iconst 0, 1) := dk_3 (dk_at dksX0_sum_0 2 rfl rfl)
theorem dX0_sum_3 : decode cX0_sum 3 = .ok (.istore_n 2, 1) := dk_61 (dk_at dksX0_sum_0 3 rfl rfl)
theorem dX0_sum_4 : decode cX0_sum 4 = .ok (.iload_n 2, 1) := dk_28 (dk_at dksX0_sum_0 4 rfl rfl)
theorem dX0_sum_5 : decode cX0_sum 5 = .ok (.aload_n 0, 1) := dk_42 (dk_at dksX0_sum_0 5 rfl rfl)
theorem dX0_sum_6 : decode cX0_sum 6 = .ok (.arraylength, 1) := dk_190 (dk_at dksX0_sum_0 6 rfl rfl)
theorem dX0_sum_7 : decode cX0_sum 7 = .ok (.if_icmp .ge 15, 3) := dk_162 0 15 (dk_at dksX0_sum_0 7 rfl rfl)
theorem dX0_sum_10 : decode cX0_sum 10 = .ok (.iload_n 1, 1) := dk_27 (dk_at dksX0_sum_0 10 rfl rfl)
theorem dX0_sum_11 : decode cX0_sum 11 = .ok (.aload_n 0, 1) := dk_42 (dk_at dksX0_sum_0 11 rfl rfl)
theorem dX0_sum_12 : decode cX0_sum 12 = .ok (.iload_n 2, 1) := dk_28 (dk_at dksX0_sum_0 12 rfl rfl)
theorem dX0_sum_13 : decode cX0_sum 13 = .ok (.iaload, 1) := dk_46 (dk_at dksX0_sum_0 13 rfl rfl)
theorem dX0_sum_14 : decode cX0_sum 14 = .ok (.iadd, 1) := dk_96 (dk_at dksX0_sum_0 14 rfl rfl)
theorem dX0_sum_15 : decode cX0_sum 15 = .ok (.istore_n 1, 1) := dk_60 (dk_at dksX0_sum_0 15 rfl rfl)
theorem dX0_sum_16 : decode cX0_sum 16 = .ok (.iinc 2 1, 3) := dk_132 2 1 (dk_at dksX0_sum_0 16 rfl rfl)
theorem dX0_sum_19 : decode cX0_sum 19 = .ok (.goto (-15), 3) := dk_167 255 241 (dk_at dksX0_sum_0 19 rfl rfl)
theorem dX0_sum_22 : decode cX0_sum 22 = .ok (.iload_n 1, 1) := dk_27 (dk_at dksX0_sum_0 22 rfl rfl)
theorem dX0_sum_23 : decode cX0_sum 23 = .ok (.ireturn, 1) := dk_172 (dk_at dksX0_sum_0 23 rfl rfl)
theorem q119 : (Jvm.Cond.initialized "BlushLamps") ∈ lw_all := lw_g (lw_at lw_m1 1 rfl) rfl
theorem q159 : (Jvm.Cond.instantiable "BlushLamps" (23 : Nat)) ∈ lw_all := lw_g (lw_at lw_m1 41 rfl) rfl
theorem q161 : (Jvm.Cond.instanceMethod ({ cls := "BlushLamps", name := "<init>", desc := "()V" } : Jvm.MethodName)) ∈ lw_all := lw_g (lw_at lw_m1 43 rfl) rfl
theorem q162 : (Jvm.Cond.code ({ cls := "BlushLamps", name := "<init>", desc := "()V" } : Jvm.MethodName) prog_1_method_3_code (2 : Nat) (Option.none : Option Jvm.ClassFile.FieldType)) ∈ lw_all := lw_g (lw_at lw_m1 44 rfl) rfl
theorem q163 : (Jvm.Cond.methodLink "BlushLamps" (8 : Nat) ({ cls := "java/lang/Object", name := "<init>", desc := "()V" } : Jvm.MethodName)) ∈ lw_all := lw_g (lw_at lw_m1 45 rfl) rfl
theorem q166 : (Jvm.Cond.classLink "BlushLamps" (14 : Nat) "BlushLamps$Fault") ∈ lw_all := lw_g (lw_at lw_m1 48 rfl) rfl
theorem q205 : (Jvm.Cond.methodLink "BlushLamps" (16 : Nat) ({ cls := "BlushLamps$Fault", name := "<init>", desc := "()V" } : Jvm.MethodName)) ∈ lw_all := lw_g (lw_at lw_m1 87 rfl) rfl
theorem q219 : (Jvm.Cond.fieldLink "BlushLamps" (131 : Nat) "BlushLamps$Fault" "number" "I") ∈ lw_all := lw_g (lw_at lw_m1 101 rfl) rfl
theorem q221 : (Jvm.Cond.fieldLink "BlushLamps" (134 : Nat) "BlushLamps$Fault" "place" "I") ∈ lw_all := lw_g (lw_at lw_m1 103 rfl) rfl
theorem q240 : (Jvm.Cond.classLink "BlushLamps" (21 : Nat) "BlushLamps$Tokens") ∈ lw_all := lw_g (lw_at lw_m1 122 rfl) rfl
theorem q242 : (Jvm.Cond.methodLinkNest "BlushLamps" (23 : Nat) ({ cls := "BlushLamps$Tokens", name := "<init>", desc := "()V" } : Jvm.MethodName) "BlushLamps") ∈ lw_tbl := lw_at lw_m1 124 rfl
theorem q273 : (Jvm.Cond.fieldLink "BlushLamps" (117 : Nat) "BlushLamps$Tokens" "tape" "[B") ∈ lw_all := lw_g (lw_at lw_m1 155 rfl) rfl
theorem q275 : (Jvm.Cond.fieldLink "BlushLamps" (110 : Nat) "BlushLamps$Tokens" "taped" "I") ∈ lw_all := lw_g (lw_at lw_m1 157 rfl) rfl
theorem q302 : (Jvm.Cond.classLink "BlushLamps" (28 : Nat) "BlushLamps$Parser") ∈ lw_all := lw_g (lw_at lw_m1 184 rfl) rfl
theorem q304 : (Jvm.Cond.methodLink "BlushLamps" (30 : Nat) ({ cls := "BlushLamps$Parser", name := "<init>", desc := "(LBlushLamps$Tokens;LBlushLamps$Fault;)V" } : Jvm.MethodName)) ∈ lw_all := lw_g (lw_at lw_m1 186 rfl) rfl
theorem q330 : (Jvm.Cond.classLink "BlushLamps" (37 : Nat) "BlushLamps$Text") ∈ lw_all := lw_g (lw_at lw_m1 212 rfl) rfl
theorem q332 : (Jvm.Cond.methodLinkNest "BlushLamps" (39 : Nat) ({ cls := "BlushLamps$Text", name := "<init>", desc := "()V" } : Jvm.MethodName) "BlushLamps") ∈ lw_tbl := lw_at lw_m1 214 rfl
theorem q366 : (Jvm.Cond.fieldLink "BlushLamps" (135 : Nat) "BlushLamps$Text" "corners" "Ljava/util/ArrayList;") ∈ lw_all := lw_g (lw_at lw_m2 8 rfl) rfl
theorem q369 : (Jvm.Cond.fieldLink "BlushLamps" (145 : Nat) "BlushLamps$Text" "streets" "Ljava/util/ArrayList;") ∈ lw_all := lw_g (lw_at lw_m2 11 rfl) rfl
theorem q375 : (Jvm.Cond.fieldLink "BlushLamps" (148 : Nat) "BlushLamps$Text" "young" "Ljava/util/ArrayList;") ∈ lw_all := lw_g (lw_at lw_m2 17 rfl) rfl
theorem q379 : (Jvm.Cond.fieldLink "BlushLamps" (151 : Nat) "BlushLamps$Text" "words" "Ljava/util/ArrayList;") ∈ lw_all := lw_g (lw_at lw_m2 21 rfl) rfl
theorem q390 : (Jvm.Cond.fieldLink "BlushLamps" (338 : Nat) "BlushLamps$Text" "seed" "I") ∈ lw_all := lw_g (lw_at lw_m2 32 rfl) rfl
theorem q408 : (Jvm.Cond.classLink "BlushLamps" (48 : Nat) "BlushLamps$Town") ∈ lw_all := lw_g (lw_at lw_m2 50 rfl) rfl
theorem q410 : (Jvm.Cond.methodLinkNest "BlushLamps" (50 : Nat) ({ cls := "BlushLamps$Town", name := "<init>", desc := "()V" } : Jvm.MethodName) "BlushLamps") ∈ lw_tbl := lw_at lw_m2 52 rfl
theorem q433 : (Jvm.Cond.fieldLink "BlushLamps" (221 : Nat) "BlushLamps$Town" "at" "[I") ∈ lw_all := lw_g (lw_at lw_m2 75 rfl) rfl
theorem q436 : (Jvm.Cond.fieldLink "BlushLamps" (224 : Nat) "BlushLamps$Town" "glow" "[I") ∈ lw_all := lw_g (lw_at lw_m2 78 rfl) rfl
theorem q439 : (Jvm.Cond.fieldLink "BlushLamps" (227 : Nat) "BlushLamps$Town" "told" "[I") ∈ lw_all := lw_g (lw_at lw_m2 81 rfl) rfl
theorem q441 : (Jvm.Cond.fieldLink "BlushLamps" (246 : Nat) "BlushLamps$Town" "heat" "[I") ∈ lw_all := lw_g (lw_at lw_m2 83 rfl) rfl
theorem q443 : (Jvm.Cond.fieldLink "BlushLamps" (249 : Nat) "BlushLamps$Town" "worn" "[I") ∈ lw_all := lw_g (lw_at lw_m2 85 rfl) rfl
theorem q445 : (Jvm.Cond.fieldLink "BlushLamps" (324 : Nat) "BlushLamps$Town" "home" "I") ∈ lw_all := lw_g (lw_at lw_m2 87 rfl) rfl
theorem q447 : (Jvm.Cond.fieldLink "BlushLamps" (233 : Nat) "BlushLamps$Town" "rouge" "I") ∈ lw_all := lw_g (lw_at lw_m2 89 rfl) rfl
theorem q449 : (Jvm.Cond.fieldLink "BlushLamps" (194 : Nat) "BlushLamps$Town" "lighter" "I") ∈ lw_all := lw_g (lw_at lw_m2 91 rfl) rfl
theorem q452 : (Jvm.Cond.fieldLink "BlushLamps" (292 : Nat) "BlushLamps$Town" "hour" "I") ∈ lw_all := lw_g (lw_at lw_m2 94 rfl) rfl
theorem q455 : (Jvm.Cond.fieldLink "BlushLamps" (341 : Nat) "BlushLamps$Town" "seed" "I") ∈ lw_all := lw_g (lw_at lw_m2 97 rfl) rfl
theorem q486 : (Jvm.Cond.classLink "BlushLamps" (65 : Nat) "BlushLamps$Drawn") ∈ lw_all := lw_g (lw_at lw_m2 128 rfl) rfl
theorem q488 : (Jvm.Cond.methodLinkNest "BlushLamps" (67 : Nat) ({ cls := "BlushLamps$Drawn", name := "<init>", desc := "()V" } : Jvm.MethodName) "BlushLamps") ∈ lw_tbl := lw_at lw_m2 130 rfl
theorem q496 : (Jvm.Cond.classLink "BlushLamps" (72 : Nat) "BlushLamps$Still") ∈ lw_all := lw_g (lw_at lw_m2 138 rfl) rfl
theorem q498 : (Jvm.Cond.methodLinkNest "BlushLamps" (74 : Nat) ({ cls := "BlushLamps$Still", name := "<init>", desc := "()V" } : Jvm.MethodName) "BlushLamps") ∈ lw_tbl := lw_at lw_m2 140 rfl
theorem q503 : (Jvm.Cond.classLink "BlushLamps" (92 : Nat) "[[I") ∈ lw_all := lw_g (lw_at lw_m2 145 rfl) rfl
theorem q505 : (Jvm.Cond.methodLink "BlushLamps" (106 : Nat) ({ cls := "BlushLamps$Town", name := "begins", desc := "(LBlushLamps$Text;)V" } : Jvm.MethodName)) ∈ lw_all := lw_g (lw_at lw_m2 147 rfl) rfl
theorem q529 : (Jvm.Cond.fieldLink "BlushLamps" (17 : Nat) "BlushLamps" "fault" "LBlushLamps$Fault;") ∈ lw_all := lw_g (lw_at lw_m2 171 rfl) rfl
theorem q530 : (Jvm.Cond.fieldLink "BlushLamps" (24 : Nat) "BlushLamps" "tokens" "LBlushLamps$Tokens;") ∈ lw_all := lw_g (lw_at lw_m2 172 rfl) rfl
theorem q531 : (Jvm.Cond.fieldLink "BlushLamps" (33 : Nat) "BlushLamps" "parser" "LBlushLamps$Parser;") ∈ lw_all := lw_g (lw_at lw_m2 173 rfl) rfl
theorem q532 : (Jvm.Cond.fieldLink "BlushLamps" (40 : Nat) "BlushLamps" "text" "LBlushLamps$Text;") ∈ lw_all := lw_g (lw_at lw_m2 174 rfl) rfl
theorem q533 : (Jvm.Cond.fieldLink "BlushLamps" (44 : Nat) "BlushLamps" "place" "I") ∈ lw_all := lw_g (lw_at lw_m2 175 rfl) rfl
theorem q534 : (Jvm.Cond.fieldLink "BlushLamps" (125 : Nat) "BlushLamps" "undos" "I") ∈ lw_all := lw_g (lw_at lw_m2 176 rfl) rfl
theorem q535 : (Jvm.Cond.fieldLink "BlushLamps" (259 : Nat) "BlushLamps" "undoAt" "I") ∈ lw_all := lw_g (lw_at lw_m2 177 rfl) rfl
theorem q536 : (Jvm.Cond.fieldLink "BlushLamps" (51 : Nat) "BlushLamps" "town" "LBlushLamps$Town;") ∈ lw_all := lw_g (lw_at lw_m2 178 rfl) rfl
theorem q537 : (Jvm.Cond.fieldLink "BlushLamps" (55 : Nat) "BlushLamps" "trial" "LBlushLamps$Town;") ∈ lw_all := lw_g (lw_at lw_m2 179 rfl) rfl
theorem q538 : (Jvm.Cond.fieldLink "BlushLamps" (58 : Nat) "BlushLamps" "past" "[LBlushLamps$Town;") ∈ lw_all := lw_g (lw_at lw_m2 180 rfl) rfl
theorem q539 : (Jvm.Cond.fieldLink "BlushLamps" (62 : Nat) "BlushLamps" "slots" "[LBlushLamps$Town;") ∈ lw_all := lw_g (lw_at lw_m2 181 rfl) rfl
theorem q540 : (Jvm.Cond.fieldLink "BlushLamps" (68 : Nat) "BlushLamps" "drawn" "LBlushLamps$Air;") ∈ lw_all := lw_g (lw_at lw_m2 182 rfl) rfl
theorem q541 : (Jvm.Cond.fieldLink "BlushLamps" (75 : Nat) "BlushLamps" "still" "LBlushLamps$Air;") ∈ lw_all := lw_g (lw_at lw_m2 183 rfl) rfl
theorem q542 : (Jvm.Cond.fieldLink "BlushLamps" (78 : Nat) "BlushLamps" "held" "[Z") ∈ lw_all := lw_g (lw_at lw_m2 184 rfl) rfl
theorem q543 : (Jvm.Cond.fieldLink "BlushLamps" (82 : Nat) "BlushLamps" "standing" "[I") ∈ lw_all := lw_g (lw_at lw_m2 185 rfl) rfl
theorem q544 : (Jvm.Cond.fieldLink "BlushLamps" (298 : Nat) "BlushLamps" "most" "I") ∈ lw_all := lw_g (lw_at lw_m2 186 rfl) rfl
theorem q545 : (Jvm.Cond.fieldLink "BlushLamps" (86 : Nat) "BlushLamps" "lightAt" "[I") ∈ lw_all := lw_g (lw_at lw_m2 187 rfl) rfl
theorem q546 : (Jvm.Cond.fieldLink "BlushLamps" (89 : Nat) "BlushLamps" "far" "[I") ∈ lw_all := lw_g (lw_at lw_m2 188 rfl) rfl
theorem q547 : (Jvm.Cond.fieldLink "BlushLamps" (94 : Nat) "BlushLamps" "few" "[[I") ∈ lw_all := lw_g (lw_at lw_m2 189 rfl) rfl
theorem q548 : (Jvm.Cond.fieldLink "BlushLamps" (128 : Nat) "BlushLamps" "tolds" "I") ∈ lw_all := lw_g (lw_at lw_m2 190 rfl) rfl
theorem q549 : (Jvm.Cond.fieldLink "BlushLamps" (97 : Nat) "BlushLamps" "toldYoung" "[I") ∈ lw_all := lw_g (lw_at lw_m2 191 rfl) rfl
theorem q550 : (Jvm.Cond.fieldLink "BlushLamps" (100 : Nat) "BlushLamps" "toldBy" "[I") ∈ lw_all := lw_g (lw_at lw_m2 192 rfl) rfl
theorem q551 : (Jvm.Cond.fieldLink "BlushLamps" (103 : Nat) "BlushLamps" "toldSo" "[Z") ∈ lw_all := lw_g (lw_at lw_m2 193 rfl) rfl
theorem q552 : (Jvm.Cond.laysFinal "BlushLamps" "BlushLamps" "fault" "LBlushLamps$Fault;") ∈ lw_all := lw_g (lw_at lw_m2 194 rfl) rfl
theorem q553 : (Jvm.Cond.soleField "BlushLamps" "fault") ∈ lw_all := lw_g (lw_at lw_m2 195 rfl) rfl
theorem q554 : (Jvm.Cond.laysFinal "BlushLamps" "BlushLamps" "tokens" "LBlushLamps$Tokens;") ∈ lw_all := lw_g (lw_at lw_m2 196 rfl) rfl
theorem q555 : (Jvm.Cond.soleField "BlushLamps" "tokens") ∈ lw_all := lw_g (lw_at lw_m2 197 rfl) rfl
theorem q556 : (Jvm.Cond.laysFinal "BlushLamps" "BlushLamps" "parser" "LBlushLamps$Parser;") ∈ lw_all := lw_g (lw_at lw_m2 198 rfl) rfl
theorem q557 : (Jvm.Cond.soleField "BlushLamps" "parser") ∈ lw_all := lw_g (lw_at lw_m2 199 rfl) rfl
theorem q558 : (Jvm.Cond.lays "BlushLamps" "BlushLamps" "text" "LBlushLamps$Text;") ∈ lw_all := lw_g (lw_at lw_m2 200 rfl) rfl
theorem q559 : (Jvm.Cond.soleField "BlushLamps" "text") ∈ lw_all := lw_g (lw_at lw_m2 201 rfl) rfl
theorem q560 : (Jvm.Cond.lays "BlushLamps" "BlushLamps" "place" "I") ∈ lw_all := lw_g (lw_at lw_m2 202 rfl) rfl
theorem q561 : (Jvm.Cond.soleField "BlushLamps" "place") ∈ lw_all := lw_g (lw_at lw_m2 203 rfl) rfl
theorem q562 : (Jvm.Cond.lays "BlushLamps" "BlushLamps" "undos" "I") ∈ lw_all := lw_g (lw_at lw_m2 204 rfl) rfl
theorem q563 : (Jvm.Cond.soleField "BlushLamps" "undos") ∈ lw_all := lw_g (lw_at lw_m2 205 rfl) rfl
theorem q564 : (Jvm.Cond.lays "BlushLamps" "BlushLamps" "undoAt" "I") ∈ lw_all := lw_g (lw_at lw_m2 206 rfl) rfl
theorem q565 : (Jvm.Cond.soleField "BlushLamps" "undoAt") ∈ lw_all := lw_g (lw_at lw_m2 207 rfl) rfl
theorem q566 : (Jvm.Cond.laysFinal "BlushLamps" "BlushLamps" "town" "LBlushLamps$Town;") ∈ lw_all := lw_g (lw_at lw_m2 208 rfl) rfl
theorem q567 : (Jvm.Cond.soleField "BlushLamps" "town") ∈ lw_all := lw_g (lw_at lw_m2 209 rfl) rfl
theorem q568 : (Jvm.Cond.laysFinal "BlushLamps" "BlushLamps" "trial" "LBlushLamps$Town;") ∈ lw_all := lw_g (lw_at lw_m2 210 rfl) rfl
theorem q569 : (Jvm.Cond.soleField "BlushLamps" "trial") ∈ lw_all := lw_g (lw_at lw_m2 211 rfl) rfl
theorem q570 : (Jvm.Cond.laysFinal "BlushLamps" "BlushLamps" "past" "[LBlushLamps$Town;") ∈ lw_all := lw_g (lw_at lw_m2 212 rfl) rfl
theorem q571 : (Jvm.Cond.soleField "BlushLamps" "past") ∈ lw_all := lw_g (lw_at lw_m2 213 rfl) rfl
theorem q572 : (Jvm.Cond.laysFinal "BlushLamps" "BlushLamps" "slots" "[LBlushLamps$Town;") ∈ lw_all := lw_g (lw_at lw_m2 214 rfl) rfl
theorem q573 : (Jvm.Cond.soleField "BlushLamps" "slots") ∈ lw_all := lw_g (lw_at lw_m2 215 rfl) rfl
theorem q574 : (Jvm.Cond.laysFinal "BlushLamps" "BlushLamps" "drawn" "LBlushLamps$Air;") ∈ lw_all := lw_g (lw_at lw_m2 216 rfl) rfl
theorem q575 : (Jvm.Cond.soleField "BlushLamps" "drawn") ∈ lw_all := lw_g (lw_at lw_m2 217 rfl) rfl
theorem q576 : (Jvm.Cond.laysFinal "BlushLamps" "BlushLamps" "still" "LBlushLamps$Air;") ∈ lw_all := lw_g (lw_at lw_m2 218 rfl) rfl
theorem q577 : (Jvm.Cond.soleField "BlushLamps" "still") ∈ lw_all := lw_g (lw_at lw_m2 219 rfl) rfl
theorem q578 : (Jvm.Cond.laysFinal "BlushLamps" "BlushLamps" "held" "[Z") ∈ lw_all := lw_g (lw_at lw_m2 220 rfl) rfl
theorem q579 : (Jvm.Cond.soleField "BlushLamps" "held") ∈ lw_all := lw_g (lw_at lw_m2 221 rfl) rfl
theorem q580 : (Jvm.Cond.laysFinal "BlushLamps" "BlushLamps" "standing" "[I") ∈ lw_all := lw_g (lw_at lw_m2 222 rfl) rfl
theorem q581 : (Jvm.Cond.soleField "BlushLamps" "standing") ∈ lw_all := lw_g (lw_at lw_m2 223 rfl) rfl
theorem q582 : (Jvm.Cond.lays "BlushLamps" "BlushLamps" "most" "I") ∈ lw_all := lw_g (lw_at lw_m2 224 rfl) rfl
theorem q583 : (Jvm.Cond.soleField "BlushLamps" "most") ∈ lw_all := lw_g (lw_at lw_m2 225 rfl) rfl
theorem q584 : (Jvm.Cond.laysFinal "BlushLamps" "BlushLamps" "lightAt" "[I") ∈ lw_all := lw_g (lw_at lw_m2 226 rfl) rfl
theorem q585 : (Jvm.Cond.soleField "BlushLamps" "lightAt") ∈ lw_all := lw_g (lw_at lw_m2 227 rfl) rfl
theorem q586 : (Jvm.Cond.laysFinal "BlushLamps" "BlushLamps" "far" "[I") ∈ lw_all := lw_g (lw_at lw_m2 228 rfl) rfl
theorem q587 : (Jvm.Cond.soleField "BlushLamps" "far") ∈ lw_all := lw_g (lw_at lw_m2 229 rfl) rfl
theorem q588 : (Jvm.Cond.laysFinal "BlushLamps" "BlushLamps" "few" "[[I") ∈ lw_all := lw_g (lw_at lw_m2 230 rfl) rfl
theorem q589 : (Jvm.Cond.soleField "BlushLamps" "few") ∈ lw_all := lw_g (lw_at lw_m2 231 rfl) rfl
theorem q590 : (Jvm.Cond.lays "BlushLamps" "BlushLamps" "tolds" "I") ∈ lw_all := lw_g (lw_at lw_m2 232 rfl) rfl
theorem q591 : (Jvm.Cond.soleField "BlushLamps" "tolds") ∈ lw_all := lw_g (lw_at lw_m2 233 rfl) rfl
theorem q592 : (Jvm.Cond.laysFinal "BlushLamps" "BlushLamps" "toldYoung" "[I") ∈ lw_all := lw_g (lw_at lw_m2 234 rfl) rfl
theorem q593 : (Jvm.Cond.soleField "BlushLamps" "toldYoung") ∈ lw_all := lw_g (lw_at lw_m2 235 rfl) rfl
theorem q594 : (Jvm.Cond.laysFinal "BlushLamps" "BlushLamps" "toldBy" "[I") ∈ lw_all := lw_g (lw_at lw_m2 236 rfl) rfl
theorem q595 : (Jvm.Cond.soleField "BlushLamps" "toldBy") ∈ lw_all := lw_g (lw_at lw_m2 237 rfl) rfl
theorem q596 : (Jvm.Cond.laysFinal "BlushLamps" "BlushLamps" "toldSo" "[Z") ∈ lw_all := lw_g (lw_at lw_m2 238 rfl) rfl
theorem q597 : (Jvm.Cond.soleField "BlushLamps" "toldSo") ∈ lw_all := lw_g (lw_at lw_m2 239 rfl) rfl
theorem q598 : (Jvm.Cond.superclass "BlushLamps" "java/lang/Object") ∈ lw_all := lw_g (lw_at lw_m3 0 rfl) rfl
theorem q601 : (Jvm.Cond.instanceMethod ({ cls := "BlushLamps", name := "feed", desc := "(IIIII)I" } : Jvm.MethodName)) ∈ lw_all := lw_g (lw_at lw_m3 3 rfl) rfl
theorem q602 : (Jvm.Cond.selects "BlushLamps" ({ cls := "BlushLamps", name := "feed", desc := "(IIIII)I" } : Jvm.MethodName) ({ cls := "BlushLamps", name := "feed", desc := "(IIIII)I" } : Jvm.MethodName)) ∈ lw_all := lw_g (lw_at lw_m3 4 rfl) rfl
theorem q603 : (Jvm.Cond.code ({ cls := "BlushLamps", name := "feed", desc := "(IIIII)I" } : Jvm.MethodName) prog_1_method_4_code (6 : Nat) (Option.some Jvm.ClassFile.FieldType.int)) ∈ lw_all := lw_g (lw_at lw_m3 5 rfl) rfl
theorem q604 : (Jvm.Cond.methodLink "BlushLamps" (113 : Nat) ({ cls := "BlushLamps", name := "typed", desc := "(I)V" } : Jvm.MethodName)) ∈ lw_all := lw_g (lw_at lw_m3 6 rfl) rfl
theorem q605 : (Jvm.Cond.privateMethod ({ cls := "BlushLamps", name := "typed", desc := "(I)V" } : Jvm.MethodName)) ∈ lw_tbl := lw_at lw_m3 7 rfl
theorem q606 : (Jvm.Cond.instanceMethod ({ cls := "BlushLamps", name := "typed", desc := "(I)V" } : Jvm.MethodName)) ∈ lw_all := lw_g (lw_at lw_m3 8 rfl) rfl
theorem q607 : (Jvm.Cond.code ({ cls := "BlushLamps", name := "typed", desc := "(I)V" } : Jvm.MethodName) prog_1_method_5_code (3 : Nat) (Option.none : Option Jvm.ClassFile.FieldType)) ∈ lw_all := lw_g (lw_at lw_m3 9 rfl) rfl
theorem q609 : (Jvm.Cond.instanceMethod ({ cls := "BlushLamps", name := "back", desc := "(I)I" } : Jvm.MethodName)) ∈ lw_all := lw_g (lw_at lw_m3 11 rfl) rfl
theorem q610 : (Jvm.Cond.selects "BlushLamps" ({ cls := "BlushLamps", name := "back", desc := "(I)I" } : Jvm.MethodName) ({ cls := "BlushLamps", name := "back", desc := "(I)I" } : Jvm.MethodName)) ∈ lw_all := lw_g (lw_at lw_m3 12 rfl) rfl
theorem q611 : (Jvm.Cond.code ({ cls := "BlushLamps", name := "back", desc := "(I)I" } : Jvm.MethodName) prog_1_method_6_code (2 : Nat) (Option.some Jvm.ClassFile.FieldType.int)) ∈ lw_all := lw_g (lw_at lw_m3 13 rfl) rfl
theorem q613 : (Jvm.Cond.instanceMethod ({ cls := "BlushLamps", name := "read", desc := "()I" } : Jvm.MethodName)) ∈ lw_all := lw_g (lw_at lw_m3 15 rfl) rfl
theorem q614 : (Jvm.Cond.selects "BlushLamps" ({ cls := "BlushLamps", name := "read", desc := "()I" } : Jvm.MethodName) ({ cls := "BlushLamps", name := "read", desc := "()I" } : Jvm.MethodName)) ∈ lw_all := lw_g (lw_at lw_m3 16 rfl) rfl
theorem q615 : (Jvm.Cond.codeWith ({ cls := "BlushLamps", name := "read", desc := "()I" } : Jvm.MethodName) prog_1_method_7_code (3 : Nat) (Option.some Jvm.ClassFile.FieldType.int) [((7 : Nat), (59 : Nat), (62 : Nat), (14 : Nat))]) ∈ lw_all := lw_g (lw_at lw_m3 17 rfl) rfl
theorem q616 : (Jvm.Cond.methodLink "BlushLamps" (121 : Nat) ({ cls := "BlushLamps$Parser", name := "read", desc := "()LBlushLamps$Text;" } : Jvm.MethodName)) ∈ lw_all := lw_g (lw_at lw_m3 18 rfl) rfl
theorem q1058 : (Jvm.Cond.selects "BlushLamps" ({ cls := "java/lang/Object", name := "getClass", desc := "()Ljava/lang/Class;" } : Jvm.MethodName) ({ cls := "java/lang/Object", name := "getClass", desc := "()Ljava/lang/Class;" } : Jvm.MethodName)) ∈ lw_all := lw_g (lw_at lw_m4 220 rfl) rfl
theorem q1097 : (Jvm.Cond.fieldLink "BlushLamps" (204 : Nat) "BlushLamps$Street" "one" "I") ∈ lw_all := lw_g (lw_at lw_m5 19 rfl) rfl
theorem q1101 : (Jvm.Cond.fieldLink "BlushLamps" (207 : Nat) "BlushLamps$Street" "other" "I") ∈ lw_all := lw_g (lw_at lw_m5 23 rfl) rfl
theorem q1104 : (Jvm.Cond.fieldLink "BlushLamps" (210 : Nat) "BlushLamps$Street" "spans" "I") ∈ lw_all := lw_g (lw_at lw_m5 26 rfl) rfl
theorem q1129 : (Jvm.Cond.fieldLink "BlushLamps" (215 : Nat) "BlushLamps$Young" "age" "I") ∈ lw_all := lw_g (lw_at lw_m5 51 rfl) rfl
theorem q1132 : (Jvm.Cond.fieldLink "BlushLamps" (218 : Nat) "BlushLamps$Young" "temper" "I") ∈ lw_all := lw_g (lw_at lw_m5 54 rfl) rfl
theorem q1156 : (Jvm.Cond.instanceMethod ({ cls := "BlushLamps", name := "place", desc := "()I" } : Jvm.MethodName)) ∈ lw_all := lw_g (lw_at lw_m5 78 rfl) rfl
theorem q1157 : (Jvm.Cond.selects "BlushLamps" ({ cls := "BlushLamps", name := "place", desc := "()I" } : Jvm.MethodName) ({ cls := "BlushLamps", name := "place", desc := "()I" } : Jvm.MethodName)) ∈ lw_all := lw_g (lw_at lw_m5 79 rfl) rfl
theorem q1158 : (Jvm.Cond.code ({ cls := "BlushLamps", name := "place", desc := "()I" } : Jvm.MethodName) prog_1_method_8_code (1 : Nat) (Option.some Jvm.ClassFile.FieldType.int)) ∈ lw_all := lw_g (lw_at lw_m5 80 rfl) rfl
theorem q1160 : (Jvm.Cond.instanceMethod ({ cls := "BlushLamps", name := "corner", desc := "(II)I" } : Jvm.MethodName)) ∈ lw_all := lw_g (lw_at lw_m5 82 rfl) rfl
theorem q1161 : (Jvm.Cond.selects "BlushLamps" ({ cls := "BlushLamps", name := "corner", desc := "(II)I" } : Jvm.MethodName) ({ cls := "BlushLamps", name := "corner", desc := "(II)I" } : Jvm.MethodName)) ∈ lw_all := lw_g (lw_at lw_m5 83 rfl) rfl
theorem q1162 : (Jvm.Cond.code ({ cls := "BlushLamps", name := "corner", desc := "(II)I" } : Jvm.MethodName) prog_1_method_20_code (5 : Nat) (Option.some Jvm.ClassFile.FieldType.int)) ∈ lw_all := lw_g (lw_at lw_m5 84 rfl) rfl
theorem q1163 : (Jvm.Cond.methodLink "BlushLamps" (175 : Nat) ({ cls := "BlushLamps", name := "isCorner", desc := "(I)Z" } : Jvm.MethodName)) ∈ lw_all := lw_g (lw_at lw_m5 85 rfl) rfl
theorem q1164 : (Jvm.Cond.privateMethod ({ cls := "BlushLamps", name := "isCorner", desc := "(I)Z" } : Jvm.MethodName)) ∈ lw_tbl := lw_at lw_m5 86 rfl
theorem q1165 : (Jvm.Cond.instanceMethod ({ cls := "BlushLamps", name := "isCorner", desc := "(I)Z" } : Jvm.MethodName)) ∈ lw_all := lw_g (lw_at lw_m5 87 rfl) rfl
theorem q1166 : (Jvm.Cond.code ({ cls := "BlushLamps", name := "isCorner", desc := "(I)Z" } : Jvm.MethodName) prog_1_method_14_code (2 : Nat) (Option.some Jvm.ClassFile.FieldType.boolean)) ∈ lw_all := lw_g (lw_at lw_m5 88 rfl) rfl
theorem q1167 : (Jvm.Cond.methodLink "BlushLamps" (154 : Nat) ({ cls := "BlushLamps", name := "corners", desc := "()I" } : Jvm.MethodName)) ∈ lw_all := lw_g (lw_at lw_m5 89 rfl) rfl
theorem q1168 : (Jvm.Cond.privateMethod ({ cls := "BlushLamps", name := "corners", desc := "()I" } : Jvm.MethodName)) ∈ lw_tbl := lw_at lw_m5 90 rfl
theorem q1169 : (Jvm.Cond.instanceMethod ({ cls := "BlushLamps", name := "corners", desc := "()I" } : Jvm.MethodName)) ∈ lw_all := lw_g (lw_at lw_m5 91 rfl) rfl
theorem q1170 : (Jvm.Cond.code ({ cls := "BlushLamps", name := "corners", desc := "()I" } : Jvm.MethodName) prog_1_method_10_code (1 : Nat) (Option.some Jvm.ClassFile.FieldType.int)) ∈ lw_all := lw_g (lw_at lw_m5 92 rfl) rfl
theorem q1171 : (Jvm.Cond.methodLink "BlushLamps" (139 : Nat) ({ cls := "java/util/ArrayList", name := "size", desc := "()I" } : Jvm.MethodName)) ∈ lw_all := lw_g (lw_at lw_m5 93 rfl) rfl
theorem q1172 : (Jvm.Cond.methodLink "BlushLamps" (156 : Nat) ({ cls := "BlushLamps", name := "isIn", desc := "(III)Z" } : Jvm.MethodName)) ∈ lw_all := lw_g (lw_at lw_m5 94 rfl) rfl
theorem q1173 : (Jvm.Cond.static ({ cls := "BlushLamps", name := "isIn", desc := "(III)Z" } : Jvm.MethodName)) ∈ lw_all := lw_g (lw_at lw_m5 95 rfl) rfl
theorem q1174 : (Jvm.Cond.code ({ cls := "BlushLamps", name := "isIn", desc := "(III)Z" } : Jvm.MethodName) prog_1_method_9_code (3 : Nat) (Option.some Jvm.ClassFile.FieldType.boolean)) ∈ lw_all := lw_g (lw_at lw_m5 96 rfl) rfl
theorem q1175 : (Jvm.Cond.methodLink "BlushLamps" (160 : Nat) ({ cls := "BlushLamps", name := "streets", desc := "()I" } : Jvm.MethodName)) ∈ lw_all := lw_g (lw_at lw_m5 97 rfl) rfl
theorem q1176 : (Jvm.Cond.privateMethod ({ cls := "BlushLamps", name := "streets", desc := "()I" } : Jvm.MethodName)) ∈ lw_tbl := lw_at lw_m5 98 rfl
theorem q1177 : (Jvm.Cond.instanceMethod ({ cls := "BlushLamps", name := "streets", desc := "()I" } : Jvm.MethodName)) ∈ lw_all := lw_g (lw_at lw_m5 99 rfl) rfl
theorem q1178 : (Jvm.Cond.code ({ cls := "BlushLamps", name := "streets", desc := "()I" } : Jvm.MethodName) prog_1_method_11_code (1 : Nat) (Option.some Jvm.ClassFile.FieldType.int)) ∈ lw_all := lw_g (lw_at lw_m5 100 rfl) rfl
theorem q1179 : (Jvm.Cond.methodLink "BlushLamps" (178 : Nat) ({ cls := "java/util/ArrayList", name := "get", desc := "(I)Ljava/lang/Object;" } : Jvm.MethodName)) ∈ lw_all := lw_g (lw_at lw_m5 101 rfl) rfl
theorem q1180 : (Jvm.Cond.classLink "BlushLamps" (182 : Nat) "BlushLamps$Street") ∈ lw_all := lw_g (lw_at lw_m5 102 rfl) rfl
theorem q1181 : (Jvm.Cond.methodLink "BlushLamps" (184 : Nat) ({ cls := "BlushLamps$Street", name := "end", desc := "(I)I" } : Jvm.MethodName)) ∈ lw_all := lw_g (lw_at lw_m5 103 rfl) rfl
theorem q1185 : (Jvm.Cond.methodLink "BlushLamps" (188 : Nat) ({ cls := "BlushLamps$Town", name := "light", desc := "(I)I" } : Jvm.MethodName)) ∈ lw_all := lw_g (lw_at lw_m5 107 rfl) rfl
theorem q1189 : (Jvm.Cond.methodLink "BlushLamps" (191 : Nat) ({ cls := "BlushLamps$Town", name := "who", desc := "(I)I" } : Jvm.MethodName)) ∈ lw_all := lw_g (lw_at lw_m5 111 rfl) rfl
theorem q1198 : (Jvm.Cond.instanceMethod ({ cls := "BlushLamps", name := "street", desc := "(II)I" } : Jvm.MethodName)) ∈ lw_all := lw_g (lw_at lw_m5 120 rfl) rfl
theorem q1199 : (Jvm.Cond.selects "BlushLamps" ({ cls := "BlushLamps", name := "street", desc := "(II)I" } : Jvm.MethodName) ({ cls := "BlushLamps", name := "street", desc := "(II)I" } : Jvm.MethodName)) ∈ lw_all := lw_g (lw_at lw_m5 121 rfl) rfl
theorem q1200 : (Jvm.Cond.code ({ cls := "BlushLamps", name := "street", desc := "(II)I" } : Jvm.MethodName) prog_1_method_21_code (5 : Nat) (Option.some Jvm.ClassFile.FieldType.int)) ∈ lw_all := lw_g (lw_at lw_m5 122 rfl) rfl
theorem q1201 : (Jvm.Cond.methodLink "BlushLamps" (197 : Nat) ({ cls := "BlushLamps", name := "isStreet", desc := "(I)Z" } : Jvm.MethodName)) ∈ lw_all := lw_g (lw_at lw_m5 123 rfl) rfl
theorem q1202 : (Jvm.Cond.privateMethod ({ cls := "BlushLamps", name := "isStreet", desc := "(I)Z" } : Jvm.MethodName)) ∈ lw_tbl := lw_at lw_m5 124 rfl
theorem q1203 : (Jvm.Cond.instanceMethod ({ cls := "BlushLamps", name := "isStreet", desc := "(I)Z" } : Jvm.MethodName)) ∈ lw_all := lw_g (lw_at lw_m5 125 rfl) rfl
theorem q1204 : (Jvm.Cond.code ({ cls := "BlushLamps", name := "isStreet", desc := "(I)Z" } : Jvm.MethodName) prog_1_method_15_code (2 : Nat) (Option.some Jvm.ClassFile.FieldType.boolean)) ∈ lw_all := lw_g (lw_at lw_m5 126 rfl) rfl
theorem q1205 : (Jvm.Cond.methodLink "BlushLamps" (200 : Nat) ({ cls := "BlushLamps$Town", name := "needs", desc := "(LBlushLamps$Text;I)I" } : Jvm.MethodName)) ∈ lw_all := lw_g (lw_at lw_m5 127 rfl) rfl
theorem q1213 : (Jvm.Cond.instanceMethod ({ cls := "BlushLamps", name := "young", desc := "(II)I" } : Jvm.MethodName)) ∈ lw_all := lw_g (lw_at lw_m5 135 rfl) rfl
theorem q1214 : (Jvm.Cond.selects "BlushLamps" ({ cls := "BlushLamps", name := "young", desc := "(II)I" } : Jvm.MethodName) ({ cls := "BlushLamps", name := "young", desc := "(II)I" } : Jvm.MethodName)) ∈ lw_all := lw_g (lw_at lw_m5 136 rfl) rfl
theorem q1215 : (Jvm.Cond.code ({ cls := "BlushLamps", name := "young", desc := "(II)I" } : Jvm.MethodName) prog_1_method_22_code (3 : Nat) (Option.some Jvm.ClassFile.FieldType.int)) ∈ lw_all := lw_g (lw_at lw_m5 137 rfl) rfl
theorem q1216 : (Jvm.Cond.methodLink "BlushLamps" (165 : Nat) ({ cls := "BlushLamps", name := "isYoung", desc := "(I)Z" } : Jvm.MethodName)) ∈ lw_all := lw_g (lw_at lw_m5 138 rfl) rfl
theorem q1217 : (Jvm.Cond.privateMethod ({ cls := "BlushLamps", name := "isYoung", desc := "(I)Z" } : Jvm.MethodName)) ∈ lw_tbl := lw_at lw_m5 139 rfl
theorem q1218 : (Jvm.Cond.instanceMethod ({ cls := "BlushLamps", name := "isYoung", desc := "(I)Z" } : Jvm.MethodName)) ∈ lw_all := lw_g (lw_at lw_m5 140 rfl) rfl
theorem q1219 : (Jvm.Cond.code ({ cls := "BlushLamps", name := "isYoung", desc := "(I)Z" } : Jvm.MethodName) prog_1_method_16_code (2 : Nat) (Option.some Jvm.ClassFile.FieldType.boolean)) ∈ lw_all := lw_g (lw_at lw_m5 141 rfl) rfl
theorem q1220 : (Jvm.Cond.methodLink "BlushLamps" (162 : Nat) ({ cls := "BlushLamps", name := "youngs", desc := "()I" } : Jvm.MethodName)) ∈ lw_all := lw_g (lw_at lw_m5 142 rfl) rfl
theorem q1221 : (Jvm.Cond.privateMethod ({ cls := "BlushLamps", name := "youngs", desc := "()I" } : Jvm.MethodName)) ∈ lw_tbl := lw_at lw_m5 143 rfl
theorem q1222 : (Jvm.Cond.instanceMethod ({ cls := "BlushLamps", name := "youngs", desc := "()I" } : Jvm.MethodName)) ∈ lw_all := lw_g (lw_at lw_m5 144 rfl) rfl
theorem q1223 : (Jvm.Cond.code ({ cls := "BlushLamps", name := "youngs", desc := "()I" } : Jvm.MethodName) prog_1_method_12_code (1 : Nat) (Option.some Jvm.ClassFile.FieldType.int)) ∈ lw_all := lw_g (lw_at lw_m5 145 rfl) rfl
theorem q1224 : (Jvm.Cond.classLink "BlushLamps" (213 : Nat) "BlushLamps$Young") ∈ lw_all := lw_g (lw_at lw_m5 146 rfl) rfl
theorem q1225 : (Jvm.Cond.methodLink "BlushLamps" (169 : Nat) ({ cls := "BlushLamps$Town", name := "isHome", desc := "(I)Z" } : Jvm.MethodName)) ∈ lw_all := lw_g (lw_at lw_m5 147 rfl) rfl
theorem q1226 : (Jvm.Cond.methodLink "BlushLamps" (230 : Nat) ({ cls := "BlushLamps$Town", name := "since", desc := "(I)I" } : Jvm.MethodName)) ∈ lw_all := lw_g (lw_at lw_m5 148 rfl) rfl
theorem q1230 : (Jvm.Cond.methodLink "BlushLamps" (236 : Nat) ({ cls := "BlushLamps$Town", name := "cools", desc := "(LBlushLamps$Text;I)I" } : Jvm.MethodName)) ∈ lw_all := lw_g (lw_at lw_m5 152 rfl) rfl
theorem q1258 : (Jvm.Cond.methodLink "BlushLamps" (239 : Nat) ({ cls := "BlushLamps$Town", name := "leaves", desc := "(LBlushLamps$Text;I)Z" } : Jvm.MethodName)) ∈ lw_all := lw_g (lw_at lw_m5 180 rfl) rfl
theorem q1263 : (Jvm.Cond.instanceMethod ({ cls := "BlushLamps", name := "word", desc := "(II)I" } : Jvm.MethodName)) ∈ lw_all := lw_g (lw_at lw_m5 185 rfl) rfl
theorem q1264 : (Jvm.Cond.selects "BlushLamps" ({ cls := "BlushLamps", name := "word", desc := "(II)I" } : Jvm.MethodName) ({ cls := "BlushLamps", name := "word", desc := "(II)I" } : Jvm.MethodName)) ∈ lw_all := lw_g (lw_at lw_m5 186 rfl) rfl
theorem q1265 : (Jvm.Cond.code ({ cls := "BlushLamps", name := "word", desc := "(II)I" } : Jvm.MethodName) prog_1_method_23_code (3 : Nat) (Option.some Jvm.ClassFile.FieldType.int)) ∈ lw_all := lw_g (lw_at lw_m5 187 rfl) rfl
theorem q1266 : (Jvm.Cond.methodLink "BlushLamps" (243 : Nat) ({ cls := "BlushLamps", name := "isWord", desc := "(I)Z" } : Jvm.MethodName)) ∈ lw_all := lw_g (lw_at lw_m5 188 rfl) rfl
theorem q1267 : (Jvm.Cond.privateMethod ({ cls := "BlushLamps", name := "isWord", desc := "(I)Z" } : Jvm.MethodName)) ∈ lw_tbl := lw_at lw_m5 189 rfl
theorem q1268 : (Jvm.Cond.instanceMethod ({ cls := "BlushLamps", name := "isWord", desc := "(I)Z" } : Jvm.MethodName)) ∈ lw_all := lw_g (lw_at lw_m5 190 rfl) rfl
theorem q1269 : (Jvm.Cond.code ({ cls := "BlushLamps", name := "isWord", desc := "(I)Z" } : Jvm.MethodName) prog_1_method_18_code (2 : Nat) (Option.some Jvm.ClassFile.FieldType.boolean)) ∈ lw_all := lw_g (lw_at lw_m5 191 rfl) rfl
theorem q1270 : (Jvm.Cond.methodLink "BlushLamps" (172 : Nat) ({ cls := "BlushLamps", name := "allWords", desc := "()I" } : Jvm.MethodName)) ∈ lw_all := lw_g (lw_at lw_m5 192 rfl) rfl
theorem q1271 : (Jvm.Cond.privateMethod ({ cls := "BlushLamps", name := "allWords", desc := "()I" } : Jvm.MethodName)) ∈ lw_tbl := lw_at lw_m5 193 rfl
theorem q1272 : (Jvm.Cond.instanceMethod ({ cls := "BlushLamps", name := "allWords", desc := "()I" } : Jvm.MethodName)) ∈ lw_all := lw_g (lw_at lw_m5 194 rfl) rfl
theorem q1273 : (Jvm.Cond.code ({ cls := "BlushLamps", name := "allWords", desc := "()I" } : Jvm.MethodName) prog_1_method_13_code (1 : Nat) (Option.some Jvm.ClassFile.FieldType.int)) ∈ lw_all := lw_g (lw_at lw_m5 195 rfl) rfl
theorem q1275 : (Jvm.Cond.instanceMethod ({ cls := "BlushLamps", name := "tells", desc := "(III)I" } : Jvm.MethodName)) ∈ lw_all := lw_g (lw_at lw_m5 197 rfl) rfl
theorem q1276 : (Jvm.Cond.selects "BlushLamps" ({ cls := "BlushLamps", name := "tells", desc := "(III)I" } : Jvm.MethodName) ({ cls := "BlushLamps", name := "tells", desc := "(III)I" } : Jvm.MethodName)) ∈ lw_all := lw_g (lw_at lw_m5 198 rfl) rfl
theorem q1277 : (Jvm.Cond.code ({ cls := "BlushLamps", name := "tells", desc := "(III)I" } : Jvm.MethodName) prog_1_method_24_code (4 : Nat) (Option.some Jvm.ClassFile.FieldType.int)) ∈ lw_all := lw_g (lw_at lw_m5 199 rfl) rfl
theorem q1278 : (Jvm.Cond.methodLink "BlushLamps" (252 : Nat) ({ cls := "BlushLamps$Town", name := "glows", desc := "(LBlushLamps$Text;II)I" } : Jvm.MethodName)) ∈ lw_all := lw_g (lw_at lw_m5 200 rfl) rfl
theorem q1282 : (Jvm.Cond.methodLink "BlushLamps" (256 : Nat) ({ cls := "BlushLamps$Town", name := "wears", desc := "(LBlushLamps$Text;II)I" } : Jvm.MethodName)) ∈ lw_all := lw_g (lw_at lw_m5 204 rfl) rfl
theorem q1287 : (Jvm.Cond.instanceMethod ({ cls := "BlushLamps", name := "step", desc := "(I)I" } : Jvm.MethodName)) ∈ lw_all := lw_g (lw_at lw_m5 209 rfl) rfl
theorem q1288 : (Jvm.Cond.selects "BlushLamps" ({ cls := "BlushLamps", name := "step", desc := "(I)I" } : Jvm.MethodName) ({ cls := "BlushLamps", name := "step", desc := "(I)I" } : Jvm.MethodName)) ∈ lw_all := lw_g (lw_at lw_m5 210 rfl) rfl
theorem q1289 : (Jvm.Cond.code ({ cls := "BlushLamps", name := "step", desc := "(I)I" } : Jvm.MethodName) prog_1_method_26_code (2 : Nat) (Option.some Jvm.ClassFile.FieldType.int)) ∈ lw_all := lw_g (lw_at lw_m5 211 rfl) rfl
theorem q1290 : (Jvm.Cond.methodLink "BlushLamps" (271 : Nat) ({ cls := "BlushLamps", name := "keeps", desc := "()V" } : Jvm.MethodName)) ∈ lw_all := lw_g (lw_at lw_m5 212 rfl) rfl
theorem q1291 : (Jvm.Cond.privateMethod ({ cls := "BlushLamps", name := "keeps", desc := "()V" } : Jvm.MethodName)) ∈ lw_tbl := lw_at lw_m5 213 rfl
theorem q1292 : (Jvm.Cond.instanceMethod ({ cls := "BlushLamps", name := "keeps", desc := "()V" } : Jvm.MethodName)) ∈ lw_all := lw_g (lw_at lw_m5 214 rfl) rfl
theorem q1293 : (Jvm.Cond.code ({ cls := "BlushLamps", name := "keeps", desc := "()V" } : Jvm.MethodName) prog_1_method_25_code (1 : Nat) (Option.none : Option Jvm.ClassFile.FieldType)) ∈ lw_all := lw_g (lw_at lw_m5 215 rfl) rfl
theorem q1294 : (Jvm.Cond.methodLink "BlushLamps" (262 : Nat) ({ cls := "BlushLamps$Town", name := "takes", desc := "(LBlushLamps$Town;)V" } : Jvm.MethodName)) ∈ lw_all := lw_g (lw_at lw_m5 216 rfl) rfl
theorem q1302 : (Jvm.Cond.methodLink "BlushLamps" (266 : Nat) ({ cls := "java/lang/Math", name := "min", desc := "(II)I" } : Jvm.MethodName)) ∈ lw_all := lw_g (lw_at lw_m5 224 rfl) rfl
theorem q1303 : (Jvm.Cond.methodLink "BlushLamps" (274 : Nat) ({ cls := "BlushLamps$Town", name := "goesBy", desc := "(LBlushLamps$Text;LBlushLamps$Air;)V" } : Jvm.MethodName)) ∈ lw_all := lw_g (lw_at lw_m5 225 rfl) rfl
theorem q1320 : (Jvm.Cond.static ({ cls := "BlushLamps", name := "lot", desc := "(III)I" } : Jvm.MethodName)) ∈ lw_all := lw_g (lw_at lw_m6 2 rfl) rfl
theorem q1321 : (Jvm.Cond.code ({ cls := "BlushLamps", name := "lot", desc := "(III)I" } : Jvm.MethodName) prog_1_method_2_code (3 : Nat) (Option.some Jvm.ClassFile.FieldType.int)) ∈ lw_all := lw_g (lw_at lw_m6 3 rfl) rfl
theorem q1322 : (Jvm.Cond.methodLink "BlushLamps" (2 : Nat) ({ cls := "BlushLamps", name := "mixed", desc := "(II)I" } : Jvm.MethodName)) ∈ lw_all := lw_g (lw_at lw_m6 4 rfl) rfl
theorem q1323 : (Jvm.Cond.static ({ cls := "BlushLamps", name := "mixed", desc := "(II)I" } : Jvm.MethodName)) ∈ lw_all := lw_g (lw_at lw_m6 5 rfl) rfl
theorem q1324 : (Jvm.Cond.code ({ cls := "BlushLamps", name := "mixed", desc := "(II)I" } : Jvm.MethodName) prog_1_method_1_code (3 : Nat) (Option.some Jvm.ClassFile.FieldType.int)) ∈ lw_all := lw_g (lw_at lw_m6 6 rfl) rfl
theorem q1325 : (Jvm.Cond.constant "BlushLamps" (1 : Nat) (1103515245 : Int32)) ∈ lw_all := lw_g (lw_at lw_m6 7 rfl) rfl
theorem q1332 : (Jvm.Cond.instanceMethod ({ cls := "BlushLamps", name := "say", desc := "(II)I" } : Jvm.MethodName)) ∈ lw_all := lw_g (lw_at lw_m6 14 rfl) rfl
theorem q1333 : (Jvm.Cond.selects "BlushLamps" ({ cls := "BlushLamps", name := "say", desc := "(II)I" } : Jvm.MethodName) ({ cls := "BlushLamps", name := "say", desc := "(II)I" } : Jvm.MethodName)) ∈ lw_all := lw_g (lw_at lw_m6 15 rfl) rfl
theorem q1334 : (Jvm.Cond.code ({ cls := "BlushLamps", name := "say", desc := "(II)I" } : Jvm.MethodName) prog_1_method_27_code (3 : Nat) (Option.some Jvm.ClassFile.FieldType.int)) ∈ lw_all := lw_g (lw_at lw_m6 16 rfl) rfl
theorem q1335 : (Jvm.Cond.methodLink "BlushLamps" (278 : Nat) ({ cls := "BlushLamps", name := "isOut", desc := "(I)Z" } : Jvm.MethodName)) ∈ lw_all := lw_g (lw_at lw_m6 17 rfl) rfl
theorem q1336 : (Jvm.Cond.privateMethod ({ cls := "BlushLamps", name := "isOut", desc := "(I)Z" } : Jvm.MethodName)) ∈ lw_tbl := lw_at lw_m6 18 rfl
theorem q1337 : (Jvm.Cond.instanceMethod ({ cls := "BlushLamps", name := "isOut", desc := "(I)Z" } : Jvm.MethodName)) ∈ lw_all := lw_g (lw_at lw_m6 19 rfl) rfl
theorem q1338 : (Jvm.Cond.code ({ cls := "BlushLamps", name := "isOut", desc := "(I)Z" } : Jvm.MethodName) prog_1_method_17_code (2 : Nat) (Option.some Jvm.ClassFile.FieldType.boolean)) ∈ lw_all := lw_g (lw_at lw_m6 20 rfl) rfl
theorem q1339 : (Jvm.Cond.methodLink "BlushLamps" (281 : Nat) ({ cls := "BlushLamps$Town", name := "says", desc := "(LBlushLamps$Text;II)V" } : Jvm.MethodName)) ∈ lw_all := lw_g (lw_at lw_m6 21 rfl) rfl
theorem q1346 : (Jvm.Cond.instanceMethod ({ cls := "BlushLamps", name := "move", desc := "(II)Z" } : Jvm.MethodName)) ∈ lw_all := lw_g (lw_at lw_m6 28 rfl) rfl
theorem q1347 : (Jvm.Cond.selects "BlushLamps" ({ cls := "BlushLamps", name := "move", desc := "(II)Z" } : Jvm.MethodName) ({ cls := "BlushLamps", name := "move", desc := "(II)Z" } : Jvm.MethodName)) ∈ lw_all := lw_g (lw_at lw_m6 29 rfl) rfl
theorem q1348 : (Jvm.Cond.code ({ cls := "BlushLamps", name := "move", desc := "(II)Z" } : Jvm.MethodName) prog_1_method_28_code (3 : Nat) (Option.some Jvm.ClassFile.FieldType.boolean)) ∈ lw_all := lw_g (lw_at lw_m6 30 rfl) rfl
theorem q1350 : (Jvm.Cond.instanceMethod ({ cls := "BlushLamps", name := "rouge", desc := "(I)Z" } : Jvm.MethodName)) ∈ lw_all := lw_g (lw_at lw_m6 32 rfl) rfl
theorem q1351 : (Jvm.Cond.selects "BlushLamps" ({ cls := "BlushLamps", name := "rouge", desc := "(I)Z" } : Jvm.MethodName) ({ cls := "BlushLamps", name := "rouge", desc := "(I)Z" } : Jvm.MethodName)) ∈ lw_all := lw_g (lw_at lw_m6 33 rfl) rfl
theorem q1352 : (Jvm.Cond.code ({ cls := "BlushLamps", name := "rouge", desc := "(I)Z" } : Jvm.MethodName) prog_1_method_29_code (2 : Nat) (Option.some Jvm.ClassFile.FieldType.boolean)) ∈ lw_all := lw_g (lw_at lw_m6 34 rfl) rfl
theorem q1354 : (Jvm.Cond.instanceMethod ({ cls := "BlushLamps", name := "hours", desc := "(I)I" } : Jvm.MethodName)) ∈ lw_all := lw_g (lw_at lw_m6 36 rfl) rfl
theorem q1355 : (Jvm.Cond.selects "BlushLamps" ({ cls := "BlushLamps", name := "hours", desc := "(I)I" } : Jvm.MethodName) ({ cls := "BlushLamps", name := "hours", desc := "(I)I" } : Jvm.MethodName)) ∈ lw_all := lw_g (lw_at lw_m6 37 rfl) rfl
theorem q1356 : (Jvm.Cond.code ({ cls := "BlushLamps", name := "hours", desc := "(I)I" } : Jvm.MethodName) prog_1_method_31_code (2 : Nat) (Option.some Jvm.ClassFile.FieldType.int)) ∈ lw_all := lw_g (lw_at lw_m6 38 rfl) rfl
theorem q1357 : (Jvm.Cond.methodLink "BlushLamps" (285 : Nat) ({ cls := "BlushLamps", name := "isAhead", desc := "(I)Z" } : Jvm.MethodName)) ∈ lw_all := lw_g (lw_at lw_m6 39 rfl) rfl
theorem q1358 : (Jvm.Cond.static ({ cls := "BlushLamps", name := "isAhead", desc := "(I)Z" } : Jvm.MethodName)) ∈ lw_all := lw_g (lw_at lw_m6 40 rfl) rfl
theorem q1359 : (Jvm.Cond.code ({ cls := "BlushLamps", name := "isAhead", desc := "(I)Z" } : Jvm.MethodName) prog_1_method_19_code (1 : Nat) (Option.some Jvm.ClassFile.FieldType.boolean)) ∈ lw_all := lw_g (lw_at lw_m6 41 rfl) rfl
theorem q1360 : (Jvm.Cond.methodLink "BlushLamps" (288 : Nat) ({ cls := "BlushLamps", name := "runs", desc := "(LBlushLamps$Town;ILBlushLamps$Air;)V" } : Jvm.MethodName)) ∈ lw_all := lw_g (lw_at lw_m6 42 rfl) rfl
theorem q1361 : (Jvm.Cond.privateMethod ({ cls := "BlushLamps", name := "runs", desc := "(LBlushLamps$Town;ILBlushLamps$Air;)V" } : Jvm.MethodName)) ∈ lw_tbl := lw_at lw_m6 43 rfl
theorem q1362 : (Jvm.Cond.instanceMethod ({ cls := "BlushLamps", name := "runs", desc := "(LBlushLamps$Town;ILBlushLamps$Air;)V" } : Jvm.MethodName)) ∈ lw_all := lw_g (lw_at lw_m6 44 rfl) rfl
theorem q1363 : (Jvm.Cond.code ({ cls := "BlushLamps", name := "runs", desc := "(LBlushLamps$Town;ILBlushLamps$Air;)V" } : Jvm.MethodName) prog_1_method_30_code (5 : Nat) (Option.none : Option Jvm.ClassFile.FieldType)) ∈ lw_all := lw_g (lw_at lw_m6 45 rfl) rfl
theorem q1365 : (Jvm.Cond.instanceMethod ({ cls := "BlushLamps", name := "undo", desc := "()Z" } : Jvm.MethodName)) ∈ lw_all := lw_g (lw_at lw_m6 47 rfl) rfl
theorem q1366 : (Jvm.Cond.selects "BlushLamps" ({ cls := "BlushLamps", name := "undo", desc := "()Z" } : Jvm.MethodName) ({ cls := "BlushLamps", name := "undo", desc := "()Z" } : Jvm.MethodName)) ∈ lw_all := lw_g (lw_at lw_m6 48 rfl) rfl
theorem q1367 : (Jvm.Cond.code ({ cls := "BlushLamps", name := "undo", desc := "()Z" } : Jvm.MethodName) prog_1_method_32_code (1 : Nat) (Option.some Jvm.ClassFile.FieldType.boolean)) ∈ lw_all := lw_g (lw_at lw_m6 49 rfl) rfl
theorem q1369 : (Jvm.Cond.instanceMethod ({ cls := "BlushLamps", name := "darkens", desc := "(I)I" } : Jvm.MethodName)) ∈ lw_all := lw_g (lw_at lw_m6 51 rfl) rfl
theorem q1370 : (Jvm.Cond.selects "BlushLamps" ({ cls := "BlushLamps", name := "darkens", desc := "(I)I" } : Jvm.MethodName) ({ cls := "BlushLamps", name := "darkens", desc := "(I)I" } : Jvm.MethodName)) ∈ lw_all := lw_g (lw_at lw_m6 52 rfl) rfl
theorem q1371 : (Jvm.Cond.code ({ cls := "BlushLamps", name := "darkens", desc := "(I)I" } : Jvm.MethodName) prog_1_method_33_code (3 : Nat) (Option.some Jvm.ClassFile.FieldType.int)) ∈ lw_all := lw_g (lw_at lw_m6 53 rfl) rfl
theorem q1373 : (Jvm.Cond.instanceMethod ({ cls := "BlushLamps", name := "best", desc := "(I)I" } : Jvm.MethodName)) ∈ lw_all := lw_g (lw_at lw_m6 55 rfl) rfl
theorem q1374 : (Jvm.Cond.selects "BlushLamps" ({ cls := "BlushLamps", name := "best", desc := "(I)I" } : Jvm.MethodName) ({ cls := "BlushLamps", name := "best", desc := "(I)I" } : Jvm.MethodName)) ∈ lw_all := lw_g (lw_at lw_m6 56 rfl) rfl
theorem q1375 : (Jvm.Cond.code ({ cls := "BlushLamps", name := "best", desc := "(I)I" } : Jvm.MethodName) prog_1_method_36_code (3 : Nat) (Option.some Jvm.ClassFile.FieldType.int)) ∈ lw_all := lw_g (lw_at lw_m6 57 rfl) rfl
theorem q1376 : (Jvm.Cond.methodLink "BlushLamps" (301 : Nat) ({ cls := "BlushLamps", name := "laysFrom", desc := "(I)V" } : Jvm.MethodName)) ∈ lw_all := lw_g (lw_at lw_m6 58 rfl) rfl
theorem q1377 : (Jvm.Cond.privateMethod ({ cls := "BlushLamps", name := "laysFrom", desc := "(I)V" } : Jvm.MethodName)) ∈ lw_tbl := lw_at lw_m6 59 rfl
theorem q1378 : (Jvm.Cond.instanceMethod ({ cls := "BlushLamps", name := "laysFrom", desc := "(I)V" } : Jvm.MethodName)) ∈ lw_all := lw_g (lw_at lw_m6 60 rfl) rfl
theorem q1379 : (Jvm.Cond.code ({ cls := "BlushLamps", name := "laysFrom", desc := "(I)V" } : Jvm.MethodName) prog_1_method_35_code (4 : Nat) (Option.none : Option Jvm.ClassFile.FieldType)) ∈ lw_all := lw_g (lw_at lw_m6 61 rfl) rfl
theorem q1380 : (Jvm.Cond.methodLink "BlushLamps" (295 : Nat) ({ cls := "BlushLamps", name := "litSoFar", desc := "()I" } : Jvm.MethodName)) ∈ lw_all := lw_g (lw_at lw_m6 62 rfl) rfl
theorem q1381 : (Jvm.Cond.privateMethod ({ cls := "BlushLamps", name := "litSoFar", desc := "()I" } : Jvm.MethodName)) ∈ lw_tbl := lw_at lw_m6 63 rfl
theorem q1382 : (Jvm.Cond.instanceMethod ({ cls := "BlushLamps", name := "litSoFar", desc := "()I" } : Jvm.MethodName)) ∈ lw_all := lw_g (lw_at lw_m6 64 rfl) rfl
theorem q1383 : (Jvm.Cond.code ({ cls := "BlushLamps", name := "litSoFar", desc := "()I" } : Jvm.MethodName) prog_1_method_34_code (4 : Nat) (Option.some Jvm.ClassFile.FieldType.int)) ∈ lw_all := lw_g (lw_at lw_m6 65 rfl) rfl
theorem q1385 : (Jvm.Cond.instanceMethod ({ cls := "BlushLamps", name := "telling", desc := "(II)I" } : Jvm.MethodName)) ∈ lw_all := lw_g (lw_at lw_m6 67 rfl) rfl
theorem q1386 : (Jvm.Cond.selects "BlushLamps" ({ cls := "BlushLamps", name := "telling", desc := "(II)I" } : Jvm.MethodName) ({ cls := "BlushLamps", name := "telling", desc := "(II)I" } : Jvm.MethodName)) ∈ lw_all := lw_g (lw_at lw_m6 68 rfl) rfl
theorem q1387 : (Jvm.Cond.code ({ cls := "BlushLamps", name := "telling", desc := "(II)I" } : Jvm.MethodName) prog_1_method_37_code (6 : Nat) (Option.some Jvm.ClassFile.FieldType.int)) ∈ lw_all := lw_g (lw_at lw_m6 69 rfl) rfl
theorem q1389 : (Jvm.Cond.instanceMethod ({ cls := "BlushLamps", name := "keep", desc := "()I" } : Jvm.MethodName)) ∈ lw_all := lw_g (lw_at lw_m6 71 rfl) rfl
theorem q1390 : (Jvm.Cond.selects "BlushLamps" ({ cls := "BlushLamps", name := "keep", desc := "()I" } : Jvm.MethodName) ({ cls := "BlushLamps", name := "keep", desc := "()I" } : Jvm.MethodName)) ∈ lw_all := lw_g (lw_at lw_m6 72 rfl) rfl
theorem q1391 : (Jvm.Cond.code ({ cls := "BlushLamps", name := "keep", desc := "()I" } : Jvm.MethodName) prog_1_method_38_code (6 : Nat) (Option.some Jvm.ClassFile.FieldType.int)) ∈ lw_all := lw_g (lw_at lw_m6 73 rfl) rfl
theorem q1392 : (Jvm.Cond.constant "BlushLamps" (304 : Nat) (-1000000 : Int32)) ∈ lw_all := lw_g (lw_at lw_m6 74 rfl) rfl
theorem q1394 : (Jvm.Cond.instanceMethod ({ cls := "BlushLamps", name := "brightest", desc := "(I)I" } : Jvm.MethodName)) ∈ lw_all := lw_g (lw_at lw_m6 76 rfl) rfl
theorem q1395 : (Jvm.Cond.selects "BlushLamps" ({ cls := "BlushLamps", name := "brightest", desc := "(I)I" } : Jvm.MethodName) ({ cls := "BlushLamps", name := "brightest", desc := "(I)I" } : Jvm.MethodName)) ∈ lw_all := lw_g (lw_at lw_m6 77 rfl) rfl
theorem q1396 : (Jvm.Cond.code ({ cls := "BlushLamps", name := "brightest", desc := "(I)I" } : Jvm.MethodName) prog_1_method_39_code (4 : Nat) (Option.some Jvm.ClassFile.FieldType.int)) ∈ lw_all := lw_g (lw_at lw_m6 78 rfl) rfl
theorem q1398 : (Jvm.Cond.instanceMethod ({ cls := "BlushLamps", name := "steps", desc := "(II)I" } : Jvm.MethodName)) ∈ lw_all := lw_g (lw_at lw_m6 80 rfl) rfl
theorem q1399 : (Jvm.Cond.selects "BlushLamps" ({ cls := "BlushLamps", name := "steps", desc := "(II)I" } : Jvm.MethodName) ({ cls := "BlushLamps", name := "steps", desc := "(II)I" } : Jvm.MethodName)) ∈ lw_all := lw_g (lw_at lw_m6 81 rfl) rfl
theorem q1400 : (Jvm.Cond.code ({ cls := "BlushLamps", name := "steps", desc := "(II)I" } : Jvm.MethodName) prog_1_method_42_code (3 : Nat) (Option.some Jvm.ClassFile.FieldType.int)) ∈ lw_all := lw_g (lw_at lw_m6 82 rfl) rfl
theorem q1401 : (Jvm.Cond.methodLink "BlushLamps" (310 : Nat) ({ cls := "BlushLamps", name := "farTo", desc := "(III)I" } : Jvm.MethodName)) ∈ lw_all := lw_g (lw_at lw_m6 83 rfl) rfl
theorem q1402 : (Jvm.Cond.privateMethod ({ cls := "BlushLamps", name := "farTo", desc := "(III)I" } : Jvm.MethodName)) ∈ lw_tbl := lw_at lw_m6 84 rfl
theorem q1403 : (Jvm.Cond.instanceMethod ({ cls := "BlushLamps", name := "farTo", desc := "(III)I" } : Jvm.MethodName)) ∈ lw_all := lw_g (lw_at lw_m6 85 rfl) rfl
theorem q1404 : (Jvm.Cond.code ({ cls := "BlushLamps", name := "farTo", desc := "(III)I" } : Jvm.MethodName) prog_1_method_41_code (4 : Nat) (Option.some Jvm.ClassFile.FieldType.int)) ∈ lw_all := lw_g (lw_at lw_m6 86 rfl) rfl
theorem q1405 : (Jvm.Cond.methodLink "BlushLamps" (306 : Nat) ({ cls := "BlushLamps", name := "laysFar", desc := "(II)V" } : Jvm.MethodName)) ∈ lw_all := lw_g (lw_at lw_m6 87 rfl) rfl
theorem q1406 : (Jvm.Cond.privateMethod ({ cls := "BlushLamps", name := "laysFar", desc := "(II)V" } : Jvm.MethodName)) ∈ lw_tbl := lw_at lw_m6 88 rfl
theorem q1407 : (Jvm.Cond.instanceMethod ({ cls := "BlushLamps", name := "laysFar", desc := "(II)V" } : Jvm.MethodName)) ∈ lw_all := lw_g (lw_at lw_m6 89 rfl) rfl
theorem q1408 : (Jvm.Cond.code ({ cls := "BlushLamps", name := "laysFar", desc := "(II)V" } : Jvm.MethodName) prog_1_method_40_code (8 : Nat) (Option.none : Option Jvm.ClassFile.FieldType)) ∈ lw_all := lw_g (lw_at lw_m6 90 rfl) rfl
theorem q1409 : (Jvm.Cond.constant "BlushLamps" (305 : Nat) (1000000 : Int32)) ∈ lw_all := lw_g (lw_at lw_m6 91 rfl) rfl
theorem q1411 : (Jvm.Cond.instanceMethod ({ cls := "BlushLamps", name := "dark", desc := "(II)I" } : Jvm.MethodName)) ∈ lw_all := lw_g (lw_at lw_m6 93 rfl) rfl
theorem q1412 : (Jvm.Cond.selects "BlushLamps" ({ cls := "BlushLamps", name := "dark", desc := "(II)I" } : Jvm.MethodName) ({ cls := "BlushLamps", name := "dark", desc := "(II)I" } : Jvm.MethodName)) ∈ lw_all := lw_g (lw_at lw_m6 94 rfl) rfl
theorem q1413 : (Jvm.Cond.code ({ cls := "BlushLamps", name := "dark", desc := "(II)I" } : Jvm.MethodName) prog_1_method_43_code (3 : Nat) (Option.some Jvm.ClassFile.FieldType.int)) ∈ lw_all := lw_g (lw_at lw_m6 95 rfl) rfl
theorem q1414 : (Jvm.Cond.methodLink "BlushLamps" (314 : Nat) ({ cls := "BlushLamps$Town", name := "lit", desc := "(LBlushLamps$Text;)I" } : Jvm.MethodName)) ∈ lw_all := lw_g (lw_at lw_m6 96 rfl) rfl
theorem q1420 : (Jvm.Cond.instanceMethod ({ cls := "BlushLamps", name := "round", desc := "()I" } : Jvm.MethodName)) ∈ lw_all := lw_g (lw_at lw_m6 102 rfl) rfl
theorem q1421 : (Jvm.Cond.selects "BlushLamps" ({ cls := "BlushLamps", name := "round", desc := "()I" } : Jvm.MethodName) ({ cls := "BlushLamps", name := "round", desc := "()I" } : Jvm.MethodName)) ∈ lw_all := lw_g (lw_at lw_m6 103 rfl) rfl
theorem q1422 : (Jvm.Cond.code ({ cls := "BlushLamps", name := "round", desc := "()I" } : Jvm.MethodName) prog_1_method_44_code (6 : Nat) (Option.some Jvm.ClassFile.FieldType.int)) ∈ lw_all := lw_g (lw_at lw_m6 104 rfl) rfl
theorem q1423 : (Jvm.Cond.methodLink "BlushLamps" (318 : Nat) ({ cls := "BlushLamps", name := "laysFew", desc := "(II)V" } : Jvm.MethodName)) ∈ lw_all := lw_g (lw_at lw_m6 105 rfl) rfl
theorem q1424 : (Jvm.Cond.privateMethod ({ cls := "BlushLamps", name := "laysFew", desc := "(II)V" } : Jvm.MethodName)) ∈ lw_tbl := lw_at lw_m6 106 rfl
theorem q1425 : (Jvm.Cond.instanceMethod ({ cls := "BlushLamps", name := "laysFew", desc := "(II)V" } : Jvm.MethodName)) ∈ lw_all := lw_g (lw_at lw_m6 107 rfl) rfl
theorem q1426 : (Jvm.Cond.code ({ cls := "BlushLamps", name := "laysFew", desc := "(II)V" } : Jvm.MethodName) prog_1_method_45_code (5 : Nat) (Option.none : Option Jvm.ClassFile.FieldType)) ∈ lw_all := lw_g (lw_at lw_m6 108 rfl) rfl
theorem q1428 : (Jvm.Cond.instanceMethod ({ cls := "BlushLamps", name := "safe", desc := "(I)I" } : Jvm.MethodName)) ∈ lw_all := lw_g (lw_at lw_m6 110 rfl) rfl
theorem q1429 : (Jvm.Cond.selects "BlushLamps" ({ cls := "BlushLamps", name := "safe", desc := "(I)I" } : Jvm.MethodName) ({ cls := "BlushLamps", name := "safe", desc := "(I)I" } : Jvm.MethodName)) ∈ lw_all := lw_g (lw_at lw_m6 111 rfl) rfl
theorem q1430 : (Jvm.Cond.code ({ cls := "BlushLamps", name := "safe", desc := "(I)I" } : Jvm.MethodName) prog_1_method_47_code (2 : Nat) (Option.some Jvm.ClassFile.FieldType.int)) ∈ lw_all := lw_g (lw_at lw_m6 112 rfl) rfl
theorem q1431 : (Jvm.Cond.methodLink "BlushLamps" (321 : Nat) ({ cls := "BlushLamps", name := "reach", desc := "(II)I" } : Jvm.MethodName)) ∈ lw_all := lw_g (lw_at lw_m6 113 rfl) rfl
theorem q1432 : (Jvm.Cond.privateMethod ({ cls := "BlushLamps", name := "reach", desc := "(II)I" } : Jvm.MethodName)) ∈ lw_tbl := lw_at lw_m6 114 rfl
theorem q1433 : (Jvm.Cond.instanceMethod ({ cls := "BlushLamps", name := "reach", desc := "(II)I" } : Jvm.MethodName)) ∈ lw_all := lw_g (lw_at lw_m6 115 rfl) rfl
theorem q1434 : (Jvm.Cond.code ({ cls := "BlushLamps", name := "reach", desc := "(II)I" } : Jvm.MethodName) prog_1_method_46_code (7 : Nat) (Option.some Jvm.ClassFile.FieldType.int)) ∈ lw_all := lw_g (lw_at lw_m6 116 rfl) rfl
theorem q1436 : (Jvm.Cond.instanceMethod ({ cls := "BlushLamps", name := "bridges", desc := "()I" } : Jvm.MethodName)) ∈ lw_all := lw_g (lw_at lw_m6 118 rfl) rfl
theorem q1437 : (Jvm.Cond.selects "BlushLamps" ({ cls := "BlushLamps", name := "bridges", desc := "()I" } : Jvm.MethodName) ({ cls := "BlushLamps", name := "bridges", desc := "()I" } : Jvm.MethodName)) ∈ lw_all := lw_g (lw_at lw_m6 119 rfl) rfl
theorem q1438 : (Jvm.Cond.code ({ cls := "BlushLamps", name := "bridges", desc := "()I" } : Jvm.MethodName) prog_1_method_48_code (5 : Nat) (Option.some Jvm.ClassFile.FieldType.int)) ∈ lw_all := lw_g (lw_at lw_m6 120 rfl) rfl
theorem q1440 : (Jvm.Cond.instanceMethod ({ cls := "BlushLamps", name := "gather", desc := "(I)I" } : Jvm.MethodName)) ∈ lw_all := lw_g (lw_at lw_m6 122 rfl) rfl
theorem q1441 : (Jvm.Cond.selects "BlushLamps" ({ cls := "BlushLamps", name := "gather", desc := "(I)I" } : Jvm.MethodName) ({ cls := "BlushLamps", name := "gather", desc := "(I)I" } : Jvm.MethodName)) ∈ lw_all := lw_g (lw_at lw_m6 123 rfl) rfl
theorem q1442 : (Jvm.Cond.code ({ cls := "BlushLamps", name := "gather", desc := "(I)I" } : Jvm.MethodName) prog_1_method_49_code (7 : Nat) (Option.some Jvm.ClassFile.FieldType.int)) ∈ lw_all := lw_g (lw_at lw_m6 124 rfl) rfl
theorem q1444 : (Jvm.Cond.instanceMethod ({ cls := "BlushLamps", name := "moves", desc := "(II)I" } : Jvm.MethodName)) ∈ lw_all := lw_g (lw_at lw_m6 126 rfl) rfl
theorem q1445 : (Jvm.Cond.selects "BlushLamps" ({ cls := "BlushLamps", name := "moves", desc := "(II)I" } : Jvm.MethodName) ({ cls := "BlushLamps", name := "moves", desc := "(II)I" } : Jvm.MethodName)) ∈ lw_all := lw_g (lw_at lw_m6 127 rfl) rfl
theorem q1446 : (Jvm.Cond.code ({ cls := "BlushLamps", name := "moves", desc := "(II)I" } : Jvm.MethodName) prog_1_method_50_code (10 : Nat) (Option.some Jvm.ClassFile.FieldType.int)) ∈ lw_all := lw_g (lw_at lw_m6 128 rfl) rfl
theorem q1447 : (Jvm.Cond.methodLink "BlushLamps" (327 : Nat) ({ cls := "java/lang/Integer", name := "bitCount", desc := "(I)I" } : Jvm.MethodName)) ∈ lw_all := lw_g (lw_at lw_m6 129 rfl) rfl
theorem q1454 : (Jvm.Cond.instanceMethod ({ cls := "BlushLamps", name := "cut", desc := "(II)I" } : Jvm.MethodName)) ∈ lw_all := lw_g (lw_at lw_m6 136 rfl) rfl
theorem q1455 : (Jvm.Cond.selects "BlushLamps" ({ cls := "BlushLamps", name := "cut", desc := "(II)I" } : Jvm.MethodName) ({ cls := "BlushLamps", name := "cut", desc := "(II)I" } : Jvm.MethodName)) ∈ lw_all := lw_g (lw_at lw_m6 137 rfl) rfl
theorem q1456 : (Jvm.Cond.code ({ cls := "BlushLamps", name := "cut", desc := "(II)I" } : Jvm.MethodName) prog_1_method_51_code (6 : Nat) (Option.some Jvm.ClassFile.FieldType.int)) ∈ lw_all := lw_g (lw_at lw_m6 138 rfl) rfl
theorem q1458 : (Jvm.Cond.instanceMethod ({ cls := "BlushLamps", name := "tree", desc := "()I" } : Jvm.MethodName)) ∈ lw_all := lw_g (lw_at lw_m6 140 rfl) rfl
theorem q1459 : (Jvm.Cond.selects "BlushLamps" ({ cls := "BlushLamps", name := "tree", desc := "()I" } : Jvm.MethodName) ({ cls := "BlushLamps", name := "tree", desc := "()I" } : Jvm.MethodName)) ∈ lw_all := lw_g (lw_at lw_m6 141 rfl) rfl
theorem q1460 : (Jvm.Cond.code ({ cls := "BlushLamps", name := "tree", desc := "()I" } : Jvm.MethodName) prog_1_method_53_code (4 : Nat) (Option.some Jvm.ClassFile.FieldType.int)) ∈ lw_all := lw_g (lw_at lw_m6 142 rfl) rfl
theorem q1461 : (Jvm.Cond.methodLink "BlushLamps" (332 : Nat) ({ cls := "BlushLamps", name := "shortest", desc := "(I)I" } : Jvm.MethodName)) ∈ lw_all := lw_g (lw_at lw_m6 143 rfl) rfl
theorem q1462 : (Jvm.Cond.privateMethod ({ cls := "BlushLamps", name := "shortest", desc := "(I)I" } : Jvm.MethodName)) ∈ lw_tbl := lw_at lw_m6 144 rfl
theorem q1463 : (Jvm.Cond.instanceMethod ({ cls := "BlushLamps", name := "shortest", desc := "(I)I" } : Jvm.MethodName)) ∈ lw_all := lw_g (lw_at lw_m6 145 rfl) rfl
theorem q1464 : (Jvm.Cond.code ({ cls := "BlushLamps", name := "shortest", desc := "(I)I" } : Jvm.MethodName) prog_1_method_52_code (6 : Nat) (Option.some Jvm.ClassFile.FieldType.int)) ∈ lw_all := lw_g (lw_at lw_m6 146 rfl) rfl
theorem q1466 : (Jvm.Cond.instanceMethod ({ cls := "BlushLamps", name := "twins", desc := "(I)I" } : Jvm.MethodName)) ∈ lw_all := lw_g (lw_at lw_m6 148 rfl) rfl
theorem q1467 : (Jvm.Cond.selects "BlushLamps" ({ cls := "BlushLamps", name := "twins", desc := "(I)I" } : Jvm.MethodName) ({ cls := "BlushLamps", name := "twins", desc := "(I)I" } : Jvm.MethodName)) ∈ lw_all := lw_g (lw_at lw_m6 149 rfl) rfl
theorem q1468 : (Jvm.Cond.code ({ cls := "BlushLamps", name := "twins", desc := "(I)I" } : Jvm.MethodName) prog_1_method_54_code (8 : Nat) (Option.some Jvm.ClassFile.FieldType.int)) ∈ lw_all := lw_g (lw_at lw_m6 150 rfl) rfl
theorem q1469 : (Jvm.Cond.methodLink "BlushLamps" (335 : Nat) ({ cls := "java/lang/Math", name := "abs", desc := "(I)I" } : Jvm.MethodName)) ∈ lw_all := lw_g (lw_at lw_m6 151 rfl) rfl
theorem q1473 : (Jvm.Cond.instanceMethod ({ cls := "BlushLamps", name := "glowIn", desc := "(II)I" } : Jvm.MethodName)) ∈ lw_all := lw_g (lw_at lw_m6 155 rfl) rfl
theorem q1474 : (Jvm.Cond.selects "BlushLamps" ({ cls := "BlushLamps", name := "glowIn", desc := "(II)I" } : Jvm.MethodName) ({ cls := "BlushLamps", name := "glowIn", desc := "(II)I" } : Jvm.MethodName)) ∈ lw_all := lw_g (lw_at lw_m6 156 rfl) rfl
theorem q1475 : (Jvm.Cond.code ({ cls := "BlushLamps", name := "glowIn", desc := "(II)I" } : Jvm.MethodName) prog_1_method_55_code (3 : Nat) (Option.some Jvm.ClassFile.FieldType.int)) ∈ lw_all := lw_g (lw_at lw_m6 157 rfl) rfl
theorem q1477 : (Jvm.Cond.instanceMethod ({ cls := "BlushLamps", name := "then", desc := "(II)I" } : Jvm.MethodName)) ∈ lw_all := lw_g (lw_at lw_m6 159 rfl) rfl
theorem q1478 : (Jvm.Cond.selects "BlushLamps" ({ cls := "BlushLamps", name := "then", desc := "(II)I" } : Jvm.MethodName) ({ cls := "BlushLamps", name := "then", desc := "(II)I" } : Jvm.MethodName)) ∈ lw_all := lw_g (lw_at lw_m6 160 rfl) rfl
theorem q1479 : (Jvm.Cond.code ({ cls := "BlushLamps", name := "then", desc := "(II)I" } : Jvm.MethodName) prog_1_method_56_code (3 : Nat) (Option.some Jvm.ClassFile.FieldType.int)) ∈ lw_all := lw_g (lw_at lw_m6 161 rfl) rfl
theorem q1481 : (Jvm.Cond.instanceMethod ({ cls := "BlushLamps", name := "year", desc := "(III)I" } : Jvm.MethodName)) ∈ lw_all := lw_g (lw_at lw_m6 163 rfl) rfl
theorem q1482 : (Jvm.Cond.selects "BlushLamps" ({ cls := "BlushLamps", name := "year", desc := "(III)I" } : Jvm.MethodName) ({ cls := "BlushLamps", name := "year", desc := "(III)I" } : Jvm.MethodName)) ∈ lw_all := lw_g (lw_at lw_m6 164 rfl) rfl
theorem q1483 : (Jvm.Cond.code ({ cls := "BlushLamps", name := "year", desc := "(III)I" } : Jvm.MethodName) prog_1_method_57_code (6 : Nat) (Option.some Jvm.ClassFile.FieldType.int)) ∈ lw_all := lw_g (lw_at lw_m6 165 rfl) rfl
theorem q1485 : (Jvm.Cond.instanceMethod ({ cls := "BlushLamps", name := "tell", desc := "(IIZ)I" } : Jvm.MethodName)) ∈ lw_all := lw_g (lw_at lw_m6 167 rfl) rfl
theorem q1486 : (Jvm.Cond.selects "BlushLamps" ({ cls := "BlushLamps", name := "tell", desc := "(IIZ)I" } : Jvm.MethodName) ({ cls := "BlushLamps", name := "tell", desc := "(IIZ)I" } : Jvm.MethodName)) ∈ lw_all := lw_g (lw_at lw_m6 168 rfl) rfl
theorem q1487 : (Jvm.Cond.code ({ cls := "BlushLamps", name := "tell", desc := "(IIZ)I" } : Jvm.MethodName) prog_1_method_58_code (4 : Nat) (Option.some Jvm.ClassFile.FieldType.int)) ∈ lw_all := lw_g (lw_at lw_m6 169 rfl) rfl
theorem q1489 : (Jvm.Cond.instanceMethod ({ cls := "BlushLamps", name := "forget", desc := "()I" } : Jvm.MethodName)) ∈ lw_all := lw_g (lw_at lw_m6 171 rfl) rfl
theorem q1490 : (Jvm.Cond.selects "BlushLamps" ({ cls := "BlushLamps", name := "forget", desc := "()I" } : Jvm.MethodName) ({ cls := "BlushLamps", name := "forget", desc := "()I" } : Jvm.MethodName)) ∈ lw_all := lw_g (lw_at lw_m6 172 rfl) rfl
theorem q1491 : (Jvm.Cond.code ({ cls := "BlushLamps", name := "forget", desc := "()I" } : Jvm.MethodName) prog_1_method_59_code (2 : Nat) (Option.some Jvm.ClassFile.FieldType.int)) ∈ lw_all := lw_g (lw_at lw_m6 173 rfl) rfl
theorem q1493 : (Jvm.Cond.instanceMethod ({ cls := "BlushLamps", name := "words", desc := "(II)I" } : Jvm.MethodName)) ∈ lw_all := lw_g (lw_at lw_m6 175 rfl) rfl
theorem q1494 : (Jvm.Cond.selects "BlushLamps" ({ cls := "BlushLamps", name := "words", desc := "(II)I" } : Jvm.MethodName) ({ cls := "BlushLamps", name := "words", desc := "(II)I" } : Jvm.MethodName)) ∈ lw_all := lw_g (lw_at lw_m6 176 rfl) rfl
theorem q1495 : (Jvm.Cond.code ({ cls := "BlushLamps", name := "words", desc := "(II)I" } : Jvm.MethodName) prog_1_method_62_code (4 : Nat) (Option.some Jvm.ClassFile.FieldType.int)) ∈ lw_all := lw_g (lw_at lw_m6 177 rfl) rfl
theorem q1496 : (Jvm.Cond.methodLink "BlushLamps" (345 : Nat) ({ cls := "BlushLamps", name := "wordsBy", desc := "(I)I" } : Jvm.MethodName)) ∈ lw_all := lw_g (lw_at lw_m6 178 rfl) rfl
theorem q1497 : (Jvm.Cond.privateMethod ({ cls := "BlushLamps", name := "wordsBy", desc := "(I)I" } : Jvm.MethodName)) ∈ lw_tbl := lw_at lw_m6 179 rfl
theorem q1498 : (Jvm.Cond.instanceMethod ({ cls := "BlushLamps", name := "wordsBy", desc := "(I)I" } : Jvm.MethodName)) ∈ lw_all := lw_g (lw_at lw_m6 180 rfl) rfl
theorem q1499 : (Jvm.Cond.code ({ cls := "BlushLamps", name := "wordsBy", desc := "(I)I" } : Jvm.MethodName) prog_1_method_61_code (6 : Nat) (Option.some Jvm.ClassFile.FieldType.int)) ∈ lw_all := lw_g (lw_at lw_m6 181 rfl) rfl
theorem q1500 : (Jvm.Cond.methodLink "BlushLamps" (342 : Nat) ({ cls := "BlushLamps", name := "glowBy", desc := "(II)I" } : Jvm.MethodName)) ∈ lw_all := lw_g (lw_at lw_m6 182 rfl) rfl
theorem q1501 : (Jvm.Cond.privateMethod ({ cls := "BlushLamps", name := "glowBy", desc := "(II)I" } : Jvm.MethodName)) ∈ lw_tbl := lw_at lw_m6 183 rfl
theorem q1502 : (Jvm.Cond.instanceMethod ({ cls := "BlushLamps", name := "glowBy", desc := "(II)I" } : Jvm.MethodName)) ∈ lw_all := lw_g (lw_at lw_m6 184 rfl) rfl
theorem q1503 : (Jvm.Cond.code ({ cls := "BlushLamps", name := "glowBy", desc := "(II)I" } : Jvm.MethodName) prog_1_method_60_code (3 : Nat) (Option.some Jvm.ClassFile.FieldType.int)) ∈ lw_all := lw_g (lw_at lw_m6 185 rfl) rfl
theorem q1505 : (Jvm.Cond.instanceMethod ({ cls := "BlushLamps", name := "look", desc := "(II)I" } : Jvm.MethodName)) ∈ lw_all := lw_g (lw_at lw_m6 187 rfl) rfl
theorem q1506 : (Jvm.Cond.selects "BlushLamps" ({ cls := "BlushLamps", name := "look", desc := "(II)I" } : Jvm.MethodName) ({ cls := "BlushLamps", name := "look", desc := "(II)I" } : Jvm.MethodName)) ∈ lw_all := lw_g (lw_at lw_m6 188 rfl) rfl
theorem q1507 : (Jvm.Cond.code ({ cls := "BlushLamps", name := "look", desc := "(II)I" } : Jvm.MethodName) prog_1_method_63_code (9 : Nat) (Option.some Jvm.ClassFile.FieldType.int)) ∈ lw_all := lw_g (lw_at lw_m6 189 rfl) rfl
theorem q1508 : (Jvm.Cond.methodLink "BlushLamps" (348 : Nat) ({ cls := "java/lang/Math", name := "max", desc := "(II)I" } : Jvm.MethodName)) ∈ lw_all := lw_g (lw_at lw_m6 190 rfl) rfl
theorem q1510 : (Jvm.Cond.instanceMethod ({ cls := "BlushLamps", name := "hold", desc := "(I)Z" } : Jvm.MethodName)) ∈ lw_all := lw_g (lw_at lw_m6 192 rfl) rfl
theorem q1511 : (Jvm.Cond.selects "BlushLamps" ({ cls := "BlushLamps", name := "hold", desc := "(I)Z" } : Jvm.MethodName) ({ cls := "BlushLamps", name := "hold", desc := "(I)Z" } : Jvm.MethodName)) ∈ lw_all := lw_g (lw_at lw_m6 193 rfl) rfl
theorem q1512 : (Jvm.Cond.code ({ cls := "BlushLamps", name := "hold", desc := "(I)Z" } : Jvm.MethodName) prog_1_method_64_code (2 : Nat) (Option.some Jvm.ClassFile.FieldType.boolean)) ∈ lw_all := lw_g (lw_at lw_m6 194 rfl) rfl
theorem q1514 : (Jvm.Cond.instanceMethod ({ cls := "BlushLamps", name := "restore", desc := "(I)Z" } : Jvm.MethodName)) ∈ lw_all := lw_g (lw_at lw_m6 196 rfl) rfl
theorem q1515 : (Jvm.Cond.selects "BlushLamps" ({ cls := "BlushLamps", name := "restore", desc := "(I)Z" } : Jvm.MethodName) ({ cls := "BlushLamps", name := "restore", desc := "(I)Z" } : Jvm.MethodName)) ∈ lw_all := lw_g (lw_at lw_m6 197 rfl) rfl
theorem q1516 : (Jvm.Cond.code ({ cls := "BlushLamps", name := "restore", desc := "(I)Z" } : Jvm.MethodName) prog_1_method_65_code (2 : Nat) (Option.some Jvm.ClassFile.FieldType.boolean)) ∈ lw_all := lw_g (lw_at lw_m6 198 rfl) rfl
theorem q1518 : (Jvm.Cond.instanceMethod ({ cls := "BlushLamps", name := "count", desc := "(I)I" } : Jvm.MethodName)) ∈ lw_all := lw_g (lw_at lw_m6 200 rfl) rfl
theorem q1519 : (Jvm.Cond.selects "BlushLamps" ({ cls := "BlushLamps", name := "count", desc := "(I)I" } : Jvm.MethodName) ({ cls := "BlushLamps", name := "count", desc := "(I)I" } : Jvm.MethodName)) ∈ lw_all := lw_g (lw_at lw_m6 201 rfl) rfl
theorem q1520 : (Jvm.Cond.code ({ cls := "BlushLamps", name := "count", desc := "(I)I" } : Jvm.MethodName) prog_1_method_67_code (4 : Nat) (Option.some Jvm.ClassFile.FieldType.int)) ∈ lw_all := lw_g (lw_at lw_m6 202 rfl) rfl
theorem q1521 : (Jvm.Cond.methodLink "BlushLamps" (351 : Nat) ({ cls := "BlushLamps$Town", name := "isDraught", desc := "(LBlushLamps$Text;)Z" } : Jvm.MethodName)) ∈ lw_all := lw_g (lw_at lw_m6 203 rfl) rfl
theorem q1522 : (Jvm.Cond.methodLink "BlushLamps" (355 : Nat) ({ cls := "BlushLamps", name := "sum", desc := "([I)I" } : Jvm.MethodName)) ∈ lw_all := lw_g (lw_at lw_m6 204 rfl) rfl
theorem q1523 : (Jvm.Cond.static ({ cls := "BlushLamps", name := "sum", desc := "([I)I" } : Jvm.MethodName)) ∈ lw_all := lw_g (lw_at lw_m6 205 rfl) rfl
theorem q1524 : (Jvm.Cond.code ({ cls := "BlushLamps", name := "sum", desc := "([I)I" } : Jvm.MethodName) prog_1_method_66_code (3 : Nat) (Option.some Jvm.ClassFile.FieldType.int)) ∈ lw_all := lw_g (lw_at lw_m6 206 rfl) rfl
theorem q2215 : (Jvm.Cond.castable "BlushLamps" "java/lang/Object") ∈ lw_tbl := lw_at lw_m9 177 rfl
theorem in_X0 : ∀ w ∈ wsX00, w ∈ lw_all := lw_in wsX00 [552, 554, 556, 558, 560, 562, 564, 566, 568, 570, 572, 574, 576, 578, 580, 582, 584, 586, 588, 590, 592, 594, 596] (by decide +kernel) (by decide +kernel)
