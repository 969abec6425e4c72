/-! VectorVersionsModel -/
set_option maxRecDepth 100000
def RX8 : String := "VectorVersionsModel"
def TX8 : u_T := fun k => match k with
  | 0 => ("VectorVersionsModel", "state", "[I", true)
  | 1 => ("VectorVersionsModel", "aside", "[I", true)
  | 2 => ("VectorVersionsModel", "savedOne", "[I", true)
  | 3 => ("VectorVersionsModel", "past", "[I", true)
  | 4 => ("VectorVersionsModel", "pastCount", "I", false)
  | 5 => ("VectorVersionsModel", "isSaved", "Z", false)
  | 6 => ("VectorVersionsModel", "thrown", "I", false)
  | 7 => ("VectorVersionsModel", "entries", "[I", true)
  | 8 => ("VectorVersionsModel", "values", "[I", true)
  | 9 => ("VectorVersionsModel", "valueCount", "I", false)
  | 10 => ("VectorVersionsModel", "level", "[I", true)
  | 11 => ("VectorVersionsModel", "reached", "[I", true)
  | 12 => ("VectorVersionsModel", "buffer", "[B", true)
  | 13 => ("VectorVersionsModel", "length", "I", false)
  | 14 => ("VectorVersionsModel", "errorCode", "I", false)
  | 15 => ("VectorVersionsModel", "errorOffset", "I", false)
  | 16 => ("VectorVersionsModel", "start", "I", false)
  | 17 => ("VectorVersionsModel", "end", "I", false)
  | 18 => ("VectorVersionsModel", "token", "I", false)
  | 19 => ("VectorVersionsModel", "value", "I", false)
  | 20 => ("VectorVersionsModel", "fault", "I", false)
  | 21 => ("VectorVersionsModel", "faultOffset", "I", false)
  | 22 => ("VectorVersionsModel", "statements", "[I", true)
  | 23 => ("VectorVersionsModel", "statementCount", "I", false)
  | 24 => ("VectorVersionsModel", "met", "[I", true)
  | 25 => ("VectorVersionsModel", "metCount", "I", false)
  | 26 => ("VectorVersionsModel", "output", "[B", true)
  | _ => ("VectorVersionsModel", "outputLength", "I", false)
def tyX8 : Nat → FieldType := fun k => match k with
  | 0 => .array .int
  | 1 => .array .int
  | 2 => .array .int
  | 3 => .array .int
  | 4 => .int
  | 5 => .boolean
  | 6 => .int
  | 7 => .array .int
  | 8 => .array .int
  | 9 => .int
  | 10 => .array .int
  | 11 => .array .int
  | 12 => .array .byte
  | 13 => .int
  | 14 => .int
  | 15 => .int
  | 16 => .int
  | 17 => .int
  | 18 => .int
  | 19 => .int
  | 20 => .int
  | 21 => .int
  | 22 => .array .int
  | 23 => .int
  | 24 => .array .int
  | 25 => .int
  | 26 => .array .byte
  | _ => .int
abbrev wsX80 : List Cond := u_ws RX8 TX8 28
set_option maxRecDepth 100000 in
theorem nmX8 : ∀ a, a < 28 → ∀ b, b < 28 → a ≠ b → (TX8 a).2.1 ≠ (TX8 b).2.1 := by decide +kernel
set_option maxRecDepth 100000 in
theorem tyX8_ok : ∀ k, k < 28 → parseFieldDescriptor (TX8 k).2.2.1 = some (tyX8 k) := by decide +kernel
abbrev cX8_init : ByteArray := prog_18_method_1_code
def yX8_init : MethodName := ⟨RX8, "<init>", "()V"⟩
def dkwX8_init_8 : List UInt8 := [181, 0, 52, 42, 182, 0, 55, 177]
abbrev dktX8_init_8 : List UInt8 := dkwX8_init_8 ++ []
def dkwX8_init_7 : List UInt8 := [28, 43, 190, 162, 0, 18, 42, 180, 0, 26, 28, 43, 28, 46, 79, 132, 2, 1, 167, 255, 238, 42, 43, 190]
abbrev dktX8_init_7 : List UInt8 := dkwX8_init_7 ++ dktX8_init_8
def dkwX8_init_6 : List UInt8 := [89, 16, 6, 6, 79, 89, 16, 7, 4, 79, 89, 16, 8, 16, 9, 79, 89, 16, 9, 7, 79, 76, 3, 61]
abbrev dktX8_init_6 : List UInt8 := dkwX8_init_6 ++ dktX8_init_7
def dkwX8_init_5 : List UInt8 := [89, 4, 16, 254, 79, 89, 5, 16, 7, 79, 89, 6, 16, 7, 79, 89, 7, 3, 79, 89, 8, 16, 12, 79]
abbrev dktX8_init_5 : List UInt8 := dkwX8_init_5 ++ dktX8_init_6
def dkwX8_init_4 : List UInt8 := [16, 64, 188, 10, 181, 0, 46, 42, 17, 1, 66, 188, 8, 181, 0, 49, 16, 10, 188, 10, 89, 3, 8, 79]
abbrev dktX8_init_4 : List UInt8 := dkwX8_init_4 ++ dktX8_init_5
def dkwX8_init_3 : List UInt8 := [42, 17, 2, 88, 188, 8, 181, 0, 35, 42, 2, 181, 0, 39, 42, 16, 120, 188, 10, 181, 0, 43, 42]
abbrev dktX8_init_3 : List UInt8 := dkwX8_init_3 ++ dktX8_init_4
def dkwX8_init_2 : List UInt8 := [16, 64, 188, 10, 181, 0, 26, 42, 16, 64, 188, 10, 181, 0, 29, 42, 17, 0, 200, 188, 10, 181, 0, 32]
abbrev dktX8_init_2 : List UInt8 := dkwX8_init_2 ++ dktX8_init_3
def dkwX8_init_1 : List UInt8 := [17, 16, 114, 188, 10, 181, 0, 16, 42, 18, 19, 188, 10, 181, 0, 20, 42, 7, 188, 10, 181, 0, 23, 42]
abbrev dktX8_init_1 : List UInt8 := dkwX8_init_1 ++ dktX8_init_2
def dkwX8_init_0 : List UInt8 := [42, 183, 0, 3, 42, 17, 16, 114, 188, 10, 181, 0, 9, 42, 17, 16, 114, 188, 10, 181, 0, 13, 42]
abbrev dktX8_init_0 : List UInt8 := dkwX8_init_0 ++ dktX8_init_1
theorem dksX8_init_0 : cX8_init.data.toList.drop 0 = dktX8_init_0 := by decide +kernel
theorem dksX8_init_1 : cX8_init.data.toList.drop 23 = dktX8_init_1 := dk_seg dksX8_init_0 23 rfl rfl
theorem dksX8_init_2 : cX8_init.data.toList.drop 47 = dktX8_init_2 := dk_seg dksX8_init_1 24 rfl rfl
theorem dksX8_init_3 : cX8_init.data.toList.drop 71 = dktX8_init_3 := dk_seg dksX8_init_2 24 rfl rfl
theorem dksX8_init_4 : cX8_init.data.toList.drop 94 = dktX8_init_4 := dk_seg dksX8_init_3 23 rfl rfl
theorem dksX8_init_5 : cX8_init.data.toList.drop 118 = dktX8_init_5 := dk_seg dksX8_init_4 24 rfl rfl
theorem dksX8_init_6 : cX8_init.data.toList.drop 142 = dktX8_init_6 := dk_seg dksX8_init_5 24 rfl rfl
theorem dksX8_init_7 : cX8_init.data.toList.drop 166 = dktX8_init_7 := dk_seg dksX8_init_6 24 rfl rfl
theorem dksX8_init_8 : cX8_init.data.toList.drop 190 = dktX8_init_8 := dk_seg dksX8_init_7 24 rfl rfl
theorem dX8_init_0 : decode cX8_init 0 = .ok (.aload_n 0, 1) := dk_42 (dk_at dksX8_init_0 0 rfl rfl)
theorem dX8_init_1 : decode cX8_init 1 = .ok (.invokespecial 3, 3) := dk_183 0 3 (dk_at dksX8_init_0 1 rfl rfl)
theorem dX8_init_4 : decode cX8_init 4 = .ok (.aload_n 0, 1) := dk_42 (dk_at dksX8_init_0 4 rfl rfl)
theorem dX8_init_5 : decode cX8_init 5 = .ok (.sipush 4210, 3) := dk_17 16 114 (dk_at dksX8_init_0 5 rfl rfl)
theorem dX8_init_8 : decode cX8_init 8 = .ok (.newarray .int, 2) := dk_188_10 (dk_at dksX8_init_0 8 rfl rfl)
theorem dX8_init_10 : decode cX8_init 10 = .ok (.putfield 9, 3) := dk_181 0 9 (dk_at dksX8_init_0 10 rfl rfl)
theorem dX8_init_13 : decode cX8_init 13 = .ok (.aload_n 0, 1) := dk_42 (dk_at dksX8_init_0 13 rfl rfl)
theorem dX8_init_14 : decode cX8_init 14 = .ok (.sipush 4210, 3) := dk_17 16 114 (dk_at dksX8_init_0 14 rfl rfl)
theorem dX8_init_17 : decode cX8_init 17 = .ok (.newarray .int, 2) := dk_188_10 (dk_at dksX8_init_0 17 rfl rfl)
theorem dX8_init_19 : decode cX8_init 19 = .ok (.putfield 13, 3) := dk_181 0 13 (dk_at dksX8_init_0 19 rfl rfl)
theorem dX8_init_22 : decode cX8_init 22 = .ok (.aload_n 0, 1) := dk_42 (dk_at dksX8_init_0 22 rfl rfl)
theorem dX8_init_23 : decode cX8_init 23 = .ok (.sipush 4210, 3) := dk_17 16 114 (dk_at dksX8_init_1 0 rfl rfl)
theorem dX8_init_26 : decode cX8_init 26 = .ok (.newarray .int, 2) := dk_188_10 (dk_at dksX8_init_1 3 rfl rfl)
theorem dX8_init_28 : decode cX8_init 28 = .ok (.putfield 16, 3) := dk_181 0 16 (dk_at dksX8_init_1 5 rfl rfl)
theorem dX8_init_31 : decode cX8_init 31 = .ok (.aload_n 0, 1) := dk_42 (dk_at dksX8_init_1 8 rfl rfl)
theorem dX8_init_32 : decode cX8_init 32 = .ok (.ldc 19, 2) := dk_18 19 (dk_at dksX8_init_1 9 rfl rfl)
theorem dX8_init_34 : decode cX8_init 34 = .ok (.newarray .int, 2) := dk_188_10 (dk_at dksX8_init_1 11 rfl rfl)
theorem dX8_init_36 : decode cX8_init 36 = .ok (.putfield 20, 3) := dk_181 0 20 (dk_at dksX8_init_1 13 rfl rfl)
theorem dX8_init_39 : decode cX8_init 39 = .ok (.aload_n 0, 1) := dk_42 (dk_at dksX8_init_1 16 rfl rfl)
theorem dX8_init_40 : decode cX8_init 40 = .ok (.iconst 4, 1) := dk_7 (dk_at dksX8_init_1 17 rfl rfl)
theorem dX8_init_41 : decode cX8_init 41 = .ok (.newarray .int, 2) := dk_188_10 (dk_at dksX8_init_1 18 rfl rfl)
theorem dX8_init_43 : decode cX8_init 43 = .ok (.putfield 23, 3) := dk_181 0 23 (dk_at dksX8_init_1 20 rfl rfl)
theorem dX8_init_46 : decode cX8_init 46 = .ok (.aload_n 0, 1) := dk_42 (dk_at dksX8_init_1 23 rfl rfl)
theorem dX8_init_47 : decode cX8_init 47 = .ok (.bipush 64, 2) := dk_16 64 (dk_at dksX8_init_2 0 rfl rfl)
theorem dX8_init_49 : decode cX8_init 49 = .ok (.newarray .int, 2) := dk_188_10 (dk_at dksX8_init_2 2 rfl rfl)
theorem dX8_init_51 : decode cX8_init 51 = .ok (.putfield 26, 3) := dk_181 0 26 (dk_at dksX8_init_2 4 rfl rfl)
theorem dX8_init_54 : decode cX8_init 54 = .ok (.aload_n 0, 1) := dk_42 (dk_at dksX8_init_2 7 rfl rfl)
theorem dX8_init_55 : decode cX8_init 55 = .ok (.bipush 64, 2) := dk_16 64 (dk_at dksX8_init_2 8 rfl rfl)
theorem dX8_init_57 : decode cX8_init 57 = .ok (.newarray .int, 2) := dk_188_10 (dk_at dksX8_init_2 10 rfl rfl)
theorem dX8_init_59 : decode cX8_init 59 = .ok (.putfield 29, 3) := dk_181 0 29 (dk_at dksX8_init_2 12 rfl rfl)
theorem dX8_init_62 : decode cX8_init 62 = .ok (.aload_n 0, 1) := dk_42 (dk_at dksX8_init_2 15 rfl rfl)
theorem dX8_init_63 : decode cX8_init 63 = .ok (.sipush 200, 3) := dk_17 0 200 (dk_at dksX8_init_2 16 rfl rfl)
theorem dX8_init_66 : decode cX8_init 66 = .ok (.newarray .int, 2) := dk_188_10 (dk_at dksX8_init_2 19 rfl rfl)
theorem dX8_init_68 : decode cX8_init 68 = .ok (.putfield 32, 3) := dk_181 0 32 (dk_at dksX8_init_2 21 rfl rfl)
theorem dX8_init_71 : decode cX8_init 71 = .ok (.aload_n 0, 1) := dk_42 (dk_at dksX8_init_3 0 rfl rfl)
theorem dX8_init_72 : decode cX8_init 72 = .ok (.sipush 600, 3) := dk_17 2 88 (dk_at dksX8_init_3 1 rfl rfl)
theorem dX8_init_75 : decode cX8_init 75 = .ok (.newarray .byte, 2) := dk_188_8 (dk_at dksX8_init_3 4 rfl rfl)
theorem dX8_init_77 : decode cX8_init 77 = .ok (.putfield 35, 3) := dk_181 0 35 (dk_at dksX8_init_3 6 rfl rfl)
theorem dX8_init_80 : decode cX8_init 80 = .ok (.aload_n 0, 1) := dk_42 (dk_at dksX8_init_3 9 rfl rfl)
theorem dX8_init_81 : decode cX8_init 81 = .ok (.iconst (-1), 1) := dk_2 (dk_at dksX8_init_3 10 rfl rfl)
theorem dX8_init_82 : decode cX8_init 82 = .ok (.putfield 39, 3) := dk_181 0 39 (dk_at dksX8_init_3 11 rfl rfl)
theorem dX8_init_85 : decode cX8_init 85 = .ok (.aload_n 0, 1) := dk_42 (dk_at dksX8_init_3 14 rfl rfl)
theorem dX8_init_86 : decode cX8_init 86 = .ok (.bipush 120, 2) := dk_16 120 (dk_at dksX8_init_3 15 rfl rfl)
theorem dX8_init_88 : decode cX8_init 88 = .ok (.newarray .int, 2) := dk_188_10 (dk_at dksX8_init_3 17 rfl rfl)
theorem dX8_init_90 : decode cX8_init 90 = .ok (.putfield 43, 3) := dk_181 0 43 (dk_at dksX8_init_3 19 rfl rfl)
theorem dX8_init_93 : decode cX8_init 93 = .ok (.aload_n 0, 1) := dk_42 (dk_at dksX8_init_3 22 rfl rfl)
theorem dX8_init_94 : decode cX8_init 94 = .ok (.bipush 64, 2) := dk_16 64 (dk_at dksX8_init_4 0 rfl rfl)
theorem dX8_init_96 : decode cX8_init 96 = .ok (.newarray .int, 2) := dk_188_10 (dk_at dksX8_init_4 2 rfl rfl)
theorem dX8_init_98 : decode cX8_init 98 = .ok (.putfield 46, 3) := dk_181 0 46 (dk_at dksX8_init_4 4 rfl rfl)
theorem dX8_init_101 : decode cX8_init 101 = .ok (.aload_n 0, 1) := dk_42 (dk_at dksX8_init_4 7 rfl rfl)
theorem dX8_init_102 : decode cX8_init 102 = .ok (.sipush 322, 3) := dk_17 1 66 (dk_at dksX8_init_4 8 rfl rfl)
theorem dX8_init_105 : decode cX8_init 105 = .ok (.newarray .byte, 2) := dk_188_8 (dk_at dksX8_init_4 11 rfl rfl)
theorem dX8_init_107 : decode cX8_init 107 = .ok (.putfield 49, 3) := dk_181 0 49 (dk_at dksX8_init_4 13 rfl rfl)
theorem dX8_init_110 : decode cX8_init 110 = .ok (.bipush 10, 2) := dk_16 10 (dk_at dksX8_init_4 16 rfl rfl)
theorem dX8_init_112 : decode cX8_init 112 = .ok (.newarray .int, 2) := dk_188_10 (dk_at dksX8_init_4 18 rfl rfl)
theorem dX8_init_114 : decode cX8_init 114 = .ok (.dup, 1) := dk_89 (dk_at dksX8_init_4 20 rfl rfl)
theorem dX8_init_115 : decode cX8_init 115 = .ok (.iconst 0, 1) := dk_3 (dk_at dksX8_init_4 21 rfl rfl)
theorem dX8_init_116 : decode cX8_init 116 = .ok (.iconst 5, 1) := dk_8 (dk_at dksX8_init_4 22 rfl rfl)
theorem dX8_init_117 : decode cX8_init 117 = .ok (.iastore, 1) := dk_79 (dk_at dksX8_init_4 23 rfl rfl)
theorem dX8_init_118 : decode cX8_init 118 = .ok (.dup, 1) := dk_89 (dk_at dksX8_init_5 0 rfl rfl)
theorem dX8_init_119 : decode cX8_init 119 = .ok (.iconst 1, 1) := dk_4 (dk_at dksX8_init_5 1 rfl rfl)
theorem dX8_init_120 : decode cX8_init 120 = .ok (.bipush (-2), 2) := dk_16 254 (dk_at dksX8_init_5 2 rfl rfl)
theorem dX8_init_122 : decode cX8_init 122 = .ok (.iastore, 1) := dk_79 (dk_at dksX8_init_5 4 rfl rfl)
theorem dX8_init_123 : decode cX8_init 123 = .ok (.dup, 1) := dk_89 (dk_at dksX8_init_5 5 rfl rfl)
theorem dX8_init_124 : decode cX8_init 124 = .ok (.iconst 2, 1) := dk_5 (dk_at dksX8_init_5 6 rfl rfl)
theorem dX8_init_125 : decode cX8_init 125 = .ok (.bipush 7, 2) := dk_16 7 (dk_at dksX8_init_5 7 rfl rfl)
theorem dX8_init_127 : decode cX8_init 127 = .ok (.iastore, 1) := dk_79 (dk_at dksX8_init_5 9 rfl rfl)
theorem dX8_init_128 : decode cX8_init 128 = .ok (.dup, 1) := dk_89 (dk_at dksX8_init_5 10 rfl rfl)
theorem dX8_init_129 : decode cX8_init 129 = .ok (.iconst 3, 1) := dk_6 (dk_at dksX8_init_5 11 rfl rfl)
theorem dX8_init_130 : decode cX8_init 130 = .ok (.bipush 7, 2) := dk_16 7 (dk_at dksX8_init_5 12 rfl rfl)
theorem dX8_init_132 : decode cX8_init 132 = .ok (.iastore, 1) := dk_79 (dk_at dksX8_init_5 14 rfl rfl)
theorem dX8_init_133 : decode cX8_init 133 = .ok (.dup, 1) := dk_89 (dk_at dksX8_init_5 15 rfl rfl)
theorem dX8_init_134 : decode cX8_init 134 = .ok (.iconst 4, 1) := dk_7 (dk_at dksX8_init_5 16 rfl rfl)
theorem dX8_init_135 : decode cX8_init 135 = .ok (.iconst 0, 1) := dk_3 (dk_at dksX8_init_5 17 rfl rfl)
theorem dX8_init_136 : decode cX8_init 136 = .ok (.iastore, 1) := dk_79 (dk_at dksX8_init_5 18 rfl rfl)
theorem dX8_init_137 : decode cX8_init 137 = .ok (.dup, 1) := dk_89 (dk_at dksX8_init_5 19 rfl rfl)
theorem dX8_init_138 : decode cX8_init 138 = .ok (.iconst 5, 1) := dk_8 (dk_at dksX8_init_5 20 rfl rfl)
theorem dX8_init_139 : decode cX8_init 139 = .ok (.bipush 12, 2) := dk_16 12 (dk_at dksX8_init_5 21 rfl rfl)
theorem dX8_init_141 : decode cX8_init 141 = .ok (.iastore, 1) := dk_79 (dk_at dksX8_init_5 23 rfl rfl)
theorem dX8_init_142 : decode cX8_init 142 = .ok (.dup, 1) := dk_89 (dk_at dksX8_init_6 0 rfl rfl)
theorem dX8_init_143 : decode cX8_init 143 = .ok (.bipush 6, 2) := dk_16 6 (dk_at dksX8_init_6 1 rfl rfl)
theorem dX8_init_145 : decode cX8_init 145 = .ok (.iconst 3, 1) := dk_6 (dk_at dksX8_init_6 3 rfl rfl)
theorem dX8_init_146 : decode cX8_init 146 = .ok (.iastore, 1) := dk_79 (dk_at dksX8_init_6 4 rfl rfl)
theorem dX8_init_147 : decode cX8_init 147 = .ok (.dup, 1) := dk_89 (dk_at dksX8_init_6 5 rfl rfl)
theorem dX8_init_148 : decode cX8_init 148 = .ok (.bipush 7, 2) := dk_16 7 (dk_at dksX8_init_6 6 rfl rfl)
theorem dX8_init_150 : decode cX8_init 150 = .ok (.iconst 1, 1) := dk_4 (dk_at dksX8_init_6 8 rfl rfl)
theorem dX8_init_151 : decode cX8_init 151 = .ok (.iastore, 1) := dk_79 (dk_at dksX8_init_6 9 rfl rfl)
theorem dX8_init_152 : decode cX8_init 152 = .ok (.dup, 1) := dk_89 (dk_at dksX8_init_6 10 rfl rfl)
theorem dX8_init_153 : decode cX8_init 153 = .ok (.bipush 8, 2) := dk_16 8 (dk_at dksX8_init_6 11 rfl rfl)
theorem dX8_init_155 : decode cX8_init 155 = .ok (.bipush 9, 2) := dk_16 9 (dk_at dksX8_init_6 13 rfl rfl)
theorem dX8_init_157 : decode cX8_init 157 = .ok (.iastore, 1) := dk_79 (dk_at dksX8_init_6 15 rfl rfl)
theorem dX8_init_158 : decode cX8_init 158 = .ok (.dup, 1) := dk_89 (dk_at dksX8_init_6 16 rfl rfl)
theorem dX8_init_159 : decode cX8_init 159 = .ok (.bipush 9, 2) := dk_16 9 (dk_at dksX8_init_6 17 rfl rfl)
theorem dX8_init_161 : decode cX8_init 161 = .ok (.iconst 4, 1) := dk_7 (dk_at dksX8_init_6 19 rfl rfl)
theorem dX8_init_162 : decode cX8_init 162 = .ok (.iastore, 1) := dk_79 (dk_at dksX8_init_6 20 rfl rfl)
theorem dX8_init_163 : decode cX8_init 163 = .ok (.astore_n 1, 1) := dk_76 (dk_at dksX8_init_6 21 rfl rfl)
theorem dX8_init_164 : decode cX8_init 164 = .ok (.iconst 0, 1) := dk_3 (dk_at dksX8_init_6 22 rfl rfl)
theorem dX8_init_165 : decode cX8_init 165 = .ok (.istore_n 2, 1) := dk_61 (dk_at dksX8_init_6 23 rfl rfl)
theorem dX8_init_166 : decode cX8_init 166 = .ok (.iload_n 2, 1) := dk_28 (dk_at dksX8_init_7 0 rfl rfl)
theorem dX8_init_167 : decode cX8_init 167 = .ok (.aload_n 1, 1) := dk_43 (dk_at dksX8_init_7 1 rfl rfl)
theorem dX8_init_168 : decode cX8_init 168 = .ok (.arraylength, 1) := dk_190 (dk_at dksX8_init_7 2 rfl rfl)
theorem dX8_init_169 : decode cX8_init 169 = .ok (.if_icmp .ge 18, 3) := dk_162 0 18 (dk_at dksX8_init_7 3 rfl rfl)
theorem dX8_init_172 : decode cX8_init 172 = .ok (.aload_n 0, 1) := dk_42 (dk_at dksX8_init_7 6 rfl rfl)
theorem dX8_init_173 : decode cX8_init 173 = .ok (.getfield 26, 3) := dk_180 0 26 (dk_at dksX8_init_7 7 rfl rfl)
theorem dX8_init_176 : decode cX8_init 176 = .ok (.iload_n 2, 1) := dk_28 (dk_at dksX8_init_7 10 rfl rfl)
theorem dX8_init_177 : decode cX8_init 177 = .ok (.aload_n 1, 1) := dk_43 (dk_at dksX8_init_7 11 rfl rfl)
theorem dX8_init_178 : decode cX8_init 178 = .ok (.iload_n 2, 1) := dk_28 (dk_at dksX8_init_7 12 rfl rfl)
theorem dX8_init_179 : decode cX8_init 179 = .ok (.iaload, 1) := dk_46 (dk_at dksX8_init_7 13 rfl rfl)
theorem dX8_init_180 : decode cX8_init 180 = .ok (.iastore, 1) := dk_79 (dk_at dksX8_init_7 14 rfl rfl)
theorem dX8_init_181 : decode cX8_init 181 = .ok (.iinc 2 1, 3) := dk_132 2 1 (dk_at dksX8_init_7 15 rfl rfl)
theorem dX8_init_184 : decode cX8_init 184 = .ok (.goto (-18), 3) := dk_167 255 238 (dk_at dksX8_init_7 18 rfl rfl)
theorem dX8_init_187 : decode cX8_init 187 = .ok (.aload_n 0, 1) := dk_42 (dk_at dksX8_init_7 21 rfl rfl)
theorem dX8_init_188 : decode cX8_init 188 = .ok (.aload_n 1, 1) := dk_43 (dk_at dksX8_init_7 22 rfl rfl)
theorem dX8_init_189 : decode cX8_init 189 = .ok (.arraylength, 1) := dk_190 (dk_at dksX8_init_7 23 rfl rfl)
theorem dX8_init_190 : decode cX8_init 190 = .ok (.putfield 52, 3) := dk_181 0 52 (dk_at dksX8_init_8 0 rfl rfl)
theorem dX8_init_193 : decode cX8_init 193 = .ok (.aload_n 0, 1) := dk_42 (dk_at dksX8_init_8 3 rfl rfl)
theorem dX8_init_194 : decode cX8_init 194 = .ok (.invokevirtual 55, 3) := dk_182 0 55 (dk_at dksX8_init_8 4 rfl rfl)
theorem dX8_init_197 : decode cX8_init 197 = .ok (.return_, 1) := dk_177 (dk_at dksX8_init_8 7 rfl rfl)
abbrev cX8_begin : ByteArray := prog_18_method_33_code
def yX8_begin : MethodName := ⟨RX8, "begin", "()V"⟩
def dkwX8_begin_3 : List UInt8 := [29, 46, 79, 132, 3, 1, 167, 255, 228, 177]
abbrev dktX8_begin_3 : List UInt8 := dkwX8_begin_3 ++ []
def dkwX8_begin_2 : List UInt8 := [3, 62, 29, 42, 180, 0, 52, 162, 0, 26, 42, 180, 0, 9, 28, 184, 0, 115, 29, 96, 42, 180, 0, 26]
abbrev dktX8_begin_2 : List UInt8 := dkwX8_begin_2 ++ dktX8_begin_3
def dkwX8_begin_1 : List UInt8 := [2, 42, 180, 0, 52, 27, 154, 0, 7, 2, 167, 0, 9, 42, 180, 0, 29, 3, 46, 3, 182, 0, 142, 61]
abbrev dktX8_begin_1 : List UInt8 := dkwX8_begin_1 ++ dktX8_begin_2
def dkwX8_begin_0 : List UInt8 := [42, 182, 0, 132, 42, 182, 0, 135, 60, 27, 4, 164, 0, 12, 42, 27, 182, 0, 139, 60, 167, 255, 245, 42]
abbrev dktX8_begin_0 : List UInt8 := dkwX8_begin_0 ++ dktX8_begin_1
theorem dksX8_begin_0 : cX8_begin.data.toList.drop 0 = dktX8_begin_0 := by decide +kernel
theorem dksX8_begin_1 : cX8_begin.data.toList.drop 24 = dktX8_begin_1 := dk_seg dksX8_begin_0 24 rfl rfl
theorem dksX8_begin_2 : cX8_begin.data.toList.drop 48 = dktX8_begin_2 := dk_seg dksX8_begin_1 24 rfl rfl
theorem dksX8_begin_3 : cX8_begin.data.toList.drop 72 = dktX8_begin_3 := dk_seg dksX8_begin_2 24 rfl rfl
theorem dX8_begin_0 : decode cX8_begin 0 = .ok (.aload_n 0, 1) := dk_42 (dk_at dksX8_begin_0 0 rfl rfl)
theorem dX8_begin_1 : decode cX8_begin 1 = .ok (.invokevirtual 132, 3) := dk_182 0 132 (dk_at dksX8_begin_0 1 rfl rfl)
theorem dX8_begin_4 : decode cX8_begin 4 = .ok (.aload_n 0, 1) := dk_42 (dk_at dksX8_begin_0 4 rfl rfl)
theorem dX8_begin_5 : decode cX8_begin 5 = .ok (.invokevirtual 135, 3) := dk_182 0 135 (dk_at dksX8_begin_0 5 rfl rfl)
theorem dX8_begin_8 : decode cX8_begin 8 = .ok (.istore_n 1, 1) := dk_60 (dk_at dksX8_begin_0 8 rfl rfl)
theorem dX8_begin_9 : decode cX8_begin 9 = .ok (.iload_n 1, 1) := dk_27 (dk_at dksX8_begin_0 9 rfl rfl)
theorem dX8_begin_10 : decode cX8_begin 10 = .ok (.iconst 1, 1) := dk_4 (dk_at dksX8_begin_0 10 rfl rfl)
theorem dX8_begin_11 : decode cX8_begin 11 = .ok (.if_icmp .le 12, 3) := dk_164 0 12 (dk_at dksX8_begin_0 11 rfl rfl)
theorem dX8_begin_14 : decode cX8_begin 14 = .ok (.aload_n 0, 1) := dk_42 (dk_at dksX8_begin_0 14 rfl rfl)
theorem dX8_begin_15 : decode cX8_begin 15 = .ok (.iload_n 1, 1) := dk_27 (dk_at dksX8_begin_0 15 rfl rfl)
theorem dX8_begin_16 : decode cX8_begin 16 = .ok (.invokevirtual 139, 3) := dk_182 0 139 (dk_at dksX8_begin_0 16 rfl rfl)
theorem dX8_begin_19 : decode cX8_begin 19 = .ok (.istore_n 1, 1) := dk_60 (dk_at dksX8_begin_0 19 rfl rfl)
theorem dX8_begin_20 : decode cX8_begin 20 = .ok (.goto (-11), 3) := dk_167 255 245 (dk_at dksX8_begin_0 20 rfl rfl)
theorem dX8_begin_23 : decode cX8_begin 23 = .ok (.aload_n 0, 1) := dk_42 (dk_at dksX8_begin_0 23 rfl rfl)
theorem dX8_begin_24 : decode cX8_begin 24 = .ok (.iconst (-1), 1) := dk_2 (dk_at dksX8_begin_1 0 rfl rfl)
theorem dX8_begin_25 : decode cX8_begin 25 = .ok (.aload_n 0, 1) := dk_42 (dk_at dksX8_begin_1 1 rfl rfl)
theorem dX8_begin_26 : decode cX8_begin 26 = .ok (.getfield 52, 3) := dk_180 0 52 (dk_at dksX8_begin_1 2 rfl rfl)
theorem dX8_begin_29 : decode cX8_begin 29 = .ok (.iload_n 1, 1) := dk_27 (dk_at dksX8_begin_1 5 rfl rfl)
theorem dX8_begin_30 : decode cX8_begin 30 = .ok (.ifCond .ne 7, 3) := dk_154 0 7 (dk_at dksX8_begin_1 6 rfl rfl)
theorem dX8_begin_33 : decode cX8_begin 33 = .ok (.iconst (-1), 1) := dk_2 (dk_at dksX8_begin_1 9 rfl rfl)
theorem dX8_begin_34 : decode cX8_begin 34 = .ok (.goto 9, 3) := dk_167 0 9 (dk_at dksX8_begin_1 10 rfl rfl)
theorem dX8_begin_37 : decode cX8_begin 37 = .ok (.aload_n 0, 1) := dk_42 (dk_at dksX8_begin_1 13 rfl rfl)
theorem dX8_begin_38 : decode cX8_begin 38 = .ok (.getfield 29, 3) := dk_180 0 29 (dk_at dksX8_begin_1 14 rfl rfl)
theorem dX8_begin_41 : decode cX8_begin 41 = .ok (.iconst 0, 1) := dk_3 (dk_at dksX8_begin_1 17 rfl rfl)
theorem dX8_begin_42 : decode cX8_begin 42 = .ok (.iaload, 1) := dk_46 (dk_at dksX8_begin_1 18 rfl rfl)
theorem dX8_begin_43 : decode cX8_begin 43 = .ok (.iconst 0, 1) := dk_3 (dk_at dksX8_begin_1 19 rfl rfl)
theorem dX8_begin_44 : decode cX8_begin 44 = .ok (.invokevirtual 142, 3) := dk_182 0 142 (dk_at dksX8_begin_1 20 rfl rfl)
theorem dX8_begin_47 : decode cX8_begin 47 = .ok (.istore_n 2, 1) := dk_61 (dk_at dksX8_begin_1 23 rfl rfl)
theorem dX8_begin_48 : decode cX8_begin 48 = .ok (.iconst 0, 1) := dk_3 (dk_at dksX8_begin_2 0 rfl rfl)
theorem dX8_begin_49 : decode cX8_begin 49 = .ok (.istore_n 3, 1) := dk_62 (dk_at dksX8_begin_2 1 rfl rfl)
theorem dX8_begin_50 : decode cX8_begin 50 = .ok (.iload_n 3, 1) := dk_29 (dk_at dksX8_begin_2 2 rfl rfl)
theorem dX8_begin_51 : decode cX8_begin 51 = .ok (.aload_n 0, 1) := dk_42 (dk_at dksX8_begin_2 3 rfl rfl)
theorem dX8_begin_52 : decode cX8_begin 52 = .ok (.getfield 52, 3) := dk_180 0 52 (dk_at dksX8_begin_2 4 rfl rfl)
theorem dX8_begin_55 : decode cX8_begin 55 = .ok (.if_icmp .ge 26, 3) := dk_162 0 26 (dk_at dksX8_begin_2 7 rfl rfl)
theorem dX8_begin_58 : decode cX8_begin 58 = .ok (.aload_n 0, 1) := dk_42 (dk_at dksX8_begin_2 10 rfl rfl)
theorem dX8_begin_59 : decode cX8_begin 59 = .ok (.getfield 9, 3) := dk_180 0 9 (dk_at dksX8_begin_2 11 rfl rfl)
theorem dX8_begin_62 : decode cX8_begin 62 = .ok (.iload_n 2, 1) := dk_28 (dk_at dksX8_begin_2 14 rfl rfl)
theorem dX8_begin_63 : decode cX8_begin 63 = .ok (.invokestatic 115, 3) := dk_184 0 115 (dk_at dksX8_begin_2 15 rfl rfl)
theorem dX8_begin_66 : decode cX8_begin 66 = .ok (.iload_n 3, 1) := dk_29 (dk_at dksX8_begin_2 18 rfl rfl)
theorem dX8_begin_67 : decode cX8_begin 67 = .ok (.iadd, 1) := dk_96 (dk_at dksX8_begin_2 19 rfl rfl)
theorem dX8_begin_68 : decode cX8_begin 68 = .ok (.aload_n 0, 1) := dk_42 (dk_at dksX8_begin_2 20 rfl rfl)
theorem dX8_begin_69 : decode cX8_begin 69 = .ok (.getfield 26, 3) := dk_180 0 26 (dk_at dksX8_begin_2 21 rfl rfl)
theorem dX8_begin_72 : decode cX8_begin 72 = .ok (.iload_n 3, 1) := dk_29 (dk_at dksX8_begin_3 0 rfl rfl)
theorem dX8_begin_73 : decode cX8_begin 73 = .ok (.iaload, 1) := dk_46 (dk_at dksX8_begin_3 1 rfl rfl)
theorem dX8_begin_74 : decode cX8_begin 74 = .ok (.iastore, 1) := dk_79 (dk_at dksX8_begin_3 2 rfl rfl)
theorem dX8_begin_75 : decode cX8_begin 75 = .ok (.iinc 3 1, 3) := dk_132 3 1 (dk_at dksX8_begin_3 3 rfl rfl)
theorem dX8_begin_78 : decode cX8_begin 78 = .ok (.goto (-28), 3) := dk_167 255 228 (dk_at dksX8_begin_3 6 rfl rfl)
theorem dX8_begin_81 : decode cX8_begin 81 = .ok (.return_, 1) := dk_177 (dk_at dksX8_begin_3 9 rfl rfl)
abbrev cX8_clear : ByteArray := prog_18_method_9_code
def yX8_clear : MethodName := ⟨RX8, "clear", "()V"⟩
def dkwX8_clear_0 : List UInt8 := [3, 60, 27, 17, 16, 114, 162, 0, 16, 42, 180, 0, 9, 27, 3, 79, 132, 1, 1, 167, 255, 239, 177]
abbrev dktX8_clear_0 : List UInt8 := dkwX8_clear_0 ++ []
theorem dksX8_clear_0 : cX8_clear.data.toList.drop 0 = dktX8_clear_0 := by decide +kernel
theorem dX8_clear_0 : decode cX8_clear 0 = .ok (.iconst 0, 1) := dk_3 (dk_at dksX8_clear_0 0 rfl rfl)
theorem dX8_clear_1 : decode cX8_clear 1 = .ok (.istore_n 1, 1) := dk_60 (dk_at dksX8_clear_0 1 rfl rfl)
theorem dX8_clear_2 : decode cX8_clear 2 = .ok (.iload_n 1, 1) := dk_27 (dk_at dksX8_clear_0 2 rfl rfl)
theorem dX8_clear_3 : decode cX8_clear 3 = .ok (.sipush 4210, 3) := dk_17 16 114 (dk_at dksX8_clear_0 3 rfl rfl)
theorem dX8_clear_6 : decode cX8_clear 6 = .ok (.if_icmp .ge 16, 3) := dk_162 0 16 (dk_at dksX8_clear_0 6 rfl rfl)
theorem dX8_clear_9 : decode cX8_clear 9 = .ok (.aload_n 0, 1) := dk_42 (dk_at dksX8_clear_0 9 rfl rfl)
theorem dX8_clear_10 : decode cX8_clear 10 = .ok (.getfield 9, 3) := dk_180 0 9 (dk_at dksX8_clear_0 10 rfl rfl)
theorem dX8_clear_13 : decode cX8_clear 13 = .ok (.iload_n 1, 1) := dk_27 (dk_at dksX8_clear_0 13 rfl rfl)
theorem dX8_clear_14 : decode cX8_clear 14 = .ok (.iconst 0, 1) := dk_3 (dk_at dksX8_clear_0 14 rfl rfl)
theorem dX8_clear_15 : decode cX8_clear 15 = .ok (.iastore, 1) := dk_79 (dk_at dksX8_clear_0 15 rfl rfl)
theorem dX8_clear_16 : decode cX8_clear 16 = .ok (.iinc 1 1, 3) := dk_132 1 1 (dk_at dksX8_clear_0 16 rfl rfl)
theorem dX8_clear_19 : decode cX8_clear 19 = .ok (.goto (-17), 3) := dk_167 255 239 (dk_at dksX8_clear_0 19 rfl rfl)
theorem dX8_clear_22 : decode cX8_clear 22 = .ok (.return_, 1) := dk_177 (dk_at dksX8_clear_0 22 rfl rfl)
abbrev cX8_makeLeaves : ByteArray := prog_18_method_31_code
def yX8_makeLeaves : MethodName := ⟨RX8, "makeLeaves", "()I"⟩
def dkwX8_makeLeaves_3 : List UInt8 := [167, 255, 188, 27, 172]
abbrev dktX8_makeLeaves_3 : List UInt8 := dkwX8_makeLeaves_3 ++ []
def dkwX8_makeLeaves_2 : List UInt8 := [132, 4, 1, 167, 255, 231, 42, 180, 0, 29, 27, 42, 4, 29, 182, 0, 86, 79, 132, 1, 1, 132, 2, 4]
abbrev dktX8_makeLeaves_2 : List UInt8 := dkwX8_makeLeaves_2 ++ dktX8_makeLeaves_3
def dkwX8_makeLeaves_1 : List UInt8 := [54, 4, 21, 4, 29, 162, 0, 25, 42, 180, 0, 23, 21, 4, 42, 180, 0, 26, 28, 21, 4, 96, 46, 79]
abbrev dktX8_makeLeaves_1 : List UInt8 := dkwX8_makeLeaves_1 ++ dktX8_makeLeaves_2
def dkwX8_makeLeaves_0 : List UInt8 := [3, 60, 3, 61, 28, 42, 180, 0, 52, 162, 0, 66, 7, 42, 180, 0, 52, 28, 100, 184, 0, 124, 62, 3]
abbrev dktX8_makeLeaves_0 : List UInt8 := dkwX8_makeLeaves_0 ++ dktX8_makeLeaves_1
theorem dksX8_makeLeaves_0 : cX8_makeLeaves.data.toList.drop 0 = dktX8_makeLeaves_0 := by decide +kernel
theorem dksX8_makeLeaves_1 : cX8_makeLeaves.data.toList.drop 24 = dktX8_makeLeaves_1 := dk_seg dksX8_makeLeaves_0 24 rfl rfl
theorem dksX8_makeLeaves_2 : cX8_makeLeaves.data.toList.drop 48 = dktX8_makeLeaves_2 := dk_seg dksX8_makeLeaves_1 24 rfl rfl
theorem dksX8_makeLeaves_3 : cX8_makeLeaves.data.toList.drop 72 = dktX8_makeLeaves_3 := dk_seg dksX8_makeLeaves_2 24 rfl rfl
theorem dX8_makeLeaves_0 : decode cX8_makeLeaves 0 = .ok (.iconst 0, 1) := dk_3 (dk_at dksX8_makeLeaves_0 0 rfl rfl)
theorem dX8_makeLeaves_1 : decode cX8_makeLeaves 1 = .ok (.istore_n 1, 1) := dk_60 (dk_at dksX8_makeLeaves_0 1 rfl rfl)
theorem dX8_makeLeaves_2 : decode cX8_makeLeaves 2 = .ok (.iconst 0, 1) := dk_3 (dk_at dksX8_makeLeaves_0 2 rfl rfl)
theorem dX8_makeLeaves_3 : decode cX8_makeLeaves 3 = .ok (.istore_n 2, 1) := dk_61 (dk_at dksX8_makeLeaves_0 3 rfl rfl)
theorem dX8_makeLeaves_4 : decode cX8_makeLeaves 4 = .ok (.iload_n 2, 1) := dk_28 (dk_at dksX8_makeLeaves_0 4 rfl rfl)
theorem dX8_makeLeaves_5 : decode cX8_makeLeaves 5 = .ok (.aload_n 0, 1) := dk_42 (dk_at dksX8_makeLeaves_0 5 rfl rfl)
theorem dX8_makeLeaves_6 : decode cX8_makeLeaves 6 = .ok (.getfield 52, 3) := dk_180 0 52 (dk_at dksX8_makeLeaves_0 6 rfl rfl)
theorem dX8_makeLeaves_9 : decode cX8_makeLeaves 9 = .ok (.if_icmp .ge 66, 3) := dk_162 0 66 (dk_at dksX8_makeLeaves_0 9 rfl rfl)
theorem dX8_makeLeaves_12 : decode cX8_makeLeaves 12 = .ok (.iconst 4, 1) := dk_7 (dk_at dksX8_makeLeaves_0 12 rfl rfl)
theorem dX8_makeLeaves_13 : decode cX8_makeLeaves 13 = .ok (.aload_n 0, 1) := dk_42 (dk_at dksX8_makeLeaves_0 13 rfl rfl)
theorem dX8_makeLeaves_14 : decode cX8_makeLeaves 14 = .ok (.getfield 52, 3) := dk_180 0 52 (dk_at dksX8_makeLeaves_0 14 rfl rfl)
theorem dX8_makeLeaves_17 : decode cX8_makeLeaves 17 = .ok (.iload_n 2, 1) := dk_28 (dk_at dksX8_makeLeaves_0 17 rfl rfl)
theorem dX8_makeLeaves_18 : decode cX8_makeLeaves 18 = .ok (.isub, 1) := dk_100 (dk_at dksX8_makeLeaves_0 18 rfl rfl)
theorem dX8_makeLeaves_19 : decode cX8_makeLeaves 19 = .ok (.invokestatic 124, 3) := dk_184 0 124 (dk_at dksX8_makeLeaves_0 19 rfl rfl)
theorem dX8_makeLeaves_22 : decode cX8_makeLeaves 22 = .ok (.istore_n 3, 1) := dk_62 (dk_at dksX8_makeLeaves_0 22 rfl rfl)
theorem dX8_makeLeaves_23 : decode cX8_makeLeaves 23 = .ok (.iconst 0, 1) := dk_3 (dk_at dksX8_makeLeaves_0 23 rfl rfl)
theorem dX8_makeLeaves_24 : decode cX8_makeLeaves 24 = .ok (.istore 4, 2) := dk_54 4 (dk_at dksX8_makeLeaves_1 0 rfl rfl)
theorem dX8_makeLeaves_26 : decode cX8_makeLeaves 26 = .ok (.iload 4, 2) := dk_21 4 (dk_at dksX8_makeLeaves_1 2 rfl rfl)
theorem dX8_makeLeaves_28 : decode cX8_makeLeaves 28 = .ok (.iload_n 3, 1) := dk_29 (dk_at dksX8_makeLeaves_1 4 rfl rfl)
theorem dX8_makeLeaves_29 : decode cX8_makeLeaves 29 = .ok (.if_icmp .ge 25, 3) := dk_162 0 25 (dk_at dksX8_makeLeaves_1 5 rfl rfl)
theorem dX8_makeLeaves_32 : decode cX8_makeLeaves 32 = .ok (.aload_n 0, 1) := dk_42 (dk_at dksX8_makeLeaves_1 8 rfl rfl)
theorem dX8_makeLeaves_33 : decode cX8_makeLeaves 33 = .ok (.getfield 23, 3) := dk_180 0 23 (dk_at dksX8_makeLeaves_1 9 rfl rfl)
theorem dX8_makeLeaves_36 : decode cX8_makeLeaves 36 = .ok (.iload 4, 2) := dk_21 4 (dk_at dksX8_makeLeaves_1 12 rfl rfl)
theorem dX8_makeLeaves_38 : decode cX8_makeLeaves 38 = .ok (.aload_n 0, 1) := dk_42 (dk_at dksX8_makeLeaves_1 14 rfl rfl)
theorem dX8_makeLeaves_39 : decode cX8_makeLeaves 39 = .ok (.getfield 26, 3) := dk_180 0 26 (dk_at dksX8_makeLeaves_1 15 rfl rfl)
theorem dX8_makeLeaves_42 : decode cX8_makeLeaves 42 = .ok (.iload_n 2, 1) := dk_28 (dk_at dksX8_makeLeaves_1 18 rfl rfl)
theorem dX8_makeLeaves_43 : decode cX8_makeLeaves 43 = .ok (.iload 4, 2) := dk_21 4 (dk_at dksX8_makeLeaves_1 19 rfl rfl)
theorem dX8_makeLeaves_45 : decode cX8_makeLeaves 45 = .ok (.iadd, 1) := dk_96 (dk_at dksX8_makeLeaves_1 21 rfl rfl)
theorem dX8_makeLeaves_46 : decode cX8_makeLeaves 46 = .ok (.iaload, 1) := dk_46 (dk_at dksX8_makeLeaves_1 22 rfl rfl)
theorem dX8_makeLeaves_47 : decode cX8_makeLeaves 47 = .ok (.iastore, 1) := dk_79 (dk_at dksX8_makeLeaves_1 23 rfl rfl)
theorem dX8_makeLeaves_48 : decode cX8_makeLeaves 48 = .ok (.iinc 4 1, 3) := dk_132 4 1 (dk_at dksX8_makeLeaves_2 0 rfl rfl)
theorem dX8_makeLeaves_51 : decode cX8_makeLeaves 51 = .ok (.goto (-25), 3) := dk_167 255 231 (dk_at dksX8_makeLeaves_2 3 rfl rfl)
theorem dX8_makeLeaves_54 : decode cX8_makeLeaves 54 = .ok (.aload_n 0, 1) := dk_42 (dk_at dksX8_makeLeaves_2 6 rfl rfl)
theorem dX8_makeLeaves_55 : decode cX8_makeLeaves 55 = .ok (.getfield 29, 3) := dk_180 0 29 (dk_at dksX8_makeLeaves_2 7 rfl rfl)
theorem dX8_makeLeaves_58 : decode cX8_makeLeaves 58 = .ok (.iload_n 1, 1) := dk_27 (dk_at dksX8_makeLeaves_2 10 rfl rfl)
theorem dX8_makeLeaves_59 : decode cX8_makeLeaves 59 = .ok (.aload_n 0, 1) := dk_42 (dk_at dksX8_makeLeaves_2 11 rfl rfl)
theorem dX8_makeLeaves_60 : decode cX8_makeLeaves 60 = .ok (.iconst 1, 1) := dk_4 (dk_at dksX8_makeLeaves_2 12 rfl rfl)
theorem dX8_makeLeaves_61 : decode cX8_makeLeaves 61 = .ok (.iload_n 3, 1) := dk_29 (dk_at dksX8_makeLeaves_2 13 rfl rfl)
theorem dX8_makeLeaves_62 : decode cX8_makeLeaves 62 = .ok (.invokevirtual 86, 3) := dk_182 0 86 (dk_at dksX8_makeLeaves_2 14 rfl rfl)
theorem dX8_makeLeaves_65 : decode cX8_makeLeaves 65 = .ok (.iastore, 1) := dk_79 (dk_at dksX8_makeLeaves_2 17 rfl rfl)
theorem dX8_makeLeaves_66 : decode cX8_makeLeaves 66 = .ok (.iinc 1 1, 3) := dk_132 1 1 (dk_at dksX8_makeLeaves_2 18 rfl rfl)
theorem dX8_makeLeaves_69 : decode cX8_makeLeaves 69 = .ok (.iinc 2 4, 3) := dk_132 2 4 (dk_at dksX8_makeLeaves_2 21 rfl rfl)
theorem dX8_makeLeaves_72 : decode cX8_makeLeaves 72 = .ok (.goto (-68), 3) := dk_167 255 188 (dk_at dksX8_makeLeaves_3 0 rfl rfl)
theorem dX8_makeLeaves_75 : decode cX8_makeLeaves 75 = .ok (.iload_n 1, 1) := dk_27 (dk_at dksX8_makeLeaves_3 3 rfl rfl)
theorem dX8_makeLeaves_76 : decode cX8_makeLeaves 76 = .ok (.ireturn, 1) := dk_172 (dk_at dksX8_makeLeaves_3 4 rfl rfl)
abbrev cX8_makeNode : ByteArray := prog_18_method_19_code
def yX8_makeNode : MethodName := ⟨RX8, "makeNode", "(ZI)I"⟩
def dkwX8_makeNode_4 : List UInt8 := [42, 180, 0, 9, 4, 92, 46, 4, 96, 79, 29, 172]
abbrev dktX8_makeNode_4 : List UInt8 := dkwX8_makeNode_4 ++ []
def dkwX8_makeNode_3 : List UInt8 := [167, 0, 4, 3, 79, 132, 4, 1, 167, 255, 216, 42, 180, 0, 9, 29, 184, 0, 68, 16, 6, 96, 4, 79]
abbrev dktX8_makeNode_3 : List UInt8 := dkwX8_makeNode_3 ++ dktX8_makeNode_4
def dkwX8_makeNode_2 : List UInt8 := [29, 184, 0, 68, 5, 96, 21, 4, 96, 21, 4, 28, 162, 0, 13, 42, 180, 0, 23, 21, 4, 46]
abbrev dktX8_makeNode_2 : List UInt8 := dkwX8_makeNode_2 ++ dktX8_makeNode_3
def dkwX8_makeNode_1 : List UInt8 := [180, 0, 9, 29, 184, 0, 68, 4, 96, 28, 79, 3, 54, 4, 21, 4, 7, 162, 0, 40, 42, 180, 0, 9]
abbrev dktX8_makeNode_1 : List UInt8 := dkwX8_makeNode_1 ++ dktX8_makeNode_2
def dkwX8_makeNode_0 : List UInt8 := [42, 180, 0, 9, 4, 46, 62, 42, 180, 0, 9, 29, 184, 0, 68, 3, 96, 27, 184, 0, 75, 79, 42]
abbrev dktX8_makeNode_0 : List UInt8 := dkwX8_makeNode_0 ++ dktX8_makeNode_1
theorem dksX8_makeNode_0 : cX8_makeNode.data.toList.drop 0 = dktX8_makeNode_0 := by decide +kernel
theorem dksX8_makeNode_1 : cX8_makeNode.data.toList.drop 23 = dktX8_makeNode_1 := dk_seg dksX8_makeNode_0 23 rfl rfl
theorem dksX8_makeNode_2 : cX8_makeNode.data.toList.drop 47 = dktX8_makeNode_2 := dk_seg dksX8_makeNode_1 24 rfl rfl
theorem dksX8_makeNode_3 : cX8_makeNode.data.toList.drop 69 = dktX8_makeNode_3 := dk_seg dksX8_makeNode_2 22 rfl rfl
theorem dksX8_makeNode_4 : cX8_makeNode.data.toList.drop 93 = dktX8_makeNode_4 := dk_seg dksX8_makeNode_3 24 rfl rfl
theorem dX8_makeNode_0 : decode cX8_makeNode 0 = .ok (.aload_n 0, 1) := dk_42 (dk_at dksX8_makeNode_0 0 rfl rfl)
theorem dX8_makeNode_1 : decode cX8_makeNode 1 = .ok (.getfield 9, 3) := dk_180 0 9 (dk_at dksX8_makeNode_0 1 rfl rfl)
theorem dX8_makeNode_4 : decode cX8_makeNode 4 = .ok (.iconst 1, 1) := dk_4 (dk_at dksX8_makeNode_0 4 rfl rfl)
theorem dX8_makeNode_5 : decode cX8_makeNode 5 = .ok (.iaload, 1) := dk_46 (dk_at dksX8_makeNode_0 5 rfl rfl)
theorem dX8_makeNode_6 : decode cX8_makeNode 6 = .ok (.istore_n 3, 1) := dk_62 (dk_at dksX8_makeNode_0 6 rfl rfl)
theorem dX8_makeNode_7 : decode cX8_makeNode 7 = .ok (.aload_n 0, 1) := dk_42 (dk_at dksX8_makeNode_0 7 rfl rfl)
theorem dX8_makeNode_8 : decode cX8_makeNode 8 = .ok (.getfield 9, 3) := dk_180 0 9 (dk_at dksX8_makeNode_0 8 rfl rfl)
theorem dX8_makeNode_11 : decode cX8_makeNode 11 = .ok (.iload_n 3, 1) := dk_29 (dk_at dksX8_makeNode_0 11 rfl rfl)
theorem dX8_makeNode_12 : decode cX8_makeNode 12 = .ok (.invokestatic 68, 3) := dk_184 0 68 (dk_at dksX8_makeNode_0 12 rfl rfl)
theorem dX8_makeNode_15 : decode cX8_makeNode 15 = .ok (.iconst 0, 1) := dk_3 (dk_at dksX8_makeNode_0 15 rfl rfl)
theorem dX8_makeNode_16 : decode cX8_makeNode 16 = .ok (.iadd, 1) := dk_96 (dk_at dksX8_makeNode_0 16 rfl rfl)
theorem dX8_makeNode_17 : decode cX8_makeNode 17 = .ok (.iload_n 1, 1) := dk_27 (dk_at dksX8_makeNode_0 17 rfl rfl)
theorem dX8_makeNode_18 : decode cX8_makeNode 18 = .ok (.invokestatic 75, 3) := dk_184 0 75 (dk_at dksX8_makeNode_0 18 rfl rfl)
theorem dX8_makeNode_21 : decode cX8_makeNode 21 = .ok (.iastore, 1) := dk_79 (dk_at dksX8_makeNode_0 21 rfl rfl)
theorem dX8_makeNode_22 : decode cX8_makeNode 22 = .ok (.aload_n 0, 1) := dk_42 (dk_at dksX8_makeNode_0 22 rfl rfl)
theorem dX8_makeNode_23 : decode cX8_makeNode 23 = .ok (.getfield 9, 3) := dk_180 0 9 (dk_at dksX8_makeNode_1 0 rfl rfl)
theorem dX8_makeNode_26 : decode cX8_makeNode 26 = .ok (.iload_n 3, 1) := dk_29 (dk_at dksX8_makeNode_1 3 rfl rfl)
theorem dX8_makeNode_27 : decode cX8_makeNode 27 = .ok (.invokestatic 68, 3) := dk_184 0 68 (dk_at dksX8_makeNode_1 4 rfl rfl)
theorem dX8_makeNode_30 : decode cX8_makeNode 30 = .ok (.iconst 1, 1) := dk_4 (dk_at dksX8_makeNode_1 7 rfl rfl)
theorem dX8_makeNode_31 : decode cX8_makeNode 31 = .ok (.iadd, 1) := dk_96 (dk_at dksX8_makeNode_1 8 rfl rfl)
theorem dX8_makeNode_32 : decode cX8_makeNode 32 = .ok (.iload_n 2, 1) := dk_28 (dk_at dksX8_makeNode_1 9 rfl rfl)
theorem dX8_makeNode_33 : decode cX8_makeNode 33 = .ok (.iastore, 1) := dk_79 (dk_at dksX8_makeNode_1 10 rfl rfl)
theorem dX8_makeNode_34 : decode cX8_makeNode 34 = .ok (.iconst 0, 1) := dk_3 (dk_at dksX8_makeNode_1 11 rfl rfl)
theorem dX8_makeNode_35 : decode cX8_makeNode 35 = .ok (.istore 4, 2) := dk_54 4 (dk_at dksX8_makeNode_1 12 rfl rfl)
theorem dX8_makeNode_37 : decode cX8_makeNode 37 = .ok (.iload 4, 2) := dk_21 4 (dk_at dksX8_makeNode_1 14 rfl rfl)
theorem dX8_makeNode_39 : decode cX8_makeNode 39 = .ok (.iconst 4, 1) := dk_7 (dk_at dksX8_makeNode_1 16 rfl rfl)
theorem dX8_makeNode_40 : decode cX8_makeNode 40 = .ok (.if_icmp .ge 40, 3) := dk_162 0 40 (dk_at dksX8_makeNode_1 17 rfl rfl)
theorem dX8_makeNode_43 : decode cX8_makeNode 43 = .ok (.aload_n 0, 1) := dk_42 (dk_at dksX8_makeNode_1 20 rfl rfl)
theorem dX8_makeNode_44 : decode cX8_makeNode 44 = .ok (.getfield 9, 3) := dk_180 0 9 (dk_at dksX8_makeNode_1 21 rfl rfl)
theorem dX8_makeNode_47 : decode cX8_makeNode 47 = .ok (.iload_n 3, 1) := dk_29 (dk_at dksX8_makeNode_2 0 rfl rfl)
theorem dX8_makeNode_48 : decode cX8_makeNode 48 = .ok (.invokestatic 68, 3) := dk_184 0 68 (dk_at dksX8_makeNode_2 1 rfl rfl)
theorem dX8_makeNode_51 : decode cX8_makeNode 51 = .ok (.iconst 2, 1) := dk_5 (dk_at dksX8_makeNode_2 4 rfl rfl)
theorem dX8_makeNode_52 : decode cX8_makeNode 52 = .ok (.iadd, 1) := dk_96 (dk_at dksX8_makeNode_2 5 rfl rfl)
theorem dX8_makeNode_53 : decode cX8_makeNode 53 = .ok (.iload 4, 2) := dk_21 4 (dk_at dksX8_makeNode_2 6 rfl rfl)
theorem dX8_makeNode_55 : decode cX8_makeNode 55 = .ok (.iadd, 1) := dk_96 (dk_at dksX8_makeNode_2 8 rfl rfl)
theorem dX8_makeNode_56 : decode cX8_makeNode 56 = .ok (.iload 4, 2) := dk_21 4 (dk_at dksX8_makeNode_2 9 rfl rfl)
theorem dX8_makeNode_58 : decode cX8_makeNode 58 = .ok (.iload_n 2, 1) := dk_28 (dk_at dksX8_makeNode_2 11 rfl rfl)
theorem dX8_makeNode_59 : decode cX8_makeNode 59 = .ok (.if_icmp .ge 13, 3) := dk_162 0 13 (dk_at dksX8_makeNode_2 12 rfl rfl)
theorem dX8_makeNode_62 : decode cX8_makeNode 62 = .ok (.aload_n 0, 1) := dk_42 (dk_at dksX8_makeNode_2 15 rfl rfl)
theorem dX8_makeNode_63 : decode cX8_makeNode 63 = .ok (.getfield 23, 3) := dk_180 0 23 (dk_at dksX8_makeNode_2 16 rfl rfl)
theorem dX8_makeNode_66 : decode cX8_makeNode 66 = .ok (.iload 4, 2) := dk_21 4 (dk_at dksX8_makeNode_2 19 rfl rfl)
theorem dX8_makeNode_68 : decode cX8_makeNode 68 = .ok (.iaload, 1) := dk_46 (dk_at dksX8_makeNode_2 21 rfl rfl)
theorem dX8_makeNode_69 : decode cX8_makeNode 69 = .ok (.goto 4, 3) := dk_167 0 4 (dk_at dksX8_makeNode_3 0 rfl rfl)
theorem dX8_makeNode_72 : decode cX8_makeNode 72 = .ok (.iconst 0, 1) := dk_3 (dk_at dksX8_makeNode_3 3 rfl rfl)
theorem dX8_makeNode_73 : decode cX8_makeNode 73 = .ok (.iastore, 1) := dk_79 (dk_at dksX8_makeNode_3 4 rfl rfl)
theorem dX8_makeNode_74 : decode cX8_makeNode 74 = .ok (.iinc 4 1, 3) := dk_132 4 1 (dk_at dksX8_makeNode_3 5 rfl rfl)
theorem dX8_makeNode_77 : decode cX8_makeNode 77 = .ok (.goto (-40), 3) := dk_167 255 216 (dk_at dksX8_makeNode_3 8 rfl rfl)
theorem dX8_makeNode_80 : decode cX8_makeNode 80 = .ok (.aload_n 0, 1) := dk_42 (dk_at dksX8_makeNode_3 11 rfl rfl)
theorem dX8_makeNode_81 : decode cX8_makeNode 81 = .ok (.getfield 9, 3) := dk_180 0 9 (dk_at dksX8_makeNode_3 12 rfl rfl)
theorem dX8_makeNode_84 : decode cX8_makeNode 84 = .ok (.iload_n 3, 1) := dk_29 (dk_at dksX8_makeNode_3 15 rfl rfl)
theorem dX8_makeNode_85 : decode cX8_makeNode 85 = .ok (.invokestatic 68, 3) := dk_184 0 68 (dk_at dksX8_makeNode_3 16 rfl rfl)
theorem dX8_makeNode_88 : decode cX8_makeNode 88 = .ok (.bipush 6, 2) := dk_16 6 (dk_at dksX8_makeNode_3 19 rfl rfl)
theorem dX8_makeNode_90 : decode cX8_makeNode 90 = .ok (.iadd, 1) := dk_96 (dk_at dksX8_makeNode_3 21 rfl rfl)
theorem dX8_makeNode_91 : decode cX8_makeNode 91 = .ok (.iconst 1, 1) := dk_4 (dk_at dksX8_makeNode_3 22 rfl rfl)
theorem dX8_makeNode_92 : decode cX8_makeNode 92 = .ok (.iastore, 1) := dk_79 (dk_at dksX8_makeNode_3 23 rfl rfl)
theorem dX8_makeNode_93 : decode cX8_makeNode 93 = .ok (.aload_n 0, 1) := dk_42 (dk_at dksX8_makeNode_4 0 rfl rfl)
theorem dX8_makeNode_94 : decode cX8_makeNode 94 = .ok (.getfield 9, 3) := dk_180 0 9 (dk_at dksX8_makeNode_4 1 rfl rfl)
theorem dX8_makeNode_97 : decode cX8_makeNode 97 = .ok (.iconst 1, 1) := dk_4 (dk_at dksX8_makeNode_4 4 rfl rfl)
theorem dX8_makeNode_98 : decode cX8_makeNode 98 = .ok (.dup2, 1) := dk_92 (dk_at dksX8_makeNode_4 5 rfl rfl)
theorem dX8_makeNode_99 : decode cX8_makeNode 99 = .ok (.iaload, 1) := dk_46 (dk_at dksX8_makeNode_4 6 rfl rfl)
theorem dX8_makeNode_100 : decode cX8_makeNode 100 = .ok (.iconst 1, 1) := dk_4 (dk_at dksX8_makeNode_4 7 rfl rfl)
theorem dX8_makeNode_101 : decode cX8_makeNode 101 = .ok (.iadd, 1) := dk_96 (dk_at dksX8_makeNode_4 8 rfl rfl)
theorem dX8_makeNode_102 : decode cX8_makeNode 102 = .ok (.iastore, 1) := dk_79 (dk_at dksX8_makeNode_4 9 rfl rfl)
theorem dX8_makeNode_103 : decode cX8_makeNode 103 = .ok (.iload_n 3, 1) := dk_29 (dk_at dksX8_makeNode_4 10 rfl rfl)
theorem dX8_makeNode_104 : decode cX8_makeNode 104 = .ok (.ireturn, 1) := dk_172 (dk_at dksX8_makeNode_4 11 rfl rfl)
abbrev cX8_n : ByteArray := prog_18_method_8_code
def yX8_n : MethodName := ⟨RX8, "n", "(I)I"⟩
def dkwX8_n_0 : List UInt8 := [17, 10, 250, 16, 7, 26, 104, 96, 172]
abbrev dktX8_n_0 : List UInt8 := dkwX8_n_0 ++ []
theorem dksX8_n_0 : cX8_n.data.toList.drop 0 = dktX8_n_0 := by decide +kernel
theorem dX8_n_0 : decode cX8_n 0 = .ok (.sipush 2810, 3) := dk_17 10 250 (dk_at dksX8_n_0 0 rfl rfl)
theorem dX8_n_3 : decode cX8_n 3 = .ok (.bipush 7, 2) := dk_16 7 (dk_at dksX8_n_0 3 rfl rfl)
theorem dX8_n_5 : decode cX8_n 5 = .ok (.iload_n 0, 1) := dk_26 (dk_at dksX8_n_0 5 rfl rfl)
theorem dX8_n_6 : decode cX8_n 6 = .ok (.imul, 1) := dk_104 (dk_at dksX8_n_0 6 rfl rfl)
theorem dX8_n_7 : decode cX8_n 7 = .ok (.iadd, 1) := dk_96 (dk_at dksX8_n_0 7 rfl rfl)
theorem dX8_n_8 : decode cX8_n 8 = .ok (.ireturn, 1) := dk_172 (dk_at dksX8_n_0 8 rfl rfl)
abbrev cX8_one : ByteArray := prog_18_method_4_code
def yX8_one : MethodName := ⟨RX8, "one", "(Z)I"⟩
def dkwX8_one_0 : List UInt8 := [26, 153, 0, 7, 4, 167, 0, 4, 3, 172]
abbrev dktX8_one_0 : List UInt8 := dkwX8_one_0 ++ []
theorem dksX8_one_0 : cX8_one.data.toList.drop 0 = dktX8_one_0 := by decide +kernel
theorem dX8_one_0 : decode cX8_one 0 = .ok (.iload_n 0, 1) := dk_26 (dk_at dksX8_one_0 0 rfl rfl)
theorem dX8_one_1 : decode cX8_one 1 = .ok (.ifCond .eq 7, 3) := dk_153 0 7 (dk_at dksX8_one_0 1 rfl rfl)
theorem dX8_one_4 : decode cX8_one 4 = .ok (.iconst 1, 1) := dk_4 (dk_at dksX8_one_0 4 rfl rfl)
theorem dX8_one_5 : decode cX8_one 5 = .ok (.goto 4, 3) := dk_167 0 4 (dk_at dksX8_one_0 5 rfl rfl)
theorem dX8_one_8 : decode cX8_one 8 = .ok (.iconst 0, 1) := dk_3 (dk_at dksX8_one_0 8 rfl rfl)
theorem dX8_one_9 : decode cX8_one 9 = .ok (.ireturn, 1) := dk_172 (dk_at dksX8_one_0 9 rfl rfl)
abbrev cX8_makeLevel : ByteArray := prog_18_method_32_code
def yX8_makeLevel : MethodName := ⟨RX8, "makeLevel", "(I)I"⟩
def dkwX8_makeLevel_3 : List UInt8 := [167, 255, 191, 28, 172]
abbrev dktX8_makeLevel_3 : List UInt8 := dkwX8_makeLevel_3 ++ []
def dkwX8_makeLevel_2 : List UInt8 := [167, 255, 230, 42, 180, 0, 29, 28, 42, 3, 21, 4, 182, 0, 86, 79, 132, 2, 1, 132, 3, 4]
abbrev dktX8_makeLevel_2 : List UInt8 := dkwX8_makeLevel_2 ++ dktX8_makeLevel_3
def dkwX8_makeLevel_1 : List UInt8 := [21, 4, 162, 0, 25, 42, 180, 0, 23, 21, 5, 42, 180, 0, 29, 29, 21, 5, 96, 46, 79, 132, 5, 1]
abbrev dktX8_makeLevel_1 : List UInt8 := dkwX8_makeLevel_1 ++ dktX8_makeLevel_2
def dkwX8_makeLevel_0 : List UInt8 := [3, 61, 3, 62, 29, 27, 162, 0, 66, 7, 27, 29, 100, 184, 0, 124, 54, 4, 3, 54, 5, 21, 5]
abbrev dktX8_makeLevel_0 : List UInt8 := dkwX8_makeLevel_0 ++ dktX8_makeLevel_1
theorem dksX8_makeLevel_0 : cX8_makeLevel.data.toList.drop 0 = dktX8_makeLevel_0 := by decide +kernel
theorem dksX8_makeLevel_1 : cX8_makeLevel.data.toList.drop 23 = dktX8_makeLevel_1 := dk_seg dksX8_makeLevel_0 23 rfl rfl
theorem dksX8_makeLevel_2 : cX8_makeLevel.data.toList.drop 47 = dktX8_makeLevel_2 := dk_seg dksX8_makeLevel_1 24 rfl rfl
theorem dksX8_makeLevel_3 : cX8_makeLevel.data.toList.drop 69 = dktX8_makeLevel_3 := dk_seg dksX8_makeLevel_2 22 rfl rfl
theorem dX8_makeLevel_0 : decode cX8_makeLevel 0 = .ok (.iconst 0, 1) := dk_3 (dk_at dksX8_makeLevel_0 0 rfl rfl)
theorem dX8_makeLevel_1 : decode cX8_makeLevel 1 = .ok (.istore_n 2, 1) := dk_61 (dk_at dksX8_makeLevel_0 1 rfl rfl)
theorem dX8_makeLevel_2 : decode cX8_makeLevel 2 = .ok (.iconst 0, 1) := dk_3 (dk_at dksX8_makeLevel_0 2 rfl rfl)
theorem dX8_makeLevel_3 : decode cX8_makeLevel 3 = .ok (.istore_n 3, 1) := dk_62 (dk_at dksX8_makeLevel_0 3 rfl rfl)
theorem dX8_makeLevel_4 : decode cX8_makeLevel 4 = .ok (.iload_n 3, 1) := dk_29 (dk_at dksX8_makeLevel_0 4 rfl rfl)
theorem dX8_makeLevel_5 : decode cX8_makeLevel 5 = .ok (.iload_n 1, 1) := dk_27 (dk_at dksX8_makeLevel_0 5 rfl rfl)
theorem dX8_makeLevel_6 : decode cX8_makeLevel 6 = .ok (.if_icmp .ge 66, 3) := dk_162 0 66 (dk_at dksX8_makeLevel_0 6 rfl rfl)
theorem dX8_makeLevel_9 : decode cX8_makeLevel 9 = .ok (.iconst 4, 1) := dk_7 (dk_at dksX8_makeLevel_0 9 rfl rfl)
theorem dX8_makeLevel_10 : decode cX8_makeLevel 10 = .ok (.iload_n 1, 1) := dk_27 (dk_at dksX8_makeLevel_0 10 rfl rfl)
theorem dX8_makeLevel_11 : decode cX8_makeLevel 11 = .ok (.iload_n 3, 1) := dk_29 (dk_at dksX8_makeLevel_0 11 rfl rfl)
theorem dX8_makeLevel_12 : decode cX8_makeLevel 12 = .ok (.isub, 1) := dk_100 (dk_at dksX8_makeLevel_0 12 rfl rfl)
theorem dX8_makeLevel_13 : decode cX8_makeLevel 13 = .ok (.invokestatic 124, 3) := dk_184 0 124 (dk_at dksX8_makeLevel_0 13 rfl rfl)
theorem dX8_makeLevel_16 : decode cX8_makeLevel 16 = .ok (.istore 4, 2) := dk_54 4 (dk_at dksX8_makeLevel_0 16 rfl rfl)
theorem dX8_makeLevel_18 : decode cX8_makeLevel 18 = .ok (.iconst 0, 1) := dk_3 (dk_at dksX8_makeLevel_0 18 rfl rfl)
theorem dX8_makeLevel_19 : decode cX8_makeLevel 19 = .ok (.istore 5, 2) := dk_54 5 (dk_at dksX8_makeLevel_0 19 rfl rfl)
theorem dX8_makeLevel_21 : decode cX8_makeLevel 21 = .ok (.iload 5, 2) := dk_21 5 (dk_at dksX8_makeLevel_0 21 rfl rfl)
theorem dX8_makeLevel_23 : decode cX8_makeLevel 23 = .ok (.iload 4, 2) := dk_21 4 (dk_at dksX8_makeLevel_1 0 rfl rfl)
theorem dX8_makeLevel_25 : decode cX8_makeLevel 25 = .ok (.if_icmp .ge 25, 3) := dk_162 0 25 (dk_at dksX8_makeLevel_1 2 rfl rfl)
theorem dX8_makeLevel_28 : decode cX8_makeLevel 28 = .ok (.aload_n 0, 1) := dk_42 (dk_at dksX8_makeLevel_1 5 rfl rfl)
theorem dX8_makeLevel_29 : decode cX8_makeLevel 29 = .ok (.getfield 23, 3) := dk_180 0 23 (dk_at dksX8_makeLevel_1 6 rfl rfl)
theorem dX8_makeLevel_32 : decode cX8_makeLevel 32 = .ok (.iload 5, 2) := dk_21 5 (dk_at dksX8_makeLevel_1 9 rfl rfl)
theorem dX8_makeLevel_34 : decode cX8_makeLevel 34 = .ok (.aload_n 0, 1) := dk_42 (dk_at dksX8_makeLevel_1 11 rfl rfl)
theorem dX8_makeLevel_35 : decode cX8_makeLevel 35 = .ok (.getfield 29, 3) := dk_180 0 29 (dk_at dksX8_makeLevel_1 12 rfl rfl)
theorem dX8_makeLevel_38 : decode cX8_makeLevel 38 = .ok (.iload_n 3, 1) := dk_29 (dk_at dksX8_makeLevel_1 15 rfl rfl)
theorem dX8_makeLevel_39 : decode cX8_makeLevel 39 = .ok (.iload 5, 2) := dk_21 5 (dk_at dksX8_makeLevel_1 16 rfl rfl)
theorem dX8_makeLevel_41 : decode cX8_makeLevel 41 = .ok (.iadd, 1) := dk_96 (dk_at dksX8_makeLevel_1 18 rfl rfl)
theorem dX8_makeLevel_42 : decode cX8_makeLevel 42 = .ok (.iaload, 1) := dk_46 (dk_at dksX8_makeLevel_1 19 rfl rfl)
theorem dX8_makeLevel_43 : decode cX8_makeLevel 43 = .ok (.iastore, 1) := dk_79 (dk_at dksX8_makeLevel_1 20 rfl rfl)
theorem dX8_makeLevel_44 : decode cX8_makeLevel 44 = .ok (.iinc 5 1, 3) := dk_132 5 1 (dk_at dksX8_makeLevel_1 21 rfl rfl)
theorem dX8_makeLevel_47 : decode cX8_makeLevel 47 = .ok (.goto (-26), 3) := dk_167 255 230 (dk_at dksX8_makeLevel_2 0 rfl rfl)
theorem dX8_makeLevel_50 : decode cX8_makeLevel 50 = .ok (.aload_n 0, 1) := dk_42 (dk_at dksX8_makeLevel_2 3 rfl rfl)
theorem dX8_makeLevel_51 : decode cX8_makeLevel 51 = .ok (.getfield 29, 3) := dk_180 0 29 (dk_at dksX8_makeLevel_2 4 rfl rfl)
theorem dX8_makeLevel_54 : decode cX8_makeLevel 54 = .ok (.iload_n 2, 1) := dk_28 (dk_at dksX8_makeLevel_2 7 rfl rfl)
theorem dX8_makeLevel_55 : decode cX8_makeLevel 55 = .ok (.aload_n 0, 1) := dk_42 (dk_at dksX8_makeLevel_2 8 rfl rfl)
theorem dX8_makeLevel_56 : decode cX8_makeLevel 56 = .ok (.iconst 0, 1) := dk_3 (dk_at dksX8_makeLevel_2 9 rfl rfl)
theorem dX8_makeLevel_57 : decode cX8_makeLevel 57 = .ok (.iload 4, 2) := dk_21 4 (dk_at dksX8_makeLevel_2 10 rfl rfl)
theorem dX8_makeLevel_59 : decode cX8_makeLevel 59 = .ok (.invokevirtual 86, 3) := dk_182 0 86 (dk_at dksX8_makeLevel_2 12 rfl rfl)
theorem dX8_makeLevel_62 : decode cX8_makeLevel 62 = .ok (.iastore, 1) := dk_79 (dk_at dksX8_makeLevel_2 15 rfl rfl)
theorem dX8_makeLevel_63 : decode cX8_makeLevel 63 = .ok (.iinc 2 1, 3) := dk_132 2 1 (dk_at dksX8_makeLevel_2 16 rfl rfl)
theorem dX8_makeLevel_66 : decode cX8_makeLevel 66 = .ok (.iinc 3 4, 3) := dk_132 3 4 (dk_at dksX8_makeLevel_2 19 rfl rfl)
theorem dX8_makeLevel_69 : decode cX8_makeLevel 69 = .ok (.goto (-65), 3) := dk_167 255 191 (dk_at dksX8_makeLevel_3 0 rfl rfl)
theorem dX8_makeLevel_72 : decode cX8_makeLevel 72 = .ok (.iload_n 2, 1) := dk_28 (dk_at dksX8_makeLevel_3 3 rfl rfl)
theorem dX8_makeLevel_73 : decode cX8_makeLevel 73 = .ok (.ireturn, 1) := dk_172 (dk_at dksX8_makeLevel_3 4 rfl rfl)
abbrev cX8_addVersion : ByteArray := prog_18_method_30_code
def yX8_addVersion : MethodName := ⟨RX8, "addVersion", "(IIII)I"⟩
def dkwX8_addVersion_7 : List UInt8 := [21, 5, 172]
abbrev dktX8_addVersion_7 : List UInt8 := dkwX8_addVersion_7 ++ []
def dkwX8_addVersion_6 : List UInt8 := [182, 0, 129, 167, 0, 4, 3, 79, 132, 7, 1, 167, 255, 191, 42, 180, 0, 9, 3, 92, 46, 4, 96, 79]
abbrev dktX8_addVersion_6 : List UInt8 := dkwX8_addVersion_6 ++ dktX8_addVersion_7
def dkwX8_addVersion_5 : List UInt8 := [54, 8, 42, 180, 0, 9, 21, 5, 184, 0, 115, 21, 7, 96, 21, 8, 153, 0, 13, 42, 27, 21, 7]
abbrev dktX8_addVersion_5 : List UInt8 := dkwX8_addVersion_5 ++ dktX8_addVersion_6
def dkwX8_addVersion_4 : List UInt8 := [27, 2, 159, 0, 21, 21, 7, 28, 42, 27, 182, 0, 121, 184, 0, 124, 162, 0, 7, 4, 167, 0, 4, 3]
abbrev dktX8_addVersion_4 : List UInt8 := dkwX8_addVersion_4 ++ dktX8_addVersion_5
def dkwX8_addVersion_3 : List UInt8 := [21, 6, 8, 96, 42, 180, 0, 9, 4, 46, 21, 4, 100, 79, 3, 54, 7, 21, 7, 16, 64, 162, 0, 64]
abbrev dktX8_addVersion_3 : List UInt8 := dkwX8_addVersion_3 ++ dktX8_addVersion_4
def dkwX8_addVersion_2 : List UInt8 := [42, 180, 0, 9, 21, 6, 6, 96, 27, 79, 42, 180, 0, 9, 21, 6, 7, 96, 3, 79, 42, 180, 0, 9]
abbrev dktX8_addVersion_2 : List UInt8 := dkwX8_addVersion_2 ++ dktX8_addVersion_3
def dkwX8_addVersion_1 : List UInt8 := [79, 42, 180, 0, 9, 21, 6, 4, 96, 29, 79, 42, 180, 0, 9, 21, 6, 5, 96, 28, 184, 0, 118, 79]
abbrev dktX8_addVersion_1 : List UInt8 := dkwX8_addVersion_1 ++ dktX8_addVersion_2
def dkwX8_addVersion_0 : List UInt8 := [42, 180, 0, 9, 3, 46, 54, 5, 21, 5, 184, 0, 112, 54, 6, 42, 180, 0, 9, 21, 6, 3, 96, 28]
abbrev dktX8_addVersion_0 : List UInt8 := dkwX8_addVersion_0 ++ dktX8_addVersion_1
theorem dksX8_addVersion_0 : cX8_addVersion.data.toList.drop 0 = dktX8_addVersion_0 := by decide +kernel
theorem dksX8_addVersion_1 : cX8_addVersion.data.toList.drop 24 = dktX8_addVersion_1 := dk_seg dksX8_addVersion_0 24 rfl rfl
theorem dksX8_addVersion_2 : cX8_addVersion.data.toList.drop 48 = dktX8_addVersion_2 := dk_seg dksX8_addVersion_1 24 rfl rfl
theorem dksX8_addVersion_3 : cX8_addVersion.data.toList.drop 72 = dktX8_addVersion_3 := dk_seg dksX8_addVersion_2 24 rfl rfl
theorem dksX8_addVersion_4 : cX8_addVersion.data.toList.drop 96 = dktX8_addVersion_4 := dk_seg dksX8_addVersion_3 24 rfl rfl
theorem dksX8_addVersion_5 : cX8_addVersion.data.toList.drop 120 = dktX8_addVersion_5 := dk_seg dksX8_addVersion_4 24 rfl rfl
theorem dksX8_addVersion_6 : cX8_addVersion.data.toList.drop 143 = dktX8_addVersion_6 := dk_seg dksX8_addVersion_5 23 rfl rfl
theorem dksX8_addVersion_7 : cX8_addVersion.data.toList.drop 167 = dktX8_addVersion_7 := dk_seg dksX8_addVersion_6 24 rfl rfl
theorem dX8_addVersion_0 : decode cX8_addVersion 0 = .ok (.aload_n 0, 1) := dk_42 (dk_at dksX8_addVersion_0 0 rfl rfl)
theorem dX8_addVersion_1 : decode cX8_addVersion 1 = .ok (.getfield 9, 3) := dk_180 0 9 (dk_at dksX8_addVersion_0 1 rfl rfl)
theorem dX8_addVersion_4 : decode cX8_addVersion 4 = .ok (.iconst 0, 1) := dk_3 (dk_at dksX8_addVersion_0 4 rfl rfl)
theorem dX8_addVersion_5 : decode cX8_addVersion 5 = .ok (.iaload, 1) := dk_46 (dk_at dksX8_addVersion_0 5 rfl rfl)
theorem dX8_addVersion_6 : decode cX8_addVersion 6 = .ok (.istore 5, 2) := dk_54 5 (dk_at dksX8_addVersion_0 6 rfl rfl)
theorem dX8_addVersion_8 : decode cX8_addVersion 8 = .ok (.iload 5, 2) := dk_21 5 (dk_at dksX8_addVersion_0 8 rfl rfl)
theorem dX8_addVersion_10 : decode cX8_addVersion 10 = .ok (.invokestatic 112, 3) := dk_184 0 112 (dk_at dksX8_addVersion_0 10 rfl rfl)
theorem dX8_addVersion_13 : decode cX8_addVersion 13 = .ok (.istore 6, 2) := dk_54 6 (dk_at dksX8_addVersion_0 13 rfl rfl)
theorem dX8_addVersion_15 : decode cX8_addVersion 15 = .ok (.aload_n 0, 1) := dk_42 (dk_at dksX8_addVersion_0 15 rfl rfl)
theorem dX8_addVersion_16 : decode cX8_addVersion 16 = .ok (.getfield 9, 3) := dk_180 0 9 (dk_at dksX8_addVersion_0 16 rfl rfl)
theorem dX8_addVersion_19 : decode cX8_addVersion 19 = .ok (.iload 6, 2) := dk_21 6 (dk_at dksX8_addVersion_0 19 rfl rfl)
theorem dX8_addVersion_21 : decode cX8_addVersion 21 = .ok (.iconst 0, 1) := dk_3 (dk_at dksX8_addVersion_0 21 rfl rfl)
theorem dX8_addVersion_22 : decode cX8_addVersion 22 = .ok (.iadd, 1) := dk_96 (dk_at dksX8_addVersion_0 22 rfl rfl)
theorem dX8_addVersion_23 : decode cX8_addVersion 23 = .ok (.iload_n 2, 1) := dk_28 (dk_at dksX8_addVersion_0 23 rfl rfl)
theorem dX8_addVersion_24 : decode cX8_addVersion 24 = .ok (.iastore, 1) := dk_79 (dk_at dksX8_addVersion_1 0 rfl rfl)
theorem dX8_addVersion_25 : decode cX8_addVersion 25 = .ok (.aload_n 0, 1) := dk_42 (dk_at dksX8_addVersion_1 1 rfl rfl)
theorem dX8_addVersion_26 : decode cX8_addVersion 26 = .ok (.getfield 9, 3) := dk_180 0 9 (dk_at dksX8_addVersion_1 2 rfl rfl)
theorem dX8_addVersion_29 : decode cX8_addVersion 29 = .ok (.iload 6, 2) := dk_21 6 (dk_at dksX8_addVersion_1 5 rfl rfl)
theorem dX8_addVersion_31 : decode cX8_addVersion 31 = .ok (.iconst 1, 1) := dk_4 (dk_at dksX8_addVersion_1 7 rfl rfl)
theorem dX8_addVersion_32 : decode cX8_addVersion 32 = .ok (.iadd, 1) := dk_96 (dk_at dksX8_addVersion_1 8 rfl rfl)
theorem dX8_addVersion_33 : decode cX8_addVersion 33 = .ok (.iload_n 3, 1) := dk_29 (dk_at dksX8_addVersion_1 9 rfl rfl)
theorem dX8_addVersion_34 : decode cX8_addVersion 34 = .ok (.iastore, 1) := dk_79 (dk_at dksX8_addVersion_1 10 rfl rfl)
theorem dX8_addVersion_35 : decode cX8_addVersion 35 = .ok (.aload_n 0, 1) := dk_42 (dk_at dksX8_addVersion_1 11 rfl rfl)
theorem dX8_addVersion_36 : decode cX8_addVersion 36 = .ok (.getfield 9, 3) := dk_180 0 9 (dk_at dksX8_addVersion_1 12 rfl rfl)
theorem dX8_addVersion_39 : decode cX8_addVersion 39 = .ok (.iload 6, 2) := dk_21 6 (dk_at dksX8_addVersion_1 15 rfl rfl)
theorem dX8_addVersion_41 : decode cX8_addVersion 41 = .ok (.iconst 2, 1) := dk_5 (dk_at dksX8_addVersion_1 17 rfl rfl)
theorem dX8_addVersion_42 : decode cX8_addVersion 42 = .ok (.iadd, 1) := dk_96 (dk_at dksX8_addVersion_1 18 rfl rfl)
theorem dX8_addVersion_43 : decode cX8_addVersion 43 = .ok (.iload_n 2, 1) := dk_28 (dk_at dksX8_addVersion_1 19 rfl rfl)
theorem dX8_addVersion_44 : decode cX8_addVersion 44 = .ok (.invokestatic 118, 3) := dk_184 0 118 (dk_at dksX8_addVersion_1 20 rfl rfl)
theorem dX8_addVersion_47 : decode cX8_addVersion 47 = .ok (.iastore, 1) := dk_79 (dk_at dksX8_addVersion_1 23 rfl rfl)
theorem dX8_addVersion_48 : decode cX8_addVersion 48 = .ok (.aload_n 0, 1) := dk_42 (dk_at dksX8_addVersion_2 0 rfl rfl)
theorem dX8_addVersion_49 : decode cX8_addVersion 49 = .ok (.getfield 9, 3) := dk_180 0 9 (dk_at dksX8_addVersion_2 1 rfl rfl)
theorem dX8_addVersion_52 : decode cX8_addVersion 52 = .ok (.iload 6, 2) := dk_21 6 (dk_at dksX8_addVersion_2 4 rfl rfl)
theorem dX8_addVersion_54 : decode cX8_addVersion 54 = .ok (.iconst 3, 1) := dk_6 (dk_at dksX8_addVersion_2 6 rfl rfl)
theorem dX8_addVersion_55 : decode cX8_addVersion 55 = .ok (.iadd, 1) := dk_96 (dk_at dksX8_addVersion_2 7 rfl rfl)
theorem dX8_addVersion_56 : decode cX8_addVersion 56 = .ok (.iload_n 1, 1) := dk_27 (dk_at dksX8_addVersion_2 8 rfl rfl)
theorem dX8_addVersion_57 : decode cX8_addVersion 57 = .ok (.iastore, 1) := dk_79 (dk_at dksX8_addVersion_2 9 rfl rfl)
theorem dX8_addVersion_58 : decode cX8_addVersion 58 = .ok (.aload_n 0, 1) := dk_42 (dk_at dksX8_addVersion_2 10 rfl rfl)
theorem dX8_addVersion_59 : decode cX8_addVersion 59 = .ok (.getfield 9, 3) := dk_180 0 9 (dk_at dksX8_addVersion_2 11 rfl rfl)
theorem dX8_addVersion_62 : decode cX8_addVersion 62 = .ok (.iload 6, 2) := dk_21 6 (dk_at dksX8_addVersion_2 14 rfl rfl)
theorem dX8_addVersion_64 : decode cX8_addVersion 64 = .ok (.iconst 4, 1) := dk_7 (dk_at dksX8_addVersion_2 16 rfl rfl)
theorem dX8_addVersion_65 : decode cX8_addVersion 65 = .ok (.iadd, 1) := dk_96 (dk_at dksX8_addVersion_2 17 rfl rfl)
theorem dX8_addVersion_66 : decode cX8_addVersion 66 = .ok (.iconst 0, 1) := dk_3 (dk_at dksX8_addVersion_2 18 rfl rfl)
theorem dX8_addVersion_67 : decode cX8_addVersion 67 = .ok (.iastore, 1) := dk_79 (dk_at dksX8_addVersion_2 19 rfl rfl)
theorem dX8_addVersion_68 : decode cX8_addVersion 68 = .ok (.aload_n 0, 1) := dk_42 (dk_at dksX8_addVersion_2 20 rfl rfl)
theorem dX8_addVersion_69 : decode cX8_addVersion 69 = .ok (.getfield 9, 3) := dk_180 0 9 (dk_at dksX8_addVersion_2 21 rfl rfl)
theorem dX8_addVersion_72 : decode cX8_addVersion 72 = .ok (.iload 6, 2) := dk_21 6 (dk_at dksX8_addVersion_3 0 rfl rfl)
theorem dX8_addVersion_74 : decode cX8_addVersion 74 = .ok (.iconst 5, 1) := dk_8 (dk_at dksX8_addVersion_3 2 rfl rfl)
theorem dX8_addVersion_75 : decode cX8_addVersion 75 = .ok (.iadd, 1) := dk_96 (dk_at dksX8_addVersion_3 3 rfl rfl)
theorem dX8_addVersion_76 : decode cX8_addVersion 76 = .ok (.aload_n 0, 1) := dk_42 (dk_at dksX8_addVersion_3 4 rfl rfl)
theorem dX8_addVersion_77 : decode cX8_addVersion 77 = .ok (.getfield 9, 3) := dk_180 0 9 (dk_at dksX8_addVersion_3 5 rfl rfl)
theorem dX8_addVersion_80 : decode cX8_addVersion 80 = .ok (.iconst 1, 1) := dk_4 (dk_at dksX8_addVersion_3 8 rfl rfl)
theorem dX8_addVersion_81 : decode cX8_addVersion 81 = .ok (.iaload, 1) := dk_46 (dk_at dksX8_addVersion_3 9 rfl rfl)
theorem dX8_addVersion_82 : decode cX8_addVersion 82 = .ok (.iload 4, 2) := dk_21 4 (dk_at dksX8_addVersion_3 10 rfl rfl)
theorem dX8_addVersion_84 : decode cX8_addVersion 84 = .ok (.isub, 1) := dk_100 (dk_at dksX8_addVersion_3 12 rfl rfl)
theorem dX8_addVersion_85 : decode cX8_addVersion 85 = .ok (.iastore, 1) := dk_79 (dk_at dksX8_addVersion_3 13 rfl rfl)
theorem dX8_addVersion_86 : decode cX8_addVersion 86 = .ok (.iconst 0, 1) := dk_3 (dk_at dksX8_addVersion_3 14 rfl rfl)
theorem dX8_addVersion_87 : decode cX8_addVersion 87 = .ok (.istore 7, 2) := dk_54 7 (dk_at dksX8_addVersion_3 15 rfl rfl)
theorem dX8_addVersion_89 : decode cX8_addVersion 89 = .ok (.iload 7, 2) := dk_21 7 (dk_at dksX8_addVersion_3 17 rfl rfl)
theorem dX8_addVersion_91 : decode cX8_addVersion 91 = .ok (.bipush 64, 2) := dk_16 64 (dk_at dksX8_addVersion_3 19 rfl rfl)
theorem dX8_addVersion_93 : decode cX8_addVersion 93 = .ok (.if_icmp .ge 64, 3) := dk_162 0 64 (dk_at dksX8_addVersion_3 21 rfl rfl)
theorem dX8_addVersion_96 : decode cX8_addVersion 96 = .ok (.iload_n 1, 1) := dk_27 (dk_at dksX8_addVersion_4 0 rfl rfl)
theorem dX8_addVersion_97 : decode cX8_addVersion 97 = .ok (.iconst (-1), 1) := dk_2 (dk_at dksX8_addVersion_4 1 rfl rfl)
theorem dX8_addVersion_98 : decode cX8_addVersion 98 = .ok (.if_icmp .eq 21, 3) := dk_159 0 21 (dk_at dksX8_addVersion_4 2 rfl rfl)
theorem dX8_addVersion_101 : decode cX8_addVersion 101 = .ok (.iload 7, 2) := dk_21 7 (dk_at dksX8_addVersion_4 5 rfl rfl)
theorem dX8_addVersion_103 : decode cX8_addVersion 103 = .ok (.iload_n 2, 1) := dk_28 (dk_at dksX8_addVersion_4 7 rfl rfl)
theorem dX8_addVersion_104 : decode cX8_addVersion 104 = .ok (.aload_n 0, 1) := dk_42 (dk_at dksX8_addVersion_4 8 rfl rfl)
theorem dX8_addVersion_105 : decode cX8_addVersion 105 = .ok (.iload_n 1, 1) := dk_27 (dk_at dksX8_addVersion_4 9 rfl rfl)
theorem dX8_addVersion_106 : decode cX8_addVersion 106 = .ok (.invokevirtual 121, 3) := dk_182 0 121 (dk_at dksX8_addVersion_4 10 rfl rfl)
theorem dX8_addVersion_109 : decode cX8_addVersion 109 = .ok (.invokestatic 124, 3) := dk_184 0 124 (dk_at dksX8_addVersion_4 13 rfl rfl)
theorem dX8_addVersion_112 : decode cX8_addVersion 112 = .ok (.if_icmp .ge 7, 3) := dk_162 0 7 (dk_at dksX8_addVersion_4 16 rfl rfl)
theorem dX8_addVersion_115 : decode cX8_addVersion 115 = .ok (.iconst 1, 1) := dk_4 (dk_at dksX8_addVersion_4 19 rfl rfl)
theorem dX8_addVersion_116 : decode cX8_addVersion 116 = .ok (.goto 4, 3) := dk_167 0 4 (dk_at dksX8_addVersion_4 20 rfl rfl)
theorem dX8_addVersion_119 : decode cX8_addVersion 119 = .ok (.iconst 0, 1) := dk_3 (dk_at dksX8_addVersion_4 23 rfl rfl)
theorem dX8_addVersion_120 : decode cX8_addVersion 120 = .ok (.istore 8, 2) := dk_54 8 (dk_at dksX8_addVersion_5 0 rfl rfl)
theorem dX8_addVersion_122 : decode cX8_addVersion 122 = .ok (.aload_n 0, 1) := dk_42 (dk_at dksX8_addVersion_5 2 rfl rfl)
theorem dX8_addVersion_123 : decode cX8_addVersion 123 = .ok (.getfield 9, 3) := dk_180 0 9 (dk_at dksX8_addVersion_5 3 rfl rfl)
theorem dX8_addVersion_126 : decode cX8_addVersion 126 = .ok (.iload 5, 2) := dk_21 5 (dk_at dksX8_addVersion_5 6 rfl rfl)
theorem dX8_addVersion_128 : decode cX8_addVersion 128 = .ok (.invokestatic 115, 3) := dk_184 0 115 (dk_at dksX8_addVersion_5 8 rfl rfl)
theorem dX8_addVersion_131 : decode cX8_addVersion 131 = .ok (.iload 7, 2) := dk_21 7 (dk_at dksX8_addVersion_5 11 rfl rfl)
theorem dX8_addVersion_133 : decode cX8_addVersion 133 = .ok (.iadd, 1) := dk_96 (dk_at dksX8_addVersion_5 13 rfl rfl)
theorem dX8_addVersion_134 : decode cX8_addVersion 134 = .ok (.iload 8, 2) := dk_21 8 (dk_at dksX8_addVersion_5 14 rfl rfl)
theorem dX8_addVersion_136 : decode cX8_addVersion 136 = .ok (.ifCond .eq 13, 3) := dk_153 0 13 (dk_at dksX8_addVersion_5 16 rfl rfl)
theorem dX8_addVersion_139 : decode cX8_addVersion 139 = .ok (.aload_n 0, 1) := dk_42 (dk_at dksX8_addVersion_5 19 rfl rfl)
theorem dX8_addVersion_140 : decode cX8_addVersion 140 = .ok (.iload_n 1, 1) := dk_27 (dk_at dksX8_addVersion_5 20 rfl rfl)
theorem dX8_addVersion_141 : decode cX8_addVersion 141 = .ok (.iload 7, 2) := dk_21 7 (dk_at dksX8_addVersion_5 21 rfl rfl)
theorem dX8_addVersion_143 : decode cX8_addVersion 143 = .ok (.invokevirtual 129, 3) := dk_182 0 129 (dk_at dksX8_addVersion_6 0 rfl rfl)
theorem dX8_addVersion_146 : decode cX8_addVersion 146 = .ok (.goto 4, 3) := dk_167 0 4 (dk_at dksX8_addVersion_6 3 rfl rfl)
theorem dX8_addVersion_149 : decode cX8_addVersion 149 = .ok (.iconst 0, 1) := dk_3 (dk_at dksX8_addVersion_6 6 rfl rfl)
theorem dX8_addVersion_150 : decode cX8_addVersion 150 = .ok (.iastore, 1) := dk_79 (dk_at dksX8_addVersion_6 7 rfl rfl)
theorem dX8_addVersion_151 : decode cX8_addVersion 151 = .ok (.iinc 7 1, 3) := dk_132 7 1 (dk_at dksX8_addVersion_6 8 rfl rfl)
theorem dX8_addVersion_154 : decode cX8_addVersion 154 = .ok (.goto (-65), 3) := dk_167 255 191 (dk_at dksX8_addVersion_6 11 rfl rfl)
theorem dX8_addVersion_157 : decode cX8_addVersion 157 = .ok (.aload_n 0, 1) := dk_42 (dk_at dksX8_addVersion_6 14 rfl rfl)
theorem dX8_addVersion_158 : decode cX8_addVersion 158 = .ok (.getfield 9, 3) := dk_180 0 9 (dk_at dksX8_addVersion_6 15 rfl rfl)
theorem dX8_addVersion_161 : decode cX8_addVersion 161 = .ok (.iconst 0, 1) := dk_3 (dk_at dksX8_addVersion_6 18 rfl rfl)
theorem dX8_addVersion_162 : decode cX8_addVersion 162 = .ok (.dup2, 1) := dk_92 (dk_at dksX8_addVersion_6 19 rfl rfl)
theorem dX8_addVersion_163 : decode cX8_addVersion 163 = .ok (.iaload, 1) := dk_46 (dk_at dksX8_addVersion_6 20 rfl rfl)
theorem dX8_addVersion_164 : decode cX8_addVersion 164 = .ok (.iconst 1, 1) := dk_4 (dk_at dksX8_addVersion_6 21 rfl rfl)
theorem dX8_addVersion_165 : decode cX8_addVersion 165 = .ok (.iadd, 1) := dk_96 (dk_at dksX8_addVersion_6 22 rfl rfl)
theorem dX8_addVersion_166 : decode cX8_addVersion 166 = .ok (.iastore, 1) := dk_79 (dk_at dksX8_addVersion_6 23 rfl rfl)
theorem dX8_addVersion_167 : decode cX8_addVersion 167 = .ok (.iload 5, 2) := dk_21 5 (dk_at dksX8_addVersion_7 0 rfl rfl)
theorem dX8_addVersion_169 : decode cX8_addVersion 169 = .ok (.ireturn, 1) := dk_172 (dk_at dksX8_addVersion_7 2 rfl rfl)
abbrev cX8_v : ByteArray := prog_18_method_6_code
def yX8_v : MethodName := ⟨RX8, "v", "(I)I"⟩
def dkwX8_v_0 : List UInt8 := [16, 10, 16, 6, 26, 104, 96, 172]
abbrev dktX8_v_0 : List UInt8 := dkwX8_v_0 ++ []
theorem dksX8_v_0 : cX8_v.data.toList.drop 0 = dktX8_v_0 := by decide +kernel
theorem dX8_v_0 : decode cX8_v 0 = .ok (.bipush 10, 2) := dk_16 10 (dk_at dksX8_v_0 0 rfl rfl)
theorem dX8_v_2 : decode cX8_v 2 = .ok (.bipush 6, 2) := dk_16 6 (dk_at dksX8_v_0 2 rfl rfl)
theorem dX8_v_4 : decode cX8_v 4 = .ok (.iload_n 0, 1) := dk_26 (dk_at dksX8_v_0 4 rfl rfl)
theorem dX8_v_5 : decode cX8_v 5 = .ok (.imul, 1) := dk_104 (dk_at dksX8_v_0 5 rfl rfl)
theorem dX8_v_6 : decode cX8_v 6 = .ok (.iadd, 1) := dk_96 (dk_at dksX8_v_0 6 rfl rfl)
theorem dX8_v_7 : decode cX8_v 7 = .ok (.ireturn, 1) := dk_172 (dk_at dksX8_v_0 7 rfl rfl)
abbrev cX8_heightFor : ByteArray := prog_18_method_14_code
def yX8_heightFor : MethodName := ⟨RX8, "heightFor", "(I)I"⟩
def dkwX8_heightFor_0 : List UInt8 := [26, 154, 0, 5, 3, 172, 4, 60, 27, 184, 0, 64, 26, 162, 0, 9, 132, 1, 1, 167, 255, 245, 27, 172]
abbrev dktX8_heightFor_0 : List UInt8 := dkwX8_heightFor_0 ++ []
theorem dksX8_heightFor_0 : cX8_heightFor.data.toList.drop 0 = dktX8_heightFor_0 := by decide +kernel
theorem dX8_heightFor_0 : decode cX8_heightFor 0 = .ok (.iload_n 0, 1) := dk_26 (dk_at dksX8_heightFor_0 0 rfl rfl)
theorem dX8_heightFor_1 : decode cX8_heightFor 1 = .ok (.ifCond .ne 5, 3) := dk_154 0 5 (dk_at dksX8_heightFor_0 1 rfl rfl)
theorem dX8_heightFor_4 : decode cX8_heightFor 4 = .ok (.iconst 0, 1) := dk_3 (dk_at dksX8_heightFor_0 4 rfl rfl)
theorem dX8_heightFor_5 : decode cX8_heightFor 5 = .ok (.ireturn, 1) := dk_172 (dk_at dksX8_heightFor_0 5 rfl rfl)
theorem dX8_heightFor_6 : decode cX8_heightFor 6 = .ok (.iconst 1, 1) := dk_4 (dk_at dksX8_heightFor_0 6 rfl rfl)
theorem dX8_heightFor_7 : decode cX8_heightFor 7 = .ok (.istore_n 1, 1) := dk_60 (dk_at dksX8_heightFor_0 7 rfl rfl)
theorem dX8_heightFor_8 : decode cX8_heightFor 8 = .ok (.iload_n 1, 1) := dk_27 (dk_at dksX8_heightFor_0 8 rfl rfl)
theorem dX8_heightFor_9 : decode cX8_heightFor 9 = .ok (.invokestatic 64, 3) := dk_184 0 64 (dk_at dksX8_heightFor_0 9 rfl rfl)
theorem dX8_heightFor_12 : decode cX8_heightFor 12 = .ok (.iload_n 0, 1) := dk_26 (dk_at dksX8_heightFor_0 12 rfl rfl)
theorem dX8_heightFor_13 : decode cX8_heightFor 13 = .ok (.if_icmp .ge 9, 3) := dk_162 0 9 (dk_at dksX8_heightFor_0 13 rfl rfl)
theorem dX8_heightFor_16 : decode cX8_heightFor 16 = .ok (.iinc 1 1, 3) := dk_132 1 1 (dk_at dksX8_heightFor_0 16 rfl rfl)
theorem dX8_heightFor_19 : decode cX8_heightFor 19 = .ok (.goto (-11), 3) := dk_167 255 245 (dk_at dksX8_heightFor_0 19 rfl rfl)
theorem dX8_heightFor_22 : decode cX8_heightFor 22 = .ok (.iload_n 1, 1) := dk_27 (dk_at dksX8_heightFor_0 22 rfl rfl)
theorem dX8_heightFor_23 : decode cX8_heightFor 23 = .ok (.ireturn, 1) := dk_172 (dk_at dksX8_heightFor_0 23 rfl rfl)
abbrev cX8_span : ByteArray := prog_18_method_13_code
def yX8_span : MethodName := ⟨RX8, "span", "(I)I"⟩
def dkwX8_span_0 : List UInt8 := [4, 60, 3, 61, 28, 26, 162, 0, 13, 27, 7, 104, 60, 132, 2, 1, 167, 255, 244, 27, 172]
abbrev dktX8_span_0 : List UInt8 := dkwX8_span_0 ++ []
theorem dksX8_span_0 : cX8_span.data.toList.drop 0 = dktX8_span_0 := by decide +kernel
theorem dX8_span_0 : decode cX8_span 0 = .ok (.iconst 1, 1) := dk_4 (dk_at dksX8_span_0 0 rfl rfl)
theorem dX8_span_1 : decode cX8_span 1 = .ok (.istore_n 1, 1) := dk_60 (dk_at dksX8_span_0 1 rfl rfl)
theorem dX8_span_2 : decode cX8_span 2 = .ok (.iconst 0, 1) := dk_3 (dk_at dksX8_span_0 2 rfl rfl)
theorem dX8_span_3 : decode cX8_span 3 = .ok (.istore_n 2, 1) := dk_61 (dk_at dksX8_span_0 3 rfl rfl)
theorem dX8_span_4 : decode cX8_span 4 = .ok (.iload_n 2, 1) := dk_28 (dk_at dksX8_span_0 4 rfl rfl)
theorem dX8_span_5 : decode cX8_span 5 = .ok (.iload_n 0, 1) := dk_26 (dk_at dksX8_span_0 5 rfl rfl)
theorem dX8_span_6 : decode cX8_span 6 = .ok (.if_icmp .ge 13, 3) := dk_162 0 13 (dk_at dksX8_span_0 6 rfl rfl)
theorem dX8_span_9 : decode cX8_span 9 = .ok (.iload_n 1, 1) := dk_27 (dk_at dksX8_span_0 9 rfl rfl)
theorem dX8_span_10 : decode cX8_span 10 = .ok (.iconst 4, 1) := dk_7 (dk_at dksX8_span_0 10 rfl rfl)
theorem dX8_span_11 : decode cX8_span 11 = .ok (.imul, 1) := dk_104 (dk_at dksX8_span_0 11 rfl rfl)
theorem dX8_span_12 : decode cX8_span 12 = .ok (.istore_n 1, 1) := dk_60 (dk_at dksX8_span_0 12 rfl rfl)
theorem dX8_span_13 : decode cX8_span 13 = .ok (.iinc 2 1, 3) := dk_132 2 1 (dk_at dksX8_span_0 13 rfl rfl)
theorem dX8_span_16 : decode cX8_span 16 = .ok (.goto (-12), 3) := dk_167 255 244 (dk_at dksX8_span_0 16 rfl rfl)
theorem dX8_span_19 : decode cX8_span 19 = .ok (.iload_n 1, 1) := dk_27 (dk_at dksX8_span_0 19 rfl rfl)
theorem dX8_span_20 : decode cX8_span 20 = .ok (.ireturn, 1) := dk_172 (dk_at dksX8_span_0 20 rfl rfl)
abbrev cX8_lengthOf : ByteArray := prog_18_method_25_code
def yX8_lengthOf : MethodName := ⟨RX8, "lengthOf", "(I)I"⟩
def dkwX8_lengthOf_0 : List UInt8 := [42, 180, 0, 9, 27, 184, 0, 112, 3, 96, 46, 172]
abbrev dktX8_lengthOf_0 : List UInt8 := dkwX8_lengthOf_0 ++ []
theorem dksX8_lengthOf_0 : cX8_lengthOf.data.toList.drop 0 = dktX8_lengthOf_0 := by decide +kernel
theorem dX8_lengthOf_0 : decode cX8_lengthOf 0 = .ok (.aload_n 0, 1) := dk_42 (dk_at dksX8_lengthOf_0 0 rfl rfl)
theorem dX8_lengthOf_1 : decode cX8_lengthOf 1 = .ok (.getfield 9, 3) := dk_180 0 9 (dk_at dksX8_lengthOf_0 1 rfl rfl)
theorem dX8_lengthOf_4 : decode cX8_lengthOf 4 = .ok (.iload_n 1, 1) := dk_27 (dk_at dksX8_lengthOf_0 4 rfl rfl)
theorem dX8_lengthOf_5 : decode cX8_lengthOf 5 = .ok (.invokestatic 112, 3) := dk_184 0 112 (dk_at dksX8_lengthOf_0 5 rfl rfl)
theorem dX8_lengthOf_8 : decode cX8_lengthOf 8 = .ok (.iconst 0, 1) := dk_3 (dk_at dksX8_lengthOf_0 8 rfl rfl)
theorem dX8_lengthOf_9 : decode cX8_lengthOf 9 = .ok (.iadd, 1) := dk_96 (dk_at dksX8_lengthOf_0 9 rfl rfl)
theorem dX8_lengthOf_10 : decode cX8_lengthOf 10 = .ok (.iaload, 1) := dk_46 (dk_at dksX8_lengthOf_0 10 rfl rfl)
theorem dX8_lengthOf_11 : decode cX8_lengthOf 11 = .ok (.ireturn, 1) := dk_172 (dk_at dksX8_lengthOf_0 11 rfl rfl)
abbrev cX8_e : ByteArray := prog_18_method_7_code
def yX8_e : MethodName := ⟨RX8, "e", "(I)I"⟩
def dkwX8_e_0 : List UInt8 := [17, 0, 250, 16, 64, 26, 104, 96, 172]
abbrev dktX8_e_0 : List UInt8 := dkwX8_e_0 ++ []
theorem dksX8_e_0 : cX8_e.data.toList.drop 0 = dktX8_e_0 := by decide +kernel
theorem dX8_e_0 : decode cX8_e 0 = .ok (.sipush 250, 3) := dk_17 0 250 (dk_at dksX8_e_0 0 rfl rfl)
theorem dX8_e_3 : decode cX8_e 3 = .ok (.bipush 64, 2) := dk_16 64 (dk_at dksX8_e_0 3 rfl rfl)
theorem dX8_e_5 : decode cX8_e 5 = .ok (.iload_n 0, 1) := dk_26 (dk_at dksX8_e_0 5 rfl rfl)
theorem dX8_e_6 : decode cX8_e 6 = .ok (.imul, 1) := dk_104 (dk_at dksX8_e_0 6 rfl rfl)
theorem dX8_e_7 : decode cX8_e 7 = .ok (.iadd, 1) := dk_96 (dk_at dksX8_e_0 7 rfl rfl)
theorem dX8_e_8 : decode cX8_e 8 = .ok (.ireturn, 1) := dk_172 (dk_at dksX8_e_0 8 rfl rfl)
abbrev cX8_element : ByteArray := prog_18_method_29_code
def yX8_element : MethodName := ⟨RX8, "element", "(II)I"⟩
def dkwX8_element_0 : List UInt8 := [42, 180, 0, 9, 27, 184, 0, 115, 28, 96, 46, 172]
abbrev dktX8_element_0 : List UInt8 := dkwX8_element_0 ++ []
theorem dksX8_element_0 : cX8_element.data.toList.drop 0 = dktX8_element_0 := by decide +kernel
theorem dX8_element_0 : decode cX8_element 0 = .ok (.aload_n 0, 1) := dk_42 (dk_at dksX8_element_0 0 rfl rfl)
theorem dX8_element_1 : decode cX8_element 1 = .ok (.getfield 9, 3) := dk_180 0 9 (dk_at dksX8_element_0 1 rfl rfl)
theorem dX8_element_4 : decode cX8_element 4 = .ok (.iload_n 1, 1) := dk_27 (dk_at dksX8_element_0 4 rfl rfl)
theorem dX8_element_5 : decode cX8_element 5 = .ok (.invokestatic 115, 3) := dk_184 0 115 (dk_at dksX8_element_0 5 rfl rfl)
theorem dX8_element_8 : decode cX8_element 8 = .ok (.iload_n 2, 1) := dk_28 (dk_at dksX8_element_0 8 rfl rfl)
theorem dX8_element_9 : decode cX8_element 9 = .ok (.iadd, 1) := dk_96 (dk_at dksX8_element_0 9 rfl rfl)
theorem dX8_element_10 : decode cX8_element 10 = .ok (.iaload, 1) := dk_46 (dk_at dksX8_element_0 10 rfl rfl)
theorem dX8_element_11 : decode cX8_element 11 = .ok (.ireturn, 1) := dk_172 (dk_at dksX8_element_0 11 rfl rfl)
abbrev cX8_thrown : ByteArray := prog_18_method_2_code
def yX8_thrown : MethodName := ⟨RX8, "thrown", "()I"⟩
theorem dX8_thrown_0 : decode cX8_thrown 0 = .ok (.aload_n 0, 1) := by decide +kernel
theorem dX8_thrown_1 : decode cX8_thrown 1 = .ok (.getfield 58, 3) := by decide +kernel
theorem dX8_thrown_4 : decode cX8_thrown 4 = .ok (.ireturn, 1) := by decide +kernel
abbrev cX8_appendInput : ByteArray := prog_18_method_48_code
def yX8_appendInput : MethodName := ⟨RX8, "appendInput", "(IIIII)I"⟩
def dkwX8_appendInput_2 : List UInt8 := [172]
abbrev dktX8_appendInput_2 : List UInt8 := dkwX8_appendInput_2 ++ []
def dkwX8_appendInput_1 : List UInt8 := [182, 0, 183, 42, 29, 182, 0, 183, 42, 21, 4, 182, 0, 183, 42, 21, 5, 182, 0, 183, 42, 180, 0, 180]
abbrev dktX8_appendInput_1 : List UInt8 := dkwX8_appendInput_1 ++ dktX8_appendInput_2
def dkwX8_appendInput_0 : List UInt8 := [42, 3, 181, 0, 58, 42, 180, 0, 180, 17, 2, 68, 164, 0, 5, 2, 172, 42, 27, 182, 0, 183, 42, 28]
abbrev dktX8_appendInput_0 : List UInt8 := dkwX8_appendInput_0 ++ dktX8_appendInput_1
theorem dksX8_appendInput_0 : cX8_appendInput.data.toList.drop 0 = dktX8_appendInput_0 := by decide +kernel
theorem dksX8_appendInput_1 : cX8_appendInput.data.toList.drop 24 = dktX8_appendInput_1 := dk_seg dksX8_appendInput_0 24 rfl rfl
theorem dksX8_appendInput_2 : cX8_appendInput.data.toList.drop 48 = dktX8_appendInput_2 := dk_seg dksX8_appendInput_1 24 rfl rfl
theorem dX8_appendInput_0 : decode cX8_appendInput 0 = .ok (.aload_n 0, 1) := dk_42 (dk_at dksX8_appendInput_0 0 rfl rfl)
theorem dX8_appendInput_1 : decode cX8_appendInput 1 = .ok (.iconst 0, 1) := dk_3 (dk_at dksX8_appendInput_0 1 rfl rfl)
theorem dX8_appendInput_2 : decode cX8_appendInput 2 = .ok (.putfield 58, 3) := dk_181 0 58 (dk_at dksX8_appendInput_0 2 rfl rfl)
theorem dX8_appendInput_5 : decode cX8_appendInput 5 = .ok (.aload_n 0, 1) := dk_42 (dk_at dksX8_appendInput_0 5 rfl rfl)
theorem dX8_appendInput_6 : decode cX8_appendInput 6 = .ok (.getfield 180, 3) := dk_180 0 180 (dk_at dksX8_appendInput_0 6 rfl rfl)
theorem dX8_appendInput_9 : decode cX8_appendInput 9 = .ok (.sipush 580, 3) := dk_17 2 68 (dk_at dksX8_appendInput_0 9 rfl rfl)
theorem dX8_appendInput_12 : decode cX8_appendInput 12 = .ok (.if_icmp .le 5, 3) := dk_164 0 5 (dk_at dksX8_appendInput_0 12 rfl rfl)
theorem dX8_appendInput_15 : decode cX8_appendInput 15 = .ok (.iconst (-1), 1) := dk_2 (dk_at dksX8_appendInput_0 15 rfl rfl)
theorem dX8_appendInput_16 : decode cX8_appendInput 16 = .ok (.ireturn, 1) := dk_172 (dk_at dksX8_appendInput_0 16 rfl rfl)
theorem dX8_appendInput_17 : decode cX8_appendInput 17 = .ok (.aload_n 0, 1) := dk_42 (dk_at dksX8_appendInput_0 17 rfl rfl)
theorem dX8_appendInput_18 : decode cX8_appendInput 18 = .ok (.iload_n 1, 1) := dk_27 (dk_at dksX8_appendInput_0 18 rfl rfl)
theorem dX8_appendInput_19 : decode cX8_appendInput 19 = .ok (.invokevirtual 183, 3) := dk_182 0 183 (dk_at dksX8_appendInput_0 19 rfl rfl)
theorem dX8_appendInput_22 : decode cX8_appendInput 22 = .ok (.aload_n 0, 1) := dk_42 (dk_at dksX8_appendInput_0 22 rfl rfl)
theorem dX8_appendInput_23 : decode cX8_appendInput 23 = .ok (.iload_n 2, 1) := dk_28 (dk_at dksX8_appendInput_0 23 rfl rfl)
theorem dX8_appendInput_24 : decode cX8_appendInput 24 = .ok (.invokevirtual 183, 3) := dk_182 0 183 (dk_at dksX8_appendInput_1 0 rfl rfl)
theorem dX8_appendInput_27 : decode cX8_appendInput 27 = .ok (.aload_n 0, 1) := dk_42 (dk_at dksX8_appendInput_1 3 rfl rfl)
theorem dX8_appendInput_28 : decode cX8_appendInput 28 = .ok (.iload_n 3, 1) := dk_29 (dk_at dksX8_appendInput_1 4 rfl rfl)
theorem dX8_appendInput_29 : decode cX8_appendInput 29 = .ok (.invokevirtual 183, 3) := dk_182 0 183 (dk_at dksX8_appendInput_1 5 rfl rfl)
theorem dX8_appendInput_32 : decode cX8_appendInput 32 = .ok (.aload_n 0, 1) := dk_42 (dk_at dksX8_appendInput_1 8 rfl rfl)
theorem dX8_appendInput_33 : decode cX8_appendInput 33 = .ok (.iload 4, 2) := dk_21 4 (dk_at dksX8_appendInput_1 9 rfl rfl)
theorem dX8_appendInput_35 : decode cX8_appendInput 35 = .ok (.invokevirtual 183, 3) := dk_182 0 183 (dk_at dksX8_appendInput_1 11 rfl rfl)
theorem dX8_appendInput_38 : decode cX8_appendInput 38 = .ok (.aload_n 0, 1) := dk_42 (dk_at dksX8_appendInput_1 14 rfl rfl)
theorem dX8_appendInput_39 : decode cX8_appendInput 39 = .ok (.iload 5, 2) := dk_21 5 (dk_at dksX8_appendInput_1 15 rfl rfl)
theorem dX8_appendInput_41 : decode cX8_appendInput 41 = .ok (.invokevirtual 183, 3) := dk_182 0 183 (dk_at dksX8_appendInput_1 17 rfl rfl)
theorem dX8_appendInput_44 : decode cX8_appendInput 44 = .ok (.aload_n 0, 1) := dk_42 (dk_at dksX8_appendInput_1 20 rfl rfl)
theorem dX8_appendInput_45 : decode cX8_appendInput 45 = .ok (.getfield 180, 3) := dk_180 0 180 (dk_at dksX8_appendInput_1 21 rfl rfl)
theorem dX8_appendInput_48 : decode cX8_appendInput 48 = .ok (.ireturn, 1) := dk_172 (dk_at dksX8_appendInput_2 0 rfl rfl)
abbrev cX8_appendWord : ByteArray := prog_18_method_47_code
def yX8_appendWord : MethodName := ⟨RX8, "appendWord", "(I)V"⟩
def dkwX8_appendWord_1 : List UInt8 := [180, 0, 180, 4, 96, 181, 0, 180, 132, 2, 255, 167, 255, 223, 177]
abbrev dktX8_appendWord_1 : List UInt8 := dkwX8_appendWord_1 ++ []
def dkwX8_appendWord_0 : List UInt8 := [6, 61, 28, 155, 0, 35, 42, 180, 0, 35, 42, 180, 0, 180, 27, 16, 8, 28, 104, 122, 145, 84, 42, 89]
abbrev dktX8_appendWord_0 : List UInt8 := dkwX8_appendWord_0 ++ dktX8_appendWord_1
theorem dksX8_appendWord_0 : cX8_appendWord.data.toList.drop 0 = dktX8_appendWord_0 := by decide +kernel
theorem dksX8_appendWord_1 : cX8_appendWord.data.toList.drop 24 = dktX8_appendWord_1 := dk_seg dksX8_appendWord_0 24 rfl rfl
theorem dX8_appendWord_0 : decode cX8_appendWord 0 = .ok (.iconst 3, 1) := dk_6 (dk_at dksX8_appendWord_0 0 rfl rfl)
theorem dX8_appendWord_1 : decode cX8_appendWord 1 = .ok (.istore_n 2, 1) := dk_61 (dk_at dksX8_appendWord_0 1 rfl rfl)
theorem dX8_appendWord_2 : decode cX8_appendWord 2 = .ok (.iload_n 2, 1) := dk_28 (dk_at dksX8_appendWord_0 2 rfl rfl)
theorem dX8_appendWord_3 : decode cX8_appendWord 3 = .ok (.ifCond .lt 35, 3) := dk_155 0 35 (dk_at dksX8_appendWord_0 3 rfl rfl)
theorem dX8_appendWord_6 : decode cX8_appendWord 6 = .ok (.aload_n 0, 1) := dk_42 (dk_at dksX8_appendWord_0 6 rfl rfl)
theorem dX8_appendWord_7 : decode cX8_appendWord 7 = .ok (.getfield 35, 3) := dk_180 0 35 (dk_at dksX8_appendWord_0 7 rfl rfl)
theorem dX8_appendWord_10 : decode cX8_appendWord 10 = .ok (.aload_n 0, 1) := dk_42 (dk_at dksX8_appendWord_0 10 rfl rfl)
theorem dX8_appendWord_11 : decode cX8_appendWord 11 = .ok (.getfield 180, 3) := dk_180 0 180 (dk_at dksX8_appendWord_0 11 rfl rfl)
theorem dX8_appendWord_14 : decode cX8_appendWord 14 = .ok (.iload_n 1, 1) := dk_27 (dk_at dksX8_appendWord_0 14 rfl rfl)
theorem dX8_appendWord_15 : decode cX8_appendWord 15 = .ok (.bipush 8, 2) := dk_16 8 (dk_at dksX8_appendWord_0 15 rfl rfl)
theorem dX8_appendWord_17 : decode cX8_appendWord 17 = .ok (.iload_n 2, 1) := dk_28 (dk_at dksX8_appendWord_0 17 rfl rfl)
theorem dX8_appendWord_18 : decode cX8_appendWord 18 = .ok (.imul, 1) := dk_104 (dk_at dksX8_appendWord_0 18 rfl rfl)
theorem dX8_appendWord_19 : decode cX8_appendWord 19 = .ok (.ishr, 1) := dk_122 (dk_at dksX8_appendWord_0 19 rfl rfl)
theorem dX8_appendWord_20 : decode cX8_appendWord 20 = .ok (.i2b, 1) := dk_145 (dk_at dksX8_appendWord_0 20 rfl rfl)
theorem dX8_appendWord_21 : decode cX8_appendWord 21 = .ok (.bastore, 1) := dk_84 (dk_at dksX8_appendWord_0 21 rfl rfl)
theorem dX8_appendWord_22 : decode cX8_appendWord 22 = .ok (.aload_n 0, 1) := dk_42 (dk_at dksX8_appendWord_0 22 rfl rfl)
theorem dX8_appendWord_23 : decode cX8_appendWord 23 = .ok (.dup, 1) := dk_89 (dk_at dksX8_appendWord_0 23 rfl rfl)
theorem dX8_appendWord_24 : decode cX8_appendWord 24 = .ok (.getfield 180, 3) := dk_180 0 180 (dk_at dksX8_appendWord_1 0 rfl rfl)
theorem dX8_appendWord_27 : decode cX8_appendWord 27 = .ok (.iconst 1, 1) := dk_4 (dk_at dksX8_appendWord_1 3 rfl rfl)
theorem dX8_appendWord_28 : decode cX8_appendWord 28 = .ok (.iadd, 1) := dk_96 (dk_at dksX8_appendWord_1 4 rfl rfl)
theorem dX8_appendWord_29 : decode cX8_appendWord 29 = .ok (.putfield 180, 3) := dk_181 0 180 (dk_at dksX8_appendWord_1 5 rfl rfl)
theorem dX8_appendWord_32 : decode cX8_appendWord 32 = .ok (.iinc 2 (-1), 3) := dk_132 2 255 (dk_at dksX8_appendWord_1 8 rfl rfl)
theorem dX8_appendWord_35 : decode cX8_appendWord 35 = .ok (.goto (-33), 3) := dk_167 255 223 (dk_at dksX8_appendWord_1 11 rfl rfl)
theorem dX8_appendWord_38 : decode cX8_appendWord 38 = .ok (.return_, 1) := dk_177 (dk_at dksX8_appendWord_1 14 rfl rfl)
abbrev cX8_truncateInput : ByteArray := prog_18_method_49_code
def yX8_truncateInput : MethodName := ⟨RX8, "truncateInput", "(I)Z"⟩
def dkwX8_truncateInput_1 : List UInt8 := [181, 0, 180, 4, 172]
abbrev dktX8_truncateInput_1 : List UInt8 := dkwX8_truncateInput_1 ++ []
def dkwX8_truncateInput_0 : List UInt8 := [42, 3, 181, 0, 58, 27, 133, 9, 42, 180, 0, 180, 133, 184, 0, 167, 154, 0, 5, 3, 172, 42, 27]
abbrev dktX8_truncateInput_0 : List UInt8 := dkwX8_truncateInput_0 ++ dktX8_truncateInput_1
theorem dksX8_truncateInput_0 : cX8_truncateInput.data.toList.drop 0 = dktX8_truncateInput_0 := by decide +kernel
theorem dksX8_truncateInput_1 : cX8_truncateInput.data.toList.drop 23 = dktX8_truncateInput_1 := dk_seg dksX8_truncateInput_0 23 rfl rfl
theorem dX8_truncateInput_0 : decode cX8_truncateInput 0 = .ok (.aload_n 0, 1) := dk_42 (dk_at dksX8_truncateInput_0 0 rfl rfl)
theorem dX8_truncateInput_1 : decode cX8_truncateInput 1 = .ok (.iconst 0, 1) := dk_3 (dk_at dksX8_truncateInput_0 1 rfl rfl)
theorem dX8_truncateInput_2 : decode cX8_truncateInput 2 = .ok (.putfield 58, 3) := dk_181 0 58 (dk_at dksX8_truncateInput_0 2 rfl rfl)
theorem dX8_truncateInput_5 : decode cX8_truncateInput 5 = .ok (.iload_n 1, 1) := dk_27 (dk_at dksX8_truncateInput_0 5 rfl rfl)
theorem dX8_truncateInput_6 : decode cX8_truncateInput 6 = .ok (.i2l, 1) := dk_133 (dk_at dksX8_truncateInput_0 6 rfl rfl)
theorem dX8_truncateInput_7 : decode cX8_truncateInput 7 = .ok (.lconst 0, 1) := dk_9 (dk_at dksX8_truncateInput_0 7 rfl rfl)
theorem dX8_truncateInput_8 : decode cX8_truncateInput 8 = .ok (.aload_n 0, 1) := dk_42 (dk_at dksX8_truncateInput_0 8 rfl rfl)
theorem dX8_truncateInput_9 : decode cX8_truncateInput 9 = .ok (.getfield 180, 3) := dk_180 0 180 (dk_at dksX8_truncateInput_0 9 rfl rfl)
theorem dX8_truncateInput_12 : decode cX8_truncateInput 12 = .ok (.i2l, 1) := dk_133 (dk_at dksX8_truncateInput_0 12 rfl rfl)
theorem dX8_truncateInput_13 : decode cX8_truncateInput 13 = .ok (.invokestatic 167, 3) := dk_184 0 167 (dk_at dksX8_truncateInput_0 13 rfl rfl)
theorem dX8_truncateInput_16 : decode cX8_truncateInput 16 = .ok (.ifCond .ne 5, 3) := dk_154 0 5 (dk_at dksX8_truncateInput_0 16 rfl rfl)
theorem dX8_truncateInput_19 : decode cX8_truncateInput 19 = .ok (.iconst 0, 1) := dk_3 (dk_at dksX8_truncateInput_0 19 rfl rfl)
theorem dX8_truncateInput_20 : decode cX8_truncateInput 20 = .ok (.ireturn, 1) := dk_172 (dk_at dksX8_truncateInput_0 20 rfl rfl)
theorem dX8_truncateInput_21 : decode cX8_truncateInput 21 = .ok (.aload_n 0, 1) := dk_42 (dk_at dksX8_truncateInput_0 21 rfl rfl)
theorem dX8_truncateInput_22 : decode cX8_truncateInput 22 = .ok (.iload_n 1, 1) := dk_27 (dk_at dksX8_truncateInput_0 22 rfl rfl)
theorem dX8_truncateInput_23 : decode cX8_truncateInput 23 = .ok (.putfield 180, 3) := dk_181 0 180 (dk_at dksX8_truncateInput_1 0 rfl rfl)
theorem dX8_truncateInput_26 : decode cX8_truncateInput 26 = .ok (.iconst 1, 1) := dk_4 (dk_at dksX8_truncateInput_1 3 rfl rfl)
theorem dX8_truncateInput_27 : decode cX8_truncateInput 27 = .ok (.ireturn, 1) := dk_172 (dk_at dksX8_truncateInput_1 4 rfl rfl)
abbrev cX8_isWithin : ByteArray := prog_18_method_3_code
def yX8_isWithin : MethodName := ⟨RX8, "isWithin", "(JJJ)Z"⟩
def dkwX8_isWithin_0 : List UInt8 := [30, 32, 148, 155, 0, 14, 30, 22, 4, 148, 157, 0, 7, 4, 167, 0, 4, 3, 172]
abbrev dktX8_isWithin_0 : List UInt8 := dkwX8_isWithin_0 ++ []
theorem dksX8_isWithin_0 : cX8_isWithin.data.toList.drop 0 = dktX8_isWithin_0 := by decide +kernel
theorem dX8_isWithin_0 : decode cX8_isWithin 0 = .ok (.lload_n 0, 1) := dk_30 (dk_at dksX8_isWithin_0 0 rfl rfl)
theorem dX8_isWithin_1 : decode cX8_isWithin 1 = .ok (.lload_n 2, 1) := dk_32 (dk_at dksX8_isWithin_0 1 rfl rfl)
theorem dX8_isWithin_2 : decode cX8_isWithin 2 = .ok (.lcmp, 1) := dk_148 (dk_at dksX8_isWithin_0 2 rfl rfl)
theorem dX8_isWithin_3 : decode cX8_isWithin 3 = .ok (.ifCond .lt 14, 3) := dk_155 0 14 (dk_at dksX8_isWithin_0 3 rfl rfl)
theorem dX8_isWithin_6 : decode cX8_isWithin 6 = .ok (.lload_n 0, 1) := dk_30 (dk_at dksX8_isWithin_0 6 rfl rfl)
theorem dX8_isWithin_7 : decode cX8_isWithin 7 = .ok (.lload 4, 2) := dk_22 4 (dk_at dksX8_isWithin_0 7 rfl rfl)
theorem dX8_isWithin_9 : decode cX8_isWithin 9 = .ok (.lcmp, 1) := dk_148 (dk_at dksX8_isWithin_0 9 rfl rfl)
theorem dX8_isWithin_10 : decode cX8_isWithin 10 = .ok (.ifCond .gt 7, 3) := dk_157 0 7 (dk_at dksX8_isWithin_0 10 rfl rfl)
theorem dX8_isWithin_13 : decode cX8_isWithin 13 = .ok (.iconst 1, 1) := dk_4 (dk_at dksX8_isWithin_0 13 rfl rfl)
theorem dX8_isWithin_14 : decode cX8_isWithin 14 = .ok (.goto 4, 3) := dk_167 0 4 (dk_at dksX8_isWithin_0 14 rfl rfl)
theorem dX8_isWithin_17 : decode cX8_isWithin 17 = .ok (.iconst 0, 1) := dk_3 (dk_at dksX8_isWithin_0 17 rfl rfl)
theorem dX8_isWithin_18 : decode cX8_isWithin 18 = .ok (.ireturn, 1) := dk_172 (dk_at dksX8_isWithin_0 18 rfl rfl)
abbrev cX8_errorCode : ByteArray := prog_18_method_50_code
def yX8_errorCode : MethodName := ⟨RX8, "errorCode", "()I"⟩
def dkwX8_errorCode_0 : List UInt8 := [42, 3, 181, 0, 58, 42, 180, 0, 186, 172]
abbrev dktX8_errorCode_0 : List UInt8 := dkwX8_errorCode_0 ++ []
theorem dksX8_errorCode_0 : cX8_errorCode.data.toList.drop 0 = dktX8_errorCode_0 := by decide +kernel
theorem dX8_errorCode_0 : decode cX8_errorCode 0 = .ok (.aload_n 0, 1) := dk_42 (dk_at dksX8_errorCode_0 0 rfl rfl)
theorem dX8_errorCode_1 : decode cX8_errorCode 1 = .ok (.iconst 0, 1) := dk_3 (dk_at dksX8_errorCode_0 1 rfl rfl)
theorem dX8_errorCode_2 : decode cX8_errorCode 2 = .ok (.putfield 58, 3) := dk_181 0 58 (dk_at dksX8_errorCode_0 2 rfl rfl)
theorem dX8_errorCode_5 : decode cX8_errorCode 5 = .ok (.aload_n 0, 1) := dk_42 (dk_at dksX8_errorCode_0 5 rfl rfl)
theorem dX8_errorCode_6 : decode cX8_errorCode 6 = .ok (.getfield 186, 3) := dk_180 0 186 (dk_at dksX8_errorCode_0 6 rfl rfl)
theorem dX8_errorCode_9 : decode cX8_errorCode 9 = .ok (.ireturn, 1) := dk_172 (dk_at dksX8_errorCode_0 9 rfl rfl)
abbrev cX8_errorOffset : ByteArray := prog_18_method_51_code
def yX8_errorOffset : MethodName := ⟨RX8, "errorOffset", "()I"⟩
def dkwX8_errorOffset_0 : List UInt8 := [42, 3, 181, 0, 58, 42, 180, 0, 39, 172]
abbrev dktX8_errorOffset_0 : List UInt8 := dkwX8_errorOffset_0 ++ []
theorem dksX8_errorOffset_0 : cX8_errorOffset.data.toList.drop 0 = dktX8_errorOffset_0 := by decide +kernel
theorem dX8_errorOffset_0 : decode cX8_errorOffset 0 = .ok (.aload_n 0, 1) := dk_42 (dk_at dksX8_errorOffset_0 0 rfl rfl)
theorem dX8_errorOffset_1 : decode cX8_errorOffset 1 = .ok (.iconst 0, 1) := dk_3 (dk_at dksX8_errorOffset_0 1 rfl rfl)
theorem dX8_errorOffset_2 : decode cX8_errorOffset 2 = .ok (.putfield 58, 3) := dk_181 0 58 (dk_at dksX8_errorOffset_0 2 rfl rfl)
theorem dX8_errorOffset_5 : decode cX8_errorOffset 5 = .ok (.aload_n 0, 1) := dk_42 (dk_at dksX8_errorOffset_0 5 rfl rfl)
theorem dX8_errorOffset_6 : decode cX8_errorOffset 6 = .ok (.getfield 39, 3) := dk_180 0 39 (dk_at dksX8_errorOffset_0 6 rfl rfl)
theorem dX8_errorOffset_9 : decode cX8_errorOffset 9 = .ok (.ireturn, 1) := dk_172 (dk_at dksX8_errorOffset_0 9 rfl rfl)
abbrev cX8_loadSetup : ByteArray := prog_18_method_63_code
def yX8_loadSetup : MethodName := ⟨RX8, "loadSetup", "()I"⟩
def dkwX8_loadSetup_2 : List UInt8 := [2, 172, 42, 182, 0, 55, 42, 3, 181, 0, 61, 42, 3, 181, 1, 6, 42, 180, 0, 52, 172]
abbrev dktX8_loadSetup_2 : List UInt8 := dkwX8_loadSetup_2 ++ []
def dkwX8_loadSetup_1 : List UInt8 := [180, 0, 206, 153, 0, 10, 42, 182, 1, 0, 167, 255, 238, 42, 182, 1, 3, 42, 180, 0, 197, 158, 0, 5]
abbrev dktX8_loadSetup_1 : List UInt8 := dkwX8_loadSetup_1 ++ dktX8_loadSetup_2
def dkwX8_loadSetup_0 : List UInt8 := [42, 3, 181, 0, 58, 42, 3, 181, 0, 52, 42, 182, 0, 253, 42, 180, 0, 197, 154, 0, 17, 42]
abbrev dktX8_loadSetup_0 : List UInt8 := dkwX8_loadSetup_0 ++ dktX8_loadSetup_1
theorem dksX8_loadSetup_0 : cX8_loadSetup.data.toList.drop 0 = dktX8_loadSetup_0 := by decide +kernel
theorem dksX8_loadSetup_1 : cX8_loadSetup.data.toList.drop 22 = dktX8_loadSetup_1 := dk_seg dksX8_loadSetup_0 22 rfl rfl
theorem dksX8_loadSetup_2 : cX8_loadSetup.data.toList.drop 46 = dktX8_loadSetup_2 := dk_seg dksX8_loadSetup_1 24 rfl rfl
theorem dX8_loadSetup_0 : decode cX8_loadSetup 0 = .ok (.aload_n 0, 1) := dk_42 (dk_at dksX8_loadSetup_0 0 rfl rfl)
theorem dX8_loadSetup_1 : decode cX8_loadSetup 1 = .ok (.iconst 0, 1) := dk_3 (dk_at dksX8_loadSetup_0 1 rfl rfl)
theorem dX8_loadSetup_2 : decode cX8_loadSetup 2 = .ok (.putfield 58, 3) := dk_181 0 58 (dk_at dksX8_loadSetup_0 2 rfl rfl)
theorem dX8_loadSetup_5 : decode cX8_loadSetup 5 = .ok (.aload_n 0, 1) := dk_42 (dk_at dksX8_loadSetup_0 5 rfl rfl)
theorem dX8_loadSetup_6 : decode cX8_loadSetup 6 = .ok (.iconst 0, 1) := dk_3 (dk_at dksX8_loadSetup_0 6 rfl rfl)
theorem dX8_loadSetup_7 : decode cX8_loadSetup 7 = .ok (.putfield 52, 3) := dk_181 0 52 (dk_at dksX8_loadSetup_0 7 rfl rfl)
theorem dX8_loadSetup_10 : decode cX8_loadSetup 10 = .ok (.aload_n 0, 1) := dk_42 (dk_at dksX8_loadSetup_0 10 rfl rfl)
theorem dX8_loadSetup_11 : decode cX8_loadSetup 11 = .ok (.invokevirtual 253, 3) := dk_182 0 253 (dk_at dksX8_loadSetup_0 11 rfl rfl)
theorem dX8_loadSetup_14 : decode cX8_loadSetup 14 = .ok (.aload_n 0, 1) := dk_42 (dk_at dksX8_loadSetup_0 14 rfl rfl)
theorem dX8_loadSetup_15 : decode cX8_loadSetup 15 = .ok (.getfield 197, 3) := dk_180 0 197 (dk_at dksX8_loadSetup_0 15 rfl rfl)
theorem dX8_loadSetup_18 : decode cX8_loadSetup 18 = .ok (.ifCond .ne 17, 3) := dk_154 0 17 (dk_at dksX8_loadSetup_0 18 rfl rfl)
theorem dX8_loadSetup_21 : decode cX8_loadSetup 21 = .ok (.aload_n 0, 1) := dk_42 (dk_at dksX8_loadSetup_0 21 rfl rfl)
theorem dX8_loadSetup_22 : decode cX8_loadSetup 22 = .ok (.getfield 206, 3) := dk_180 0 206 (dk_at dksX8_loadSetup_1 0 rfl rfl)
theorem dX8_loadSetup_25 : decode cX8_loadSetup 25 = .ok (.ifCond .eq 10, 3) := dk_153 0 10 (dk_at dksX8_loadSetup_1 3 rfl rfl)
theorem dX8_loadSetup_28 : decode cX8_loadSetup 28 = .ok (.aload_n 0, 1) := dk_42 (dk_at dksX8_loadSetup_1 6 rfl rfl)
theorem dX8_loadSetup_29 : decode cX8_loadSetup 29 = .ok (.invokevirtual 256, 3) := dk_182 1 0 (dk_at dksX8_loadSetup_1 7 rfl rfl)
theorem dX8_loadSetup_32 : decode cX8_loadSetup 32 = .ok (.goto (-18), 3) := dk_167 255 238 (dk_at dksX8_loadSetup_1 10 rfl rfl)
theorem dX8_loadSetup_35 : decode cX8_loadSetup 35 = .ok (.aload_n 0, 1) := dk_42 (dk_at dksX8_loadSetup_1 13 rfl rfl)
theorem dX8_loadSetup_36 : decode cX8_loadSetup 36 = .ok (.invokevirtual 259, 3) := dk_182 1 3 (dk_at dksX8_loadSetup_1 14 rfl rfl)
theorem dX8_loadSetup_39 : decode cX8_loadSetup 39 = .ok (.aload_n 0, 1) := dk_42 (dk_at dksX8_loadSetup_1 17 rfl rfl)
theorem dX8_loadSetup_40 : decode cX8_loadSetup 40 = .ok (.getfield 197, 3) := dk_180 0 197 (dk_at dksX8_loadSetup_1 18 rfl rfl)
theorem dX8_loadSetup_43 : decode cX8_loadSetup 43 = .ok (.ifCond .le 5, 3) := dk_158 0 5 (dk_at dksX8_loadSetup_1 21 rfl rfl)
theorem dX8_loadSetup_46 : decode cX8_loadSetup 46 = .ok (.iconst (-1), 1) := dk_2 (dk_at dksX8_loadSetup_2 0 rfl rfl)
theorem dX8_loadSetup_47 : decode cX8_loadSetup 47 = .ok (.ireturn, 1) := dk_172 (dk_at dksX8_loadSetup_2 1 rfl rfl)
theorem dX8_loadSetup_48 : decode cX8_loadSetup 48 = .ok (.aload_n 0, 1) := dk_42 (dk_at dksX8_loadSetup_2 2 rfl rfl)
theorem dX8_loadSetup_49 : decode cX8_loadSetup 49 = .ok (.invokevirtual 55, 3) := dk_182 0 55 (dk_at dksX8_loadSetup_2 3 rfl rfl)
theorem dX8_loadSetup_52 : decode cX8_loadSetup 52 = .ok (.aload_n 0, 1) := dk_42 (dk_at dksX8_loadSetup_2 6 rfl rfl)
theorem dX8_loadSetup_53 : decode cX8_loadSetup 53 = .ok (.iconst 0, 1) := dk_3 (dk_at dksX8_loadSetup_2 7 rfl rfl)
theorem dX8_loadSetup_54 : decode cX8_loadSetup 54 = .ok (.putfield 61, 3) := dk_181 0 61 (dk_at dksX8_loadSetup_2 8 rfl rfl)
theorem dX8_loadSetup_57 : decode cX8_loadSetup 57 = .ok (.aload_n 0, 1) := dk_42 (dk_at dksX8_loadSetup_2 11 rfl rfl)
theorem dX8_loadSetup_58 : decode cX8_loadSetup 58 = .ok (.iconst 0, 1) := dk_3 (dk_at dksX8_loadSetup_2 12 rfl rfl)
theorem dX8_loadSetup_59 : decode cX8_loadSetup 59 = .ok (.putfield 262, 3) := dk_181 1 6 (dk_at dksX8_loadSetup_2 13 rfl rfl)
theorem dX8_loadSetup_62 : decode cX8_loadSetup 62 = .ok (.aload_n 0, 1) := dk_42 (dk_at dksX8_loadSetup_2 16 rfl rfl)
theorem dX8_loadSetup_63 : decode cX8_loadSetup 63 = .ok (.getfield 52, 3) := dk_180 0 52 (dk_at dksX8_loadSetup_2 17 rfl rfl)
theorem dX8_loadSetup_66 : decode cX8_loadSetup 66 = .ok (.ireturn, 1) := dk_172 (dk_at dksX8_loadSetup_2 20 rfl rfl)
abbrev cX8_beginText : ByteArray := prog_18_method_56_code
def yX8_beginText : MethodName := ⟨RX8, "beginText", "()V"⟩
def dkwX8_beginText_0 : List UInt8 := [42, 3, 181, 0, 197, 42, 3, 181, 0, 200, 42, 182, 0, 221, 177]
abbrev dktX8_beginText_0 : List UInt8 := dkwX8_beginText_0 ++ []
theorem dksX8_beginText_0 : cX8_beginText.data.toList.drop 0 = dktX8_beginText_0 := by decide +kernel
theorem dX8_beginText_0 : decode cX8_beginText 0 = .ok (.aload_n 0, 1) := dk_42 (dk_at dksX8_beginText_0 0 rfl rfl)
theorem dX8_beginText_1 : decode cX8_beginText 1 = .ok (.iconst 0, 1) := dk_3 (dk_at dksX8_beginText_0 1 rfl rfl)
theorem dX8_beginText_2 : decode cX8_beginText 2 = .ok (.putfield 197, 3) := dk_181 0 197 (dk_at dksX8_beginText_0 2 rfl rfl)
theorem dX8_beginText_5 : decode cX8_beginText 5 = .ok (.aload_n 0, 1) := dk_42 (dk_at dksX8_beginText_0 5 rfl rfl)
theorem dX8_beginText_6 : decode cX8_beginText 6 = .ok (.iconst 0, 1) := dk_3 (dk_at dksX8_beginText_0 6 rfl rfl)
theorem dX8_beginText_7 : decode cX8_beginText 7 = .ok (.putfield 200, 3) := dk_181 0 200 (dk_at dksX8_beginText_0 7 rfl rfl)
theorem dX8_beginText_10 : decode cX8_beginText 10 = .ok (.aload_n 0, 1) := dk_42 (dk_at dksX8_beginText_0 10 rfl rfl)
theorem dX8_beginText_11 : decode cX8_beginText 11 = .ok (.invokevirtual 221, 3) := dk_182 0 221 (dk_at dksX8_beginText_0 11 rfl rfl)
theorem dX8_beginText_14 : decode cX8_beginText 14 = .ok (.return_, 1) := dk_177 (dk_at dksX8_beginText_0 14 rfl rfl)
abbrev cX8_advanceToken : ByteArray := prog_18_method_54_code
def yX8_advanceToken : MethodName := ⟨RX8, "advanceToken", "()V"⟩
def dkwX8_advanceToken_12 : List UInt8 := [16, 59, 160, 0, 7, 6, 167, 0, 4, 7, 181, 0, 206, 42, 89, 180, 0, 200, 4, 96, 181, 0, 200, 177]
abbrev dktX8_advanceToken_12 : List UInt8 := dkwX8_advanceToken_12 ++ []
def dkwX8_advanceToken_11 : List UInt8 := [164, 0, 7, 7, 167, 0, 4, 5, 181, 0, 206, 167, 0, 36, 42, 42, 180, 0, 35, 42, 180, 0, 203, 51]
abbrev dktX8_advanceToken_11 : List UInt8 := dkwX8_advanceToken_11 ++ dktX8_advanceToken_12
def dkwX8_advanceToken_10 : List UInt8 := [89, 180, 0, 200, 4, 96, 181, 0, 200, 167, 255, 191, 42, 42, 180, 0, 200, 42, 180, 0, 203, 100, 6]
abbrev dktX8_advanceToken_10 : List UInt8 := dkwX8_advanceToken_10 ++ dktX8_advanceToken_11
def dkwX8_advanceToken_9 : List UInt8 := [42, 180, 0, 35, 42, 180, 0, 200, 51, 96, 16, 48, 100, 167, 0, 7, 42, 180, 0, 215, 181, 0, 215, 42]
abbrev dktX8_advanceToken_9 : List UInt8 := dkwX8_advanceToken_9 ++ dktX8_advanceToken_10
def dkwX8_advanceToken_8 : List UInt8 := [153, 0, 60, 42, 42, 180, 0, 200, 42, 180, 0, 203, 100, 6, 162, 0, 26, 16, 10, 42, 180, 0, 215, 104]
abbrev dktX8_advanceToken_8 : List UInt8 := dkwX8_advanceToken_8 ++ dktX8_advanceToken_9
def dkwX8_advanceToken_7 : List UInt8 := [180, 0, 203, 182, 0, 212, 153, 0, 101, 42, 3, 181, 0, 215, 42, 42, 180, 0, 200, 182, 0, 212]
abbrev dktX8_advanceToken_7 : List UInt8 := dkwX8_advanceToken_7 ++ dktX8_advanceToken_8
def dkwX8_advanceToken_6 : List UInt8 := [180, 0, 203, 100, 16, 8, 164, 0, 7, 7, 167, 0, 4, 4, 181, 0, 206, 167, 0, 145, 42, 42]
abbrev dktX8_advanceToken_6 : List UInt8 := dkwX8_advanceToken_6 ++ dktX8_advanceToken_7
def dkwX8_advanceToken_5 : List UInt8 := [153, 0, 16, 42, 89, 180, 0, 200, 4, 96, 181, 0, 200, 167, 255, 235, 42, 42, 180, 0, 200, 42]
abbrev dktX8_advanceToken_5 : List UInt8 := dkwX8_advanceToken_5 ++ dktX8_advanceToken_6
def dkwX8_advanceToken_4 : List UInt8 := [167, 0, 206, 42, 42, 180, 0, 203, 182, 0, 209, 153, 0, 53, 42, 42, 180, 0, 200, 182, 0, 209]
abbrev dktX8_advanceToken_4 : List UInt8 := dkwX8_advanceToken_4 ++ dktX8_advanceToken_5
def dkwX8_advanceToken_3 : List UInt8 := [180, 0, 203, 181, 0, 200, 42, 180, 0, 203, 42, 180, 0, 180, 160, 0, 11, 42, 3, 181, 0, 206]
abbrev dktX8_advanceToken_3 : List UInt8 := dkwX8_advanceToken_3 ++ dktX8_advanceToken_4
def dkwX8_advanceToken_2 : List UInt8 := [180, 0, 203, 51, 16, 10, 160, 0, 16, 42, 89, 180, 0, 203, 4, 96, 181, 0, 203, 167, 255, 207, 42, 42]
abbrev dktX8_advanceToken_2 : List UInt8 := dkwX8_advanceToken_2 ++ dktX8_advanceToken_3
def dkwX8_advanceToken_1 : List UInt8 := [162, 0, 44, 42, 180, 0, 35, 42, 180, 0, 203, 51, 16, 32, 159, 0, 17, 42, 180, 0, 35, 42]
abbrev dktX8_advanceToken_1 : List UInt8 := dkwX8_advanceToken_1 ++ dktX8_advanceToken_2
def dkwX8_advanceToken_0 : List UInt8 := [42, 180, 0, 197, 158, 0, 4, 177, 42, 42, 180, 0, 200, 181, 0, 203, 42, 180, 0, 203, 42, 180, 0, 180]
abbrev dktX8_advanceToken_0 : List UInt8 := dkwX8_advanceToken_0 ++ dktX8_advanceToken_1
theorem dksX8_advanceToken_0 : cX8_advanceToken.data.toList.drop 0 = dktX8_advanceToken_0 := by decide +kernel
theorem dksX8_advanceToken_1 : cX8_advanceToken.data.toList.drop 24 = dktX8_advanceToken_1 := dk_seg dksX8_advanceToken_0 24 rfl rfl
theorem dksX8_advanceToken_2 : cX8_advanceToken.data.toList.drop 46 = dktX8_advanceToken_2 := dk_seg dksX8_advanceToken_1 22 rfl rfl
theorem dksX8_advanceToken_3 : cX8_advanceToken.data.toList.drop 70 = dktX8_advanceToken_3 := dk_seg dksX8_advanceToken_2 24 rfl rfl
theorem dksX8_advanceToken_4 : cX8_advanceToken.data.toList.drop 92 = dktX8_advanceToken_4 := dk_seg dksX8_advanceToken_3 22 rfl rfl
theorem dksX8_advanceToken_5 : cX8_advanceToken.data.toList.drop 114 = dktX8_advanceToken_5 := dk_seg dksX8_advanceToken_4 22 rfl rfl
theorem dksX8_advanceToken_6 : cX8_advanceToken.data.toList.drop 136 = dktX8_advanceToken_6 := dk_seg dksX8_advanceToken_5 22 rfl rfl
theorem dksX8_advanceToken_7 : cX8_advanceToken.data.toList.drop 158 = dktX8_advanceToken_7 := dk_seg dksX8_advanceToken_6 22 rfl rfl
theorem dksX8_advanceToken_8 : cX8_advanceToken.data.toList.drop 180 = dktX8_advanceToken_8 := dk_seg dksX8_advanceToken_7 22 rfl rfl
theorem dksX8_advanceToken_9 : cX8_advanceToken.data.toList.drop 204 = dktX8_advanceToken_9 := dk_seg dksX8_advanceToken_8 24 rfl rfl
theorem dksX8_advanceToken_10 : cX8_advanceToken.data.toList.drop 228 = dktX8_advanceToken_10 := dk_seg dksX8_advanceToken_9 24 rfl rfl
theorem dksX8_advanceToken_11 : cX8_advanceToken.data.toList.drop 251 = dktX8_advanceToken_11 := dk_seg dksX8_advanceToken_10 23 rfl rfl
theorem dksX8_advanceToken_12 : cX8_advanceToken.data.toList.drop 275 = dktX8_advanceToken_12 := dk_seg dksX8_advanceToken_11 24 rfl rfl
theorem dX8_advanceToken_0 : decode cX8_advanceToken 0 = .ok (.aload_n 0, 1) := dk_42 (dk_at dksX8_advanceToken_0 0 rfl rfl)
theorem dX8_advanceToken_1 : decode cX8_advanceToken 1 = .ok (.getfield 197, 3) := dk_180 0 197 (dk_at dksX8_advanceToken_0 1 rfl rfl)
theorem dX8_advanceToken_4 : decode cX8_advanceToken 4 = .ok (.ifCond .le 4, 3) := dk_158 0 4 (dk_at dksX8_advanceToken_0 4 rfl rfl)
theorem dX8_advanceToken_7 : decode cX8_advanceToken 7 = .ok (.return_, 1) := dk_177 (dk_at dksX8_advanceToken_0 7 rfl rfl)
theorem dX8_advanceToken_8 : decode cX8_advanceToken 8 = .ok (.aload_n 0, 1) := dk_42 (dk_at dksX8_advanceToken_0 8 rfl rfl)
theorem dX8_advanceToken_9 : decode cX8_advanceToken 9 = .ok (.aload_n 0, 1) := dk_42 (dk_at dksX8_advanceToken_0 9 rfl rfl)
theorem dX8_advanceToken_10 : decode cX8_advanceToken 10 = .ok (.getfield 200, 3) := dk_180 0 200 (dk_at dksX8_advanceToken_0 10 rfl rfl)
theorem dX8_advanceToken_13 : decode cX8_advanceToken 13 = .ok (.putfield 203, 3) := dk_181 0 203 (dk_at dksX8_advanceToken_0 13 rfl rfl)
theorem dX8_advanceToken_16 : decode cX8_advanceToken 16 = .ok (.aload_n 0, 1) := dk_42 (dk_at dksX8_advanceToken_0 16 rfl rfl)
theorem dX8_advanceToken_17 : decode cX8_advanceToken 17 = .ok (.getfield 203, 3) := dk_180 0 203 (dk_at dksX8_advanceToken_0 17 rfl rfl)
theorem dX8_advanceToken_20 : decode cX8_advanceToken 20 = .ok (.aload_n 0, 1) := dk_42 (dk_at dksX8_advanceToken_0 20 rfl rfl)
theorem dX8_advanceToken_21 : decode cX8_advanceToken 21 = .ok (.getfield 180, 3) := dk_180 0 180 (dk_at dksX8_advanceToken_0 21 rfl rfl)
theorem dX8_advanceToken_24 : decode cX8_advanceToken 24 = .ok (.if_icmp .ge 44, 3) := dk_162 0 44 (dk_at dksX8_advanceToken_1 0 rfl rfl)
theorem dX8_advanceToken_27 : decode cX8_advanceToken 27 = .ok (.aload_n 0, 1) := dk_42 (dk_at dksX8_advanceToken_1 3 rfl rfl)
theorem dX8_advanceToken_28 : decode cX8_advanceToken 28 = .ok (.getfield 35, 3) := dk_180 0 35 (dk_at dksX8_advanceToken_1 4 rfl rfl)
theorem dX8_advanceToken_31 : decode cX8_advanceToken 31 = .ok (.aload_n 0, 1) := dk_42 (dk_at dksX8_advanceToken_1 7 rfl rfl)
theorem dX8_advanceToken_32 : decode cX8_advanceToken 32 = .ok (.getfield 203, 3) := dk_180 0 203 (dk_at dksX8_advanceToken_1 8 rfl rfl)
theorem dX8_advanceToken_35 : decode cX8_advanceToken 35 = .ok (.baload, 1) := dk_51 (dk_at dksX8_advanceToken_1 11 rfl rfl)
theorem dX8_advanceToken_36 : decode cX8_advanceToken 36 = .ok (.bipush 32, 2) := dk_16 32 (dk_at dksX8_advanceToken_1 12 rfl rfl)
theorem dX8_advanceToken_38 : decode cX8_advanceToken 38 = .ok (.if_icmp .eq 17, 3) := dk_159 0 17 (dk_at dksX8_advanceToken_1 14 rfl rfl)
theorem dX8_advanceToken_41 : decode cX8_advanceToken 41 = .ok (.aload_n 0, 1) := dk_42 (dk_at dksX8_advanceToken_1 17 rfl rfl)
theorem dX8_advanceToken_42 : decode cX8_advanceToken 42 = .ok (.getfield 35, 3) := dk_180 0 35 (dk_at dksX8_advanceToken_1 18 rfl rfl)
theorem dX8_advanceToken_45 : decode cX8_advanceToken 45 = .ok (.aload_n 0, 1) := dk_42 (dk_at dksX8_advanceToken_1 21 rfl rfl)
theorem dX8_advanceToken_46 : decode cX8_advanceToken 46 = .ok (.getfield 203, 3) := dk_180 0 203 (dk_at dksX8_advanceToken_2 0 rfl rfl)
theorem dX8_advanceToken_49 : decode cX8_advanceToken 49 = .ok (.baload, 1) := dk_51 (dk_at dksX8_advanceToken_2 3 rfl rfl)
theorem dX8_advanceToken_50 : decode cX8_advanceToken 50 = .ok (.bipush 10, 2) := dk_16 10 (dk_at dksX8_advanceToken_2 4 rfl rfl)
theorem dX8_advanceToken_52 : decode cX8_advanceToken 52 = .ok (.if_icmp .ne 16, 3) := dk_160 0 16 (dk_at dksX8_advanceToken_2 6 rfl rfl)
theorem dX8_advanceToken_55 : decode cX8_advanceToken 55 = .ok (.aload_n 0, 1) := dk_42 (dk_at dksX8_advanceToken_2 9 rfl rfl)
theorem dX8_advanceToken_56 : decode cX8_advanceToken 56 = .ok (.dup, 1) := dk_89 (dk_at dksX8_advanceToken_2 10 rfl rfl)
theorem dX8_advanceToken_57 : decode cX8_advanceToken 57 = .ok (.getfield 203, 3) := dk_180 0 203 (dk_at dksX8_advanceToken_2 11 rfl rfl)
theorem dX8_advanceToken_60 : decode cX8_advanceToken 60 = .ok (.iconst 1, 1) := dk_4 (dk_at dksX8_advanceToken_2 14 rfl rfl)
theorem dX8_advanceToken_61 : decode cX8_advanceToken 61 = .ok (.iadd, 1) := dk_96 (dk_at dksX8_advanceToken_2 15 rfl rfl)
theorem dX8_advanceToken_62 : decode cX8_advanceToken 62 = .ok (.putfield 203, 3) := dk_181 0 203 (dk_at dksX8_advanceToken_2 16 rfl rfl)
theorem dX8_advanceToken_65 : decode cX8_advanceToken 65 = .ok (.goto (-49), 3) := dk_167 255 207 (dk_at dksX8_advanceToken_2 19 rfl rfl)
theorem dX8_advanceToken_68 : decode cX8_advanceToken 68 = .ok (.aload_n 0, 1) := dk_42 (dk_at dksX8_advanceToken_2 22 rfl rfl)
theorem dX8_advanceToken_69 : decode cX8_advanceToken 69 = .ok (.aload_n 0, 1) := dk_42 (dk_at dksX8_advanceToken_2 23 rfl rfl)
theorem dX8_advanceToken_70 : decode cX8_advanceToken 70 = .ok (.getfield 203, 3) := dk_180 0 203 (dk_at dksX8_advanceToken_3 0 rfl rfl)
theorem dX8_advanceToken_73 : decode cX8_advanceToken 73 = .ok (.putfield 200, 3) := dk_181 0 200 (dk_at dksX8_advanceToken_3 3 rfl rfl)
theorem dX8_advanceToken_76 : decode cX8_advanceToken 76 = .ok (.aload_n 0, 1) := dk_42 (dk_at dksX8_advanceToken_3 6 rfl rfl)
theorem dX8_advanceToken_77 : decode cX8_advanceToken 77 = .ok (.getfield 203, 3) := dk_180 0 203 (dk_at dksX8_advanceToken_3 7 rfl rfl)
theorem dX8_advanceToken_80 : decode cX8_advanceToken 80 = .ok (.aload_n 0, 1) := dk_42 (dk_at dksX8_advanceToken_3 10 rfl rfl)
theorem dX8_advanceToken_81 : decode cX8_advanceToken 81 = .ok (.getfield 180, 3) := dk_180 0 180 (dk_at dksX8_advanceToken_3 11 rfl rfl)
theorem dX8_advanceToken_84 : decode cX8_advanceToken 84 = .ok (.if_icmp .ne 11, 3) := dk_160 0 11 (dk_at dksX8_advanceToken_3 14 rfl rfl)
theorem dX8_advanceToken_87 : decode cX8_advanceToken 87 = .ok (.aload_n 0, 1) := dk_42 (dk_at dksX8_advanceToken_3 17 rfl rfl)
theorem dX8_advanceToken_88 : decode cX8_advanceToken 88 = .ok (.iconst 0, 1) := dk_3 (dk_at dksX8_advanceToken_3 18 rfl rfl)
theorem dX8_advanceToken_89 : decode cX8_advanceToken 89 = .ok (.putfield 206, 3) := dk_181 0 206 (dk_at dksX8_advanceToken_3 19 rfl rfl)
theorem dX8_advanceToken_92 : decode cX8_advanceToken 92 = .ok (.goto 206, 3) := dk_167 0 206 (dk_at dksX8_advanceToken_4 0 rfl rfl)
theorem dX8_advanceToken_95 : decode cX8_advanceToken 95 = .ok (.aload_n 0, 1) := dk_42 (dk_at dksX8_advanceToken_4 3 rfl rfl)
theorem dX8_advanceToken_96 : decode cX8_advanceToken 96 = .ok (.aload_n 0, 1) := dk_42 (dk_at dksX8_advanceToken_4 4 rfl rfl)
theorem dX8_advanceToken_97 : decode cX8_advanceToken 97 = .ok (.getfield 203, 3) := dk_180 0 203 (dk_at dksX8_advanceToken_4 5 rfl rfl)
theorem dX8_advanceToken_100 : decode cX8_advanceToken 100 = .ok (.invokevirtual 209, 3) := dk_182 0 209 (dk_at dksX8_advanceToken_4 8 rfl rfl)
theorem dX8_advanceToken_103 : decode cX8_advanceToken 103 = .ok (.ifCond .eq 53, 3) := dk_153 0 53 (dk_at dksX8_advanceToken_4 11 rfl rfl)
theorem dX8_advanceToken_106 : decode cX8_advanceToken 106 = .ok (.aload_n 0, 1) := dk_42 (dk_at dksX8_advanceToken_4 14 rfl rfl)
theorem dX8_advanceToken_107 : decode cX8_advanceToken 107 = .ok (.aload_n 0, 1) := dk_42 (dk_at dksX8_advanceToken_4 15 rfl rfl)
theorem dX8_advanceToken_108 : decode cX8_advanceToken 108 = .ok (.getfield 200, 3) := dk_180 0 200 (dk_at dksX8_advanceToken_4 16 rfl rfl)
theorem dX8_advanceToken_111 : decode cX8_advanceToken 111 = .ok (.invokevirtual 209, 3) := dk_182 0 209 (dk_at dksX8_advanceToken_4 19 rfl rfl)
theorem dX8_advanceToken_114 : decode cX8_advanceToken 114 = .ok (.ifCond .eq 16, 3) := dk_153 0 16 (dk_at dksX8_advanceToken_5 0 rfl rfl)
theorem dX8_advanceToken_117 : decode cX8_advanceToken 117 = .ok (.aload_n 0, 1) := dk_42 (dk_at dksX8_advanceToken_5 3 rfl rfl)
theorem dX8_advanceToken_118 : decode cX8_advanceToken 118 = .ok (.dup, 1) := dk_89 (dk_at dksX8_advanceToken_5 4 rfl rfl)
theorem dX8_advanceToken_119 : decode cX8_advanceToken 119 = .ok (.getfield 200, 3) := dk_180 0 200 (dk_at dksX8_advanceToken_5 5 rfl rfl)
theorem dX8_advanceToken_122 : decode cX8_advanceToken 122 = .ok (.iconst 1, 1) := dk_4 (dk_at dksX8_advanceToken_5 8 rfl rfl)
theorem dX8_advanceToken_123 : decode cX8_advanceToken 123 = .ok (.iadd, 1) := dk_96 (dk_at dksX8_advanceToken_5 9 rfl rfl)
theorem dX8_advanceToken_124 : decode cX8_advanceToken 124 = .ok (.putfield 200, 3) := dk_181 0 200 (dk_at dksX8_advanceToken_5 10 rfl rfl)
theorem dX8_advanceToken_127 : decode cX8_advanceToken 127 = .ok (.goto (-21), 3) := dk_167 255 235 (dk_at dksX8_advanceToken_5 13 rfl rfl)
theorem dX8_advanceToken_130 : decode cX8_advanceToken 130 = .ok (.aload_n 0, 1) := dk_42 (dk_at dksX8_advanceToken_5 16 rfl rfl)
theorem dX8_advanceToken_131 : decode cX8_advanceToken 131 = .ok (.aload_n 0, 1) := dk_42 (dk_at dksX8_advanceToken_5 17 rfl rfl)
theorem dX8_advanceToken_132 : decode cX8_advanceToken 132 = .ok (.getfield 200, 3) := dk_180 0 200 (dk_at dksX8_advanceToken_5 18 rfl rfl)
theorem dX8_advanceToken_135 : decode cX8_advanceToken 135 = .ok (.aload_n 0, 1) := dk_42 (dk_at dksX8_advanceToken_5 21 rfl rfl)
theorem dX8_advanceToken_136 : decode cX8_advanceToken 136 = .ok (.getfield 203, 3) := dk_180 0 203 (dk_at dksX8_advanceToken_6 0 rfl rfl)
theorem dX8_advanceToken_139 : decode cX8_advanceToken 139 = .ok (.isub, 1) := dk_100 (dk_at dksX8_advanceToken_6 3 rfl rfl)
theorem dX8_advanceToken_140 : decode cX8_advanceToken 140 = .ok (.bipush 8, 2) := dk_16 8 (dk_at dksX8_advanceToken_6 4 rfl rfl)
theorem dX8_advanceToken_142 : decode cX8_advanceToken 142 = .ok (.if_icmp .le 7, 3) := dk_164 0 7 (dk_at dksX8_advanceToken_6 6 rfl rfl)
theorem dX8_advanceToken_145 : decode cX8_advanceToken 145 = .ok (.iconst 4, 1) := dk_7 (dk_at dksX8_advanceToken_6 9 rfl rfl)
theorem dX8_advanceToken_146 : decode cX8_advanceToken 146 = .ok (.goto 4, 3) := dk_167 0 4 (dk_at dksX8_advanceToken_6 10 rfl rfl)
theorem dX8_advanceToken_149 : decode cX8_advanceToken 149 = .ok (.iconst 1, 1) := dk_4 (dk_at dksX8_advanceToken_6 13 rfl rfl)
theorem dX8_advanceToken_150 : decode cX8_advanceToken 150 = .ok (.putfield 206, 3) := dk_181 0 206 (dk_at dksX8_advanceToken_6 14 rfl rfl)
theorem dX8_advanceToken_153 : decode cX8_advanceToken 153 = .ok (.goto 145, 3) := dk_167 0 145 (dk_at dksX8_advanceToken_6 17 rfl rfl)
theorem dX8_advanceToken_156 : decode cX8_advanceToken 156 = .ok (.aload_n 0, 1) := dk_42 (dk_at dksX8_advanceToken_6 20 rfl rfl)
theorem dX8_advanceToken_157 : decode cX8_advanceToken 157 = .ok (.aload_n 0, 1) := dk_42 (dk_at dksX8_advanceToken_6 21 rfl rfl)
theorem dX8_advanceToken_158 : decode cX8_advanceToken 158 = .ok (.getfield 203, 3) := dk_180 0 203 (dk_at dksX8_advanceToken_7 0 rfl rfl)
theorem dX8_advanceToken_161 : decode cX8_advanceToken 161 = .ok (.invokevirtual 212, 3) := dk_182 0 212 (dk_at dksX8_advanceToken_7 3 rfl rfl)
theorem dX8_advanceToken_164 : decode cX8_advanceToken 164 = .ok (.ifCond .eq 101, 3) := dk_153 0 101 (dk_at dksX8_advanceToken_7 6 rfl rfl)
theorem dX8_advanceToken_167 : decode cX8_advanceToken 167 = .ok (.aload_n 0, 1) := dk_42 (dk_at dksX8_advanceToken_7 9 rfl rfl)
theorem dX8_advanceToken_168 : decode cX8_advanceToken 168 = .ok (.iconst 0, 1) := dk_3 (dk_at dksX8_advanceToken_7 10 rfl rfl)
theorem dX8_advanceToken_169 : decode cX8_advanceToken 169 = .ok (.putfield 215, 3) := dk_181 0 215 (dk_at dksX8_advanceToken_7 11 rfl rfl)
theorem dX8_advanceToken_172 : decode cX8_advanceToken 172 = .ok (.aload_n 0, 1) := dk_42 (dk_at dksX8_advanceToken_7 14 rfl rfl)
theorem dX8_advanceToken_173 : decode cX8_advanceToken 173 = .ok (.aload_n 0, 1) := dk_42 (dk_at dksX8_advanceToken_7 15 rfl rfl)
theorem dX8_advanceToken_174 : decode cX8_advanceToken 174 = .ok (.getfield 200, 3) := dk_180 0 200 (dk_at dksX8_advanceToken_7 16 rfl rfl)
theorem dX8_advanceToken_177 : decode cX8_advanceToken 177 = .ok (.invokevirtual 212, 3) := dk_182 0 212 (dk_at dksX8_advanceToken_7 19 rfl rfl)
theorem dX8_advanceToken_180 : decode cX8_advanceToken 180 = .ok (.ifCond .eq 60, 3) := dk_153 0 60 (dk_at dksX8_advanceToken_8 0 rfl rfl)
theorem dX8_advanceToken_183 : decode cX8_advanceToken 183 = .ok (.aload_n 0, 1) := dk_42 (dk_at dksX8_advanceToken_8 3 rfl rfl)
theorem dX8_advanceToken_184 : decode cX8_advanceToken 184 = .ok (.aload_n 0, 1) := dk_42 (dk_at dksX8_advanceToken_8 4 rfl rfl)
theorem dX8_advanceToken_185 : decode cX8_advanceToken 185 = .ok (.getfield 200, 3) := dk_180 0 200 (dk_at dksX8_advanceToken_8 5 rfl rfl)
theorem dX8_advanceToken_188 : decode cX8_advanceToken 188 = .ok (.aload_n 0, 1) := dk_42 (dk_at dksX8_advanceToken_8 8 rfl rfl)
theorem dX8_advanceToken_189 : decode cX8_advanceToken 189 = .ok (.getfield 203, 3) := dk_180 0 203 (dk_at dksX8_advanceToken_8 9 rfl rfl)
theorem dX8_advanceToken_192 : decode cX8_advanceToken 192 = .ok (.isub, 1) := dk_100 (dk_at dksX8_advanceToken_8 12 rfl rfl)
theorem dX8_advanceToken_193 : decode cX8_advanceToken 193 = .ok (.iconst 3, 1) := dk_6 (dk_at dksX8_advanceToken_8 13 rfl rfl)
theorem dX8_advanceToken_194 : decode cX8_advanceToken 194 = .ok (.if_icmp .ge 26, 3) := dk_162 0 26 (dk_at dksX8_advanceToken_8 14 rfl rfl)
theorem dX8_advanceToken_197 : decode cX8_advanceToken 197 = .ok (.bipush 10, 2) := dk_16 10 (dk_at dksX8_advanceToken_8 17 rfl rfl)
theorem dX8_advanceToken_199 : decode cX8_advanceToken 199 = .ok (.aload_n 0, 1) := dk_42 (dk_at dksX8_advanceToken_8 19 rfl rfl)
theorem dX8_advanceToken_200 : decode cX8_advanceToken 200 = .ok (.getfield 215, 3) := dk_180 0 215 (dk_at dksX8_advanceToken_8 20 rfl rfl)
theorem dX8_advanceToken_203 : decode cX8_advanceToken 203 = .ok (.imul, 1) := dk_104 (dk_at dksX8_advanceToken_8 23 rfl rfl)
theorem dX8_advanceToken_204 : decode cX8_advanceToken 204 = .ok (.aload_n 0, 1) := dk_42 (dk_at dksX8_advanceToken_9 0 rfl rfl)
theorem dX8_advanceToken_205 : decode cX8_advanceToken 205 = .ok (.getfield 35, 3) := dk_180 0 35 (dk_at dksX8_advanceToken_9 1 rfl rfl)
theorem dX8_advanceToken_208 : decode cX8_advanceToken 208 = .ok (.aload_n 0, 1) := dk_42 (dk_at dksX8_advanceToken_9 4 rfl rfl)
theorem dX8_advanceToken_209 : decode cX8_advanceToken 209 = .ok (.getfield 200, 3) := dk_180 0 200 (dk_at dksX8_advanceToken_9 5 rfl rfl)
theorem dX8_advanceToken_212 : decode cX8_advanceToken 212 = .ok (.baload, 1) := dk_51 (dk_at dksX8_advanceToken_9 8 rfl rfl)
theorem dX8_advanceToken_213 : decode cX8_advanceToken 213 = .ok (.iadd, 1) := dk_96 (dk_at dksX8_advanceToken_9 9 rfl rfl)
theorem dX8_advanceToken_214 : decode cX8_advanceToken 214 = .ok (.bipush 48, 2) := dk_16 48 (dk_at dksX8_advanceToken_9 10 rfl rfl)
theorem dX8_advanceToken_216 : decode cX8_advanceToken 216 = .ok (.isub, 1) := dk_100 (dk_at dksX8_advanceToken_9 12 rfl rfl)
theorem dX8_advanceToken_217 : decode cX8_advanceToken 217 = .ok (.goto 7, 3) := dk_167 0 7 (dk_at dksX8_advanceToken_9 13 rfl rfl)
theorem dX8_advanceToken_220 : decode cX8_advanceToken 220 = .ok (.aload_n 0, 1) := dk_42 (dk_at dksX8_advanceToken_9 16 rfl rfl)
theorem dX8_advanceToken_221 : decode cX8_advanceToken 221 = .ok (.getfield 215, 3) := dk_180 0 215 (dk_at dksX8_advanceToken_9 17 rfl rfl)
theorem dX8_advanceToken_224 : decode cX8_advanceToken 224 = .ok (.putfield 215, 3) := dk_181 0 215 (dk_at dksX8_advanceToken_9 20 rfl rfl)
theorem dX8_advanceToken_227 : decode cX8_advanceToken 227 = .ok (.aload_n 0, 1) := dk_42 (dk_at dksX8_advanceToken_9 23 rfl rfl)
theorem dX8_advanceToken_228 : decode cX8_advanceToken 228 = .ok (.dup, 1) := dk_89 (dk_at dksX8_advanceToken_10 0 rfl rfl)
theorem dX8_advanceToken_229 : decode cX8_advanceToken 229 = .ok (.getfield 200, 3) := dk_180 0 200 (dk_at dksX8_advanceToken_10 1 rfl rfl)
theorem dX8_advanceToken_232 : decode cX8_advanceToken 232 = .ok (.iconst 1, 1) := dk_4 (dk_at dksX8_advanceToken_10 4 rfl rfl)
theorem dX8_advanceToken_233 : decode cX8_advanceToken 233 = .ok (.iadd, 1) := dk_96 (dk_at dksX8_advanceToken_10 5 rfl rfl)
theorem dX8_advanceToken_234 : decode cX8_advanceToken 234 = .ok (.putfield 200, 3) := dk_181 0 200 (dk_at dksX8_advanceToken_10 6 rfl rfl)
theorem dX8_advanceToken_237 : decode cX8_advanceToken 237 = .ok (.goto (-65), 3) := dk_167 255 191 (dk_at dksX8_advanceToken_10 9 rfl rfl)
theorem dX8_advanceToken_240 : decode cX8_advanceToken 240 = .ok (.aload_n 0, 1) := dk_42 (dk_at dksX8_advanceToken_10 12 rfl rfl)
theorem dX8_advanceToken_241 : decode cX8_advanceToken 241 = .ok (.aload_n 0, 1) := dk_42 (dk_at dksX8_advanceToken_10 13 rfl rfl)
theorem dX8_advanceToken_242 : decode cX8_advanceToken 242 = .ok (.getfield 200, 3) := dk_180 0 200 (dk_at dksX8_advanceToken_10 14 rfl rfl)
theorem dX8_advanceToken_245 : decode cX8_advanceToken 245 = .ok (.aload_n 0, 1) := dk_42 (dk_at dksX8_advanceToken_10 17 rfl rfl)
theorem dX8_advanceToken_246 : decode cX8_advanceToken 246 = .ok (.getfield 203, 3) := dk_180 0 203 (dk_at dksX8_advanceToken_10 18 rfl rfl)
theorem dX8_advanceToken_249 : decode cX8_advanceToken 249 = .ok (.isub, 1) := dk_100 (dk_at dksX8_advanceToken_10 21 rfl rfl)
theorem dX8_advanceToken_250 : decode cX8_advanceToken 250 = .ok (.iconst 3, 1) := dk_6 (dk_at dksX8_advanceToken_10 22 rfl rfl)
theorem dX8_advanceToken_251 : decode cX8_advanceToken 251 = .ok (.if_icmp .le 7, 3) := dk_164 0 7 (dk_at dksX8_advanceToken_11 0 rfl rfl)
theorem dX8_advanceToken_254 : decode cX8_advanceToken 254 = .ok (.iconst 4, 1) := dk_7 (dk_at dksX8_advanceToken_11 3 rfl rfl)
theorem dX8_advanceToken_255 : decode cX8_advanceToken 255 = .ok (.goto 4, 3) := dk_167 0 4 (dk_at dksX8_advanceToken_11 4 rfl rfl)
theorem dX8_advanceToken_258 : decode cX8_advanceToken 258 = .ok (.iconst 2, 1) := dk_5 (dk_at dksX8_advanceToken_11 7 rfl rfl)
theorem dX8_advanceToken_259 : decode cX8_advanceToken 259 = .ok (.putfield 206, 3) := dk_181 0 206 (dk_at dksX8_advanceToken_11 8 rfl rfl)
theorem dX8_advanceToken_262 : decode cX8_advanceToken 262 = .ok (.goto 36, 3) := dk_167 0 36 (dk_at dksX8_advanceToken_11 11 rfl rfl)
theorem dX8_advanceToken_265 : decode cX8_advanceToken 265 = .ok (.aload_n 0, 1) := dk_42 (dk_at dksX8_advanceToken_11 14 rfl rfl)
theorem dX8_advanceToken_266 : decode cX8_advanceToken 266 = .ok (.aload_n 0, 1) := dk_42 (dk_at dksX8_advanceToken_11 15 rfl rfl)
theorem dX8_advanceToken_267 : decode cX8_advanceToken 267 = .ok (.getfield 35, 3) := dk_180 0 35 (dk_at dksX8_advanceToken_11 16 rfl rfl)
theorem dX8_advanceToken_270 : decode cX8_advanceToken 270 = .ok (.aload_n 0, 1) := dk_42 (dk_at dksX8_advanceToken_11 19 rfl rfl)
theorem dX8_advanceToken_271 : decode cX8_advanceToken 271 = .ok (.getfield 203, 3) := dk_180 0 203 (dk_at dksX8_advanceToken_11 20 rfl rfl)
theorem dX8_advanceToken_274 : decode cX8_advanceToken 274 = .ok (.baload, 1) := dk_51 (dk_at dksX8_advanceToken_11 23 rfl rfl)
theorem dX8_advanceToken_275 : decode cX8_advanceToken 275 = .ok (.bipush 59, 2) := dk_16 59 (dk_at dksX8_advanceToken_12 0 rfl rfl)
theorem dX8_advanceToken_277 : decode cX8_advanceToken 277 = .ok (.if_icmp .ne 7, 3) := dk_160 0 7 (dk_at dksX8_advanceToken_12 2 rfl rfl)
theorem dX8_advanceToken_280 : decode cX8_advanceToken 280 = .ok (.iconst 3, 1) := dk_6 (dk_at dksX8_advanceToken_12 5 rfl rfl)
theorem dX8_advanceToken_281 : decode cX8_advanceToken 281 = .ok (.goto 4, 3) := dk_167 0 4 (dk_at dksX8_advanceToken_12 6 rfl rfl)
theorem dX8_advanceToken_284 : decode cX8_advanceToken 284 = .ok (.iconst 4, 1) := dk_7 (dk_at dksX8_advanceToken_12 9 rfl rfl)
theorem dX8_advanceToken_285 : decode cX8_advanceToken 285 = .ok (.putfield 206, 3) := dk_181 0 206 (dk_at dksX8_advanceToken_12 10 rfl rfl)
theorem dX8_advanceToken_288 : decode cX8_advanceToken 288 = .ok (.aload_n 0, 1) := dk_42 (dk_at dksX8_advanceToken_12 13 rfl rfl)
theorem dX8_advanceToken_289 : decode cX8_advanceToken 289 = .ok (.dup, 1) := dk_89 (dk_at dksX8_advanceToken_12 14 rfl rfl)
theorem dX8_advanceToken_290 : decode cX8_advanceToken 290 = .ok (.getfield 200, 3) := dk_180 0 200 (dk_at dksX8_advanceToken_12 15 rfl rfl)
theorem dX8_advanceToken_293 : decode cX8_advanceToken 293 = .ok (.iconst 1, 1) := dk_4 (dk_at dksX8_advanceToken_12 18 rfl rfl)
theorem dX8_advanceToken_294 : decode cX8_advanceToken 294 = .ok (.iadd, 1) := dk_96 (dk_at dksX8_advanceToken_12 19 rfl rfl)
theorem dX8_advanceToken_295 : decode cX8_advanceToken 295 = .ok (.putfield 200, 3) := dk_181 0 200 (dk_at dksX8_advanceToken_12 20 rfl rfl)
theorem dX8_advanceToken_298 : decode cX8_advanceToken 298 = .ok (.return_, 1) := dk_177 (dk_at dksX8_advanceToken_12 23 rfl rfl)
abbrev cX8_isLetter : ByteArray := prog_18_method_52_code
def yX8_isLetter : MethodName := ⟨RX8, "isLetter", "(I)Z"⟩
def dkwX8_isLetter_1 : List UInt8 := [153, 0, 7, 4, 167, 0, 4, 3, 172]
abbrev dktX8_isLetter_1 : List UInt8 := dkwX8_isLetter_1 ++ []
def dkwX8_isLetter_0 : List UInt8 := [27, 42, 180, 0, 180, 162, 0, 26, 42, 180, 0, 35, 27, 51, 133, 20, 0, 189, 20, 0, 191, 184, 0, 167]
abbrev dktX8_isLetter_0 : List UInt8 := dkwX8_isLetter_0 ++ dktX8_isLetter_1
theorem dksX8_isLetter_0 : cX8_isLetter.data.toList.drop 0 = dktX8_isLetter_0 := by decide +kernel
theorem dksX8_isLetter_1 : cX8_isLetter.data.toList.drop 24 = dktX8_isLetter_1 := dk_seg dksX8_isLetter_0 24 rfl rfl
theorem dX8_isLetter_0 : decode cX8_isLetter 0 = .ok (.iload_n 1, 1) := dk_27 (dk_at dksX8_isLetter_0 0 rfl rfl)
theorem dX8_isLetter_1 : decode cX8_isLetter 1 = .ok (.aload_n 0, 1) := dk_42 (dk_at dksX8_isLetter_0 1 rfl rfl)
theorem dX8_isLetter_2 : decode cX8_isLetter 2 = .ok (.getfield 180, 3) := dk_180 0 180 (dk_at dksX8_isLetter_0 2 rfl rfl)
theorem dX8_isLetter_5 : decode cX8_isLetter 5 = .ok (.if_icmp .ge 26, 3) := dk_162 0 26 (dk_at dksX8_isLetter_0 5 rfl rfl)
theorem dX8_isLetter_8 : decode cX8_isLetter 8 = .ok (.aload_n 0, 1) := dk_42 (dk_at dksX8_isLetter_0 8 rfl rfl)
theorem dX8_isLetter_9 : decode cX8_isLetter 9 = .ok (.getfield 35, 3) := dk_180 0 35 (dk_at dksX8_isLetter_0 9 rfl rfl)
theorem dX8_isLetter_12 : decode cX8_isLetter 12 = .ok (.iload_n 1, 1) := dk_27 (dk_at dksX8_isLetter_0 12 rfl rfl)
theorem dX8_isLetter_13 : decode cX8_isLetter 13 = .ok (.baload, 1) := dk_51 (dk_at dksX8_isLetter_0 13 rfl rfl)
theorem dX8_isLetter_14 : decode cX8_isLetter 14 = .ok (.i2l, 1) := dk_133 (dk_at dksX8_isLetter_0 14 rfl rfl)
theorem dX8_isLetter_15 : decode cX8_isLetter 15 = .ok (.ldc2_w 189, 3) := dk_20 0 189 (dk_at dksX8_isLetter_0 15 rfl rfl)
theorem dX8_isLetter_18 : decode cX8_isLetter 18 = .ok (.ldc2_w 191, 3) := dk_20 0 191 (dk_at dksX8_isLetter_0 18 rfl rfl)
theorem dX8_isLetter_21 : decode cX8_isLetter 21 = .ok (.invokestatic 167, 3) := dk_184 0 167 (dk_at dksX8_isLetter_0 21 rfl rfl)
theorem dX8_isLetter_24 : decode cX8_isLetter 24 = .ok (.ifCond .eq 7, 3) := dk_153 0 7 (dk_at dksX8_isLetter_1 0 rfl rfl)
theorem dX8_isLetter_27 : decode cX8_isLetter 27 = .ok (.iconst 1, 1) := dk_4 (dk_at dksX8_isLetter_1 3 rfl rfl)
theorem dX8_isLetter_28 : decode cX8_isLetter 28 = .ok (.goto 4, 3) := dk_167 0 4 (dk_at dksX8_isLetter_1 4 rfl rfl)
theorem dX8_isLetter_31 : decode cX8_isLetter 31 = .ok (.iconst 0, 1) := dk_3 (dk_at dksX8_isLetter_1 7 rfl rfl)
theorem dX8_isLetter_32 : decode cX8_isLetter 32 = .ok (.ireturn, 1) := dk_172 (dk_at dksX8_isLetter_1 8 rfl rfl)
abbrev cX8_isDigit : ByteArray := prog_18_method_53_code
def yX8_isDigit : MethodName := ⟨RX8, "isDigit", "(I)Z"⟩
def dkwX8_isDigit_1 : List UInt8 := [153, 0, 7, 4, 167, 0, 4, 3, 172]
abbrev dktX8_isDigit_1 : List UInt8 := dkwX8_isDigit_1 ++ []
def dkwX8_isDigit_0 : List UInt8 := [27, 42, 180, 0, 180, 162, 0, 26, 42, 180, 0, 35, 27, 51, 133, 20, 0, 193, 20, 0, 195, 184, 0, 167]
abbrev dktX8_isDigit_0 : List UInt8 := dkwX8_isDigit_0 ++ dktX8_isDigit_1
theorem dksX8_isDigit_0 : cX8_isDigit.data.toList.drop 0 = dktX8_isDigit_0 := by decide +kernel
theorem dksX8_isDigit_1 : cX8_isDigit.data.toList.drop 24 = dktX8_isDigit_1 := dk_seg dksX8_isDigit_0 24 rfl rfl
theorem dX8_isDigit_0 : decode cX8_isDigit 0 = .ok (.iload_n 1, 1) := dk_27 (dk_at dksX8_isDigit_0 0 rfl rfl)
theorem dX8_isDigit_1 : decode cX8_isDigit 1 = .ok (.aload_n 0, 1) := dk_42 (dk_at dksX8_isDigit_0 1 rfl rfl)
theorem dX8_isDigit_2 : decode cX8_isDigit 2 = .ok (.getfield 180, 3) := dk_180 0 180 (dk_at dksX8_isDigit_0 2 rfl rfl)
theorem dX8_isDigit_5 : decode cX8_isDigit 5 = .ok (.if_icmp .ge 26, 3) := dk_162 0 26 (dk_at dksX8_isDigit_0 5 rfl rfl)
theorem dX8_isDigit_8 : decode cX8_isDigit 8 = .ok (.aload_n 0, 1) := dk_42 (dk_at dksX8_isDigit_0 8 rfl rfl)
theorem dX8_isDigit_9 : decode cX8_isDigit 9 = .ok (.getfield 35, 3) := dk_180 0 35 (dk_at dksX8_isDigit_0 9 rfl rfl)
theorem dX8_isDigit_12 : decode cX8_isDigit 12 = .ok (.iload_n 1, 1) := dk_27 (dk_at dksX8_isDigit_0 12 rfl rfl)
theorem dX8_isDigit_13 : decode cX8_isDigit 13 = .ok (.baload, 1) := dk_51 (dk_at dksX8_isDigit_0 13 rfl rfl)
theorem dX8_isDigit_14 : decode cX8_isDigit 14 = .ok (.i2l, 1) := dk_133 (dk_at dksX8_isDigit_0 14 rfl rfl)
theorem dX8_isDigit_15 : decode cX8_isDigit 15 = .ok (.ldc2_w 193, 3) := dk_20 0 193 (dk_at dksX8_isDigit_0 15 rfl rfl)
theorem dX8_isDigit_18 : decode cX8_isDigit 18 = .ok (.ldc2_w 195, 3) := dk_20 0 195 (dk_at dksX8_isDigit_0 18 rfl rfl)
theorem dX8_isDigit_21 : decode cX8_isDigit 21 = .ok (.invokestatic 167, 3) := dk_184 0 167 (dk_at dksX8_isDigit_0 21 rfl rfl)
theorem dX8_isDigit_24 : decode cX8_isDigit 24 = .ok (.ifCond .eq 7, 3) := dk_153 0 7 (dk_at dksX8_isDigit_1 0 rfl rfl)
theorem dX8_isDigit_27 : decode cX8_isDigit 27 = .ok (.iconst 1, 1) := dk_4 (dk_at dksX8_isDigit_1 3 rfl rfl)
theorem dX8_isDigit_28 : decode cX8_isDigit 28 = .ok (.goto 4, 3) := dk_167 0 4 (dk_at dksX8_isDigit_1 4 rfl rfl)
theorem dX8_isDigit_31 : decode cX8_isDigit 31 = .ok (.iconst 0, 1) := dk_3 (dk_at dksX8_isDigit_1 7 rfl rfl)
theorem dX8_isDigit_32 : decode cX8_isDigit 32 = .ok (.ireturn, 1) := dk_172 (dk_at dksX8_isDigit_1 8 rfl rfl)
abbrev cX8_parseList : ByteArray := prog_18_method_62_code
def yX8_parseList : MethodName := ⟨RX8, "parseList", "()V"⟩
def dkwX8_parseList_3 : List UInt8 := [180, 0, 52, 4, 96, 181, 0, 52, 167, 255, 195, 42, 182, 0, 250, 177]
abbrev dktX8_parseList_3 : List UInt8 := dkwX8_parseList_3 ++ []
def dkwX8_parseList_2 : List UInt8 := [182, 0, 247, 60, 42, 180, 0, 197, 154, 0, 23, 42, 180, 0, 26, 42, 180, 0, 52, 27, 79, 42, 89]
abbrev dktX8_parseList_2 : List UInt8 := dkwX8_parseList_2 ++ dktX8_parseList_3
def dkwX8_parseList_1 : List UInt8 := [180, 0, 206, 6, 159, 0, 52, 42, 42, 180, 0, 52, 16, 64, 162, 0, 7, 4, 167, 0, 4, 3]
abbrev dktX8_parseList_1 : List UInt8 := dkwX8_parseList_1 ++ dktX8_parseList_2
def dkwX8_parseList_0 : List UInt8 := [42, 42, 18, 245, 182, 0, 238, 4, 182, 0, 232, 42, 182, 0, 221, 42, 180, 0, 197, 154, 0, 60, 42]
abbrev dktX8_parseList_0 : List UInt8 := dkwX8_parseList_0 ++ dktX8_parseList_1
theorem dksX8_parseList_0 : cX8_parseList.data.toList.drop 0 = dktX8_parseList_0 := by decide +kernel
theorem dksX8_parseList_1 : cX8_parseList.data.toList.drop 23 = dktX8_parseList_1 := dk_seg dksX8_parseList_0 23 rfl rfl
theorem dksX8_parseList_2 : cX8_parseList.data.toList.drop 45 = dktX8_parseList_2 := dk_seg dksX8_parseList_1 22 rfl rfl
theorem dksX8_parseList_3 : cX8_parseList.data.toList.drop 68 = dktX8_parseList_3 := dk_seg dksX8_parseList_2 23 rfl rfl
theorem dX8_parseList_0 : decode cX8_parseList 0 = .ok (.aload_n 0, 1) := dk_42 (dk_at dksX8_parseList_0 0 rfl rfl)
theorem dX8_parseList_1 : decode cX8_parseList 1 = .ok (.aload_n 0, 1) := dk_42 (dk_at dksX8_parseList_0 1 rfl rfl)
theorem dX8_parseList_2 : decode cX8_parseList 2 = .ok (.ldc 245, 2) := dk_18 245 (dk_at dksX8_parseList_0 2 rfl rfl)
theorem dX8_parseList_4 : decode cX8_parseList 4 = .ok (.invokevirtual 238, 3) := dk_182 0 238 (dk_at dksX8_parseList_0 4 rfl rfl)
theorem dX8_parseList_7 : decode cX8_parseList 7 = .ok (.iconst 1, 1) := dk_4 (dk_at dksX8_parseList_0 7 rfl rfl)
theorem dX8_parseList_8 : decode cX8_parseList 8 = .ok (.invokevirtual 232, 3) := dk_182 0 232 (dk_at dksX8_parseList_0 8 rfl rfl)
theorem dX8_parseList_11 : decode cX8_parseList 11 = .ok (.aload_n 0, 1) := dk_42 (dk_at dksX8_parseList_0 11 rfl rfl)
theorem dX8_parseList_12 : decode cX8_parseList 12 = .ok (.invokevirtual 221, 3) := dk_182 0 221 (dk_at dksX8_parseList_0 12 rfl rfl)
theorem dX8_parseList_15 : decode cX8_parseList 15 = .ok (.aload_n 0, 1) := dk_42 (dk_at dksX8_parseList_0 15 rfl rfl)
theorem dX8_parseList_16 : decode cX8_parseList 16 = .ok (.getfield 197, 3) := dk_180 0 197 (dk_at dksX8_parseList_0 16 rfl rfl)
theorem dX8_parseList_19 : decode cX8_parseList 19 = .ok (.ifCond .ne 60, 3) := dk_154 0 60 (dk_at dksX8_parseList_0 19 rfl rfl)
theorem dX8_parseList_22 : decode cX8_parseList 22 = .ok (.aload_n 0, 1) := dk_42 (dk_at dksX8_parseList_0 22 rfl rfl)
theorem dX8_parseList_23 : decode cX8_parseList 23 = .ok (.getfield 206, 3) := dk_180 0 206 (dk_at dksX8_parseList_1 0 rfl rfl)
theorem dX8_parseList_26 : decode cX8_parseList 26 = .ok (.iconst 3, 1) := dk_6 (dk_at dksX8_parseList_1 3 rfl rfl)
theorem dX8_parseList_27 : decode cX8_parseList 27 = .ok (.if_icmp .eq 52, 3) := dk_159 0 52 (dk_at dksX8_parseList_1 4 rfl rfl)
theorem dX8_parseList_30 : decode cX8_parseList 30 = .ok (.aload_n 0, 1) := dk_42 (dk_at dksX8_parseList_1 7 rfl rfl)
theorem dX8_parseList_31 : decode cX8_parseList 31 = .ok (.aload_n 0, 1) := dk_42 (dk_at dksX8_parseList_1 8 rfl rfl)
theorem dX8_parseList_32 : decode cX8_parseList 32 = .ok (.getfield 52, 3) := dk_180 0 52 (dk_at dksX8_parseList_1 9 rfl rfl)
theorem dX8_parseList_35 : decode cX8_parseList 35 = .ok (.bipush 64, 2) := dk_16 64 (dk_at dksX8_parseList_1 12 rfl rfl)
theorem dX8_parseList_37 : decode cX8_parseList 37 = .ok (.if_icmp .ge 7, 3) := dk_162 0 7 (dk_at dksX8_parseList_1 14 rfl rfl)
theorem dX8_parseList_40 : decode cX8_parseList 40 = .ok (.iconst 1, 1) := dk_4 (dk_at dksX8_parseList_1 17 rfl rfl)
theorem dX8_parseList_41 : decode cX8_parseList 41 = .ok (.goto 4, 3) := dk_167 0 4 (dk_at dksX8_parseList_1 18 rfl rfl)
theorem dX8_parseList_44 : decode cX8_parseList 44 = .ok (.iconst 0, 1) := dk_3 (dk_at dksX8_parseList_1 21 rfl rfl)
theorem dX8_parseList_45 : decode cX8_parseList 45 = .ok (.invokevirtual 247, 3) := dk_182 0 247 (dk_at dksX8_parseList_2 0 rfl rfl)
theorem dX8_parseList_48 : decode cX8_parseList 48 = .ok (.istore_n 1, 1) := dk_60 (dk_at dksX8_parseList_2 3 rfl rfl)
theorem dX8_parseList_49 : decode cX8_parseList 49 = .ok (.aload_n 0, 1) := dk_42 (dk_at dksX8_parseList_2 4 rfl rfl)
theorem dX8_parseList_50 : decode cX8_parseList 50 = .ok (.getfield 197, 3) := dk_180 0 197 (dk_at dksX8_parseList_2 5 rfl rfl)
theorem dX8_parseList_53 : decode cX8_parseList 53 = .ok (.ifCond .ne 23, 3) := dk_154 0 23 (dk_at dksX8_parseList_2 8 rfl rfl)
theorem dX8_parseList_56 : decode cX8_parseList 56 = .ok (.aload_n 0, 1) := dk_42 (dk_at dksX8_parseList_2 11 rfl rfl)
theorem dX8_parseList_57 : decode cX8_parseList 57 = .ok (.getfield 26, 3) := dk_180 0 26 (dk_at dksX8_parseList_2 12 rfl rfl)
theorem dX8_parseList_60 : decode cX8_parseList 60 = .ok (.aload_n 0, 1) := dk_42 (dk_at dksX8_parseList_2 15 rfl rfl)
theorem dX8_parseList_61 : decode cX8_parseList 61 = .ok (.getfield 52, 3) := dk_180 0 52 (dk_at dksX8_parseList_2 16 rfl rfl)
theorem dX8_parseList_64 : decode cX8_parseList 64 = .ok (.iload_n 1, 1) := dk_27 (dk_at dksX8_parseList_2 19 rfl rfl)
theorem dX8_parseList_65 : decode cX8_parseList 65 = .ok (.iastore, 1) := dk_79 (dk_at dksX8_parseList_2 20 rfl rfl)
theorem dX8_parseList_66 : decode cX8_parseList 66 = .ok (.aload_n 0, 1) := dk_42 (dk_at dksX8_parseList_2 21 rfl rfl)
theorem dX8_parseList_67 : decode cX8_parseList 67 = .ok (.dup, 1) := dk_89 (dk_at dksX8_parseList_2 22 rfl rfl)
theorem dX8_parseList_68 : decode cX8_parseList 68 = .ok (.getfield 52, 3) := dk_180 0 52 (dk_at dksX8_parseList_3 0 rfl rfl)
theorem dX8_parseList_71 : decode cX8_parseList 71 = .ok (.iconst 1, 1) := dk_4 (dk_at dksX8_parseList_3 3 rfl rfl)
theorem dX8_parseList_72 : decode cX8_parseList 72 = .ok (.iadd, 1) := dk_96 (dk_at dksX8_parseList_3 4 rfl rfl)
theorem dX8_parseList_73 : decode cX8_parseList 73 = .ok (.putfield 52, 3) := dk_181 0 52 (dk_at dksX8_parseList_3 5 rfl rfl)
theorem dX8_parseList_76 : decode cX8_parseList 76 = .ok (.goto (-61), 3) := dk_167 255 195 (dk_at dksX8_parseList_3 8 rfl rfl)
theorem dX8_parseList_79 : decode cX8_parseList 79 = .ok (.aload_n 0, 1) := dk_42 (dk_at dksX8_parseList_3 11 rfl rfl)
theorem dX8_parseList_80 : decode cX8_parseList 80 = .ok (.invokevirtual 250, 3) := dk_182 0 250 (dk_at dksX8_parseList_3 12 rfl rfl)
theorem dX8_parseList_83 : decode cX8_parseList 83 = .ok (.return_, 1) := dk_177 (dk_at dksX8_parseList_3 15 rfl rfl)
abbrev cX8_isWord : ByteArray := prog_18_method_58_code
def yX8_isWord : MethodName := ⟨RX8, "isWord", "(Ljava/lang/String;)Z"⟩
def dkwX8_isWord_2 : List UInt8 := [180, 0, 203, 28, 96, 51, 43, 28, 182, 0, 228, 159, 0, 5, 3, 172, 132, 2, 1, 167, 255, 224, 4, 172]
abbrev dktX8_isWord_2 : List UInt8 := dkwX8_isWord_2 ++ []
def dkwX8_isWord_1 : List UInt8 := [43, 182, 0, 224, 159, 0, 5, 3, 172, 3, 61, 28, 43, 182, 0, 224, 162, 0, 30, 42, 180, 0, 35, 42]
abbrev dktX8_isWord_1 : List UInt8 := dkwX8_isWord_1 ++ dktX8_isWord_2
def dkwX8_isWord_0 : List UInt8 := [42, 180, 0, 197, 157, 0, 27, 42, 180, 0, 206, 4, 160, 0, 19, 42, 180, 0, 200, 42, 180, 0, 203, 100]
abbrev dktX8_isWord_0 : List UInt8 := dkwX8_isWord_0 ++ dktX8_isWord_1
theorem dksX8_isWord_0 : cX8_isWord.data.toList.drop 0 = dktX8_isWord_0 := by decide +kernel
theorem dksX8_isWord_1 : cX8_isWord.data.toList.drop 24 = dktX8_isWord_1 := dk_seg dksX8_isWord_0 24 rfl rfl
theorem dksX8_isWord_2 : cX8_isWord.data.toList.drop 48 = dktX8_isWord_2 := dk_seg dksX8_isWord_1 24 rfl rfl
theorem dX8_isWord_0 : decode cX8_isWord 0 = .ok (.aload_n 0, 1) := dk_42 (dk_at dksX8_isWord_0 0 rfl rfl)
theorem dX8_isWord_1 : decode cX8_isWord 1 = .ok (.getfield 197, 3) := dk_180 0 197 (dk_at dksX8_isWord_0 1 rfl rfl)
theorem dX8_isWord_4 : decode cX8_isWord 4 = .ok (.ifCond .gt 27, 3) := dk_157 0 27 (dk_at dksX8_isWord_0 4 rfl rfl)
theorem dX8_isWord_7 : decode cX8_isWord 7 = .ok (.aload_n 0, 1) := dk_42 (dk_at dksX8_isWord_0 7 rfl rfl)
theorem dX8_isWord_8 : decode cX8_isWord 8 = .ok (.getfield 206, 3) := dk_180 0 206 (dk_at dksX8_isWord_0 8 rfl rfl)
theorem dX8_isWord_11 : decode cX8_isWord 11 = .ok (.iconst 1, 1) := dk_4 (dk_at dksX8_isWord_0 11 rfl rfl)
theorem dX8_isWord_12 : decode cX8_isWord 12 = .ok (.if_icmp .ne 19, 3) := dk_160 0 19 (dk_at dksX8_isWord_0 12 rfl rfl)
theorem dX8_isWord_15 : decode cX8_isWord 15 = .ok (.aload_n 0, 1) := dk_42 (dk_at dksX8_isWord_0 15 rfl rfl)
theorem dX8_isWord_16 : decode cX8_isWord 16 = .ok (.getfield 200, 3) := dk_180 0 200 (dk_at dksX8_isWord_0 16 rfl rfl)
theorem dX8_isWord_19 : decode cX8_isWord 19 = .ok (.aload_n 0, 1) := dk_42 (dk_at dksX8_isWord_0 19 rfl rfl)
theorem dX8_isWord_20 : decode cX8_isWord 20 = .ok (.getfield 203, 3) := dk_180 0 203 (dk_at dksX8_isWord_0 20 rfl rfl)
theorem dX8_isWord_23 : decode cX8_isWord 23 = .ok (.isub, 1) := dk_100 (dk_at dksX8_isWord_0 23 rfl rfl)
theorem dX8_isWord_24 : decode cX8_isWord 24 = .ok (.aload_n 1, 1) := dk_43 (dk_at dksX8_isWord_1 0 rfl rfl)
theorem dX8_isWord_25 : decode cX8_isWord 25 = .ok (.invokevirtual 224, 3) := dk_182 0 224 (dk_at dksX8_isWord_1 1 rfl rfl)
theorem dX8_isWord_28 : decode cX8_isWord 28 = .ok (.if_icmp .eq 5, 3) := dk_159 0 5 (dk_at dksX8_isWord_1 4 rfl rfl)
theorem dX8_isWord_31 : decode cX8_isWord 31 = .ok (.iconst 0, 1) := dk_3 (dk_at dksX8_isWord_1 7 rfl rfl)
theorem dX8_isWord_32 : decode cX8_isWord 32 = .ok (.ireturn, 1) := dk_172 (dk_at dksX8_isWord_1 8 rfl rfl)
theorem dX8_isWord_33 : decode cX8_isWord 33 = .ok (.iconst 0, 1) := dk_3 (dk_at dksX8_isWord_1 9 rfl rfl)
theorem dX8_isWord_34 : decode cX8_isWord 34 = .ok (.istore_n 2, 1) := dk_61 (dk_at dksX8_isWord_1 10 rfl rfl)
theorem dX8_isWord_35 : decode cX8_isWord 35 = .ok (.iload_n 2, 1) := dk_28 (dk_at dksX8_isWord_1 11 rfl rfl)
theorem dX8_isWord_36 : decode cX8_isWord 36 = .ok (.aload_n 1, 1) := dk_43 (dk_at dksX8_isWord_1 12 rfl rfl)
theorem dX8_isWord_37 : decode cX8_isWord 37 = .ok (.invokevirtual 224, 3) := dk_182 0 224 (dk_at dksX8_isWord_1 13 rfl rfl)
theorem dX8_isWord_40 : decode cX8_isWord 40 = .ok (.if_icmp .ge 30, 3) := dk_162 0 30 (dk_at dksX8_isWord_1 16 rfl rfl)
theorem dX8_isWord_43 : decode cX8_isWord 43 = .ok (.aload_n 0, 1) := dk_42 (dk_at dksX8_isWord_1 19 rfl rfl)
theorem dX8_isWord_44 : decode cX8_isWord 44 = .ok (.getfield 35, 3) := dk_180 0 35 (dk_at dksX8_isWord_1 20 rfl rfl)
theorem dX8_isWord_47 : decode cX8_isWord 47 = .ok (.aload_n 0, 1) := dk_42 (dk_at dksX8_isWord_1 23 rfl rfl)
theorem dX8_isWord_48 : decode cX8_isWord 48 = .ok (.getfield 203, 3) := dk_180 0 203 (dk_at dksX8_isWord_2 0 rfl rfl)
theorem dX8_isWord_51 : decode cX8_isWord 51 = .ok (.iload_n 2, 1) := dk_28 (dk_at dksX8_isWord_2 3 rfl rfl)
theorem dX8_isWord_52 : decode cX8_isWord 52 = .ok (.iadd, 1) := dk_96 (dk_at dksX8_isWord_2 4 rfl rfl)
theorem dX8_isWord_53 : decode cX8_isWord 53 = .ok (.baload, 1) := dk_51 (dk_at dksX8_isWord_2 5 rfl rfl)
theorem dX8_isWord_54 : decode cX8_isWord 54 = .ok (.aload_n 1, 1) := dk_43 (dk_at dksX8_isWord_2 6 rfl rfl)
theorem dX8_isWord_55 : decode cX8_isWord 55 = .ok (.iload_n 2, 1) := dk_28 (dk_at dksX8_isWord_2 7 rfl rfl)
theorem dX8_isWord_56 : decode cX8_isWord 56 = .ok (.invokevirtual 228, 3) := dk_182 0 228 (dk_at dksX8_isWord_2 8 rfl rfl)
theorem dX8_isWord_59 : decode cX8_isWord 59 = .ok (.if_icmp .eq 5, 3) := dk_159 0 5 (dk_at dksX8_isWord_2 11 rfl rfl)
theorem dX8_isWord_62 : decode cX8_isWord 62 = .ok (.iconst 0, 1) := dk_3 (dk_at dksX8_isWord_2 14 rfl rfl)
theorem dX8_isWord_63 : decode cX8_isWord 63 = .ok (.ireturn, 1) := dk_172 (dk_at dksX8_isWord_2 15 rfl rfl)
theorem dX8_isWord_64 : decode cX8_isWord 64 = .ok (.iinc 2 1, 3) := dk_132 2 1 (dk_at dksX8_isWord_2 16 rfl rfl)
theorem dX8_isWord_67 : decode cX8_isWord 67 = .ok (.goto (-32), 3) := dk_167 255 224 (dk_at dksX8_isWord_2 19 rfl rfl)
theorem dX8_isWord_70 : decode cX8_isWord 70 = .ok (.iconst 1, 1) := dk_4 (dk_at dksX8_isWord_2 22 rfl rfl)
theorem dX8_isWord_71 : decode cX8_isWord 71 = .ok (.ireturn, 1) := dk_172 (dk_at dksX8_isWord_2 23 rfl rfl)
abbrev cX8_expect : ByteArray := prog_18_method_55_code
def yX8_expect : MethodName := ⟨RX8, "expect", "(ZI)V"⟩
def dkwX8_expect_1 : List UInt8 := [177]
abbrev dktX8_expect_1 : List UInt8 := dkwX8_expect_1 ++ []
def dkwX8_expect_0 : List UInt8 := [42, 180, 0, 197, 154, 0, 20, 27, 154, 0, 16, 42, 28, 181, 0, 197, 42, 42, 180, 0, 203, 181, 0, 218]
abbrev dktX8_expect_0 : List UInt8 := dkwX8_expect_0 ++ dktX8_expect_1
theorem dksX8_expect_0 : cX8_expect.data.toList.drop 0 = dktX8_expect_0 := by decide +kernel
theorem dksX8_expect_1 : cX8_expect.data.toList.drop 24 = dktX8_expect_1 := dk_seg dksX8_expect_0 24 rfl rfl
theorem dX8_expect_0 : decode cX8_expect 0 = .ok (.aload_n 0, 1) := dk_42 (dk_at dksX8_expect_0 0 rfl rfl)
theorem dX8_expect_1 : decode cX8_expect 1 = .ok (.getfield 197, 3) := dk_180 0 197 (dk_at dksX8_expect_0 1 rfl rfl)
theorem dX8_expect_4 : decode cX8_expect 4 = .ok (.ifCond .ne 20, 3) := dk_154 0 20 (dk_at dksX8_expect_0 4 rfl rfl)
theorem dX8_expect_7 : decode cX8_expect 7 = .ok (.iload_n 1, 1) := dk_27 (dk_at dksX8_expect_0 7 rfl rfl)
theorem dX8_expect_8 : decode cX8_expect 8 = .ok (.ifCond .ne 16, 3) := dk_154 0 16 (dk_at dksX8_expect_0 8 rfl rfl)
theorem dX8_expect_11 : decode cX8_expect 11 = .ok (.aload_n 0, 1) := dk_42 (dk_at dksX8_expect_0 11 rfl rfl)
theorem dX8_expect_12 : decode cX8_expect 12 = .ok (.iload_n 2, 1) := dk_28 (dk_at dksX8_expect_0 12 rfl rfl)
theorem dX8_expect_13 : decode cX8_expect 13 = .ok (.putfield 197, 3) := dk_181 0 197 (dk_at dksX8_expect_0 13 rfl rfl)
theorem dX8_expect_16 : decode cX8_expect 16 = .ok (.aload_n 0, 1) := dk_42 (dk_at dksX8_expect_0 16 rfl rfl)
theorem dX8_expect_17 : decode cX8_expect 17 = .ok (.aload_n 0, 1) := dk_42 (dk_at dksX8_expect_0 17 rfl rfl)
theorem dX8_expect_18 : decode cX8_expect 18 = .ok (.getfield 203, 3) := dk_180 0 203 (dk_at dksX8_expect_0 18 rfl rfl)
theorem dX8_expect_21 : decode cX8_expect 21 = .ok (.putfield 218, 3) := dk_181 0 218 (dk_at dksX8_expect_0 21 rfl rfl)
theorem dX8_expect_24 : decode cX8_expect 24 = .ok (.return_, 1) := dk_177 (dk_at dksX8_expect_1 0 rfl rfl)
abbrev cX8_parseValue : ByteArray := prog_18_method_61_code
def yX8_parseValue : MethodName := ⟨RX8, "parseValue", "(Z)I"⟩
def dkwX8_parseValue_2 : List UInt8 := [182, 0, 242, 62, 28, 153, 0, 8, 29, 116, 167, 0, 4, 29, 172]
abbrev dktX8_parseValue_2 : List UInt8 := dkwX8_parseValue_2 ++ []
def dkwX8_parseValue_1 : List UInt8 := [3, 4, 182, 0, 232, 42, 27, 6, 182, 0, 232, 28, 153, 0, 7, 42, 182, 0, 221, 42, 3, 17, 3, 231]
abbrev dktX8_parseValue_1 : List UInt8 := dkwX8_parseValue_1 ++ dktX8_parseValue_2
def dkwX8_parseValue_0 : List UInt8 := [42, 18, 236, 182, 0, 238, 61, 42, 28, 154, 0, 11, 42, 180, 0, 206, 5, 160, 0, 7, 4, 167, 0, 4]
abbrev dktX8_parseValue_0 : List UInt8 := dkwX8_parseValue_0 ++ dktX8_parseValue_1
theorem dksX8_parseValue_0 : cX8_parseValue.data.toList.drop 0 = dktX8_parseValue_0 := by decide +kernel
theorem dksX8_parseValue_1 : cX8_parseValue.data.toList.drop 24 = dktX8_parseValue_1 := dk_seg dksX8_parseValue_0 24 rfl rfl
theorem dksX8_parseValue_2 : cX8_parseValue.data.toList.drop 48 = dktX8_parseValue_2 := dk_seg dksX8_parseValue_1 24 rfl rfl
theorem dX8_parseValue_0 : decode cX8_parseValue 0 = .ok (.aload_n 0, 1) := dk_42 (dk_at dksX8_parseValue_0 0 rfl rfl)
theorem dX8_parseValue_1 : decode cX8_parseValue 1 = .ok (.ldc 236, 2) := dk_18 236 (dk_at dksX8_parseValue_0 1 rfl rfl)
theorem dX8_parseValue_3 : decode cX8_parseValue 3 = .ok (.invokevirtual 238, 3) := dk_182 0 238 (dk_at dksX8_parseValue_0 3 rfl rfl)
theorem dX8_parseValue_6 : decode cX8_parseValue 6 = .ok (.istore_n 2, 1) := dk_61 (dk_at dksX8_parseValue_0 6 rfl rfl)
theorem dX8_parseValue_7 : decode cX8_parseValue 7 = .ok (.aload_n 0, 1) := dk_42 (dk_at dksX8_parseValue_0 7 rfl rfl)
theorem dX8_parseValue_8 : decode cX8_parseValue 8 = .ok (.iload_n 2, 1) := dk_28 (dk_at dksX8_parseValue_0 8 rfl rfl)
theorem dX8_parseValue_9 : decode cX8_parseValue 9 = .ok (.ifCond .ne 11, 3) := dk_154 0 11 (dk_at dksX8_parseValue_0 9 rfl rfl)
theorem dX8_parseValue_12 : decode cX8_parseValue 12 = .ok (.aload_n 0, 1) := dk_42 (dk_at dksX8_parseValue_0 12 rfl rfl)
theorem dX8_parseValue_13 : decode cX8_parseValue 13 = .ok (.getfield 206, 3) := dk_180 0 206 (dk_at dksX8_parseValue_0 13 rfl rfl)
theorem dX8_parseValue_16 : decode cX8_parseValue 16 = .ok (.iconst 2, 1) := dk_5 (dk_at dksX8_parseValue_0 16 rfl rfl)
theorem dX8_parseValue_17 : decode cX8_parseValue 17 = .ok (.if_icmp .ne 7, 3) := dk_160 0 7 (dk_at dksX8_parseValue_0 17 rfl rfl)
theorem dX8_parseValue_20 : decode cX8_parseValue 20 = .ok (.iconst 1, 1) := dk_4 (dk_at dksX8_parseValue_0 20 rfl rfl)
theorem dX8_parseValue_21 : decode cX8_parseValue 21 = .ok (.goto 4, 3) := dk_167 0 4 (dk_at dksX8_parseValue_0 21 rfl rfl)
theorem dX8_parseValue_24 : decode cX8_parseValue 24 = .ok (.iconst 0, 1) := dk_3 (dk_at dksX8_parseValue_1 0 rfl rfl)
theorem dX8_parseValue_25 : decode cX8_parseValue 25 = .ok (.iconst 1, 1) := dk_4 (dk_at dksX8_parseValue_1 1 rfl rfl)
theorem dX8_parseValue_26 : decode cX8_parseValue 26 = .ok (.invokevirtual 232, 3) := dk_182 0 232 (dk_at dksX8_parseValue_1 2 rfl rfl)
theorem dX8_parseValue_29 : decode cX8_parseValue 29 = .ok (.aload_n 0, 1) := dk_42 (dk_at dksX8_parseValue_1 5 rfl rfl)
theorem dX8_parseValue_30 : decode cX8_parseValue 30 = .ok (.iload_n 1, 1) := dk_27 (dk_at dksX8_parseValue_1 6 rfl rfl)
theorem dX8_parseValue_31 : decode cX8_parseValue 31 = .ok (.iconst 3, 1) := dk_6 (dk_at dksX8_parseValue_1 7 rfl rfl)
theorem dX8_parseValue_32 : decode cX8_parseValue 32 = .ok (.invokevirtual 232, 3) := dk_182 0 232 (dk_at dksX8_parseValue_1 8 rfl rfl)
theorem dX8_parseValue_35 : decode cX8_parseValue 35 = .ok (.iload_n 2, 1) := dk_28 (dk_at dksX8_parseValue_1 11 rfl rfl)
theorem dX8_parseValue_36 : decode cX8_parseValue 36 = .ok (.ifCond .eq 7, 3) := dk_153 0 7 (dk_at dksX8_parseValue_1 12 rfl rfl)
theorem dX8_parseValue_39 : decode cX8_parseValue 39 = .ok (.aload_n 0, 1) := dk_42 (dk_at dksX8_parseValue_1 15 rfl rfl)
theorem dX8_parseValue_40 : decode cX8_parseValue 40 = .ok (.invokevirtual 221, 3) := dk_182 0 221 (dk_at dksX8_parseValue_1 16 rfl rfl)
theorem dX8_parseValue_43 : decode cX8_parseValue 43 = .ok (.aload_n 0, 1) := dk_42 (dk_at dksX8_parseValue_1 19 rfl rfl)
theorem dX8_parseValue_44 : decode cX8_parseValue 44 = .ok (.iconst 0, 1) := dk_3 (dk_at dksX8_parseValue_1 20 rfl rfl)
theorem dX8_parseValue_45 : decode cX8_parseValue 45 = .ok (.sipush 999, 3) := dk_17 3 231 (dk_at dksX8_parseValue_1 21 rfl rfl)
theorem dX8_parseValue_48 : decode cX8_parseValue 48 = .ok (.invokevirtual 242, 3) := dk_182 0 242 (dk_at dksX8_parseValue_2 0 rfl rfl)
theorem dX8_parseValue_51 : decode cX8_parseValue 51 = .ok (.istore_n 3, 1) := dk_62 (dk_at dksX8_parseValue_2 3 rfl rfl)
theorem dX8_parseValue_52 : decode cX8_parseValue 52 = .ok (.iload_n 2, 1) := dk_28 (dk_at dksX8_parseValue_2 4 rfl rfl)
theorem dX8_parseValue_53 : decode cX8_parseValue 53 = .ok (.ifCond .eq 8, 3) := dk_153 0 8 (dk_at dksX8_parseValue_2 5 rfl rfl)
theorem dX8_parseValue_56 : decode cX8_parseValue 56 = .ok (.iload_n 3, 1) := dk_29 (dk_at dksX8_parseValue_2 8 rfl rfl)
theorem dX8_parseValue_57 : decode cX8_parseValue 57 = .ok (.ineg, 1) := dk_116 (dk_at dksX8_parseValue_2 9 rfl rfl)
theorem dX8_parseValue_58 : decode cX8_parseValue 58 = .ok (.goto 4, 3) := dk_167 0 4 (dk_at dksX8_parseValue_2 10 rfl rfl)
theorem dX8_parseValue_61 : decode cX8_parseValue 61 = .ok (.iload_n 3, 1) := dk_29 (dk_at dksX8_parseValue_2 13 rfl rfl)
theorem dX8_parseValue_62 : decode cX8_parseValue 62 = .ok (.ireturn, 1) := dk_172 (dk_at dksX8_parseValue_2 14 rfl rfl)
abbrev cX8_parseNumber : ByteArray := prog_18_method_59_code
def yX8_parseNumber : MethodName := ⟨RX8, "parseNumber", "(II)I"⟩
def dkwX8_parseNumber_2 : List UInt8 := [167, 0, 4, 27, 62, 42, 182, 0, 221, 29, 172]
abbrev dktX8_parseNumber_2 : List UInt8 := dkwX8_parseNumber_2 ++ []
def dkwX8_parseNumber_1 : List UInt8 := [27, 133, 28, 133, 184, 0, 167, 5, 182, 0, 232, 42, 180, 0, 197, 154, 0, 10, 42, 180, 0, 215]
abbrev dktX8_parseNumber_1 : List UInt8 := dkwX8_parseNumber_1 ++ dktX8_parseNumber_2
def dkwX8_parseNumber_0 : List UInt8 := [42, 42, 180, 0, 206, 5, 160, 0, 7, 4, 167, 0, 4, 3, 4, 182, 0, 232, 42, 42, 180, 0, 215, 133]
abbrev dktX8_parseNumber_0 : List UInt8 := dkwX8_parseNumber_0 ++ dktX8_parseNumber_1
theorem dksX8_parseNumber_0 : cX8_parseNumber.data.toList.drop 0 = dktX8_parseNumber_0 := by decide +kernel
theorem dksX8_parseNumber_1 : cX8_parseNumber.data.toList.drop 24 = dktX8_parseNumber_1 := dk_seg dksX8_parseNumber_0 24 rfl rfl
theorem dksX8_parseNumber_2 : cX8_parseNumber.data.toList.drop 46 = dktX8_parseNumber_2 := dk_seg dksX8_parseNumber_1 22 rfl rfl
theorem dX8_parseNumber_0 : decode cX8_parseNumber 0 = .ok (.aload_n 0, 1) := dk_42 (dk_at dksX8_parseNumber_0 0 rfl rfl)
theorem dX8_parseNumber_1 : decode cX8_parseNumber 1 = .ok (.aload_n 0, 1) := dk_42 (dk_at dksX8_parseNumber_0 1 rfl rfl)
theorem dX8_parseNumber_2 : decode cX8_parseNumber 2 = .ok (.getfield 206, 3) := dk_180 0 206 (dk_at dksX8_parseNumber_0 2 rfl rfl)
theorem dX8_parseNumber_5 : decode cX8_parseNumber 5 = .ok (.iconst 2, 1) := dk_5 (dk_at dksX8_parseNumber_0 5 rfl rfl)
theorem dX8_parseNumber_6 : decode cX8_parseNumber 6 = .ok (.if_icmp .ne 7, 3) := dk_160 0 7 (dk_at dksX8_parseNumber_0 6 rfl rfl)
theorem dX8_parseNumber_9 : decode cX8_parseNumber 9 = .ok (.iconst 1, 1) := dk_4 (dk_at dksX8_parseNumber_0 9 rfl rfl)
theorem dX8_parseNumber_10 : decode cX8_parseNumber 10 = .ok (.goto 4, 3) := dk_167 0 4 (dk_at dksX8_parseNumber_0 10 rfl rfl)
theorem dX8_parseNumber_13 : decode cX8_parseNumber 13 = .ok (.iconst 0, 1) := dk_3 (dk_at dksX8_parseNumber_0 13 rfl rfl)
theorem dX8_parseNumber_14 : decode cX8_parseNumber 14 = .ok (.iconst 1, 1) := dk_4 (dk_at dksX8_parseNumber_0 14 rfl rfl)
theorem dX8_parseNumber_15 : decode cX8_parseNumber 15 = .ok (.invokevirtual 232, 3) := dk_182 0 232 (dk_at dksX8_parseNumber_0 15 rfl rfl)
theorem dX8_parseNumber_18 : decode cX8_parseNumber 18 = .ok (.aload_n 0, 1) := dk_42 (dk_at dksX8_parseNumber_0 18 rfl rfl)
theorem dX8_parseNumber_19 : decode cX8_parseNumber 19 = .ok (.aload_n 0, 1) := dk_42 (dk_at dksX8_parseNumber_0 19 rfl rfl)
theorem dX8_parseNumber_20 : decode cX8_parseNumber 20 = .ok (.getfield 215, 3) := dk_180 0 215 (dk_at dksX8_parseNumber_0 20 rfl rfl)
theorem dX8_parseNumber_23 : decode cX8_parseNumber 23 = .ok (.i2l, 1) := dk_133 (dk_at dksX8_parseNumber_0 23 rfl rfl)
theorem dX8_parseNumber_24 : decode cX8_parseNumber 24 = .ok (.iload_n 1, 1) := dk_27 (dk_at dksX8_parseNumber_1 0 rfl rfl)
theorem dX8_parseNumber_25 : decode cX8_parseNumber 25 = .ok (.i2l, 1) := dk_133 (dk_at dksX8_parseNumber_1 1 rfl rfl)
theorem dX8_parseNumber_26 : decode cX8_parseNumber 26 = .ok (.iload_n 2, 1) := dk_28 (dk_at dksX8_parseNumber_1 2 rfl rfl)
theorem dX8_parseNumber_27 : decode cX8_parseNumber 27 = .ok (.i2l, 1) := dk_133 (dk_at dksX8_parseNumber_1 3 rfl rfl)
theorem dX8_parseNumber_28 : decode cX8_parseNumber 28 = .ok (.invokestatic 167, 3) := dk_184 0 167 (dk_at dksX8_parseNumber_1 4 rfl rfl)
theorem dX8_parseNumber_31 : decode cX8_parseNumber 31 = .ok (.iconst 2, 1) := dk_5 (dk_at dksX8_parseNumber_1 7 rfl rfl)
theorem dX8_parseNumber_32 : decode cX8_parseNumber 32 = .ok (.invokevirtual 232, 3) := dk_182 0 232 (dk_at dksX8_parseNumber_1 8 rfl rfl)
theorem dX8_parseNumber_35 : decode cX8_parseNumber 35 = .ok (.aload_n 0, 1) := dk_42 (dk_at dksX8_parseNumber_1 11 rfl rfl)
theorem dX8_parseNumber_36 : decode cX8_parseNumber 36 = .ok (.getfield 197, 3) := dk_180 0 197 (dk_at dksX8_parseNumber_1 12 rfl rfl)
theorem dX8_parseNumber_39 : decode cX8_parseNumber 39 = .ok (.ifCond .ne 10, 3) := dk_154 0 10 (dk_at dksX8_parseNumber_1 15 rfl rfl)
theorem dX8_parseNumber_42 : decode cX8_parseNumber 42 = .ok (.aload_n 0, 1) := dk_42 (dk_at dksX8_parseNumber_1 18 rfl rfl)
theorem dX8_parseNumber_43 : decode cX8_parseNumber 43 = .ok (.getfield 215, 3) := dk_180 0 215 (dk_at dksX8_parseNumber_1 19 rfl rfl)
theorem dX8_parseNumber_46 : decode cX8_parseNumber 46 = .ok (.goto 4, 3) := dk_167 0 4 (dk_at dksX8_parseNumber_2 0 rfl rfl)
theorem dX8_parseNumber_49 : decode cX8_parseNumber 49 = .ok (.iload_n 1, 1) := dk_27 (dk_at dksX8_parseNumber_2 3 rfl rfl)
theorem dX8_parseNumber_50 : decode cX8_parseNumber 50 = .ok (.istore_n 3, 1) := dk_62 (dk_at dksX8_parseNumber_2 4 rfl rfl)
theorem dX8_parseNumber_51 : decode cX8_parseNumber 51 = .ok (.aload_n 0, 1) := dk_42 (dk_at dksX8_parseNumber_2 5 rfl rfl)
theorem dX8_parseNumber_52 : decode cX8_parseNumber 52 = .ok (.invokevirtual 221, 3) := dk_182 0 221 (dk_at dksX8_parseNumber_2 6 rfl rfl)
theorem dX8_parseNumber_55 : decode cX8_parseNumber 55 = .ok (.iload_n 3, 1) := dk_29 (dk_at dksX8_parseNumber_2 9 rfl rfl)
theorem dX8_parseNumber_56 : decode cX8_parseNumber 56 = .ok (.ireturn, 1) := dk_172 (dk_at dksX8_parseNumber_2 10 rfl rfl)
abbrev cX8_parseSemicolon : ByteArray := prog_18_method_60_code
def yX8_parseSemicolon : MethodName := ⟨RX8, "parseSemicolon", "()V"⟩
def dkwX8_parseSemicolon_0 : List UInt8 := [42, 42, 180, 0, 206, 6, 160, 0, 7, 4, 167, 0, 4, 3, 4, 182, 0, 232, 42, 182, 0, 221, 177]
abbrev dktX8_parseSemicolon_0 : List UInt8 := dkwX8_parseSemicolon_0 ++ []
theorem dksX8_parseSemicolon_0 : cX8_parseSemicolon.data.toList.drop 0 = dktX8_parseSemicolon_0 := by decide +kernel
theorem dX8_parseSemicolon_0 : decode cX8_parseSemicolon 0 = .ok (.aload_n 0, 1) := dk_42 (dk_at dksX8_parseSemicolon_0 0 rfl rfl)
theorem dX8_parseSemicolon_1 : decode cX8_parseSemicolon 1 = .ok (.aload_n 0, 1) := dk_42 (dk_at dksX8_parseSemicolon_0 1 rfl rfl)
theorem dX8_parseSemicolon_2 : decode cX8_parseSemicolon 2 = .ok (.getfield 206, 3) := dk_180 0 206 (dk_at dksX8_parseSemicolon_0 2 rfl rfl)
theorem dX8_parseSemicolon_5 : decode cX8_parseSemicolon 5 = .ok (.iconst 3, 1) := dk_6 (dk_at dksX8_parseSemicolon_0 5 rfl rfl)
theorem dX8_parseSemicolon_6 : decode cX8_parseSemicolon 6 = .ok (.if_icmp .ne 7, 3) := dk_160 0 7 (dk_at dksX8_parseSemicolon_0 6 rfl rfl)
theorem dX8_parseSemicolon_9 : decode cX8_parseSemicolon 9 = .ok (.iconst 1, 1) := dk_4 (dk_at dksX8_parseSemicolon_0 9 rfl rfl)
theorem dX8_parseSemicolon_10 : decode cX8_parseSemicolon 10 = .ok (.goto 4, 3) := dk_167 0 4 (dk_at dksX8_parseSemicolon_0 10 rfl rfl)
theorem dX8_parseSemicolon_13 : decode cX8_parseSemicolon 13 = .ok (.iconst 0, 1) := dk_3 (dk_at dksX8_parseSemicolon_0 13 rfl rfl)
theorem dX8_parseSemicolon_14 : decode cX8_parseSemicolon 14 = .ok (.iconst 1, 1) := dk_4 (dk_at dksX8_parseSemicolon_0 14 rfl rfl)
theorem dX8_parseSemicolon_15 : decode cX8_parseSemicolon 15 = .ok (.invokevirtual 232, 3) := dk_182 0 232 (dk_at dksX8_parseSemicolon_0 15 rfl rfl)
theorem dX8_parseSemicolon_18 : decode cX8_parseSemicolon 18 = .ok (.aload_n 0, 1) := dk_42 (dk_at dksX8_parseSemicolon_0 18 rfl rfl)
theorem dX8_parseSemicolon_19 : decode cX8_parseSemicolon 19 = .ok (.invokevirtual 221, 3) := dk_182 0 221 (dk_at dksX8_parseSemicolon_0 19 rfl rfl)
theorem dX8_parseSemicolon_22 : decode cX8_parseSemicolon 22 = .ok (.return_, 1) := dk_177 (dk_at dksX8_parseSemicolon_0 22 rfl rfl)
abbrev cX8_endText : ByteArray := prog_18_method_57_code
def yX8_endText : MethodName := ⟨RX8, "endText", "()V"⟩
def dkwX8_endText_1 : List UInt8 := [181, 0, 39, 42, 3, 181, 0, 180, 177]
abbrev dktX8_endText_1 : List UInt8 := dkwX8_endText_1 ++ []
def dkwX8_endText_0 : List UInt8 := [42, 42, 180, 0, 197, 181, 0, 186, 42, 42, 180, 0, 197, 154, 0, 7, 2, 167, 0, 7, 42, 180, 0, 218]
abbrev dktX8_endText_0 : List UInt8 := dkwX8_endText_0 ++ dktX8_endText_1
theorem dksX8_endText_0 : cX8_endText.data.toList.drop 0 = dktX8_endText_0 := by decide +kernel
theorem dksX8_endText_1 : cX8_endText.data.toList.drop 24 = dktX8_endText_1 := dk_seg dksX8_endText_0 24 rfl rfl
theorem dX8_endText_0 : decode cX8_endText 0 = .ok (.aload_n 0, 1) := dk_42 (dk_at dksX8_endText_0 0 rfl rfl)
theorem dX8_endText_1 : decode cX8_endText 1 = .ok (.aload_n 0, 1) := dk_42 (dk_at dksX8_endText_0 1 rfl rfl)
theorem dX8_endText_2 : decode cX8_endText 2 = .ok (.getfield 197, 3) := dk_180 0 197 (dk_at dksX8_endText_0 2 rfl rfl)
theorem dX8_endText_5 : decode cX8_endText 5 = .ok (.putfield 186, 3) := dk_181 0 186 (dk_at dksX8_endText_0 5 rfl rfl)
theorem dX8_endText_8 : decode cX8_endText 8 = .ok (.aload_n 0, 1) := dk_42 (dk_at dksX8_endText_0 8 rfl rfl)
theorem dX8_endText_9 : decode cX8_endText 9 = .ok (.aload_n 0, 1) := dk_42 (dk_at dksX8_endText_0 9 rfl rfl)
theorem dX8_endText_10 : decode cX8_endText 10 = .ok (.getfield 197, 3) := dk_180 0 197 (dk_at dksX8_endText_0 10 rfl rfl)
theorem dX8_endText_13 : decode cX8_endText 13 = .ok (.ifCond .ne 7, 3) := dk_154 0 7 (dk_at dksX8_endText_0 13 rfl rfl)
theorem dX8_endText_16 : decode cX8_endText 16 = .ok (.iconst (-1), 1) := dk_2 (dk_at dksX8_endText_0 16 rfl rfl)
theorem dX8_endText_17 : decode cX8_endText 17 = .ok (.goto 7, 3) := dk_167 0 7 (dk_at dksX8_endText_0 17 rfl rfl)
theorem dX8_endText_20 : decode cX8_endText 20 = .ok (.aload_n 0, 1) := dk_42 (dk_at dksX8_endText_0 20 rfl rfl)
theorem dX8_endText_21 : decode cX8_endText 21 = .ok (.getfield 218, 3) := dk_180 0 218 (dk_at dksX8_endText_0 21 rfl rfl)
theorem dX8_endText_24 : decode cX8_endText 24 = .ok (.putfield 39, 3) := dk_181 0 39 (dk_at dksX8_endText_1 0 rfl rfl)
theorem dX8_endText_27 : decode cX8_endText 27 = .ok (.aload_n 0, 1) := dk_42 (dk_at dksX8_endText_1 3 rfl rfl)
theorem dX8_endText_28 : decode cX8_endText 28 = .ok (.iconst 0, 1) := dk_3 (dk_at dksX8_endText_1 4 rfl rfl)
theorem dX8_endText_29 : decode cX8_endText 29 = .ok (.putfield 180, 3) := dk_181 0 180 (dk_at dksX8_endText_1 5 rfl rfl)
theorem dX8_endText_32 : decode cX8_endText 32 = .ok (.return_, 1) := dk_177 (dk_at dksX8_endText_1 8 rfl rfl)
abbrev cX8_runScript : ByteArray := prog_18_method_73_code
def yX8_runScript : MethodName := ⟨RX8, "runScript", "()I"⟩
def dkwX8_runScript_3 : List UInt8 := [132, 1, 1, 167, 255, 237, 27, 172]
abbrev dktX8_runScript_3 : List UInt8 := dkwX8_runScript_3 ++ []
def dkwX8_runScript_2 : List UInt8 := [2, 172, 42, 182, 1, 68, 3, 60, 27, 42, 180, 1, 23, 162, 0, 17, 42, 27, 182, 1, 71, 153, 0, 9]
abbrev dktX8_runScript_2 : List UInt8 := dkwX8_runScript_2 ++ dktX8_runScript_3
def dkwX8_runScript_1 : List UInt8 := [180, 0, 206, 153, 0, 10, 42, 182, 1, 65, 167, 255, 238, 42, 182, 1, 3, 42, 180, 0, 197, 158, 0, 5]
abbrev dktX8_runScript_1 : List UInt8 := dkwX8_runScript_1 ++ dktX8_runScript_2
def dkwX8_runScript_0 : List UInt8 := [42, 3, 181, 0, 58, 42, 3, 181, 1, 23, 42, 182, 0, 253, 42, 180, 0, 197, 154, 0, 17, 42]
abbrev dktX8_runScript_0 : List UInt8 := dkwX8_runScript_0 ++ dktX8_runScript_1
theorem dksX8_runScript_0 : cX8_runScript.data.toList.drop 0 = dktX8_runScript_0 := by decide +kernel
theorem dksX8_runScript_1 : cX8_runScript.data.toList.drop 22 = dktX8_runScript_1 := dk_seg dksX8_runScript_0 22 rfl rfl
theorem dksX8_runScript_2 : cX8_runScript.data.toList.drop 46 = dktX8_runScript_2 := dk_seg dksX8_runScript_1 24 rfl rfl
theorem dksX8_runScript_3 : cX8_runScript.data.toList.drop 70 = dktX8_runScript_3 := dk_seg dksX8_runScript_2 24 rfl rfl
theorem dX8_runScript_0 : decode cX8_runScript 0 = .ok (.aload_n 0, 1) := dk_42 (dk_at dksX8_runScript_0 0 rfl rfl)
theorem dX8_runScript_1 : decode cX8_runScript 1 = .ok (.iconst 0, 1) := dk_3 (dk_at dksX8_runScript_0 1 rfl rfl)
theorem dX8_runScript_2 : decode cX8_runScript 2 = .ok (.putfield 58, 3) := dk_181 0 58 (dk_at dksX8_runScript_0 2 rfl rfl)
theorem dX8_runScript_5 : decode cX8_runScript 5 = .ok (.aload_n 0, 1) := dk_42 (dk_at dksX8_runScript_0 5 rfl rfl)
theorem dX8_runScript_6 : decode cX8_runScript 6 = .ok (.iconst 0, 1) := dk_3 (dk_at dksX8_runScript_0 6 rfl rfl)
theorem dX8_runScript_7 : decode cX8_runScript 7 = .ok (.putfield 279, 3) := dk_181 1 23 (dk_at dksX8_runScript_0 7 rfl rfl)
theorem dX8_runScript_10 : decode cX8_runScript 10 = .ok (.aload_n 0, 1) := dk_42 (dk_at dksX8_runScript_0 10 rfl rfl)
theorem dX8_runScript_11 : decode cX8_runScript 11 = .ok (.invokevirtual 253, 3) := dk_182 0 253 (dk_at dksX8_runScript_0 11 rfl rfl)
theorem dX8_runScript_14 : decode cX8_runScript 14 = .ok (.aload_n 0, 1) := dk_42 (dk_at dksX8_runScript_0 14 rfl rfl)
theorem dX8_runScript_15 : decode cX8_runScript 15 = .ok (.getfield 197, 3) := dk_180 0 197 (dk_at dksX8_runScript_0 15 rfl rfl)
theorem dX8_runScript_18 : decode cX8_runScript 18 = .ok (.ifCond .ne 17, 3) := dk_154 0 17 (dk_at dksX8_runScript_0 18 rfl rfl)
theorem dX8_runScript_21 : decode cX8_runScript 21 = .ok (.aload_n 0, 1) := dk_42 (dk_at dksX8_runScript_0 21 rfl rfl)
theorem dX8_runScript_22 : decode cX8_runScript 22 = .ok (.getfield 206, 3) := dk_180 0 206 (dk_at dksX8_runScript_1 0 rfl rfl)
theorem dX8_runScript_25 : decode cX8_runScript 25 = .ok (.ifCond .eq 10, 3) := dk_153 0 10 (dk_at dksX8_runScript_1 3 rfl rfl)
theorem dX8_runScript_28 : decode cX8_runScript 28 = .ok (.aload_n 0, 1) := dk_42 (dk_at dksX8_runScript_1 6 rfl rfl)
theorem dX8_runScript_29 : decode cX8_runScript 29 = .ok (.invokevirtual 321, 3) := dk_182 1 65 (dk_at dksX8_runScript_1 7 rfl rfl)
theorem dX8_runScript_32 : decode cX8_runScript 32 = .ok (.goto (-18), 3) := dk_167 255 238 (dk_at dksX8_runScript_1 10 rfl rfl)
theorem dX8_runScript_35 : decode cX8_runScript 35 = .ok (.aload_n 0, 1) := dk_42 (dk_at dksX8_runScript_1 13 rfl rfl)
theorem dX8_runScript_36 : decode cX8_runScript 36 = .ok (.invokevirtual 259, 3) := dk_182 1 3 (dk_at dksX8_runScript_1 14 rfl rfl)
theorem dX8_runScript_39 : decode cX8_runScript 39 = .ok (.aload_n 0, 1) := dk_42 (dk_at dksX8_runScript_1 17 rfl rfl)
theorem dX8_runScript_40 : decode cX8_runScript 40 = .ok (.getfield 197, 3) := dk_180 0 197 (dk_at dksX8_runScript_1 18 rfl rfl)
theorem dX8_runScript_43 : decode cX8_runScript 43 = .ok (.ifCond .le 5, 3) := dk_158 0 5 (dk_at dksX8_runScript_1 21 rfl rfl)
theorem dX8_runScript_46 : decode cX8_runScript 46 = .ok (.iconst (-1), 1) := dk_2 (dk_at dksX8_runScript_2 0 rfl rfl)
theorem dX8_runScript_47 : decode cX8_runScript 47 = .ok (.ireturn, 1) := dk_172 (dk_at dksX8_runScript_2 1 rfl rfl)
theorem dX8_runScript_48 : decode cX8_runScript 48 = .ok (.aload_n 0, 1) := dk_42 (dk_at dksX8_runScript_2 2 rfl rfl)
theorem dX8_runScript_49 : decode cX8_runScript 49 = .ok (.invokevirtual 324, 3) := dk_182 1 68 (dk_at dksX8_runScript_2 3 rfl rfl)
theorem dX8_runScript_52 : decode cX8_runScript 52 = .ok (.iconst 0, 1) := dk_3 (dk_at dksX8_runScript_2 6 rfl rfl)
theorem dX8_runScript_53 : decode cX8_runScript 53 = .ok (.istore_n 1, 1) := dk_60 (dk_at dksX8_runScript_2 7 rfl rfl)
theorem dX8_runScript_54 : decode cX8_runScript 54 = .ok (.iload_n 1, 1) := dk_27 (dk_at dksX8_runScript_2 8 rfl rfl)
theorem dX8_runScript_55 : decode cX8_runScript 55 = .ok (.aload_n 0, 1) := dk_42 (dk_at dksX8_runScript_2 9 rfl rfl)
theorem dX8_runScript_56 : decode cX8_runScript 56 = .ok (.getfield 279, 3) := dk_180 1 23 (dk_at dksX8_runScript_2 10 rfl rfl)
theorem dX8_runScript_59 : decode cX8_runScript 59 = .ok (.if_icmp .ge 17, 3) := dk_162 0 17 (dk_at dksX8_runScript_2 13 rfl rfl)
theorem dX8_runScript_62 : decode cX8_runScript 62 = .ok (.aload_n 0, 1) := dk_42 (dk_at dksX8_runScript_2 16 rfl rfl)
theorem dX8_runScript_63 : decode cX8_runScript 63 = .ok (.iload_n 1, 1) := dk_27 (dk_at dksX8_runScript_2 17 rfl rfl)
theorem dX8_runScript_64 : decode cX8_runScript 64 = .ok (.invokevirtual 327, 3) := dk_182 1 71 (dk_at dksX8_runScript_2 18 rfl rfl)
theorem dX8_runScript_67 : decode cX8_runScript 67 = .ok (.ifCond .eq 9, 3) := dk_153 0 9 (dk_at dksX8_runScript_2 21 rfl rfl)
theorem dX8_runScript_70 : decode cX8_runScript 70 = .ok (.iinc 1 1, 3) := dk_132 1 1 (dk_at dksX8_runScript_3 0 rfl rfl)
theorem dX8_runScript_73 : decode cX8_runScript 73 = .ok (.goto (-19), 3) := dk_167 255 237 (dk_at dksX8_runScript_3 3 rfl rfl)
theorem dX8_runScript_76 : decode cX8_runScript 76 = .ok (.iload_n 1, 1) := dk_27 (dk_at dksX8_runScript_3 6 rfl rfl)
theorem dX8_runScript_77 : decode cX8_runScript 77 = .ok (.ireturn, 1) := dk_172 (dk_at dksX8_runScript_3 7 rfl rfl)
abbrev cX8_parseStatement : ByteArray := prog_18_method_66_code
def yX8_parseStatement : MethodName := ⟨RX8, "parseStatement", "()V"⟩
def dkwX8_parseStatement_9 : List UInt8 := [182, 0, 250, 42, 89, 180, 1, 23, 4, 96, 181, 1, 23, 177]
abbrev dktX8_parseStatement_9 : List UInt8 := dkwX8_parseStatement_9 ++ []
def dkwX8_parseStatement_8 : List UInt8 := [182, 0, 242, 79, 167, 0, 18, 42, 180, 0, 43, 28, 4, 96, 42, 182, 1, 26, 79, 167, 0, 3, 42]
abbrev dktX8_parseStatement_8 : List UInt8 := dkwX8_parseStatement_8 ++ dktX8_parseStatement_9
def dkwX8_parseStatement_7 : List UInt8 := [42, 180, 0, 43, 28, 4, 96, 42, 182, 1, 26, 79, 42, 180, 0, 43, 28, 5, 96, 42, 3, 16, 64]
abbrev dktX8_parseStatement_7 : List UInt8 := dkwX8_parseStatement_7 ++ dktX8_parseStatement_8
def dkwX8_parseStatement_6 : List UInt8 := [28, 4, 96, 42, 182, 1, 26, 79, 42, 180, 0, 43, 28, 5, 96, 42, 4, 182, 0, 247, 79, 167, 0, 48]
abbrev dktX8_parseStatement_6 : List UInt8 := dkwX8_parseStatement_6 ++ dktX8_parseStatement_7
def dkwX8_parseStatement_5 : List UInt8 := [182, 0, 242, 79, 42, 180, 0, 43, 28, 6, 96, 42, 4, 182, 0, 247, 79, 167, 0, 76, 42, 180, 0, 43]
abbrev dktX8_parseStatement_5 : List UInt8 := dkwX8_parseStatement_5 ++ dktX8_parseStatement_6
def dkwX8_parseStatement_4 : List UInt8 := [42, 180, 0, 43, 28, 4, 96, 42, 182, 1, 26, 79, 42, 180, 0, 43, 28, 5, 96, 42, 3, 16, 63]
abbrev dktX8_parseStatement_4 : List UInt8 := dkwX8_parseStatement_4 ++ dktX8_parseStatement_5
def dkwX8_parseStatement_3 : List UInt8 := [170, 0, 0, 0, 0, 146, 0, 0, 0, 0, 0, 0, 0, 3, 0, 0, 0, 30, 0, 0, 0, 73, 0, 0, 0, 101, 0, 0, 0, 131]
abbrev dktX8_parseStatement_3 : List UInt8 := dkwX8_parseStatement_3 ++ dktX8_parseStatement_4
def dkwX8_parseStatement_2 : List UInt8 := [180, 0, 197, 158, 0, 4, 177, 7, 42, 180, 1, 23, 104, 61, 42, 180, 0, 43, 28, 27, 79, 27]
abbrev dktX8_parseStatement_2 : List UInt8 := dkwX8_parseStatement_2 ++ dktX8_parseStatement_3
def dkwX8_parseStatement_1 : List UInt8 := [180, 1, 23, 16, 30, 162, 0, 7, 4, 167, 0, 4, 3, 6, 182, 0, 232, 42, 182, 0, 221, 42]
abbrev dktX8_parseStatement_1 : List UInt8 := dkwX8_parseStatement_1 ++ dktX8_parseStatement_2
def dkwX8_parseStatement_0 : List UInt8 := [42, 182, 1, 20, 60, 42, 27, 2, 159, 0, 7, 4, 167, 0, 4, 3, 4, 182, 0, 232, 42, 42]
abbrev dktX8_parseStatement_0 : List UInt8 := dkwX8_parseStatement_0 ++ dktX8_parseStatement_1
theorem dksX8_parseStatement_0 : cX8_parseStatement.data.toList.drop 0 = dktX8_parseStatement_0 := by decide +kernel
theorem dksX8_parseStatement_1 : cX8_parseStatement.data.toList.drop 22 = dktX8_parseStatement_1 := dk_seg dksX8_parseStatement_0 22 rfl rfl
theorem dksX8_parseStatement_2 : cX8_parseStatement.data.toList.drop 44 = dktX8_parseStatement_2 := dk_seg dksX8_parseStatement_1 22 rfl rfl
theorem dksX8_parseStatement_3 : cX8_parseStatement.data.toList.drop 66 = dktX8_parseStatement_3 := dk_seg dksX8_parseStatement_2 22 rfl rfl
theorem dksX8_parseStatement_4 : cX8_parseStatement.data.toList.drop 96 = dktX8_parseStatement_4 := dk_seg dksX8_parseStatement_3 30 rfl rfl
theorem dksX8_parseStatement_5 : cX8_parseStatement.data.toList.drop 119 = dktX8_parseStatement_5 := dk_seg dksX8_parseStatement_4 23 rfl rfl
theorem dksX8_parseStatement_6 : cX8_parseStatement.data.toList.drop 143 = dktX8_parseStatement_6 := dk_seg dksX8_parseStatement_5 24 rfl rfl
theorem dksX8_parseStatement_7 : cX8_parseStatement.data.toList.drop 167 = dktX8_parseStatement_7 := dk_seg dksX8_parseStatement_6 24 rfl rfl
theorem dksX8_parseStatement_8 : cX8_parseStatement.data.toList.drop 190 = dktX8_parseStatement_8 := dk_seg dksX8_parseStatement_7 23 rfl rfl
theorem dksX8_parseStatement_9 : cX8_parseStatement.data.toList.drop 213 = dktX8_parseStatement_9 := dk_seg dksX8_parseStatement_8 23 rfl rfl
theorem dX8_parseStatement_0 : decode cX8_parseStatement 0 = .ok (.aload_n 0, 1) := dk_42 (dk_at dksX8_parseStatement_0 0 rfl rfl)
theorem dX8_parseStatement_1 : decode cX8_parseStatement 1 = .ok (.invokevirtual 276, 3) := dk_182 1 20 (dk_at dksX8_parseStatement_0 1 rfl rfl)
theorem dX8_parseStatement_4 : decode cX8_parseStatement 4 = .ok (.istore_n 1, 1) := dk_60 (dk_at dksX8_parseStatement_0 4 rfl rfl)
theorem dX8_parseStatement_5 : decode cX8_parseStatement 5 = .ok (.aload_n 0, 1) := dk_42 (dk_at dksX8_parseStatement_0 5 rfl rfl)
theorem dX8_parseStatement_6 : decode cX8_parseStatement 6 = .ok (.iload_n 1, 1) := dk_27 (dk_at dksX8_parseStatement_0 6 rfl rfl)
theorem dX8_parseStatement_7 : decode cX8_parseStatement 7 = .ok (.iconst (-1), 1) := dk_2 (dk_at dksX8_parseStatement_0 7 rfl rfl)
theorem dX8_parseStatement_8 : decode cX8_parseStatement 8 = .ok (.if_icmp .eq 7, 3) := dk_159 0 7 (dk_at dksX8_parseStatement_0 8 rfl rfl)
theorem dX8_parseStatement_11 : decode cX8_parseStatement 11 = .ok (.iconst 1, 1) := dk_4 (dk_at dksX8_parseStatement_0 11 rfl rfl)
theorem dX8_parseStatement_12 : decode cX8_parseStatement 12 = .ok (.goto 4, 3) := dk_167 0 4 (dk_at dksX8_parseStatement_0 12 rfl rfl)
theorem dX8_parseStatement_15 : decode cX8_parseStatement 15 = .ok (.iconst 0, 1) := dk_3 (dk_at dksX8_parseStatement_0 15 rfl rfl)
theorem dX8_parseStatement_16 : decode cX8_parseStatement 16 = .ok (.iconst 1, 1) := dk_4 (dk_at dksX8_parseStatement_0 16 rfl rfl)
theorem dX8_parseStatement_17 : decode cX8_parseStatement 17 = .ok (.invokevirtual 232, 3) := dk_182 0 232 (dk_at dksX8_parseStatement_0 17 rfl rfl)
theorem dX8_parseStatement_20 : decode cX8_parseStatement 20 = .ok (.aload_n 0, 1) := dk_42 (dk_at dksX8_parseStatement_0 20 rfl rfl)
theorem dX8_parseStatement_21 : decode cX8_parseStatement 21 = .ok (.aload_n 0, 1) := dk_42 (dk_at dksX8_parseStatement_0 21 rfl rfl)
theorem dX8_parseStatement_22 : decode cX8_parseStatement 22 = .ok (.getfield 279, 3) := dk_180 1 23 (dk_at dksX8_parseStatement_1 0 rfl rfl)
theorem dX8_parseStatement_25 : decode cX8_parseStatement 25 = .ok (.bipush 30, 2) := dk_16 30 (dk_at dksX8_parseStatement_1 3 rfl rfl)
theorem dX8_parseStatement_27 : decode cX8_parseStatement 27 = .ok (.if_icmp .ge 7, 3) := dk_162 0 7 (dk_at dksX8_parseStatement_1 5 rfl rfl)
theorem dX8_parseStatement_30 : decode cX8_parseStatement 30 = .ok (.iconst 1, 1) := dk_4 (dk_at dksX8_parseStatement_1 8 rfl rfl)
theorem dX8_parseStatement_31 : decode cX8_parseStatement 31 = .ok (.goto 4, 3) := dk_167 0 4 (dk_at dksX8_parseStatement_1 9 rfl rfl)
theorem dX8_parseStatement_34 : decode cX8_parseStatement 34 = .ok (.iconst 0, 1) := dk_3 (dk_at dksX8_parseStatement_1 12 rfl rfl)
theorem dX8_parseStatement_35 : decode cX8_parseStatement 35 = .ok (.iconst 3, 1) := dk_6 (dk_at dksX8_parseStatement_1 13 rfl rfl)
theorem dX8_parseStatement_36 : decode cX8_parseStatement 36 = .ok (.invokevirtual 232, 3) := dk_182 0 232 (dk_at dksX8_parseStatement_1 14 rfl rfl)
theorem dX8_parseStatement_39 : decode cX8_parseStatement 39 = .ok (.aload_n 0, 1) := dk_42 (dk_at dksX8_parseStatement_1 17 rfl rfl)
theorem dX8_parseStatement_40 : decode cX8_parseStatement 40 = .ok (.invokevirtual 221, 3) := dk_182 0 221 (dk_at dksX8_parseStatement_1 18 rfl rfl)
theorem dX8_parseStatement_43 : decode cX8_parseStatement 43 = .ok (.aload_n 0, 1) := dk_42 (dk_at dksX8_parseStatement_1 21 rfl rfl)
theorem dX8_parseStatement_44 : decode cX8_parseStatement 44 = .ok (.getfield 197, 3) := dk_180 0 197 (dk_at dksX8_parseStatement_2 0 rfl rfl)
theorem dX8_parseStatement_47 : decode cX8_parseStatement 47 = .ok (.ifCond .le 4, 3) := dk_158 0 4 (dk_at dksX8_parseStatement_2 3 rfl rfl)
theorem dX8_parseStatement_50 : decode cX8_parseStatement 50 = .ok (.return_, 1) := dk_177 (dk_at dksX8_parseStatement_2 6 rfl rfl)
theorem dX8_parseStatement_51 : decode cX8_parseStatement 51 = .ok (.iconst 4, 1) := dk_7 (dk_at dksX8_parseStatement_2 7 rfl rfl)
theorem dX8_parseStatement_52 : decode cX8_parseStatement 52 = .ok (.aload_n 0, 1) := dk_42 (dk_at dksX8_parseStatement_2 8 rfl rfl)
theorem dX8_parseStatement_53 : decode cX8_parseStatement 53 = .ok (.getfield 279, 3) := dk_180 1 23 (dk_at dksX8_parseStatement_2 9 rfl rfl)
theorem dX8_parseStatement_56 : decode cX8_parseStatement 56 = .ok (.imul, 1) := dk_104 (dk_at dksX8_parseStatement_2 12 rfl rfl)
theorem dX8_parseStatement_57 : decode cX8_parseStatement 57 = .ok (.istore_n 2, 1) := dk_61 (dk_at dksX8_parseStatement_2 13 rfl rfl)
theorem dX8_parseStatement_58 : decode cX8_parseStatement 58 = .ok (.aload_n 0, 1) := dk_42 (dk_at dksX8_parseStatement_2 14 rfl rfl)
theorem dX8_parseStatement_59 : decode cX8_parseStatement 59 = .ok (.getfield 43, 3) := dk_180 0 43 (dk_at dksX8_parseStatement_2 15 rfl rfl)
theorem dX8_parseStatement_62 : decode cX8_parseStatement 62 = .ok (.iload_n 2, 1) := dk_28 (dk_at dksX8_parseStatement_2 18 rfl rfl)
theorem dX8_parseStatement_63 : decode cX8_parseStatement 63 = .ok (.iload_n 1, 1) := dk_27 (dk_at dksX8_parseStatement_2 19 rfl rfl)
theorem dX8_parseStatement_64 : decode cX8_parseStatement 64 = .ok (.iastore, 1) := dk_79 (dk_at dksX8_parseStatement_2 20 rfl rfl)
theorem dX8_parseStatement_65 : decode cX8_parseStatement 65 = .ok (.iload_n 1, 1) := dk_27 (dk_at dksX8_parseStatement_2 21 rfl rfl)
theorem dX8_parseStatement_66 : decode cX8_parseStatement 66 = .ok (.tableswitch 146 0 3 #[30, 73, 101, 131], 30) := by decide +kernel
theorem dX8_parseStatement_96 : decode cX8_parseStatement 96 = .ok (.aload_n 0, 1) := dk_42 (dk_at dksX8_parseStatement_4 0 rfl rfl)
theorem dX8_parseStatement_97 : decode cX8_parseStatement 97 = .ok (.getfield 43, 3) := dk_180 0 43 (dk_at dksX8_parseStatement_4 1 rfl rfl)
theorem dX8_parseStatement_100 : decode cX8_parseStatement 100 = .ok (.iload_n 2, 1) := dk_28 (dk_at dksX8_parseStatement_4 4 rfl rfl)
theorem dX8_parseStatement_101 : decode cX8_parseStatement 101 = .ok (.iconst 1, 1) := dk_4 (dk_at dksX8_parseStatement_4 5 rfl rfl)
theorem dX8_parseStatement_102 : decode cX8_parseStatement 102 = .ok (.iadd, 1) := dk_96 (dk_at dksX8_parseStatement_4 6 rfl rfl)
theorem dX8_parseStatement_103 : decode cX8_parseStatement 103 = .ok (.aload_n 0, 1) := dk_42 (dk_at dksX8_parseStatement_4 7 rfl rfl)
theorem dX8_parseStatement_104 : decode cX8_parseStatement 104 = .ok (.invokevirtual 282, 3) := dk_182 1 26 (dk_at dksX8_parseStatement_4 8 rfl rfl)
theorem dX8_parseStatement_107 : decode cX8_parseStatement 107 = .ok (.iastore, 1) := dk_79 (dk_at dksX8_parseStatement_4 11 rfl rfl)
theorem dX8_parseStatement_108 : decode cX8_parseStatement 108 = .ok (.aload_n 0, 1) := dk_42 (dk_at dksX8_parseStatement_4 12 rfl rfl)
theorem dX8_parseStatement_109 : decode cX8_parseStatement 109 = .ok (.getfield 43, 3) := dk_180 0 43 (dk_at dksX8_parseStatement_4 13 rfl rfl)
theorem dX8_parseStatement_112 : decode cX8_parseStatement 112 = .ok (.iload_n 2, 1) := dk_28 (dk_at dksX8_parseStatement_4 16 rfl rfl)
theorem dX8_parseStatement_113 : decode cX8_parseStatement 113 = .ok (.iconst 2, 1) := dk_5 (dk_at dksX8_parseStatement_4 17 rfl rfl)
theorem dX8_parseStatement_114 : decode cX8_parseStatement 114 = .ok (.iadd, 1) := dk_96 (dk_at dksX8_parseStatement_4 18 rfl rfl)
theorem dX8_parseStatement_115 : decode cX8_parseStatement 115 = .ok (.aload_n 0, 1) := dk_42 (dk_at dksX8_parseStatement_4 19 rfl rfl)
theorem dX8_parseStatement_116 : decode cX8_parseStatement 116 = .ok (.iconst 0, 1) := dk_3 (dk_at dksX8_parseStatement_4 20 rfl rfl)
theorem dX8_parseStatement_117 : decode cX8_parseStatement 117 = .ok (.bipush 63, 2) := dk_16 63 (dk_at dksX8_parseStatement_4 21 rfl rfl)
theorem dX8_parseStatement_119 : decode cX8_parseStatement 119 = .ok (.invokevirtual 242, 3) := dk_182 0 242 (dk_at dksX8_parseStatement_5 0 rfl rfl)
theorem dX8_parseStatement_122 : decode cX8_parseStatement 122 = .ok (.iastore, 1) := dk_79 (dk_at dksX8_parseStatement_5 3 rfl rfl)
theorem dX8_parseStatement_123 : decode cX8_parseStatement 123 = .ok (.aload_n 0, 1) := dk_42 (dk_at dksX8_parseStatement_5 4 rfl rfl)
theorem dX8_parseStatement_124 : decode cX8_parseStatement 124 = .ok (.getfield 43, 3) := dk_180 0 43 (dk_at dksX8_parseStatement_5 5 rfl rfl)
theorem dX8_parseStatement_127 : decode cX8_parseStatement 127 = .ok (.iload_n 2, 1) := dk_28 (dk_at dksX8_parseStatement_5 8 rfl rfl)
theorem dX8_parseStatement_128 : decode cX8_parseStatement 128 = .ok (.iconst 3, 1) := dk_6 (dk_at dksX8_parseStatement_5 9 rfl rfl)
theorem dX8_parseStatement_129 : decode cX8_parseStatement 129 = .ok (.iadd, 1) := dk_96 (dk_at dksX8_parseStatement_5 10 rfl rfl)
theorem dX8_parseStatement_130 : decode cX8_parseStatement 130 = .ok (.aload_n 0, 1) := dk_42 (dk_at dksX8_parseStatement_5 11 rfl rfl)
theorem dX8_parseStatement_131 : decode cX8_parseStatement 131 = .ok (.iconst 1, 1) := dk_4 (dk_at dksX8_parseStatement_5 12 rfl rfl)
theorem dX8_parseStatement_132 : decode cX8_parseStatement 132 = .ok (.invokevirtual 247, 3) := dk_182 0 247 (dk_at dksX8_parseStatement_5 13 rfl rfl)
theorem dX8_parseStatement_135 : decode cX8_parseStatement 135 = .ok (.iastore, 1) := dk_79 (dk_at dksX8_parseStatement_5 16 rfl rfl)
theorem dX8_parseStatement_136 : decode cX8_parseStatement 136 = .ok (.goto 76, 3) := dk_167 0 76 (dk_at dksX8_parseStatement_5 17 rfl rfl)
theorem dX8_parseStatement_139 : decode cX8_parseStatement 139 = .ok (.aload_n 0, 1) := dk_42 (dk_at dksX8_parseStatement_5 20 rfl rfl)
theorem dX8_parseStatement_140 : decode cX8_parseStatement 140 = .ok (.getfield 43, 3) := dk_180 0 43 (dk_at dksX8_parseStatement_5 21 rfl rfl)
theorem dX8_parseStatement_143 : decode cX8_parseStatement 143 = .ok (.iload_n 2, 1) := dk_28 (dk_at dksX8_parseStatement_6 0 rfl rfl)
theorem dX8_parseStatement_144 : decode cX8_parseStatement 144 = .ok (.iconst 1, 1) := dk_4 (dk_at dksX8_parseStatement_6 1 rfl rfl)
theorem dX8_parseStatement_145 : decode cX8_parseStatement 145 = .ok (.iadd, 1) := dk_96 (dk_at dksX8_parseStatement_6 2 rfl rfl)
theorem dX8_parseStatement_146 : decode cX8_parseStatement 146 = .ok (.aload_n 0, 1) := dk_42 (dk_at dksX8_parseStatement_6 3 rfl rfl)
theorem dX8_parseStatement_147 : decode cX8_parseStatement 147 = .ok (.invokevirtual 282, 3) := dk_182 1 26 (dk_at dksX8_parseStatement_6 4 rfl rfl)
theorem dX8_parseStatement_150 : decode cX8_parseStatement 150 = .ok (.iastore, 1) := dk_79 (dk_at dksX8_parseStatement_6 7 rfl rfl)
theorem dX8_parseStatement_151 : decode cX8_parseStatement 151 = .ok (.aload_n 0, 1) := dk_42 (dk_at dksX8_parseStatement_6 8 rfl rfl)
theorem dX8_parseStatement_152 : decode cX8_parseStatement 152 = .ok (.getfield 43, 3) := dk_180 0 43 (dk_at dksX8_parseStatement_6 9 rfl rfl)
theorem dX8_parseStatement_155 : decode cX8_parseStatement 155 = .ok (.iload_n 2, 1) := dk_28 (dk_at dksX8_parseStatement_6 12 rfl rfl)
theorem dX8_parseStatement_156 : decode cX8_parseStatement 156 = .ok (.iconst 2, 1) := dk_5 (dk_at dksX8_parseStatement_6 13 rfl rfl)
theorem dX8_parseStatement_157 : decode cX8_parseStatement 157 = .ok (.iadd, 1) := dk_96 (dk_at dksX8_parseStatement_6 14 rfl rfl)
theorem dX8_parseStatement_158 : decode cX8_parseStatement 158 = .ok (.aload_n 0, 1) := dk_42 (dk_at dksX8_parseStatement_6 15 rfl rfl)
theorem dX8_parseStatement_159 : decode cX8_parseStatement 159 = .ok (.iconst 1, 1) := dk_4 (dk_at dksX8_parseStatement_6 16 rfl rfl)
theorem dX8_parseStatement_160 : decode cX8_parseStatement 160 = .ok (.invokevirtual 247, 3) := dk_182 0 247 (dk_at dksX8_parseStatement_6 17 rfl rfl)
theorem dX8_parseStatement_163 : decode cX8_parseStatement 163 = .ok (.iastore, 1) := dk_79 (dk_at dksX8_parseStatement_6 20 rfl rfl)
theorem dX8_parseStatement_164 : decode cX8_parseStatement 164 = .ok (.goto 48, 3) := dk_167 0 48 (dk_at dksX8_parseStatement_6 21 rfl rfl)
theorem dX8_parseStatement_167 : decode cX8_parseStatement 167 = .ok (.aload_n 0, 1) := dk_42 (dk_at dksX8_parseStatement_7 0 rfl rfl)
theorem dX8_parseStatement_168 : decode cX8_parseStatement 168 = .ok (.getfield 43, 3) := dk_180 0 43 (dk_at dksX8_parseStatement_7 1 rfl rfl)
theorem dX8_parseStatement_171 : decode cX8_parseStatement 171 = .ok (.iload_n 2, 1) := dk_28 (dk_at dksX8_parseStatement_7 4 rfl rfl)
theorem dX8_parseStatement_172 : decode cX8_parseStatement 172 = .ok (.iconst 1, 1) := dk_4 (dk_at dksX8_parseStatement_7 5 rfl rfl)
theorem dX8_parseStatement_173 : decode cX8_parseStatement 173 = .ok (.iadd, 1) := dk_96 (dk_at dksX8_parseStatement_7 6 rfl rfl)
theorem dX8_parseStatement_174 : decode cX8_parseStatement 174 = .ok (.aload_n 0, 1) := dk_42 (dk_at dksX8_parseStatement_7 7 rfl rfl)
theorem dX8_parseStatement_175 : decode cX8_parseStatement 175 = .ok (.invokevirtual 282, 3) := dk_182 1 26 (dk_at dksX8_parseStatement_7 8 rfl rfl)
theorem dX8_parseStatement_178 : decode cX8_parseStatement 178 = .ok (.iastore, 1) := dk_79 (dk_at dksX8_parseStatement_7 11 rfl rfl)
theorem dX8_parseStatement_179 : decode cX8_parseStatement 179 = .ok (.aload_n 0, 1) := dk_42 (dk_at dksX8_parseStatement_7 12 rfl rfl)
theorem dX8_parseStatement_180 : decode cX8_parseStatement 180 = .ok (.getfield 43, 3) := dk_180 0 43 (dk_at dksX8_parseStatement_7 13 rfl rfl)
theorem dX8_parseStatement_183 : decode cX8_parseStatement 183 = .ok (.iload_n 2, 1) := dk_28 (dk_at dksX8_parseStatement_7 16 rfl rfl)
theorem dX8_parseStatement_184 : decode cX8_parseStatement 184 = .ok (.iconst 2, 1) := dk_5 (dk_at dksX8_parseStatement_7 17 rfl rfl)
theorem dX8_parseStatement_185 : decode cX8_parseStatement 185 = .ok (.iadd, 1) := dk_96 (dk_at dksX8_parseStatement_7 18 rfl rfl)
theorem dX8_parseStatement_186 : decode cX8_parseStatement 186 = .ok (.aload_n 0, 1) := dk_42 (dk_at dksX8_parseStatement_7 19 rfl rfl)
theorem dX8_parseStatement_187 : decode cX8_parseStatement 187 = .ok (.iconst 0, 1) := dk_3 (dk_at dksX8_parseStatement_7 20 rfl rfl)
theorem dX8_parseStatement_188 : decode cX8_parseStatement 188 = .ok (.bipush 64, 2) := dk_16 64 (dk_at dksX8_parseStatement_7 21 rfl rfl)
theorem dX8_parseStatement_190 : decode cX8_parseStatement 190 = .ok (.invokevirtual 242, 3) := dk_182 0 242 (dk_at dksX8_parseStatement_8 0 rfl rfl)
theorem dX8_parseStatement_193 : decode cX8_parseStatement 193 = .ok (.iastore, 1) := dk_79 (dk_at dksX8_parseStatement_8 3 rfl rfl)
theorem dX8_parseStatement_194 : decode cX8_parseStatement 194 = .ok (.goto 18, 3) := dk_167 0 18 (dk_at dksX8_parseStatement_8 4 rfl rfl)
theorem dX8_parseStatement_197 : decode cX8_parseStatement 197 = .ok (.aload_n 0, 1) := dk_42 (dk_at dksX8_parseStatement_8 7 rfl rfl)
theorem dX8_parseStatement_198 : decode cX8_parseStatement 198 = .ok (.getfield 43, 3) := dk_180 0 43 (dk_at dksX8_parseStatement_8 8 rfl rfl)
theorem dX8_parseStatement_201 : decode cX8_parseStatement 201 = .ok (.iload_n 2, 1) := dk_28 (dk_at dksX8_parseStatement_8 11 rfl rfl)
theorem dX8_parseStatement_202 : decode cX8_parseStatement 202 = .ok (.iconst 1, 1) := dk_4 (dk_at dksX8_parseStatement_8 12 rfl rfl)
theorem dX8_parseStatement_203 : decode cX8_parseStatement 203 = .ok (.iadd, 1) := dk_96 (dk_at dksX8_parseStatement_8 13 rfl rfl)
theorem dX8_parseStatement_204 : decode cX8_parseStatement 204 = .ok (.aload_n 0, 1) := dk_42 (dk_at dksX8_parseStatement_8 14 rfl rfl)
theorem dX8_parseStatement_205 : decode cX8_parseStatement 205 = .ok (.invokevirtual 282, 3) := dk_182 1 26 (dk_at dksX8_parseStatement_8 15 rfl rfl)
theorem dX8_parseStatement_208 : decode cX8_parseStatement 208 = .ok (.iastore, 1) := dk_79 (dk_at dksX8_parseStatement_8 18 rfl rfl)
theorem dX8_parseStatement_209 : decode cX8_parseStatement 209 = .ok (.goto 3, 3) := dk_167 0 3 (dk_at dksX8_parseStatement_8 19 rfl rfl)
theorem dX8_parseStatement_212 : decode cX8_parseStatement 212 = .ok (.aload_n 0, 1) := dk_42 (dk_at dksX8_parseStatement_8 22 rfl rfl)
theorem dX8_parseStatement_213 : decode cX8_parseStatement 213 = .ok (.invokevirtual 250, 3) := dk_182 0 250 (dk_at dksX8_parseStatement_9 0 rfl rfl)
theorem dX8_parseStatement_216 : decode cX8_parseStatement 216 = .ok (.aload_n 0, 1) := dk_42 (dk_at dksX8_parseStatement_9 3 rfl rfl)
theorem dX8_parseStatement_217 : decode cX8_parseStatement 217 = .ok (.dup, 1) := dk_89 (dk_at dksX8_parseStatement_9 4 rfl rfl)
theorem dX8_parseStatement_218 : decode cX8_parseStatement 218 = .ok (.getfield 279, 3) := dk_180 1 23 (dk_at dksX8_parseStatement_9 5 rfl rfl)
theorem dX8_parseStatement_221 : decode cX8_parseStatement 221 = .ok (.iconst 1, 1) := dk_4 (dk_at dksX8_parseStatement_9 8 rfl rfl)
theorem dX8_parseStatement_222 : decode cX8_parseStatement 222 = .ok (.iadd, 1) := dk_96 (dk_at dksX8_parseStatement_9 9 rfl rfl)
theorem dX8_parseStatement_223 : decode cX8_parseStatement 223 = .ok (.putfield 279, 3) := dk_181 1 23 (dk_at dksX8_parseStatement_9 10 rfl rfl)
theorem dX8_parseStatement_226 : decode cX8_parseStatement 226 = .ok (.return_, 1) := dk_177 (dk_at dksX8_parseStatement_9 13 rfl rfl)
abbrev cX8_statementKind : ByteArray := prog_18_method_64_code
def yX8_statementKind : MethodName := ⟨RX8, "statementKind", "()I"⟩
def dkwX8_statementKind_2 : List UInt8 := [42, 19, 1, 18, 182, 0, 238, 153, 0, 7, 7, 167, 0, 4, 2, 172]
abbrev dktX8_statementKind_2 : List UInt8 := dkwX8_statementKind_2 ++ []
def dkwX8_statementKind_1 : List UInt8 := [42, 19, 1, 14, 182, 0, 238, 153, 0, 5, 5, 172, 42, 19, 1, 16, 182, 0, 238, 153, 0, 5, 6, 172]
abbrev dktX8_statementKind_1 : List UInt8 := dkwX8_statementKind_1 ++ dktX8_statementKind_2
def dkwX8_statementKind_0 : List UInt8 := [42, 19, 1, 10, 182, 0, 238, 153, 0, 5, 3, 172, 42, 19, 1, 12, 182, 0, 238, 153, 0, 5, 4, 172]
abbrev dktX8_statementKind_0 : List UInt8 := dkwX8_statementKind_0 ++ dktX8_statementKind_1
theorem dksX8_statementKind_0 : cX8_statementKind.data.toList.drop 0 = dktX8_statementKind_0 := by decide +kernel
theorem dksX8_statementKind_1 : cX8_statementKind.data.toList.drop 24 = dktX8_statementKind_1 := dk_seg dksX8_statementKind_0 24 rfl rfl
theorem dksX8_statementKind_2 : cX8_statementKind.data.toList.drop 48 = dktX8_statementKind_2 := dk_seg dksX8_statementKind_1 24 rfl rfl
theorem dX8_statementKind_0 : decode cX8_statementKind 0 = .ok (.aload_n 0, 1) := dk_42 (dk_at dksX8_statementKind_0 0 rfl rfl)
theorem dX8_statementKind_1 : decode cX8_statementKind 1 = .ok (.ldc_w 266, 3) := dk_19 1 10 (dk_at dksX8_statementKind_0 1 rfl rfl)
theorem dX8_statementKind_4 : decode cX8_statementKind 4 = .ok (.invokevirtual 238, 3) := dk_182 0 238 (dk_at dksX8_statementKind_0 4 rfl rfl)
theorem dX8_statementKind_7 : decode cX8_statementKind 7 = .ok (.ifCond .eq 5, 3) := dk_153 0 5 (dk_at dksX8_statementKind_0 7 rfl rfl)
theorem dX8_statementKind_10 : decode cX8_statementKind 10 = .ok (.iconst 0, 1) := dk_3 (dk_at dksX8_statementKind_0 10 rfl rfl)
theorem dX8_statementKind_11 : decode cX8_statementKind 11 = .ok (.ireturn, 1) := dk_172 (dk_at dksX8_statementKind_0 11 rfl rfl)
theorem dX8_statementKind_12 : decode cX8_statementKind 12 = .ok (.aload_n 0, 1) := dk_42 (dk_at dksX8_statementKind_0 12 rfl rfl)
theorem dX8_statementKind_13 : decode cX8_statementKind 13 = .ok (.ldc_w 268, 3) := dk_19 1 12 (dk_at dksX8_statementKind_0 13 rfl rfl)
theorem dX8_statementKind_16 : decode cX8_statementKind 16 = .ok (.invokevirtual 238, 3) := dk_182 0 238 (dk_at dksX8_statementKind_0 16 rfl rfl)
theorem dX8_statementKind_19 : decode cX8_statementKind 19 = .ok (.ifCond .eq 5, 3) := dk_153 0 5 (dk_at dksX8_statementKind_0 19 rfl rfl)
theorem dX8_statementKind_22 : decode cX8_statementKind 22 = .ok (.iconst 1, 1) := dk_4 (dk_at dksX8_statementKind_0 22 rfl rfl)
theorem dX8_statementKind_23 : decode cX8_statementKind 23 = .ok (.ireturn, 1) := dk_172 (dk_at dksX8_statementKind_0 23 rfl rfl)
theorem dX8_statementKind_24 : decode cX8_statementKind 24 = .ok (.aload_n 0, 1) := dk_42 (dk_at dksX8_statementKind_1 0 rfl rfl)
theorem dX8_statementKind_25 : decode cX8_statementKind 25 = .ok (.ldc_w 270, 3) := dk_19 1 14 (dk_at dksX8_statementKind_1 1 rfl rfl)
theorem dX8_statementKind_28 : decode cX8_statementKind 28 = .ok (.invokevirtual 238, 3) := dk_182 0 238 (dk_at dksX8_statementKind_1 4 rfl rfl)
theorem dX8_statementKind_31 : decode cX8_statementKind 31 = .ok (.ifCond .eq 5, 3) := dk_153 0 5 (dk_at dksX8_statementKind_1 7 rfl rfl)
theorem dX8_statementKind_34 : decode cX8_statementKind 34 = .ok (.iconst 2, 1) := dk_5 (dk_at dksX8_statementKind_1 10 rfl rfl)
theorem dX8_statementKind_35 : decode cX8_statementKind 35 = .ok (.ireturn, 1) := dk_172 (dk_at dksX8_statementKind_1 11 rfl rfl)
theorem dX8_statementKind_36 : decode cX8_statementKind 36 = .ok (.aload_n 0, 1) := dk_42 (dk_at dksX8_statementKind_1 12 rfl rfl)
theorem dX8_statementKind_37 : decode cX8_statementKind 37 = .ok (.ldc_w 272, 3) := dk_19 1 16 (dk_at dksX8_statementKind_1 13 rfl rfl)
theorem dX8_statementKind_40 : decode cX8_statementKind 40 = .ok (.invokevirtual 238, 3) := dk_182 0 238 (dk_at dksX8_statementKind_1 16 rfl rfl)
theorem dX8_statementKind_43 : decode cX8_statementKind 43 = .ok (.ifCond .eq 5, 3) := dk_153 0 5 (dk_at dksX8_statementKind_1 19 rfl rfl)
theorem dX8_statementKind_46 : decode cX8_statementKind 46 = .ok (.iconst 3, 1) := dk_6 (dk_at dksX8_statementKind_1 22 rfl rfl)
theorem dX8_statementKind_47 : decode cX8_statementKind 47 = .ok (.ireturn, 1) := dk_172 (dk_at dksX8_statementKind_1 23 rfl rfl)
theorem dX8_statementKind_48 : decode cX8_statementKind 48 = .ok (.aload_n 0, 1) := dk_42 (dk_at dksX8_statementKind_2 0 rfl rfl)
theorem dX8_statementKind_49 : decode cX8_statementKind 49 = .ok (.ldc_w 274, 3) := dk_19 1 18 (dk_at dksX8_statementKind_2 1 rfl rfl)
theorem dX8_statementKind_52 : decode cX8_statementKind 52 = .ok (.invokevirtual 238, 3) := dk_182 0 238 (dk_at dksX8_statementKind_2 4 rfl rfl)
theorem dX8_statementKind_55 : decode cX8_statementKind 55 = .ok (.ifCond .eq 7, 3) := dk_153 0 7 (dk_at dksX8_statementKind_2 7 rfl rfl)
theorem dX8_statementKind_58 : decode cX8_statementKind 58 = .ok (.iconst 4, 1) := dk_7 (dk_at dksX8_statementKind_2 10 rfl rfl)
theorem dX8_statementKind_59 : decode cX8_statementKind 59 = .ok (.goto 4, 3) := dk_167 0 4 (dk_at dksX8_statementKind_2 11 rfl rfl)
theorem dX8_statementKind_62 : decode cX8_statementKind 62 = .ok (.iconst (-1), 1) := dk_2 (dk_at dksX8_statementKind_2 14 rfl rfl)
theorem dX8_statementKind_63 : decode cX8_statementKind 63 = .ok (.ireturn, 1) := dk_172 (dk_at dksX8_statementKind_2 15 rfl rfl)
abbrev cX8_parseVersion : ByteArray := prog_18_method_65_code
def yX8_parseVersion : MethodName := ⟨RX8, "parseVersion", "()I"⟩
def dkwX8_parseVersion_0 : List UInt8 := [42, 3, 16, 39, 182, 0, 242, 172]
abbrev dktX8_parseVersion_0 : List UInt8 := dkwX8_parseVersion_0 ++ []
theorem dksX8_parseVersion_0 : cX8_parseVersion.data.toList.drop 0 = dktX8_parseVersion_0 := by decide +kernel
theorem dX8_parseVersion_0 : decode cX8_parseVersion 0 = .ok (.aload_n 0, 1) := dk_42 (dk_at dksX8_parseVersion_0 0 rfl rfl)
theorem dX8_parseVersion_1 : decode cX8_parseVersion 1 = .ok (.iconst 0, 1) := dk_3 (dk_at dksX8_parseVersion_0 1 rfl rfl)
theorem dX8_parseVersion_2 : decode cX8_parseVersion 2 = .ok (.bipush 39, 2) := dk_16 39 (dk_at dksX8_parseVersion_0 2 rfl rfl)
theorem dX8_parseVersion_4 : decode cX8_parseVersion 4 = .ok (.invokevirtual 242, 3) := dk_182 0 242 (dk_at dksX8_parseVersion_0 4 rfl rfl)
theorem dX8_parseVersion_7 : decode cX8_parseVersion 7 = .ok (.ireturn, 1) := dk_172 (dk_at dksX8_parseVersion_0 7 rfl rfl)
abbrev cX8_remember : ByteArray := prog_18_method_12_code
def yX8_remember : MethodName := ⟨RX8, "remember", "()V"⟩
def dkwX8_remember_4 : List UInt8 := [181, 0, 61, 177]
abbrev dktX8_remember_4 : List UInt8 := dkwX8_remember_4 ++ []
def dkwX8_remember_3 : List UInt8 := [27, 96, 42, 180, 0, 9, 27, 46, 79, 132, 1, 1, 167, 255, 225, 42, 89, 180, 0, 61, 4, 96]
abbrev dktX8_remember_3 : List UInt8 := dkwX8_remember_3 ++ dktX8_remember_4
def dkwX8_remember_2 : List UInt8 := [181, 0, 61, 3, 60, 27, 17, 16, 114, 162, 0, 30, 42, 180, 0, 20, 17, 16, 114, 42, 180, 0, 61, 104]
abbrev dktX8_remember_2 : List UInt8 := dkwX8_remember_2 ++ dktX8_remember_3
def dkwX8_remember_1 : List UInt8 := [17, 16, 114, 100, 42, 180, 0, 20, 27, 46, 79, 132, 1, 1, 167, 255, 231, 42, 89, 180, 0, 61, 4, 100]
abbrev dktX8_remember_1 : List UInt8 := dkwX8_remember_1 ++ dktX8_remember_2
def dkwX8_remember_0 : List UInt8 := [42, 180, 0, 61, 16, 8, 160, 0, 45, 17, 16, 114, 60, 27, 18, 19, 162, 0, 25, 42, 180, 0, 20, 27]
abbrev dktX8_remember_0 : List UInt8 := dkwX8_remember_0 ++ dktX8_remember_1
theorem dksX8_remember_0 : cX8_remember.data.toList.drop 0 = dktX8_remember_0 := by decide +kernel
theorem dksX8_remember_1 : cX8_remember.data.toList.drop 24 = dktX8_remember_1 := dk_seg dksX8_remember_0 24 rfl rfl
theorem dksX8_remember_2 : cX8_remember.data.toList.drop 48 = dktX8_remember_2 := dk_seg dksX8_remember_1 24 rfl rfl
theorem dksX8_remember_3 : cX8_remember.data.toList.drop 72 = dktX8_remember_3 := dk_seg dksX8_remember_2 24 rfl rfl
theorem dksX8_remember_4 : cX8_remember.data.toList.drop 94 = dktX8_remember_4 := dk_seg dksX8_remember_3 22 rfl rfl
theorem dX8_remember_0 : decode cX8_remember 0 = .ok (.aload_n 0, 1) := dk_42 (dk_at dksX8_remember_0 0 rfl rfl)
theorem dX8_remember_1 : decode cX8_remember 1 = .ok (.getfield 61, 3) := dk_180 0 61 (dk_at dksX8_remember_0 1 rfl rfl)
theorem dX8_remember_4 : decode cX8_remember 4 = .ok (.bipush 8, 2) := dk_16 8 (dk_at dksX8_remember_0 4 rfl rfl)
theorem dX8_remember_6 : decode cX8_remember 6 = .ok (.if_icmp .ne 45, 3) := dk_160 0 45 (dk_at dksX8_remember_0 6 rfl rfl)
theorem dX8_remember_9 : decode cX8_remember 9 = .ok (.sipush 4210, 3) := dk_17 16 114 (dk_at dksX8_remember_0 9 rfl rfl)
theorem dX8_remember_12 : decode cX8_remember 12 = .ok (.istore_n 1, 1) := dk_60 (dk_at dksX8_remember_0 12 rfl rfl)
theorem dX8_remember_13 : decode cX8_remember 13 = .ok (.iload_n 1, 1) := dk_27 (dk_at dksX8_remember_0 13 rfl rfl)
theorem dX8_remember_14 : decode cX8_remember 14 = .ok (.ldc 19, 2) := dk_18 19 (dk_at dksX8_remember_0 14 rfl rfl)
theorem dX8_remember_16 : decode cX8_remember 16 = .ok (.if_icmp .ge 25, 3) := dk_162 0 25 (dk_at dksX8_remember_0 16 rfl rfl)
theorem dX8_remember_19 : decode cX8_remember 19 = .ok (.aload_n 0, 1) := dk_42 (dk_at dksX8_remember_0 19 rfl rfl)
theorem dX8_remember_20 : decode cX8_remember 20 = .ok (.getfield 20, 3) := dk_180 0 20 (dk_at dksX8_remember_0 20 rfl rfl)
theorem dX8_remember_23 : decode cX8_remember 23 = .ok (.iload_n 1, 1) := dk_27 (dk_at dksX8_remember_0 23 rfl rfl)
theorem dX8_remember_24 : decode cX8_remember 24 = .ok (.sipush 4210, 3) := dk_17 16 114 (dk_at dksX8_remember_1 0 rfl rfl)
theorem dX8_remember_27 : decode cX8_remember 27 = .ok (.isub, 1) := dk_100 (dk_at dksX8_remember_1 3 rfl rfl)
theorem dX8_remember_28 : decode cX8_remember 28 = .ok (.aload_n 0, 1) := dk_42 (dk_at dksX8_remember_1 4 rfl rfl)
theorem dX8_remember_29 : decode cX8_remember 29 = .ok (.getfield 20, 3) := dk_180 0 20 (dk_at dksX8_remember_1 5 rfl rfl)
theorem dX8_remember_32 : decode cX8_remember 32 = .ok (.iload_n 1, 1) := dk_27 (dk_at dksX8_remember_1 8 rfl rfl)
theorem dX8_remember_33 : decode cX8_remember 33 = .ok (.iaload, 1) := dk_46 (dk_at dksX8_remember_1 9 rfl rfl)
theorem dX8_remember_34 : decode cX8_remember 34 = .ok (.iastore, 1) := dk_79 (dk_at dksX8_remember_1 10 rfl rfl)
theorem dX8_remember_35 : decode cX8_remember 35 = .ok (.iinc 1 1, 3) := dk_132 1 1 (dk_at dksX8_remember_1 11 rfl rfl)
theorem dX8_remember_38 : decode cX8_remember 38 = .ok (.goto (-25), 3) := dk_167 255 231 (dk_at dksX8_remember_1 14 rfl rfl)
theorem dX8_remember_41 : decode cX8_remember 41 = .ok (.aload_n 0, 1) := dk_42 (dk_at dksX8_remember_1 17 rfl rfl)
theorem dX8_remember_42 : decode cX8_remember 42 = .ok (.dup, 1) := dk_89 (dk_at dksX8_remember_1 18 rfl rfl)
theorem dX8_remember_43 : decode cX8_remember 43 = .ok (.getfield 61, 3) := dk_180 0 61 (dk_at dksX8_remember_1 19 rfl rfl)
theorem dX8_remember_46 : decode cX8_remember 46 = .ok (.iconst 1, 1) := dk_4 (dk_at dksX8_remember_1 22 rfl rfl)
theorem dX8_remember_47 : decode cX8_remember 47 = .ok (.isub, 1) := dk_100 (dk_at dksX8_remember_1 23 rfl rfl)
theorem dX8_remember_48 : decode cX8_remember 48 = .ok (.putfield 61, 3) := dk_181 0 61 (dk_at dksX8_remember_2 0 rfl rfl)
theorem dX8_remember_51 : decode cX8_remember 51 = .ok (.iconst 0, 1) := dk_3 (dk_at dksX8_remember_2 3 rfl rfl)
theorem dX8_remember_52 : decode cX8_remember 52 = .ok (.istore_n 1, 1) := dk_60 (dk_at dksX8_remember_2 4 rfl rfl)
theorem dX8_remember_53 : decode cX8_remember 53 = .ok (.iload_n 1, 1) := dk_27 (dk_at dksX8_remember_2 5 rfl rfl)
theorem dX8_remember_54 : decode cX8_remember 54 = .ok (.sipush 4210, 3) := dk_17 16 114 (dk_at dksX8_remember_2 6 rfl rfl)
theorem dX8_remember_57 : decode cX8_remember 57 = .ok (.if_icmp .ge 30, 3) := dk_162 0 30 (dk_at dksX8_remember_2 9 rfl rfl)
theorem dX8_remember_60 : decode cX8_remember 60 = .ok (.aload_n 0, 1) := dk_42 (dk_at dksX8_remember_2 12 rfl rfl)
theorem dX8_remember_61 : decode cX8_remember 61 = .ok (.getfield 20, 3) := dk_180 0 20 (dk_at dksX8_remember_2 13 rfl rfl)
theorem dX8_remember_64 : decode cX8_remember 64 = .ok (.sipush 4210, 3) := dk_17 16 114 (dk_at dksX8_remember_2 16 rfl rfl)
theorem dX8_remember_67 : decode cX8_remember 67 = .ok (.aload_n 0, 1) := dk_42 (dk_at dksX8_remember_2 19 rfl rfl)
theorem dX8_remember_68 : decode cX8_remember 68 = .ok (.getfield 61, 3) := dk_180 0 61 (dk_at dksX8_remember_2 20 rfl rfl)
theorem dX8_remember_71 : decode cX8_remember 71 = .ok (.imul, 1) := dk_104 (dk_at dksX8_remember_2 23 rfl rfl)
theorem dX8_remember_72 : decode cX8_remember 72 = .ok (.iload_n 1, 1) := dk_27 (dk_at dksX8_remember_3 0 rfl rfl)
theorem dX8_remember_73 : decode cX8_remember 73 = .ok (.iadd, 1) := dk_96 (dk_at dksX8_remember_3 1 rfl rfl)
theorem dX8_remember_74 : decode cX8_remember 74 = .ok (.aload_n 0, 1) := dk_42 (dk_at dksX8_remember_3 2 rfl rfl)
theorem dX8_remember_75 : decode cX8_remember 75 = .ok (.getfield 9, 3) := dk_180 0 9 (dk_at dksX8_remember_3 3 rfl rfl)
theorem dX8_remember_78 : decode cX8_remember 78 = .ok (.iload_n 1, 1) := dk_27 (dk_at dksX8_remember_3 6 rfl rfl)
theorem dX8_remember_79 : decode cX8_remember 79 = .ok (.iaload, 1) := dk_46 (dk_at dksX8_remember_3 7 rfl rfl)
theorem dX8_remember_80 : decode cX8_remember 80 = .ok (.iastore, 1) := dk_79 (dk_at dksX8_remember_3 8 rfl rfl)
theorem dX8_remember_81 : decode cX8_remember 81 = .ok (.iinc 1 1, 3) := dk_132 1 1 (dk_at dksX8_remember_3 9 rfl rfl)
theorem dX8_remember_84 : decode cX8_remember 84 = .ok (.goto (-31), 3) := dk_167 255 225 (dk_at dksX8_remember_3 12 rfl rfl)
theorem dX8_remember_87 : decode cX8_remember 87 = .ok (.aload_n 0, 1) := dk_42 (dk_at dksX8_remember_3 15 rfl rfl)
theorem dX8_remember_88 : decode cX8_remember 88 = .ok (.dup, 1) := dk_89 (dk_at dksX8_remember_3 16 rfl rfl)
theorem dX8_remember_89 : decode cX8_remember 89 = .ok (.getfield 61, 3) := dk_180 0 61 (dk_at dksX8_remember_3 17 rfl rfl)
theorem dX8_remember_92 : decode cX8_remember 92 = .ok (.iconst 1, 1) := dk_4 (dk_at dksX8_remember_3 20 rfl rfl)
theorem dX8_remember_93 : decode cX8_remember 93 = .ok (.iadd, 1) := dk_96 (dk_at dksX8_remember_3 21 rfl rfl)
theorem dX8_remember_94 : decode cX8_remember 94 = .ok (.putfield 61, 3) := dk_181 0 61 (dk_at dksX8_remember_4 0 rfl rfl)
theorem dX8_remember_97 : decode cX8_remember 97 = .ok (.return_, 1) := dk_177 (dk_at dksX8_remember_4 3 rfl rfl)
abbrev cX8_execute : ByteArray := prog_18_method_72_code
def yX8_execute : MethodName := ⟨RX8, "execute", "(I)Z"⟩
def dkwX8_execute_5 : List UInt8 := [4, 167, 0, 4, 3, 172, 42, 182, 1, 62, 155, 0, 7, 4, 167, 0, 4, 3, 172]
abbrev dktX8_execute_5 : List UInt8 := dkwX8_execute_5 ++ []
def dkwX8_execute_4 : List UInt8 := [42, 29, 21, 4, 182, 1, 56, 172, 42, 29, 182, 1, 32, 153, 0, 15, 42, 29, 182, 1, 59, 155, 0, 7]
abbrev dktX8_execute_4 : List UInt8 := dkwX8_execute_4 ++ dktX8_execute_5
def dkwX8_execute_3 : List UInt8 := [42, 29, 21, 4, 42, 180, 0, 43, 28, 6, 96, 46, 182, 1, 48, 172, 42, 29, 21, 4, 182, 1, 52, 172]
abbrev dktX8_execute_3 : List UInt8 := dkwX8_execute_3 ++ dktX8_execute_4
def dkwX8_execute_2 : List UInt8 := [170, 0, 0, 0, 0, 0, 85, 0, 0, 0, 0, 0, 0, 0, 3, 0, 0, 0, 31, 0, 0, 0, 47, 0, 0, 0, 55, 0, 0, 0, 63]
abbrev dktX8_execute_2 : List UInt8 := dkwX8_execute_2 ++ dktX8_execute_3
def dkwX8_execute_1 : List UInt8 := [180, 0, 43, 28, 46]
abbrev dktX8_execute_1 : List UInt8 := dkwX8_execute_1 ++ dktX8_execute_2
def dkwX8_execute_0 : List UInt8 := [7, 27, 104, 61, 42, 180, 0, 43, 28, 4, 96, 46, 62, 42, 180, 0, 43, 28, 5, 96, 46, 54, 4, 42]
abbrev dktX8_execute_0 : List UInt8 := dkwX8_execute_0 ++ dktX8_execute_1
theorem dksX8_execute_0 : cX8_execute.data.toList.drop 0 = dktX8_execute_0 := by decide +kernel
theorem dksX8_execute_1 : cX8_execute.data.toList.drop 24 = dktX8_execute_1 := dk_seg dksX8_execute_0 24 rfl rfl
theorem dksX8_execute_2 : cX8_execute.data.toList.drop 29 = dktX8_execute_2 := dk_seg dksX8_execute_1 5 rfl rfl
theorem dksX8_execute_3 : cX8_execute.data.toList.drop 60 = dktX8_execute_3 := dk_seg dksX8_execute_2 31 rfl rfl
theorem dksX8_execute_4 : cX8_execute.data.toList.drop 84 = dktX8_execute_4 := dk_seg dksX8_execute_3 24 rfl rfl
theorem dksX8_execute_5 : cX8_execute.data.toList.drop 108 = dktX8_execute_5 := dk_seg dksX8_execute_4 24 rfl rfl
theorem dX8_execute_0 : decode cX8_execute 0 = .ok (.iconst 4, 1) := dk_7 (dk_at dksX8_execute_0 0 rfl rfl)
theorem dX8_execute_1 : decode cX8_execute 1 = .ok (.iload_n 1, 1) := dk_27 (dk_at dksX8_execute_0 1 rfl rfl)
theorem dX8_execute_2 : decode cX8_execute 2 = .ok (.imul, 1) := dk_104 (dk_at dksX8_execute_0 2 rfl rfl)
theorem dX8_execute_3 : decode cX8_execute 3 = .ok (.istore_n 2, 1) := dk_61 (dk_at dksX8_execute_0 3 rfl rfl)
theorem dX8_execute_4 : decode cX8_execute 4 = .ok (.aload_n 0, 1) := dk_42 (dk_at dksX8_execute_0 4 rfl rfl)
theorem dX8_execute_5 : decode cX8_execute 5 = .ok (.getfield 43, 3) := dk_180 0 43 (dk_at dksX8_execute_0 5 rfl rfl)
theorem dX8_execute_8 : decode cX8_execute 8 = .ok (.iload_n 2, 1) := dk_28 (dk_at dksX8_execute_0 8 rfl rfl)
theorem dX8_execute_9 : decode cX8_execute 9 = .ok (.iconst 1, 1) := dk_4 (dk_at dksX8_execute_0 9 rfl rfl)
theorem dX8_execute_10 : decode cX8_execute 10 = .ok (.iadd, 1) := dk_96 (dk_at dksX8_execute_0 10 rfl rfl)
theorem dX8_execute_11 : decode cX8_execute 11 = .ok (.iaload, 1) := dk_46 (dk_at dksX8_execute_0 11 rfl rfl)
theorem dX8_execute_12 : decode cX8_execute 12 = .ok (.istore_n 3, 1) := dk_62 (dk_at dksX8_execute_0 12 rfl rfl)
theorem dX8_execute_13 : decode cX8_execute 13 = .ok (.aload_n 0, 1) := dk_42 (dk_at dksX8_execute_0 13 rfl rfl)
theorem dX8_execute_14 : decode cX8_execute 14 = .ok (.getfield 43, 3) := dk_180 0 43 (dk_at dksX8_execute_0 14 rfl rfl)
theorem dX8_execute_17 : decode cX8_execute 17 = .ok (.iload_n 2, 1) := dk_28 (dk_at dksX8_execute_0 17 rfl rfl)
theorem dX8_execute_18 : decode cX8_execute 18 = .ok (.iconst 2, 1) := dk_5 (dk_at dksX8_execute_0 18 rfl rfl)
theorem dX8_execute_19 : decode cX8_execute 19 = .ok (.iadd, 1) := dk_96 (dk_at dksX8_execute_0 19 rfl rfl)
theorem dX8_execute_20 : decode cX8_execute 20 = .ok (.iaload, 1) := dk_46 (dk_at dksX8_execute_0 20 rfl rfl)
theorem dX8_execute_21 : decode cX8_execute 21 = .ok (.istore 4, 2) := dk_54 4 (dk_at dksX8_execute_0 21 rfl rfl)
theorem dX8_execute_23 : decode cX8_execute 23 = .ok (.aload_n 0, 1) := dk_42 (dk_at dksX8_execute_0 23 rfl rfl)
theorem dX8_execute_24 : decode cX8_execute 24 = .ok (.getfield 43, 3) := dk_180 0 43 (dk_at dksX8_execute_1 0 rfl rfl)
theorem dX8_execute_27 : decode cX8_execute 27 = .ok (.iload_n 2, 1) := dk_28 (dk_at dksX8_execute_1 3 rfl rfl)
theorem dX8_execute_28 : decode cX8_execute 28 = .ok (.iaload, 1) := dk_46 (dk_at dksX8_execute_1 4 rfl rfl)
theorem dX8_execute_29 : decode cX8_execute 29 = .ok (.tableswitch 85 0 3 #[31, 47, 55, 63], 31) := by decide +kernel
theorem dX8_execute_60 : decode cX8_execute 60 = .ok (.aload_n 0, 1) := dk_42 (dk_at dksX8_execute_3 0 rfl rfl)
theorem dX8_execute_61 : decode cX8_execute 61 = .ok (.iload_n 3, 1) := dk_29 (dk_at dksX8_execute_3 1 rfl rfl)
theorem dX8_execute_62 : decode cX8_execute 62 = .ok (.iload 4, 2) := dk_21 4 (dk_at dksX8_execute_3 2 rfl rfl)
theorem dX8_execute_64 : decode cX8_execute 64 = .ok (.aload_n 0, 1) := dk_42 (dk_at dksX8_execute_3 4 rfl rfl)
theorem dX8_execute_65 : decode cX8_execute 65 = .ok (.getfield 43, 3) := dk_180 0 43 (dk_at dksX8_execute_3 5 rfl rfl)
theorem dX8_execute_68 : decode cX8_execute 68 = .ok (.iload_n 2, 1) := dk_28 (dk_at dksX8_execute_3 8 rfl rfl)
theorem dX8_execute_69 : decode cX8_execute 69 = .ok (.iconst 3, 1) := dk_6 (dk_at dksX8_execute_3 9 rfl rfl)
theorem dX8_execute_70 : decode cX8_execute 70 = .ok (.iadd, 1) := dk_96 (dk_at dksX8_execute_3 10 rfl rfl)
theorem dX8_execute_71 : decode cX8_execute 71 = .ok (.iaload, 1) := dk_46 (dk_at dksX8_execute_3 11 rfl rfl)
theorem dX8_execute_72 : decode cX8_execute 72 = .ok (.invokevirtual 304, 3) := dk_182 1 48 (dk_at dksX8_execute_3 12 rfl rfl)
theorem dX8_execute_75 : decode cX8_execute 75 = .ok (.ireturn, 1) := dk_172 (dk_at dksX8_execute_3 15 rfl rfl)
theorem dX8_execute_76 : decode cX8_execute 76 = .ok (.aload_n 0, 1) := dk_42 (dk_at dksX8_execute_3 16 rfl rfl)
theorem dX8_execute_77 : decode cX8_execute 77 = .ok (.iload_n 3, 1) := dk_29 (dk_at dksX8_execute_3 17 rfl rfl)
theorem dX8_execute_78 : decode cX8_execute 78 = .ok (.iload 4, 2) := dk_21 4 (dk_at dksX8_execute_3 18 rfl rfl)
theorem dX8_execute_80 : decode cX8_execute 80 = .ok (.invokevirtual 308, 3) := dk_182 1 52 (dk_at dksX8_execute_3 20 rfl rfl)
theorem dX8_execute_83 : decode cX8_execute 83 = .ok (.ireturn, 1) := dk_172 (dk_at dksX8_execute_3 23 rfl rfl)
theorem dX8_execute_84 : decode cX8_execute 84 = .ok (.aload_n 0, 1) := dk_42 (dk_at dksX8_execute_4 0 rfl rfl)
theorem dX8_execute_85 : decode cX8_execute 85 = .ok (.iload_n 3, 1) := dk_29 (dk_at dksX8_execute_4 1 rfl rfl)
theorem dX8_execute_86 : decode cX8_execute 86 = .ok (.iload 4, 2) := dk_21 4 (dk_at dksX8_execute_4 2 rfl rfl)
theorem dX8_execute_88 : decode cX8_execute 88 = .ok (.invokevirtual 312, 3) := dk_182 1 56 (dk_at dksX8_execute_4 4 rfl rfl)
theorem dX8_execute_91 : decode cX8_execute 91 = .ok (.ireturn, 1) := dk_172 (dk_at dksX8_execute_4 7 rfl rfl)
theorem dX8_execute_92 : decode cX8_execute 92 = .ok (.aload_n 0, 1) := dk_42 (dk_at dksX8_execute_4 8 rfl rfl)
theorem dX8_execute_93 : decode cX8_execute 93 = .ok (.iload_n 3, 1) := dk_29 (dk_at dksX8_execute_4 9 rfl rfl)
theorem dX8_execute_94 : decode cX8_execute 94 = .ok (.invokevirtual 288, 3) := dk_182 1 32 (dk_at dksX8_execute_4 10 rfl rfl)
theorem dX8_execute_97 : decode cX8_execute 97 = .ok (.ifCond .eq 15, 3) := dk_153 0 15 (dk_at dksX8_execute_4 13 rfl rfl)
theorem dX8_execute_100 : decode cX8_execute 100 = .ok (.aload_n 0, 1) := dk_42 (dk_at dksX8_execute_4 16 rfl rfl)
theorem dX8_execute_101 : decode cX8_execute 101 = .ok (.iload_n 3, 1) := dk_29 (dk_at dksX8_execute_4 17 rfl rfl)
theorem dX8_execute_102 : decode cX8_execute 102 = .ok (.invokevirtual 315, 3) := dk_182 1 59 (dk_at dksX8_execute_4 18 rfl rfl)
theorem dX8_execute_105 : decode cX8_execute 105 = .ok (.ifCond .lt 7, 3) := dk_155 0 7 (dk_at dksX8_execute_4 21 rfl rfl)
theorem dX8_execute_108 : decode cX8_execute 108 = .ok (.iconst 1, 1) := dk_4 (dk_at dksX8_execute_5 0 rfl rfl)
theorem dX8_execute_109 : decode cX8_execute 109 = .ok (.goto 4, 3) := dk_167 0 4 (dk_at dksX8_execute_5 1 rfl rfl)
theorem dX8_execute_112 : decode cX8_execute 112 = .ok (.iconst 0, 1) := dk_3 (dk_at dksX8_execute_5 4 rfl rfl)
theorem dX8_execute_113 : decode cX8_execute 113 = .ok (.ireturn, 1) := dk_172 (dk_at dksX8_execute_5 5 rfl rfl)
theorem dX8_execute_114 : decode cX8_execute 114 = .ok (.aload_n 0, 1) := dk_42 (dk_at dksX8_execute_5 6 rfl rfl)
theorem dX8_execute_115 : decode cX8_execute 115 = .ok (.invokevirtual 318, 3) := dk_182 1 62 (dk_at dksX8_execute_5 7 rfl rfl)
theorem dX8_execute_118 : decode cX8_execute 118 = .ok (.ifCond .lt 7, 3) := dk_155 0 7 (dk_at dksX8_execute_5 10 rfl rfl)
theorem dX8_execute_121 : decode cX8_execute 121 = .ok (.iconst 1, 1) := dk_4 (dk_at dksX8_execute_5 13 rfl rfl)
theorem dX8_execute_122 : decode cX8_execute 122 = .ok (.goto 4, 3) := dk_167 0 4 (dk_at dksX8_execute_5 14 rfl rfl)
theorem dX8_execute_125 : decode cX8_execute 125 = .ok (.iconst 0, 1) := dk_3 (dk_at dksX8_execute_5 17 rfl rfl)
theorem dX8_execute_126 : decode cX8_execute 126 = .ok (.ireturn, 1) := dk_172 (dk_at dksX8_execute_5 18 rfl rfl)
abbrev cX8_executeSet : ByteArray := prog_18_method_69_code
def yX8_executeSet : MethodName := ⟨RX8, "executeSet", "(III)Z"⟩
def dkwX8_executeSet_1 : List UInt8 := [3, 172, 42, 27, 28, 29, 182, 1, 39, 158, 0, 7, 4, 167, 0, 4, 3, 172]
abbrev dktX8_executeSet_1 : List UInt8 := dkwX8_executeSet_1 ++ []
def dkwX8_executeSet_0 : List UInt8 := [42, 27, 182, 1, 32, 153, 0, 19, 28, 42, 27, 182, 0, 121, 162, 0, 10, 42, 182, 1, 35, 154, 0, 5]
abbrev dktX8_executeSet_0 : List UInt8 := dkwX8_executeSet_0 ++ dktX8_executeSet_1
theorem dksX8_executeSet_0 : cX8_executeSet.data.toList.drop 0 = dktX8_executeSet_0 := by decide +kernel
theorem dksX8_executeSet_1 : cX8_executeSet.data.toList.drop 24 = dktX8_executeSet_1 := dk_seg dksX8_executeSet_0 24 rfl rfl
theorem dX8_executeSet_0 : decode cX8_executeSet 0 = .ok (.aload_n 0, 1) := dk_42 (dk_at dksX8_executeSet_0 0 rfl rfl)
theorem dX8_executeSet_1 : decode cX8_executeSet 1 = .ok (.iload_n 1, 1) := dk_27 (dk_at dksX8_executeSet_0 1 rfl rfl)
theorem dX8_executeSet_2 : decode cX8_executeSet 2 = .ok (.invokevirtual 288, 3) := dk_182 1 32 (dk_at dksX8_executeSet_0 2 rfl rfl)
theorem dX8_executeSet_5 : decode cX8_executeSet 5 = .ok (.ifCond .eq 19, 3) := dk_153 0 19 (dk_at dksX8_executeSet_0 5 rfl rfl)
theorem dX8_executeSet_8 : decode cX8_executeSet 8 = .ok (.iload_n 2, 1) := dk_28 (dk_at dksX8_executeSet_0 8 rfl rfl)
theorem dX8_executeSet_9 : decode cX8_executeSet 9 = .ok (.aload_n 0, 1) := dk_42 (dk_at dksX8_executeSet_0 9 rfl rfl)
theorem dX8_executeSet_10 : decode cX8_executeSet 10 = .ok (.iload_n 1, 1) := dk_27 (dk_at dksX8_executeSet_0 10 rfl rfl)
theorem dX8_executeSet_11 : decode cX8_executeSet 11 = .ok (.invokevirtual 121, 3) := dk_182 0 121 (dk_at dksX8_executeSet_0 11 rfl rfl)
theorem dX8_executeSet_14 : decode cX8_executeSet 14 = .ok (.if_icmp .ge 10, 3) := dk_162 0 10 (dk_at dksX8_executeSet_0 14 rfl rfl)
theorem dX8_executeSet_17 : decode cX8_executeSet 17 = .ok (.aload_n 0, 1) := dk_42 (dk_at dksX8_executeSet_0 17 rfl rfl)
theorem dX8_executeSet_18 : decode cX8_executeSet 18 = .ok (.invokevirtual 291, 3) := dk_182 1 35 (dk_at dksX8_executeSet_0 18 rfl rfl)
theorem dX8_executeSet_21 : decode cX8_executeSet 21 = .ok (.ifCond .ne 5, 3) := dk_154 0 5 (dk_at dksX8_executeSet_0 21 rfl rfl)
theorem dX8_executeSet_24 : decode cX8_executeSet 24 = .ok (.iconst 0, 1) := dk_3 (dk_at dksX8_executeSet_1 0 rfl rfl)
theorem dX8_executeSet_25 : decode cX8_executeSet 25 = .ok (.ireturn, 1) := dk_172 (dk_at dksX8_executeSet_1 1 rfl rfl)
theorem dX8_executeSet_26 : decode cX8_executeSet 26 = .ok (.aload_n 0, 1) := dk_42 (dk_at dksX8_executeSet_1 2 rfl rfl)
theorem dX8_executeSet_27 : decode cX8_executeSet 27 = .ok (.iload_n 1, 1) := dk_27 (dk_at dksX8_executeSet_1 3 rfl rfl)
theorem dX8_executeSet_28 : decode cX8_executeSet 28 = .ok (.iload_n 2, 1) := dk_28 (dk_at dksX8_executeSet_1 4 rfl rfl)
theorem dX8_executeSet_29 : decode cX8_executeSet 29 = .ok (.iload_n 3, 1) := dk_29 (dk_at dksX8_executeSet_1 5 rfl rfl)
theorem dX8_executeSet_30 : decode cX8_executeSet 30 = .ok (.invokevirtual 295, 3) := dk_182 1 39 (dk_at dksX8_executeSet_1 6 rfl rfl)
theorem dX8_executeSet_33 : decode cX8_executeSet 33 = .ok (.ifCond .le 7, 3) := dk_158 0 7 (dk_at dksX8_executeSet_1 9 rfl rfl)
theorem dX8_executeSet_36 : decode cX8_executeSet 36 = .ok (.iconst 1, 1) := dk_4 (dk_at dksX8_executeSet_1 12 rfl rfl)
theorem dX8_executeSet_37 : decode cX8_executeSet 37 = .ok (.goto 4, 3) := dk_167 0 4 (dk_at dksX8_executeSet_1 13 rfl rfl)
theorem dX8_executeSet_40 : decode cX8_executeSet 40 = .ok (.iconst 0, 1) := dk_3 (dk_at dksX8_executeSet_1 16 rfl rfl)
theorem dX8_executeSet_41 : decode cX8_executeSet 41 = .ok (.ireturn, 1) := dk_172 (dk_at dksX8_executeSet_1 17 rfl rfl)
abbrev cX8_isLive : ByteArray := prog_18_method_67_code
def yX8_isLive : MethodName := ⟨RX8, "isLive", "(I)Z"⟩
def dkwX8_isLive_0 : List UInt8 := [42, 27, 182, 1, 29, 153, 0, 15, 42, 27, 182, 0, 164, 154, 0, 7, 4, 167, 0, 4, 3, 172]
abbrev dktX8_isLive_0 : List UInt8 := dkwX8_isLive_0 ++ []
theorem dksX8_isLive_0 : cX8_isLive.data.toList.drop 0 = dktX8_isLive_0 := by decide +kernel
theorem dX8_isLive_0 : decode cX8_isLive 0 = .ok (.aload_n 0, 1) := dk_42 (dk_at dksX8_isLive_0 0 rfl rfl)
theorem dX8_isLive_1 : decode cX8_isLive 1 = .ok (.iload_n 1, 1) := dk_27 (dk_at dksX8_isLive_0 1 rfl rfl)
theorem dX8_isLive_2 : decode cX8_isLive 2 = .ok (.invokevirtual 285, 3) := dk_182 1 29 (dk_at dksX8_isLive_0 2 rfl rfl)
theorem dX8_isLive_5 : decode cX8_isLive 5 = .ok (.ifCond .eq 15, 3) := dk_153 0 15 (dk_at dksX8_isLive_0 5 rfl rfl)
theorem dX8_isLive_8 : decode cX8_isLive 8 = .ok (.aload_n 0, 1) := dk_42 (dk_at dksX8_isLive_0 8 rfl rfl)
theorem dX8_isLive_9 : decode cX8_isLive 9 = .ok (.iload_n 1, 1) := dk_27 (dk_at dksX8_isLive_0 9 rfl rfl)
theorem dX8_isLive_10 : decode cX8_isLive 10 = .ok (.invokevirtual 164, 3) := dk_182 0 164 (dk_at dksX8_isLive_0 10 rfl rfl)
theorem dX8_isLive_13 : decode cX8_isLive 13 = .ok (.ifCond .ne 7, 3) := dk_154 0 7 (dk_at dksX8_isLive_0 13 rfl rfl)
theorem dX8_isLive_16 : decode cX8_isLive 16 = .ok (.iconst 1, 1) := dk_4 (dk_at dksX8_isLive_0 16 rfl rfl)
theorem dX8_isLive_17 : decode cX8_isLive 17 = .ok (.goto 4, 3) := dk_167 0 4 (dk_at dksX8_isLive_0 17 rfl rfl)
theorem dX8_isLive_20 : decode cX8_isLive 20 = .ok (.iconst 0, 1) := dk_3 (dk_at dksX8_isLive_0 20 rfl rfl)
theorem dX8_isLive_21 : decode cX8_isLive 21 = .ok (.ireturn, 1) := dk_172 (dk_at dksX8_isLive_0 21 rfl rfl)
abbrev cX8_isVersion : ByteArray := prog_18_method_74_code
def yX8_isVersion : MethodName := ⟨RX8, "isVersion", "(I)Z"⟩
def dkwX8_isVersion_0 : List UInt8 := [27, 133, 9, 42, 180, 0, 9, 3, 46, 4, 100, 133, 184, 0, 167, 172]
abbrev dktX8_isVersion_0 : List UInt8 := dkwX8_isVersion_0 ++ []
theorem dksX8_isVersion_0 : cX8_isVersion.data.toList.drop 0 = dktX8_isVersion_0 := by decide +kernel
theorem dX8_isVersion_0 : decode cX8_isVersion 0 = .ok (.iload_n 1, 1) := dk_27 (dk_at dksX8_isVersion_0 0 rfl rfl)
theorem dX8_isVersion_1 : decode cX8_isVersion 1 = .ok (.i2l, 1) := dk_133 (dk_at dksX8_isVersion_0 1 rfl rfl)
theorem dX8_isVersion_2 : decode cX8_isVersion 2 = .ok (.lconst 0, 1) := dk_9 (dk_at dksX8_isVersion_0 2 rfl rfl)
theorem dX8_isVersion_3 : decode cX8_isVersion 3 = .ok (.aload_n 0, 1) := dk_42 (dk_at dksX8_isVersion_0 3 rfl rfl)
theorem dX8_isVersion_4 : decode cX8_isVersion 4 = .ok (.getfield 9, 3) := dk_180 0 9 (dk_at dksX8_isVersion_0 4 rfl rfl)
theorem dX8_isVersion_7 : decode cX8_isVersion 7 = .ok (.iconst 0, 1) := dk_3 (dk_at dksX8_isVersion_0 7 rfl rfl)
theorem dX8_isVersion_8 : decode cX8_isVersion 8 = .ok (.iaload, 1) := dk_46 (dk_at dksX8_isVersion_0 8 rfl rfl)
theorem dX8_isVersion_9 : decode cX8_isVersion 9 = .ok (.iconst 1, 1) := dk_4 (dk_at dksX8_isVersion_0 9 rfl rfl)
theorem dX8_isVersion_10 : decode cX8_isVersion 10 = .ok (.isub, 1) := dk_100 (dk_at dksX8_isVersion_0 10 rfl rfl)
theorem dX8_isVersion_11 : decode cX8_isVersion 11 = .ok (.i2l, 1) := dk_133 (dk_at dksX8_isVersion_0 11 rfl rfl)
theorem dX8_isVersion_12 : decode cX8_isVersion 12 = .ok (.invokestatic 167, 3) := dk_184 0 167 (dk_at dksX8_isVersion_0 12 rfl rfl)
theorem dX8_isVersion_15 : decode cX8_isVersion 15 = .ok (.ireturn, 1) := dk_172 (dk_at dksX8_isVersion_0 15 rfl rfl)
abbrev cX8_isGone : ByteArray := prog_18_method_28_code
def yX8_isGone : MethodName := ⟨RX8, "isGone", "(I)Z"⟩
def dkwX8_isGone_0 : List UInt8 := [42, 180, 0, 9, 27, 184, 0, 112, 7, 96, 46, 4, 160, 0, 7, 4, 167, 0, 4, 3, 172]
abbrev dktX8_isGone_0 : List UInt8 := dkwX8_isGone_0 ++ []
theorem dksX8_isGone_0 : cX8_isGone.data.toList.drop 0 = dktX8_isGone_0 := by decide +kernel
theorem dX8_isGone_0 : decode cX8_isGone 0 = .ok (.aload_n 0, 1) := dk_42 (dk_at dksX8_isGone_0 0 rfl rfl)
theorem dX8_isGone_1 : decode cX8_isGone 1 = .ok (.getfield 9, 3) := dk_180 0 9 (dk_at dksX8_isGone_0 1 rfl rfl)
theorem dX8_isGone_4 : decode cX8_isGone 4 = .ok (.iload_n 1, 1) := dk_27 (dk_at dksX8_isGone_0 4 rfl rfl)
theorem dX8_isGone_5 : decode cX8_isGone 5 = .ok (.invokestatic 112, 3) := dk_184 0 112 (dk_at dksX8_isGone_0 5 rfl rfl)
theorem dX8_isGone_8 : decode cX8_isGone 8 = .ok (.iconst 4, 1) := dk_7 (dk_at dksX8_isGone_0 8 rfl rfl)
theorem dX8_isGone_9 : decode cX8_isGone 9 = .ok (.iadd, 1) := dk_96 (dk_at dksX8_isGone_0 9 rfl rfl)
theorem dX8_isGone_10 : decode cX8_isGone 10 = .ok (.iaload, 1) := dk_46 (dk_at dksX8_isGone_0 10 rfl rfl)
theorem dX8_isGone_11 : decode cX8_isGone 11 = .ok (.iconst 1, 1) := dk_4 (dk_at dksX8_isGone_0 11 rfl rfl)
theorem dX8_isGone_12 : decode cX8_isGone 12 = .ok (.if_icmp .ne 7, 3) := dk_160 0 7 (dk_at dksX8_isGone_0 12 rfl rfl)
theorem dX8_isGone_15 : decode cX8_isGone 15 = .ok (.iconst 1, 1) := dk_4 (dk_at dksX8_isGone_0 15 rfl rfl)
theorem dX8_isGone_16 : decode cX8_isGone 16 = .ok (.goto 4, 3) := dk_167 0 4 (dk_at dksX8_isGone_0 16 rfl rfl)
theorem dX8_isGone_19 : decode cX8_isGone 19 = .ok (.iconst 0, 1) := dk_3 (dk_at dksX8_isGone_0 19 rfl rfl)
theorem dX8_isGone_20 : decode cX8_isGone 20 = .ok (.ireturn, 1) := dk_172 (dk_at dksX8_isGone_0 20 rfl rfl)
abbrev cX8_hasRoom : ByteArray := prog_18_method_68_code
def yX8_hasRoom : MethodName := ⟨RX8, "hasRoom", "()Z"⟩
def dkwX8_hasRoom_0 : List UInt8 := [42, 180, 0, 9, 3, 46, 16, 40, 162, 0, 7, 4, 167, 0, 4, 3, 172]
abbrev dktX8_hasRoom_0 : List UInt8 := dkwX8_hasRoom_0 ++ []
theorem dksX8_hasRoom_0 : cX8_hasRoom.data.toList.drop 0 = dktX8_hasRoom_0 := by decide +kernel
theorem dX8_hasRoom_0 : decode cX8_hasRoom 0 = .ok (.aload_n 0, 1) := dk_42 (dk_at dksX8_hasRoom_0 0 rfl rfl)
theorem dX8_hasRoom_1 : decode cX8_hasRoom 1 = .ok (.getfield 9, 3) := dk_180 0 9 (dk_at dksX8_hasRoom_0 1 rfl rfl)
theorem dX8_hasRoom_4 : decode cX8_hasRoom 4 = .ok (.iconst 0, 1) := dk_3 (dk_at dksX8_hasRoom_0 4 rfl rfl)
theorem dX8_hasRoom_5 : decode cX8_hasRoom 5 = .ok (.iaload, 1) := dk_46 (dk_at dksX8_hasRoom_0 5 rfl rfl)
theorem dX8_hasRoom_6 : decode cX8_hasRoom 6 = .ok (.bipush 40, 2) := dk_16 40 (dk_at dksX8_hasRoom_0 6 rfl rfl)
theorem dX8_hasRoom_8 : decode cX8_hasRoom 8 = .ok (.if_icmp .ge 7, 3) := dk_162 0 7 (dk_at dksX8_hasRoom_0 8 rfl rfl)
theorem dX8_hasRoom_11 : decode cX8_hasRoom 11 = .ok (.iconst 1, 1) := dk_4 (dk_at dksX8_hasRoom_0 11 rfl rfl)
theorem dX8_hasRoom_12 : decode cX8_hasRoom 12 = .ok (.goto 4, 3) := dk_167 0 4 (dk_at dksX8_hasRoom_0 12 rfl rfl)
theorem dX8_hasRoom_15 : decode cX8_hasRoom 15 = .ok (.iconst 0, 1) := dk_3 (dk_at dksX8_hasRoom_0 15 rfl rfl)
theorem dX8_hasRoom_16 : decode cX8_hasRoom 16 = .ok (.ireturn, 1) := dk_172 (dk_at dksX8_hasRoom_0 16 rfl rfl)
abbrev cX8_makeSet : ByteArray := prog_18_method_34_code
def yX8_makeSet : MethodName := ⟨RX8, "makeSet", "(III)I"⟩
def dkwX8_makeSet_3 : List UInt8 := [54, 7, 42, 180, 0, 9, 21, 7, 184, 0, 115, 28, 96, 29, 79, 21, 7, 172]
abbrev dktX8_makeSet_3 : List UInt8 := dkwX8_makeSet_3 ++ []
def dkwX8_makeSet_2 : List UInt8 := [182, 0, 148, 28, 29, 182, 0, 101, 54, 6, 42, 27, 42, 27, 182, 0, 121, 21, 6, 21, 4, 182, 0, 142]
abbrev dktX8_makeSet_2 : List UInt8 := dkwX8_makeSet_2 ++ dktX8_makeSet_3
def dkwX8_makeSet_1 : List UInt8 := [54, 5, 21, 5, 153, 0, 11, 42, 27, 182, 0, 145, 167, 0, 19, 42, 42, 27, 182, 0, 145, 42, 27]
abbrev dktX8_makeSet_1 : List UInt8 := dkwX8_makeSet_1 ++ dktX8_makeSet_2
def dkwX8_makeSet_0 : List UInt8 := [42, 180, 0, 9, 4, 46, 54, 4, 42, 27, 28, 182, 0, 129, 29, 160, 0, 7, 4, 167, 0, 4, 3]
abbrev dktX8_makeSet_0 : List UInt8 := dkwX8_makeSet_0 ++ dktX8_makeSet_1
theorem dksX8_makeSet_0 : cX8_makeSet.data.toList.drop 0 = dktX8_makeSet_0 := by decide +kernel
theorem dksX8_makeSet_1 : cX8_makeSet.data.toList.drop 23 = dktX8_makeSet_1 := dk_seg dksX8_makeSet_0 23 rfl rfl
theorem dksX8_makeSet_2 : cX8_makeSet.data.toList.drop 46 = dktX8_makeSet_2 := dk_seg dksX8_makeSet_1 23 rfl rfl
theorem dksX8_makeSet_3 : cX8_makeSet.data.toList.drop 70 = dktX8_makeSet_3 := dk_seg dksX8_makeSet_2 24 rfl rfl
theorem dX8_makeSet_0 : decode cX8_makeSet 0 = .ok (.aload_n 0, 1) := dk_42 (dk_at dksX8_makeSet_0 0 rfl rfl)
theorem dX8_makeSet_1 : decode cX8_makeSet 1 = .ok (.getfield 9, 3) := dk_180 0 9 (dk_at dksX8_makeSet_0 1 rfl rfl)
theorem dX8_makeSet_4 : decode cX8_makeSet 4 = .ok (.iconst 1, 1) := dk_4 (dk_at dksX8_makeSet_0 4 rfl rfl)
theorem dX8_makeSet_5 : decode cX8_makeSet 5 = .ok (.iaload, 1) := dk_46 (dk_at dksX8_makeSet_0 5 rfl rfl)
theorem dX8_makeSet_6 : decode cX8_makeSet 6 = .ok (.istore 4, 2) := dk_54 4 (dk_at dksX8_makeSet_0 6 rfl rfl)
theorem dX8_makeSet_8 : decode cX8_makeSet 8 = .ok (.aload_n 0, 1) := dk_42 (dk_at dksX8_makeSet_0 8 rfl rfl)
theorem dX8_makeSet_9 : decode cX8_makeSet 9 = .ok (.iload_n 1, 1) := dk_27 (dk_at dksX8_makeSet_0 9 rfl rfl)
theorem dX8_makeSet_10 : decode cX8_makeSet 10 = .ok (.iload_n 2, 1) := dk_28 (dk_at dksX8_makeSet_0 10 rfl rfl)
theorem dX8_makeSet_11 : decode cX8_makeSet 11 = .ok (.invokevirtual 129, 3) := dk_182 0 129 (dk_at dksX8_makeSet_0 11 rfl rfl)
theorem dX8_makeSet_14 : decode cX8_makeSet 14 = .ok (.iload_n 3, 1) := dk_29 (dk_at dksX8_makeSet_0 14 rfl rfl)
theorem dX8_makeSet_15 : decode cX8_makeSet 15 = .ok (.if_icmp .ne 7, 3) := dk_160 0 7 (dk_at dksX8_makeSet_0 15 rfl rfl)
theorem dX8_makeSet_18 : decode cX8_makeSet 18 = .ok (.iconst 1, 1) := dk_4 (dk_at dksX8_makeSet_0 18 rfl rfl)
theorem dX8_makeSet_19 : decode cX8_makeSet 19 = .ok (.goto 4, 3) := dk_167 0 4 (dk_at dksX8_makeSet_0 19 rfl rfl)
theorem dX8_makeSet_22 : decode cX8_makeSet 22 = .ok (.iconst 0, 1) := dk_3 (dk_at dksX8_makeSet_0 22 rfl rfl)
theorem dX8_makeSet_23 : decode cX8_makeSet 23 = .ok (.istore 5, 2) := dk_54 5 (dk_at dksX8_makeSet_1 0 rfl rfl)
theorem dX8_makeSet_25 : decode cX8_makeSet 25 = .ok (.iload 5, 2) := dk_21 5 (dk_at dksX8_makeSet_1 2 rfl rfl)
theorem dX8_makeSet_27 : decode cX8_makeSet 27 = .ok (.ifCond .eq 11, 3) := dk_153 0 11 (dk_at dksX8_makeSet_1 4 rfl rfl)
theorem dX8_makeSet_30 : decode cX8_makeSet 30 = .ok (.aload_n 0, 1) := dk_42 (dk_at dksX8_makeSet_1 7 rfl rfl)
theorem dX8_makeSet_31 : decode cX8_makeSet 31 = .ok (.iload_n 1, 1) := dk_27 (dk_at dksX8_makeSet_1 8 rfl rfl)
theorem dX8_makeSet_32 : decode cX8_makeSet 32 = .ok (.invokevirtual 145, 3) := dk_182 0 145 (dk_at dksX8_makeSet_1 9 rfl rfl)
theorem dX8_makeSet_35 : decode cX8_makeSet 35 = .ok (.goto 19, 3) := dk_167 0 19 (dk_at dksX8_makeSet_1 12 rfl rfl)
theorem dX8_makeSet_38 : decode cX8_makeSet 38 = .ok (.aload_n 0, 1) := dk_42 (dk_at dksX8_makeSet_1 15 rfl rfl)
theorem dX8_makeSet_39 : decode cX8_makeSet 39 = .ok (.aload_n 0, 1) := dk_42 (dk_at dksX8_makeSet_1 16 rfl rfl)
theorem dX8_makeSet_40 : decode cX8_makeSet 40 = .ok (.iload_n 1, 1) := dk_27 (dk_at dksX8_makeSet_1 17 rfl rfl)
theorem dX8_makeSet_41 : decode cX8_makeSet 41 = .ok (.invokevirtual 145, 3) := dk_182 0 145 (dk_at dksX8_makeSet_1 18 rfl rfl)
theorem dX8_makeSet_44 : decode cX8_makeSet 44 = .ok (.aload_n 0, 1) := dk_42 (dk_at dksX8_makeSet_1 21 rfl rfl)
theorem dX8_makeSet_45 : decode cX8_makeSet 45 = .ok (.iload_n 1, 1) := dk_27 (dk_at dksX8_makeSet_1 22 rfl rfl)
theorem dX8_makeSet_46 : decode cX8_makeSet 46 = .ok (.invokevirtual 148, 3) := dk_182 0 148 (dk_at dksX8_makeSet_2 0 rfl rfl)
theorem dX8_makeSet_49 : decode cX8_makeSet 49 = .ok (.iload_n 2, 1) := dk_28 (dk_at dksX8_makeSet_2 3 rfl rfl)
theorem dX8_makeSet_50 : decode cX8_makeSet 50 = .ok (.iload_n 3, 1) := dk_29 (dk_at dksX8_makeSet_2 4 rfl rfl)
theorem dX8_makeSet_51 : decode cX8_makeSet 51 = .ok (.invokevirtual 101, 3) := dk_182 0 101 (dk_at dksX8_makeSet_2 5 rfl rfl)
theorem dX8_makeSet_54 : decode cX8_makeSet 54 = .ok (.istore 6, 2) := dk_54 6 (dk_at dksX8_makeSet_2 8 rfl rfl)
theorem dX8_makeSet_56 : decode cX8_makeSet 56 = .ok (.aload_n 0, 1) := dk_42 (dk_at dksX8_makeSet_2 10 rfl rfl)
theorem dX8_makeSet_57 : decode cX8_makeSet 57 = .ok (.iload_n 1, 1) := dk_27 (dk_at dksX8_makeSet_2 11 rfl rfl)
theorem dX8_makeSet_58 : decode cX8_makeSet 58 = .ok (.aload_n 0, 1) := dk_42 (dk_at dksX8_makeSet_2 12 rfl rfl)
theorem dX8_makeSet_59 : decode cX8_makeSet 59 = .ok (.iload_n 1, 1) := dk_27 (dk_at dksX8_makeSet_2 13 rfl rfl)
theorem dX8_makeSet_60 : decode cX8_makeSet 60 = .ok (.invokevirtual 121, 3) := dk_182 0 121 (dk_at dksX8_makeSet_2 14 rfl rfl)
theorem dX8_makeSet_63 : decode cX8_makeSet 63 = .ok (.iload 6, 2) := dk_21 6 (dk_at dksX8_makeSet_2 17 rfl rfl)
theorem dX8_makeSet_65 : decode cX8_makeSet 65 = .ok (.iload 4, 2) := dk_21 4 (dk_at dksX8_makeSet_2 19 rfl rfl)
theorem dX8_makeSet_67 : decode cX8_makeSet 67 = .ok (.invokevirtual 142, 3) := dk_182 0 142 (dk_at dksX8_makeSet_2 21 rfl rfl)
theorem dX8_makeSet_70 : decode cX8_makeSet 70 = .ok (.istore 7, 2) := dk_54 7 (dk_at dksX8_makeSet_3 0 rfl rfl)
theorem dX8_makeSet_72 : decode cX8_makeSet 72 = .ok (.aload_n 0, 1) := dk_42 (dk_at dksX8_makeSet_3 2 rfl rfl)
theorem dX8_makeSet_73 : decode cX8_makeSet 73 = .ok (.getfield 9, 3) := dk_180 0 9 (dk_at dksX8_makeSet_3 3 rfl rfl)
theorem dX8_makeSet_76 : decode cX8_makeSet 76 = .ok (.iload 7, 2) := dk_21 7 (dk_at dksX8_makeSet_3 6 rfl rfl)
theorem dX8_makeSet_78 : decode cX8_makeSet 78 = .ok (.invokestatic 115, 3) := dk_184 0 115 (dk_at dksX8_makeSet_3 8 rfl rfl)
theorem dX8_makeSet_81 : decode cX8_makeSet 81 = .ok (.iload_n 2, 1) := dk_28 (dk_at dksX8_makeSet_3 11 rfl rfl)
theorem dX8_makeSet_82 : decode cX8_makeSet 82 = .ok (.iadd, 1) := dk_96 (dk_at dksX8_makeSet_3 12 rfl rfl)
theorem dX8_makeSet_83 : decode cX8_makeSet 83 = .ok (.iload_n 3, 1) := dk_29 (dk_at dksX8_makeSet_3 13 rfl rfl)
theorem dX8_makeSet_84 : decode cX8_makeSet 84 = .ok (.iastore, 1) := dk_79 (dk_at dksX8_makeSet_3 14 rfl rfl)
theorem dX8_makeSet_85 : decode cX8_makeSet 85 = .ok (.iload 7, 2) := dk_21 7 (dk_at dksX8_makeSet_3 15 rfl rfl)
theorem dX8_makeSet_87 : decode cX8_makeSet 87 = .ok (.ireturn, 1) := dk_172 (dk_at dksX8_makeSet_3 17 rfl rfl)
abbrev cX8_root : ByteArray := prog_18_method_26_code
def yX8_root : MethodName := ⟨RX8, "root", "(I)I"⟩
def dkwX8_root_0 : List UInt8 := [42, 180, 0, 9, 27, 184, 0, 112, 4, 96, 46, 172]
abbrev dktX8_root_0 : List UInt8 := dkwX8_root_0 ++ []
theorem dksX8_root_0 : cX8_root.data.toList.drop 0 = dktX8_root_0 := by decide +kernel
theorem dX8_root_0 : decode cX8_root 0 = .ok (.aload_n 0, 1) := dk_42 (dk_at dksX8_root_0 0 rfl rfl)
theorem dX8_root_1 : decode cX8_root 1 = .ok (.getfield 9, 3) := dk_180 0 9 (dk_at dksX8_root_0 1 rfl rfl)
theorem dX8_root_4 : decode cX8_root 4 = .ok (.iload_n 1, 1) := dk_27 (dk_at dksX8_root_0 4 rfl rfl)
theorem dX8_root_5 : decode cX8_root 5 = .ok (.invokestatic 112, 3) := dk_184 0 112 (dk_at dksX8_root_0 5 rfl rfl)
theorem dX8_root_8 : decode cX8_root 8 = .ok (.iconst 1, 1) := dk_4 (dk_at dksX8_root_0 8 rfl rfl)
theorem dX8_root_9 : decode cX8_root 9 = .ok (.iadd, 1) := dk_96 (dk_at dksX8_root_0 9 rfl rfl)
theorem dX8_root_10 : decode cX8_root 10 = .ok (.iaload, 1) := dk_46 (dk_at dksX8_root_0 10 rfl rfl)
theorem dX8_root_11 : decode cX8_root 11 = .ok (.ireturn, 1) := dk_172 (dk_at dksX8_root_0 11 rfl rfl)
abbrev cX8_heightOf : ByteArray := prog_18_method_27_code
def yX8_heightOf : MethodName := ⟨RX8, "heightOf", "(I)I"⟩
def dkwX8_heightOf_0 : List UInt8 := [42, 180, 0, 9, 27, 184, 0, 112, 5, 96, 46, 172]
abbrev dktX8_heightOf_0 : List UInt8 := dkwX8_heightOf_0 ++ []
theorem dksX8_heightOf_0 : cX8_heightOf.data.toList.drop 0 = dktX8_heightOf_0 := by decide +kernel
theorem dX8_heightOf_0 : decode cX8_heightOf 0 = .ok (.aload_n 0, 1) := dk_42 (dk_at dksX8_heightOf_0 0 rfl rfl)
theorem dX8_heightOf_1 : decode cX8_heightOf 1 = .ok (.getfield 9, 3) := dk_180 0 9 (dk_at dksX8_heightOf_0 1 rfl rfl)
theorem dX8_heightOf_4 : decode cX8_heightOf 4 = .ok (.iload_n 1, 1) := dk_27 (dk_at dksX8_heightOf_0 4 rfl rfl)
theorem dX8_heightOf_5 : decode cX8_heightOf 5 = .ok (.invokestatic 112, 3) := dk_184 0 112 (dk_at dksX8_heightOf_0 5 rfl rfl)
theorem dX8_heightOf_8 : decode cX8_heightOf 8 = .ok (.iconst 2, 1) := dk_5 (dk_at dksX8_heightOf_0 8 rfl rfl)
theorem dX8_heightOf_9 : decode cX8_heightOf 9 = .ok (.iadd, 1) := dk_96 (dk_at dksX8_heightOf_0 9 rfl rfl)
theorem dX8_heightOf_10 : decode cX8_heightOf 10 = .ok (.iaload, 1) := dk_46 (dk_at dksX8_heightOf_0 10 rfl rfl)
theorem dX8_heightOf_11 : decode cX8_heightOf 11 = .ok (.ireturn, 1) := dk_172 (dk_at dksX8_heightOf_0 11 rfl rfl)
abbrev cX8_replaced : ByteArray := prog_18_method_22_code
def yX8_replaced : MethodName := ⟨RX8, "replaced", "(IIII)I"⟩
def dkwX8_replaced_2 : List UInt8 := [182, 0, 101, 54, 7, 42, 27, 21, 6, 21, 7, 3, 3, 182, 0, 97, 172]
abbrev dktX8_replaced_2 : List UInt8 := dkwX8_replaced_2 ++ []
def dkwX8_replaced_1 : List UInt8 := [29, 21, 5, 108, 54, 6, 42, 42, 27, 21, 6, 182, 0, 71, 28, 4, 100, 29, 21, 5, 112, 21, 4]
abbrev dktX8_replaced_1 : List UInt8 := dkwX8_replaced_1 ++ dktX8_replaced_2
def dkwX8_replaced_0 : List UInt8 := [28, 4, 160, 0, 14, 42, 27, 29, 21, 4, 3, 4, 182, 0, 97, 172, 28, 4, 100, 184, 0, 64, 54, 5]
abbrev dktX8_replaced_0 : List UInt8 := dkwX8_replaced_0 ++ dktX8_replaced_1
theorem dksX8_replaced_0 : cX8_replaced.data.toList.drop 0 = dktX8_replaced_0 := by decide +kernel
theorem dksX8_replaced_1 : cX8_replaced.data.toList.drop 24 = dktX8_replaced_1 := dk_seg dksX8_replaced_0 24 rfl rfl
theorem dksX8_replaced_2 : cX8_replaced.data.toList.drop 47 = dktX8_replaced_2 := dk_seg dksX8_replaced_1 23 rfl rfl
theorem dX8_replaced_0 : decode cX8_replaced 0 = .ok (.iload_n 2, 1) := dk_28 (dk_at dksX8_replaced_0 0 rfl rfl)
theorem dX8_replaced_1 : decode cX8_replaced 1 = .ok (.iconst 1, 1) := dk_4 (dk_at dksX8_replaced_0 1 rfl rfl)
theorem dX8_replaced_2 : decode cX8_replaced 2 = .ok (.if_icmp .ne 14, 3) := dk_160 0 14 (dk_at dksX8_replaced_0 2 rfl rfl)
theorem dX8_replaced_5 : decode cX8_replaced 5 = .ok (.aload_n 0, 1) := dk_42 (dk_at dksX8_replaced_0 5 rfl rfl)
theorem dX8_replaced_6 : decode cX8_replaced 6 = .ok (.iload_n 1, 1) := dk_27 (dk_at dksX8_replaced_0 6 rfl rfl)
theorem dX8_replaced_7 : decode cX8_replaced 7 = .ok (.iload_n 3, 1) := dk_29 (dk_at dksX8_replaced_0 7 rfl rfl)
theorem dX8_replaced_8 : decode cX8_replaced 8 = .ok (.iload 4, 2) := dk_21 4 (dk_at dksX8_replaced_0 8 rfl rfl)
theorem dX8_replaced_10 : decode cX8_replaced 10 = .ok (.iconst 0, 1) := dk_3 (dk_at dksX8_replaced_0 10 rfl rfl)
theorem dX8_replaced_11 : decode cX8_replaced 11 = .ok (.iconst 1, 1) := dk_4 (dk_at dksX8_replaced_0 11 rfl rfl)
theorem dX8_replaced_12 : decode cX8_replaced 12 = .ok (.invokevirtual 97, 3) := dk_182 0 97 (dk_at dksX8_replaced_0 12 rfl rfl)
theorem dX8_replaced_15 : decode cX8_replaced 15 = .ok (.ireturn, 1) := dk_172 (dk_at dksX8_replaced_0 15 rfl rfl)
theorem dX8_replaced_16 : decode cX8_replaced 16 = .ok (.iload_n 2, 1) := dk_28 (dk_at dksX8_replaced_0 16 rfl rfl)
theorem dX8_replaced_17 : decode cX8_replaced 17 = .ok (.iconst 1, 1) := dk_4 (dk_at dksX8_replaced_0 17 rfl rfl)
theorem dX8_replaced_18 : decode cX8_replaced 18 = .ok (.isub, 1) := dk_100 (dk_at dksX8_replaced_0 18 rfl rfl)
theorem dX8_replaced_19 : decode cX8_replaced 19 = .ok (.invokestatic 64, 3) := dk_184 0 64 (dk_at dksX8_replaced_0 19 rfl rfl)
theorem dX8_replaced_22 : decode cX8_replaced 22 = .ok (.istore 5, 2) := dk_54 5 (dk_at dksX8_replaced_0 22 rfl rfl)
theorem dX8_replaced_24 : decode cX8_replaced 24 = .ok (.iload_n 3, 1) := dk_29 (dk_at dksX8_replaced_1 0 rfl rfl)
theorem dX8_replaced_25 : decode cX8_replaced 25 = .ok (.iload 5, 2) := dk_21 5 (dk_at dksX8_replaced_1 1 rfl rfl)
theorem dX8_replaced_27 : decode cX8_replaced 27 = .ok (.idiv, 1) := dk_108 (dk_at dksX8_replaced_1 3 rfl rfl)
theorem dX8_replaced_28 : decode cX8_replaced 28 = .ok (.istore 6, 2) := dk_54 6 (dk_at dksX8_replaced_1 4 rfl rfl)
theorem dX8_replaced_30 : decode cX8_replaced 30 = .ok (.aload_n 0, 1) := dk_42 (dk_at dksX8_replaced_1 6 rfl rfl)
theorem dX8_replaced_31 : decode cX8_replaced 31 = .ok (.aload_n 0, 1) := dk_42 (dk_at dksX8_replaced_1 7 rfl rfl)
theorem dX8_replaced_32 : decode cX8_replaced 32 = .ok (.iload_n 1, 1) := dk_27 (dk_at dksX8_replaced_1 8 rfl rfl)
theorem dX8_replaced_33 : decode cX8_replaced 33 = .ok (.iload 6, 2) := dk_21 6 (dk_at dksX8_replaced_1 9 rfl rfl)
theorem dX8_replaced_35 : decode cX8_replaced 35 = .ok (.invokevirtual 71, 3) := dk_182 0 71 (dk_at dksX8_replaced_1 11 rfl rfl)
theorem dX8_replaced_38 : decode cX8_replaced 38 = .ok (.iload_n 2, 1) := dk_28 (dk_at dksX8_replaced_1 14 rfl rfl)
theorem dX8_replaced_39 : decode cX8_replaced 39 = .ok (.iconst 1, 1) := dk_4 (dk_at dksX8_replaced_1 15 rfl rfl)
theorem dX8_replaced_40 : decode cX8_replaced 40 = .ok (.isub, 1) := dk_100 (dk_at dksX8_replaced_1 16 rfl rfl)
theorem dX8_replaced_41 : decode cX8_replaced 41 = .ok (.iload_n 3, 1) := dk_29 (dk_at dksX8_replaced_1 17 rfl rfl)
theorem dX8_replaced_42 : decode cX8_replaced 42 = .ok (.iload 5, 2) := dk_21 5 (dk_at dksX8_replaced_1 18 rfl rfl)
theorem dX8_replaced_44 : decode cX8_replaced 44 = .ok (.irem, 1) := dk_112 (dk_at dksX8_replaced_1 20 rfl rfl)
theorem dX8_replaced_45 : decode cX8_replaced 45 = .ok (.iload 4, 2) := dk_21 4 (dk_at dksX8_replaced_1 21 rfl rfl)
theorem dX8_replaced_47 : decode cX8_replaced 47 = .ok (.invokevirtual 101, 3) := dk_182 0 101 (dk_at dksX8_replaced_2 0 rfl rfl)
theorem dX8_replaced_50 : decode cX8_replaced 50 = .ok (.istore 7, 2) := dk_54 7 (dk_at dksX8_replaced_2 3 rfl rfl)
theorem dX8_replaced_52 : decode cX8_replaced 52 = .ok (.aload_n 0, 1) := dk_42 (dk_at dksX8_replaced_2 5 rfl rfl)
theorem dX8_replaced_53 : decode cX8_replaced 53 = .ok (.iload_n 1, 1) := dk_27 (dk_at dksX8_replaced_2 6 rfl rfl)
theorem dX8_replaced_54 : decode cX8_replaced 54 = .ok (.iload 6, 2) := dk_21 6 (dk_at dksX8_replaced_2 7 rfl rfl)
theorem dX8_replaced_56 : decode cX8_replaced 56 = .ok (.iload 7, 2) := dk_21 7 (dk_at dksX8_replaced_2 9 rfl rfl)
theorem dX8_replaced_58 : decode cX8_replaced 58 = .ok (.iconst 0, 1) := dk_3 (dk_at dksX8_replaced_2 11 rfl rfl)
theorem dX8_replaced_59 : decode cX8_replaced 59 = .ok (.iconst 0, 1) := dk_3 (dk_at dksX8_replaced_2 12 rfl rfl)
theorem dX8_replaced_60 : decode cX8_replaced 60 = .ok (.invokevirtual 97, 3) := dk_182 0 97 (dk_at dksX8_replaced_2 13 rfl rfl)
theorem dX8_replaced_63 : decode cX8_replaced 63 = .ok (.ireturn, 1) := dk_172 (dk_at dksX8_replaced_2 16 rfl rfl)
abbrev cX8_remake : ByteArray := prog_18_method_20_code
def yX8_remake : MethodName := ⟨RX8, "remake", "(IIIZZ)I"⟩
def dkwX8_remake_2 : List UInt8 := [28, 4, 96, 167, 0, 5, 21, 6, 182, 0, 86, 172]
abbrev dktX8_remake_2 : List UInt8 := dkwX8_remake_2 ++ []
def dkwX8_remake_1 : List UInt8 := [167, 0, 4, 27, 21, 6, 182, 0, 82, 42, 180, 0, 23, 28, 29, 79, 42, 21, 5, 21, 4, 153, 0, 9]
abbrev dktX8_remake_1 : List UInt8 := dkwX8_remake_1 ++ dktX8_remake_2
def dkwX8_remake_0 : List UInt8 := [27, 2, 160, 0, 7, 3, 167, 0, 8, 42, 27, 182, 0, 79, 54, 6, 42, 27, 2, 160, 0, 7, 3]
abbrev dktX8_remake_0 : List UInt8 := dkwX8_remake_0 ++ dktX8_remake_1
theorem dksX8_remake_0 : cX8_remake.data.toList.drop 0 = dktX8_remake_0 := by decide +kernel
theorem dksX8_remake_1 : cX8_remake.data.toList.drop 23 = dktX8_remake_1 := dk_seg dksX8_remake_0 23 rfl rfl
theorem dksX8_remake_2 : cX8_remake.data.toList.drop 47 = dktX8_remake_2 := dk_seg dksX8_remake_1 24 rfl rfl
theorem dX8_remake_0 : decode cX8_remake 0 = .ok (.iload_n 1, 1) := dk_27 (dk_at dksX8_remake_0 0 rfl rfl)
theorem dX8_remake_1 : decode cX8_remake 1 = .ok (.iconst (-1), 1) := dk_2 (dk_at dksX8_remake_0 1 rfl rfl)
theorem dX8_remake_2 : decode cX8_remake 2 = .ok (.if_icmp .ne 7, 3) := dk_160 0 7 (dk_at dksX8_remake_0 2 rfl rfl)
theorem dX8_remake_5 : decode cX8_remake 5 = .ok (.iconst 0, 1) := dk_3 (dk_at dksX8_remake_0 5 rfl rfl)
theorem dX8_remake_6 : decode cX8_remake 6 = .ok (.goto 8, 3) := dk_167 0 8 (dk_at dksX8_remake_0 6 rfl rfl)
theorem dX8_remake_9 : decode cX8_remake 9 = .ok (.aload_n 0, 1) := dk_42 (dk_at dksX8_remake_0 9 rfl rfl)
theorem dX8_remake_10 : decode cX8_remake 10 = .ok (.iload_n 1, 1) := dk_27 (dk_at dksX8_remake_0 10 rfl rfl)
theorem dX8_remake_11 : decode cX8_remake 11 = .ok (.invokevirtual 79, 3) := dk_182 0 79 (dk_at dksX8_remake_0 11 rfl rfl)
theorem dX8_remake_14 : decode cX8_remake 14 = .ok (.istore 6, 2) := dk_54 6 (dk_at dksX8_remake_0 14 rfl rfl)
theorem dX8_remake_16 : decode cX8_remake 16 = .ok (.aload_n 0, 1) := dk_42 (dk_at dksX8_remake_0 16 rfl rfl)
theorem dX8_remake_17 : decode cX8_remake 17 = .ok (.iload_n 1, 1) := dk_27 (dk_at dksX8_remake_0 17 rfl rfl)
theorem dX8_remake_18 : decode cX8_remake 18 = .ok (.iconst (-1), 1) := dk_2 (dk_at dksX8_remake_0 18 rfl rfl)
theorem dX8_remake_19 : decode cX8_remake 19 = .ok (.if_icmp .ne 7, 3) := dk_160 0 7 (dk_at dksX8_remake_0 19 rfl rfl)
theorem dX8_remake_22 : decode cX8_remake 22 = .ok (.iconst 0, 1) := dk_3 (dk_at dksX8_remake_0 22 rfl rfl)
theorem dX8_remake_23 : decode cX8_remake 23 = .ok (.goto 4, 3) := dk_167 0 4 (dk_at dksX8_remake_1 0 rfl rfl)
theorem dX8_remake_26 : decode cX8_remake 26 = .ok (.iload_n 1, 1) := dk_27 (dk_at dksX8_remake_1 3 rfl rfl)
theorem dX8_remake_27 : decode cX8_remake 27 = .ok (.iload 6, 2) := dk_21 6 (dk_at dksX8_remake_1 4 rfl rfl)
theorem dX8_remake_29 : decode cX8_remake 29 = .ok (.invokevirtual 82, 3) := dk_182 0 82 (dk_at dksX8_remake_1 6 rfl rfl)
theorem dX8_remake_32 : decode cX8_remake 32 = .ok (.aload_n 0, 1) := dk_42 (dk_at dksX8_remake_1 9 rfl rfl)
theorem dX8_remake_33 : decode cX8_remake 33 = .ok (.getfield 23, 3) := dk_180 0 23 (dk_at dksX8_remake_1 10 rfl rfl)
theorem dX8_remake_36 : decode cX8_remake 36 = .ok (.iload_n 2, 1) := dk_28 (dk_at dksX8_remake_1 13 rfl rfl)
theorem dX8_remake_37 : decode cX8_remake 37 = .ok (.iload_n 3, 1) := dk_29 (dk_at dksX8_remake_1 14 rfl rfl)
theorem dX8_remake_38 : decode cX8_remake 38 = .ok (.iastore, 1) := dk_79 (dk_at dksX8_remake_1 15 rfl rfl)
theorem dX8_remake_39 : decode cX8_remake 39 = .ok (.aload_n 0, 1) := dk_42 (dk_at dksX8_remake_1 16 rfl rfl)
theorem dX8_remake_40 : decode cX8_remake 40 = .ok (.iload 5, 2) := dk_21 5 (dk_at dksX8_remake_1 17 rfl rfl)
theorem dX8_remake_42 : decode cX8_remake 42 = .ok (.iload 4, 2) := dk_21 4 (dk_at dksX8_remake_1 19 rfl rfl)
theorem dX8_remake_44 : decode cX8_remake 44 = .ok (.ifCond .eq 9, 3) := dk_153 0 9 (dk_at dksX8_remake_1 21 rfl rfl)
theorem dX8_remake_47 : decode cX8_remake 47 = .ok (.iload_n 2, 1) := dk_28 (dk_at dksX8_remake_2 0 rfl rfl)
theorem dX8_remake_48 : decode cX8_remake 48 = .ok (.iconst 1, 1) := dk_4 (dk_at dksX8_remake_2 1 rfl rfl)
theorem dX8_remake_49 : decode cX8_remake 49 = .ok (.iadd, 1) := dk_96 (dk_at dksX8_remake_2 2 rfl rfl)
theorem dX8_remake_50 : decode cX8_remake 50 = .ok (.goto 5, 3) := dk_167 0 5 (dk_at dksX8_remake_2 3 rfl rfl)
theorem dX8_remake_53 : decode cX8_remake 53 = .ok (.iload 6, 2) := dk_21 6 (dk_at dksX8_remake_2 6 rfl rfl)
theorem dX8_remake_55 : decode cX8_remake 55 = .ok (.invokevirtual 86, 3) := dk_182 0 86 (dk_at dksX8_remake_2 8 rfl rfl)
theorem dX8_remake_58 : decode cX8_remake 58 = .ok (.ireturn, 1) := dk_172 (dk_at dksX8_remake_2 11 rfl rfl)
abbrev cX8_countOf : ByteArray := prog_18_method_16_code
def yX8_countOf : MethodName := ⟨RX8, "countOf", "(I)I"⟩
def dkwX8_countOf_0 : List UInt8 := [42, 180, 0, 9, 27, 184, 0, 68, 4, 96, 46, 172]
abbrev dktX8_countOf_0 : List UInt8 := dkwX8_countOf_0 ++ []
theorem dksX8_countOf_0 : cX8_countOf.data.toList.drop 0 = dktX8_countOf_0 := by decide +kernel
theorem dX8_countOf_0 : decode cX8_countOf 0 = .ok (.aload_n 0, 1) := dk_42 (dk_at dksX8_countOf_0 0 rfl rfl)
theorem dX8_countOf_1 : decode cX8_countOf 1 = .ok (.getfield 9, 3) := dk_180 0 9 (dk_at dksX8_countOf_0 1 rfl rfl)
theorem dX8_countOf_4 : decode cX8_countOf 4 = .ok (.iload_n 1, 1) := dk_27 (dk_at dksX8_countOf_0 4 rfl rfl)
theorem dX8_countOf_5 : decode cX8_countOf 5 = .ok (.invokestatic 68, 3) := dk_184 0 68 (dk_at dksX8_countOf_0 5 rfl rfl)
theorem dX8_countOf_8 : decode cX8_countOf 8 = .ok (.iconst 1, 1) := dk_4 (dk_at dksX8_countOf_0 8 rfl rfl)
theorem dX8_countOf_9 : decode cX8_countOf 9 = .ok (.iadd, 1) := dk_96 (dk_at dksX8_countOf_0 9 rfl rfl)
theorem dX8_countOf_10 : decode cX8_countOf 10 = .ok (.iaload, 1) := dk_46 (dk_at dksX8_countOf_0 10 rfl rfl)
theorem dX8_countOf_11 : decode cX8_countOf 11 = .ok (.ireturn, 1) := dk_172 (dk_at dksX8_countOf_0 11 rfl rfl)
abbrev cX8_takeEntries : ByteArray := prog_18_method_18_code
def yX8_takeEntries : MethodName := ⟨RX8, "takeEntries", "(II)V"⟩
def dkwX8_takeEntries_1 : List UInt8 := [167, 255, 236, 177]
abbrev dktX8_takeEntries_1 : List UInt8 := dkwX8_takeEntries_1 ++ []
def dkwX8_takeEntries_0 : List UInt8 := [3, 62, 29, 28, 162, 0, 21, 42, 180, 0, 23, 29, 42, 27, 29, 182, 0, 71, 79, 132, 3, 1]
abbrev dktX8_takeEntries_0 : List UInt8 := dkwX8_takeEntries_0 ++ dktX8_takeEntries_1
theorem dksX8_takeEntries_0 : cX8_takeEntries.data.toList.drop 0 = dktX8_takeEntries_0 := by decide +kernel
theorem dksX8_takeEntries_1 : cX8_takeEntries.data.toList.drop 22 = dktX8_takeEntries_1 := dk_seg dksX8_takeEntries_0 22 rfl rfl
theorem dX8_takeEntries_0 : decode cX8_takeEntries 0 = .ok (.iconst 0, 1) := dk_3 (dk_at dksX8_takeEntries_0 0 rfl rfl)
theorem dX8_takeEntries_1 : decode cX8_takeEntries 1 = .ok (.istore_n 3, 1) := dk_62 (dk_at dksX8_takeEntries_0 1 rfl rfl)
theorem dX8_takeEntries_2 : decode cX8_takeEntries 2 = .ok (.iload_n 3, 1) := dk_29 (dk_at dksX8_takeEntries_0 2 rfl rfl)
theorem dX8_takeEntries_3 : decode cX8_takeEntries 3 = .ok (.iload_n 2, 1) := dk_28 (dk_at dksX8_takeEntries_0 3 rfl rfl)
theorem dX8_takeEntries_4 : decode cX8_takeEntries 4 = .ok (.if_icmp .ge 21, 3) := dk_162 0 21 (dk_at dksX8_takeEntries_0 4 rfl rfl)
theorem dX8_takeEntries_7 : decode cX8_takeEntries 7 = .ok (.aload_n 0, 1) := dk_42 (dk_at dksX8_takeEntries_0 7 rfl rfl)
theorem dX8_takeEntries_8 : decode cX8_takeEntries 8 = .ok (.getfield 23, 3) := dk_180 0 23 (dk_at dksX8_takeEntries_0 8 rfl rfl)
theorem dX8_takeEntries_11 : decode cX8_takeEntries 11 = .ok (.iload_n 3, 1) := dk_29 (dk_at dksX8_takeEntries_0 11 rfl rfl)
theorem dX8_takeEntries_12 : decode cX8_takeEntries 12 = .ok (.aload_n 0, 1) := dk_42 (dk_at dksX8_takeEntries_0 12 rfl rfl)
theorem dX8_takeEntries_13 : decode cX8_takeEntries 13 = .ok (.iload_n 1, 1) := dk_27 (dk_at dksX8_takeEntries_0 13 rfl rfl)
theorem dX8_takeEntries_14 : decode cX8_takeEntries 14 = .ok (.iload_n 3, 1) := dk_29 (dk_at dksX8_takeEntries_0 14 rfl rfl)
theorem dX8_takeEntries_15 : decode cX8_takeEntries 15 = .ok (.invokevirtual 71, 3) := dk_182 0 71 (dk_at dksX8_takeEntries_0 15 rfl rfl)
theorem dX8_takeEntries_18 : decode cX8_takeEntries 18 = .ok (.iastore, 1) := dk_79 (dk_at dksX8_takeEntries_0 18 rfl rfl)
theorem dX8_takeEntries_19 : decode cX8_takeEntries 19 = .ok (.iinc 3 1, 3) := dk_132 3 1 (dk_at dksX8_takeEntries_0 19 rfl rfl)
theorem dX8_takeEntries_22 : decode cX8_takeEntries 22 = .ok (.goto (-20), 3) := dk_167 255 236 (dk_at dksX8_takeEntries_1 0 rfl rfl)
theorem dX8_takeEntries_25 : decode cX8_takeEntries 25 = .ok (.return_, 1) := dk_177 (dk_at dksX8_takeEntries_1 3 rfl rfl)
abbrev cX8_entry : ByteArray := prog_18_method_17_code
def yX8_entry : MethodName := ⟨RX8, "entry", "(II)I"⟩
def dkwX8_entry_0 : List UInt8 := [42, 180, 0, 9, 27, 184, 0, 68, 5, 96, 28, 96, 46, 172]
abbrev dktX8_entry_0 : List UInt8 := dkwX8_entry_0 ++ []
theorem dksX8_entry_0 : cX8_entry.data.toList.drop 0 = dktX8_entry_0 := by decide +kernel
theorem dX8_entry_0 : decode cX8_entry 0 = .ok (.aload_n 0, 1) := dk_42 (dk_at dksX8_entry_0 0 rfl rfl)
theorem dX8_entry_1 : decode cX8_entry 1 = .ok (.getfield 9, 3) := dk_180 0 9 (dk_at dksX8_entry_0 1 rfl rfl)
theorem dX8_entry_4 : decode cX8_entry 4 = .ok (.iload_n 1, 1) := dk_27 (dk_at dksX8_entry_0 4 rfl rfl)
theorem dX8_entry_5 : decode cX8_entry 5 = .ok (.invokestatic 68, 3) := dk_184 0 68 (dk_at dksX8_entry_0 5 rfl rfl)
theorem dX8_entry_8 : decode cX8_entry 8 = .ok (.iconst 2, 1) := dk_5 (dk_at dksX8_entry_0 8 rfl rfl)
theorem dX8_entry_9 : decode cX8_entry 9 = .ok (.iadd, 1) := dk_96 (dk_at dksX8_entry_0 9 rfl rfl)
theorem dX8_entry_10 : decode cX8_entry 10 = .ok (.iload_n 2, 1) := dk_28 (dk_at dksX8_entry_0 10 rfl rfl)
theorem dX8_entry_11 : decode cX8_entry 11 = .ok (.iadd, 1) := dk_96 (dk_at dksX8_entry_0 11 rfl rfl)
theorem dX8_entry_12 : decode cX8_entry 12 = .ok (.iaload, 1) := dk_46 (dk_at dksX8_entry_0 12 rfl rfl)
theorem dX8_entry_13 : decode cX8_entry 13 = .ok (.ireturn, 1) := dk_172 (dk_at dksX8_entry_0 13 rfl rfl)
abbrev cX8_executeAppend : ByteArray := prog_18_method_70_code
def yX8_executeAppend : MethodName := ⟨RX8, "executeAppend", "(II)Z"⟩
def dkwX8_executeAppend_1 : List UInt8 := [154, 0, 5, 3, 172, 42, 27, 28, 182, 1, 42, 158, 0, 7, 4, 167, 0, 4, 3, 172]
abbrev dktX8_executeAppend_1 : List UInt8 := dkwX8_executeAppend_1 ++ []
def dkwX8_executeAppend_0 : List UInt8 := [42, 27, 182, 1, 32, 153, 0, 20, 42, 27, 182, 0, 121, 16, 64, 159, 0, 10, 42, 182, 1, 35]
abbrev dktX8_executeAppend_0 : List UInt8 := dkwX8_executeAppend_0 ++ dktX8_executeAppend_1
theorem dksX8_executeAppend_0 : cX8_executeAppend.data.toList.drop 0 = dktX8_executeAppend_0 := by decide +kernel
theorem dksX8_executeAppend_1 : cX8_executeAppend.data.toList.drop 22 = dktX8_executeAppend_1 := dk_seg dksX8_executeAppend_0 22 rfl rfl
theorem dX8_executeAppend_0 : decode cX8_executeAppend 0 = .ok (.aload_n 0, 1) := dk_42 (dk_at dksX8_executeAppend_0 0 rfl rfl)
theorem dX8_executeAppend_1 : decode cX8_executeAppend 1 = .ok (.iload_n 1, 1) := dk_27 (dk_at dksX8_executeAppend_0 1 rfl rfl)
theorem dX8_executeAppend_2 : decode cX8_executeAppend 2 = .ok (.invokevirtual 288, 3) := dk_182 1 32 (dk_at dksX8_executeAppend_0 2 rfl rfl)
theorem dX8_executeAppend_5 : decode cX8_executeAppend 5 = .ok (.ifCond .eq 20, 3) := dk_153 0 20 (dk_at dksX8_executeAppend_0 5 rfl rfl)
theorem dX8_executeAppend_8 : decode cX8_executeAppend 8 = .ok (.aload_n 0, 1) := dk_42 (dk_at dksX8_executeAppend_0 8 rfl rfl)
theorem dX8_executeAppend_9 : decode cX8_executeAppend 9 = .ok (.iload_n 1, 1) := dk_27 (dk_at dksX8_executeAppend_0 9 rfl rfl)
theorem dX8_executeAppend_10 : decode cX8_executeAppend 10 = .ok (.invokevirtual 121, 3) := dk_182 0 121 (dk_at dksX8_executeAppend_0 10 rfl rfl)
theorem dX8_executeAppend_13 : decode cX8_executeAppend 13 = .ok (.bipush 64, 2) := dk_16 64 (dk_at dksX8_executeAppend_0 13 rfl rfl)
theorem dX8_executeAppend_15 : decode cX8_executeAppend 15 = .ok (.if_icmp .eq 10, 3) := dk_159 0 10 (dk_at dksX8_executeAppend_0 15 rfl rfl)
theorem dX8_executeAppend_18 : decode cX8_executeAppend 18 = .ok (.aload_n 0, 1) := dk_42 (dk_at dksX8_executeAppend_0 18 rfl rfl)
theorem dX8_executeAppend_19 : decode cX8_executeAppend 19 = .ok (.invokevirtual 291, 3) := dk_182 1 35 (dk_at dksX8_executeAppend_0 19 rfl rfl)
theorem dX8_executeAppend_22 : decode cX8_executeAppend 22 = .ok (.ifCond .ne 5, 3) := dk_154 0 5 (dk_at dksX8_executeAppend_1 0 rfl rfl)
theorem dX8_executeAppend_25 : decode cX8_executeAppend 25 = .ok (.iconst 0, 1) := dk_3 (dk_at dksX8_executeAppend_1 3 rfl rfl)
theorem dX8_executeAppend_26 : decode cX8_executeAppend 26 = .ok (.ireturn, 1) := dk_172 (dk_at dksX8_executeAppend_1 4 rfl rfl)
theorem dX8_executeAppend_27 : decode cX8_executeAppend 27 = .ok (.aload_n 0, 1) := dk_42 (dk_at dksX8_executeAppend_1 5 rfl rfl)
theorem dX8_executeAppend_28 : decode cX8_executeAppend 28 = .ok (.iload_n 1, 1) := dk_27 (dk_at dksX8_executeAppend_1 6 rfl rfl)
theorem dX8_executeAppend_29 : decode cX8_executeAppend 29 = .ok (.iload_n 2, 1) := dk_28 (dk_at dksX8_executeAppend_1 7 rfl rfl)
theorem dX8_executeAppend_30 : decode cX8_executeAppend 30 = .ok (.invokevirtual 298, 3) := dk_182 1 42 (dk_at dksX8_executeAppend_1 8 rfl rfl)
theorem dX8_executeAppend_33 : decode cX8_executeAppend 33 = .ok (.ifCond .le 7, 3) := dk_158 0 7 (dk_at dksX8_executeAppend_1 11 rfl rfl)
theorem dX8_executeAppend_36 : decode cX8_executeAppend 36 = .ok (.iconst 1, 1) := dk_4 (dk_at dksX8_executeAppend_1 14 rfl rfl)
theorem dX8_executeAppend_37 : decode cX8_executeAppend 37 = .ok (.goto 4, 3) := dk_167 0 4 (dk_at dksX8_executeAppend_1 15 rfl rfl)
theorem dX8_executeAppend_40 : decode cX8_executeAppend 40 = .ok (.iconst 0, 1) := dk_3 (dk_at dksX8_executeAppend_1 18 rfl rfl)
theorem dX8_executeAppend_41 : decode cX8_executeAppend 41 = .ok (.ireturn, 1) := dk_172 (dk_at dksX8_executeAppend_1 19 rfl rfl)
abbrev cX8_makeAppend : ByteArray := prog_18_method_36_code
def yX8_makeAppend : MethodName := ⟨RX8, "makeAppend", "(II)I"⟩
def dkwX8_makeAppend_2 : List UInt8 := [28, 79, 21, 6, 172]
abbrev dktX8_makeAppend_2 : List UInt8 := dkwX8_makeAppend_2 ++ []
def dkwX8_makeAppend_1 : List UInt8 := [21, 4, 4, 96, 21, 5, 29, 182, 0, 142, 54, 6, 42, 180, 0, 9, 21, 6, 184, 0, 115, 21, 4, 96]
abbrev dktX8_makeAppend_1 : List UInt8 := dkwX8_makeAppend_1 ++ dktX8_makeAppend_2
def dkwX8_makeAppend_0 : List UInt8 := [42, 180, 0, 9, 4, 46, 62, 42, 27, 182, 0, 121, 54, 4, 42, 27, 28, 182, 0, 151, 54, 5, 42, 27]
abbrev dktX8_makeAppend_0 : List UInt8 := dkwX8_makeAppend_0 ++ dktX8_makeAppend_1
theorem dksX8_makeAppend_0 : cX8_makeAppend.data.toList.drop 0 = dktX8_makeAppend_0 := by decide +kernel
theorem dksX8_makeAppend_1 : cX8_makeAppend.data.toList.drop 24 = dktX8_makeAppend_1 := dk_seg dksX8_makeAppend_0 24 rfl rfl
theorem dksX8_makeAppend_2 : cX8_makeAppend.data.toList.drop 48 = dktX8_makeAppend_2 := dk_seg dksX8_makeAppend_1 24 rfl rfl
theorem dX8_makeAppend_0 : decode cX8_makeAppend 0 = .ok (.aload_n 0, 1) := dk_42 (dk_at dksX8_makeAppend_0 0 rfl rfl)
theorem dX8_makeAppend_1 : decode cX8_makeAppend 1 = .ok (.getfield 9, 3) := dk_180 0 9 (dk_at dksX8_makeAppend_0 1 rfl rfl)
theorem dX8_makeAppend_4 : decode cX8_makeAppend 4 = .ok (.iconst 1, 1) := dk_4 (dk_at dksX8_makeAppend_0 4 rfl rfl)
theorem dX8_makeAppend_5 : decode cX8_makeAppend 5 = .ok (.iaload, 1) := dk_46 (dk_at dksX8_makeAppend_0 5 rfl rfl)
theorem dX8_makeAppend_6 : decode cX8_makeAppend 6 = .ok (.istore_n 3, 1) := dk_62 (dk_at dksX8_makeAppend_0 6 rfl rfl)
theorem dX8_makeAppend_7 : decode cX8_makeAppend 7 = .ok (.aload_n 0, 1) := dk_42 (dk_at dksX8_makeAppend_0 7 rfl rfl)
theorem dX8_makeAppend_8 : decode cX8_makeAppend 8 = .ok (.iload_n 1, 1) := dk_27 (dk_at dksX8_makeAppend_0 8 rfl rfl)
theorem dX8_makeAppend_9 : decode cX8_makeAppend 9 = .ok (.invokevirtual 121, 3) := dk_182 0 121 (dk_at dksX8_makeAppend_0 9 rfl rfl)
theorem dX8_makeAppend_12 : decode cX8_makeAppend 12 = .ok (.istore 4, 2) := dk_54 4 (dk_at dksX8_makeAppend_0 12 rfl rfl)
theorem dX8_makeAppend_14 : decode cX8_makeAppend 14 = .ok (.aload_n 0, 1) := dk_42 (dk_at dksX8_makeAppend_0 14 rfl rfl)
theorem dX8_makeAppend_15 : decode cX8_makeAppend 15 = .ok (.iload_n 1, 1) := dk_27 (dk_at dksX8_makeAppend_0 15 rfl rfl)
theorem dX8_makeAppend_16 : decode cX8_makeAppend 16 = .ok (.iload_n 2, 1) := dk_28 (dk_at dksX8_makeAppend_0 16 rfl rfl)
theorem dX8_makeAppend_17 : decode cX8_makeAppend 17 = .ok (.invokevirtual 151, 3) := dk_182 0 151 (dk_at dksX8_makeAppend_0 17 rfl rfl)
theorem dX8_makeAppend_20 : decode cX8_makeAppend 20 = .ok (.istore 5, 2) := dk_54 5 (dk_at dksX8_makeAppend_0 20 rfl rfl)
theorem dX8_makeAppend_22 : decode cX8_makeAppend 22 = .ok (.aload_n 0, 1) := dk_42 (dk_at dksX8_makeAppend_0 22 rfl rfl)
theorem dX8_makeAppend_23 : decode cX8_makeAppend 23 = .ok (.iload_n 1, 1) := dk_27 (dk_at dksX8_makeAppend_0 23 rfl rfl)
theorem dX8_makeAppend_24 : decode cX8_makeAppend 24 = .ok (.iload 4, 2) := dk_21 4 (dk_at dksX8_makeAppend_1 0 rfl rfl)
theorem dX8_makeAppend_26 : decode cX8_makeAppend 26 = .ok (.iconst 1, 1) := dk_4 (dk_at dksX8_makeAppend_1 2 rfl rfl)
theorem dX8_makeAppend_27 : decode cX8_makeAppend 27 = .ok (.iadd, 1) := dk_96 (dk_at dksX8_makeAppend_1 3 rfl rfl)
theorem dX8_makeAppend_28 : decode cX8_makeAppend 28 = .ok (.iload 5, 2) := dk_21 5 (dk_at dksX8_makeAppend_1 4 rfl rfl)
theorem dX8_makeAppend_30 : decode cX8_makeAppend 30 = .ok (.iload_n 3, 1) := dk_29 (dk_at dksX8_makeAppend_1 6 rfl rfl)
theorem dX8_makeAppend_31 : decode cX8_makeAppend 31 = .ok (.invokevirtual 142, 3) := dk_182 0 142 (dk_at dksX8_makeAppend_1 7 rfl rfl)
theorem dX8_makeAppend_34 : decode cX8_makeAppend 34 = .ok (.istore 6, 2) := dk_54 6 (dk_at dksX8_makeAppend_1 10 rfl rfl)
theorem dX8_makeAppend_36 : decode cX8_makeAppend 36 = .ok (.aload_n 0, 1) := dk_42 (dk_at dksX8_makeAppend_1 12 rfl rfl)
theorem dX8_makeAppend_37 : decode cX8_makeAppend 37 = .ok (.getfield 9, 3) := dk_180 0 9 (dk_at dksX8_makeAppend_1 13 rfl rfl)
theorem dX8_makeAppend_40 : decode cX8_makeAppend 40 = .ok (.iload 6, 2) := dk_21 6 (dk_at dksX8_makeAppend_1 16 rfl rfl)
theorem dX8_makeAppend_42 : decode cX8_makeAppend 42 = .ok (.invokestatic 115, 3) := dk_184 0 115 (dk_at dksX8_makeAppend_1 18 rfl rfl)
theorem dX8_makeAppend_45 : decode cX8_makeAppend 45 = .ok (.iload 4, 2) := dk_21 4 (dk_at dksX8_makeAppend_1 21 rfl rfl)
theorem dX8_makeAppend_47 : decode cX8_makeAppend 47 = .ok (.iadd, 1) := dk_96 (dk_at dksX8_makeAppend_1 23 rfl rfl)
theorem dX8_makeAppend_48 : decode cX8_makeAppend 48 = .ok (.iload_n 2, 1) := dk_28 (dk_at dksX8_makeAppend_2 0 rfl rfl)
theorem dX8_makeAppend_49 : decode cX8_makeAppend 49 = .ok (.iastore, 1) := dk_79 (dk_at dksX8_makeAppend_2 1 rfl rfl)
theorem dX8_makeAppend_50 : decode cX8_makeAppend 50 = .ok (.iload 6, 2) := dk_21 6 (dk_at dksX8_makeAppend_2 2 rfl rfl)
theorem dX8_makeAppend_52 : decode cX8_makeAppend 52 = .ok (.ireturn, 1) := dk_172 (dk_at dksX8_makeAppend_2 4 rfl rfl)
abbrev cX8_grownRoot : ByteArray := prog_18_method_35_code
def yX8_grownRoot : MethodName := ⟨RX8, "grownRoot", "(II)I"⟩
def dkwX8_grownRoot_3 : List UInt8 := [182, 0, 145, 79, 42, 180, 0, 23, 4, 21, 5, 79, 42, 3, 5, 182, 0, 86, 172]
abbrev dktX8_grownRoot_3 : List UInt8 := dkwX8_grownRoot_3 ++ []
def dkwX8_grownRoot_2 : List UInt8 := [182, 0, 105, 172, 42, 2, 21, 4, 3, 28, 182, 0, 105, 54, 5, 42, 180, 0, 23, 3, 42, 27]
abbrev dktX8_grownRoot_2 : List UInt8 := dkwX8_grownRoot_2 ++ dktX8_grownRoot_3
def dkwX8_grownRoot_1 : List UInt8 := [182, 0, 105, 172, 29, 21, 4, 184, 0, 64, 162, 0, 17, 42, 42, 27, 182, 0, 145, 21, 4, 29, 28]
abbrev dktX8_grownRoot_1 : List UInt8 := dkwX8_grownRoot_1 ++ dktX8_grownRoot_2
def dkwX8_grownRoot_0 : List UInt8 := [42, 27, 182, 0, 121, 62, 42, 27, 182, 0, 148, 54, 4, 29, 154, 0, 12, 42, 2, 4, 3, 28]
abbrev dktX8_grownRoot_0 : List UInt8 := dkwX8_grownRoot_0 ++ dktX8_grownRoot_1
theorem dksX8_grownRoot_0 : cX8_grownRoot.data.toList.drop 0 = dktX8_grownRoot_0 := by decide +kernel
theorem dksX8_grownRoot_1 : cX8_grownRoot.data.toList.drop 22 = dktX8_grownRoot_1 := dk_seg dksX8_grownRoot_0 22 rfl rfl
theorem dksX8_grownRoot_2 : cX8_grownRoot.data.toList.drop 45 = dktX8_grownRoot_2 := dk_seg dksX8_grownRoot_1 23 rfl rfl
theorem dksX8_grownRoot_3 : cX8_grownRoot.data.toList.drop 67 = dktX8_grownRoot_3 := dk_seg dksX8_grownRoot_2 22 rfl rfl
theorem dX8_grownRoot_0 : decode cX8_grownRoot 0 = .ok (.aload_n 0, 1) := dk_42 (dk_at dksX8_grownRoot_0 0 rfl rfl)
theorem dX8_grownRoot_1 : decode cX8_grownRoot 1 = .ok (.iload_n 1, 1) := dk_27 (dk_at dksX8_grownRoot_0 1 rfl rfl)
theorem dX8_grownRoot_2 : decode cX8_grownRoot 2 = .ok (.invokevirtual 121, 3) := dk_182 0 121 (dk_at dksX8_grownRoot_0 2 rfl rfl)
theorem dX8_grownRoot_5 : decode cX8_grownRoot 5 = .ok (.istore_n 3, 1) := dk_62 (dk_at dksX8_grownRoot_0 5 rfl rfl)
theorem dX8_grownRoot_6 : decode cX8_grownRoot 6 = .ok (.aload_n 0, 1) := dk_42 (dk_at dksX8_grownRoot_0 6 rfl rfl)
theorem dX8_grownRoot_7 : decode cX8_grownRoot 7 = .ok (.iload_n 1, 1) := dk_27 (dk_at dksX8_grownRoot_0 7 rfl rfl)
theorem dX8_grownRoot_8 : decode cX8_grownRoot 8 = .ok (.invokevirtual 148, 3) := dk_182 0 148 (dk_at dksX8_grownRoot_0 8 rfl rfl)
theorem dX8_grownRoot_11 : decode cX8_grownRoot 11 = .ok (.istore 4, 2) := dk_54 4 (dk_at dksX8_grownRoot_0 11 rfl rfl)
theorem dX8_grownRoot_13 : decode cX8_grownRoot 13 = .ok (.iload_n 3, 1) := dk_29 (dk_at dksX8_grownRoot_0 13 rfl rfl)
theorem dX8_grownRoot_14 : decode cX8_grownRoot 14 = .ok (.ifCond .ne 12, 3) := dk_154 0 12 (dk_at dksX8_grownRoot_0 14 rfl rfl)
theorem dX8_grownRoot_17 : decode cX8_grownRoot 17 = .ok (.aload_n 0, 1) := dk_42 (dk_at dksX8_grownRoot_0 17 rfl rfl)
theorem dX8_grownRoot_18 : decode cX8_grownRoot 18 = .ok (.iconst (-1), 1) := dk_2 (dk_at dksX8_grownRoot_0 18 rfl rfl)
theorem dX8_grownRoot_19 : decode cX8_grownRoot 19 = .ok (.iconst 1, 1) := dk_4 (dk_at dksX8_grownRoot_0 19 rfl rfl)
theorem dX8_grownRoot_20 : decode cX8_grownRoot 20 = .ok (.iconst 0, 1) := dk_3 (dk_at dksX8_grownRoot_0 20 rfl rfl)
theorem dX8_grownRoot_21 : decode cX8_grownRoot 21 = .ok (.iload_n 2, 1) := dk_28 (dk_at dksX8_grownRoot_0 21 rfl rfl)
theorem dX8_grownRoot_22 : decode cX8_grownRoot 22 = .ok (.invokevirtual 105, 3) := dk_182 0 105 (dk_at dksX8_grownRoot_1 0 rfl rfl)
theorem dX8_grownRoot_25 : decode cX8_grownRoot 25 = .ok (.ireturn, 1) := dk_172 (dk_at dksX8_grownRoot_1 3 rfl rfl)
theorem dX8_grownRoot_26 : decode cX8_grownRoot 26 = .ok (.iload_n 3, 1) := dk_29 (dk_at dksX8_grownRoot_1 4 rfl rfl)
theorem dX8_grownRoot_27 : decode cX8_grownRoot 27 = .ok (.iload 4, 2) := dk_21 4 (dk_at dksX8_grownRoot_1 5 rfl rfl)
theorem dX8_grownRoot_29 : decode cX8_grownRoot 29 = .ok (.invokestatic 64, 3) := dk_184 0 64 (dk_at dksX8_grownRoot_1 7 rfl rfl)
theorem dX8_grownRoot_32 : decode cX8_grownRoot 32 = .ok (.if_icmp .ge 17, 3) := dk_162 0 17 (dk_at dksX8_grownRoot_1 10 rfl rfl)
theorem dX8_grownRoot_35 : decode cX8_grownRoot 35 = .ok (.aload_n 0, 1) := dk_42 (dk_at dksX8_grownRoot_1 13 rfl rfl)
theorem dX8_grownRoot_36 : decode cX8_grownRoot 36 = .ok (.aload_n 0, 1) := dk_42 (dk_at dksX8_grownRoot_1 14 rfl rfl)
theorem dX8_grownRoot_37 : decode cX8_grownRoot 37 = .ok (.iload_n 1, 1) := dk_27 (dk_at dksX8_grownRoot_1 15 rfl rfl)
theorem dX8_grownRoot_38 : decode cX8_grownRoot 38 = .ok (.invokevirtual 145, 3) := dk_182 0 145 (dk_at dksX8_grownRoot_1 16 rfl rfl)
theorem dX8_grownRoot_41 : decode cX8_grownRoot 41 = .ok (.iload 4, 2) := dk_21 4 (dk_at dksX8_grownRoot_1 19 rfl rfl)
theorem dX8_grownRoot_43 : decode cX8_grownRoot 43 = .ok (.iload_n 3, 1) := dk_29 (dk_at dksX8_grownRoot_1 21 rfl rfl)
theorem dX8_grownRoot_44 : decode cX8_grownRoot 44 = .ok (.iload_n 2, 1) := dk_28 (dk_at dksX8_grownRoot_1 22 rfl rfl)
theorem dX8_grownRoot_45 : decode cX8_grownRoot 45 = .ok (.invokevirtual 105, 3) := dk_182 0 105 (dk_at dksX8_grownRoot_2 0 rfl rfl)
theorem dX8_grownRoot_48 : decode cX8_grownRoot 48 = .ok (.ireturn, 1) := dk_172 (dk_at dksX8_grownRoot_2 3 rfl rfl)
theorem dX8_grownRoot_49 : decode cX8_grownRoot 49 = .ok (.aload_n 0, 1) := dk_42 (dk_at dksX8_grownRoot_2 4 rfl rfl)
theorem dX8_grownRoot_50 : decode cX8_grownRoot 50 = .ok (.iconst (-1), 1) := dk_2 (dk_at dksX8_grownRoot_2 5 rfl rfl)
theorem dX8_grownRoot_51 : decode cX8_grownRoot 51 = .ok (.iload 4, 2) := dk_21 4 (dk_at dksX8_grownRoot_2 6 rfl rfl)
theorem dX8_grownRoot_53 : decode cX8_grownRoot 53 = .ok (.iconst 0, 1) := dk_3 (dk_at dksX8_grownRoot_2 8 rfl rfl)
theorem dX8_grownRoot_54 : decode cX8_grownRoot 54 = .ok (.iload_n 2, 1) := dk_28 (dk_at dksX8_grownRoot_2 9 rfl rfl)
theorem dX8_grownRoot_55 : decode cX8_grownRoot 55 = .ok (.invokevirtual 105, 3) := dk_182 0 105 (dk_at dksX8_grownRoot_2 10 rfl rfl)
theorem dX8_grownRoot_58 : decode cX8_grownRoot 58 = .ok (.istore 5, 2) := dk_54 5 (dk_at dksX8_grownRoot_2 13 rfl rfl)
theorem dX8_grownRoot_60 : decode cX8_grownRoot 60 = .ok (.aload_n 0, 1) := dk_42 (dk_at dksX8_grownRoot_2 15 rfl rfl)
theorem dX8_grownRoot_61 : decode cX8_grownRoot 61 = .ok (.getfield 23, 3) := dk_180 0 23 (dk_at dksX8_grownRoot_2 16 rfl rfl)
theorem dX8_grownRoot_64 : decode cX8_grownRoot 64 = .ok (.iconst 0, 1) := dk_3 (dk_at dksX8_grownRoot_2 19 rfl rfl)
theorem dX8_grownRoot_65 : decode cX8_grownRoot 65 = .ok (.aload_n 0, 1) := dk_42 (dk_at dksX8_grownRoot_2 20 rfl rfl)
theorem dX8_grownRoot_66 : decode cX8_grownRoot 66 = .ok (.iload_n 1, 1) := dk_27 (dk_at dksX8_grownRoot_2 21 rfl rfl)
theorem dX8_grownRoot_67 : decode cX8_grownRoot 67 = .ok (.invokevirtual 145, 3) := dk_182 0 145 (dk_at dksX8_grownRoot_3 0 rfl rfl)
theorem dX8_grownRoot_70 : decode cX8_grownRoot 70 = .ok (.iastore, 1) := dk_79 (dk_at dksX8_grownRoot_3 3 rfl rfl)
theorem dX8_grownRoot_71 : decode cX8_grownRoot 71 = .ok (.aload_n 0, 1) := dk_42 (dk_at dksX8_grownRoot_3 4 rfl rfl)
theorem dX8_grownRoot_72 : decode cX8_grownRoot 72 = .ok (.getfield 23, 3) := dk_180 0 23 (dk_at dksX8_grownRoot_3 5 rfl rfl)
theorem dX8_grownRoot_75 : decode cX8_grownRoot 75 = .ok (.iconst 1, 1) := dk_4 (dk_at dksX8_grownRoot_3 8 rfl rfl)
theorem dX8_grownRoot_76 : decode cX8_grownRoot 76 = .ok (.iload 5, 2) := dk_21 5 (dk_at dksX8_grownRoot_3 9 rfl rfl)
theorem dX8_grownRoot_78 : decode cX8_grownRoot 78 = .ok (.iastore, 1) := dk_79 (dk_at dksX8_grownRoot_3 11 rfl rfl)
theorem dX8_grownRoot_79 : decode cX8_grownRoot 79 = .ok (.aload_n 0, 1) := dk_42 (dk_at dksX8_grownRoot_3 12 rfl rfl)
theorem dX8_grownRoot_80 : decode cX8_grownRoot 80 = .ok (.iconst 0, 1) := dk_3 (dk_at dksX8_grownRoot_3 13 rfl rfl)
theorem dX8_grownRoot_81 : decode cX8_grownRoot 81 = .ok (.iconst 2, 1) := dk_5 (dk_at dksX8_grownRoot_3 14 rfl rfl)
theorem dX8_grownRoot_82 : decode cX8_grownRoot 82 = .ok (.invokevirtual 86, 3) := dk_182 0 86 (dk_at dksX8_grownRoot_3 15 rfl rfl)
theorem dX8_grownRoot_85 : decode cX8_grownRoot 85 = .ok (.ireturn, 1) := dk_172 (dk_at dksX8_grownRoot_3 18 rfl rfl)
abbrev cX8_extended : ByteArray := prog_18_method_23_code
def yX8_extended : MethodName := ⟨RX8, "extended", "(IIII)I"⟩
def dkwX8_extended_4 : List UInt8 := [172]
abbrev dktX8_extended_4 : List UInt8 := dkwX8_extended_4 ++ []
def dkwX8_extended_3 : List UInt8 := [4, 100, 29, 21, 5, 112, 21, 4, 182, 0, 105, 54, 8, 42, 27, 21, 6, 21, 8, 4, 3, 182, 0, 97]
abbrev dktX8_extended_3 : List UInt8 := dkwX8_extended_3 ++ dktX8_extended_4
def dkwX8_extended_2 : List UInt8 := [167, 0, 4, 3, 54, 7, 42, 21, 7, 153, 0, 13, 42, 27, 21, 6, 182, 0, 71, 167, 0, 4, 2, 28]
abbrev dktX8_extended_2 : List UInt8 := dkwX8_extended_2 ++ dktX8_extended_3
def dkwX8_extended_1 : List UInt8 := [29, 21, 5, 108, 54, 6, 27, 2, 159, 0, 17, 21, 6, 42, 27, 182, 0, 79, 162, 0, 7, 4]
abbrev dktX8_extended_1 : List UInt8 := dkwX8_extended_1 ++ dktX8_extended_2
def dkwX8_extended_0 : List UInt8 := [28, 4, 160, 0, 14, 42, 27, 29, 21, 4, 4, 4, 182, 0, 97, 172, 28, 4, 100, 184, 0, 64, 54, 5]
abbrev dktX8_extended_0 : List UInt8 := dkwX8_extended_0 ++ dktX8_extended_1
theorem dksX8_extended_0 : cX8_extended.data.toList.drop 0 = dktX8_extended_0 := by decide +kernel
theorem dksX8_extended_1 : cX8_extended.data.toList.drop 24 = dktX8_extended_1 := dk_seg dksX8_extended_0 24 rfl rfl
theorem dksX8_extended_2 : cX8_extended.data.toList.drop 46 = dktX8_extended_2 := dk_seg dksX8_extended_1 22 rfl rfl
theorem dksX8_extended_3 : cX8_extended.data.toList.drop 70 = dktX8_extended_3 := dk_seg dksX8_extended_2 24 rfl rfl
theorem dksX8_extended_4 : cX8_extended.data.toList.drop 94 = dktX8_extended_4 := dk_seg dksX8_extended_3 24 rfl rfl
theorem dX8_extended_0 : decode cX8_extended 0 = .ok (.iload_n 2, 1) := dk_28 (dk_at dksX8_extended_0 0 rfl rfl)
theorem dX8_extended_1 : decode cX8_extended 1 = .ok (.iconst 1, 1) := dk_4 (dk_at dksX8_extended_0 1 rfl rfl)
theorem dX8_extended_2 : decode cX8_extended 2 = .ok (.if_icmp .ne 14, 3) := dk_160 0 14 (dk_at dksX8_extended_0 2 rfl rfl)
theorem dX8_extended_5 : decode cX8_extended 5 = .ok (.aload_n 0, 1) := dk_42 (dk_at dksX8_extended_0 5 rfl rfl)
theorem dX8_extended_6 : decode cX8_extended 6 = .ok (.iload_n 1, 1) := dk_27 (dk_at dksX8_extended_0 6 rfl rfl)
theorem dX8_extended_7 : decode cX8_extended 7 = .ok (.iload_n 3, 1) := dk_29 (dk_at dksX8_extended_0 7 rfl rfl)
theorem dX8_extended_8 : decode cX8_extended 8 = .ok (.iload 4, 2) := dk_21 4 (dk_at dksX8_extended_0 8 rfl rfl)
theorem dX8_extended_10 : decode cX8_extended 10 = .ok (.iconst 1, 1) := dk_4 (dk_at dksX8_extended_0 10 rfl rfl)
theorem dX8_extended_11 : decode cX8_extended 11 = .ok (.iconst 1, 1) := dk_4 (dk_at dksX8_extended_0 11 rfl rfl)
theorem dX8_extended_12 : decode cX8_extended 12 = .ok (.invokevirtual 97, 3) := dk_182 0 97 (dk_at dksX8_extended_0 12 rfl rfl)
theorem dX8_extended_15 : decode cX8_extended 15 = .ok (.ireturn, 1) := dk_172 (dk_at dksX8_extended_0 15 rfl rfl)
theorem dX8_extended_16 : decode cX8_extended 16 = .ok (.iload_n 2, 1) := dk_28 (dk_at dksX8_extended_0 16 rfl rfl)
theorem dX8_extended_17 : decode cX8_extended 17 = .ok (.iconst 1, 1) := dk_4 (dk_at dksX8_extended_0 17 rfl rfl)
theorem dX8_extended_18 : decode cX8_extended 18 = .ok (.isub, 1) := dk_100 (dk_at dksX8_extended_0 18 rfl rfl)
theorem dX8_extended_19 : decode cX8_extended 19 = .ok (.invokestatic 64, 3) := dk_184 0 64 (dk_at dksX8_extended_0 19 rfl rfl)
theorem dX8_extended_22 : decode cX8_extended 22 = .ok (.istore 5, 2) := dk_54 5 (dk_at dksX8_extended_0 22 rfl rfl)
theorem dX8_extended_24 : decode cX8_extended 24 = .ok (.iload_n 3, 1) := dk_29 (dk_at dksX8_extended_1 0 rfl rfl)
theorem dX8_extended_25 : decode cX8_extended 25 = .ok (.iload 5, 2) := dk_21 5 (dk_at dksX8_extended_1 1 rfl rfl)
theorem dX8_extended_27 : decode cX8_extended 27 = .ok (.idiv, 1) := dk_108 (dk_at dksX8_extended_1 3 rfl rfl)
theorem dX8_extended_28 : decode cX8_extended 28 = .ok (.istore 6, 2) := dk_54 6 (dk_at dksX8_extended_1 4 rfl rfl)
theorem dX8_extended_30 : decode cX8_extended 30 = .ok (.iload_n 1, 1) := dk_27 (dk_at dksX8_extended_1 6 rfl rfl)
theorem dX8_extended_31 : decode cX8_extended 31 = .ok (.iconst (-1), 1) := dk_2 (dk_at dksX8_extended_1 7 rfl rfl)
theorem dX8_extended_32 : decode cX8_extended 32 = .ok (.if_icmp .eq 17, 3) := dk_159 0 17 (dk_at dksX8_extended_1 8 rfl rfl)
theorem dX8_extended_35 : decode cX8_extended 35 = .ok (.iload 6, 2) := dk_21 6 (dk_at dksX8_extended_1 11 rfl rfl)
theorem dX8_extended_37 : decode cX8_extended 37 = .ok (.aload_n 0, 1) := dk_42 (dk_at dksX8_extended_1 13 rfl rfl)
theorem dX8_extended_38 : decode cX8_extended 38 = .ok (.iload_n 1, 1) := dk_27 (dk_at dksX8_extended_1 14 rfl rfl)
theorem dX8_extended_39 : decode cX8_extended 39 = .ok (.invokevirtual 79, 3) := dk_182 0 79 (dk_at dksX8_extended_1 15 rfl rfl)
theorem dX8_extended_42 : decode cX8_extended 42 = .ok (.if_icmp .ge 7, 3) := dk_162 0 7 (dk_at dksX8_extended_1 18 rfl rfl)
theorem dX8_extended_45 : decode cX8_extended 45 = .ok (.iconst 1, 1) := dk_4 (dk_at dksX8_extended_1 21 rfl rfl)
theorem dX8_extended_46 : decode cX8_extended 46 = .ok (.goto 4, 3) := dk_167 0 4 (dk_at dksX8_extended_2 0 rfl rfl)
theorem dX8_extended_49 : decode cX8_extended 49 = .ok (.iconst 0, 1) := dk_3 (dk_at dksX8_extended_2 3 rfl rfl)
theorem dX8_extended_50 : decode cX8_extended 50 = .ok (.istore 7, 2) := dk_54 7 (dk_at dksX8_extended_2 4 rfl rfl)
theorem dX8_extended_52 : decode cX8_extended 52 = .ok (.aload_n 0, 1) := dk_42 (dk_at dksX8_extended_2 6 rfl rfl)
theorem dX8_extended_53 : decode cX8_extended 53 = .ok (.iload 7, 2) := dk_21 7 (dk_at dksX8_extended_2 7 rfl rfl)
theorem dX8_extended_55 : decode cX8_extended 55 = .ok (.ifCond .eq 13, 3) := dk_153 0 13 (dk_at dksX8_extended_2 9 rfl rfl)
theorem dX8_extended_58 : decode cX8_extended 58 = .ok (.aload_n 0, 1) := dk_42 (dk_at dksX8_extended_2 12 rfl rfl)
theorem dX8_extended_59 : decode cX8_extended 59 = .ok (.iload_n 1, 1) := dk_27 (dk_at dksX8_extended_2 13 rfl rfl)
theorem dX8_extended_60 : decode cX8_extended 60 = .ok (.iload 6, 2) := dk_21 6 (dk_at dksX8_extended_2 14 rfl rfl)
theorem dX8_extended_62 : decode cX8_extended 62 = .ok (.invokevirtual 71, 3) := dk_182 0 71 (dk_at dksX8_extended_2 16 rfl rfl)
theorem dX8_extended_65 : decode cX8_extended 65 = .ok (.goto 4, 3) := dk_167 0 4 (dk_at dksX8_extended_2 19 rfl rfl)
theorem dX8_extended_68 : decode cX8_extended 68 = .ok (.iconst (-1), 1) := dk_2 (dk_at dksX8_extended_2 22 rfl rfl)
theorem dX8_extended_69 : decode cX8_extended 69 = .ok (.iload_n 2, 1) := dk_28 (dk_at dksX8_extended_2 23 rfl rfl)
theorem dX8_extended_70 : decode cX8_extended 70 = .ok (.iconst 1, 1) := dk_4 (dk_at dksX8_extended_3 0 rfl rfl)
theorem dX8_extended_71 : decode cX8_extended 71 = .ok (.isub, 1) := dk_100 (dk_at dksX8_extended_3 1 rfl rfl)
theorem dX8_extended_72 : decode cX8_extended 72 = .ok (.iload_n 3, 1) := dk_29 (dk_at dksX8_extended_3 2 rfl rfl)
theorem dX8_extended_73 : decode cX8_extended 73 = .ok (.iload 5, 2) := dk_21 5 (dk_at dksX8_extended_3 3 rfl rfl)
theorem dX8_extended_75 : decode cX8_extended 75 = .ok (.irem, 1) := dk_112 (dk_at dksX8_extended_3 5 rfl rfl)
theorem dX8_extended_76 : decode cX8_extended 76 = .ok (.iload 4, 2) := dk_21 4 (dk_at dksX8_extended_3 6 rfl rfl)
theorem dX8_extended_78 : decode cX8_extended 78 = .ok (.invokevirtual 105, 3) := dk_182 0 105 (dk_at dksX8_extended_3 8 rfl rfl)
theorem dX8_extended_81 : decode cX8_extended 81 = .ok (.istore 8, 2) := dk_54 8 (dk_at dksX8_extended_3 11 rfl rfl)
theorem dX8_extended_83 : decode cX8_extended 83 = .ok (.aload_n 0, 1) := dk_42 (dk_at dksX8_extended_3 13 rfl rfl)
theorem dX8_extended_84 : decode cX8_extended 84 = .ok (.iload_n 1, 1) := dk_27 (dk_at dksX8_extended_3 14 rfl rfl)
theorem dX8_extended_85 : decode cX8_extended 85 = .ok (.iload 6, 2) := dk_21 6 (dk_at dksX8_extended_3 15 rfl rfl)
theorem dX8_extended_87 : decode cX8_extended 87 = .ok (.iload 8, 2) := dk_21 8 (dk_at dksX8_extended_3 17 rfl rfl)
theorem dX8_extended_89 : decode cX8_extended 89 = .ok (.iconst 1, 1) := dk_4 (dk_at dksX8_extended_3 19 rfl rfl)
theorem dX8_extended_90 : decode cX8_extended 90 = .ok (.iconst 0, 1) := dk_3 (dk_at dksX8_extended_3 20 rfl rfl)
theorem dX8_extended_91 : decode cX8_extended 91 = .ok (.invokevirtual 97, 3) := dk_182 0 97 (dk_at dksX8_extended_3 21 rfl rfl)
theorem dX8_extended_94 : decode cX8_extended 94 = .ok (.ireturn, 1) := dk_172 (dk_at dksX8_extended_4 0 rfl rfl)
abbrev cX8_executeTruncate : ByteArray := prog_18_method_71_code
def yX8_executeTruncate : MethodName := ⟨RX8, "executeTruncate", "(II)Z"⟩
def dkwX8_executeTruncate_1 : List UInt8 := [3, 172, 42, 27, 28, 182, 1, 45, 158, 0, 7, 4, 167, 0, 4, 3, 172]
abbrev dktX8_executeTruncate_1 : List UInt8 := dkwX8_executeTruncate_1 ++ []
def dkwX8_executeTruncate_0 : List UInt8 := [42, 27, 182, 1, 32, 153, 0, 19, 28, 42, 27, 182, 0, 121, 163, 0, 10, 42, 182, 1, 35, 154, 0, 5]
abbrev dktX8_executeTruncate_0 : List UInt8 := dkwX8_executeTruncate_0 ++ dktX8_executeTruncate_1
theorem dksX8_executeTruncate_0 : cX8_executeTruncate.data.toList.drop 0 = dktX8_executeTruncate_0 := by decide +kernel
theorem dksX8_executeTruncate_1 : cX8_executeTruncate.data.toList.drop 24 = dktX8_executeTruncate_1 := dk_seg dksX8_executeTruncate_0 24 rfl rfl
theorem dX8_executeTruncate_0 : decode cX8_executeTruncate 0 = .ok (.aload_n 0, 1) := dk_42 (dk_at dksX8_executeTruncate_0 0 rfl rfl)
theorem dX8_executeTruncate_1 : decode cX8_executeTruncate 1 = .ok (.iload_n 1, 1) := dk_27 (dk_at dksX8_executeTruncate_0 1 rfl rfl)
theorem dX8_executeTruncate_2 : decode cX8_executeTruncate 2 = .ok (.invokevirtual 288, 3) := dk_182 1 32 (dk_at dksX8_executeTruncate_0 2 rfl rfl)
theorem dX8_executeTruncate_5 : decode cX8_executeTruncate 5 = .ok (.ifCond .eq 19, 3) := dk_153 0 19 (dk_at dksX8_executeTruncate_0 5 rfl rfl)
theorem dX8_executeTruncate_8 : decode cX8_executeTruncate 8 = .ok (.iload_n 2, 1) := dk_28 (dk_at dksX8_executeTruncate_0 8 rfl rfl)
theorem dX8_executeTruncate_9 : decode cX8_executeTruncate 9 = .ok (.aload_n 0, 1) := dk_42 (dk_at dksX8_executeTruncate_0 9 rfl rfl)
theorem dX8_executeTruncate_10 : decode cX8_executeTruncate 10 = .ok (.iload_n 1, 1) := dk_27 (dk_at dksX8_executeTruncate_0 10 rfl rfl)
theorem dX8_executeTruncate_11 : decode cX8_executeTruncate 11 = .ok (.invokevirtual 121, 3) := dk_182 0 121 (dk_at dksX8_executeTruncate_0 11 rfl rfl)
theorem dX8_executeTruncate_14 : decode cX8_executeTruncate 14 = .ok (.if_icmp .gt 10, 3) := dk_163 0 10 (dk_at dksX8_executeTruncate_0 14 rfl rfl)
theorem dX8_executeTruncate_17 : decode cX8_executeTruncate 17 = .ok (.aload_n 0, 1) := dk_42 (dk_at dksX8_executeTruncate_0 17 rfl rfl)
theorem dX8_executeTruncate_18 : decode cX8_executeTruncate 18 = .ok (.invokevirtual 291, 3) := dk_182 1 35 (dk_at dksX8_executeTruncate_0 18 rfl rfl)
theorem dX8_executeTruncate_21 : decode cX8_executeTruncate 21 = .ok (.ifCond .ne 5, 3) := dk_154 0 5 (dk_at dksX8_executeTruncate_0 21 rfl rfl)
theorem dX8_executeTruncate_24 : decode cX8_executeTruncate 24 = .ok (.iconst 0, 1) := dk_3 (dk_at dksX8_executeTruncate_1 0 rfl rfl)
theorem dX8_executeTruncate_25 : decode cX8_executeTruncate 25 = .ok (.ireturn, 1) := dk_172 (dk_at dksX8_executeTruncate_1 1 rfl rfl)
theorem dX8_executeTruncate_26 : decode cX8_executeTruncate 26 = .ok (.aload_n 0, 1) := dk_42 (dk_at dksX8_executeTruncate_1 2 rfl rfl)
theorem dX8_executeTruncate_27 : decode cX8_executeTruncate 27 = .ok (.iload_n 1, 1) := dk_27 (dk_at dksX8_executeTruncate_1 3 rfl rfl)
theorem dX8_executeTruncate_28 : decode cX8_executeTruncate 28 = .ok (.iload_n 2, 1) := dk_28 (dk_at dksX8_executeTruncate_1 4 rfl rfl)
theorem dX8_executeTruncate_29 : decode cX8_executeTruncate 29 = .ok (.invokevirtual 301, 3) := dk_182 1 45 (dk_at dksX8_executeTruncate_1 5 rfl rfl)
theorem dX8_executeTruncate_32 : decode cX8_executeTruncate 32 = .ok (.ifCond .le 7, 3) := dk_158 0 7 (dk_at dksX8_executeTruncate_1 8 rfl rfl)
theorem dX8_executeTruncate_35 : decode cX8_executeTruncate 35 = .ok (.iconst 1, 1) := dk_4 (dk_at dksX8_executeTruncate_1 11 rfl rfl)
theorem dX8_executeTruncate_36 : decode cX8_executeTruncate 36 = .ok (.goto 4, 3) := dk_167 0 4 (dk_at dksX8_executeTruncate_1 12 rfl rfl)
theorem dX8_executeTruncate_39 : decode cX8_executeTruncate 39 = .ok (.iconst 0, 1) := dk_3 (dk_at dksX8_executeTruncate_1 15 rfl rfl)
theorem dX8_executeTruncate_40 : decode cX8_executeTruncate 40 = .ok (.ireturn, 1) := dk_172 (dk_at dksX8_executeTruncate_1 16 rfl rfl)
abbrev cX8_makeTruncate : ByteArray := prog_18_method_38_code
def yX8_makeTruncate : MethodName := ⟨RX8, "makeTruncate", "(II)I"⟩
def dkwX8_makeTruncate_0 : List UInt8 := [42, 180, 0, 9, 4, 46, 62, 42, 27, 28, 42, 27, 28, 182, 0, 154, 29, 182, 0, 142, 172]
abbrev dktX8_makeTruncate_0 : List UInt8 := dkwX8_makeTruncate_0 ++ []
theorem dksX8_makeTruncate_0 : cX8_makeTruncate.data.toList.drop 0 = dktX8_makeTruncate_0 := by decide +kernel
theorem dX8_makeTruncate_0 : decode cX8_makeTruncate 0 = .ok (.aload_n 0, 1) := dk_42 (dk_at dksX8_makeTruncate_0 0 rfl rfl)
theorem dX8_makeTruncate_1 : decode cX8_makeTruncate 1 = .ok (.getfield 9, 3) := dk_180 0 9 (dk_at dksX8_makeTruncate_0 1 rfl rfl)
theorem dX8_makeTruncate_4 : decode cX8_makeTruncate 4 = .ok (.iconst 1, 1) := dk_4 (dk_at dksX8_makeTruncate_0 4 rfl rfl)
theorem dX8_makeTruncate_5 : decode cX8_makeTruncate 5 = .ok (.iaload, 1) := dk_46 (dk_at dksX8_makeTruncate_0 5 rfl rfl)
theorem dX8_makeTruncate_6 : decode cX8_makeTruncate 6 = .ok (.istore_n 3, 1) := dk_62 (dk_at dksX8_makeTruncate_0 6 rfl rfl)
theorem dX8_makeTruncate_7 : decode cX8_makeTruncate 7 = .ok (.aload_n 0, 1) := dk_42 (dk_at dksX8_makeTruncate_0 7 rfl rfl)
theorem dX8_makeTruncate_8 : decode cX8_makeTruncate 8 = .ok (.iload_n 1, 1) := dk_27 (dk_at dksX8_makeTruncate_0 8 rfl rfl)
theorem dX8_makeTruncate_9 : decode cX8_makeTruncate 9 = .ok (.iload_n 2, 1) := dk_28 (dk_at dksX8_makeTruncate_0 9 rfl rfl)
theorem dX8_makeTruncate_10 : decode cX8_makeTruncate 10 = .ok (.aload_n 0, 1) := dk_42 (dk_at dksX8_makeTruncate_0 10 rfl rfl)
theorem dX8_makeTruncate_11 : decode cX8_makeTruncate 11 = .ok (.iload_n 1, 1) := dk_27 (dk_at dksX8_makeTruncate_0 11 rfl rfl)
theorem dX8_makeTruncate_12 : decode cX8_makeTruncate 12 = .ok (.iload_n 2, 1) := dk_28 (dk_at dksX8_makeTruncate_0 12 rfl rfl)
theorem dX8_makeTruncate_13 : decode cX8_makeTruncate 13 = .ok (.invokevirtual 154, 3) := dk_182 0 154 (dk_at dksX8_makeTruncate_0 13 rfl rfl)
theorem dX8_makeTruncate_16 : decode cX8_makeTruncate 16 = .ok (.iload_n 3, 1) := dk_29 (dk_at dksX8_makeTruncate_0 16 rfl rfl)
theorem dX8_makeTruncate_17 : decode cX8_makeTruncate 17 = .ok (.invokevirtual 142, 3) := dk_182 0 142 (dk_at dksX8_makeTruncate_0 17 rfl rfl)
theorem dX8_makeTruncate_20 : decode cX8_makeTruncate 20 = .ok (.ireturn, 1) := dk_172 (dk_at dksX8_makeTruncate_0 20 rfl rfl)
abbrev cX8_cutRoot : ByteArray := prog_18_method_37_code
def yX8_cutRoot : MethodName := ⟨RX8, "cutRoot", "(II)I"⟩
def dkwX8_cutRoot_2 : List UInt8 := [184, 0, 118, 28, 182, 0, 108, 172]
abbrev dktX8_cutRoot_2 : List UInt8 := dkwX8_cutRoot_2 ++ []
def dkwX8_cutRoot_1 : List UInt8 := [184, 0, 118, 164, 0, 16, 42, 29, 3, 182, 0, 71, 62, 132, 4, 255, 167, 255, 237, 42, 29, 28]
abbrev dktX8_cutRoot_1 : List UInt8 := dkwX8_cutRoot_1 ++ dktX8_cutRoot_2
def dkwX8_cutRoot_0 : List UInt8 := [28, 154, 0, 5, 2, 172, 42, 27, 182, 0, 145, 62, 42, 27, 182, 0, 148, 54, 4, 21, 4, 28]
abbrev dktX8_cutRoot_0 : List UInt8 := dkwX8_cutRoot_0 ++ dktX8_cutRoot_1
theorem dksX8_cutRoot_0 : cX8_cutRoot.data.toList.drop 0 = dktX8_cutRoot_0 := by decide +kernel
theorem dksX8_cutRoot_1 : cX8_cutRoot.data.toList.drop 22 = dktX8_cutRoot_1 := dk_seg dksX8_cutRoot_0 22 rfl rfl
theorem dksX8_cutRoot_2 : cX8_cutRoot.data.toList.drop 44 = dktX8_cutRoot_2 := dk_seg dksX8_cutRoot_1 22 rfl rfl
theorem dX8_cutRoot_0 : decode cX8_cutRoot 0 = .ok (.iload_n 2, 1) := dk_28 (dk_at dksX8_cutRoot_0 0 rfl rfl)
theorem dX8_cutRoot_1 : decode cX8_cutRoot 1 = .ok (.ifCond .ne 5, 3) := dk_154 0 5 (dk_at dksX8_cutRoot_0 1 rfl rfl)
theorem dX8_cutRoot_4 : decode cX8_cutRoot 4 = .ok (.iconst (-1), 1) := dk_2 (dk_at dksX8_cutRoot_0 4 rfl rfl)
theorem dX8_cutRoot_5 : decode cX8_cutRoot 5 = .ok (.ireturn, 1) := dk_172 (dk_at dksX8_cutRoot_0 5 rfl rfl)
theorem dX8_cutRoot_6 : decode cX8_cutRoot 6 = .ok (.aload_n 0, 1) := dk_42 (dk_at dksX8_cutRoot_0 6 rfl rfl)
theorem dX8_cutRoot_7 : decode cX8_cutRoot 7 = .ok (.iload_n 1, 1) := dk_27 (dk_at dksX8_cutRoot_0 7 rfl rfl)
theorem dX8_cutRoot_8 : decode cX8_cutRoot 8 = .ok (.invokevirtual 145, 3) := dk_182 0 145 (dk_at dksX8_cutRoot_0 8 rfl rfl)
theorem dX8_cutRoot_11 : decode cX8_cutRoot 11 = .ok (.istore_n 3, 1) := dk_62 (dk_at dksX8_cutRoot_0 11 rfl rfl)
theorem dX8_cutRoot_12 : decode cX8_cutRoot 12 = .ok (.aload_n 0, 1) := dk_42 (dk_at dksX8_cutRoot_0 12 rfl rfl)
theorem dX8_cutRoot_13 : decode cX8_cutRoot 13 = .ok (.iload_n 1, 1) := dk_27 (dk_at dksX8_cutRoot_0 13 rfl rfl)
theorem dX8_cutRoot_14 : decode cX8_cutRoot 14 = .ok (.invokevirtual 148, 3) := dk_182 0 148 (dk_at dksX8_cutRoot_0 14 rfl rfl)
theorem dX8_cutRoot_17 : decode cX8_cutRoot 17 = .ok (.istore 4, 2) := dk_54 4 (dk_at dksX8_cutRoot_0 17 rfl rfl)
theorem dX8_cutRoot_19 : decode cX8_cutRoot 19 = .ok (.iload 4, 2) := dk_21 4 (dk_at dksX8_cutRoot_0 19 rfl rfl)
theorem dX8_cutRoot_21 : decode cX8_cutRoot 21 = .ok (.iload_n 2, 1) := dk_28 (dk_at dksX8_cutRoot_0 21 rfl rfl)
theorem dX8_cutRoot_22 : decode cX8_cutRoot 22 = .ok (.invokestatic 118, 3) := dk_184 0 118 (dk_at dksX8_cutRoot_1 0 rfl rfl)
theorem dX8_cutRoot_25 : decode cX8_cutRoot 25 = .ok (.if_icmp .le 16, 3) := dk_164 0 16 (dk_at dksX8_cutRoot_1 3 rfl rfl)
theorem dX8_cutRoot_28 : decode cX8_cutRoot 28 = .ok (.aload_n 0, 1) := dk_42 (dk_at dksX8_cutRoot_1 6 rfl rfl)
theorem dX8_cutRoot_29 : decode cX8_cutRoot 29 = .ok (.iload_n 3, 1) := dk_29 (dk_at dksX8_cutRoot_1 7 rfl rfl)
theorem dX8_cutRoot_30 : decode cX8_cutRoot 30 = .ok (.iconst 0, 1) := dk_3 (dk_at dksX8_cutRoot_1 8 rfl rfl)
theorem dX8_cutRoot_31 : decode cX8_cutRoot 31 = .ok (.invokevirtual 71, 3) := dk_182 0 71 (dk_at dksX8_cutRoot_1 9 rfl rfl)
theorem dX8_cutRoot_34 : decode cX8_cutRoot 34 = .ok (.istore_n 3, 1) := dk_62 (dk_at dksX8_cutRoot_1 12 rfl rfl)
theorem dX8_cutRoot_35 : decode cX8_cutRoot 35 = .ok (.iinc 4 (-1), 3) := dk_132 4 255 (dk_at dksX8_cutRoot_1 13 rfl rfl)
theorem dX8_cutRoot_38 : decode cX8_cutRoot 38 = .ok (.goto (-19), 3) := dk_167 255 237 (dk_at dksX8_cutRoot_1 16 rfl rfl)
theorem dX8_cutRoot_41 : decode cX8_cutRoot 41 = .ok (.aload_n 0, 1) := dk_42 (dk_at dksX8_cutRoot_1 19 rfl rfl)
theorem dX8_cutRoot_42 : decode cX8_cutRoot 42 = .ok (.iload_n 3, 1) := dk_29 (dk_at dksX8_cutRoot_1 20 rfl rfl)
theorem dX8_cutRoot_43 : decode cX8_cutRoot 43 = .ok (.iload_n 2, 1) := dk_28 (dk_at dksX8_cutRoot_1 21 rfl rfl)
theorem dX8_cutRoot_44 : decode cX8_cutRoot 44 = .ok (.invokestatic 118, 3) := dk_184 0 118 (dk_at dksX8_cutRoot_2 0 rfl rfl)
theorem dX8_cutRoot_47 : decode cX8_cutRoot 47 = .ok (.iload_n 2, 1) := dk_28 (dk_at dksX8_cutRoot_2 3 rfl rfl)
theorem dX8_cutRoot_48 : decode cX8_cutRoot 48 = .ok (.invokevirtual 108, 3) := dk_182 0 108 (dk_at dksX8_cutRoot_2 4 rfl rfl)
theorem dX8_cutRoot_51 : decode cX8_cutRoot 51 = .ok (.ireturn, 1) := dk_172 (dk_at dksX8_cutRoot_2 7 rfl rfl)
abbrev cX8_cut : ByteArray := prog_18_method_24_code
def yX8_cut : MethodName := ⟨RX8, "cut", "(III)I"⟩
def dkwX8_cut_3 : List UInt8 := [96, 182, 0, 108, 54, 7, 42, 27, 21, 6, 21, 7, 4, 3, 182, 0, 97, 172]
abbrev dktX8_cut_3 : List UInt8 := dkwX8_cut_3 ++ []
def dkwX8_cut_2 : List UInt8 := [21, 4, 21, 5, 108, 54, 6, 42, 42, 27, 21, 6, 182, 0, 71, 28, 4, 100, 21, 4, 21, 5, 112, 4]
abbrev dktX8_cut_2 : List UInt8 := dkwX8_cut_2 ++ dktX8_cut_3
def dkwX8_cut_1 : List UInt8 := [21, 4, 42, 27, 21, 4, 182, 0, 71, 4, 4, 182, 0, 97, 172, 28, 4, 100, 184, 0, 64, 54, 5]
abbrev dktX8_cut_1 : List UInt8 := dkwX8_cut_1 ++ dktX8_cut_2
def dkwX8_cut_0 : List UInt8 := [42, 27, 182, 0, 94, 29, 160, 0, 5, 27, 172, 29, 4, 100, 54, 4, 28, 4, 160, 0, 20, 42, 27]
abbrev dktX8_cut_0 : List UInt8 := dkwX8_cut_0 ++ dktX8_cut_1
theorem dksX8_cut_0 : cX8_cut.data.toList.drop 0 = dktX8_cut_0 := by decide +kernel
theorem dksX8_cut_1 : cX8_cut.data.toList.drop 23 = dktX8_cut_1 := dk_seg dksX8_cut_0 23 rfl rfl
theorem dksX8_cut_2 : cX8_cut.data.toList.drop 46 = dktX8_cut_2 := dk_seg dksX8_cut_1 23 rfl rfl
theorem dksX8_cut_3 : cX8_cut.data.toList.drop 70 = dktX8_cut_3 := dk_seg dksX8_cut_2 24 rfl rfl
theorem dX8_cut_0 : decode cX8_cut 0 = .ok (.aload_n 0, 1) := dk_42 (dk_at dksX8_cut_0 0 rfl rfl)
theorem dX8_cut_1 : decode cX8_cut 1 = .ok (.iload_n 1, 1) := dk_27 (dk_at dksX8_cut_0 1 rfl rfl)
theorem dX8_cut_2 : decode cX8_cut 2 = .ok (.invokevirtual 94, 3) := dk_182 0 94 (dk_at dksX8_cut_0 2 rfl rfl)
theorem dX8_cut_5 : decode cX8_cut 5 = .ok (.iload_n 3, 1) := dk_29 (dk_at dksX8_cut_0 5 rfl rfl)
theorem dX8_cut_6 : decode cX8_cut 6 = .ok (.if_icmp .ne 5, 3) := dk_160 0 5 (dk_at dksX8_cut_0 6 rfl rfl)
theorem dX8_cut_9 : decode cX8_cut 9 = .ok (.iload_n 1, 1) := dk_27 (dk_at dksX8_cut_0 9 rfl rfl)
theorem dX8_cut_10 : decode cX8_cut 10 = .ok (.ireturn, 1) := dk_172 (dk_at dksX8_cut_0 10 rfl rfl)
theorem dX8_cut_11 : decode cX8_cut 11 = .ok (.iload_n 3, 1) := dk_29 (dk_at dksX8_cut_0 11 rfl rfl)
theorem dX8_cut_12 : decode cX8_cut 12 = .ok (.iconst 1, 1) := dk_4 (dk_at dksX8_cut_0 12 rfl rfl)
theorem dX8_cut_13 : decode cX8_cut 13 = .ok (.isub, 1) := dk_100 (dk_at dksX8_cut_0 13 rfl rfl)
theorem dX8_cut_14 : decode cX8_cut 14 = .ok (.istore 4, 2) := dk_54 4 (dk_at dksX8_cut_0 14 rfl rfl)
theorem dX8_cut_16 : decode cX8_cut 16 = .ok (.iload_n 2, 1) := dk_28 (dk_at dksX8_cut_0 16 rfl rfl)
theorem dX8_cut_17 : decode cX8_cut 17 = .ok (.iconst 1, 1) := dk_4 (dk_at dksX8_cut_0 17 rfl rfl)
theorem dX8_cut_18 : decode cX8_cut 18 = .ok (.if_icmp .ne 20, 3) := dk_160 0 20 (dk_at dksX8_cut_0 18 rfl rfl)
theorem dX8_cut_21 : decode cX8_cut 21 = .ok (.aload_n 0, 1) := dk_42 (dk_at dksX8_cut_0 21 rfl rfl)
theorem dX8_cut_22 : decode cX8_cut 22 = .ok (.iload_n 1, 1) := dk_27 (dk_at dksX8_cut_0 22 rfl rfl)
theorem dX8_cut_23 : decode cX8_cut 23 = .ok (.iload 4, 2) := dk_21 4 (dk_at dksX8_cut_1 0 rfl rfl)
theorem dX8_cut_25 : decode cX8_cut 25 = .ok (.aload_n 0, 1) := dk_42 (dk_at dksX8_cut_1 2 rfl rfl)
theorem dX8_cut_26 : decode cX8_cut 26 = .ok (.iload_n 1, 1) := dk_27 (dk_at dksX8_cut_1 3 rfl rfl)
theorem dX8_cut_27 : decode cX8_cut 27 = .ok (.iload 4, 2) := dk_21 4 (dk_at dksX8_cut_1 4 rfl rfl)
theorem dX8_cut_29 : decode cX8_cut 29 = .ok (.invokevirtual 71, 3) := dk_182 0 71 (dk_at dksX8_cut_1 6 rfl rfl)
theorem dX8_cut_32 : decode cX8_cut 32 = .ok (.iconst 1, 1) := dk_4 (dk_at dksX8_cut_1 9 rfl rfl)
theorem dX8_cut_33 : decode cX8_cut 33 = .ok (.iconst 1, 1) := dk_4 (dk_at dksX8_cut_1 10 rfl rfl)
theorem dX8_cut_34 : decode cX8_cut 34 = .ok (.invokevirtual 97, 3) := dk_182 0 97 (dk_at dksX8_cut_1 11 rfl rfl)
theorem dX8_cut_37 : decode cX8_cut 37 = .ok (.ireturn, 1) := dk_172 (dk_at dksX8_cut_1 14 rfl rfl)
theorem dX8_cut_38 : decode cX8_cut 38 = .ok (.iload_n 2, 1) := dk_28 (dk_at dksX8_cut_1 15 rfl rfl)
theorem dX8_cut_39 : decode cX8_cut 39 = .ok (.iconst 1, 1) := dk_4 (dk_at dksX8_cut_1 16 rfl rfl)
theorem dX8_cut_40 : decode cX8_cut 40 = .ok (.isub, 1) := dk_100 (dk_at dksX8_cut_1 17 rfl rfl)
theorem dX8_cut_41 : decode cX8_cut 41 = .ok (.invokestatic 64, 3) := dk_184 0 64 (dk_at dksX8_cut_1 18 rfl rfl)
theorem dX8_cut_44 : decode cX8_cut 44 = .ok (.istore 5, 2) := dk_54 5 (dk_at dksX8_cut_1 21 rfl rfl)
theorem dX8_cut_46 : decode cX8_cut 46 = .ok (.iload 4, 2) := dk_21 4 (dk_at dksX8_cut_2 0 rfl rfl)
theorem dX8_cut_48 : decode cX8_cut 48 = .ok (.iload 5, 2) := dk_21 5 (dk_at dksX8_cut_2 2 rfl rfl)
theorem dX8_cut_50 : decode cX8_cut 50 = .ok (.idiv, 1) := dk_108 (dk_at dksX8_cut_2 4 rfl rfl)
theorem dX8_cut_51 : decode cX8_cut 51 = .ok (.istore 6, 2) := dk_54 6 (dk_at dksX8_cut_2 5 rfl rfl)
theorem dX8_cut_53 : decode cX8_cut 53 = .ok (.aload_n 0, 1) := dk_42 (dk_at dksX8_cut_2 7 rfl rfl)
theorem dX8_cut_54 : decode cX8_cut 54 = .ok (.aload_n 0, 1) := dk_42 (dk_at dksX8_cut_2 8 rfl rfl)
theorem dX8_cut_55 : decode cX8_cut 55 = .ok (.iload_n 1, 1) := dk_27 (dk_at dksX8_cut_2 9 rfl rfl)
theorem dX8_cut_56 : decode cX8_cut 56 = .ok (.iload 6, 2) := dk_21 6 (dk_at dksX8_cut_2 10 rfl rfl)
theorem dX8_cut_58 : decode cX8_cut 58 = .ok (.invokevirtual 71, 3) := dk_182 0 71 (dk_at dksX8_cut_2 12 rfl rfl)
theorem dX8_cut_61 : decode cX8_cut 61 = .ok (.iload_n 2, 1) := dk_28 (dk_at dksX8_cut_2 15 rfl rfl)
theorem dX8_cut_62 : decode cX8_cut 62 = .ok (.iconst 1, 1) := dk_4 (dk_at dksX8_cut_2 16 rfl rfl)
theorem dX8_cut_63 : decode cX8_cut 63 = .ok (.isub, 1) := dk_100 (dk_at dksX8_cut_2 17 rfl rfl)
theorem dX8_cut_64 : decode cX8_cut 64 = .ok (.iload 4, 2) := dk_21 4 (dk_at dksX8_cut_2 18 rfl rfl)
theorem dX8_cut_66 : decode cX8_cut 66 = .ok (.iload 5, 2) := dk_21 5 (dk_at dksX8_cut_2 20 rfl rfl)
theorem dX8_cut_68 : decode cX8_cut 68 = .ok (.irem, 1) := dk_112 (dk_at dksX8_cut_2 22 rfl rfl)
theorem dX8_cut_69 : decode cX8_cut 69 = .ok (.iconst 1, 1) := dk_4 (dk_at dksX8_cut_2 23 rfl rfl)
theorem dX8_cut_70 : decode cX8_cut 70 = .ok (.iadd, 1) := dk_96 (dk_at dksX8_cut_3 0 rfl rfl)
theorem dX8_cut_71 : decode cX8_cut 71 = .ok (.invokevirtual 108, 3) := dk_182 0 108 (dk_at dksX8_cut_3 1 rfl rfl)
theorem dX8_cut_74 : decode cX8_cut 74 = .ok (.istore 7, 2) := dk_54 7 (dk_at dksX8_cut_3 4 rfl rfl)
theorem dX8_cut_76 : decode cX8_cut 76 = .ok (.aload_n 0, 1) := dk_42 (dk_at dksX8_cut_3 6 rfl rfl)
theorem dX8_cut_77 : decode cX8_cut 77 = .ok (.iload_n 1, 1) := dk_27 (dk_at dksX8_cut_3 7 rfl rfl)
theorem dX8_cut_78 : decode cX8_cut 78 = .ok (.iload 6, 2) := dk_21 6 (dk_at dksX8_cut_3 8 rfl rfl)
theorem dX8_cut_80 : decode cX8_cut 80 = .ok (.iload 7, 2) := dk_21 7 (dk_at dksX8_cut_3 10 rfl rfl)
theorem dX8_cut_82 : decode cX8_cut 82 = .ok (.iconst 1, 1) := dk_4 (dk_at dksX8_cut_3 12 rfl rfl)
theorem dX8_cut_83 : decode cX8_cut 83 = .ok (.iconst 0, 1) := dk_3 (dk_at dksX8_cut_3 13 rfl rfl)
theorem dX8_cut_84 : decode cX8_cut 84 = .ok (.invokevirtual 97, 3) := dk_182 0 97 (dk_at dksX8_cut_3 14 rfl rfl)
theorem dX8_cut_87 : decode cX8_cut 87 = .ok (.ireturn, 1) := dk_172 (dk_at dksX8_cut_3 17 rfl rfl)
abbrev cX8_elementsUnder : ByteArray := prog_18_method_21_code
def yX8_elementsUnder : MethodName := ⟨RX8, "elementsUnder", "(I)I"⟩
def dkwX8_elementsUnder_1 : List UInt8 := [162, 0, 22, 28, 42, 42, 27, 29, 182, 0, 71, 182, 0, 94, 96, 61, 132, 3, 1, 167, 255, 231, 28, 172]
abbrev dktX8_elementsUnder_1 : List UInt8 := dkwX8_elementsUnder_1 ++ []
def dkwX8_elementsUnder_0 : List UInt8 := [42, 27, 182, 0, 90, 153, 0, 9, 42, 27, 182, 0, 79, 172, 3, 61, 3, 62, 29, 42, 27, 182, 0, 79]
abbrev dktX8_elementsUnder_0 : List UInt8 := dkwX8_elementsUnder_0 ++ dktX8_elementsUnder_1
theorem dksX8_elementsUnder_0 : cX8_elementsUnder.data.toList.drop 0 = dktX8_elementsUnder_0 := by decide +kernel
theorem dksX8_elementsUnder_1 : cX8_elementsUnder.data.toList.drop 24 = dktX8_elementsUnder_1 := dk_seg dksX8_elementsUnder_0 24 rfl rfl
theorem dX8_elementsUnder_0 : decode cX8_elementsUnder 0 = .ok (.aload_n 0, 1) := dk_42 (dk_at dksX8_elementsUnder_0 0 rfl rfl)
theorem dX8_elementsUnder_1 : decode cX8_elementsUnder 1 = .ok (.iload_n 1, 1) := dk_27 (dk_at dksX8_elementsUnder_0 1 rfl rfl)
theorem dX8_elementsUnder_2 : decode cX8_elementsUnder 2 = .ok (.invokevirtual 90, 3) := dk_182 0 90 (dk_at dksX8_elementsUnder_0 2 rfl rfl)
theorem dX8_elementsUnder_5 : decode cX8_elementsUnder 5 = .ok (.ifCond .eq 9, 3) := dk_153 0 9 (dk_at dksX8_elementsUnder_0 5 rfl rfl)
theorem dX8_elementsUnder_8 : decode cX8_elementsUnder 8 = .ok (.aload_n 0, 1) := dk_42 (dk_at dksX8_elementsUnder_0 8 rfl rfl)
theorem dX8_elementsUnder_9 : decode cX8_elementsUnder 9 = .ok (.iload_n 1, 1) := dk_27 (dk_at dksX8_elementsUnder_0 9 rfl rfl)
theorem dX8_elementsUnder_10 : decode cX8_elementsUnder 10 = .ok (.invokevirtual 79, 3) := dk_182 0 79 (dk_at dksX8_elementsUnder_0 10 rfl rfl)
theorem dX8_elementsUnder_13 : decode cX8_elementsUnder 13 = .ok (.ireturn, 1) := dk_172 (dk_at dksX8_elementsUnder_0 13 rfl rfl)
theorem dX8_elementsUnder_14 : decode cX8_elementsUnder 14 = .ok (.iconst 0, 1) := dk_3 (dk_at dksX8_elementsUnder_0 14 rfl rfl)
theorem dX8_elementsUnder_15 : decode cX8_elementsUnder 15 = .ok (.istore_n 2, 1) := dk_61 (dk_at dksX8_elementsUnder_0 15 rfl rfl)
theorem dX8_elementsUnder_16 : decode cX8_elementsUnder 16 = .ok (.iconst 0, 1) := dk_3 (dk_at dksX8_elementsUnder_0 16 rfl rfl)
theorem dX8_elementsUnder_17 : decode cX8_elementsUnder 17 = .ok (.istore_n 3, 1) := dk_62 (dk_at dksX8_elementsUnder_0 17 rfl rfl)
theorem dX8_elementsUnder_18 : decode cX8_elementsUnder 18 = .ok (.iload_n 3, 1) := dk_29 (dk_at dksX8_elementsUnder_0 18 rfl rfl)
theorem dX8_elementsUnder_19 : decode cX8_elementsUnder 19 = .ok (.aload_n 0, 1) := dk_42 (dk_at dksX8_elementsUnder_0 19 rfl rfl)
theorem dX8_elementsUnder_20 : decode cX8_elementsUnder 20 = .ok (.iload_n 1, 1) := dk_27 (dk_at dksX8_elementsUnder_0 20 rfl rfl)
theorem dX8_elementsUnder_21 : decode cX8_elementsUnder 21 = .ok (.invokevirtual 79, 3) := dk_182 0 79 (dk_at dksX8_elementsUnder_0 21 rfl rfl)
theorem dX8_elementsUnder_24 : decode cX8_elementsUnder 24 = .ok (.if_icmp .ge 22, 3) := dk_162 0 22 (dk_at dksX8_elementsUnder_1 0 rfl rfl)
theorem dX8_elementsUnder_27 : decode cX8_elementsUnder 27 = .ok (.iload_n 2, 1) := dk_28 (dk_at dksX8_elementsUnder_1 3 rfl rfl)
theorem dX8_elementsUnder_28 : decode cX8_elementsUnder 28 = .ok (.aload_n 0, 1) := dk_42 (dk_at dksX8_elementsUnder_1 4 rfl rfl)
theorem dX8_elementsUnder_29 : decode cX8_elementsUnder 29 = .ok (.aload_n 0, 1) := dk_42 (dk_at dksX8_elementsUnder_1 5 rfl rfl)
theorem dX8_elementsUnder_30 : decode cX8_elementsUnder 30 = .ok (.iload_n 1, 1) := dk_27 (dk_at dksX8_elementsUnder_1 6 rfl rfl)
theorem dX8_elementsUnder_31 : decode cX8_elementsUnder 31 = .ok (.iload_n 3, 1) := dk_29 (dk_at dksX8_elementsUnder_1 7 rfl rfl)
theorem dX8_elementsUnder_32 : decode cX8_elementsUnder 32 = .ok (.invokevirtual 71, 3) := dk_182 0 71 (dk_at dksX8_elementsUnder_1 8 rfl rfl)
theorem dX8_elementsUnder_35 : decode cX8_elementsUnder 35 = .ok (.invokevirtual 94, 3) := dk_182 0 94 (dk_at dksX8_elementsUnder_1 11 rfl rfl)
theorem dX8_elementsUnder_38 : decode cX8_elementsUnder 38 = .ok (.iadd, 1) := dk_96 (dk_at dksX8_elementsUnder_1 14 rfl rfl)
theorem dX8_elementsUnder_39 : decode cX8_elementsUnder 39 = .ok (.istore_n 2, 1) := dk_61 (dk_at dksX8_elementsUnder_1 15 rfl rfl)
theorem dX8_elementsUnder_40 : decode cX8_elementsUnder 40 = .ok (.iinc 3 1, 3) := dk_132 3 1 (dk_at dksX8_elementsUnder_1 16 rfl rfl)
theorem dX8_elementsUnder_43 : decode cX8_elementsUnder 43 = .ok (.goto (-25), 3) := dk_167 255 231 (dk_at dksX8_elementsUnder_1 19 rfl rfl)
theorem dX8_elementsUnder_46 : decode cX8_elementsUnder 46 = .ok (.iload_n 2, 1) := dk_28 (dk_at dksX8_elementsUnder_1 22 rfl rfl)
theorem dX8_elementsUnder_47 : decode cX8_elementsUnder 47 = .ok (.ireturn, 1) := dk_172 (dk_at dksX8_elementsUnder_1 23 rfl rfl)
abbrev cX8_isLeafNode : ByteArray := prog_18_method_15_code
def yX8_isLeafNode : MethodName := ⟨RX8, "isLeafNode", "(I)Z"⟩
def dkwX8_isLeafNode_0 : List UInt8 := [42, 180, 0, 9, 27, 184, 0, 68, 3, 96, 46, 4, 160, 0, 7, 4, 167, 0, 4, 3, 172]
abbrev dktX8_isLeafNode_0 : List UInt8 := dkwX8_isLeafNode_0 ++ []
theorem dksX8_isLeafNode_0 : cX8_isLeafNode.data.toList.drop 0 = dktX8_isLeafNode_0 := by decide +kernel
theorem dX8_isLeafNode_0 : decode cX8_isLeafNode 0 = .ok (.aload_n 0, 1) := dk_42 (dk_at dksX8_isLeafNode_0 0 rfl rfl)
theorem dX8_isLeafNode_1 : decode cX8_isLeafNode 1 = .ok (.getfield 9, 3) := dk_180 0 9 (dk_at dksX8_isLeafNode_0 1 rfl rfl)
theorem dX8_isLeafNode_4 : decode cX8_isLeafNode 4 = .ok (.iload_n 1, 1) := dk_27 (dk_at dksX8_isLeafNode_0 4 rfl rfl)
theorem dX8_isLeafNode_5 : decode cX8_isLeafNode 5 = .ok (.invokestatic 68, 3) := dk_184 0 68 (dk_at dksX8_isLeafNode_0 5 rfl rfl)
theorem dX8_isLeafNode_8 : decode cX8_isLeafNode 8 = .ok (.iconst 0, 1) := dk_3 (dk_at dksX8_isLeafNode_0 8 rfl rfl)
theorem dX8_isLeafNode_9 : decode cX8_isLeafNode 9 = .ok (.iadd, 1) := dk_96 (dk_at dksX8_isLeafNode_0 9 rfl rfl)
theorem dX8_isLeafNode_10 : decode cX8_isLeafNode 10 = .ok (.iaload, 1) := dk_46 (dk_at dksX8_isLeafNode_0 10 rfl rfl)
theorem dX8_isLeafNode_11 : decode cX8_isLeafNode 11 = .ok (.iconst 1, 1) := dk_4 (dk_at dksX8_isLeafNode_0 11 rfl rfl)
theorem dX8_isLeafNode_12 : decode cX8_isLeafNode 12 = .ok (.if_icmp .ne 7, 3) := dk_160 0 7 (dk_at dksX8_isLeafNode_0 12 rfl rfl)
theorem dX8_isLeafNode_15 : decode cX8_isLeafNode 15 = .ok (.iconst 1, 1) := dk_4 (dk_at dksX8_isLeafNode_0 15 rfl rfl)
theorem dX8_isLeafNode_16 : decode cX8_isLeafNode 16 = .ok (.goto 4, 3) := dk_167 0 4 (dk_at dksX8_isLeafNode_0 16 rfl rfl)
theorem dX8_isLeafNode_19 : decode cX8_isLeafNode 19 = .ok (.iconst 0, 1) := dk_3 (dk_at dksX8_isLeafNode_0 19 rfl rfl)
theorem dX8_isLeafNode_20 : decode cX8_isLeafNode 20 = .ok (.ireturn, 1) := dk_172 (dk_at dksX8_isLeafNode_0 20 rfl rfl)
abbrev cX8_releaseVersion : ByteArray := prog_18_method_45_code
def yX8_releaseVersion : MethodName := ⟨RX8, "releaseVersion", "(I)I"⟩
def dkwX8_releaseVersion_0 : List UInt8 := [42, 180, 0, 9, 27, 184, 0, 112, 7, 96, 4, 79, 42, 182, 0, 177, 172]
abbrev dktX8_releaseVersion_0 : List UInt8 := dkwX8_releaseVersion_0 ++ []
theorem dksX8_releaseVersion_0 : cX8_releaseVersion.data.toList.drop 0 = dktX8_releaseVersion_0 := by decide +kernel
theorem dX8_releaseVersion_0 : decode cX8_releaseVersion 0 = .ok (.aload_n 0, 1) := dk_42 (dk_at dksX8_releaseVersion_0 0 rfl rfl)
theorem dX8_releaseVersion_1 : decode cX8_releaseVersion 1 = .ok (.getfield 9, 3) := dk_180 0 9 (dk_at dksX8_releaseVersion_0 1 rfl rfl)
theorem dX8_releaseVersion_4 : decode cX8_releaseVersion 4 = .ok (.iload_n 1, 1) := dk_27 (dk_at dksX8_releaseVersion_0 4 rfl rfl)
theorem dX8_releaseVersion_5 : decode cX8_releaseVersion 5 = .ok (.invokestatic 112, 3) := dk_184 0 112 (dk_at dksX8_releaseVersion_0 5 rfl rfl)
theorem dX8_releaseVersion_8 : decode cX8_releaseVersion 8 = .ok (.iconst 4, 1) := dk_7 (dk_at dksX8_releaseVersion_0 8 rfl rfl)
theorem dX8_releaseVersion_9 : decode cX8_releaseVersion 9 = .ok (.iadd, 1) := dk_96 (dk_at dksX8_releaseVersion_0 9 rfl rfl)
theorem dX8_releaseVersion_10 : decode cX8_releaseVersion 10 = .ok (.iconst 1, 1) := dk_4 (dk_at dksX8_releaseVersion_0 10 rfl rfl)
theorem dX8_releaseVersion_11 : decode cX8_releaseVersion 11 = .ok (.iastore, 1) := dk_79 (dk_at dksX8_releaseVersion_0 11 rfl rfl)
theorem dX8_releaseVersion_12 : decode cX8_releaseVersion 12 = .ok (.aload_n 0, 1) := dk_42 (dk_at dksX8_releaseVersion_0 12 rfl rfl)
theorem dX8_releaseVersion_13 : decode cX8_releaseVersion 13 = .ok (.invokevirtual 177, 3) := dk_182 0 177 (dk_at dksX8_releaseVersion_0 13 rfl rfl)
theorem dX8_releaseVersion_16 : decode cX8_releaseVersion 16 = .ok (.ireturn, 1) := dk_172 (dk_at dksX8_releaseVersion_0 16 rfl rfl)
abbrev cX8_countGarbage : ByteArray := prog_18_method_44_code
def yX8_countGarbage : MethodName := ⟨RX8, "countGarbage", "()I"⟩
def dkwX8_countGarbage_2 : List UInt8 := [132, 2, 1, 167, 255, 215, 27, 172]
abbrev dktX8_countGarbage_2 : List UInt8 := dkwX8_countGarbage_2 ++ []
def dkwX8_countGarbage_1 : List UInt8 := [153, 0, 16, 42, 180, 0, 32, 28, 46, 154, 0, 7, 4, 167, 0, 4, 3, 184, 0, 75, 96, 60]
abbrev dktX8_countGarbage_1 : List UInt8 := dkwX8_countGarbage_1 ++ dktX8_countGarbage_2
def dkwX8_countGarbage_0 : List UInt8 := [42, 182, 0, 174, 3, 60, 3, 61, 28, 42, 180, 0, 9, 4, 46, 162, 0, 37, 27, 42, 28, 182, 0, 171]
abbrev dktX8_countGarbage_0 : List UInt8 := dkwX8_countGarbage_0 ++ dktX8_countGarbage_1
theorem dksX8_countGarbage_0 : cX8_countGarbage.data.toList.drop 0 = dktX8_countGarbage_0 := by decide +kernel
theorem dksX8_countGarbage_1 : cX8_countGarbage.data.toList.drop 24 = dktX8_countGarbage_1 := dk_seg dksX8_countGarbage_0 24 rfl rfl
theorem dksX8_countGarbage_2 : cX8_countGarbage.data.toList.drop 46 = dktX8_countGarbage_2 := dk_seg dksX8_countGarbage_1 22 rfl rfl
theorem dX8_countGarbage_0 : decode cX8_countGarbage 0 = .ok (.aload_n 0, 1) := dk_42 (dk_at dksX8_countGarbage_0 0 rfl rfl)
theorem dX8_countGarbage_1 : decode cX8_countGarbage 1 = .ok (.invokevirtual 174, 3) := dk_182 0 174 (dk_at dksX8_countGarbage_0 1 rfl rfl)
theorem dX8_countGarbage_4 : decode cX8_countGarbage 4 = .ok (.iconst 0, 1) := dk_3 (dk_at dksX8_countGarbage_0 4 rfl rfl)
theorem dX8_countGarbage_5 : decode cX8_countGarbage 5 = .ok (.istore_n 1, 1) := dk_60 (dk_at dksX8_countGarbage_0 5 rfl rfl)
theorem dX8_countGarbage_6 : decode cX8_countGarbage 6 = .ok (.iconst 0, 1) := dk_3 (dk_at dksX8_countGarbage_0 6 rfl rfl)
theorem dX8_countGarbage_7 : decode cX8_countGarbage 7 = .ok (.istore_n 2, 1) := dk_61 (dk_at dksX8_countGarbage_0 7 rfl rfl)
theorem dX8_countGarbage_8 : decode cX8_countGarbage 8 = .ok (.iload_n 2, 1) := dk_28 (dk_at dksX8_countGarbage_0 8 rfl rfl)
theorem dX8_countGarbage_9 : decode cX8_countGarbage 9 = .ok (.aload_n 0, 1) := dk_42 (dk_at dksX8_countGarbage_0 9 rfl rfl)
theorem dX8_countGarbage_10 : decode cX8_countGarbage 10 = .ok (.getfield 9, 3) := dk_180 0 9 (dk_at dksX8_countGarbage_0 10 rfl rfl)
theorem dX8_countGarbage_13 : decode cX8_countGarbage 13 = .ok (.iconst 1, 1) := dk_4 (dk_at dksX8_countGarbage_0 13 rfl rfl)
theorem dX8_countGarbage_14 : decode cX8_countGarbage 14 = .ok (.iaload, 1) := dk_46 (dk_at dksX8_countGarbage_0 14 rfl rfl)
theorem dX8_countGarbage_15 : decode cX8_countGarbage 15 = .ok (.if_icmp .ge 37, 3) := dk_162 0 37 (dk_at dksX8_countGarbage_0 15 rfl rfl)
theorem dX8_countGarbage_18 : decode cX8_countGarbage 18 = .ok (.iload_n 1, 1) := dk_27 (dk_at dksX8_countGarbage_0 18 rfl rfl)
theorem dX8_countGarbage_19 : decode cX8_countGarbage 19 = .ok (.aload_n 0, 1) := dk_42 (dk_at dksX8_countGarbage_0 19 rfl rfl)
theorem dX8_countGarbage_20 : decode cX8_countGarbage 20 = .ok (.iload_n 2, 1) := dk_28 (dk_at dksX8_countGarbage_0 20 rfl rfl)
theorem dX8_countGarbage_21 : decode cX8_countGarbage 21 = .ok (.invokevirtual 171, 3) := dk_182 0 171 (dk_at dksX8_countGarbage_0 21 rfl rfl)
theorem dX8_countGarbage_24 : decode cX8_countGarbage 24 = .ok (.ifCond .eq 16, 3) := dk_153 0 16 (dk_at dksX8_countGarbage_1 0 rfl rfl)
theorem dX8_countGarbage_27 : decode cX8_countGarbage 27 = .ok (.aload_n 0, 1) := dk_42 (dk_at dksX8_countGarbage_1 3 rfl rfl)
theorem dX8_countGarbage_28 : decode cX8_countGarbage 28 = .ok (.getfield 32, 3) := dk_180 0 32 (dk_at dksX8_countGarbage_1 4 rfl rfl)
theorem dX8_countGarbage_31 : decode cX8_countGarbage 31 = .ok (.iload_n 2, 1) := dk_28 (dk_at dksX8_countGarbage_1 7 rfl rfl)
theorem dX8_countGarbage_32 : decode cX8_countGarbage 32 = .ok (.iaload, 1) := dk_46 (dk_at dksX8_countGarbage_1 8 rfl rfl)
theorem dX8_countGarbage_33 : decode cX8_countGarbage 33 = .ok (.ifCond .ne 7, 3) := dk_154 0 7 (dk_at dksX8_countGarbage_1 9 rfl rfl)
theorem dX8_countGarbage_36 : decode cX8_countGarbage 36 = .ok (.iconst 1, 1) := dk_4 (dk_at dksX8_countGarbage_1 12 rfl rfl)
theorem dX8_countGarbage_37 : decode cX8_countGarbage 37 = .ok (.goto 4, 3) := dk_167 0 4 (dk_at dksX8_countGarbage_1 13 rfl rfl)
theorem dX8_countGarbage_40 : decode cX8_countGarbage 40 = .ok (.iconst 0, 1) := dk_3 (dk_at dksX8_countGarbage_1 16 rfl rfl)
theorem dX8_countGarbage_41 : decode cX8_countGarbage 41 = .ok (.invokestatic 75, 3) := dk_184 0 75 (dk_at dksX8_countGarbage_1 17 rfl rfl)
theorem dX8_countGarbage_44 : decode cX8_countGarbage 44 = .ok (.iadd, 1) := dk_96 (dk_at dksX8_countGarbage_1 20 rfl rfl)
theorem dX8_countGarbage_45 : decode cX8_countGarbage 45 = .ok (.istore_n 1, 1) := dk_60 (dk_at dksX8_countGarbage_1 21 rfl rfl)
theorem dX8_countGarbage_46 : decode cX8_countGarbage 46 = .ok (.iinc 2 1, 3) := dk_132 2 1 (dk_at dksX8_countGarbage_2 0 rfl rfl)
theorem dX8_countGarbage_49 : decode cX8_countGarbage 49 = .ok (.goto (-41), 3) := dk_167 255 215 (dk_at dksX8_countGarbage_2 3 rfl rfl)
theorem dX8_countGarbage_52 : decode cX8_countGarbage 52 = .ok (.iload_n 1, 1) := dk_27 (dk_at dksX8_countGarbage_2 6 rfl rfl)
theorem dX8_countGarbage_53 : decode cX8_countGarbage 53 = .ok (.ireturn, 1) := dk_172 (dk_at dksX8_countGarbage_2 7 rfl rfl)
abbrev cX8_reachAll : ByteArray := prog_18_method_41_code
def yX8_reachAll : MethodName := ⟨RX8, "reachAll", "()V"⟩
def dkwX8_reachAll_1 : List UInt8 := [42, 42, 27, 182, 0, 145, 182, 0, 157, 132, 1, 1, 167, 255, 226, 177]
abbrev dktX8_reachAll_1 : List UInt8 := dkwX8_reachAll_1 ++ []
def dkwX8_reachAll_0 : List UInt8 := [42, 182, 0, 161, 3, 60, 27, 42, 180, 0, 9, 3, 46, 162, 0, 26, 42, 27, 182, 0, 164, 154, 0, 12]
abbrev dktX8_reachAll_0 : List UInt8 := dkwX8_reachAll_0 ++ dktX8_reachAll_1
theorem dksX8_reachAll_0 : cX8_reachAll.data.toList.drop 0 = dktX8_reachAll_0 := by decide +kernel
theorem dksX8_reachAll_1 : cX8_reachAll.data.toList.drop 24 = dktX8_reachAll_1 := dk_seg dksX8_reachAll_0 24 rfl rfl
theorem dX8_reachAll_0 : decode cX8_reachAll 0 = .ok (.aload_n 0, 1) := dk_42 (dk_at dksX8_reachAll_0 0 rfl rfl)
theorem dX8_reachAll_1 : decode cX8_reachAll 1 = .ok (.invokevirtual 161, 3) := dk_182 0 161 (dk_at dksX8_reachAll_0 1 rfl rfl)
theorem dX8_reachAll_4 : decode cX8_reachAll 4 = .ok (.iconst 0, 1) := dk_3 (dk_at dksX8_reachAll_0 4 rfl rfl)
theorem dX8_reachAll_5 : decode cX8_reachAll 5 = .ok (.istore_n 1, 1) := dk_60 (dk_at dksX8_reachAll_0 5 rfl rfl)
theorem dX8_reachAll_6 : decode cX8_reachAll 6 = .ok (.iload_n 1, 1) := dk_27 (dk_at dksX8_reachAll_0 6 rfl rfl)
theorem dX8_reachAll_7 : decode cX8_reachAll 7 = .ok (.aload_n 0, 1) := dk_42 (dk_at dksX8_reachAll_0 7 rfl rfl)
theorem dX8_reachAll_8 : decode cX8_reachAll 8 = .ok (.getfield 9, 3) := dk_180 0 9 (dk_at dksX8_reachAll_0 8 rfl rfl)
theorem dX8_reachAll_11 : decode cX8_reachAll 11 = .ok (.iconst 0, 1) := dk_3 (dk_at dksX8_reachAll_0 11 rfl rfl)
theorem dX8_reachAll_12 : decode cX8_reachAll 12 = .ok (.iaload, 1) := dk_46 (dk_at dksX8_reachAll_0 12 rfl rfl)
theorem dX8_reachAll_13 : decode cX8_reachAll 13 = .ok (.if_icmp .ge 26, 3) := dk_162 0 26 (dk_at dksX8_reachAll_0 13 rfl rfl)
theorem dX8_reachAll_16 : decode cX8_reachAll 16 = .ok (.aload_n 0, 1) := dk_42 (dk_at dksX8_reachAll_0 16 rfl rfl)
theorem dX8_reachAll_17 : decode cX8_reachAll 17 = .ok (.iload_n 1, 1) := dk_27 (dk_at dksX8_reachAll_0 17 rfl rfl)
theorem dX8_reachAll_18 : decode cX8_reachAll 18 = .ok (.invokevirtual 164, 3) := dk_182 0 164 (dk_at dksX8_reachAll_0 18 rfl rfl)
theorem dX8_reachAll_21 : decode cX8_reachAll 21 = .ok (.ifCond .ne 12, 3) := dk_154 0 12 (dk_at dksX8_reachAll_0 21 rfl rfl)
theorem dX8_reachAll_24 : decode cX8_reachAll 24 = .ok (.aload_n 0, 1) := dk_42 (dk_at dksX8_reachAll_1 0 rfl rfl)
theorem dX8_reachAll_25 : decode cX8_reachAll 25 = .ok (.aload_n 0, 1) := dk_42 (dk_at dksX8_reachAll_1 1 rfl rfl)
theorem dX8_reachAll_26 : decode cX8_reachAll 26 = .ok (.iload_n 1, 1) := dk_27 (dk_at dksX8_reachAll_1 2 rfl rfl)
theorem dX8_reachAll_27 : decode cX8_reachAll 27 = .ok (.invokevirtual 145, 3) := dk_182 0 145 (dk_at dksX8_reachAll_1 3 rfl rfl)
theorem dX8_reachAll_30 : decode cX8_reachAll 30 = .ok (.invokevirtual 157, 3) := dk_182 0 157 (dk_at dksX8_reachAll_1 6 rfl rfl)
theorem dX8_reachAll_33 : decode cX8_reachAll 33 = .ok (.iinc 1 1, 3) := dk_132 1 1 (dk_at dksX8_reachAll_1 9 rfl rfl)
theorem dX8_reachAll_36 : decode cX8_reachAll 36 = .ok (.goto (-30), 3) := dk_167 255 226 (dk_at dksX8_reachAll_1 12 rfl rfl)
theorem dX8_reachAll_39 : decode cX8_reachAll 39 = .ok (.return_, 1) := dk_177 (dk_at dksX8_reachAll_1 15 rfl rfl)
abbrev cX8_clearReached : ByteArray := prog_18_method_39_code
def yX8_clearReached : MethodName := ⟨RX8, "clearReached", "()V"⟩
def dkwX8_clearReached_0 : List UInt8 := [3, 60, 27, 17, 0, 200, 162, 0, 16, 42, 180, 0, 32, 27, 3, 79, 132, 1, 1, 167, 255, 239, 177]
abbrev dktX8_clearReached_0 : List UInt8 := dkwX8_clearReached_0 ++ []
theorem dksX8_clearReached_0 : cX8_clearReached.data.toList.drop 0 = dktX8_clearReached_0 := by decide +kernel
theorem dX8_clearReached_0 : decode cX8_clearReached 0 = .ok (.iconst 0, 1) := dk_3 (dk_at dksX8_clearReached_0 0 rfl rfl)
theorem dX8_clearReached_1 : decode cX8_clearReached 1 = .ok (.istore_n 1, 1) := dk_60 (dk_at dksX8_clearReached_0 1 rfl rfl)
theorem dX8_clearReached_2 : decode cX8_clearReached 2 = .ok (.iload_n 1, 1) := dk_27 (dk_at dksX8_clearReached_0 2 rfl rfl)
theorem dX8_clearReached_3 : decode cX8_clearReached 3 = .ok (.sipush 200, 3) := dk_17 0 200 (dk_at dksX8_clearReached_0 3 rfl rfl)
theorem dX8_clearReached_6 : decode cX8_clearReached 6 = .ok (.if_icmp .ge 16, 3) := dk_162 0 16 (dk_at dksX8_clearReached_0 6 rfl rfl)
theorem dX8_clearReached_9 : decode cX8_clearReached 9 = .ok (.aload_n 0, 1) := dk_42 (dk_at dksX8_clearReached_0 9 rfl rfl)
theorem dX8_clearReached_10 : decode cX8_clearReached 10 = .ok (.getfield 32, 3) := dk_180 0 32 (dk_at dksX8_clearReached_0 10 rfl rfl)
theorem dX8_clearReached_13 : decode cX8_clearReached 13 = .ok (.iload_n 1, 1) := dk_27 (dk_at dksX8_clearReached_0 13 rfl rfl)
theorem dX8_clearReached_14 : decode cX8_clearReached 14 = .ok (.iconst 0, 1) := dk_3 (dk_at dksX8_clearReached_0 14 rfl rfl)
theorem dX8_clearReached_15 : decode cX8_clearReached 15 = .ok (.iastore, 1) := dk_79 (dk_at dksX8_clearReached_0 15 rfl rfl)
theorem dX8_clearReached_16 : decode cX8_clearReached 16 = .ok (.iinc 1 1, 3) := dk_132 1 1 (dk_at dksX8_clearReached_0 16 rfl rfl)
theorem dX8_clearReached_19 : decode cX8_clearReached 19 = .ok (.goto (-17), 3) := dk_167 255 239 (dk_at dksX8_clearReached_0 19 rfl rfl)
theorem dX8_clearReached_22 : decode cX8_clearReached 22 = .ok (.return_, 1) := dk_177 (dk_at dksX8_clearReached_0 22 rfl rfl)
abbrev cX8_reach : ByteArray := prog_18_method_40_code
def yX8_reach : MethodName := ⟨RX8, "reach", "(I)V"⟩
def dkwX8_reach_2 : List UInt8 := [132, 2, 1, 167, 255, 234, 177]
abbrev dktX8_reach_2 : List UInt8 := dkwX8_reach_2 ++ []
def dkwX8_reach_1 : List UInt8 := [177, 3, 61, 28, 42, 27, 182, 0, 79, 162, 0, 19, 42, 42, 27, 28, 182, 0, 71, 182, 0, 157]
abbrev dktX8_reach_1 : List UInt8 := dkwX8_reach_1 ++ dktX8_reach_2
def dkwX8_reach_0 : List UInt8 := [27, 2, 160, 0, 4, 177, 42, 180, 0, 32, 27, 92, 46, 4, 96, 79, 42, 27, 182, 0, 90, 153, 0, 4]
abbrev dktX8_reach_0 : List UInt8 := dkwX8_reach_0 ++ dktX8_reach_1
theorem dksX8_reach_0 : cX8_reach.data.toList.drop 0 = dktX8_reach_0 := by decide +kernel
theorem dksX8_reach_1 : cX8_reach.data.toList.drop 24 = dktX8_reach_1 := dk_seg dksX8_reach_0 24 rfl rfl
theorem dksX8_reach_2 : cX8_reach.data.toList.drop 46 = dktX8_reach_2 := dk_seg dksX8_reach_1 22 rfl rfl
theorem dX8_reach_0 : decode cX8_reach 0 = .ok (.iload_n 1, 1) := dk_27 (dk_at dksX8_reach_0 0 rfl rfl)
theorem dX8_reach_1 : decode cX8_reach 1 = .ok (.iconst (-1), 1) := dk_2 (dk_at dksX8_reach_0 1 rfl rfl)
theorem dX8_reach_2 : decode cX8_reach 2 = .ok (.if_icmp .ne 4, 3) := dk_160 0 4 (dk_at dksX8_reach_0 2 rfl rfl)
theorem dX8_reach_5 : decode cX8_reach 5 = .ok (.return_, 1) := dk_177 (dk_at dksX8_reach_0 5 rfl rfl)
theorem dX8_reach_6 : decode cX8_reach 6 = .ok (.aload_n 0, 1) := dk_42 (dk_at dksX8_reach_0 6 rfl rfl)
theorem dX8_reach_7 : decode cX8_reach 7 = .ok (.getfield 32, 3) := dk_180 0 32 (dk_at dksX8_reach_0 7 rfl rfl)
theorem dX8_reach_10 : decode cX8_reach 10 = .ok (.iload_n 1, 1) := dk_27 (dk_at dksX8_reach_0 10 rfl rfl)
theorem dX8_reach_11 : decode cX8_reach 11 = .ok (.dup2, 1) := dk_92 (dk_at dksX8_reach_0 11 rfl rfl)
theorem dX8_reach_12 : decode cX8_reach 12 = .ok (.iaload, 1) := dk_46 (dk_at dksX8_reach_0 12 rfl rfl)
theorem dX8_reach_13 : decode cX8_reach 13 = .ok (.iconst 1, 1) := dk_4 (dk_at dksX8_reach_0 13 rfl rfl)
theorem dX8_reach_14 : decode cX8_reach 14 = .ok (.iadd, 1) := dk_96 (dk_at dksX8_reach_0 14 rfl rfl)
theorem dX8_reach_15 : decode cX8_reach 15 = .ok (.iastore, 1) := dk_79 (dk_at dksX8_reach_0 15 rfl rfl)
theorem dX8_reach_16 : decode cX8_reach 16 = .ok (.aload_n 0, 1) := dk_42 (dk_at dksX8_reach_0 16 rfl rfl)
theorem dX8_reach_17 : decode cX8_reach 17 = .ok (.iload_n 1, 1) := dk_27 (dk_at dksX8_reach_0 17 rfl rfl)
theorem dX8_reach_18 : decode cX8_reach 18 = .ok (.invokevirtual 90, 3) := dk_182 0 90 (dk_at dksX8_reach_0 18 rfl rfl)
theorem dX8_reach_21 : decode cX8_reach 21 = .ok (.ifCond .eq 4, 3) := dk_153 0 4 (dk_at dksX8_reach_0 21 rfl rfl)
theorem dX8_reach_24 : decode cX8_reach 24 = .ok (.return_, 1) := dk_177 (dk_at dksX8_reach_1 0 rfl rfl)
theorem dX8_reach_25 : decode cX8_reach 25 = .ok (.iconst 0, 1) := dk_3 (dk_at dksX8_reach_1 1 rfl rfl)
theorem dX8_reach_26 : decode cX8_reach 26 = .ok (.istore_n 2, 1) := dk_61 (dk_at dksX8_reach_1 2 rfl rfl)
theorem dX8_reach_27 : decode cX8_reach 27 = .ok (.iload_n 2, 1) := dk_28 (dk_at dksX8_reach_1 3 rfl rfl)
theorem dX8_reach_28 : decode cX8_reach 28 = .ok (.aload_n 0, 1) := dk_42 (dk_at dksX8_reach_1 4 rfl rfl)
theorem dX8_reach_29 : decode cX8_reach 29 = .ok (.iload_n 1, 1) := dk_27 (dk_at dksX8_reach_1 5 rfl rfl)
theorem dX8_reach_30 : decode cX8_reach 30 = .ok (.invokevirtual 79, 3) := dk_182 0 79 (dk_at dksX8_reach_1 6 rfl rfl)
theorem dX8_reach_33 : decode cX8_reach 33 = .ok (.if_icmp .ge 19, 3) := dk_162 0 19 (dk_at dksX8_reach_1 9 rfl rfl)
theorem dX8_reach_36 : decode cX8_reach 36 = .ok (.aload_n 0, 1) := dk_42 (dk_at dksX8_reach_1 12 rfl rfl)
theorem dX8_reach_37 : decode cX8_reach 37 = .ok (.aload_n 0, 1) := dk_42 (dk_at dksX8_reach_1 13 rfl rfl)
theorem dX8_reach_38 : decode cX8_reach 38 = .ok (.iload_n 1, 1) := dk_27 (dk_at dksX8_reach_1 14 rfl rfl)
theorem dX8_reach_39 : decode cX8_reach 39 = .ok (.iload_n 2, 1) := dk_28 (dk_at dksX8_reach_1 15 rfl rfl)
theorem dX8_reach_40 : decode cX8_reach 40 = .ok (.invokevirtual 71, 3) := dk_182 0 71 (dk_at dksX8_reach_1 16 rfl rfl)
theorem dX8_reach_43 : decode cX8_reach 43 = .ok (.invokevirtual 157, 3) := dk_182 0 157 (dk_at dksX8_reach_1 19 rfl rfl)
theorem dX8_reach_46 : decode cX8_reach 46 = .ok (.iinc 2 1, 3) := dk_132 2 1 (dk_at dksX8_reach_2 0 rfl rfl)
theorem dX8_reach_49 : decode cX8_reach 49 = .ok (.goto (-22), 3) := dk_167 255 234 (dk_at dksX8_reach_2 3 rfl rfl)
theorem dX8_reach_52 : decode cX8_reach 52 = .ok (.return_, 1) := dk_177 (dk_at dksX8_reach_2 6 rfl rfl)
abbrev cX8_isStored : ByteArray := prog_18_method_42_code
def yX8_isStored : MethodName := ⟨RX8, "isStored", "(I)Z"⟩
def dkwX8_isStored_1 : List UInt8 := [184, 0, 68, 16, 6, 96, 46, 4, 160, 0, 7, 4, 167, 0, 4, 3, 172]
abbrev dktX8_isStored_1 : List UInt8 := dkwX8_isStored_1 ++ []
def dkwX8_isStored_0 : List UInt8 := [27, 133, 9, 42, 180, 0, 9, 4, 46, 4, 100, 133, 184, 0, 167, 153, 0, 23, 42, 180, 0, 9, 27]
abbrev dktX8_isStored_0 : List UInt8 := dkwX8_isStored_0 ++ dktX8_isStored_1
theorem dksX8_isStored_0 : cX8_isStored.data.toList.drop 0 = dktX8_isStored_0 := by decide +kernel
theorem dksX8_isStored_1 : cX8_isStored.data.toList.drop 23 = dktX8_isStored_1 := dk_seg dksX8_isStored_0 23 rfl rfl
theorem dX8_isStored_0 : decode cX8_isStored 0 = .ok (.iload_n 1, 1) := dk_27 (dk_at dksX8_isStored_0 0 rfl rfl)
theorem dX8_isStored_1 : decode cX8_isStored 1 = .ok (.i2l, 1) := dk_133 (dk_at dksX8_isStored_0 1 rfl rfl)
theorem dX8_isStored_2 : decode cX8_isStored 2 = .ok (.lconst 0, 1) := dk_9 (dk_at dksX8_isStored_0 2 rfl rfl)
theorem dX8_isStored_3 : decode cX8_isStored 3 = .ok (.aload_n 0, 1) := dk_42 (dk_at dksX8_isStored_0 3 rfl rfl)
theorem dX8_isStored_4 : decode cX8_isStored 4 = .ok (.getfield 9, 3) := dk_180 0 9 (dk_at dksX8_isStored_0 4 rfl rfl)
theorem dX8_isStored_7 : decode cX8_isStored 7 = .ok (.iconst 1, 1) := dk_4 (dk_at dksX8_isStored_0 7 rfl rfl)
theorem dX8_isStored_8 : decode cX8_isStored 8 = .ok (.iaload, 1) := dk_46 (dk_at dksX8_isStored_0 8 rfl rfl)
theorem dX8_isStored_9 : decode cX8_isStored 9 = .ok (.iconst 1, 1) := dk_4 (dk_at dksX8_isStored_0 9 rfl rfl)
theorem dX8_isStored_10 : decode cX8_isStored 10 = .ok (.isub, 1) := dk_100 (dk_at dksX8_isStored_0 10 rfl rfl)
theorem dX8_isStored_11 : decode cX8_isStored 11 = .ok (.i2l, 1) := dk_133 (dk_at dksX8_isStored_0 11 rfl rfl)
theorem dX8_isStored_12 : decode cX8_isStored 12 = .ok (.invokestatic 167, 3) := dk_184 0 167 (dk_at dksX8_isStored_0 12 rfl rfl)
theorem dX8_isStored_15 : decode cX8_isStored 15 = .ok (.ifCond .eq 23, 3) := dk_153 0 23 (dk_at dksX8_isStored_0 15 rfl rfl)
theorem dX8_isStored_18 : decode cX8_isStored 18 = .ok (.aload_n 0, 1) := dk_42 (dk_at dksX8_isStored_0 18 rfl rfl)
theorem dX8_isStored_19 : decode cX8_isStored 19 = .ok (.getfield 9, 3) := dk_180 0 9 (dk_at dksX8_isStored_0 19 rfl rfl)
theorem dX8_isStored_22 : decode cX8_isStored 22 = .ok (.iload_n 1, 1) := dk_27 (dk_at dksX8_isStored_0 22 rfl rfl)
theorem dX8_isStored_23 : decode cX8_isStored 23 = .ok (.invokestatic 68, 3) := dk_184 0 68 (dk_at dksX8_isStored_1 0 rfl rfl)
theorem dX8_isStored_26 : decode cX8_isStored 26 = .ok (.bipush 6, 2) := dk_16 6 (dk_at dksX8_isStored_1 3 rfl rfl)
theorem dX8_isStored_28 : decode cX8_isStored 28 = .ok (.iadd, 1) := dk_96 (dk_at dksX8_isStored_1 5 rfl rfl)
theorem dX8_isStored_29 : decode cX8_isStored 29 = .ok (.iaload, 1) := dk_46 (dk_at dksX8_isStored_1 6 rfl rfl)
theorem dX8_isStored_30 : decode cX8_isStored 30 = .ok (.iconst 1, 1) := dk_4 (dk_at dksX8_isStored_1 7 rfl rfl)
theorem dX8_isStored_31 : decode cX8_isStored 31 = .ok (.if_icmp .ne 7, 3) := dk_160 0 7 (dk_at dksX8_isStored_1 8 rfl rfl)
theorem dX8_isStored_34 : decode cX8_isStored 34 = .ok (.iconst 1, 1) := dk_4 (dk_at dksX8_isStored_1 11 rfl rfl)
theorem dX8_isStored_35 : decode cX8_isStored 35 = .ok (.goto 4, 3) := dk_167 0 4 (dk_at dksX8_isStored_1 12 rfl rfl)
theorem dX8_isStored_38 : decode cX8_isStored 38 = .ok (.iconst 0, 1) := dk_3 (dk_at dksX8_isStored_1 15 rfl rfl)
theorem dX8_isStored_39 : decode cX8_isStored 39 = .ok (.ireturn, 1) := dk_172 (dk_at dksX8_isStored_1 16 rfl rfl)
abbrev cX8_collectAll : ByteArray := prog_18_method_46_code
def yX8_collectAll : MethodName := ⟨RX8, "collectAll", "()I"⟩
def dkwX8_collectAll_1 : List UInt8 := [154, 0, 16, 42, 180, 0, 9, 28, 184, 0, 68, 16, 6, 96, 3, 79, 132, 2, 1, 167, 255, 221, 27, 172]
abbrev dktX8_collectAll_1 : List UInt8 := dkwX8_collectAll_1 ++ []
def dkwX8_collectAll_0 : List UInt8 := [42, 182, 0, 177, 60, 3, 61, 28, 42, 180, 0, 9, 4, 46, 162, 0, 31, 42, 180, 0, 32, 28, 46]
abbrev dktX8_collectAll_0 : List UInt8 := dkwX8_collectAll_0 ++ dktX8_collectAll_1
theorem dksX8_collectAll_0 : cX8_collectAll.data.toList.drop 0 = dktX8_collectAll_0 := by decide +kernel
theorem dksX8_collectAll_1 : cX8_collectAll.data.toList.drop 23 = dktX8_collectAll_1 := dk_seg dksX8_collectAll_0 23 rfl rfl
theorem dX8_collectAll_0 : decode cX8_collectAll 0 = .ok (.aload_n 0, 1) := dk_42 (dk_at dksX8_collectAll_0 0 rfl rfl)
theorem dX8_collectAll_1 : decode cX8_collectAll 1 = .ok (.invokevirtual 177, 3) := dk_182 0 177 (dk_at dksX8_collectAll_0 1 rfl rfl)
theorem dX8_collectAll_4 : decode cX8_collectAll 4 = .ok (.istore_n 1, 1) := dk_60 (dk_at dksX8_collectAll_0 4 rfl rfl)
theorem dX8_collectAll_5 : decode cX8_collectAll 5 = .ok (.iconst 0, 1) := dk_3 (dk_at dksX8_collectAll_0 5 rfl rfl)
theorem dX8_collectAll_6 : decode cX8_collectAll 6 = .ok (.istore_n 2, 1) := dk_61 (dk_at dksX8_collectAll_0 6 rfl rfl)
theorem dX8_collectAll_7 : decode cX8_collectAll 7 = .ok (.iload_n 2, 1) := dk_28 (dk_at dksX8_collectAll_0 7 rfl rfl)
theorem dX8_collectAll_8 : decode cX8_collectAll 8 = .ok (.aload_n 0, 1) := dk_42 (dk_at dksX8_collectAll_0 8 rfl rfl)
theorem dX8_collectAll_9 : decode cX8_collectAll 9 = .ok (.getfield 9, 3) := dk_180 0 9 (dk_at dksX8_collectAll_0 9 rfl rfl)
theorem dX8_collectAll_12 : decode cX8_collectAll 12 = .ok (.iconst 1, 1) := dk_4 (dk_at dksX8_collectAll_0 12 rfl rfl)
theorem dX8_collectAll_13 : decode cX8_collectAll 13 = .ok (.iaload, 1) := dk_46 (dk_at dksX8_collectAll_0 13 rfl rfl)
theorem dX8_collectAll_14 : decode cX8_collectAll 14 = .ok (.if_icmp .ge 31, 3) := dk_162 0 31 (dk_at dksX8_collectAll_0 14 rfl rfl)
theorem dX8_collectAll_17 : decode cX8_collectAll 17 = .ok (.aload_n 0, 1) := dk_42 (dk_at dksX8_collectAll_0 17 rfl rfl)
theorem dX8_collectAll_18 : decode cX8_collectAll 18 = .ok (.getfield 32, 3) := dk_180 0 32 (dk_at dksX8_collectAll_0 18 rfl rfl)
theorem dX8_collectAll_21 : decode cX8_collectAll 21 = .ok (.iload_n 2, 1) := dk_28 (dk_at dksX8_collectAll_0 21 rfl rfl)
theorem dX8_collectAll_22 : decode cX8_collectAll 22 = .ok (.iaload, 1) := dk_46 (dk_at dksX8_collectAll_0 22 rfl rfl)
theorem dX8_collectAll_23 : decode cX8_collectAll 23 = .ok (.ifCond .ne 16, 3) := dk_154 0 16 (dk_at dksX8_collectAll_1 0 rfl rfl)
theorem dX8_collectAll_26 : decode cX8_collectAll 26 = .ok (.aload_n 0, 1) := dk_42 (dk_at dksX8_collectAll_1 3 rfl rfl)
theorem dX8_collectAll_27 : decode cX8_collectAll 27 = .ok (.getfield 9, 3) := dk_180 0 9 (dk_at dksX8_collectAll_1 4 rfl rfl)
theorem dX8_collectAll_30 : decode cX8_collectAll 30 = .ok (.iload_n 2, 1) := dk_28 (dk_at dksX8_collectAll_1 7 rfl rfl)
theorem dX8_collectAll_31 : decode cX8_collectAll 31 = .ok (.invokestatic 68, 3) := dk_184 0 68 (dk_at dksX8_collectAll_1 8 rfl rfl)
theorem dX8_collectAll_34 : decode cX8_collectAll 34 = .ok (.bipush 6, 2) := dk_16 6 (dk_at dksX8_collectAll_1 11 rfl rfl)
theorem dX8_collectAll_36 : decode cX8_collectAll 36 = .ok (.iadd, 1) := dk_96 (dk_at dksX8_collectAll_1 13 rfl rfl)
theorem dX8_collectAll_37 : decode cX8_collectAll 37 = .ok (.iconst 0, 1) := dk_3 (dk_at dksX8_collectAll_1 14 rfl rfl)
theorem dX8_collectAll_38 : decode cX8_collectAll 38 = .ok (.iastore, 1) := dk_79 (dk_at dksX8_collectAll_1 15 rfl rfl)
theorem dX8_collectAll_39 : decode cX8_collectAll 39 = .ok (.iinc 2 1, 3) := dk_132 2 1 (dk_at dksX8_collectAll_1 16 rfl rfl)
theorem dX8_collectAll_42 : decode cX8_collectAll 42 = .ok (.goto (-35), 3) := dk_167 255 221 (dk_at dksX8_collectAll_1 19 rfl rfl)
theorem dX8_collectAll_45 : decode cX8_collectAll 45 = .ok (.iload_n 1, 1) := dk_27 (dk_at dksX8_collectAll_1 22 rfl rfl)
theorem dX8_collectAll_46 : decode cX8_collectAll 46 = .ok (.ireturn, 1) := dk_172 (dk_at dksX8_collectAll_1 23 rfl rfl)
abbrev cX8_versionCount : ByteArray := prog_18_method_76_code
def yX8_versionCount : MethodName := ⟨RX8, "versionCount", "()I"⟩
def dkwX8_versionCount_0 : List UInt8 := [42, 3, 181, 0, 58, 42, 180, 0, 9, 3, 46, 172]
abbrev dktX8_versionCount_0 : List UInt8 := dkwX8_versionCount_0 ++ []
theorem dksX8_versionCount_0 : cX8_versionCount.data.toList.drop 0 = dktX8_versionCount_0 := by decide +kernel
theorem dX8_versionCount_0 : decode cX8_versionCount 0 = .ok (.aload_n 0, 1) := dk_42 (dk_at dksX8_versionCount_0 0 rfl rfl)
theorem dX8_versionCount_1 : decode cX8_versionCount 1 = .ok (.iconst 0, 1) := dk_3 (dk_at dksX8_versionCount_0 1 rfl rfl)
theorem dX8_versionCount_2 : decode cX8_versionCount 2 = .ok (.putfield 58, 3) := dk_181 0 58 (dk_at dksX8_versionCount_0 2 rfl rfl)
theorem dX8_versionCount_5 : decode cX8_versionCount 5 = .ok (.aload_n 0, 1) := dk_42 (dk_at dksX8_versionCount_0 5 rfl rfl)
theorem dX8_versionCount_6 : decode cX8_versionCount 6 = .ok (.getfield 9, 3) := dk_180 0 9 (dk_at dksX8_versionCount_0 6 rfl rfl)
theorem dX8_versionCount_9 : decode cX8_versionCount 9 = .ok (.iconst 0, 1) := dk_3 (dk_at dksX8_versionCount_0 9 rfl rfl)
theorem dX8_versionCount_10 : decode cX8_versionCount 10 = .ok (.iaload, 1) := dk_46 (dk_at dksX8_versionCount_0 10 rfl rfl)
theorem dX8_versionCount_11 : decode cX8_versionCount 11 = .ok (.ireturn, 1) := dk_172 (dk_at dksX8_versionCount_0 11 rfl rfl)
abbrev cX8_liveCount : ByteArray := prog_18_method_77_code
def yX8_liveCount : MethodName := ⟨RX8, "liveCount", "()I"⟩
def dkwX8_liveCount_1 : List UInt8 := [182, 0, 164, 154, 0, 7, 4, 167, 0, 4, 3, 184, 0, 75, 96, 60, 132, 2, 1, 167, 255, 224, 27, 172]
abbrev dktX8_liveCount_1 : List UInt8 := dkwX8_liveCount_1 ++ []
def dkwX8_liveCount_0 : List UInt8 := [42, 3, 181, 0, 58, 3, 60, 3, 61, 28, 42, 180, 0, 9, 3, 46, 162, 0, 28, 27, 42, 28]
abbrev dktX8_liveCount_0 : List UInt8 := dkwX8_liveCount_0 ++ dktX8_liveCount_1
theorem dksX8_liveCount_0 : cX8_liveCount.data.toList.drop 0 = dktX8_liveCount_0 := by decide +kernel
theorem dksX8_liveCount_1 : cX8_liveCount.data.toList.drop 22 = dktX8_liveCount_1 := dk_seg dksX8_liveCount_0 22 rfl rfl
theorem dX8_liveCount_0 : decode cX8_liveCount 0 = .ok (.aload_n 0, 1) := dk_42 (dk_at dksX8_liveCount_0 0 rfl rfl)
theorem dX8_liveCount_1 : decode cX8_liveCount 1 = .ok (.iconst 0, 1) := dk_3 (dk_at dksX8_liveCount_0 1 rfl rfl)
theorem dX8_liveCount_2 : decode cX8_liveCount 2 = .ok (.putfield 58, 3) := dk_181 0 58 (dk_at dksX8_liveCount_0 2 rfl rfl)
theorem dX8_liveCount_5 : decode cX8_liveCount 5 = .ok (.iconst 0, 1) := dk_3 (dk_at dksX8_liveCount_0 5 rfl rfl)
theorem dX8_liveCount_6 : decode cX8_liveCount 6 = .ok (.istore_n 1, 1) := dk_60 (dk_at dksX8_liveCount_0 6 rfl rfl)
theorem dX8_liveCount_7 : decode cX8_liveCount 7 = .ok (.iconst 0, 1) := dk_3 (dk_at dksX8_liveCount_0 7 rfl rfl)
theorem dX8_liveCount_8 : decode cX8_liveCount 8 = .ok (.istore_n 2, 1) := dk_61 (dk_at dksX8_liveCount_0 8 rfl rfl)
theorem dX8_liveCount_9 : decode cX8_liveCount 9 = .ok (.iload_n 2, 1) := dk_28 (dk_at dksX8_liveCount_0 9 rfl rfl)
theorem dX8_liveCount_10 : decode cX8_liveCount 10 = .ok (.aload_n 0, 1) := dk_42 (dk_at dksX8_liveCount_0 10 rfl rfl)
theorem dX8_liveCount_11 : decode cX8_liveCount 11 = .ok (.getfield 9, 3) := dk_180 0 9 (dk_at dksX8_liveCount_0 11 rfl rfl)
theorem dX8_liveCount_14 : decode cX8_liveCount 14 = .ok (.iconst 0, 1) := dk_3 (dk_at dksX8_liveCount_0 14 rfl rfl)
theorem dX8_liveCount_15 : decode cX8_liveCount 15 = .ok (.iaload, 1) := dk_46 (dk_at dksX8_liveCount_0 15 rfl rfl)
theorem dX8_liveCount_16 : decode cX8_liveCount 16 = .ok (.if_icmp .ge 28, 3) := dk_162 0 28 (dk_at dksX8_liveCount_0 16 rfl rfl)
theorem dX8_liveCount_19 : decode cX8_liveCount 19 = .ok (.iload_n 1, 1) := dk_27 (dk_at dksX8_liveCount_0 19 rfl rfl)
theorem dX8_liveCount_20 : decode cX8_liveCount 20 = .ok (.aload_n 0, 1) := dk_42 (dk_at dksX8_liveCount_0 20 rfl rfl)
theorem dX8_liveCount_21 : decode cX8_liveCount 21 = .ok (.iload_n 2, 1) := dk_28 (dk_at dksX8_liveCount_0 21 rfl rfl)
theorem dX8_liveCount_22 : decode cX8_liveCount 22 = .ok (.invokevirtual 164, 3) := dk_182 0 164 (dk_at dksX8_liveCount_1 0 rfl rfl)
theorem dX8_liveCount_25 : decode cX8_liveCount 25 = .ok (.ifCond .ne 7, 3) := dk_154 0 7 (dk_at dksX8_liveCount_1 3 rfl rfl)
theorem dX8_liveCount_28 : decode cX8_liveCount 28 = .ok (.iconst 1, 1) := dk_4 (dk_at dksX8_liveCount_1 6 rfl rfl)
theorem dX8_liveCount_29 : decode cX8_liveCount 29 = .ok (.goto 4, 3) := dk_167 0 4 (dk_at dksX8_liveCount_1 7 rfl rfl)
theorem dX8_liveCount_32 : decode cX8_liveCount 32 = .ok (.iconst 0, 1) := dk_3 (dk_at dksX8_liveCount_1 10 rfl rfl)
theorem dX8_liveCount_33 : decode cX8_liveCount 33 = .ok (.invokestatic 75, 3) := dk_184 0 75 (dk_at dksX8_liveCount_1 11 rfl rfl)
theorem dX8_liveCount_36 : decode cX8_liveCount 36 = .ok (.iadd, 1) := dk_96 (dk_at dksX8_liveCount_1 14 rfl rfl)
theorem dX8_liveCount_37 : decode cX8_liveCount 37 = .ok (.istore_n 1, 1) := dk_60 (dk_at dksX8_liveCount_1 15 rfl rfl)
theorem dX8_liveCount_38 : decode cX8_liveCount 38 = .ok (.iinc 2 1, 3) := dk_132 2 1 (dk_at dksX8_liveCount_1 16 rfl rfl)
theorem dX8_liveCount_41 : decode cX8_liveCount 41 = .ok (.goto (-32), 3) := dk_167 255 224 (dk_at dksX8_liveCount_1 19 rfl rfl)
theorem dX8_liveCount_44 : decode cX8_liveCount 44 = .ok (.iload_n 1, 1) := dk_27 (dk_at dksX8_liveCount_1 22 rfl rfl)
theorem dX8_liveCount_45 : decode cX8_liveCount 45 = .ok (.ireturn, 1) := dk_172 (dk_at dksX8_liveCount_1 23 rfl rfl)
abbrev cX8_isReleased : ByteArray := prog_18_method_78_code
def yX8_isReleased : MethodName := ⟨RX8, "isReleased", "(I)Z"⟩
def dkwX8_isReleased_0 : List UInt8 := [42, 27, 182, 1, 78, 153, 0, 15, 42, 27, 182, 0, 164, 153, 0, 7, 4, 167, 0, 4, 3, 172]
abbrev dktX8_isReleased_0 : List UInt8 := dkwX8_isReleased_0 ++ []
theorem dksX8_isReleased_0 : cX8_isReleased.data.toList.drop 0 = dktX8_isReleased_0 := by decide +kernel
theorem dX8_isReleased_0 : decode cX8_isReleased 0 = .ok (.aload_n 0, 1) := dk_42 (dk_at dksX8_isReleased_0 0 rfl rfl)
theorem dX8_isReleased_1 : decode cX8_isReleased 1 = .ok (.iload_n 1, 1) := dk_27 (dk_at dksX8_isReleased_0 1 rfl rfl)
theorem dX8_isReleased_2 : decode cX8_isReleased 2 = .ok (.invokevirtual 334, 3) := dk_182 1 78 (dk_at dksX8_isReleased_0 2 rfl rfl)
theorem dX8_isReleased_5 : decode cX8_isReleased 5 = .ok (.ifCond .eq 15, 3) := dk_153 0 15 (dk_at dksX8_isReleased_0 5 rfl rfl)
theorem dX8_isReleased_8 : decode cX8_isReleased 8 = .ok (.aload_n 0, 1) := dk_42 (dk_at dksX8_isReleased_0 8 rfl rfl)
theorem dX8_isReleased_9 : decode cX8_isReleased 9 = .ok (.iload_n 1, 1) := dk_27 (dk_at dksX8_isReleased_0 9 rfl rfl)
theorem dX8_isReleased_10 : decode cX8_isReleased 10 = .ok (.invokevirtual 164, 3) := dk_182 0 164 (dk_at dksX8_isReleased_0 10 rfl rfl)
theorem dX8_isReleased_13 : decode cX8_isReleased 13 = .ok (.ifCond .eq 7, 3) := dk_153 0 7 (dk_at dksX8_isReleased_0 13 rfl rfl)
theorem dX8_isReleased_16 : decode cX8_isReleased 16 = .ok (.iconst 1, 1) := dk_4 (dk_at dksX8_isReleased_0 16 rfl rfl)
theorem dX8_isReleased_17 : decode cX8_isReleased 17 = .ok (.goto 4, 3) := dk_167 0 4 (dk_at dksX8_isReleased_0 17 rfl rfl)
theorem dX8_isReleased_20 : decode cX8_isReleased 20 = .ok (.iconst 0, 1) := dk_3 (dk_at dksX8_isReleased_0 20 rfl rfl)
theorem dX8_isReleased_21 : decode cX8_isReleased 21 = .ok (.ireturn, 1) := dk_172 (dk_at dksX8_isReleased_0 21 rfl rfl)
abbrev cX8_checkVersion : ByteArray := prog_18_method_75_code
def yX8_checkVersion : MethodName := ⟨RX8, "checkVersion", "(I)Z"⟩
def dkwX8_checkVersion_0 : List UInt8 := [42, 42, 27, 182, 1, 29, 4, 4, 182, 1, 74, 172]
abbrev dktX8_checkVersion_0 : List UInt8 := dkwX8_checkVersion_0 ++ []
theorem dksX8_checkVersion_0 : cX8_checkVersion.data.toList.drop 0 = dktX8_checkVersion_0 := by decide +kernel
theorem dX8_checkVersion_0 : decode cX8_checkVersion 0 = .ok (.aload_n 0, 1) := dk_42 (dk_at dksX8_checkVersion_0 0 rfl rfl)
theorem dX8_checkVersion_1 : decode cX8_checkVersion 1 = .ok (.aload_n 0, 1) := dk_42 (dk_at dksX8_checkVersion_0 1 rfl rfl)
theorem dX8_checkVersion_2 : decode cX8_checkVersion 2 = .ok (.iload_n 1, 1) := dk_27 (dk_at dksX8_checkVersion_0 2 rfl rfl)
theorem dX8_checkVersion_3 : decode cX8_checkVersion 3 = .ok (.invokevirtual 285, 3) := dk_182 1 29 (dk_at dksX8_checkVersion_0 3 rfl rfl)
theorem dX8_checkVersion_6 : decode cX8_checkVersion 6 = .ok (.iconst 1, 1) := dk_4 (dk_at dksX8_checkVersion_0 6 rfl rfl)
theorem dX8_checkVersion_7 : decode cX8_checkVersion 7 = .ok (.iconst 1, 1) := dk_4 (dk_at dksX8_checkVersion_0 7 rfl rfl)
theorem dX8_checkVersion_8 : decode cX8_checkVersion 8 = .ok (.invokevirtual 330, 3) := dk_182 1 74 (dk_at dksX8_checkVersion_0 8 rfl rfl)
theorem dX8_checkVersion_11 : decode cX8_checkVersion 11 = .ok (.ireturn, 1) := dk_172 (dk_at dksX8_checkVersion_0 11 rfl rfl)
abbrev cX8_check : ByteArray := prog_18_method_5_code
def yX8_check : MethodName := ⟨RX8, "check", "(ZZZ)Z"⟩
def dkwX8_check_1 : List UInt8 := [167, 0, 4, 3, 181, 0, 58, 42, 180, 0, 58, 154, 0, 7, 4, 167, 0, 4, 3, 172]
abbrev dktX8_check_1 : List UInt8 := dkwX8_check_1 ++ []
def dkwX8_check_0 : List UInt8 := [42, 27, 154, 0, 7, 4, 167, 0, 20, 28, 154, 0, 7, 5, 167, 0, 12, 29, 154, 0, 7, 6]
abbrev dktX8_check_0 : List UInt8 := dkwX8_check_0 ++ dktX8_check_1
theorem dksX8_check_0 : cX8_check.data.toList.drop 0 = dktX8_check_0 := by decide +kernel
theorem dksX8_check_1 : cX8_check.data.toList.drop 22 = dktX8_check_1 := dk_seg dksX8_check_0 22 rfl rfl
theorem dX8_check_0 : decode cX8_check 0 = .ok (.aload_n 0, 1) := dk_42 (dk_at dksX8_check_0 0 rfl rfl)
theorem dX8_check_1 : decode cX8_check 1 = .ok (.iload_n 1, 1) := dk_27 (dk_at dksX8_check_0 1 rfl rfl)
theorem dX8_check_2 : decode cX8_check 2 = .ok (.ifCond .ne 7, 3) := dk_154 0 7 (dk_at dksX8_check_0 2 rfl rfl)
theorem dX8_check_5 : decode cX8_check 5 = .ok (.iconst 1, 1) := dk_4 (dk_at dksX8_check_0 5 rfl rfl)
theorem dX8_check_6 : decode cX8_check 6 = .ok (.goto 20, 3) := dk_167 0 20 (dk_at dksX8_check_0 6 rfl rfl)
theorem dX8_check_9 : decode cX8_check 9 = .ok (.iload_n 2, 1) := dk_28 (dk_at dksX8_check_0 9 rfl rfl)
theorem dX8_check_10 : decode cX8_check 10 = .ok (.ifCond .ne 7, 3) := dk_154 0 7 (dk_at dksX8_check_0 10 rfl rfl)
theorem dX8_check_13 : decode cX8_check 13 = .ok (.iconst 2, 1) := dk_5 (dk_at dksX8_check_0 13 rfl rfl)
theorem dX8_check_14 : decode cX8_check 14 = .ok (.goto 12, 3) := dk_167 0 12 (dk_at dksX8_check_0 14 rfl rfl)
theorem dX8_check_17 : decode cX8_check 17 = .ok (.iload_n 3, 1) := dk_29 (dk_at dksX8_check_0 17 rfl rfl)
theorem dX8_check_18 : decode cX8_check 18 = .ok (.ifCond .ne 7, 3) := dk_154 0 7 (dk_at dksX8_check_0 18 rfl rfl)
theorem dX8_check_21 : decode cX8_check 21 = .ok (.iconst 3, 1) := dk_6 (dk_at dksX8_check_0 21 rfl rfl)
theorem dX8_check_22 : decode cX8_check 22 = .ok (.goto 4, 3) := dk_167 0 4 (dk_at dksX8_check_1 0 rfl rfl)
theorem dX8_check_25 : decode cX8_check 25 = .ok (.iconst 0, 1) := dk_3 (dk_at dksX8_check_1 3 rfl rfl)
theorem dX8_check_26 : decode cX8_check 26 = .ok (.putfield 58, 3) := dk_181 0 58 (dk_at dksX8_check_1 4 rfl rfl)
theorem dX8_check_29 : decode cX8_check 29 = .ok (.aload_n 0, 1) := dk_42 (dk_at dksX8_check_1 7 rfl rfl)
theorem dX8_check_30 : decode cX8_check 30 = .ok (.getfield 58, 3) := dk_180 0 58 (dk_at dksX8_check_1 8 rfl rfl)
theorem dX8_check_33 : decode cX8_check 33 = .ok (.ifCond .ne 7, 3) := dk_154 0 7 (dk_at dksX8_check_1 11 rfl rfl)
theorem dX8_check_36 : decode cX8_check 36 = .ok (.iconst 1, 1) := dk_4 (dk_at dksX8_check_1 14 rfl rfl)
theorem dX8_check_37 : decode cX8_check 37 = .ok (.goto 4, 3) := dk_167 0 4 (dk_at dksX8_check_1 15 rfl rfl)
theorem dX8_check_40 : decode cX8_check 40 = .ok (.iconst 0, 1) := dk_3 (dk_at dksX8_check_1 18 rfl rfl)
theorem dX8_check_41 : decode cX8_check 41 = .ok (.ireturn, 1) := dk_172 (dk_at dksX8_check_1 19 rfl rfl)
abbrev cX8_parentOf : ByteArray := prog_18_method_79_code
def yX8_parentOf : MethodName := ⟨RX8, "parentOf", "(I)I"⟩
def dkwX8_parentOf_0 : List UInt8 := [42, 27, 182, 1, 78, 153, 0, 17, 42, 180, 0, 9, 27, 184, 0, 112, 6, 96, 46, 167, 0, 4, 3, 172]
abbrev dktX8_parentOf_0 : List UInt8 := dkwX8_parentOf_0 ++ []
theorem dksX8_parentOf_0 : cX8_parentOf.data.toList.drop 0 = dktX8_parentOf_0 := by decide +kernel
theorem dX8_parentOf_0 : decode cX8_parentOf 0 = .ok (.aload_n 0, 1) := dk_42 (dk_at dksX8_parentOf_0 0 rfl rfl)
theorem dX8_parentOf_1 : decode cX8_parentOf 1 = .ok (.iload_n 1, 1) := dk_27 (dk_at dksX8_parentOf_0 1 rfl rfl)
theorem dX8_parentOf_2 : decode cX8_parentOf 2 = .ok (.invokevirtual 334, 3) := dk_182 1 78 (dk_at dksX8_parentOf_0 2 rfl rfl)
theorem dX8_parentOf_5 : decode cX8_parentOf 5 = .ok (.ifCond .eq 17, 3) := dk_153 0 17 (dk_at dksX8_parentOf_0 5 rfl rfl)
theorem dX8_parentOf_8 : decode cX8_parentOf 8 = .ok (.aload_n 0, 1) := dk_42 (dk_at dksX8_parentOf_0 8 rfl rfl)
theorem dX8_parentOf_9 : decode cX8_parentOf 9 = .ok (.getfield 9, 3) := dk_180 0 9 (dk_at dksX8_parentOf_0 9 rfl rfl)
theorem dX8_parentOf_12 : decode cX8_parentOf 12 = .ok (.iload_n 1, 1) := dk_27 (dk_at dksX8_parentOf_0 12 rfl rfl)
theorem dX8_parentOf_13 : decode cX8_parentOf 13 = .ok (.invokestatic 112, 3) := dk_184 0 112 (dk_at dksX8_parentOf_0 13 rfl rfl)
theorem dX8_parentOf_16 : decode cX8_parentOf 16 = .ok (.iconst 3, 1) := dk_6 (dk_at dksX8_parentOf_0 16 rfl rfl)
theorem dX8_parentOf_17 : decode cX8_parentOf 17 = .ok (.iadd, 1) := dk_96 (dk_at dksX8_parentOf_0 17 rfl rfl)
theorem dX8_parentOf_18 : decode cX8_parentOf 18 = .ok (.iaload, 1) := dk_46 (dk_at dksX8_parentOf_0 18 rfl rfl)
theorem dX8_parentOf_19 : decode cX8_parentOf 19 = .ok (.goto 4, 3) := dk_167 0 4 (dk_at dksX8_parentOf_0 19 rfl rfl)
theorem dX8_parentOf_22 : decode cX8_parentOf 22 = .ok (.iconst 0, 1) := dk_3 (dk_at dksX8_parentOf_0 22 rfl rfl)
theorem dX8_parentOf_23 : decode cX8_parentOf 23 = .ok (.ireturn, 1) := dk_172 (dk_at dksX8_parentOf_0 23 rfl rfl)
abbrev cX8_depthOf : ByteArray := prog_18_method_81_code
def yX8_depthOf : MethodName := ⟨RX8, "depthOf", "(I)I"⟩
def dkwX8_depthOf_0 : List UInt8 := [42, 27, 182, 1, 78, 153, 0, 11, 42, 27, 182, 1, 81, 167, 0, 4, 3, 172]
abbrev dktX8_depthOf_0 : List UInt8 := dkwX8_depthOf_0 ++ []
theorem dksX8_depthOf_0 : cX8_depthOf.data.toList.drop 0 = dktX8_depthOf_0 := by decide +kernel
theorem dX8_depthOf_0 : decode cX8_depthOf 0 = .ok (.aload_n 0, 1) := dk_42 (dk_at dksX8_depthOf_0 0 rfl rfl)
theorem dX8_depthOf_1 : decode cX8_depthOf 1 = .ok (.iload_n 1, 1) := dk_27 (dk_at dksX8_depthOf_0 1 rfl rfl)
theorem dX8_depthOf_2 : decode cX8_depthOf 2 = .ok (.invokevirtual 334, 3) := dk_182 1 78 (dk_at dksX8_depthOf_0 2 rfl rfl)
theorem dX8_depthOf_5 : decode cX8_depthOf 5 = .ok (.ifCond .eq 11, 3) := dk_153 0 11 (dk_at dksX8_depthOf_0 5 rfl rfl)
theorem dX8_depthOf_8 : decode cX8_depthOf 8 = .ok (.aload_n 0, 1) := dk_42 (dk_at dksX8_depthOf_0 8 rfl rfl)
theorem dX8_depthOf_9 : decode cX8_depthOf 9 = .ok (.iload_n 1, 1) := dk_27 (dk_at dksX8_depthOf_0 9 rfl rfl)
theorem dX8_depthOf_10 : decode cX8_depthOf 10 = .ok (.invokevirtual 337, 3) := dk_182 1 81 (dk_at dksX8_depthOf_0 10 rfl rfl)
theorem dX8_depthOf_13 : decode cX8_depthOf 13 = .ok (.goto 4, 3) := dk_167 0 4 (dk_at dksX8_depthOf_0 13 rfl rfl)
theorem dX8_depthOf_16 : decode cX8_depthOf 16 = .ok (.iconst 0, 1) := dk_3 (dk_at dksX8_depthOf_0 16 rfl rfl)
theorem dX8_depthOf_17 : decode cX8_depthOf 17 = .ok (.ireturn, 1) := dk_172 (dk_at dksX8_depthOf_0 17 rfl rfl)
abbrev cX8_depth : ByteArray := prog_18_method_80_code
def yX8_depth : MethodName := ⟨RX8, "depth", "(I)I"⟩
def dkwX8_depth_1 : List UInt8 := [180, 0, 9, 29, 184, 0, 112, 6, 96, 46, 62, 167, 255, 236, 28, 172]
abbrev dktX8_depth_1 : List UInt8 := dkwX8_depth_1 ++ []
def dkwX8_depth_0 : List UInt8 := [3, 61, 42, 180, 0, 9, 27, 184, 0, 112, 6, 96, 46, 62, 29, 2, 159, 0, 21, 132, 2, 1, 42]
abbrev dktX8_depth_0 : List UInt8 := dkwX8_depth_0 ++ dktX8_depth_1
theorem dksX8_depth_0 : cX8_depth.data.toList.drop 0 = dktX8_depth_0 := by decide +kernel
theorem dksX8_depth_1 : cX8_depth.data.toList.drop 23 = dktX8_depth_1 := dk_seg dksX8_depth_0 23 rfl rfl
theorem dX8_depth_0 : decode cX8_depth 0 = .ok (.iconst 0, 1) := dk_3 (dk_at dksX8_depth_0 0 rfl rfl)
theorem dX8_depth_1 : decode cX8_depth 1 = .ok (.istore_n 2, 1) := dk_61 (dk_at dksX8_depth_0 1 rfl rfl)
theorem dX8_depth_2 : decode cX8_depth 2 = .ok (.aload_n 0, 1) := dk_42 (dk_at dksX8_depth_0 2 rfl rfl)
theorem dX8_depth_3 : decode cX8_depth 3 = .ok (.getfield 9, 3) := dk_180 0 9 (dk_at dksX8_depth_0 3 rfl rfl)
theorem dX8_depth_6 : decode cX8_depth 6 = .ok (.iload_n 1, 1) := dk_27 (dk_at dksX8_depth_0 6 rfl rfl)
theorem dX8_depth_7 : decode cX8_depth 7 = .ok (.invokestatic 112, 3) := dk_184 0 112 (dk_at dksX8_depth_0 7 rfl rfl)
theorem dX8_depth_10 : decode cX8_depth 10 = .ok (.iconst 3, 1) := dk_6 (dk_at dksX8_depth_0 10 rfl rfl)
theorem dX8_depth_11 : decode cX8_depth 11 = .ok (.iadd, 1) := dk_96 (dk_at dksX8_depth_0 11 rfl rfl)
theorem dX8_depth_12 : decode cX8_depth 12 = .ok (.iaload, 1) := dk_46 (dk_at dksX8_depth_0 12 rfl rfl)
theorem dX8_depth_13 : decode cX8_depth 13 = .ok (.istore_n 3, 1) := dk_62 (dk_at dksX8_depth_0 13 rfl rfl)
theorem dX8_depth_14 : decode cX8_depth 14 = .ok (.iload_n 3, 1) := dk_29 (dk_at dksX8_depth_0 14 rfl rfl)
theorem dX8_depth_15 : decode cX8_depth 15 = .ok (.iconst (-1), 1) := dk_2 (dk_at dksX8_depth_0 15 rfl rfl)
theorem dX8_depth_16 : decode cX8_depth 16 = .ok (.if_icmp .eq 21, 3) := dk_159 0 21 (dk_at dksX8_depth_0 16 rfl rfl)
theorem dX8_depth_19 : decode cX8_depth 19 = .ok (.iinc 2 1, 3) := dk_132 2 1 (dk_at dksX8_depth_0 19 rfl rfl)
theorem dX8_depth_22 : decode cX8_depth 22 = .ok (.aload_n 0, 1) := dk_42 (dk_at dksX8_depth_0 22 rfl rfl)
theorem dX8_depth_23 : decode cX8_depth 23 = .ok (.getfield 9, 3) := dk_180 0 9 (dk_at dksX8_depth_1 0 rfl rfl)
theorem dX8_depth_26 : decode cX8_depth 26 = .ok (.iload_n 3, 1) := dk_29 (dk_at dksX8_depth_1 3 rfl rfl)
theorem dX8_depth_27 : decode cX8_depth 27 = .ok (.invokestatic 112, 3) := dk_184 0 112 (dk_at dksX8_depth_1 4 rfl rfl)
theorem dX8_depth_30 : decode cX8_depth 30 = .ok (.iconst 3, 1) := dk_6 (dk_at dksX8_depth_1 7 rfl rfl)
theorem dX8_depth_31 : decode cX8_depth 31 = .ok (.iadd, 1) := dk_96 (dk_at dksX8_depth_1 8 rfl rfl)
theorem dX8_depth_32 : decode cX8_depth 32 = .ok (.iaload, 1) := dk_46 (dk_at dksX8_depth_1 9 rfl rfl)
theorem dX8_depth_33 : decode cX8_depth 33 = .ok (.istore_n 3, 1) := dk_62 (dk_at dksX8_depth_1 10 rfl rfl)
theorem dX8_depth_34 : decode cX8_depth 34 = .ok (.goto (-20), 3) := dk_167 255 236 (dk_at dksX8_depth_1 11 rfl rfl)
theorem dX8_depth_37 : decode cX8_depth 37 = .ok (.iload_n 2, 1) := dk_28 (dk_at dksX8_depth_1 14 rfl rfl)
theorem dX8_depth_38 : decode cX8_depth 38 = .ok (.ireturn, 1) := dk_172 (dk_at dksX8_depth_1 15 rfl rfl)
abbrev cX8_childCount : ByteArray := prog_18_method_82_code
def yX8_childCount : MethodName := ⟨RX8, "childCount", "(I)I"⟩
def dkwX8_childCount_2 : List UInt8 := [96, 61, 132, 3, 1, 167, 255, 217, 28, 172]
abbrev dktX8_childCount_2 : List UInt8 := dkwX8_childCount_2 ++ []
def dkwX8_childCount_1 : List UInt8 := [28, 42, 180, 0, 9, 29, 184, 0, 112, 6, 96, 46, 27, 160, 0, 7, 4, 167, 0, 4, 3, 184, 0, 75]
abbrev dktX8_childCount_1 : List UInt8 := dkwX8_childCount_1 ++ dktX8_childCount_2
def dkwX8_childCount_0 : List UInt8 := [42, 27, 182, 1, 78, 154, 0, 5, 3, 172, 3, 61, 3, 62, 29, 42, 180, 0, 9, 3, 46, 162, 0, 35]
abbrev dktX8_childCount_0 : List UInt8 := dkwX8_childCount_0 ++ dktX8_childCount_1
theorem dksX8_childCount_0 : cX8_childCount.data.toList.drop 0 = dktX8_childCount_0 := by decide +kernel
theorem dksX8_childCount_1 : cX8_childCount.data.toList.drop 24 = dktX8_childCount_1 := dk_seg dksX8_childCount_0 24 rfl rfl
theorem dksX8_childCount_2 : cX8_childCount.data.toList.drop 48 = dktX8_childCount_2 := dk_seg dksX8_childCount_1 24 rfl rfl
theorem dX8_childCount_0 : decode cX8_childCount 0 = .ok (.aload_n 0, 1) := dk_42 (dk_at dksX8_childCount_0 0 rfl rfl)
theorem dX8_childCount_1 : decode cX8_childCount 1 = .ok (.iload_n 1, 1) := dk_27 (dk_at dksX8_childCount_0 1 rfl rfl)
theorem dX8_childCount_2 : decode cX8_childCount 2 = .ok (.invokevirtual 334, 3) := dk_182 1 78 (dk_at dksX8_childCount_0 2 rfl rfl)
theorem dX8_childCount_5 : decode cX8_childCount 5 = .ok (.ifCond .ne 5, 3) := dk_154 0 5 (dk_at dksX8_childCount_0 5 rfl rfl)
theorem dX8_childCount_8 : decode cX8_childCount 8 = .ok (.iconst 0, 1) := dk_3 (dk_at dksX8_childCount_0 8 rfl rfl)
theorem dX8_childCount_9 : decode cX8_childCount 9 = .ok (.ireturn, 1) := dk_172 (dk_at dksX8_childCount_0 9 rfl rfl)
theorem dX8_childCount_10 : decode cX8_childCount 10 = .ok (.iconst 0, 1) := dk_3 (dk_at dksX8_childCount_0 10 rfl rfl)
theorem dX8_childCount_11 : decode cX8_childCount 11 = .ok (.istore_n 2, 1) := dk_61 (dk_at dksX8_childCount_0 11 rfl rfl)
theorem dX8_childCount_12 : decode cX8_childCount 12 = .ok (.iconst 0, 1) := dk_3 (dk_at dksX8_childCount_0 12 rfl rfl)
theorem dX8_childCount_13 : decode cX8_childCount 13 = .ok (.istore_n 3, 1) := dk_62 (dk_at dksX8_childCount_0 13 rfl rfl)
theorem dX8_childCount_14 : decode cX8_childCount 14 = .ok (.iload_n 3, 1) := dk_29 (dk_at dksX8_childCount_0 14 rfl rfl)
theorem dX8_childCount_15 : decode cX8_childCount 15 = .ok (.aload_n 0, 1) := dk_42 (dk_at dksX8_childCount_0 15 rfl rfl)
theorem dX8_childCount_16 : decode cX8_childCount 16 = .ok (.getfield 9, 3) := dk_180 0 9 (dk_at dksX8_childCount_0 16 rfl rfl)
theorem dX8_childCount_19 : decode cX8_childCount 19 = .ok (.iconst 0, 1) := dk_3 (dk_at dksX8_childCount_0 19 rfl rfl)
theorem dX8_childCount_20 : decode cX8_childCount 20 = .ok (.iaload, 1) := dk_46 (dk_at dksX8_childCount_0 20 rfl rfl)
theorem dX8_childCount_21 : decode cX8_childCount 21 = .ok (.if_icmp .ge 35, 3) := dk_162 0 35 (dk_at dksX8_childCount_0 21 rfl rfl)
theorem dX8_childCount_24 : decode cX8_childCount 24 = .ok (.iload_n 2, 1) := dk_28 (dk_at dksX8_childCount_1 0 rfl rfl)
theorem dX8_childCount_25 : decode cX8_childCount 25 = .ok (.aload_n 0, 1) := dk_42 (dk_at dksX8_childCount_1 1 rfl rfl)
theorem dX8_childCount_26 : decode cX8_childCount 26 = .ok (.getfield 9, 3) := dk_180 0 9 (dk_at dksX8_childCount_1 2 rfl rfl)
theorem dX8_childCount_29 : decode cX8_childCount 29 = .ok (.iload_n 3, 1) := dk_29 (dk_at dksX8_childCount_1 5 rfl rfl)
theorem dX8_childCount_30 : decode cX8_childCount 30 = .ok (.invokestatic 112, 3) := dk_184 0 112 (dk_at dksX8_childCount_1 6 rfl rfl)
theorem dX8_childCount_33 : decode cX8_childCount 33 = .ok (.iconst 3, 1) := dk_6 (dk_at dksX8_childCount_1 9 rfl rfl)
theorem dX8_childCount_34 : decode cX8_childCount 34 = .ok (.iadd, 1) := dk_96 (dk_at dksX8_childCount_1 10 rfl rfl)
theorem dX8_childCount_35 : decode cX8_childCount 35 = .ok (.iaload, 1) := dk_46 (dk_at dksX8_childCount_1 11 rfl rfl)
theorem dX8_childCount_36 : decode cX8_childCount 36 = .ok (.iload_n 1, 1) := dk_27 (dk_at dksX8_childCount_1 12 rfl rfl)
theorem dX8_childCount_37 : decode cX8_childCount 37 = .ok (.if_icmp .ne 7, 3) := dk_160 0 7 (dk_at dksX8_childCount_1 13 rfl rfl)
theorem dX8_childCount_40 : decode cX8_childCount 40 = .ok (.iconst 1, 1) := dk_4 (dk_at dksX8_childCount_1 16 rfl rfl)
theorem dX8_childCount_41 : decode cX8_childCount 41 = .ok (.goto 4, 3) := dk_167 0 4 (dk_at dksX8_childCount_1 17 rfl rfl)
theorem dX8_childCount_44 : decode cX8_childCount 44 = .ok (.iconst 0, 1) := dk_3 (dk_at dksX8_childCount_1 20 rfl rfl)
theorem dX8_childCount_45 : decode cX8_childCount 45 = .ok (.invokestatic 75, 3) := dk_184 0 75 (dk_at dksX8_childCount_1 21 rfl rfl)
theorem dX8_childCount_48 : decode cX8_childCount 48 = .ok (.iadd, 1) := dk_96 (dk_at dksX8_childCount_2 0 rfl rfl)
theorem dX8_childCount_49 : decode cX8_childCount 49 = .ok (.istore_n 2, 1) := dk_61 (dk_at dksX8_childCount_2 1 rfl rfl)
theorem dX8_childCount_50 : decode cX8_childCount 50 = .ok (.iinc 3 1, 3) := dk_132 3 1 (dk_at dksX8_childCount_2 2 rfl rfl)
theorem dX8_childCount_53 : decode cX8_childCount 53 = .ok (.goto (-39), 3) := dk_167 255 217 (dk_at dksX8_childCount_2 5 rfl rfl)
theorem dX8_childCount_56 : decode cX8_childCount 56 = .ok (.iload_n 2, 1) := dk_28 (dk_at dksX8_childCount_2 8 rfl rfl)
theorem dX8_childCount_57 : decode cX8_childCount 57 = .ok (.ireturn, 1) := dk_172 (dk_at dksX8_childCount_2 9 rfl rfl)
abbrev cX8_commonAncestor : ByteArray := prog_18_method_83_code
def yX8_commonAncestor : MethodName := ⟨RX8, "commonAncestor", "(II)I"⟩
def dkwX8_commonAncestor_3 : List UInt8 := [42, 180, 0, 9, 21, 4, 184, 0, 112, 6, 96, 46, 54, 4, 167, 255, 207, 29, 172]
abbrev dktX8_commonAncestor_3 : List UInt8 := dkwX8_commonAncestor_3 ++ []
def dkwX8_commonAncestor_2 : List UInt8 := [42, 21, 4, 182, 1, 81, 161, 0, 18, 42, 180, 0, 9, 29, 184, 0, 112, 6, 96, 46, 62, 167, 255, 224]
abbrev dktX8_commonAncestor_2 : List UInt8 := dkwX8_commonAncestor_2 ++ dktX8_commonAncestor_3
def dkwX8_commonAncestor_1 : List UInt8 := [182, 1, 74, 154, 0, 5, 3, 172, 27, 62, 28, 54, 4, 29, 21, 4, 159, 0, 49, 42, 29, 182, 1, 81]
abbrev dktX8_commonAncestor_1 : List UInt8 := dkwX8_commonAncestor_1 ++ dktX8_commonAncestor_2
def dkwX8_commonAncestor_0 : List UInt8 := [42, 42, 27, 182, 1, 29, 153, 0, 15, 42, 28, 182, 1, 29, 153, 0, 7, 4, 167, 0, 4, 3, 4, 4]
abbrev dktX8_commonAncestor_0 : List UInt8 := dkwX8_commonAncestor_0 ++ dktX8_commonAncestor_1
theorem dksX8_commonAncestor_0 : cX8_commonAncestor.data.toList.drop 0 = dktX8_commonAncestor_0 := by decide +kernel
theorem dksX8_commonAncestor_1 : cX8_commonAncestor.data.toList.drop 24 = dktX8_commonAncestor_1 := dk_seg dksX8_commonAncestor_0 24 rfl rfl
theorem dksX8_commonAncestor_2 : cX8_commonAncestor.data.toList.drop 48 = dktX8_commonAncestor_2 := dk_seg dksX8_commonAncestor_1 24 rfl rfl
theorem dksX8_commonAncestor_3 : cX8_commonAncestor.data.toList.drop 72 = dktX8_commonAncestor_3 := dk_seg dksX8_commonAncestor_2 24 rfl rfl
theorem dX8_commonAncestor_0 : decode cX8_commonAncestor 0 = .ok (.aload_n 0, 1) := dk_42 (dk_at dksX8_commonAncestor_0 0 rfl rfl)
theorem dX8_commonAncestor_1 : decode cX8_commonAncestor 1 = .ok (.aload_n 0, 1) := dk_42 (dk_at dksX8_commonAncestor_0 1 rfl rfl)
theorem dX8_commonAncestor_2 : decode cX8_commonAncestor 2 = .ok (.iload_n 1, 1) := dk_27 (dk_at dksX8_commonAncestor_0 2 rfl rfl)
theorem dX8_commonAncestor_3 : decode cX8_commonAncestor 3 = .ok (.invokevirtual 285, 3) := dk_182 1 29 (dk_at dksX8_commonAncestor_0 3 rfl rfl)
theorem dX8_commonAncestor_6 : decode cX8_commonAncestor 6 = .ok (.ifCond .eq 15, 3) := dk_153 0 15 (dk_at dksX8_commonAncestor_0 6 rfl rfl)
theorem dX8_commonAncestor_9 : decode cX8_commonAncestor 9 = .ok (.aload_n 0, 1) := dk_42 (dk_at dksX8_commonAncestor_0 9 rfl rfl)
theorem dX8_commonAncestor_10 : decode cX8_commonAncestor 10 = .ok (.iload_n 2, 1) := dk_28 (dk_at dksX8_commonAncestor_0 10 rfl rfl)
theorem dX8_commonAncestor_11 : decode cX8_commonAncestor 11 = .ok (.invokevirtual 285, 3) := dk_182 1 29 (dk_at dksX8_commonAncestor_0 11 rfl rfl)
theorem dX8_commonAncestor_14 : decode cX8_commonAncestor 14 = .ok (.ifCond .eq 7, 3) := dk_153 0 7 (dk_at dksX8_commonAncestor_0 14 rfl rfl)
theorem dX8_commonAncestor_17 : decode cX8_commonAncestor 17 = .ok (.iconst 1, 1) := dk_4 (dk_at dksX8_commonAncestor_0 17 rfl rfl)
theorem dX8_commonAncestor_18 : decode cX8_commonAncestor 18 = .ok (.goto 4, 3) := dk_167 0 4 (dk_at dksX8_commonAncestor_0 18 rfl rfl)
theorem dX8_commonAncestor_21 : decode cX8_commonAncestor 21 = .ok (.iconst 0, 1) := dk_3 (dk_at dksX8_commonAncestor_0 21 rfl rfl)
theorem dX8_commonAncestor_22 : decode cX8_commonAncestor 22 = .ok (.iconst 1, 1) := dk_4 (dk_at dksX8_commonAncestor_0 22 rfl rfl)
theorem dX8_commonAncestor_23 : decode cX8_commonAncestor 23 = .ok (.iconst 1, 1) := dk_4 (dk_at dksX8_commonAncestor_0 23 rfl rfl)
theorem dX8_commonAncestor_24 : decode cX8_commonAncestor 24 = .ok (.invokevirtual 330, 3) := dk_182 1 74 (dk_at dksX8_commonAncestor_1 0 rfl rfl)
theorem dX8_commonAncestor_27 : decode cX8_commonAncestor 27 = .ok (.ifCond .ne 5, 3) := dk_154 0 5 (dk_at dksX8_commonAncestor_1 3 rfl rfl)
theorem dX8_commonAncestor_30 : decode cX8_commonAncestor 30 = .ok (.iconst 0, 1) := dk_3 (dk_at dksX8_commonAncestor_1 6 rfl rfl)
theorem dX8_commonAncestor_31 : decode cX8_commonAncestor 31 = .ok (.ireturn, 1) := dk_172 (dk_at dksX8_commonAncestor_1 7 rfl rfl)
theorem dX8_commonAncestor_32 : decode cX8_commonAncestor 32 = .ok (.iload_n 1, 1) := dk_27 (dk_at dksX8_commonAncestor_1 8 rfl rfl)
theorem dX8_commonAncestor_33 : decode cX8_commonAncestor 33 = .ok (.istore_n 3, 1) := dk_62 (dk_at dksX8_commonAncestor_1 9 rfl rfl)
theorem dX8_commonAncestor_34 : decode cX8_commonAncestor 34 = .ok (.iload_n 2, 1) := dk_28 (dk_at dksX8_commonAncestor_1 10 rfl rfl)
theorem dX8_commonAncestor_35 : decode cX8_commonAncestor 35 = .ok (.istore 4, 2) := dk_54 4 (dk_at dksX8_commonAncestor_1 11 rfl rfl)
theorem dX8_commonAncestor_37 : decode cX8_commonAncestor 37 = .ok (.iload_n 3, 1) := dk_29 (dk_at dksX8_commonAncestor_1 13 rfl rfl)
theorem dX8_commonAncestor_38 : decode cX8_commonAncestor 38 = .ok (.iload 4, 2) := dk_21 4 (dk_at dksX8_commonAncestor_1 14 rfl rfl)
theorem dX8_commonAncestor_40 : decode cX8_commonAncestor 40 = .ok (.if_icmp .eq 49, 3) := dk_159 0 49 (dk_at dksX8_commonAncestor_1 16 rfl rfl)
theorem dX8_commonAncestor_43 : decode cX8_commonAncestor 43 = .ok (.aload_n 0, 1) := dk_42 (dk_at dksX8_commonAncestor_1 19 rfl rfl)
theorem dX8_commonAncestor_44 : decode cX8_commonAncestor 44 = .ok (.iload_n 3, 1) := dk_29 (dk_at dksX8_commonAncestor_1 20 rfl rfl)
theorem dX8_commonAncestor_45 : decode cX8_commonAncestor 45 = .ok (.invokevirtual 337, 3) := dk_182 1 81 (dk_at dksX8_commonAncestor_1 21 rfl rfl)
theorem dX8_commonAncestor_48 : decode cX8_commonAncestor 48 = .ok (.aload_n 0, 1) := dk_42 (dk_at dksX8_commonAncestor_2 0 rfl rfl)
theorem dX8_commonAncestor_49 : decode cX8_commonAncestor 49 = .ok (.iload 4, 2) := dk_21 4 (dk_at dksX8_commonAncestor_2 1 rfl rfl)
theorem dX8_commonAncestor_51 : decode cX8_commonAncestor 51 = .ok (.invokevirtual 337, 3) := dk_182 1 81 (dk_at dksX8_commonAncestor_2 3 rfl rfl)
theorem dX8_commonAncestor_54 : decode cX8_commonAncestor 54 = .ok (.if_icmp .lt 18, 3) := dk_161 0 18 (dk_at dksX8_commonAncestor_2 6 rfl rfl)
theorem dX8_commonAncestor_57 : decode cX8_commonAncestor 57 = .ok (.aload_n 0, 1) := dk_42 (dk_at dksX8_commonAncestor_2 9 rfl rfl)
theorem dX8_commonAncestor_58 : decode cX8_commonAncestor 58 = .ok (.getfield 9, 3) := dk_180 0 9 (dk_at dksX8_commonAncestor_2 10 rfl rfl)
theorem dX8_commonAncestor_61 : decode cX8_commonAncestor 61 = .ok (.iload_n 3, 1) := dk_29 (dk_at dksX8_commonAncestor_2 13 rfl rfl)
theorem dX8_commonAncestor_62 : decode cX8_commonAncestor 62 = .ok (.invokestatic 112, 3) := dk_184 0 112 (dk_at dksX8_commonAncestor_2 14 rfl rfl)
theorem dX8_commonAncestor_65 : decode cX8_commonAncestor 65 = .ok (.iconst 3, 1) := dk_6 (dk_at dksX8_commonAncestor_2 17 rfl rfl)
theorem dX8_commonAncestor_66 : decode cX8_commonAncestor 66 = .ok (.iadd, 1) := dk_96 (dk_at dksX8_commonAncestor_2 18 rfl rfl)
theorem dX8_commonAncestor_67 : decode cX8_commonAncestor 67 = .ok (.iaload, 1) := dk_46 (dk_at dksX8_commonAncestor_2 19 rfl rfl)
theorem dX8_commonAncestor_68 : decode cX8_commonAncestor 68 = .ok (.istore_n 3, 1) := dk_62 (dk_at dksX8_commonAncestor_2 20 rfl rfl)
theorem dX8_commonAncestor_69 : decode cX8_commonAncestor 69 = .ok (.goto (-32), 3) := dk_167 255 224 (dk_at dksX8_commonAncestor_2 21 rfl rfl)
theorem dX8_commonAncestor_72 : decode cX8_commonAncestor 72 = .ok (.aload_n 0, 1) := dk_42 (dk_at dksX8_commonAncestor_3 0 rfl rfl)
theorem dX8_commonAncestor_73 : decode cX8_commonAncestor 73 = .ok (.getfield 9, 3) := dk_180 0 9 (dk_at dksX8_commonAncestor_3 1 rfl rfl)
theorem dX8_commonAncestor_76 : decode cX8_commonAncestor 76 = .ok (.iload 4, 2) := dk_21 4 (dk_at dksX8_commonAncestor_3 4 rfl rfl)
theorem dX8_commonAncestor_78 : decode cX8_commonAncestor 78 = .ok (.invokestatic 112, 3) := dk_184 0 112 (dk_at dksX8_commonAncestor_3 6 rfl rfl)
theorem dX8_commonAncestor_81 : decode cX8_commonAncestor 81 = .ok (.iconst 3, 1) := dk_6 (dk_at dksX8_commonAncestor_3 9 rfl rfl)
theorem dX8_commonAncestor_82 : decode cX8_commonAncestor 82 = .ok (.iadd, 1) := dk_96 (dk_at dksX8_commonAncestor_3 10 rfl rfl)
theorem dX8_commonAncestor_83 : decode cX8_commonAncestor 83 = .ok (.iaload, 1) := dk_46 (dk_at dksX8_commonAncestor_3 11 rfl rfl)
theorem dX8_commonAncestor_84 : decode cX8_commonAncestor 84 = .ok (.istore 4, 2) := dk_54 4 (dk_at dksX8_commonAncestor_3 12 rfl rfl)
theorem dX8_commonAncestor_86 : decode cX8_commonAncestor 86 = .ok (.goto (-49), 3) := dk_167 255 207 (dk_at dksX8_commonAncestor_3 14 rfl rfl)
theorem dX8_commonAncestor_89 : decode cX8_commonAncestor 89 = .ok (.iload_n 3, 1) := dk_29 (dk_at dksX8_commonAncestor_3 17 rfl rfl)
theorem dX8_commonAncestor_90 : decode cX8_commonAncestor 90 = .ok (.ireturn, 1) := dk_172 (dk_at dksX8_commonAncestor_3 18 rfl rfl)
abbrev cX8_size : ByteArray := prog_18_method_87_code
def yX8_size : MethodName := ⟨RX8, "size", "(I)I"⟩
def dkwX8_size_0 : List UInt8 := [42, 27, 182, 1, 87, 153, 0, 11, 42, 27, 182, 0, 121, 167, 0, 4, 3, 172]
abbrev dktX8_size_0 : List UInt8 := dkwX8_size_0 ++ []
theorem dksX8_size_0 : cX8_size.data.toList.drop 0 = dktX8_size_0 := by decide +kernel
theorem dX8_size_0 : decode cX8_size 0 = .ok (.aload_n 0, 1) := dk_42 (dk_at dksX8_size_0 0 rfl rfl)
theorem dX8_size_1 : decode cX8_size 1 = .ok (.iload_n 1, 1) := dk_27 (dk_at dksX8_size_0 1 rfl rfl)
theorem dX8_size_2 : decode cX8_size 2 = .ok (.invokevirtual 343, 3) := dk_182 1 87 (dk_at dksX8_size_0 2 rfl rfl)
theorem dX8_size_5 : decode cX8_size 5 = .ok (.ifCond .eq 11, 3) := dk_153 0 11 (dk_at dksX8_size_0 5 rfl rfl)
theorem dX8_size_8 : decode cX8_size 8 = .ok (.aload_n 0, 1) := dk_42 (dk_at dksX8_size_0 8 rfl rfl)
theorem dX8_size_9 : decode cX8_size 9 = .ok (.iload_n 1, 1) := dk_27 (dk_at dksX8_size_0 9 rfl rfl)
theorem dX8_size_10 : decode cX8_size 10 = .ok (.invokevirtual 121, 3) := dk_182 0 121 (dk_at dksX8_size_0 10 rfl rfl)
theorem dX8_size_13 : decode cX8_size 13 = .ok (.goto 4, 3) := dk_167 0 4 (dk_at dksX8_size_0 13 rfl rfl)
theorem dX8_size_16 : decode cX8_size 16 = .ok (.iconst 0, 1) := dk_3 (dk_at dksX8_size_0 16 rfl rfl)
theorem dX8_size_17 : decode cX8_size 17 = .ok (.ireturn, 1) := dk_172 (dk_at dksX8_size_0 17 rfl rfl)
abbrev cX8_checkLive : ByteArray := prog_18_method_84_code
def yX8_checkLive : MethodName := ⟨RX8, "checkLive", "(I)Z"⟩
def dkwX8_checkLive_1 : List UInt8 := [3, 4, 182, 1, 74, 172]
abbrev dktX8_checkLive_1 : List UInt8 := dkwX8_checkLive_1 ++ []
def dkwX8_checkLive_0 : List UInt8 := [42, 27, 182, 1, 29, 61, 42, 28, 28, 153, 0, 15, 42, 27, 182, 0, 164, 154, 0, 7, 4, 167, 0, 4]
abbrev dktX8_checkLive_0 : List UInt8 := dkwX8_checkLive_0 ++ dktX8_checkLive_1
theorem dksX8_checkLive_0 : cX8_checkLive.data.toList.drop 0 = dktX8_checkLive_0 := by decide +kernel
theorem dksX8_checkLive_1 : cX8_checkLive.data.toList.drop 24 = dktX8_checkLive_1 := dk_seg dksX8_checkLive_0 24 rfl rfl
theorem dX8_checkLive_0 : decode cX8_checkLive 0 = .ok (.aload_n 0, 1) := dk_42 (dk_at dksX8_checkLive_0 0 rfl rfl)
theorem dX8_checkLive_1 : decode cX8_checkLive 1 = .ok (.iload_n 1, 1) := dk_27 (dk_at dksX8_checkLive_0 1 rfl rfl)
theorem dX8_checkLive_2 : decode cX8_checkLive 2 = .ok (.invokevirtual 285, 3) := dk_182 1 29 (dk_at dksX8_checkLive_0 2 rfl rfl)
theorem dX8_checkLive_5 : decode cX8_checkLive 5 = .ok (.istore_n 2, 1) := dk_61 (dk_at dksX8_checkLive_0 5 rfl rfl)
theorem dX8_checkLive_6 : decode cX8_checkLive 6 = .ok (.aload_n 0, 1) := dk_42 (dk_at dksX8_checkLive_0 6 rfl rfl)
theorem dX8_checkLive_7 : decode cX8_checkLive 7 = .ok (.iload_n 2, 1) := dk_28 (dk_at dksX8_checkLive_0 7 rfl rfl)
theorem dX8_checkLive_8 : decode cX8_checkLive 8 = .ok (.iload_n 2, 1) := dk_28 (dk_at dksX8_checkLive_0 8 rfl rfl)
theorem dX8_checkLive_9 : decode cX8_checkLive 9 = .ok (.ifCond .eq 15, 3) := dk_153 0 15 (dk_at dksX8_checkLive_0 9 rfl rfl)
theorem dX8_checkLive_12 : decode cX8_checkLive 12 = .ok (.aload_n 0, 1) := dk_42 (dk_at dksX8_checkLive_0 12 rfl rfl)
theorem dX8_checkLive_13 : decode cX8_checkLive 13 = .ok (.iload_n 1, 1) := dk_27 (dk_at dksX8_checkLive_0 13 rfl rfl)
theorem dX8_checkLive_14 : decode cX8_checkLive 14 = .ok (.invokevirtual 164, 3) := dk_182 0 164 (dk_at dksX8_checkLive_0 14 rfl rfl)
theorem dX8_checkLive_17 : decode cX8_checkLive 17 = .ok (.ifCond .ne 7, 3) := dk_154 0 7 (dk_at dksX8_checkLive_0 17 rfl rfl)
theorem dX8_checkLive_20 : decode cX8_checkLive 20 = .ok (.iconst 1, 1) := dk_4 (dk_at dksX8_checkLive_0 20 rfl rfl)
theorem dX8_checkLive_21 : decode cX8_checkLive 21 = .ok (.goto 4, 3) := dk_167 0 4 (dk_at dksX8_checkLive_0 21 rfl rfl)
theorem dX8_checkLive_24 : decode cX8_checkLive 24 = .ok (.iconst 0, 1) := dk_3 (dk_at dksX8_checkLive_1 0 rfl rfl)
theorem dX8_checkLive_25 : decode cX8_checkLive 25 = .ok (.iconst 1, 1) := dk_4 (dk_at dksX8_checkLive_1 1 rfl rfl)
theorem dX8_checkLive_26 : decode cX8_checkLive 26 = .ok (.invokevirtual 330, 3) := dk_182 1 74 (dk_at dksX8_checkLive_1 2 rfl rfl)
theorem dX8_checkLive_29 : decode cX8_checkLive 29 = .ok (.ireturn, 1) := dk_172 (dk_at dksX8_checkLive_1 5 rfl rfl)
abbrev cX8_height : ByteArray := prog_18_method_88_code
def yX8_height : MethodName := ⟨RX8, "height", "(I)I"⟩
def dkwX8_height_0 : List UInt8 := [42, 27, 182, 1, 87, 153, 0, 11, 42, 27, 182, 0, 148, 167, 0, 4, 3, 172]
abbrev dktX8_height_0 : List UInt8 := dkwX8_height_0 ++ []
theorem dksX8_height_0 : cX8_height.data.toList.drop 0 = dktX8_height_0 := by decide +kernel
theorem dX8_height_0 : decode cX8_height 0 = .ok (.aload_n 0, 1) := dk_42 (dk_at dksX8_height_0 0 rfl rfl)
theorem dX8_height_1 : decode cX8_height 1 = .ok (.iload_n 1, 1) := dk_27 (dk_at dksX8_height_0 1 rfl rfl)
theorem dX8_height_2 : decode cX8_height 2 = .ok (.invokevirtual 343, 3) := dk_182 1 87 (dk_at dksX8_height_0 2 rfl rfl)
theorem dX8_height_5 : decode cX8_height 5 = .ok (.ifCond .eq 11, 3) := dk_153 0 11 (dk_at dksX8_height_0 5 rfl rfl)
theorem dX8_height_8 : decode cX8_height 8 = .ok (.aload_n 0, 1) := dk_42 (dk_at dksX8_height_0 8 rfl rfl)
theorem dX8_height_9 : decode cX8_height 9 = .ok (.iload_n 1, 1) := dk_27 (dk_at dksX8_height_0 9 rfl rfl)
theorem dX8_height_10 : decode cX8_height 10 = .ok (.invokevirtual 148, 3) := dk_182 0 148 (dk_at dksX8_height_0 10 rfl rfl)
theorem dX8_height_13 : decode cX8_height 13 = .ok (.goto 4, 3) := dk_167 0 4 (dk_at dksX8_height_0 13 rfl rfl)
theorem dX8_height_16 : decode cX8_height 16 = .ok (.iconst 0, 1) := dk_3 (dk_at dksX8_height_0 16 rfl rfl)
theorem dX8_height_17 : decode cX8_height 17 = .ok (.ireturn, 1) := dk_172 (dk_at dksX8_height_0 17 rfl rfl)
abbrev cX8_rootOf : ByteArray := prog_18_method_89_code
def yX8_rootOf : MethodName := ⟨RX8, "rootOf", "(I)I"⟩
def dkwX8_rootOf_0 : List UInt8 := [42, 27, 182, 1, 87, 153, 0, 11, 42, 27, 182, 0, 145, 167, 0, 4, 3, 172]
abbrev dktX8_rootOf_0 : List UInt8 := dkwX8_rootOf_0 ++ []
theorem dksX8_rootOf_0 : cX8_rootOf.data.toList.drop 0 = dktX8_rootOf_0 := by decide +kernel
theorem dX8_rootOf_0 : decode cX8_rootOf 0 = .ok (.aload_n 0, 1) := dk_42 (dk_at dksX8_rootOf_0 0 rfl rfl)
theorem dX8_rootOf_1 : decode cX8_rootOf 1 = .ok (.iload_n 1, 1) := dk_27 (dk_at dksX8_rootOf_0 1 rfl rfl)
theorem dX8_rootOf_2 : decode cX8_rootOf 2 = .ok (.invokevirtual 343, 3) := dk_182 1 87 (dk_at dksX8_rootOf_0 2 rfl rfl)
theorem dX8_rootOf_5 : decode cX8_rootOf 5 = .ok (.ifCond .eq 11, 3) := dk_153 0 11 (dk_at dksX8_rootOf_0 5 rfl rfl)
theorem dX8_rootOf_8 : decode cX8_rootOf 8 = .ok (.aload_n 0, 1) := dk_42 (dk_at dksX8_rootOf_0 8 rfl rfl)
theorem dX8_rootOf_9 : decode cX8_rootOf 9 = .ok (.iload_n 1, 1) := dk_27 (dk_at dksX8_rootOf_0 9 rfl rfl)
theorem dX8_rootOf_10 : decode cX8_rootOf 10 = .ok (.invokevirtual 145, 3) := dk_182 0 145 (dk_at dksX8_rootOf_0 10 rfl rfl)
theorem dX8_rootOf_13 : decode cX8_rootOf 13 = .ok (.goto 4, 3) := dk_167 0 4 (dk_at dksX8_rootOf_0 13 rfl rfl)
theorem dX8_rootOf_16 : decode cX8_rootOf 16 = .ok (.iconst 0, 1) := dk_3 (dk_at dksX8_rootOf_0 16 rfl rfl)
theorem dX8_rootOf_17 : decode cX8_rootOf 17 = .ok (.ireturn, 1) := dk_172 (dk_at dksX8_rootOf_0 17 rfl rfl)
abbrev cX8_get : ByteArray := prog_18_method_90_code
def yX8_get : MethodName := ⟨RX8, "get", "(II)I"⟩
def dkwX8_get_0 : List UInt8 := [42, 27, 28, 182, 1, 90, 153, 0, 12, 42, 27, 28, 182, 0, 129, 167, 0, 4, 3, 172]
abbrev dktX8_get_0 : List UInt8 := dkwX8_get_0 ++ []
theorem dksX8_get_0 : cX8_get.data.toList.drop 0 = dktX8_get_0 := by decide +kernel
theorem dX8_get_0 : decode cX8_get 0 = .ok (.aload_n 0, 1) := dk_42 (dk_at dksX8_get_0 0 rfl rfl)
theorem dX8_get_1 : decode cX8_get 1 = .ok (.iload_n 1, 1) := dk_27 (dk_at dksX8_get_0 1 rfl rfl)
theorem dX8_get_2 : decode cX8_get 2 = .ok (.iload_n 2, 1) := dk_28 (dk_at dksX8_get_0 2 rfl rfl)
theorem dX8_get_3 : decode cX8_get 3 = .ok (.invokevirtual 346, 3) := dk_182 1 90 (dk_at dksX8_get_0 3 rfl rfl)
theorem dX8_get_6 : decode cX8_get 6 = .ok (.ifCond .eq 12, 3) := dk_153 0 12 (dk_at dksX8_get_0 6 rfl rfl)
theorem dX8_get_9 : decode cX8_get 9 = .ok (.aload_n 0, 1) := dk_42 (dk_at dksX8_get_0 9 rfl rfl)
theorem dX8_get_10 : decode cX8_get 10 = .ok (.iload_n 1, 1) := dk_27 (dk_at dksX8_get_0 10 rfl rfl)
theorem dX8_get_11 : decode cX8_get 11 = .ok (.iload_n 2, 1) := dk_28 (dk_at dksX8_get_0 11 rfl rfl)
theorem dX8_get_12 : decode cX8_get 12 = .ok (.invokevirtual 129, 3) := dk_182 0 129 (dk_at dksX8_get_0 12 rfl rfl)
theorem dX8_get_15 : decode cX8_get 15 = .ok (.goto 4, 3) := dk_167 0 4 (dk_at dksX8_get_0 15 rfl rfl)
theorem dX8_get_18 : decode cX8_get 18 = .ok (.iconst 0, 1) := dk_3 (dk_at dksX8_get_0 18 rfl rfl)
theorem dX8_get_19 : decode cX8_get 19 = .ok (.ireturn, 1) := dk_172 (dk_at dksX8_get_0 19 rfl rfl)
abbrev cX8_checkElement : ByteArray := prog_18_method_86_code
def yX8_checkElement : MethodName := ⟨RX8, "checkElement", "(II)Z"⟩
def dkwX8_checkElement_1 : List UInt8 := [167, 0, 4, 3, 4, 182, 1, 74, 172]
abbrev dktX8_checkElement_1 : List UInt8 := dkwX8_checkElement_1 ++ []
def dkwX8_checkElement_0 : List UInt8 := [42, 27, 28, 182, 1, 84, 62, 42, 29, 29, 153, 0, 15, 42, 27, 182, 0, 164, 154, 0, 7, 4]
abbrev dktX8_checkElement_0 : List UInt8 := dkwX8_checkElement_0 ++ dktX8_checkElement_1
theorem dksX8_checkElement_0 : cX8_checkElement.data.toList.drop 0 = dktX8_checkElement_0 := by decide +kernel
theorem dksX8_checkElement_1 : cX8_checkElement.data.toList.drop 22 = dktX8_checkElement_1 := dk_seg dksX8_checkElement_0 22 rfl rfl
theorem dX8_checkElement_0 : decode cX8_checkElement 0 = .ok (.aload_n 0, 1) := dk_42 (dk_at dksX8_checkElement_0 0 rfl rfl)
theorem dX8_checkElement_1 : decode cX8_checkElement 1 = .ok (.iload_n 1, 1) := dk_27 (dk_at dksX8_checkElement_0 1 rfl rfl)
theorem dX8_checkElement_2 : decode cX8_checkElement 2 = .ok (.iload_n 2, 1) := dk_28 (dk_at dksX8_checkElement_0 2 rfl rfl)
theorem dX8_checkElement_3 : decode cX8_checkElement 3 = .ok (.invokevirtual 340, 3) := dk_182 1 84 (dk_at dksX8_checkElement_0 3 rfl rfl)
theorem dX8_checkElement_6 : decode cX8_checkElement 6 = .ok (.istore_n 3, 1) := dk_62 (dk_at dksX8_checkElement_0 6 rfl rfl)
theorem dX8_checkElement_7 : decode cX8_checkElement 7 = .ok (.aload_n 0, 1) := dk_42 (dk_at dksX8_checkElement_0 7 rfl rfl)
theorem dX8_checkElement_8 : decode cX8_checkElement 8 = .ok (.iload_n 3, 1) := dk_29 (dk_at dksX8_checkElement_0 8 rfl rfl)
theorem dX8_checkElement_9 : decode cX8_checkElement 9 = .ok (.iload_n 3, 1) := dk_29 (dk_at dksX8_checkElement_0 9 rfl rfl)
theorem dX8_checkElement_10 : decode cX8_checkElement 10 = .ok (.ifCond .eq 15, 3) := dk_153 0 15 (dk_at dksX8_checkElement_0 10 rfl rfl)
theorem dX8_checkElement_13 : decode cX8_checkElement 13 = .ok (.aload_n 0, 1) := dk_42 (dk_at dksX8_checkElement_0 13 rfl rfl)
theorem dX8_checkElement_14 : decode cX8_checkElement 14 = .ok (.iload_n 1, 1) := dk_27 (dk_at dksX8_checkElement_0 14 rfl rfl)
theorem dX8_checkElement_15 : decode cX8_checkElement 15 = .ok (.invokevirtual 164, 3) := dk_182 0 164 (dk_at dksX8_checkElement_0 15 rfl rfl)
theorem dX8_checkElement_18 : decode cX8_checkElement 18 = .ok (.ifCond .ne 7, 3) := dk_154 0 7 (dk_at dksX8_checkElement_0 18 rfl rfl)
theorem dX8_checkElement_21 : decode cX8_checkElement 21 = .ok (.iconst 1, 1) := dk_4 (dk_at dksX8_checkElement_0 21 rfl rfl)
theorem dX8_checkElement_22 : decode cX8_checkElement 22 = .ok (.goto 4, 3) := dk_167 0 4 (dk_at dksX8_checkElement_1 0 rfl rfl)
theorem dX8_checkElement_25 : decode cX8_checkElement 25 = .ok (.iconst 0, 1) := dk_3 (dk_at dksX8_checkElement_1 3 rfl rfl)
theorem dX8_checkElement_26 : decode cX8_checkElement 26 = .ok (.iconst 1, 1) := dk_4 (dk_at dksX8_checkElement_1 4 rfl rfl)
theorem dX8_checkElement_27 : decode cX8_checkElement 27 = .ok (.invokevirtual 330, 3) := dk_182 1 74 (dk_at dksX8_checkElement_1 5 rfl rfl)
theorem dX8_checkElement_30 : decode cX8_checkElement 30 = .ok (.ireturn, 1) := dk_172 (dk_at dksX8_checkElement_1 8 rfl rfl)
abbrev cX8_hasElement : ByteArray := prog_18_method_85_code
def yX8_hasElement : MethodName := ⟨RX8, "hasElement", "(II)Z"⟩
def dkwX8_hasElement_1 : List UInt8 := [4, 100, 133, 184, 0, 167, 153, 0, 7, 4, 167, 0, 4, 3, 172]
abbrev dktX8_hasElement_1 : List UInt8 := dkwX8_hasElement_1 ++ []
def dkwX8_hasElement_0 : List UInt8 := [42, 27, 182, 1, 29, 153, 0, 32, 42, 27, 182, 0, 164, 154, 0, 20, 28, 133, 9, 42, 27, 182, 0, 121]
abbrev dktX8_hasElement_0 : List UInt8 := dkwX8_hasElement_0 ++ dktX8_hasElement_1
theorem dksX8_hasElement_0 : cX8_hasElement.data.toList.drop 0 = dktX8_hasElement_0 := by decide +kernel
theorem dksX8_hasElement_1 : cX8_hasElement.data.toList.drop 24 = dktX8_hasElement_1 := dk_seg dksX8_hasElement_0 24 rfl rfl
theorem dX8_hasElement_0 : decode cX8_hasElement 0 = .ok (.aload_n 0, 1) := dk_42 (dk_at dksX8_hasElement_0 0 rfl rfl)
theorem dX8_hasElement_1 : decode cX8_hasElement 1 = .ok (.iload_n 1, 1) := dk_27 (dk_at dksX8_hasElement_0 1 rfl rfl)
theorem dX8_hasElement_2 : decode cX8_hasElement 2 = .ok (.invokevirtual 285, 3) := dk_182 1 29 (dk_at dksX8_hasElement_0 2 rfl rfl)
theorem dX8_hasElement_5 : decode cX8_hasElement 5 = .ok (.ifCond .eq 32, 3) := dk_153 0 32 (dk_at dksX8_hasElement_0 5 rfl rfl)
theorem dX8_hasElement_8 : decode cX8_hasElement 8 = .ok (.aload_n 0, 1) := dk_42 (dk_at dksX8_hasElement_0 8 rfl rfl)
theorem dX8_hasElement_9 : decode cX8_hasElement 9 = .ok (.iload_n 1, 1) := dk_27 (dk_at dksX8_hasElement_0 9 rfl rfl)
theorem dX8_hasElement_10 : decode cX8_hasElement 10 = .ok (.invokevirtual 164, 3) := dk_182 0 164 (dk_at dksX8_hasElement_0 10 rfl rfl)
theorem dX8_hasElement_13 : decode cX8_hasElement 13 = .ok (.ifCond .ne 20, 3) := dk_154 0 20 (dk_at dksX8_hasElement_0 13 rfl rfl)
theorem dX8_hasElement_16 : decode cX8_hasElement 16 = .ok (.iload_n 2, 1) := dk_28 (dk_at dksX8_hasElement_0 16 rfl rfl)
theorem dX8_hasElement_17 : decode cX8_hasElement 17 = .ok (.i2l, 1) := dk_133 (dk_at dksX8_hasElement_0 17 rfl rfl)
theorem dX8_hasElement_18 : decode cX8_hasElement 18 = .ok (.lconst 0, 1) := dk_9 (dk_at dksX8_hasElement_0 18 rfl rfl)
theorem dX8_hasElement_19 : decode cX8_hasElement 19 = .ok (.aload_n 0, 1) := dk_42 (dk_at dksX8_hasElement_0 19 rfl rfl)
theorem dX8_hasElement_20 : decode cX8_hasElement 20 = .ok (.iload_n 1, 1) := dk_27 (dk_at dksX8_hasElement_0 20 rfl rfl)
theorem dX8_hasElement_21 : decode cX8_hasElement 21 = .ok (.invokevirtual 121, 3) := dk_182 0 121 (dk_at dksX8_hasElement_0 21 rfl rfl)
theorem dX8_hasElement_24 : decode cX8_hasElement 24 = .ok (.iconst 1, 1) := dk_4 (dk_at dksX8_hasElement_1 0 rfl rfl)
theorem dX8_hasElement_25 : decode cX8_hasElement 25 = .ok (.isub, 1) := dk_100 (dk_at dksX8_hasElement_1 1 rfl rfl)
theorem dX8_hasElement_26 : decode cX8_hasElement 26 = .ok (.i2l, 1) := dk_133 (dk_at dksX8_hasElement_1 2 rfl rfl)
theorem dX8_hasElement_27 : decode cX8_hasElement 27 = .ok (.invokestatic 167, 3) := dk_184 0 167 (dk_at dksX8_hasElement_1 3 rfl rfl)
theorem dX8_hasElement_30 : decode cX8_hasElement 30 = .ok (.ifCond .eq 7, 3) := dk_153 0 7 (dk_at dksX8_hasElement_1 6 rfl rfl)
theorem dX8_hasElement_33 : decode cX8_hasElement 33 = .ok (.iconst 1, 1) := dk_4 (dk_at dksX8_hasElement_1 9 rfl rfl)
theorem dX8_hasElement_34 : decode cX8_hasElement 34 = .ok (.goto 4, 3) := dk_167 0 4 (dk_at dksX8_hasElement_1 10 rfl rfl)
theorem dX8_hasElement_37 : decode cX8_hasElement 37 = .ok (.iconst 0, 1) := dk_3 (dk_at dksX8_hasElement_1 13 rfl rfl)
theorem dX8_hasElement_38 : decode cX8_hasElement 38 = .ok (.ireturn, 1) := dk_172 (dk_at dksX8_hasElement_1 14 rfl rfl)
abbrev cX8_leafOf : ByteArray := prog_18_method_91_code
def yX8_leafOf : MethodName := ⟨RX8, "leafOf", "(II)I"⟩
def dkwX8_leafOf_2 : List UInt8 := [132, 4, 255, 167, 255, 230, 29, 172]
abbrev dktX8_leafOf_2 : List UInt8 := dkwX8_leafOf_2 ++ []
def dkwX8_leafOf_1 : List UInt8 := [21, 4, 4, 164, 0, 26, 42, 29, 28, 21, 4, 4, 100, 184, 0, 64, 108, 7, 112, 182, 0, 71, 62]
abbrev dktX8_leafOf_1 : List UInt8 := dkwX8_leafOf_1 ++ dktX8_leafOf_2
def dkwX8_leafOf_0 : List UInt8 := [42, 27, 28, 182, 1, 90, 154, 0, 5, 3, 172, 42, 27, 182, 0, 145, 62, 42, 27, 182, 0, 148, 54, 4]
abbrev dktX8_leafOf_0 : List UInt8 := dkwX8_leafOf_0 ++ dktX8_leafOf_1
theorem dksX8_leafOf_0 : cX8_leafOf.data.toList.drop 0 = dktX8_leafOf_0 := by decide +kernel
theorem dksX8_leafOf_1 : cX8_leafOf.data.toList.drop 24 = dktX8_leafOf_1 := dk_seg dksX8_leafOf_0 24 rfl rfl
theorem dksX8_leafOf_2 : cX8_leafOf.data.toList.drop 47 = dktX8_leafOf_2 := dk_seg dksX8_leafOf_1 23 rfl rfl
theorem dX8_leafOf_0 : decode cX8_leafOf 0 = .ok (.aload_n 0, 1) := dk_42 (dk_at dksX8_leafOf_0 0 rfl rfl)
theorem dX8_leafOf_1 : decode cX8_leafOf 1 = .ok (.iload_n 1, 1) := dk_27 (dk_at dksX8_leafOf_0 1 rfl rfl)
theorem dX8_leafOf_2 : decode cX8_leafOf 2 = .ok (.iload_n 2, 1) := dk_28 (dk_at dksX8_leafOf_0 2 rfl rfl)
theorem dX8_leafOf_3 : decode cX8_leafOf 3 = .ok (.invokevirtual 346, 3) := dk_182 1 90 (dk_at dksX8_leafOf_0 3 rfl rfl)
theorem dX8_leafOf_6 : decode cX8_leafOf 6 = .ok (.ifCond .ne 5, 3) := dk_154 0 5 (dk_at dksX8_leafOf_0 6 rfl rfl)
theorem dX8_leafOf_9 : decode cX8_leafOf 9 = .ok (.iconst 0, 1) := dk_3 (dk_at dksX8_leafOf_0 9 rfl rfl)
theorem dX8_leafOf_10 : decode cX8_leafOf 10 = .ok (.ireturn, 1) := dk_172 (dk_at dksX8_leafOf_0 10 rfl rfl)
theorem dX8_leafOf_11 : decode cX8_leafOf 11 = .ok (.aload_n 0, 1) := dk_42 (dk_at dksX8_leafOf_0 11 rfl rfl)
theorem dX8_leafOf_12 : decode cX8_leafOf 12 = .ok (.iload_n 1, 1) := dk_27 (dk_at dksX8_leafOf_0 12 rfl rfl)
theorem dX8_leafOf_13 : decode cX8_leafOf 13 = .ok (.invokevirtual 145, 3) := dk_182 0 145 (dk_at dksX8_leafOf_0 13 rfl rfl)
theorem dX8_leafOf_16 : decode cX8_leafOf 16 = .ok (.istore_n 3, 1) := dk_62 (dk_at dksX8_leafOf_0 16 rfl rfl)
theorem dX8_leafOf_17 : decode cX8_leafOf 17 = .ok (.aload_n 0, 1) := dk_42 (dk_at dksX8_leafOf_0 17 rfl rfl)
theorem dX8_leafOf_18 : decode cX8_leafOf 18 = .ok (.iload_n 1, 1) := dk_27 (dk_at dksX8_leafOf_0 18 rfl rfl)
theorem dX8_leafOf_19 : decode cX8_leafOf 19 = .ok (.invokevirtual 148, 3) := dk_182 0 148 (dk_at dksX8_leafOf_0 19 rfl rfl)
theorem dX8_leafOf_22 : decode cX8_leafOf 22 = .ok (.istore 4, 2) := dk_54 4 (dk_at dksX8_leafOf_0 22 rfl rfl)
theorem dX8_leafOf_24 : decode cX8_leafOf 24 = .ok (.iload 4, 2) := dk_21 4 (dk_at dksX8_leafOf_1 0 rfl rfl)
theorem dX8_leafOf_26 : decode cX8_leafOf 26 = .ok (.iconst 1, 1) := dk_4 (dk_at dksX8_leafOf_1 2 rfl rfl)
theorem dX8_leafOf_27 : decode cX8_leafOf 27 = .ok (.if_icmp .le 26, 3) := dk_164 0 26 (dk_at dksX8_leafOf_1 3 rfl rfl)
theorem dX8_leafOf_30 : decode cX8_leafOf 30 = .ok (.aload_n 0, 1) := dk_42 (dk_at dksX8_leafOf_1 6 rfl rfl)
theorem dX8_leafOf_31 : decode cX8_leafOf 31 = .ok (.iload_n 3, 1) := dk_29 (dk_at dksX8_leafOf_1 7 rfl rfl)
theorem dX8_leafOf_32 : decode cX8_leafOf 32 = .ok (.iload_n 2, 1) := dk_28 (dk_at dksX8_leafOf_1 8 rfl rfl)
theorem dX8_leafOf_33 : decode cX8_leafOf 33 = .ok (.iload 4, 2) := dk_21 4 (dk_at dksX8_leafOf_1 9 rfl rfl)
theorem dX8_leafOf_35 : decode cX8_leafOf 35 = .ok (.iconst 1, 1) := dk_4 (dk_at dksX8_leafOf_1 11 rfl rfl)
theorem dX8_leafOf_36 : decode cX8_leafOf 36 = .ok (.isub, 1) := dk_100 (dk_at dksX8_leafOf_1 12 rfl rfl)
theorem dX8_leafOf_37 : decode cX8_leafOf 37 = .ok (.invokestatic 64, 3) := dk_184 0 64 (dk_at dksX8_leafOf_1 13 rfl rfl)
theorem dX8_leafOf_40 : decode cX8_leafOf 40 = .ok (.idiv, 1) := dk_108 (dk_at dksX8_leafOf_1 16 rfl rfl)
theorem dX8_leafOf_41 : decode cX8_leafOf 41 = .ok (.iconst 4, 1) := dk_7 (dk_at dksX8_leafOf_1 17 rfl rfl)
theorem dX8_leafOf_42 : decode cX8_leafOf 42 = .ok (.irem, 1) := dk_112 (dk_at dksX8_leafOf_1 18 rfl rfl)
theorem dX8_leafOf_43 : decode cX8_leafOf 43 = .ok (.invokevirtual 71, 3) := dk_182 0 71 (dk_at dksX8_leafOf_1 19 rfl rfl)
theorem dX8_leafOf_46 : decode cX8_leafOf 46 = .ok (.istore_n 3, 1) := dk_62 (dk_at dksX8_leafOf_1 22 rfl rfl)
theorem dX8_leafOf_47 : decode cX8_leafOf 47 = .ok (.iinc 4 (-1), 3) := dk_132 4 255 (dk_at dksX8_leafOf_2 0 rfl rfl)
theorem dX8_leafOf_50 : decode cX8_leafOf 50 = .ok (.goto (-26), 3) := dk_167 255 230 (dk_at dksX8_leafOf_2 3 rfl rfl)
theorem dX8_leafOf_53 : decode cX8_leafOf 53 = .ok (.iload_n 3, 1) := dk_29 (dk_at dksX8_leafOf_2 6 rfl rfl)
theorem dX8_leafOf_54 : decode cX8_leafOf 54 = .ok (.ireturn, 1) := dk_172 (dk_at dksX8_leafOf_2 7 rfl rfl)
abbrev cX8_sum : ByteArray := prog_18_method_92_code
def yX8_sum : MethodName := ⟨RX8, "sum", "(I)I"⟩
def dkwX8_sum_1 : List UInt8 := [42, 27, 29, 182, 0, 129, 96, 61, 132, 3, 1, 167, 255, 235, 28, 172]
abbrev dktX8_sum_1 : List UInt8 := dkwX8_sum_1 ++ []
def dkwX8_sum_0 : List UInt8 := [42, 27, 182, 1, 87, 154, 0, 5, 3, 172, 3, 61, 3, 62, 29, 42, 27, 182, 0, 121, 162, 0, 18, 28]
abbrev dktX8_sum_0 : List UInt8 := dkwX8_sum_0 ++ dktX8_sum_1
theorem dksX8_sum_0 : cX8_sum.data.toList.drop 0 = dktX8_sum_0 := by decide +kernel
theorem dksX8_sum_1 : cX8_sum.data.toList.drop 24 = dktX8_sum_1 := dk_seg dksX8_sum_0 24 rfl rfl
theorem dX8_sum_0 : decode cX8_sum 0 = .ok (.aload_n 0, 1) := dk_42 (dk_at dksX8_sum_0 0 rfl rfl)
theorem dX8_sum_1 : decode cX8_sum 1 = .ok (.iload_n 1, 1) := dk_27 (dk_at dksX8_sum_0 1 rfl rfl)
theorem dX8_sum_2 : decode cX8_sum 2 = .ok (.invokevirtual 343, 3) := dk_182 1 87 (dk_at dksX8_sum_0 2 rfl rfl)
theorem dX8_sum_5 : decode cX8_sum 5 = .ok (.ifCond .ne 5, 3) := dk_154 0 5 (dk_at dksX8_sum_0 5 rfl rfl)
theorem dX8_sum_8 : decode cX8_sum 8 = .ok (.iconst 0, 1) := dk_3 (dk_at dksX8_sum_0 8 rfl rfl)
theorem dX8_sum_9 : decode cX8_sum 9 = .ok (.ireturn, 1) := dk_172 (dk_at dksX8_sum_0 9 rfl rfl)
theorem dX8_sum_10 : decode cX8_sum 10 = .ok (.iconst 0, 1) := dk_3 (dk_at dksX8_sum_0 10 rfl rfl)
theorem dX8_sum_11 : decode cX8_sum 11 = .ok (.istore_n 2, 1) := dk_61 (dk_at dksX8_sum_0 11 rfl rfl)
theorem dX8_sum_12 : decode cX8_sum 12 = .ok (.iconst 0, 1) := dk_3 (dk_at dksX8_sum_0 12 rfl rfl)
theorem dX8_sum_13 : decode cX8_sum 13 = .ok (.istore_n 3, 1) := dk_62 (dk_at dksX8_sum_0 13 rfl rfl)
theorem dX8_sum_14 : decode cX8_sum 14 = .ok (.iload_n 3, 1) := dk_29 (dk_at dksX8_sum_0 14 rfl rfl)
theorem dX8_sum_15 : decode cX8_sum 15 = .ok (.aload_n 0, 1) := dk_42 (dk_at dksX8_sum_0 15 rfl rfl)
theorem dX8_sum_16 : decode cX8_sum 16 = .ok (.iload_n 1, 1) := dk_27 (dk_at dksX8_sum_0 16 rfl rfl)
theorem dX8_sum_17 : decode cX8_sum 17 = .ok (.invokevirtual 121, 3) := dk_182 0 121 (dk_at dksX8_sum_0 17 rfl rfl)
theorem dX8_sum_20 : decode cX8_sum 20 = .ok (.if_icmp .ge 18, 3) := dk_162 0 18 (dk_at dksX8_sum_0 20 rfl rfl)
theorem dX8_sum_23 : decode cX8_sum 23 = .ok (.iload_n 2, 1) := dk_28 (dk_at dksX8_sum_0 23 rfl rfl)
theorem dX8_sum_24 : decode cX8_sum 24 = .ok (.aload_n 0, 1) := dk_42 (dk_at dksX8_sum_1 0 rfl rfl)
theorem dX8_sum_25 : decode cX8_sum 25 = .ok (.iload_n 1, 1) := dk_27 (dk_at dksX8_sum_1 1 rfl rfl)
theorem dX8_sum_26 : decode cX8_sum 26 = .ok (.iload_n 3, 1) := dk_29 (dk_at dksX8_sum_1 2 rfl rfl)
theorem dX8_sum_27 : decode cX8_sum 27 = .ok (.invokevirtual 129, 3) := dk_182 0 129 (dk_at dksX8_sum_1 3 rfl rfl)
theorem dX8_sum_30 : decode cX8_sum 30 = .ok (.iadd, 1) := dk_96 (dk_at dksX8_sum_1 6 rfl rfl)
theorem dX8_sum_31 : decode cX8_sum 31 = .ok (.istore_n 2, 1) := dk_61 (dk_at dksX8_sum_1 7 rfl rfl)
theorem dX8_sum_32 : decode cX8_sum 32 = .ok (.iinc 3 1, 3) := dk_132 3 1 (dk_at dksX8_sum_1 8 rfl rfl)
theorem dX8_sum_35 : decode cX8_sum 35 = .ok (.goto (-21), 3) := dk_167 255 235 (dk_at dksX8_sum_1 11 rfl rfl)
theorem dX8_sum_38 : decode cX8_sum 38 = .ok (.iload_n 2, 1) := dk_28 (dk_at dksX8_sum_1 14 rfl rfl)
theorem dX8_sum_39 : decode cX8_sum 39 = .ok (.ireturn, 1) := dk_172 (dk_at dksX8_sum_1 15 rfl rfl)
abbrev cX8_indexOf : ByteArray := prog_18_method_93_code
def yX8_indexOf : MethodName := ⟨RX8, "indexOf", "(II)I"⟩
def dkwX8_indexOf_1 : List UInt8 := [182, 0, 129, 28, 160, 0, 5, 29, 172, 132, 3, 1, 167, 255, 232, 2, 172]
abbrev dktX8_indexOf_1 : List UInt8 := dkwX8_indexOf_1 ++ []
def dkwX8_indexOf_0 : List UInt8 := [42, 27, 182, 1, 87, 154, 0, 5, 3, 172, 3, 62, 29, 42, 27, 182, 0, 121, 162, 0, 21, 42, 27, 29]
abbrev dktX8_indexOf_0 : List UInt8 := dkwX8_indexOf_0 ++ dktX8_indexOf_1
theorem dksX8_indexOf_0 : cX8_indexOf.data.toList.drop 0 = dktX8_indexOf_0 := by decide +kernel
theorem dksX8_indexOf_1 : cX8_indexOf.data.toList.drop 24 = dktX8_indexOf_1 := dk_seg dksX8_indexOf_0 24 rfl rfl
theorem dX8_indexOf_0 : decode cX8_indexOf 0 = .ok (.aload_n 0, 1) := dk_42 (dk_at dksX8_indexOf_0 0 rfl rfl)
theorem dX8_indexOf_1 : decode cX8_indexOf 1 = .ok (.iload_n 1, 1) := dk_27 (dk_at dksX8_indexOf_0 1 rfl rfl)
theorem dX8_indexOf_2 : decode cX8_indexOf 2 = .ok (.invokevirtual 343, 3) := dk_182 1 87 (dk_at dksX8_indexOf_0 2 rfl rfl)
theorem dX8_indexOf_5 : decode cX8_indexOf 5 = .ok (.ifCond .ne 5, 3) := dk_154 0 5 (dk_at dksX8_indexOf_0 5 rfl rfl)
theorem dX8_indexOf_8 : decode cX8_indexOf 8 = .ok (.iconst 0, 1) := dk_3 (dk_at dksX8_indexOf_0 8 rfl rfl)
theorem dX8_indexOf_9 : decode cX8_indexOf 9 = .ok (.ireturn, 1) := dk_172 (dk_at dksX8_indexOf_0 9 rfl rfl)
theorem dX8_indexOf_10 : decode cX8_indexOf 10 = .ok (.iconst 0, 1) := dk_3 (dk_at dksX8_indexOf_0 10 rfl rfl)
theorem dX8_indexOf_11 : decode cX8_indexOf 11 = .ok (.istore_n 3, 1) := dk_62 (dk_at dksX8_indexOf_0 11 rfl rfl)
theorem dX8_indexOf_12 : decode cX8_indexOf 12 = .ok (.iload_n 3, 1) := dk_29 (dk_at dksX8_indexOf_0 12 rfl rfl)
theorem dX8_indexOf_13 : decode cX8_indexOf 13 = .ok (.aload_n 0, 1) := dk_42 (dk_at dksX8_indexOf_0 13 rfl rfl)
theorem dX8_indexOf_14 : decode cX8_indexOf 14 = .ok (.iload_n 1, 1) := dk_27 (dk_at dksX8_indexOf_0 14 rfl rfl)
theorem dX8_indexOf_15 : decode cX8_indexOf 15 = .ok (.invokevirtual 121, 3) := dk_182 0 121 (dk_at dksX8_indexOf_0 15 rfl rfl)
theorem dX8_indexOf_18 : decode cX8_indexOf 18 = .ok (.if_icmp .ge 21, 3) := dk_162 0 21 (dk_at dksX8_indexOf_0 18 rfl rfl)
theorem dX8_indexOf_21 : decode cX8_indexOf 21 = .ok (.aload_n 0, 1) := dk_42 (dk_at dksX8_indexOf_0 21 rfl rfl)
theorem dX8_indexOf_22 : decode cX8_indexOf 22 = .ok (.iload_n 1, 1) := dk_27 (dk_at dksX8_indexOf_0 22 rfl rfl)
theorem dX8_indexOf_23 : decode cX8_indexOf 23 = .ok (.iload_n 3, 1) := dk_29 (dk_at dksX8_indexOf_0 23 rfl rfl)
theorem dX8_indexOf_24 : decode cX8_indexOf 24 = .ok (.invokevirtual 129, 3) := dk_182 0 129 (dk_at dksX8_indexOf_1 0 rfl rfl)
theorem dX8_indexOf_27 : decode cX8_indexOf 27 = .ok (.iload_n 2, 1) := dk_28 (dk_at dksX8_indexOf_1 3 rfl rfl)
theorem dX8_indexOf_28 : decode cX8_indexOf 28 = .ok (.if_icmp .ne 5, 3) := dk_160 0 5 (dk_at dksX8_indexOf_1 4 rfl rfl)
theorem dX8_indexOf_31 : decode cX8_indexOf 31 = .ok (.iload_n 3, 1) := dk_29 (dk_at dksX8_indexOf_1 7 rfl rfl)
theorem dX8_indexOf_32 : decode cX8_indexOf 32 = .ok (.ireturn, 1) := dk_172 (dk_at dksX8_indexOf_1 8 rfl rfl)
theorem dX8_indexOf_33 : decode cX8_indexOf 33 = .ok (.iinc 3 1, 3) := dk_132 3 1 (dk_at dksX8_indexOf_1 9 rfl rfl)
theorem dX8_indexOf_36 : decode cX8_indexOf 36 = .ok (.goto (-24), 3) := dk_167 255 232 (dk_at dksX8_indexOf_1 12 rfl rfl)
theorem dX8_indexOf_39 : decode cX8_indexOf 39 = .ok (.iconst (-1), 1) := dk_2 (dk_at dksX8_indexOf_1 15 rfl rfl)
theorem dX8_indexOf_40 : decode cX8_indexOf 40 = .ok (.ireturn, 1) := dk_172 (dk_at dksX8_indexOf_1 16 rfl rfl)
abbrev cX8_createdNodes : ByteArray := prog_18_method_94_code
def yX8_createdNodes : MethodName := ⟨RX8, "createdNodes", "()I"⟩
def dkwX8_createdNodes_0 : List UInt8 := [42, 3, 181, 0, 58, 42, 180, 0, 9, 4, 46, 172]
abbrev dktX8_createdNodes_0 : List UInt8 := dkwX8_createdNodes_0 ++ []
theorem dksX8_createdNodes_0 : cX8_createdNodes.data.toList.drop 0 = dktX8_createdNodes_0 := by decide +kernel
theorem dX8_createdNodes_0 : decode cX8_createdNodes 0 = .ok (.aload_n 0, 1) := dk_42 (dk_at dksX8_createdNodes_0 0 rfl rfl)
theorem dX8_createdNodes_1 : decode cX8_createdNodes 1 = .ok (.iconst 0, 1) := dk_3 (dk_at dksX8_createdNodes_0 1 rfl rfl)
theorem dX8_createdNodes_2 : decode cX8_createdNodes 2 = .ok (.putfield 58, 3) := dk_181 0 58 (dk_at dksX8_createdNodes_0 2 rfl rfl)
theorem dX8_createdNodes_5 : decode cX8_createdNodes 5 = .ok (.aload_n 0, 1) := dk_42 (dk_at dksX8_createdNodes_0 5 rfl rfl)
theorem dX8_createdNodes_6 : decode cX8_createdNodes 6 = .ok (.getfield 9, 3) := dk_180 0 9 (dk_at dksX8_createdNodes_0 6 rfl rfl)
theorem dX8_createdNodes_9 : decode cX8_createdNodes 9 = .ok (.iconst 1, 1) := dk_4 (dk_at dksX8_createdNodes_0 9 rfl rfl)
theorem dX8_createdNodes_10 : decode cX8_createdNodes 10 = .ok (.iaload, 1) := dk_46 (dk_at dksX8_createdNodes_0 10 rfl rfl)
theorem dX8_createdNodes_11 : decode cX8_createdNodes 11 = .ok (.ireturn, 1) := dk_172 (dk_at dksX8_createdNodes_0 11 rfl rfl)
abbrev cX8_storedNodes : ByteArray := prog_18_method_95_code
def yX8_storedNodes : MethodName := ⟨RX8, "storedNodes", "()I"⟩
def dkwX8_storedNodes_0 : List UInt8 := [42, 3, 181, 0, 58, 42, 182, 1, 93, 172]
abbrev dktX8_storedNodes_0 : List UInt8 := dkwX8_storedNodes_0 ++ []
theorem dksX8_storedNodes_0 : cX8_storedNodes.data.toList.drop 0 = dktX8_storedNodes_0 := by decide +kernel
theorem dX8_storedNodes_0 : decode cX8_storedNodes 0 = .ok (.aload_n 0, 1) := dk_42 (dk_at dksX8_storedNodes_0 0 rfl rfl)
theorem dX8_storedNodes_1 : decode cX8_storedNodes 1 = .ok (.iconst 0, 1) := dk_3 (dk_at dksX8_storedNodes_0 1 rfl rfl)
theorem dX8_storedNodes_2 : decode cX8_storedNodes 2 = .ok (.putfield 58, 3) := dk_181 0 58 (dk_at dksX8_storedNodes_0 2 rfl rfl)
theorem dX8_storedNodes_5 : decode cX8_storedNodes 5 = .ok (.aload_n 0, 1) := dk_42 (dk_at dksX8_storedNodes_0 5 rfl rfl)
theorem dX8_storedNodes_6 : decode cX8_storedNodes 6 = .ok (.invokevirtual 349, 3) := dk_182 1 93 (dk_at dksX8_storedNodes_0 6 rfl rfl)
theorem dX8_storedNodes_9 : decode cX8_storedNodes 9 = .ok (.ireturn, 1) := dk_172 (dk_at dksX8_storedNodes_0 9 rfl rfl)
abbrev cX8_countStored : ByteArray := prog_18_method_43_code
def yX8_countStored : MethodName := ⟨RX8, "countStored", "()I"⟩
def dkwX8_countStored_1 : List UInt8 := [60, 132, 2, 1, 167, 255, 232, 27, 172]
abbrev dktX8_countStored_1 : List UInt8 := dkwX8_countStored_1 ++ []
def dkwX8_countStored_0 : List UInt8 := [3, 60, 3, 61, 28, 42, 180, 0, 9, 4, 46, 162, 0, 20, 27, 42, 28, 182, 0, 171, 184, 0, 75, 96]
abbrev dktX8_countStored_0 : List UInt8 := dkwX8_countStored_0 ++ dktX8_countStored_1
theorem dksX8_countStored_0 : cX8_countStored.data.toList.drop 0 = dktX8_countStored_0 := by decide +kernel
theorem dksX8_countStored_1 : cX8_countStored.data.toList.drop 24 = dktX8_countStored_1 := dk_seg dksX8_countStored_0 24 rfl rfl
theorem dX8_countStored_0 : decode cX8_countStored 0 = .ok (.iconst 0, 1) := dk_3 (dk_at dksX8_countStored_0 0 rfl rfl)
theorem dX8_countStored_1 : decode cX8_countStored 1 = .ok (.istore_n 1, 1) := dk_60 (dk_at dksX8_countStored_0 1 rfl rfl)
theorem dX8_countStored_2 : decode cX8_countStored 2 = .ok (.iconst 0, 1) := dk_3 (dk_at dksX8_countStored_0 2 rfl rfl)
theorem dX8_countStored_3 : decode cX8_countStored 3 = .ok (.istore_n 2, 1) := dk_61 (dk_at dksX8_countStored_0 3 rfl rfl)
theorem dX8_countStored_4 : decode cX8_countStored 4 = .ok (.iload_n 2, 1) := dk_28 (dk_at dksX8_countStored_0 4 rfl rfl)
theorem dX8_countStored_5 : decode cX8_countStored 5 = .ok (.aload_n 0, 1) := dk_42 (dk_at dksX8_countStored_0 5 rfl rfl)
theorem dX8_countStored_6 : decode cX8_countStored 6 = .ok (.getfield 9, 3) := dk_180 0 9 (dk_at dksX8_countStored_0 6 rfl rfl)
theorem dX8_countStored_9 : decode cX8_countStored 9 = .ok (.iconst 1, 1) := dk_4 (dk_at dksX8_countStored_0 9 rfl rfl)
theorem dX8_countStored_10 : decode cX8_countStored 10 = .ok (.iaload, 1) := dk_46 (dk_at dksX8_countStored_0 10 rfl rfl)
theorem dX8_countStored_11 : decode cX8_countStored 11 = .ok (.if_icmp .ge 20, 3) := dk_162 0 20 (dk_at dksX8_countStored_0 11 rfl rfl)
theorem dX8_countStored_14 : decode cX8_countStored 14 = .ok (.iload_n 1, 1) := dk_27 (dk_at dksX8_countStored_0 14 rfl rfl)
theorem dX8_countStored_15 : decode cX8_countStored 15 = .ok (.aload_n 0, 1) := dk_42 (dk_at dksX8_countStored_0 15 rfl rfl)
theorem dX8_countStored_16 : decode cX8_countStored 16 = .ok (.iload_n 2, 1) := dk_28 (dk_at dksX8_countStored_0 16 rfl rfl)
theorem dX8_countStored_17 : decode cX8_countStored 17 = .ok (.invokevirtual 171, 3) := dk_182 0 171 (dk_at dksX8_countStored_0 17 rfl rfl)
theorem dX8_countStored_20 : decode cX8_countStored 20 = .ok (.invokestatic 75, 3) := dk_184 0 75 (dk_at dksX8_countStored_0 20 rfl rfl)
theorem dX8_countStored_23 : decode cX8_countStored 23 = .ok (.iadd, 1) := dk_96 (dk_at dksX8_countStored_0 23 rfl rfl)
theorem dX8_countStored_24 : decode cX8_countStored 24 = .ok (.istore_n 1, 1) := dk_60 (dk_at dksX8_countStored_1 0 rfl rfl)
theorem dX8_countStored_25 : decode cX8_countStored 25 = .ok (.iinc 2 1, 3) := dk_132 2 1 (dk_at dksX8_countStored_1 1 rfl rfl)
theorem dX8_countStored_28 : decode cX8_countStored 28 = .ok (.goto (-24), 3) := dk_167 255 232 (dk_at dksX8_countStored_1 4 rfl rfl)
theorem dX8_countStored_31 : decode cX8_countStored 31 = .ok (.iload_n 1, 1) := dk_27 (dk_at dksX8_countStored_1 7 rfl rfl)
theorem dX8_countStored_32 : decode cX8_countStored 32 = .ok (.ireturn, 1) := dk_172 (dk_at dksX8_countStored_1 8 rfl rfl)
abbrev cX8_garbageNodes : ByteArray := prog_18_method_96_code
def yX8_garbageNodes : MethodName := ⟨RX8, "garbageNodes", "()I"⟩
def dkwX8_garbageNodes_0 : List UInt8 := [42, 3, 181, 0, 58, 42, 182, 0, 177, 172]
abbrev dktX8_garbageNodes_0 : List UInt8 := dkwX8_garbageNodes_0 ++ []
theorem dksX8_garbageNodes_0 : cX8_garbageNodes.data.toList.drop 0 = dktX8_garbageNodes_0 := by decide +kernel
theorem dX8_garbageNodes_0 : decode cX8_garbageNodes 0 = .ok (.aload_n 0, 1) := dk_42 (dk_at dksX8_garbageNodes_0 0 rfl rfl)
theorem dX8_garbageNodes_1 : decode cX8_garbageNodes 1 = .ok (.iconst 0, 1) := dk_3 (dk_at dksX8_garbageNodes_0 1 rfl rfl)
theorem dX8_garbageNodes_2 : decode cX8_garbageNodes 2 = .ok (.putfield 58, 3) := dk_181 0 58 (dk_at dksX8_garbageNodes_0 2 rfl rfl)
theorem dX8_garbageNodes_5 : decode cX8_garbageNodes 5 = .ok (.aload_n 0, 1) := dk_42 (dk_at dksX8_garbageNodes_0 5 rfl rfl)
theorem dX8_garbageNodes_6 : decode cX8_garbageNodes 6 = .ok (.invokevirtual 177, 3) := dk_182 0 177 (dk_at dksX8_garbageNodes_0 6 rfl rfl)
theorem dX8_garbageNodes_9 : decode cX8_garbageNodes 9 = .ok (.ireturn, 1) := dk_172 (dk_at dksX8_garbageNodes_0 9 rfl rfl)
abbrev cX8_nodesCreatedFor : ByteArray := prog_18_method_97_code
def yX8_nodesCreatedFor : MethodName := ⟨RX8, "nodesCreatedFor", "(I)I"⟩
def dkwX8_nodesCreatedFor_0 : List UInt8 := [42, 27, 182, 1, 78, 153, 0, 17, 42, 180, 0, 9, 27, 184, 0, 112, 8, 96, 46, 167, 0, 4, 3, 172]
abbrev dktX8_nodesCreatedFor_0 : List UInt8 := dkwX8_nodesCreatedFor_0 ++ []
theorem dksX8_nodesCreatedFor_0 : cX8_nodesCreatedFor.data.toList.drop 0 = dktX8_nodesCreatedFor_0 := by decide +kernel
theorem dX8_nodesCreatedFor_0 : decode cX8_nodesCreatedFor 0 = .ok (.aload_n 0, 1) := dk_42 (dk_at dksX8_nodesCreatedFor_0 0 rfl rfl)
theorem dX8_nodesCreatedFor_1 : decode cX8_nodesCreatedFor 1 = .ok (.iload_n 1, 1) := dk_27 (dk_at dksX8_nodesCreatedFor_0 1 rfl rfl)
theorem dX8_nodesCreatedFor_2 : decode cX8_nodesCreatedFor 2 = .ok (.invokevirtual 334, 3) := dk_182 1 78 (dk_at dksX8_nodesCreatedFor_0 2 rfl rfl)
theorem dX8_nodesCreatedFor_5 : decode cX8_nodesCreatedFor 5 = .ok (.ifCond .eq 17, 3) := dk_153 0 17 (dk_at dksX8_nodesCreatedFor_0 5 rfl rfl)
theorem dX8_nodesCreatedFor_8 : decode cX8_nodesCreatedFor 8 = .ok (.aload_n 0, 1) := dk_42 (dk_at dksX8_nodesCreatedFor_0 8 rfl rfl)
theorem dX8_nodesCreatedFor_9 : decode cX8_nodesCreatedFor 9 = .ok (.getfield 9, 3) := dk_180 0 9 (dk_at dksX8_nodesCreatedFor_0 9 rfl rfl)
theorem dX8_nodesCreatedFor_12 : decode cX8_nodesCreatedFor 12 = .ok (.iload_n 1, 1) := dk_27 (dk_at dksX8_nodesCreatedFor_0 12 rfl rfl)
theorem dX8_nodesCreatedFor_13 : decode cX8_nodesCreatedFor 13 = .ok (.invokestatic 112, 3) := dk_184 0 112 (dk_at dksX8_nodesCreatedFor_0 13 rfl rfl)
theorem dX8_nodesCreatedFor_16 : decode cX8_nodesCreatedFor 16 = .ok (.iconst 5, 1) := dk_8 (dk_at dksX8_nodesCreatedFor_0 16 rfl rfl)
theorem dX8_nodesCreatedFor_17 : decode cX8_nodesCreatedFor 17 = .ok (.iadd, 1) := dk_96 (dk_at dksX8_nodesCreatedFor_0 17 rfl rfl)
theorem dX8_nodesCreatedFor_18 : decode cX8_nodesCreatedFor 18 = .ok (.iaload, 1) := dk_46 (dk_at dksX8_nodesCreatedFor_0 18 rfl rfl)
theorem dX8_nodesCreatedFor_19 : decode cX8_nodesCreatedFor 19 = .ok (.goto 4, 3) := dk_167 0 4 (dk_at dksX8_nodesCreatedFor_0 19 rfl rfl)
theorem dX8_nodesCreatedFor_22 : decode cX8_nodesCreatedFor 22 = .ok (.iconst 0, 1) := dk_3 (dk_at dksX8_nodesCreatedFor_0 22 rfl rfl)
theorem dX8_nodesCreatedFor_23 : decode cX8_nodesCreatedFor 23 = .ok (.ireturn, 1) := dk_172 (dk_at dksX8_nodesCreatedFor_0 23 rfl rfl)
abbrev cX8_nodesOf : ByteArray := prog_18_method_100_code
def yX8_nodesOf : MethodName := ⟨RX8, "nodesOf", "(I)I"⟩
def dkwX8_nodesOf_0 : List UInt8 := [42, 27, 182, 1, 87, 153, 0, 11, 42, 27, 182, 1, 99, 167, 0, 4, 3, 172]
abbrev dktX8_nodesOf_0 : List UInt8 := dkwX8_nodesOf_0 ++ []
theorem dksX8_nodesOf_0 : cX8_nodesOf.data.toList.drop 0 = dktX8_nodesOf_0 := by decide +kernel
theorem dX8_nodesOf_0 : decode cX8_nodesOf 0 = .ok (.aload_n 0, 1) := dk_42 (dk_at dksX8_nodesOf_0 0 rfl rfl)
theorem dX8_nodesOf_1 : decode cX8_nodesOf 1 = .ok (.iload_n 1, 1) := dk_27 (dk_at dksX8_nodesOf_0 1 rfl rfl)
theorem dX8_nodesOf_2 : decode cX8_nodesOf 2 = .ok (.invokevirtual 343, 3) := dk_182 1 87 (dk_at dksX8_nodesOf_0 2 rfl rfl)
theorem dX8_nodesOf_5 : decode cX8_nodesOf 5 = .ok (.ifCond .eq 11, 3) := dk_153 0 11 (dk_at dksX8_nodesOf_0 5 rfl rfl)
theorem dX8_nodesOf_8 : decode cX8_nodesOf 8 = .ok (.aload_n 0, 1) := dk_42 (dk_at dksX8_nodesOf_0 8 rfl rfl)
theorem dX8_nodesOf_9 : decode cX8_nodesOf 9 = .ok (.iload_n 1, 1) := dk_27 (dk_at dksX8_nodesOf_0 9 rfl rfl)
theorem dX8_nodesOf_10 : decode cX8_nodesOf 10 = .ok (.invokevirtual 355, 3) := dk_182 1 99 (dk_at dksX8_nodesOf_0 10 rfl rfl)
theorem dX8_nodesOf_13 : decode cX8_nodesOf 13 = .ok (.goto 4, 3) := dk_167 0 4 (dk_at dksX8_nodesOf_0 13 rfl rfl)
theorem dX8_nodesOf_16 : decode cX8_nodesOf 16 = .ok (.iconst 0, 1) := dk_3 (dk_at dksX8_nodesOf_0 16 rfl rfl)
theorem dX8_nodesOf_17 : decode cX8_nodesOf 17 = .ok (.ireturn, 1) := dk_172 (dk_at dksX8_nodesOf_0 17 rfl rfl)
abbrev cX8_countNodes : ByteArray := prog_18_method_99_code
def yX8_countNodes : MethodName := ⟨RX8, "countNodes", "(I)I"⟩
def dkwX8_countNodes_0 : List UInt8 := [42, 182, 0, 161, 42, 42, 27, 182, 0, 145, 182, 0, 157, 42, 4, 182, 1, 96, 172]
abbrev dktX8_countNodes_0 : List UInt8 := dkwX8_countNodes_0 ++ []
theorem dksX8_countNodes_0 : cX8_countNodes.data.toList.drop 0 = dktX8_countNodes_0 := by decide +kernel
theorem dX8_countNodes_0 : decode cX8_countNodes 0 = .ok (.aload_n 0, 1) := dk_42 (dk_at dksX8_countNodes_0 0 rfl rfl)
theorem dX8_countNodes_1 : decode cX8_countNodes 1 = .ok (.invokevirtual 161, 3) := dk_182 0 161 (dk_at dksX8_countNodes_0 1 rfl rfl)
theorem dX8_countNodes_4 : decode cX8_countNodes 4 = .ok (.aload_n 0, 1) := dk_42 (dk_at dksX8_countNodes_0 4 rfl rfl)
theorem dX8_countNodes_5 : decode cX8_countNodes 5 = .ok (.aload_n 0, 1) := dk_42 (dk_at dksX8_countNodes_0 5 rfl rfl)
theorem dX8_countNodes_6 : decode cX8_countNodes 6 = .ok (.iload_n 1, 1) := dk_27 (dk_at dksX8_countNodes_0 6 rfl rfl)
theorem dX8_countNodes_7 : decode cX8_countNodes 7 = .ok (.invokevirtual 145, 3) := dk_182 0 145 (dk_at dksX8_countNodes_0 7 rfl rfl)
theorem dX8_countNodes_10 : decode cX8_countNodes 10 = .ok (.invokevirtual 157, 3) := dk_182 0 157 (dk_at dksX8_countNodes_0 10 rfl rfl)
theorem dX8_countNodes_13 : decode cX8_countNodes 13 = .ok (.aload_n 0, 1) := dk_42 (dk_at dksX8_countNodes_0 13 rfl rfl)
theorem dX8_countNodes_14 : decode cX8_countNodes 14 = .ok (.iconst 1, 1) := dk_4 (dk_at dksX8_countNodes_0 14 rfl rfl)
theorem dX8_countNodes_15 : decode cX8_countNodes 15 = .ok (.invokevirtual 352, 3) := dk_182 1 96 (dk_at dksX8_countNodes_0 15 rfl rfl)
theorem dX8_countNodes_18 : decode cX8_countNodes 18 = .ok (.ireturn, 1) := dk_172 (dk_at dksX8_countNodes_0 18 rfl rfl)
abbrev cX8_countReached : ByteArray := prog_18_method_98_code
def yX8_countReached : MethodName := ⟨RX8, "countReached", "(I)I"⟩
def dkwX8_countReached_1 : List UInt8 := [160, 0, 7, 4, 167, 0, 4, 3, 184, 0, 75, 96, 61, 132, 3, 1, 167, 255, 222, 28, 172]
abbrev dktX8_countReached_1 : List UInt8 := dkwX8_countReached_1 ++ []
def dkwX8_countReached_0 : List UInt8 := [3, 61, 3, 62, 29, 42, 180, 0, 9, 4, 46, 162, 0, 30, 28, 42, 180, 0, 32, 29, 46, 27]
abbrev dktX8_countReached_0 : List UInt8 := dkwX8_countReached_0 ++ dktX8_countReached_1
theorem dksX8_countReached_0 : cX8_countReached.data.toList.drop 0 = dktX8_countReached_0 := by decide +kernel
theorem dksX8_countReached_1 : cX8_countReached.data.toList.drop 22 = dktX8_countReached_1 := dk_seg dksX8_countReached_0 22 rfl rfl
theorem dX8_countReached_0 : decode cX8_countReached 0 = .ok (.iconst 0, 1) := dk_3 (dk_at dksX8_countReached_0 0 rfl rfl)
theorem dX8_countReached_1 : decode cX8_countReached 1 = .ok (.istore_n 2, 1) := dk_61 (dk_at dksX8_countReached_0 1 rfl rfl)
theorem dX8_countReached_2 : decode cX8_countReached 2 = .ok (.iconst 0, 1) := dk_3 (dk_at dksX8_countReached_0 2 rfl rfl)
theorem dX8_countReached_3 : decode cX8_countReached 3 = .ok (.istore_n 3, 1) := dk_62 (dk_at dksX8_countReached_0 3 rfl rfl)
theorem dX8_countReached_4 : decode cX8_countReached 4 = .ok (.iload_n 3, 1) := dk_29 (dk_at dksX8_countReached_0 4 rfl rfl)
theorem dX8_countReached_5 : decode cX8_countReached 5 = .ok (.aload_n 0, 1) := dk_42 (dk_at dksX8_countReached_0 5 rfl rfl)
theorem dX8_countReached_6 : decode cX8_countReached 6 = .ok (.getfield 9, 3) := dk_180 0 9 (dk_at dksX8_countReached_0 6 rfl rfl)
theorem dX8_countReached_9 : decode cX8_countReached 9 = .ok (.iconst 1, 1) := dk_4 (dk_at dksX8_countReached_0 9 rfl rfl)
theorem dX8_countReached_10 : decode cX8_countReached 10 = .ok (.iaload, 1) := dk_46 (dk_at dksX8_countReached_0 10 rfl rfl)
theorem dX8_countReached_11 : decode cX8_countReached 11 = .ok (.if_icmp .ge 30, 3) := dk_162 0 30 (dk_at dksX8_countReached_0 11 rfl rfl)
theorem dX8_countReached_14 : decode cX8_countReached 14 = .ok (.iload_n 2, 1) := dk_28 (dk_at dksX8_countReached_0 14 rfl rfl)
theorem dX8_countReached_15 : decode cX8_countReached 15 = .ok (.aload_n 0, 1) := dk_42 (dk_at dksX8_countReached_0 15 rfl rfl)
theorem dX8_countReached_16 : decode cX8_countReached 16 = .ok (.getfield 32, 3) := dk_180 0 32 (dk_at dksX8_countReached_0 16 rfl rfl)
theorem dX8_countReached_19 : decode cX8_countReached 19 = .ok (.iload_n 3, 1) := dk_29 (dk_at dksX8_countReached_0 19 rfl rfl)
theorem dX8_countReached_20 : decode cX8_countReached 20 = .ok (.iaload, 1) := dk_46 (dk_at dksX8_countReached_0 20 rfl rfl)
theorem dX8_countReached_21 : decode cX8_countReached 21 = .ok (.iload_n 1, 1) := dk_27 (dk_at dksX8_countReached_0 21 rfl rfl)
theorem dX8_countReached_22 : decode cX8_countReached 22 = .ok (.if_icmp .ne 7, 3) := dk_160 0 7 (dk_at dksX8_countReached_1 0 rfl rfl)
theorem dX8_countReached_25 : decode cX8_countReached 25 = .ok (.iconst 1, 1) := dk_4 (dk_at dksX8_countReached_1 3 rfl rfl)
theorem dX8_countReached_26 : decode cX8_countReached 26 = .ok (.goto 4, 3) := dk_167 0 4 (dk_at dksX8_countReached_1 4 rfl rfl)
theorem dX8_countReached_29 : decode cX8_countReached 29 = .ok (.iconst 0, 1) := dk_3 (dk_at dksX8_countReached_1 7 rfl rfl)
theorem dX8_countReached_30 : decode cX8_countReached 30 = .ok (.invokestatic 75, 3) := dk_184 0 75 (dk_at dksX8_countReached_1 8 rfl rfl)
theorem dX8_countReached_33 : decode cX8_countReached 33 = .ok (.iadd, 1) := dk_96 (dk_at dksX8_countReached_1 11 rfl rfl)
theorem dX8_countReached_34 : decode cX8_countReached 34 = .ok (.istore_n 2, 1) := dk_61 (dk_at dksX8_countReached_1 12 rfl rfl)
theorem dX8_countReached_35 : decode cX8_countReached 35 = .ok (.iinc 3 1, 3) := dk_132 3 1 (dk_at dksX8_countReached_1 13 rfl rfl)
theorem dX8_countReached_38 : decode cX8_countReached 38 = .ok (.goto (-34), 3) := dk_167 255 222 (dk_at dksX8_countReached_1 16 rfl rfl)
theorem dX8_countReached_41 : decode cX8_countReached 41 = .ok (.iload_n 2, 1) := dk_28 (dk_at dksX8_countReached_1 19 rfl rfl)
theorem dX8_countReached_42 : decode cX8_countReached 42 = .ok (.ireturn, 1) := dk_172 (dk_at dksX8_countReached_1 20 rfl rfl)
abbrev cX8_sharedNodes : ByteArray := prog_18_method_102_code
def yX8_sharedNodes : MethodName := ⟨RX8, "sharedNodes", "(II)I"⟩
def dkwX8_sharedNodes_1 : List UInt8 := [42, 42, 28, 182, 0, 145, 182, 0, 157, 42, 5, 182, 1, 96, 172]
abbrev dktX8_sharedNodes_1 : List UInt8 := dkwX8_sharedNodes_1 ++ []
def dkwX8_sharedNodes_0 : List UInt8 := [42, 27, 28, 182, 1, 102, 154, 0, 5, 3, 172, 42, 182, 0, 161, 42, 42, 27, 182, 0, 145, 182, 0, 157]
abbrev dktX8_sharedNodes_0 : List UInt8 := dkwX8_sharedNodes_0 ++ dktX8_sharedNodes_1
theorem dksX8_sharedNodes_0 : cX8_sharedNodes.data.toList.drop 0 = dktX8_sharedNodes_0 := by decide +kernel
theorem dksX8_sharedNodes_1 : cX8_sharedNodes.data.toList.drop 24 = dktX8_sharedNodes_1 := dk_seg dksX8_sharedNodes_0 24 rfl rfl
theorem dX8_sharedNodes_0 : decode cX8_sharedNodes 0 = .ok (.aload_n 0, 1) := dk_42 (dk_at dksX8_sharedNodes_0 0 rfl rfl)
theorem dX8_sharedNodes_1 : decode cX8_sharedNodes 1 = .ok (.iload_n 1, 1) := dk_27 (dk_at dksX8_sharedNodes_0 1 rfl rfl)
theorem dX8_sharedNodes_2 : decode cX8_sharedNodes 2 = .ok (.iload_n 2, 1) := dk_28 (dk_at dksX8_sharedNodes_0 2 rfl rfl)
theorem dX8_sharedNodes_3 : decode cX8_sharedNodes 3 = .ok (.invokevirtual 358, 3) := dk_182 1 102 (dk_at dksX8_sharedNodes_0 3 rfl rfl)
theorem dX8_sharedNodes_6 : decode cX8_sharedNodes 6 = .ok (.ifCond .ne 5, 3) := dk_154 0 5 (dk_at dksX8_sharedNodes_0 6 rfl rfl)
theorem dX8_sharedNodes_9 : decode cX8_sharedNodes 9 = .ok (.iconst 0, 1) := dk_3 (dk_at dksX8_sharedNodes_0 9 rfl rfl)
theorem dX8_sharedNodes_10 : decode cX8_sharedNodes 10 = .ok (.ireturn, 1) := dk_172 (dk_at dksX8_sharedNodes_0 10 rfl rfl)
theorem dX8_sharedNodes_11 : decode cX8_sharedNodes 11 = .ok (.aload_n 0, 1) := dk_42 (dk_at dksX8_sharedNodes_0 11 rfl rfl)
theorem dX8_sharedNodes_12 : decode cX8_sharedNodes 12 = .ok (.invokevirtual 161, 3) := dk_182 0 161 (dk_at dksX8_sharedNodes_0 12 rfl rfl)
theorem dX8_sharedNodes_15 : decode cX8_sharedNodes 15 = .ok (.aload_n 0, 1) := dk_42 (dk_at dksX8_sharedNodes_0 15 rfl rfl)
theorem dX8_sharedNodes_16 : decode cX8_sharedNodes 16 = .ok (.aload_n 0, 1) := dk_42 (dk_at dksX8_sharedNodes_0 16 rfl rfl)
theorem dX8_sharedNodes_17 : decode cX8_sharedNodes 17 = .ok (.iload_n 1, 1) := dk_27 (dk_at dksX8_sharedNodes_0 17 rfl rfl)
theorem dX8_sharedNodes_18 : decode cX8_sharedNodes 18 = .ok (.invokevirtual 145, 3) := dk_182 0 145 (dk_at dksX8_sharedNodes_0 18 rfl rfl)
theorem dX8_sharedNodes_21 : decode cX8_sharedNodes 21 = .ok (.invokevirtual 157, 3) := dk_182 0 157 (dk_at dksX8_sharedNodes_0 21 rfl rfl)
theorem dX8_sharedNodes_24 : decode cX8_sharedNodes 24 = .ok (.aload_n 0, 1) := dk_42 (dk_at dksX8_sharedNodes_1 0 rfl rfl)
theorem dX8_sharedNodes_25 : decode cX8_sharedNodes 25 = .ok (.aload_n 0, 1) := dk_42 (dk_at dksX8_sharedNodes_1 1 rfl rfl)
theorem dX8_sharedNodes_26 : decode cX8_sharedNodes 26 = .ok (.iload_n 2, 1) := dk_28 (dk_at dksX8_sharedNodes_1 2 rfl rfl)
theorem dX8_sharedNodes_27 : decode cX8_sharedNodes 27 = .ok (.invokevirtual 145, 3) := dk_182 0 145 (dk_at dksX8_sharedNodes_1 3 rfl rfl)
theorem dX8_sharedNodes_30 : decode cX8_sharedNodes 30 = .ok (.invokevirtual 157, 3) := dk_182 0 157 (dk_at dksX8_sharedNodes_1 6 rfl rfl)
theorem dX8_sharedNodes_33 : decode cX8_sharedNodes 33 = .ok (.aload_n 0, 1) := dk_42 (dk_at dksX8_sharedNodes_1 9 rfl rfl)
theorem dX8_sharedNodes_34 : decode cX8_sharedNodes 34 = .ok (.iconst 2, 1) := dk_5 (dk_at dksX8_sharedNodes_1 10 rfl rfl)
theorem dX8_sharedNodes_35 : decode cX8_sharedNodes 35 = .ok (.invokevirtual 352, 3) := dk_182 1 96 (dk_at dksX8_sharedNodes_1 11 rfl rfl)
theorem dX8_sharedNodes_38 : decode cX8_sharedNodes 38 = .ok (.ireturn, 1) := dk_172 (dk_at dksX8_sharedNodes_1 14 rfl rfl)
abbrev cX8_checkTwo : ByteArray := prog_18_method_101_code
def yX8_checkTwo : MethodName := ⟨RX8, "checkTwo", "(II)Z"⟩
def dkwX8_checkTwo_2 : List UInt8 := [3, 4, 182, 1, 74, 172]
abbrev dktX8_checkTwo_2 : List UInt8 := dkwX8_checkTwo_2 ++ []
def dkwX8_checkTwo_1 : List UInt8 := [29, 153, 0, 23, 42, 27, 182, 0, 164, 154, 0, 15, 42, 28, 182, 0, 164, 154, 0, 7, 4, 167, 0, 4]
abbrev dktX8_checkTwo_1 : List UInt8 := dkwX8_checkTwo_1 ++ dktX8_checkTwo_2
def dkwX8_checkTwo_0 : List UInt8 := [42, 27, 182, 1, 29, 153, 0, 15, 42, 28, 182, 1, 29, 153, 0, 7, 4, 167, 0, 4, 3, 62, 42, 29]
abbrev dktX8_checkTwo_0 : List UInt8 := dkwX8_checkTwo_0 ++ dktX8_checkTwo_1
theorem dksX8_checkTwo_0 : cX8_checkTwo.data.toList.drop 0 = dktX8_checkTwo_0 := by decide +kernel
theorem dksX8_checkTwo_1 : cX8_checkTwo.data.toList.drop 24 = dktX8_checkTwo_1 := dk_seg dksX8_checkTwo_0 24 rfl rfl
theorem dksX8_checkTwo_2 : cX8_checkTwo.data.toList.drop 48 = dktX8_checkTwo_2 := dk_seg dksX8_checkTwo_1 24 rfl rfl
theorem dX8_checkTwo_0 : decode cX8_checkTwo 0 = .ok (.aload_n 0, 1) := dk_42 (dk_at dksX8_checkTwo_0 0 rfl rfl)
theorem dX8_checkTwo_1 : decode cX8_checkTwo 1 = .ok (.iload_n 1, 1) := dk_27 (dk_at dksX8_checkTwo_0 1 rfl rfl)
theorem dX8_checkTwo_2 : decode cX8_checkTwo 2 = .ok (.invokevirtual 285, 3) := dk_182 1 29 (dk_at dksX8_checkTwo_0 2 rfl rfl)
theorem dX8_checkTwo_5 : decode cX8_checkTwo 5 = .ok (.ifCond .eq 15, 3) := dk_153 0 15 (dk_at dksX8_checkTwo_0 5 rfl rfl)
theorem dX8_checkTwo_8 : decode cX8_checkTwo 8 = .ok (.aload_n 0, 1) := dk_42 (dk_at dksX8_checkTwo_0 8 rfl rfl)
theorem dX8_checkTwo_9 : decode cX8_checkTwo 9 = .ok (.iload_n 2, 1) := dk_28 (dk_at dksX8_checkTwo_0 9 rfl rfl)
theorem dX8_checkTwo_10 : decode cX8_checkTwo 10 = .ok (.invokevirtual 285, 3) := dk_182 1 29 (dk_at dksX8_checkTwo_0 10 rfl rfl)
theorem dX8_checkTwo_13 : decode cX8_checkTwo 13 = .ok (.ifCond .eq 7, 3) := dk_153 0 7 (dk_at dksX8_checkTwo_0 13 rfl rfl)
theorem dX8_checkTwo_16 : decode cX8_checkTwo 16 = .ok (.iconst 1, 1) := dk_4 (dk_at dksX8_checkTwo_0 16 rfl rfl)
theorem dX8_checkTwo_17 : decode cX8_checkTwo 17 = .ok (.goto 4, 3) := dk_167 0 4 (dk_at dksX8_checkTwo_0 17 rfl rfl)
theorem dX8_checkTwo_20 : decode cX8_checkTwo 20 = .ok (.iconst 0, 1) := dk_3 (dk_at dksX8_checkTwo_0 20 rfl rfl)
theorem dX8_checkTwo_21 : decode cX8_checkTwo 21 = .ok (.istore_n 3, 1) := dk_62 (dk_at dksX8_checkTwo_0 21 rfl rfl)
theorem dX8_checkTwo_22 : decode cX8_checkTwo 22 = .ok (.aload_n 0, 1) := dk_42 (dk_at dksX8_checkTwo_0 22 rfl rfl)
theorem dX8_checkTwo_23 : decode cX8_checkTwo 23 = .ok (.iload_n 3, 1) := dk_29 (dk_at dksX8_checkTwo_0 23 rfl rfl)
theorem dX8_checkTwo_24 : decode cX8_checkTwo 24 = .ok (.iload_n 3, 1) := dk_29 (dk_at dksX8_checkTwo_1 0 rfl rfl)
theorem dX8_checkTwo_25 : decode cX8_checkTwo 25 = .ok (.ifCond .eq 23, 3) := dk_153 0 23 (dk_at dksX8_checkTwo_1 1 rfl rfl)
theorem dX8_checkTwo_28 : decode cX8_checkTwo 28 = .ok (.aload_n 0, 1) := dk_42 (dk_at dksX8_checkTwo_1 4 rfl rfl)
theorem dX8_checkTwo_29 : decode cX8_checkTwo 29 = .ok (.iload_n 1, 1) := dk_27 (dk_at dksX8_checkTwo_1 5 rfl rfl)
theorem dX8_checkTwo_30 : decode cX8_checkTwo 30 = .ok (.invokevirtual 164, 3) := dk_182 0 164 (dk_at dksX8_checkTwo_1 6 rfl rfl)
theorem dX8_checkTwo_33 : decode cX8_checkTwo 33 = .ok (.ifCond .ne 15, 3) := dk_154 0 15 (dk_at dksX8_checkTwo_1 9 rfl rfl)
theorem dX8_checkTwo_36 : decode cX8_checkTwo 36 = .ok (.aload_n 0, 1) := dk_42 (dk_at dksX8_checkTwo_1 12 rfl rfl)
theorem dX8_checkTwo_37 : decode cX8_checkTwo 37 = .ok (.iload_n 2, 1) := dk_28 (dk_at dksX8_checkTwo_1 13 rfl rfl)
theorem dX8_checkTwo_38 : decode cX8_checkTwo 38 = .ok (.invokevirtual 164, 3) := dk_182 0 164 (dk_at dksX8_checkTwo_1 14 rfl rfl)
theorem dX8_checkTwo_41 : decode cX8_checkTwo 41 = .ok (.ifCond .ne 7, 3) := dk_154 0 7 (dk_at dksX8_checkTwo_1 17 rfl rfl)
theorem dX8_checkTwo_44 : decode cX8_checkTwo 44 = .ok (.iconst 1, 1) := dk_4 (dk_at dksX8_checkTwo_1 20 rfl rfl)
theorem dX8_checkTwo_45 : decode cX8_checkTwo 45 = .ok (.goto 4, 3) := dk_167 0 4 (dk_at dksX8_checkTwo_1 21 rfl rfl)
theorem dX8_checkTwo_48 : decode cX8_checkTwo 48 = .ok (.iconst 0, 1) := dk_3 (dk_at dksX8_checkTwo_2 0 rfl rfl)
theorem dX8_checkTwo_49 : decode cX8_checkTwo 49 = .ok (.iconst 1, 1) := dk_4 (dk_at dksX8_checkTwo_2 1 rfl rfl)
theorem dX8_checkTwo_50 : decode cX8_checkTwo 50 = .ok (.invokevirtual 330, 3) := dk_182 1 74 (dk_at dksX8_checkTwo_2 2 rfl rfl)
theorem dX8_checkTwo_53 : decode cX8_checkTwo 53 = .ok (.ireturn, 1) := dk_172 (dk_at dksX8_checkTwo_2 5 rfl rfl)
abbrev cX8_exclusiveNodes : ByteArray := prog_18_method_105_code
def yX8_exclusiveNodes : MethodName := ⟨RX8, "exclusiveNodes", "(I)I"⟩
def dkwX8_exclusiveNodes_0 : List UInt8 := [42, 27, 182, 1, 87, 153, 0, 11, 42, 27, 182, 1, 108, 167, 0, 4, 3, 172]
abbrev dktX8_exclusiveNodes_0 : List UInt8 := dkwX8_exclusiveNodes_0 ++ []
theorem dksX8_exclusiveNodes_0 : cX8_exclusiveNodes.data.toList.drop 0 = dktX8_exclusiveNodes_0 := by decide +kernel
theorem dX8_exclusiveNodes_0 : decode cX8_exclusiveNodes 0 = .ok (.aload_n 0, 1) := dk_42 (dk_at dksX8_exclusiveNodes_0 0 rfl rfl)
theorem dX8_exclusiveNodes_1 : decode cX8_exclusiveNodes 1 = .ok (.iload_n 1, 1) := dk_27 (dk_at dksX8_exclusiveNodes_0 1 rfl rfl)
theorem dX8_exclusiveNodes_2 : decode cX8_exclusiveNodes 2 = .ok (.invokevirtual 343, 3) := dk_182 1 87 (dk_at dksX8_exclusiveNodes_0 2 rfl rfl)
theorem dX8_exclusiveNodes_5 : decode cX8_exclusiveNodes 5 = .ok (.ifCond .eq 11, 3) := dk_153 0 11 (dk_at dksX8_exclusiveNodes_0 5 rfl rfl)
theorem dX8_exclusiveNodes_8 : decode cX8_exclusiveNodes 8 = .ok (.aload_n 0, 1) := dk_42 (dk_at dksX8_exclusiveNodes_0 8 rfl rfl)
theorem dX8_exclusiveNodes_9 : decode cX8_exclusiveNodes 9 = .ok (.iload_n 1, 1) := dk_27 (dk_at dksX8_exclusiveNodes_0 9 rfl rfl)
theorem dX8_exclusiveNodes_10 : decode cX8_exclusiveNodes 10 = .ok (.invokevirtual 364, 3) := dk_182 1 108 (dk_at dksX8_exclusiveNodes_0 10 rfl rfl)
theorem dX8_exclusiveNodes_13 : decode cX8_exclusiveNodes 13 = .ok (.goto 4, 3) := dk_167 0 4 (dk_at dksX8_exclusiveNodes_0 13 rfl rfl)
theorem dX8_exclusiveNodes_16 : decode cX8_exclusiveNodes 16 = .ok (.iconst 0, 1) := dk_3 (dk_at dksX8_exclusiveNodes_0 16 rfl rfl)
theorem dX8_exclusiveNodes_17 : decode cX8_exclusiveNodes 17 = .ok (.ireturn, 1) := dk_172 (dk_at dksX8_exclusiveNodes_0 17 rfl rfl)
abbrev cX8_countExclusive : ByteArray := prog_18_method_103_code
def yX8_countExclusive : MethodName := ⟨RX8, "countExclusive", "(I)I"⟩
def dkwX8_countExclusive_1 : List UInt8 := [182, 0, 174, 42, 182, 1, 105, 28, 100, 62, 42, 180, 0, 9, 27, 184, 0, 112, 7, 96, 3, 79, 29, 172]
abbrev dktX8_countExclusive_1 : List UInt8 := dkwX8_countExclusive_1 ++ []
def dkwX8_countExclusive_0 : List UInt8 := [42, 182, 0, 174, 42, 182, 1, 105, 61, 42, 180, 0, 9, 27, 184, 0, 112, 7, 96, 4, 79, 42]
abbrev dktX8_countExclusive_0 : List UInt8 := dkwX8_countExclusive_0 ++ dktX8_countExclusive_1
theorem dksX8_countExclusive_0 : cX8_countExclusive.data.toList.drop 0 = dktX8_countExclusive_0 := by decide +kernel
theorem dksX8_countExclusive_1 : cX8_countExclusive.data.toList.drop 22 = dktX8_countExclusive_1 := dk_seg dksX8_countExclusive_0 22 rfl rfl
theorem dX8_countExclusive_0 : decode cX8_countExclusive 0 = .ok (.aload_n 0, 1) := dk_42 (dk_at dksX8_countExclusive_0 0 rfl rfl)
theorem dX8_countExclusive_1 : decode cX8_countExclusive 1 = .ok (.invokevirtual 174, 3) := dk_182 0 174 (dk_at dksX8_countExclusive_0 1 rfl rfl)
theorem dX8_countExclusive_4 : decode cX8_countExclusive 4 = .ok (.aload_n 0, 1) := dk_42 (dk_at dksX8_countExclusive_0 4 rfl rfl)
theorem dX8_countExclusive_5 : decode cX8_countExclusive 5 = .ok (.invokevirtual 361, 3) := dk_182 1 105 (dk_at dksX8_countExclusive_0 5 rfl rfl)
theorem dX8_countExclusive_8 : decode cX8_countExclusive 8 = .ok (.istore_n 2, 1) := dk_61 (dk_at dksX8_countExclusive_0 8 rfl rfl)
theorem dX8_countExclusive_9 : decode cX8_countExclusive 9 = .ok (.aload_n 0, 1) := dk_42 (dk_at dksX8_countExclusive_0 9 rfl rfl)
theorem dX8_countExclusive_10 : decode cX8_countExclusive 10 = .ok (.getfield 9, 3) := dk_180 0 9 (dk_at dksX8_countExclusive_0 10 rfl rfl)
theorem dX8_countExclusive_13 : decode cX8_countExclusive 13 = .ok (.iload_n 1, 1) := dk_27 (dk_at dksX8_countExclusive_0 13 rfl rfl)
theorem dX8_countExclusive_14 : decode cX8_countExclusive 14 = .ok (.invokestatic 112, 3) := dk_184 0 112 (dk_at dksX8_countExclusive_0 14 rfl rfl)
theorem dX8_countExclusive_17 : decode cX8_countExclusive 17 = .ok (.iconst 4, 1) := dk_7 (dk_at dksX8_countExclusive_0 17 rfl rfl)
theorem dX8_countExclusive_18 : decode cX8_countExclusive 18 = .ok (.iadd, 1) := dk_96 (dk_at dksX8_countExclusive_0 18 rfl rfl)
theorem dX8_countExclusive_19 : decode cX8_countExclusive 19 = .ok (.iconst 1, 1) := dk_4 (dk_at dksX8_countExclusive_0 19 rfl rfl)
theorem dX8_countExclusive_20 : decode cX8_countExclusive 20 = .ok (.iastore, 1) := dk_79 (dk_at dksX8_countExclusive_0 20 rfl rfl)
theorem dX8_countExclusive_21 : decode cX8_countExclusive 21 = .ok (.aload_n 0, 1) := dk_42 (dk_at dksX8_countExclusive_0 21 rfl rfl)
theorem dX8_countExclusive_22 : decode cX8_countExclusive 22 = .ok (.invokevirtual 174, 3) := dk_182 0 174 (dk_at dksX8_countExclusive_1 0 rfl rfl)
theorem dX8_countExclusive_25 : decode cX8_countExclusive 25 = .ok (.aload_n 0, 1) := dk_42 (dk_at dksX8_countExclusive_1 3 rfl rfl)
theorem dX8_countExclusive_26 : decode cX8_countExclusive 26 = .ok (.invokevirtual 361, 3) := dk_182 1 105 (dk_at dksX8_countExclusive_1 4 rfl rfl)
theorem dX8_countExclusive_29 : decode cX8_countExclusive 29 = .ok (.iload_n 2, 1) := dk_28 (dk_at dksX8_countExclusive_1 7 rfl rfl)
theorem dX8_countExclusive_30 : decode cX8_countExclusive 30 = .ok (.isub, 1) := dk_100 (dk_at dksX8_countExclusive_1 8 rfl rfl)
theorem dX8_countExclusive_31 : decode cX8_countExclusive 31 = .ok (.istore_n 3, 1) := dk_62 (dk_at dksX8_countExclusive_1 9 rfl rfl)
theorem dX8_countExclusive_32 : decode cX8_countExclusive 32 = .ok (.aload_n 0, 1) := dk_42 (dk_at dksX8_countExclusive_1 10 rfl rfl)
theorem dX8_countExclusive_33 : decode cX8_countExclusive 33 = .ok (.getfield 9, 3) := dk_180 0 9 (dk_at dksX8_countExclusive_1 11 rfl rfl)
theorem dX8_countExclusive_36 : decode cX8_countExclusive 36 = .ok (.iload_n 1, 1) := dk_27 (dk_at dksX8_countExclusive_1 14 rfl rfl)
theorem dX8_countExclusive_37 : decode cX8_countExclusive 37 = .ok (.invokestatic 112, 3) := dk_184 0 112 (dk_at dksX8_countExclusive_1 15 rfl rfl)
theorem dX8_countExclusive_40 : decode cX8_countExclusive 40 = .ok (.iconst 4, 1) := dk_7 (dk_at dksX8_countExclusive_1 18 rfl rfl)
theorem dX8_countExclusive_41 : decode cX8_countExclusive 41 = .ok (.iadd, 1) := dk_96 (dk_at dksX8_countExclusive_1 19 rfl rfl)
theorem dX8_countExclusive_42 : decode cX8_countExclusive 42 = .ok (.iconst 0, 1) := dk_3 (dk_at dksX8_countExclusive_1 20 rfl rfl)
theorem dX8_countExclusive_43 : decode cX8_countExclusive 43 = .ok (.iastore, 1) := dk_79 (dk_at dksX8_countExclusive_1 21 rfl rfl)
theorem dX8_countExclusive_44 : decode cX8_countExclusive 44 = .ok (.iload_n 3, 1) := dk_29 (dk_at dksX8_countExclusive_1 22 rfl rfl)
theorem dX8_countExclusive_45 : decode cX8_countExclusive 45 = .ok (.ireturn, 1) := dk_172 (dk_at dksX8_countExclusive_1 23 rfl rfl)
abbrev cX8_countGarbageOf : ByteArray := prog_18_method_104_code
def yX8_countGarbageOf : MethodName := ⟨RX8, "countGarbageOf", "()I"⟩
def dkwX8_countGarbageOf_2 : List UInt8 := [27, 172]
abbrev dktX8_countGarbageOf_2 : List UInt8 := dkwX8_countGarbageOf_2 ++ []
def dkwX8_countGarbageOf_1 : List UInt8 := [180, 0, 32, 28, 46, 154, 0, 7, 4, 167, 0, 4, 3, 184, 0, 75, 96, 60, 132, 2, 1, 167, 255, 215]
abbrev dktX8_countGarbageOf_1 : List UInt8 := dkwX8_countGarbageOf_1 ++ dktX8_countGarbageOf_2
def dkwX8_countGarbageOf_0 : List UInt8 := [3, 60, 3, 61, 28, 42, 180, 0, 9, 4, 46, 162, 0, 37, 27, 42, 28, 182, 0, 171, 153, 0, 16, 42]
abbrev dktX8_countGarbageOf_0 : List UInt8 := dkwX8_countGarbageOf_0 ++ dktX8_countGarbageOf_1
theorem dksX8_countGarbageOf_0 : cX8_countGarbageOf.data.toList.drop 0 = dktX8_countGarbageOf_0 := by decide +kernel
theorem dksX8_countGarbageOf_1 : cX8_countGarbageOf.data.toList.drop 24 = dktX8_countGarbageOf_1 := dk_seg dksX8_countGarbageOf_0 24 rfl rfl
theorem dksX8_countGarbageOf_2 : cX8_countGarbageOf.data.toList.drop 48 = dktX8_countGarbageOf_2 := dk_seg dksX8_countGarbageOf_1 24 rfl rfl
theorem dX8_countGarbageOf_0 : decode cX8_countGarbageOf 0 = .ok (.iconst 0, 1) := dk_3 (dk_at dksX8_countGarbageOf_0 0 rfl rfl)
theorem dX8_countGarbageOf_1 : decode cX8_countGarbageOf 1 = .ok (.istore_n 1, 1) := dk_60 (dk_at dksX8_countGarbageOf_0 1 rfl rfl)
theorem dX8_countGarbageOf_2 : decode cX8_countGarbageOf 2 = .ok (.iconst 0, 1) := dk_3 (dk_at dksX8_countGarbageOf_0 2 rfl rfl)
theorem dX8_countGarbageOf_3 : decode cX8_countGarbageOf 3 = .ok (.istore_n 2, 1) := dk_61 (dk_at dksX8_countGarbageOf_0 3 rfl rfl)
theorem dX8_countGarbageOf_4 : decode cX8_countGarbageOf 4 = .ok (.iload_n 2, 1) := dk_28 (dk_at dksX8_countGarbageOf_0 4 rfl rfl)
theorem dX8_countGarbageOf_5 : decode cX8_countGarbageOf 5 = .ok (.aload_n 0, 1) := dk_42 (dk_at dksX8_countGarbageOf_0 5 rfl rfl)
theorem dX8_countGarbageOf_6 : decode cX8_countGarbageOf 6 = .ok (.getfield 9, 3) := dk_180 0 9 (dk_at dksX8_countGarbageOf_0 6 rfl rfl)
theorem dX8_countGarbageOf_9 : decode cX8_countGarbageOf 9 = .ok (.iconst 1, 1) := dk_4 (dk_at dksX8_countGarbageOf_0 9 rfl rfl)
theorem dX8_countGarbageOf_10 : decode cX8_countGarbageOf 10 = .ok (.iaload, 1) := dk_46 (dk_at dksX8_countGarbageOf_0 10 rfl rfl)
theorem dX8_countGarbageOf_11 : decode cX8_countGarbageOf 11 = .ok (.if_icmp .ge 37, 3) := dk_162 0 37 (dk_at dksX8_countGarbageOf_0 11 rfl rfl)
theorem dX8_countGarbageOf_14 : decode cX8_countGarbageOf 14 = .ok (.iload_n 1, 1) := dk_27 (dk_at dksX8_countGarbageOf_0 14 rfl rfl)
theorem dX8_countGarbageOf_15 : decode cX8_countGarbageOf 15 = .ok (.aload_n 0, 1) := dk_42 (dk_at dksX8_countGarbageOf_0 15 rfl rfl)
theorem dX8_countGarbageOf_16 : decode cX8_countGarbageOf 16 = .ok (.iload_n 2, 1) := dk_28 (dk_at dksX8_countGarbageOf_0 16 rfl rfl)
theorem dX8_countGarbageOf_17 : decode cX8_countGarbageOf 17 = .ok (.invokevirtual 171, 3) := dk_182 0 171 (dk_at dksX8_countGarbageOf_0 17 rfl rfl)
theorem dX8_countGarbageOf_20 : decode cX8_countGarbageOf 20 = .ok (.ifCond .eq 16, 3) := dk_153 0 16 (dk_at dksX8_countGarbageOf_0 20 rfl rfl)
theorem dX8_countGarbageOf_23 : decode cX8_countGarbageOf 23 = .ok (.aload_n 0, 1) := dk_42 (dk_at dksX8_countGarbageOf_0 23 rfl rfl)
theorem dX8_countGarbageOf_24 : decode cX8_countGarbageOf 24 = .ok (.getfield 32, 3) := dk_180 0 32 (dk_at dksX8_countGarbageOf_1 0 rfl rfl)
theorem dX8_countGarbageOf_27 : decode cX8_countGarbageOf 27 = .ok (.iload_n 2, 1) := dk_28 (dk_at dksX8_countGarbageOf_1 3 rfl rfl)
theorem dX8_countGarbageOf_28 : decode cX8_countGarbageOf 28 = .ok (.iaload, 1) := dk_46 (dk_at dksX8_countGarbageOf_1 4 rfl rfl)
theorem dX8_countGarbageOf_29 : decode cX8_countGarbageOf 29 = .ok (.ifCond .ne 7, 3) := dk_154 0 7 (dk_at dksX8_countGarbageOf_1 5 rfl rfl)
theorem dX8_countGarbageOf_32 : decode cX8_countGarbageOf 32 = .ok (.iconst 1, 1) := dk_4 (dk_at dksX8_countGarbageOf_1 8 rfl rfl)
theorem dX8_countGarbageOf_33 : decode cX8_countGarbageOf 33 = .ok (.goto 4, 3) := dk_167 0 4 (dk_at dksX8_countGarbageOf_1 9 rfl rfl)
theorem dX8_countGarbageOf_36 : decode cX8_countGarbageOf 36 = .ok (.iconst 0, 1) := dk_3 (dk_at dksX8_countGarbageOf_1 12 rfl rfl)
theorem dX8_countGarbageOf_37 : decode cX8_countGarbageOf 37 = .ok (.invokestatic 75, 3) := dk_184 0 75 (dk_at dksX8_countGarbageOf_1 13 rfl rfl)
theorem dX8_countGarbageOf_40 : decode cX8_countGarbageOf 40 = .ok (.iadd, 1) := dk_96 (dk_at dksX8_countGarbageOf_1 16 rfl rfl)
theorem dX8_countGarbageOf_41 : decode cX8_countGarbageOf 41 = .ok (.istore_n 1, 1) := dk_60 (dk_at dksX8_countGarbageOf_1 17 rfl rfl)
theorem dX8_countGarbageOf_42 : decode cX8_countGarbageOf 42 = .ok (.iinc 2 1, 3) := dk_132 2 1 (dk_at dksX8_countGarbageOf_1 18 rfl rfl)
theorem dX8_countGarbageOf_45 : decode cX8_countGarbageOf 45 = .ok (.goto (-41), 3) := dk_167 255 215 (dk_at dksX8_countGarbageOf_1 21 rfl rfl)
theorem dX8_countGarbageOf_48 : decode cX8_countGarbageOf 48 = .ok (.iload_n 1, 1) := dk_27 (dk_at dksX8_countGarbageOf_2 0 rfl rfl)
theorem dX8_countGarbageOf_49 : decode cX8_countGarbageOf 49 = .ok (.ireturn, 1) := dk_172 (dk_at dksX8_countGarbageOf_2 1 rfl rfl)
abbrev cX8_isLeaf : ByteArray := prog_18_method_107_code
def yX8_isLeaf : MethodName := ⟨RX8, "isLeaf", "(I)Z"⟩
def dkwX8_isLeaf_0 : List UInt8 := [42, 27, 182, 1, 111, 153, 0, 15, 42, 27, 182, 0, 90, 153, 0, 7, 4, 167, 0, 4, 3, 172]
abbrev dktX8_isLeaf_0 : List UInt8 := dkwX8_isLeaf_0 ++ []
theorem dksX8_isLeaf_0 : cX8_isLeaf.data.toList.drop 0 = dktX8_isLeaf_0 := by decide +kernel
theorem dX8_isLeaf_0 : decode cX8_isLeaf 0 = .ok (.aload_n 0, 1) := dk_42 (dk_at dksX8_isLeaf_0 0 rfl rfl)
theorem dX8_isLeaf_1 : decode cX8_isLeaf 1 = .ok (.iload_n 1, 1) := dk_27 (dk_at dksX8_isLeaf_0 1 rfl rfl)
theorem dX8_isLeaf_2 : decode cX8_isLeaf 2 = .ok (.invokevirtual 367, 3) := dk_182 1 111 (dk_at dksX8_isLeaf_0 2 rfl rfl)
theorem dX8_isLeaf_5 : decode cX8_isLeaf 5 = .ok (.ifCond .eq 15, 3) := dk_153 0 15 (dk_at dksX8_isLeaf_0 5 rfl rfl)
theorem dX8_isLeaf_8 : decode cX8_isLeaf 8 = .ok (.aload_n 0, 1) := dk_42 (dk_at dksX8_isLeaf_0 8 rfl rfl)
theorem dX8_isLeaf_9 : decode cX8_isLeaf 9 = .ok (.iload_n 1, 1) := dk_27 (dk_at dksX8_isLeaf_0 9 rfl rfl)
theorem dX8_isLeaf_10 : decode cX8_isLeaf 10 = .ok (.invokevirtual 90, 3) := dk_182 0 90 (dk_at dksX8_isLeaf_0 10 rfl rfl)
theorem dX8_isLeaf_13 : decode cX8_isLeaf 13 = .ok (.ifCond .eq 7, 3) := dk_153 0 7 (dk_at dksX8_isLeaf_0 13 rfl rfl)
theorem dX8_isLeaf_16 : decode cX8_isLeaf 16 = .ok (.iconst 1, 1) := dk_4 (dk_at dksX8_isLeaf_0 16 rfl rfl)
theorem dX8_isLeaf_17 : decode cX8_isLeaf 17 = .ok (.goto 4, 3) := dk_167 0 4 (dk_at dksX8_isLeaf_0 17 rfl rfl)
theorem dX8_isLeaf_20 : decode cX8_isLeaf 20 = .ok (.iconst 0, 1) := dk_3 (dk_at dksX8_isLeaf_0 20 rfl rfl)
theorem dX8_isLeaf_21 : decode cX8_isLeaf 21 = .ok (.ireturn, 1) := dk_172 (dk_at dksX8_isLeaf_0 21 rfl rfl)
abbrev cX8_checkNode : ByteArray := prog_18_method_106_code
def yX8_checkNode : MethodName := ⟨RX8, "checkNode", "(I)Z"⟩
def dkwX8_checkNode_0 : List UInt8 := [42, 42, 27, 182, 0, 171, 4, 4, 182, 1, 74, 172]
abbrev dktX8_checkNode_0 : List UInt8 := dkwX8_checkNode_0 ++ []
theorem dksX8_checkNode_0 : cX8_checkNode.data.toList.drop 0 = dktX8_checkNode_0 := by decide +kernel
theorem dX8_checkNode_0 : decode cX8_checkNode 0 = .ok (.aload_n 0, 1) := dk_42 (dk_at dksX8_checkNode_0 0 rfl rfl)
theorem dX8_checkNode_1 : decode cX8_checkNode 1 = .ok (.aload_n 0, 1) := dk_42 (dk_at dksX8_checkNode_0 1 rfl rfl)
theorem dX8_checkNode_2 : decode cX8_checkNode 2 = .ok (.iload_n 1, 1) := dk_27 (dk_at dksX8_checkNode_0 2 rfl rfl)
theorem dX8_checkNode_3 : decode cX8_checkNode 3 = .ok (.invokevirtual 171, 3) := dk_182 0 171 (dk_at dksX8_checkNode_0 3 rfl rfl)
theorem dX8_checkNode_6 : decode cX8_checkNode 6 = .ok (.iconst 1, 1) := dk_4 (dk_at dksX8_checkNode_0 6 rfl rfl)
theorem dX8_checkNode_7 : decode cX8_checkNode 7 = .ok (.iconst 1, 1) := dk_4 (dk_at dksX8_checkNode_0 7 rfl rfl)
theorem dX8_checkNode_8 : decode cX8_checkNode 8 = .ok (.invokevirtual 330, 3) := dk_182 1 74 (dk_at dksX8_checkNode_0 8 rfl rfl)
theorem dX8_checkNode_11 : decode cX8_checkNode 11 = .ok (.ireturn, 1) := dk_172 (dk_at dksX8_checkNode_0 11 rfl rfl)
abbrev cX8_entryCount : ByteArray := prog_18_method_108_code
def yX8_entryCount : MethodName := ⟨RX8, "entryCount", "(I)I"⟩
def dkwX8_entryCount_0 : List UInt8 := [42, 27, 182, 1, 111, 153, 0, 11, 42, 27, 182, 0, 79, 167, 0, 4, 3, 172]
abbrev dktX8_entryCount_0 : List UInt8 := dkwX8_entryCount_0 ++ []
theorem dksX8_entryCount_0 : cX8_entryCount.data.toList.drop 0 = dktX8_entryCount_0 := by decide +kernel
theorem dX8_entryCount_0 : decode cX8_entryCount 0 = .ok (.aload_n 0, 1) := dk_42 (dk_at dksX8_entryCount_0 0 rfl rfl)
theorem dX8_entryCount_1 : decode cX8_entryCount 1 = .ok (.iload_n 1, 1) := dk_27 (dk_at dksX8_entryCount_0 1 rfl rfl)
theorem dX8_entryCount_2 : decode cX8_entryCount 2 = .ok (.invokevirtual 367, 3) := dk_182 1 111 (dk_at dksX8_entryCount_0 2 rfl rfl)
theorem dX8_entryCount_5 : decode cX8_entryCount 5 = .ok (.ifCond .eq 11, 3) := dk_153 0 11 (dk_at dksX8_entryCount_0 5 rfl rfl)
theorem dX8_entryCount_8 : decode cX8_entryCount 8 = .ok (.aload_n 0, 1) := dk_42 (dk_at dksX8_entryCount_0 8 rfl rfl)
theorem dX8_entryCount_9 : decode cX8_entryCount 9 = .ok (.iload_n 1, 1) := dk_27 (dk_at dksX8_entryCount_0 9 rfl rfl)
theorem dX8_entryCount_10 : decode cX8_entryCount 10 = .ok (.invokevirtual 79, 3) := dk_182 0 79 (dk_at dksX8_entryCount_0 10 rfl rfl)
theorem dX8_entryCount_13 : decode cX8_entryCount 13 = .ok (.goto 4, 3) := dk_167 0 4 (dk_at dksX8_entryCount_0 13 rfl rfl)
theorem dX8_entryCount_16 : decode cX8_entryCount 16 = .ok (.iconst 0, 1) := dk_3 (dk_at dksX8_entryCount_0 16 rfl rfl)
theorem dX8_entryCount_17 : decode cX8_entryCount 17 = .ok (.ireturn, 1) := dk_172 (dk_at dksX8_entryCount_0 17 rfl rfl)
abbrev cX8_childOf : ByteArray := prog_18_method_109_code
def yX8_childOf : MethodName := ⟨RX8, "childOf", "(II)I"⟩
def dkwX8_childOf_2 : List UInt8 := [28, 182, 0, 71, 167, 0, 4, 2, 172]
abbrev dktX8_childOf_2 : List UInt8 := dkwX8_childOf_2 ++ []
def dkwX8_childOf_1 : List UInt8 := [182, 0, 79, 4, 100, 133, 184, 0, 167, 153, 0, 7, 4, 167, 0, 4, 3, 62, 29, 153, 0, 12, 42, 27]
abbrev dktX8_childOf_1 : List UInt8 := dkwX8_childOf_1 ++ dktX8_childOf_2
def dkwX8_childOf_0 : List UInt8 := [42, 27, 182, 1, 111, 154, 0, 5, 3, 172, 42, 27, 182, 0, 90, 154, 0, 24, 28, 133, 9, 42, 27]
abbrev dktX8_childOf_0 : List UInt8 := dkwX8_childOf_0 ++ dktX8_childOf_1
theorem dksX8_childOf_0 : cX8_childOf.data.toList.drop 0 = dktX8_childOf_0 := by decide +kernel
theorem dksX8_childOf_1 : cX8_childOf.data.toList.drop 23 = dktX8_childOf_1 := dk_seg dksX8_childOf_0 23 rfl rfl
theorem dksX8_childOf_2 : cX8_childOf.data.toList.drop 47 = dktX8_childOf_2 := dk_seg dksX8_childOf_1 24 rfl rfl
theorem dX8_childOf_0 : decode cX8_childOf 0 = .ok (.aload_n 0, 1) := dk_42 (dk_at dksX8_childOf_0 0 rfl rfl)
theorem dX8_childOf_1 : decode cX8_childOf 1 = .ok (.iload_n 1, 1) := dk_27 (dk_at dksX8_childOf_0 1 rfl rfl)
theorem dX8_childOf_2 : decode cX8_childOf 2 = .ok (.invokevirtual 367, 3) := dk_182 1 111 (dk_at dksX8_childOf_0 2 rfl rfl)
theorem dX8_childOf_5 : decode cX8_childOf 5 = .ok (.ifCond .ne 5, 3) := dk_154 0 5 (dk_at dksX8_childOf_0 5 rfl rfl)
theorem dX8_childOf_8 : decode cX8_childOf 8 = .ok (.iconst 0, 1) := dk_3 (dk_at dksX8_childOf_0 8 rfl rfl)
theorem dX8_childOf_9 : decode cX8_childOf 9 = .ok (.ireturn, 1) := dk_172 (dk_at dksX8_childOf_0 9 rfl rfl)
theorem dX8_childOf_10 : decode cX8_childOf 10 = .ok (.aload_n 0, 1) := dk_42 (dk_at dksX8_childOf_0 10 rfl rfl)
theorem dX8_childOf_11 : decode cX8_childOf 11 = .ok (.iload_n 1, 1) := dk_27 (dk_at dksX8_childOf_0 11 rfl rfl)
theorem dX8_childOf_12 : decode cX8_childOf 12 = .ok (.invokevirtual 90, 3) := dk_182 0 90 (dk_at dksX8_childOf_0 12 rfl rfl)
theorem dX8_childOf_15 : decode cX8_childOf 15 = .ok (.ifCond .ne 24, 3) := dk_154 0 24 (dk_at dksX8_childOf_0 15 rfl rfl)
theorem dX8_childOf_18 : decode cX8_childOf 18 = .ok (.iload_n 2, 1) := dk_28 (dk_at dksX8_childOf_0 18 rfl rfl)
theorem dX8_childOf_19 : decode cX8_childOf 19 = .ok (.i2l, 1) := dk_133 (dk_at dksX8_childOf_0 19 rfl rfl)
theorem dX8_childOf_20 : decode cX8_childOf 20 = .ok (.lconst 0, 1) := dk_9 (dk_at dksX8_childOf_0 20 rfl rfl)
theorem dX8_childOf_21 : decode cX8_childOf 21 = .ok (.aload_n 0, 1) := dk_42 (dk_at dksX8_childOf_0 21 rfl rfl)
theorem dX8_childOf_22 : decode cX8_childOf 22 = .ok (.iload_n 1, 1) := dk_27 (dk_at dksX8_childOf_0 22 rfl rfl)
theorem dX8_childOf_23 : decode cX8_childOf 23 = .ok (.invokevirtual 79, 3) := dk_182 0 79 (dk_at dksX8_childOf_1 0 rfl rfl)
theorem dX8_childOf_26 : decode cX8_childOf 26 = .ok (.iconst 1, 1) := dk_4 (dk_at dksX8_childOf_1 3 rfl rfl)
theorem dX8_childOf_27 : decode cX8_childOf 27 = .ok (.isub, 1) := dk_100 (dk_at dksX8_childOf_1 4 rfl rfl)
theorem dX8_childOf_28 : decode cX8_childOf 28 = .ok (.i2l, 1) := dk_133 (dk_at dksX8_childOf_1 5 rfl rfl)
theorem dX8_childOf_29 : decode cX8_childOf 29 = .ok (.invokestatic 167, 3) := dk_184 0 167 (dk_at dksX8_childOf_1 6 rfl rfl)
theorem dX8_childOf_32 : decode cX8_childOf 32 = .ok (.ifCond .eq 7, 3) := dk_153 0 7 (dk_at dksX8_childOf_1 9 rfl rfl)
theorem dX8_childOf_35 : decode cX8_childOf 35 = .ok (.iconst 1, 1) := dk_4 (dk_at dksX8_childOf_1 12 rfl rfl)
theorem dX8_childOf_36 : decode cX8_childOf 36 = .ok (.goto 4, 3) := dk_167 0 4 (dk_at dksX8_childOf_1 13 rfl rfl)
theorem dX8_childOf_39 : decode cX8_childOf 39 = .ok (.iconst 0, 1) := dk_3 (dk_at dksX8_childOf_1 16 rfl rfl)
theorem dX8_childOf_40 : decode cX8_childOf 40 = .ok (.istore_n 3, 1) := dk_62 (dk_at dksX8_childOf_1 17 rfl rfl)
theorem dX8_childOf_41 : decode cX8_childOf 41 = .ok (.iload_n 3, 1) := dk_29 (dk_at dksX8_childOf_1 18 rfl rfl)
theorem dX8_childOf_42 : decode cX8_childOf 42 = .ok (.ifCond .eq 12, 3) := dk_153 0 12 (dk_at dksX8_childOf_1 19 rfl rfl)
theorem dX8_childOf_45 : decode cX8_childOf 45 = .ok (.aload_n 0, 1) := dk_42 (dk_at dksX8_childOf_1 22 rfl rfl)
theorem dX8_childOf_46 : decode cX8_childOf 46 = .ok (.iload_n 1, 1) := dk_27 (dk_at dksX8_childOf_1 23 rfl rfl)
theorem dX8_childOf_47 : decode cX8_childOf 47 = .ok (.iload_n 2, 1) := dk_28 (dk_at dksX8_childOf_2 0 rfl rfl)
theorem dX8_childOf_48 : decode cX8_childOf 48 = .ok (.invokevirtual 71, 3) := dk_182 0 71 (dk_at dksX8_childOf_2 1 rfl rfl)
theorem dX8_childOf_51 : decode cX8_childOf 51 = .ok (.goto 4, 3) := dk_167 0 4 (dk_at dksX8_childOf_2 4 rfl rfl)
theorem dX8_childOf_54 : decode cX8_childOf 54 = .ok (.iconst (-1), 1) := dk_2 (dk_at dksX8_childOf_2 7 rfl rfl)
theorem dX8_childOf_55 : decode cX8_childOf 55 = .ok (.ireturn, 1) := dk_172 (dk_at dksX8_childOf_2 8 rfl rfl)
abbrev cX8_referencesTo : ByteArray := prog_18_method_111_code
def yX8_referencesTo : MethodName := ⟨RX8, "referencesTo", "(I)I"⟩
def dkwX8_referencesTo_3 : List UInt8 := [42, 29, 27, 182, 1, 114, 184, 0, 75, 96, 61, 132, 3, 1, 167, 255, 231, 28, 172]
abbrev dktX8_referencesTo_3 : List UInt8 := dkwX8_referencesTo_3 ++ []
def dkwX8_referencesTo_2 : List UInt8 := [184, 0, 75, 96, 61, 132, 3, 1, 167, 255, 215, 3, 62, 29, 42, 180, 0, 9, 4, 46, 162, 0, 21, 28]
abbrev dktX8_referencesTo_2 : List UInt8 := dkwX8_referencesTo_2 ++ dktX8_referencesTo_3
def dkwX8_referencesTo_1 : List UInt8 := [28, 42, 29, 182, 0, 164, 154, 0, 16, 42, 29, 182, 0, 145, 27, 160, 0, 7, 4, 167, 0, 4, 3]
abbrev dktX8_referencesTo_1 : List UInt8 := dkwX8_referencesTo_1 ++ dktX8_referencesTo_2
def dkwX8_referencesTo_0 : List UInt8 := [42, 27, 182, 1, 111, 154, 0, 5, 3, 172, 3, 61, 3, 62, 29, 42, 180, 0, 9, 3, 46, 162, 0, 37]
abbrev dktX8_referencesTo_0 : List UInt8 := dkwX8_referencesTo_0 ++ dktX8_referencesTo_1
theorem dksX8_referencesTo_0 : cX8_referencesTo.data.toList.drop 0 = dktX8_referencesTo_0 := by decide +kernel
theorem dksX8_referencesTo_1 : cX8_referencesTo.data.toList.drop 24 = dktX8_referencesTo_1 := dk_seg dksX8_referencesTo_0 24 rfl rfl
theorem dksX8_referencesTo_2 : cX8_referencesTo.data.toList.drop 47 = dktX8_referencesTo_2 := dk_seg dksX8_referencesTo_1 23 rfl rfl
theorem dksX8_referencesTo_3 : cX8_referencesTo.data.toList.drop 71 = dktX8_referencesTo_3 := dk_seg dksX8_referencesTo_2 24 rfl rfl
theorem dX8_referencesTo_0 : decode cX8_referencesTo 0 = .ok (.aload_n 0, 1) := dk_42 (dk_at dksX8_referencesTo_0 0 rfl rfl)
theorem dX8_referencesTo_1 : decode cX8_referencesTo 1 = .ok (.iload_n 1, 1) := dk_27 (dk_at dksX8_referencesTo_0 1 rfl rfl)
theorem dX8_referencesTo_2 : decode cX8_referencesTo 2 = .ok (.invokevirtual 367, 3) := dk_182 1 111 (dk_at dksX8_referencesTo_0 2 rfl rfl)
theorem dX8_referencesTo_5 : decode cX8_referencesTo 5 = .ok (.ifCond .ne 5, 3) := dk_154 0 5 (dk_at dksX8_referencesTo_0 5 rfl rfl)
theorem dX8_referencesTo_8 : decode cX8_referencesTo 8 = .ok (.iconst 0, 1) := dk_3 (dk_at dksX8_referencesTo_0 8 rfl rfl)
theorem dX8_referencesTo_9 : decode cX8_referencesTo 9 = .ok (.ireturn, 1) := dk_172 (dk_at dksX8_referencesTo_0 9 rfl rfl)
theorem dX8_referencesTo_10 : decode cX8_referencesTo 10 = .ok (.iconst 0, 1) := dk_3 (dk_at dksX8_referencesTo_0 10 rfl rfl)
theorem dX8_referencesTo_11 : decode cX8_referencesTo 11 = .ok (.istore_n 2, 1) := dk_61 (dk_at dksX8_referencesTo_0 11 rfl rfl)
theorem dX8_referencesTo_12 : decode cX8_referencesTo 12 = .ok (.iconst 0, 1) := dk_3 (dk_at dksX8_referencesTo_0 12 rfl rfl)
theorem dX8_referencesTo_13 : decode cX8_referencesTo 13 = .ok (.istore_n 3, 1) := dk_62 (dk_at dksX8_referencesTo_0 13 rfl rfl)
theorem dX8_referencesTo_14 : decode cX8_referencesTo 14 = .ok (.iload_n 3, 1) := dk_29 (dk_at dksX8_referencesTo_0 14 rfl rfl)
theorem dX8_referencesTo_15 : decode cX8_referencesTo 15 = .ok (.aload_n 0, 1) := dk_42 (dk_at dksX8_referencesTo_0 15 rfl rfl)
theorem dX8_referencesTo_16 : decode cX8_referencesTo 16 = .ok (.getfield 9, 3) := dk_180 0 9 (dk_at dksX8_referencesTo_0 16 rfl rfl)
theorem dX8_referencesTo_19 : decode cX8_referencesTo 19 = .ok (.iconst 0, 1) := dk_3 (dk_at dksX8_referencesTo_0 19 rfl rfl)
theorem dX8_referencesTo_20 : decode cX8_referencesTo 20 = .ok (.iaload, 1) := dk_46 (dk_at dksX8_referencesTo_0 20 rfl rfl)
theorem dX8_referencesTo_21 : decode cX8_referencesTo 21 = .ok (.if_icmp .ge 37, 3) := dk_162 0 37 (dk_at dksX8_referencesTo_0 21 rfl rfl)
theorem dX8_referencesTo_24 : decode cX8_referencesTo 24 = .ok (.iload_n 2, 1) := dk_28 (dk_at dksX8_referencesTo_1 0 rfl rfl)
theorem dX8_referencesTo_25 : decode cX8_referencesTo 25 = .ok (.aload_n 0, 1) := dk_42 (dk_at dksX8_referencesTo_1 1 rfl rfl)
theorem dX8_referencesTo_26 : decode cX8_referencesTo 26 = .ok (.iload_n 3, 1) := dk_29 (dk_at dksX8_referencesTo_1 2 rfl rfl)
theorem dX8_referencesTo_27 : decode cX8_referencesTo 27 = .ok (.invokevirtual 164, 3) := dk_182 0 164 (dk_at dksX8_referencesTo_1 3 rfl rfl)
theorem dX8_referencesTo_30 : decode cX8_referencesTo 30 = .ok (.ifCond .ne 16, 3) := dk_154 0 16 (dk_at dksX8_referencesTo_1 6 rfl rfl)
theorem dX8_referencesTo_33 : decode cX8_referencesTo 33 = .ok (.aload_n 0, 1) := dk_42 (dk_at dksX8_referencesTo_1 9 rfl rfl)
theorem dX8_referencesTo_34 : decode cX8_referencesTo 34 = .ok (.iload_n 3, 1) := dk_29 (dk_at dksX8_referencesTo_1 10 rfl rfl)
theorem dX8_referencesTo_35 : decode cX8_referencesTo 35 = .ok (.invokevirtual 145, 3) := dk_182 0 145 (dk_at dksX8_referencesTo_1 11 rfl rfl)
theorem dX8_referencesTo_38 : decode cX8_referencesTo 38 = .ok (.iload_n 1, 1) := dk_27 (dk_at dksX8_referencesTo_1 14 rfl rfl)
theorem dX8_referencesTo_39 : decode cX8_referencesTo 39 = .ok (.if_icmp .ne 7, 3) := dk_160 0 7 (dk_at dksX8_referencesTo_1 15 rfl rfl)
theorem dX8_referencesTo_42 : decode cX8_referencesTo 42 = .ok (.iconst 1, 1) := dk_4 (dk_at dksX8_referencesTo_1 18 rfl rfl)
theorem dX8_referencesTo_43 : decode cX8_referencesTo 43 = .ok (.goto 4, 3) := dk_167 0 4 (dk_at dksX8_referencesTo_1 19 rfl rfl)
theorem dX8_referencesTo_46 : decode cX8_referencesTo 46 = .ok (.iconst 0, 1) := dk_3 (dk_at dksX8_referencesTo_1 22 rfl rfl)
theorem dX8_referencesTo_47 : decode cX8_referencesTo 47 = .ok (.invokestatic 75, 3) := dk_184 0 75 (dk_at dksX8_referencesTo_2 0 rfl rfl)
theorem dX8_referencesTo_50 : decode cX8_referencesTo 50 = .ok (.iadd, 1) := dk_96 (dk_at dksX8_referencesTo_2 3 rfl rfl)
theorem dX8_referencesTo_51 : decode cX8_referencesTo 51 = .ok (.istore_n 2, 1) := dk_61 (dk_at dksX8_referencesTo_2 4 rfl rfl)
theorem dX8_referencesTo_52 : decode cX8_referencesTo 52 = .ok (.iinc 3 1, 3) := dk_132 3 1 (dk_at dksX8_referencesTo_2 5 rfl rfl)
theorem dX8_referencesTo_55 : decode cX8_referencesTo 55 = .ok (.goto (-41), 3) := dk_167 255 215 (dk_at dksX8_referencesTo_2 8 rfl rfl)
theorem dX8_referencesTo_58 : decode cX8_referencesTo 58 = .ok (.iconst 0, 1) := dk_3 (dk_at dksX8_referencesTo_2 11 rfl rfl)
theorem dX8_referencesTo_59 : decode cX8_referencesTo 59 = .ok (.istore_n 3, 1) := dk_62 (dk_at dksX8_referencesTo_2 12 rfl rfl)
theorem dX8_referencesTo_60 : decode cX8_referencesTo 60 = .ok (.iload_n 3, 1) := dk_29 (dk_at dksX8_referencesTo_2 13 rfl rfl)
theorem dX8_referencesTo_61 : decode cX8_referencesTo 61 = .ok (.aload_n 0, 1) := dk_42 (dk_at dksX8_referencesTo_2 14 rfl rfl)
theorem dX8_referencesTo_62 : decode cX8_referencesTo 62 = .ok (.getfield 9, 3) := dk_180 0 9 (dk_at dksX8_referencesTo_2 15 rfl rfl)
theorem dX8_referencesTo_65 : decode cX8_referencesTo 65 = .ok (.iconst 1, 1) := dk_4 (dk_at dksX8_referencesTo_2 18 rfl rfl)
theorem dX8_referencesTo_66 : decode cX8_referencesTo 66 = .ok (.iaload, 1) := dk_46 (dk_at dksX8_referencesTo_2 19 rfl rfl)
theorem dX8_referencesTo_67 : decode cX8_referencesTo 67 = .ok (.if_icmp .ge 21, 3) := dk_162 0 21 (dk_at dksX8_referencesTo_2 20 rfl rfl)
theorem dX8_referencesTo_70 : decode cX8_referencesTo 70 = .ok (.iload_n 2, 1) := dk_28 (dk_at dksX8_referencesTo_2 23 rfl rfl)
theorem dX8_referencesTo_71 : decode cX8_referencesTo 71 = .ok (.aload_n 0, 1) := dk_42 (dk_at dksX8_referencesTo_3 0 rfl rfl)
theorem dX8_referencesTo_72 : decode cX8_referencesTo 72 = .ok (.iload_n 3, 1) := dk_29 (dk_at dksX8_referencesTo_3 1 rfl rfl)
theorem dX8_referencesTo_73 : decode cX8_referencesTo 73 = .ok (.iload_n 1, 1) := dk_27 (dk_at dksX8_referencesTo_3 2 rfl rfl)
theorem dX8_referencesTo_74 : decode cX8_referencesTo 74 = .ok (.invokevirtual 370, 3) := dk_182 1 114 (dk_at dksX8_referencesTo_3 3 rfl rfl)
theorem dX8_referencesTo_77 : decode cX8_referencesTo 77 = .ok (.invokestatic 75, 3) := dk_184 0 75 (dk_at dksX8_referencesTo_3 6 rfl rfl)
theorem dX8_referencesTo_80 : decode cX8_referencesTo 80 = .ok (.iadd, 1) := dk_96 (dk_at dksX8_referencesTo_3 9 rfl rfl)
theorem dX8_referencesTo_81 : decode cX8_referencesTo 81 = .ok (.istore_n 2, 1) := dk_61 (dk_at dksX8_referencesTo_3 10 rfl rfl)
theorem dX8_referencesTo_82 : decode cX8_referencesTo 82 = .ok (.iinc 3 1, 3) := dk_132 3 1 (dk_at dksX8_referencesTo_3 11 rfl rfl)
theorem dX8_referencesTo_85 : decode cX8_referencesTo 85 = .ok (.goto (-25), 3) := dk_167 255 231 (dk_at dksX8_referencesTo_3 14 rfl rfl)
theorem dX8_referencesTo_88 : decode cX8_referencesTo 88 = .ok (.iload_n 2, 1) := dk_28 (dk_at dksX8_referencesTo_3 17 rfl rfl)
theorem dX8_referencesTo_89 : decode cX8_referencesTo 89 = .ok (.ireturn, 1) := dk_172 (dk_at dksX8_referencesTo_3 18 rfl rfl)
abbrev cX8_hasChild : ByteArray := prog_18_method_110_code
def yX8_hasChild : MethodName := ⟨RX8, "hasChild", "(II)Z"⟩
def dkwX8_hasChild_2 : List UInt8 := [3, 172]
abbrev dktX8_hasChild_2 : List UInt8 := dkwX8_hasChild_2 ++ []
def dkwX8_hasChild_1 : List UInt8 := [182, 0, 79, 162, 0, 21, 42, 27, 29, 182, 0, 71, 28, 160, 0, 5, 4, 172, 132, 3, 1, 167, 255, 232]
abbrev dktX8_hasChild_1 : List UInt8 := dkwX8_hasChild_1 ++ dktX8_hasChild_2
def dkwX8_hasChild_0 : List UInt8 := [42, 27, 182, 0, 171, 153, 0, 11, 42, 27, 182, 0, 90, 153, 0, 5, 3, 172, 3, 62, 29, 42, 27]
abbrev dktX8_hasChild_0 : List UInt8 := dkwX8_hasChild_0 ++ dktX8_hasChild_1
theorem dksX8_hasChild_0 : cX8_hasChild.data.toList.drop 0 = dktX8_hasChild_0 := by decide +kernel
theorem dksX8_hasChild_1 : cX8_hasChild.data.toList.drop 23 = dktX8_hasChild_1 := dk_seg dksX8_hasChild_0 23 rfl rfl
theorem dksX8_hasChild_2 : cX8_hasChild.data.toList.drop 47 = dktX8_hasChild_2 := dk_seg dksX8_hasChild_1 24 rfl rfl
theorem dX8_hasChild_0 : decode cX8_hasChild 0 = .ok (.aload_n 0, 1) := dk_42 (dk_at dksX8_hasChild_0 0 rfl rfl)
theorem dX8_hasChild_1 : decode cX8_hasChild 1 = .ok (.iload_n 1, 1) := dk_27 (dk_at dksX8_hasChild_0 1 rfl rfl)
theorem dX8_hasChild_2 : decode cX8_hasChild 2 = .ok (.invokevirtual 171, 3) := dk_182 0 171 (dk_at dksX8_hasChild_0 2 rfl rfl)
theorem dX8_hasChild_5 : decode cX8_hasChild 5 = .ok (.ifCond .eq 11, 3) := dk_153 0 11 (dk_at dksX8_hasChild_0 5 rfl rfl)
theorem dX8_hasChild_8 : decode cX8_hasChild 8 = .ok (.aload_n 0, 1) := dk_42 (dk_at dksX8_hasChild_0 8 rfl rfl)
theorem dX8_hasChild_9 : decode cX8_hasChild 9 = .ok (.iload_n 1, 1) := dk_27 (dk_at dksX8_hasChild_0 9 rfl rfl)
theorem dX8_hasChild_10 : decode cX8_hasChild 10 = .ok (.invokevirtual 90, 3) := dk_182 0 90 (dk_at dksX8_hasChild_0 10 rfl rfl)
theorem dX8_hasChild_13 : decode cX8_hasChild 13 = .ok (.ifCond .eq 5, 3) := dk_153 0 5 (dk_at dksX8_hasChild_0 13 rfl rfl)
theorem dX8_hasChild_16 : decode cX8_hasChild 16 = .ok (.iconst 0, 1) := dk_3 (dk_at dksX8_hasChild_0 16 rfl rfl)
theorem dX8_hasChild_17 : decode cX8_hasChild 17 = .ok (.ireturn, 1) := dk_172 (dk_at dksX8_hasChild_0 17 rfl rfl)
theorem dX8_hasChild_18 : decode cX8_hasChild 18 = .ok (.iconst 0, 1) := dk_3 (dk_at dksX8_hasChild_0 18 rfl rfl)
theorem dX8_hasChild_19 : decode cX8_hasChild 19 = .ok (.istore_n 3, 1) := dk_62 (dk_at dksX8_hasChild_0 19 rfl rfl)
theorem dX8_hasChild_20 : decode cX8_hasChild 20 = .ok (.iload_n 3, 1) := dk_29 (dk_at dksX8_hasChild_0 20 rfl rfl)
theorem dX8_hasChild_21 : decode cX8_hasChild 21 = .ok (.aload_n 0, 1) := dk_42 (dk_at dksX8_hasChild_0 21 rfl rfl)
theorem dX8_hasChild_22 : decode cX8_hasChild 22 = .ok (.iload_n 1, 1) := dk_27 (dk_at dksX8_hasChild_0 22 rfl rfl)
theorem dX8_hasChild_23 : decode cX8_hasChild 23 = .ok (.invokevirtual 79, 3) := dk_182 0 79 (dk_at dksX8_hasChild_1 0 rfl rfl)
theorem dX8_hasChild_26 : decode cX8_hasChild 26 = .ok (.if_icmp .ge 21, 3) := dk_162 0 21 (dk_at dksX8_hasChild_1 3 rfl rfl)
theorem dX8_hasChild_29 : decode cX8_hasChild 29 = .ok (.aload_n 0, 1) := dk_42 (dk_at dksX8_hasChild_1 6 rfl rfl)
theorem dX8_hasChild_30 : decode cX8_hasChild 30 = .ok (.iload_n 1, 1) := dk_27 (dk_at dksX8_hasChild_1 7 rfl rfl)
theorem dX8_hasChild_31 : decode cX8_hasChild 31 = .ok (.iload_n 3, 1) := dk_29 (dk_at dksX8_hasChild_1 8 rfl rfl)
theorem dX8_hasChild_32 : decode cX8_hasChild 32 = .ok (.invokevirtual 71, 3) := dk_182 0 71 (dk_at dksX8_hasChild_1 9 rfl rfl)
theorem dX8_hasChild_35 : decode cX8_hasChild 35 = .ok (.iload_n 2, 1) := dk_28 (dk_at dksX8_hasChild_1 12 rfl rfl)
theorem dX8_hasChild_36 : decode cX8_hasChild 36 = .ok (.if_icmp .ne 5, 3) := dk_160 0 5 (dk_at dksX8_hasChild_1 13 rfl rfl)
theorem dX8_hasChild_39 : decode cX8_hasChild 39 = .ok (.iconst 1, 1) := dk_4 (dk_at dksX8_hasChild_1 16 rfl rfl)
theorem dX8_hasChild_40 : decode cX8_hasChild 40 = .ok (.ireturn, 1) := dk_172 (dk_at dksX8_hasChild_1 17 rfl rfl)
theorem dX8_hasChild_41 : decode cX8_hasChild 41 = .ok (.iinc 3 1, 3) := dk_132 3 1 (dk_at dksX8_hasChild_1 18 rfl rfl)
theorem dX8_hasChild_44 : decode cX8_hasChild 44 = .ok (.goto (-24), 3) := dk_167 255 232 (dk_at dksX8_hasChild_1 21 rfl rfl)
theorem dX8_hasChild_47 : decode cX8_hasChild 47 = .ok (.iconst 0, 1) := dk_3 (dk_at dksX8_hasChild_2 0 rfl rfl)
theorem dX8_hasChild_48 : decode cX8_hasChild 48 = .ok (.ireturn, 1) := dk_172 (dk_at dksX8_hasChild_2 1 rfl rfl)
abbrev cX8_differences : ByteArray := prog_18_method_113_code
def yX8_differences : MethodName := ⟨RX8, "differences", "(II)I"⟩
def dkwX8_differences_1 : List UInt8 := [42, 27, 28, 21, 4, 182, 1, 117, 184, 0, 75, 96, 62, 132, 4, 1, 167, 255, 232, 29, 172]
abbrev dktX8_differences_1 : List UInt8 := dkwX8_differences_1 ++ []
def dkwX8_differences_0 : List UInt8 := [42, 27, 28, 182, 1, 102, 154, 0, 5, 3, 172, 3, 62, 3, 54, 4, 21, 4, 16, 64, 162, 0, 23, 29]
abbrev dktX8_differences_0 : List UInt8 := dkwX8_differences_0 ++ dktX8_differences_1
theorem dksX8_differences_0 : cX8_differences.data.toList.drop 0 = dktX8_differences_0 := by decide +kernel
theorem dksX8_differences_1 : cX8_differences.data.toList.drop 24 = dktX8_differences_1 := dk_seg dksX8_differences_0 24 rfl rfl
theorem dX8_differences_0 : decode cX8_differences 0 = .ok (.aload_n 0, 1) := dk_42 (dk_at dksX8_differences_0 0 rfl rfl)
theorem dX8_differences_1 : decode cX8_differences 1 = .ok (.iload_n 1, 1) := dk_27 (dk_at dksX8_differences_0 1 rfl rfl)
theorem dX8_differences_2 : decode cX8_differences 2 = .ok (.iload_n 2, 1) := dk_28 (dk_at dksX8_differences_0 2 rfl rfl)
theorem dX8_differences_3 : decode cX8_differences 3 = .ok (.invokevirtual 358, 3) := dk_182 1 102 (dk_at dksX8_differences_0 3 rfl rfl)
theorem dX8_differences_6 : decode cX8_differences 6 = .ok (.ifCond .ne 5, 3) := dk_154 0 5 (dk_at dksX8_differences_0 6 rfl rfl)
theorem dX8_differences_9 : decode cX8_differences 9 = .ok (.iconst 0, 1) := dk_3 (dk_at dksX8_differences_0 9 rfl rfl)
theorem dX8_differences_10 : decode cX8_differences 10 = .ok (.ireturn, 1) := dk_172 (dk_at dksX8_differences_0 10 rfl rfl)
theorem dX8_differences_11 : decode cX8_differences 11 = .ok (.iconst 0, 1) := dk_3 (dk_at dksX8_differences_0 11 rfl rfl)
theorem dX8_differences_12 : decode cX8_differences 12 = .ok (.istore_n 3, 1) := dk_62 (dk_at dksX8_differences_0 12 rfl rfl)
theorem dX8_differences_13 : decode cX8_differences 13 = .ok (.iconst 0, 1) := dk_3 (dk_at dksX8_differences_0 13 rfl rfl)
theorem dX8_differences_14 : decode cX8_differences 14 = .ok (.istore 4, 2) := dk_54 4 (dk_at dksX8_differences_0 14 rfl rfl)
theorem dX8_differences_16 : decode cX8_differences 16 = .ok (.iload 4, 2) := dk_21 4 (dk_at dksX8_differences_0 16 rfl rfl)
theorem dX8_differences_18 : decode cX8_differences 18 = .ok (.bipush 64, 2) := dk_16 64 (dk_at dksX8_differences_0 18 rfl rfl)
theorem dX8_differences_20 : decode cX8_differences 20 = .ok (.if_icmp .ge 23, 3) := dk_162 0 23 (dk_at dksX8_differences_0 20 rfl rfl)
theorem dX8_differences_23 : decode cX8_differences 23 = .ok (.iload_n 3, 1) := dk_29 (dk_at dksX8_differences_0 23 rfl rfl)
theorem dX8_differences_24 : decode cX8_differences 24 = .ok (.aload_n 0, 1) := dk_42 (dk_at dksX8_differences_1 0 rfl rfl)
theorem dX8_differences_25 : decode cX8_differences 25 = .ok (.iload_n 1, 1) := dk_27 (dk_at dksX8_differences_1 1 rfl rfl)
theorem dX8_differences_26 : decode cX8_differences 26 = .ok (.iload_n 2, 1) := dk_28 (dk_at dksX8_differences_1 2 rfl rfl)
theorem dX8_differences_27 : decode cX8_differences 27 = .ok (.iload 4, 2) := dk_21 4 (dk_at dksX8_differences_1 3 rfl rfl)
theorem dX8_differences_29 : decode cX8_differences 29 = .ok (.invokevirtual 373, 3) := dk_182 1 117 (dk_at dksX8_differences_1 5 rfl rfl)
theorem dX8_differences_32 : decode cX8_differences 32 = .ok (.invokestatic 75, 3) := dk_184 0 75 (dk_at dksX8_differences_1 8 rfl rfl)
theorem dX8_differences_35 : decode cX8_differences 35 = .ok (.iadd, 1) := dk_96 (dk_at dksX8_differences_1 11 rfl rfl)
theorem dX8_differences_36 : decode cX8_differences 36 = .ok (.istore_n 3, 1) := dk_62 (dk_at dksX8_differences_1 12 rfl rfl)
theorem dX8_differences_37 : decode cX8_differences 37 = .ok (.iinc 4 1, 3) := dk_132 4 1 (dk_at dksX8_differences_1 13 rfl rfl)
theorem dX8_differences_40 : decode cX8_differences 40 = .ok (.goto (-24), 3) := dk_167 255 232 (dk_at dksX8_differences_1 16 rfl rfl)
theorem dX8_differences_43 : decode cX8_differences 43 = .ok (.iload_n 3, 1) := dk_29 (dk_at dksX8_differences_1 19 rfl rfl)
theorem dX8_differences_44 : decode cX8_differences 44 = .ok (.ireturn, 1) := dk_172 (dk_at dksX8_differences_1 20 rfl rfl)
abbrev cX8_differAt : ByteArray := prog_18_method_112_code
def yX8_differAt : MethodName := ⟨RX8, "differAt", "(III)Z"⟩
def dkwX8_differAt_2 : List UInt8 := [42, 27, 29, 182, 0, 129, 42, 28, 29, 182, 0, 129, 159, 0, 7, 4, 167, 0, 4, 3, 172]
abbrev dktX8_differAt_2 : List UInt8 := dkwX8_differAt_2 ++ []
def dkwX8_differAt_1 : List UInt8 := [162, 0, 7, 4, 167, 0, 4, 3, 54, 5, 21, 4, 21, 5, 159, 0, 5, 4, 172, 21, 4, 153, 0, 22]
abbrev dktX8_differAt_1 : List UInt8 := dkwX8_differAt_1 ++ dktX8_differAt_2
def dkwX8_differAt_0 : List UInt8 := [29, 42, 27, 182, 0, 121, 162, 0, 7, 4, 167, 0, 4, 3, 54, 4, 29, 42, 28, 182, 0, 121]
abbrev dktX8_differAt_0 : List UInt8 := dkwX8_differAt_0 ++ dktX8_differAt_1
theorem dksX8_differAt_0 : cX8_differAt.data.toList.drop 0 = dktX8_differAt_0 := by decide +kernel
theorem dksX8_differAt_1 : cX8_differAt.data.toList.drop 22 = dktX8_differAt_1 := dk_seg dksX8_differAt_0 22 rfl rfl
theorem dksX8_differAt_2 : cX8_differAt.data.toList.drop 46 = dktX8_differAt_2 := dk_seg dksX8_differAt_1 24 rfl rfl
theorem dX8_differAt_0 : decode cX8_differAt 0 = .ok (.iload_n 3, 1) := dk_29 (dk_at dksX8_differAt_0 0 rfl rfl)
theorem dX8_differAt_1 : decode cX8_differAt 1 = .ok (.aload_n 0, 1) := dk_42 (dk_at dksX8_differAt_0 1 rfl rfl)
theorem dX8_differAt_2 : decode cX8_differAt 2 = .ok (.iload_n 1, 1) := dk_27 (dk_at dksX8_differAt_0 2 rfl rfl)
theorem dX8_differAt_3 : decode cX8_differAt 3 = .ok (.invokevirtual 121, 3) := dk_182 0 121 (dk_at dksX8_differAt_0 3 rfl rfl)
theorem dX8_differAt_6 : decode cX8_differAt 6 = .ok (.if_icmp .ge 7, 3) := dk_162 0 7 (dk_at dksX8_differAt_0 6 rfl rfl)
theorem dX8_differAt_9 : decode cX8_differAt 9 = .ok (.iconst 1, 1) := dk_4 (dk_at dksX8_differAt_0 9 rfl rfl)
theorem dX8_differAt_10 : decode cX8_differAt 10 = .ok (.goto 4, 3) := dk_167 0 4 (dk_at dksX8_differAt_0 10 rfl rfl)
theorem dX8_differAt_13 : decode cX8_differAt 13 = .ok (.iconst 0, 1) := dk_3 (dk_at dksX8_differAt_0 13 rfl rfl)
theorem dX8_differAt_14 : decode cX8_differAt 14 = .ok (.istore 4, 2) := dk_54 4 (dk_at dksX8_differAt_0 14 rfl rfl)
theorem dX8_differAt_16 : decode cX8_differAt 16 = .ok (.iload_n 3, 1) := dk_29 (dk_at dksX8_differAt_0 16 rfl rfl)
theorem dX8_differAt_17 : decode cX8_differAt 17 = .ok (.aload_n 0, 1) := dk_42 (dk_at dksX8_differAt_0 17 rfl rfl)
theorem dX8_differAt_18 : decode cX8_differAt 18 = .ok (.iload_n 2, 1) := dk_28 (dk_at dksX8_differAt_0 18 rfl rfl)
theorem dX8_differAt_19 : decode cX8_differAt 19 = .ok (.invokevirtual 121, 3) := dk_182 0 121 (dk_at dksX8_differAt_0 19 rfl rfl)
theorem dX8_differAt_22 : decode cX8_differAt 22 = .ok (.if_icmp .ge 7, 3) := dk_162 0 7 (dk_at dksX8_differAt_1 0 rfl rfl)
theorem dX8_differAt_25 : decode cX8_differAt 25 = .ok (.iconst 1, 1) := dk_4 (dk_at dksX8_differAt_1 3 rfl rfl)
theorem dX8_differAt_26 : decode cX8_differAt 26 = .ok (.goto 4, 3) := dk_167 0 4 (dk_at dksX8_differAt_1 4 rfl rfl)
theorem dX8_differAt_29 : decode cX8_differAt 29 = .ok (.iconst 0, 1) := dk_3 (dk_at dksX8_differAt_1 7 rfl rfl)
theorem dX8_differAt_30 : decode cX8_differAt 30 = .ok (.istore 5, 2) := dk_54 5 (dk_at dksX8_differAt_1 8 rfl rfl)
theorem dX8_differAt_32 : decode cX8_differAt 32 = .ok (.iload 4, 2) := dk_21 4 (dk_at dksX8_differAt_1 10 rfl rfl)
theorem dX8_differAt_34 : decode cX8_differAt 34 = .ok (.iload 5, 2) := dk_21 5 (dk_at dksX8_differAt_1 12 rfl rfl)
theorem dX8_differAt_36 : decode cX8_differAt 36 = .ok (.if_icmp .eq 5, 3) := dk_159 0 5 (dk_at dksX8_differAt_1 14 rfl rfl)
theorem dX8_differAt_39 : decode cX8_differAt 39 = .ok (.iconst 1, 1) := dk_4 (dk_at dksX8_differAt_1 17 rfl rfl)
theorem dX8_differAt_40 : decode cX8_differAt 40 = .ok (.ireturn, 1) := dk_172 (dk_at dksX8_differAt_1 18 rfl rfl)
theorem dX8_differAt_41 : decode cX8_differAt 41 = .ok (.iload 4, 2) := dk_21 4 (dk_at dksX8_differAt_1 19 rfl rfl)
theorem dX8_differAt_43 : decode cX8_differAt 43 = .ok (.ifCond .eq 22, 3) := dk_153 0 22 (dk_at dksX8_differAt_1 21 rfl rfl)
theorem dX8_differAt_46 : decode cX8_differAt 46 = .ok (.aload_n 0, 1) := dk_42 (dk_at dksX8_differAt_2 0 rfl rfl)
theorem dX8_differAt_47 : decode cX8_differAt 47 = .ok (.iload_n 1, 1) := dk_27 (dk_at dksX8_differAt_2 1 rfl rfl)
theorem dX8_differAt_48 : decode cX8_differAt 48 = .ok (.iload_n 3, 1) := dk_29 (dk_at dksX8_differAt_2 2 rfl rfl)
theorem dX8_differAt_49 : decode cX8_differAt 49 = .ok (.invokevirtual 129, 3) := dk_182 0 129 (dk_at dksX8_differAt_2 3 rfl rfl)
theorem dX8_differAt_52 : decode cX8_differAt 52 = .ok (.aload_n 0, 1) := dk_42 (dk_at dksX8_differAt_2 6 rfl rfl)
theorem dX8_differAt_53 : decode cX8_differAt 53 = .ok (.iload_n 2, 1) := dk_28 (dk_at dksX8_differAt_2 7 rfl rfl)
theorem dX8_differAt_54 : decode cX8_differAt 54 = .ok (.iload_n 3, 1) := dk_29 (dk_at dksX8_differAt_2 8 rfl rfl)
theorem dX8_differAt_55 : decode cX8_differAt 55 = .ok (.invokevirtual 129, 3) := dk_182 0 129 (dk_at dksX8_differAt_2 9 rfl rfl)
theorem dX8_differAt_58 : decode cX8_differAt 58 = .ok (.if_icmp .eq 7, 3) := dk_159 0 7 (dk_at dksX8_differAt_2 12 rfl rfl)
theorem dX8_differAt_61 : decode cX8_differAt 61 = .ok (.iconst 1, 1) := dk_4 (dk_at dksX8_differAt_2 15 rfl rfl)
theorem dX8_differAt_62 : decode cX8_differAt 62 = .ok (.goto 4, 3) := dk_167 0 4 (dk_at dksX8_differAt_2 16 rfl rfl)
theorem dX8_differAt_65 : decode cX8_differAt 65 = .ok (.iconst 0, 1) := dk_3 (dk_at dksX8_differAt_2 19 rfl rfl)
theorem dX8_differAt_66 : decode cX8_differAt 66 = .ok (.ireturn, 1) := dk_172 (dk_at dksX8_differAt_2 20 rfl rfl)
abbrev cX8_firstDifference : ByteArray := prog_18_method_114_code
def yX8_firstDifference : MethodName := ⟨RX8, "firstDifference", "(II)I"⟩
def dkwX8_firstDifference_1 : List UInt8 := [182, 1, 117, 153, 0, 5, 29, 172, 132, 3, 1, 167, 255, 235, 2, 172]
abbrev dktX8_firstDifference_1 : List UInt8 := dkwX8_firstDifference_1 ++ []
def dkwX8_firstDifference_0 : List UInt8 := [42, 27, 28, 182, 1, 102, 154, 0, 5, 3, 172, 3, 62, 29, 16, 64, 162, 0, 21, 42, 27, 28, 29]
abbrev dktX8_firstDifference_0 : List UInt8 := dkwX8_firstDifference_0 ++ dktX8_firstDifference_1
theorem dksX8_firstDifference_0 : cX8_firstDifference.data.toList.drop 0 = dktX8_firstDifference_0 := by decide +kernel
theorem dksX8_firstDifference_1 : cX8_firstDifference.data.toList.drop 23 = dktX8_firstDifference_1 := dk_seg dksX8_firstDifference_0 23 rfl rfl
theorem dX8_firstDifference_0 : decode cX8_firstDifference 0 = .ok (.aload_n 0, 1) := dk_42 (dk_at dksX8_firstDifference_0 0 rfl rfl)
theorem dX8_firstDifference_1 : decode cX8_firstDifference 1 = .ok (.iload_n 1, 1) := dk_27 (dk_at dksX8_firstDifference_0 1 rfl rfl)
theorem dX8_firstDifference_2 : decode cX8_firstDifference 2 = .ok (.iload_n 2, 1) := dk_28 (dk_at dksX8_firstDifference_0 2 rfl rfl)
theorem dX8_firstDifference_3 : decode cX8_firstDifference 3 = .ok (.invokevirtual 358, 3) := dk_182 1 102 (dk_at dksX8_firstDifference_0 3 rfl rfl)
theorem dX8_firstDifference_6 : decode cX8_firstDifference 6 = .ok (.ifCond .ne 5, 3) := dk_154 0 5 (dk_at dksX8_firstDifference_0 6 rfl rfl)
theorem dX8_firstDifference_9 : decode cX8_firstDifference 9 = .ok (.iconst 0, 1) := dk_3 (dk_at dksX8_firstDifference_0 9 rfl rfl)
theorem dX8_firstDifference_10 : decode cX8_firstDifference 10 = .ok (.ireturn, 1) := dk_172 (dk_at dksX8_firstDifference_0 10 rfl rfl)
theorem dX8_firstDifference_11 : decode cX8_firstDifference 11 = .ok (.iconst 0, 1) := dk_3 (dk_at dksX8_firstDifference_0 11 rfl rfl)
theorem dX8_firstDifference_12 : decode cX8_firstDifference 12 = .ok (.istore_n 3, 1) := dk_62 (dk_at dksX8_firstDifference_0 12 rfl rfl)
theorem dX8_firstDifference_13 : decode cX8_firstDifference 13 = .ok (.iload_n 3, 1) := dk_29 (dk_at dksX8_firstDifference_0 13 rfl rfl)
theorem dX8_firstDifference_14 : decode cX8_firstDifference 14 = .ok (.bipush 64, 2) := dk_16 64 (dk_at dksX8_firstDifference_0 14 rfl rfl)
theorem dX8_firstDifference_16 : decode cX8_firstDifference 16 = .ok (.if_icmp .ge 21, 3) := dk_162 0 21 (dk_at dksX8_firstDifference_0 16 rfl rfl)
theorem dX8_firstDifference_19 : decode cX8_firstDifference 19 = .ok (.aload_n 0, 1) := dk_42 (dk_at dksX8_firstDifference_0 19 rfl rfl)
theorem dX8_firstDifference_20 : decode cX8_firstDifference 20 = .ok (.iload_n 1, 1) := dk_27 (dk_at dksX8_firstDifference_0 20 rfl rfl)
theorem dX8_firstDifference_21 : decode cX8_firstDifference 21 = .ok (.iload_n 2, 1) := dk_28 (dk_at dksX8_firstDifference_0 21 rfl rfl)
theorem dX8_firstDifference_22 : decode cX8_firstDifference 22 = .ok (.iload_n 3, 1) := dk_29 (dk_at dksX8_firstDifference_0 22 rfl rfl)
theorem dX8_firstDifference_23 : decode cX8_firstDifference 23 = .ok (.invokevirtual 373, 3) := dk_182 1 117 (dk_at dksX8_firstDifference_1 0 rfl rfl)
theorem dX8_firstDifference_26 : decode cX8_firstDifference 26 = .ok (.ifCond .eq 5, 3) := dk_153 0 5 (dk_at dksX8_firstDifference_1 3 rfl rfl)
theorem dX8_firstDifference_29 : decode cX8_firstDifference 29 = .ok (.iload_n 3, 1) := dk_29 (dk_at dksX8_firstDifference_1 6 rfl rfl)
theorem dX8_firstDifference_30 : decode cX8_firstDifference 30 = .ok (.ireturn, 1) := dk_172 (dk_at dksX8_firstDifference_1 7 rfl rfl)
theorem dX8_firstDifference_31 : decode cX8_firstDifference 31 = .ok (.iinc 3 1, 3) := dk_132 3 1 (dk_at dksX8_firstDifference_1 8 rfl rfl)
theorem dX8_firstDifference_34 : decode cX8_firstDifference 34 = .ok (.goto (-21), 3) := dk_167 255 235 (dk_at dksX8_firstDifference_1 11 rfl rfl)
theorem dX8_firstDifference_37 : decode cX8_firstDifference 37 = .ok (.iconst (-1), 1) := dk_2 (dk_at dksX8_firstDifference_1 14 rfl rfl)
theorem dX8_firstDifference_38 : decode cX8_firstDifference 38 = .ok (.ireturn, 1) := dk_172 (dk_at dksX8_firstDifference_1 15 rfl rfl)
abbrev cX8_comparisonCost : ByteArray := prog_18_method_116_code
def yX8_comparisonCost : MethodName := ⟨RX8, "comparisonCost", "(II)I"⟩
def dkwX8_comparisonCost_1 : List UInt8 := [2, 172, 42, 42, 27, 182, 0, 145, 42, 28, 182, 0, 145, 182, 1, 120, 172]
abbrev dktX8_comparisonCost_1 : List UInt8 := dkwX8_comparisonCost_1 ++ []
def dkwX8_comparisonCost_0 : List UInt8 := [42, 27, 28, 182, 1, 102, 154, 0, 5, 3, 172, 42, 27, 182, 0, 148, 42, 28, 182, 0, 148, 159, 0, 5]
abbrev dktX8_comparisonCost_0 : List UInt8 := dkwX8_comparisonCost_0 ++ dktX8_comparisonCost_1
theorem dksX8_comparisonCost_0 : cX8_comparisonCost.data.toList.drop 0 = dktX8_comparisonCost_0 := by decide +kernel
theorem dksX8_comparisonCost_1 : cX8_comparisonCost.data.toList.drop 24 = dktX8_comparisonCost_1 := dk_seg dksX8_comparisonCost_0 24 rfl rfl
theorem dX8_comparisonCost_0 : decode cX8_comparisonCost 0 = .ok (.aload_n 0, 1) := dk_42 (dk_at dksX8_comparisonCost_0 0 rfl rfl)
theorem dX8_comparisonCost_1 : decode cX8_comparisonCost 1 = .ok (.iload_n 1, 1) := dk_27 (dk_at dksX8_comparisonCost_0 1 rfl rfl)
theorem dX8_comparisonCost_2 : decode cX8_comparisonCost 2 = .ok (.iload_n 2, 1) := dk_28 (dk_at dksX8_comparisonCost_0 2 rfl rfl)
theorem dX8_comparisonCost_3 : decode cX8_comparisonCost 3 = .ok (.invokevirtual 358, 3) := dk_182 1 102 (dk_at dksX8_comparisonCost_0 3 rfl rfl)
theorem dX8_comparisonCost_6 : decode cX8_comparisonCost 6 = .ok (.ifCond .ne 5, 3) := dk_154 0 5 (dk_at dksX8_comparisonCost_0 6 rfl rfl)
theorem dX8_comparisonCost_9 : decode cX8_comparisonCost 9 = .ok (.iconst 0, 1) := dk_3 (dk_at dksX8_comparisonCost_0 9 rfl rfl)
theorem dX8_comparisonCost_10 : decode cX8_comparisonCost 10 = .ok (.ireturn, 1) := dk_172 (dk_at dksX8_comparisonCost_0 10 rfl rfl)
theorem dX8_comparisonCost_11 : decode cX8_comparisonCost 11 = .ok (.aload_n 0, 1) := dk_42 (dk_at dksX8_comparisonCost_0 11 rfl rfl)
theorem dX8_comparisonCost_12 : decode cX8_comparisonCost 12 = .ok (.iload_n 1, 1) := dk_27 (dk_at dksX8_comparisonCost_0 12 rfl rfl)
theorem dX8_comparisonCost_13 : decode cX8_comparisonCost 13 = .ok (.invokevirtual 148, 3) := dk_182 0 148 (dk_at dksX8_comparisonCost_0 13 rfl rfl)
theorem dX8_comparisonCost_16 : decode cX8_comparisonCost 16 = .ok (.aload_n 0, 1) := dk_42 (dk_at dksX8_comparisonCost_0 16 rfl rfl)
theorem dX8_comparisonCost_17 : decode cX8_comparisonCost 17 = .ok (.iload_n 2, 1) := dk_28 (dk_at dksX8_comparisonCost_0 17 rfl rfl)
theorem dX8_comparisonCost_18 : decode cX8_comparisonCost 18 = .ok (.invokevirtual 148, 3) := dk_182 0 148 (dk_at dksX8_comparisonCost_0 18 rfl rfl)
theorem dX8_comparisonCost_21 : decode cX8_comparisonCost 21 = .ok (.if_icmp .eq 5, 3) := dk_159 0 5 (dk_at dksX8_comparisonCost_0 21 rfl rfl)
theorem dX8_comparisonCost_24 : decode cX8_comparisonCost 24 = .ok (.iconst (-1), 1) := dk_2 (dk_at dksX8_comparisonCost_1 0 rfl rfl)
theorem dX8_comparisonCost_25 : decode cX8_comparisonCost 25 = .ok (.ireturn, 1) := dk_172 (dk_at dksX8_comparisonCost_1 1 rfl rfl)
theorem dX8_comparisonCost_26 : decode cX8_comparisonCost 26 = .ok (.aload_n 0, 1) := dk_42 (dk_at dksX8_comparisonCost_1 2 rfl rfl)
theorem dX8_comparisonCost_27 : decode cX8_comparisonCost 27 = .ok (.aload_n 0, 1) := dk_42 (dk_at dksX8_comparisonCost_1 3 rfl rfl)
theorem dX8_comparisonCost_28 : decode cX8_comparisonCost 28 = .ok (.iload_n 1, 1) := dk_27 (dk_at dksX8_comparisonCost_1 4 rfl rfl)
theorem dX8_comparisonCost_29 : decode cX8_comparisonCost 29 = .ok (.invokevirtual 145, 3) := dk_182 0 145 (dk_at dksX8_comparisonCost_1 5 rfl rfl)
theorem dX8_comparisonCost_32 : decode cX8_comparisonCost 32 = .ok (.aload_n 0, 1) := dk_42 (dk_at dksX8_comparisonCost_1 8 rfl rfl)
theorem dX8_comparisonCost_33 : decode cX8_comparisonCost 33 = .ok (.iload_n 2, 1) := dk_28 (dk_at dksX8_comparisonCost_1 9 rfl rfl)
theorem dX8_comparisonCost_34 : decode cX8_comparisonCost 34 = .ok (.invokevirtual 145, 3) := dk_182 0 145 (dk_at dksX8_comparisonCost_1 10 rfl rfl)
theorem dX8_comparisonCost_37 : decode cX8_comparisonCost 37 = .ok (.invokevirtual 376, 3) := dk_182 1 120 (dk_at dksX8_comparisonCost_1 13 rfl rfl)
theorem dX8_comparisonCost_40 : decode cX8_comparisonCost 40 = .ok (.ireturn, 1) := dk_172 (dk_at dksX8_comparisonCost_1 16 rfl rfl)
abbrev cX8_cost : ByteArray := prog_18_method_115_code
def yX8_cost : MethodName := ⟨RX8, "cost", "(II)I"⟩
def dkwX8_cost_3 : List UInt8 := [172]
abbrev dktX8_cost_3 : List UInt8 := dkwX8_cost_3 ++ []
def dkwX8_cost_2 : List UInt8 := [21, 5, 182, 0, 71, 42, 28, 21, 5, 182, 0, 71, 182, 1, 120, 96, 62, 132, 5, 1, 167, 255, 225, 29]
abbrev dktX8_cost_2 : List UInt8 := dkwX8_cost_2 ++ dktX8_cost_3
def dkwX8_cost_1 : List UInt8 := [42, 28, 182, 0, 79, 184, 0, 124, 54, 4, 3, 54, 5, 21, 5, 21, 4, 162, 0, 30, 29, 42, 42, 27]
abbrev dktX8_cost_1 : List UInt8 := dkwX8_cost_1 ++ dktX8_cost_2
def dkwX8_cost_0 : List UInt8 := [27, 28, 160, 0, 5, 3, 172, 42, 27, 182, 0, 90, 153, 0, 5, 4, 172, 4, 62, 42, 27, 182, 0, 79]
abbrev dktX8_cost_0 : List UInt8 := dkwX8_cost_0 ++ dktX8_cost_1
theorem dksX8_cost_0 : cX8_cost.data.toList.drop 0 = dktX8_cost_0 := by decide +kernel
theorem dksX8_cost_1 : cX8_cost.data.toList.drop 24 = dktX8_cost_1 := dk_seg dksX8_cost_0 24 rfl rfl
theorem dksX8_cost_2 : cX8_cost.data.toList.drop 48 = dktX8_cost_2 := dk_seg dksX8_cost_1 24 rfl rfl
theorem dksX8_cost_3 : cX8_cost.data.toList.drop 72 = dktX8_cost_3 := dk_seg dksX8_cost_2 24 rfl rfl
theorem dX8_cost_0 : decode cX8_cost 0 = .ok (.iload_n 1, 1) := dk_27 (dk_at dksX8_cost_0 0 rfl rfl)
theorem dX8_cost_1 : decode cX8_cost 1 = .ok (.iload_n 2, 1) := dk_28 (dk_at dksX8_cost_0 1 rfl rfl)
theorem dX8_cost_2 : decode cX8_cost 2 = .ok (.if_icmp .ne 5, 3) := dk_160 0 5 (dk_at dksX8_cost_0 2 rfl rfl)
theorem dX8_cost_5 : decode cX8_cost 5 = .ok (.iconst 0, 1) := dk_3 (dk_at dksX8_cost_0 5 rfl rfl)
theorem dX8_cost_6 : decode cX8_cost 6 = .ok (.ireturn, 1) := dk_172 (dk_at dksX8_cost_0 6 rfl rfl)
theorem dX8_cost_7 : decode cX8_cost 7 = .ok (.aload_n 0, 1) := dk_42 (dk_at dksX8_cost_0 7 rfl rfl)
theorem dX8_cost_8 : decode cX8_cost 8 = .ok (.iload_n 1, 1) := dk_27 (dk_at dksX8_cost_0 8 rfl rfl)
theorem dX8_cost_9 : decode cX8_cost 9 = .ok (.invokevirtual 90, 3) := dk_182 0 90 (dk_at dksX8_cost_0 9 rfl rfl)
theorem dX8_cost_12 : decode cX8_cost 12 = .ok (.ifCond .eq 5, 3) := dk_153 0 5 (dk_at dksX8_cost_0 12 rfl rfl)
theorem dX8_cost_15 : decode cX8_cost 15 = .ok (.iconst 1, 1) := dk_4 (dk_at dksX8_cost_0 15 rfl rfl)
theorem dX8_cost_16 : decode cX8_cost 16 = .ok (.ireturn, 1) := dk_172 (dk_at dksX8_cost_0 16 rfl rfl)
theorem dX8_cost_17 : decode cX8_cost 17 = .ok (.iconst 1, 1) := dk_4 (dk_at dksX8_cost_0 17 rfl rfl)
theorem dX8_cost_18 : decode cX8_cost 18 = .ok (.istore_n 3, 1) := dk_62 (dk_at dksX8_cost_0 18 rfl rfl)
theorem dX8_cost_19 : decode cX8_cost 19 = .ok (.aload_n 0, 1) := dk_42 (dk_at dksX8_cost_0 19 rfl rfl)
theorem dX8_cost_20 : decode cX8_cost 20 = .ok (.iload_n 1, 1) := dk_27 (dk_at dksX8_cost_0 20 rfl rfl)
theorem dX8_cost_21 : decode cX8_cost 21 = .ok (.invokevirtual 79, 3) := dk_182 0 79 (dk_at dksX8_cost_0 21 rfl rfl)
theorem dX8_cost_24 : decode cX8_cost 24 = .ok (.aload_n 0, 1) := dk_42 (dk_at dksX8_cost_1 0 rfl rfl)
theorem dX8_cost_25 : decode cX8_cost 25 = .ok (.iload_n 2, 1) := dk_28 (dk_at dksX8_cost_1 1 rfl rfl)
theorem dX8_cost_26 : decode cX8_cost 26 = .ok (.invokevirtual 79, 3) := dk_182 0 79 (dk_at dksX8_cost_1 2 rfl rfl)
theorem dX8_cost_29 : decode cX8_cost 29 = .ok (.invokestatic 124, 3) := dk_184 0 124 (dk_at dksX8_cost_1 5 rfl rfl)
theorem dX8_cost_32 : decode cX8_cost 32 = .ok (.istore 4, 2) := dk_54 4 (dk_at dksX8_cost_1 8 rfl rfl)
theorem dX8_cost_34 : decode cX8_cost 34 = .ok (.iconst 0, 1) := dk_3 (dk_at dksX8_cost_1 10 rfl rfl)
theorem dX8_cost_35 : decode cX8_cost 35 = .ok (.istore 5, 2) := dk_54 5 (dk_at dksX8_cost_1 11 rfl rfl)
theorem dX8_cost_37 : decode cX8_cost 37 = .ok (.iload 5, 2) := dk_21 5 (dk_at dksX8_cost_1 13 rfl rfl)
theorem dX8_cost_39 : decode cX8_cost 39 = .ok (.iload 4, 2) := dk_21 4 (dk_at dksX8_cost_1 15 rfl rfl)
theorem dX8_cost_41 : decode cX8_cost 41 = .ok (.if_icmp .ge 30, 3) := dk_162 0 30 (dk_at dksX8_cost_1 17 rfl rfl)
theorem dX8_cost_44 : decode cX8_cost 44 = .ok (.iload_n 3, 1) := dk_29 (dk_at dksX8_cost_1 20 rfl rfl)
theorem dX8_cost_45 : decode cX8_cost 45 = .ok (.aload_n 0, 1) := dk_42 (dk_at dksX8_cost_1 21 rfl rfl)
theorem dX8_cost_46 : decode cX8_cost 46 = .ok (.aload_n 0, 1) := dk_42 (dk_at dksX8_cost_1 22 rfl rfl)
theorem dX8_cost_47 : decode cX8_cost 47 = .ok (.iload_n 1, 1) := dk_27 (dk_at dksX8_cost_1 23 rfl rfl)
theorem dX8_cost_48 : decode cX8_cost 48 = .ok (.iload 5, 2) := dk_21 5 (dk_at dksX8_cost_2 0 rfl rfl)
theorem dX8_cost_50 : decode cX8_cost 50 = .ok (.invokevirtual 71, 3) := dk_182 0 71 (dk_at dksX8_cost_2 2 rfl rfl)
theorem dX8_cost_53 : decode cX8_cost 53 = .ok (.aload_n 0, 1) := dk_42 (dk_at dksX8_cost_2 5 rfl rfl)
theorem dX8_cost_54 : decode cX8_cost 54 = .ok (.iload_n 2, 1) := dk_28 (dk_at dksX8_cost_2 6 rfl rfl)
theorem dX8_cost_55 : decode cX8_cost 55 = .ok (.iload 5, 2) := dk_21 5 (dk_at dksX8_cost_2 7 rfl rfl)
theorem dX8_cost_57 : decode cX8_cost 57 = .ok (.invokevirtual 71, 3) := dk_182 0 71 (dk_at dksX8_cost_2 9 rfl rfl)
theorem dX8_cost_60 : decode cX8_cost 60 = .ok (.invokevirtual 376, 3) := dk_182 1 120 (dk_at dksX8_cost_2 12 rfl rfl)
theorem dX8_cost_63 : decode cX8_cost 63 = .ok (.iadd, 1) := dk_96 (dk_at dksX8_cost_2 15 rfl rfl)
theorem dX8_cost_64 : decode cX8_cost 64 = .ok (.istore_n 3, 1) := dk_62 (dk_at dksX8_cost_2 16 rfl rfl)
theorem dX8_cost_65 : decode cX8_cost 65 = .ok (.iinc 5 1, 3) := dk_132 5 1 (dk_at dksX8_cost_2 17 rfl rfl)
theorem dX8_cost_68 : decode cX8_cost 68 = .ok (.goto (-31), 3) := dk_167 255 225 (dk_at dksX8_cost_2 20 rfl rfl)
theorem dX8_cost_71 : decode cX8_cost 71 = .ok (.iload_n 3, 1) := dk_29 (dk_at dksX8_cost_2 23 rfl rfl)
theorem dX8_cost_72 : decode cX8_cost 72 = .ok (.ireturn, 1) := dk_172 (dk_at dksX8_cost_3 0 rfl rfl)
abbrev cX8_nodesForSet : ByteArray := prog_18_method_117_code
def yX8_nodesForSet : MethodName := ⟨RX8, "nodesForSet", "(III)I"⟩
def dkwX8_nodesForSet_3 : List UInt8 := [27, 182, 0, 148, 172]
abbrev dktX8_nodesForSet_3 : List UInt8 := dkwX8_nodesForSet_3 ++ []
def dkwX8_nodesForSet_2 : List UInt8 := [3, 182, 1, 74, 154, 0, 5, 3, 172, 42, 27, 28, 182, 0, 129, 29, 160, 0, 7, 3, 167, 0, 8, 42]
abbrev dktX8_nodesForSet_2 : List UInt8 := dkwX8_nodesForSet_2 ++ dktX8_nodesForSet_3
def dkwX8_nodesForSet_1 : List UInt8 := [21, 5, 21, 4, 153, 0, 20, 21, 5, 153, 0, 15, 42, 27, 182, 0, 164, 154, 0, 7, 4, 167, 0, 4]
abbrev dktX8_nodesForSet_1 : List UInt8 := dkwX8_nodesForSet_1 ++ dktX8_nodesForSet_2
def dkwX8_nodesForSet_0 : List UInt8 := [42, 27, 28, 182, 1, 84, 54, 4, 29, 133, 20, 1, 123, 20, 1, 125, 184, 0, 167, 54, 5, 42, 21, 4]
abbrev dktX8_nodesForSet_0 : List UInt8 := dkwX8_nodesForSet_0 ++ dktX8_nodesForSet_1
theorem dksX8_nodesForSet_0 : cX8_nodesForSet.data.toList.drop 0 = dktX8_nodesForSet_0 := by decide +kernel
theorem dksX8_nodesForSet_1 : cX8_nodesForSet.data.toList.drop 24 = dktX8_nodesForSet_1 := dk_seg dksX8_nodesForSet_0 24 rfl rfl
theorem dksX8_nodesForSet_2 : cX8_nodesForSet.data.toList.drop 48 = dktX8_nodesForSet_2 := dk_seg dksX8_nodesForSet_1 24 rfl rfl
theorem dksX8_nodesForSet_3 : cX8_nodesForSet.data.toList.drop 72 = dktX8_nodesForSet_3 := dk_seg dksX8_nodesForSet_2 24 rfl rfl
theorem dX8_nodesForSet_0 : decode cX8_nodesForSet 0 = .ok (.aload_n 0, 1) := dk_42 (dk_at dksX8_nodesForSet_0 0 rfl rfl)
theorem dX8_nodesForSet_1 : decode cX8_nodesForSet 1 = .ok (.iload_n 1, 1) := dk_27 (dk_at dksX8_nodesForSet_0 1 rfl rfl)
theorem dX8_nodesForSet_2 : decode cX8_nodesForSet 2 = .ok (.iload_n 2, 1) := dk_28 (dk_at dksX8_nodesForSet_0 2 rfl rfl)
theorem dX8_nodesForSet_3 : decode cX8_nodesForSet 3 = .ok (.invokevirtual 340, 3) := dk_182 1 84 (dk_at dksX8_nodesForSet_0 3 rfl rfl)
theorem dX8_nodesForSet_6 : decode cX8_nodesForSet 6 = .ok (.istore 4, 2) := dk_54 4 (dk_at dksX8_nodesForSet_0 6 rfl rfl)
theorem dX8_nodesForSet_8 : decode cX8_nodesForSet 8 = .ok (.iload_n 3, 1) := dk_29 (dk_at dksX8_nodesForSet_0 8 rfl rfl)
theorem dX8_nodesForSet_9 : decode cX8_nodesForSet 9 = .ok (.i2l, 1) := dk_133 (dk_at dksX8_nodesForSet_0 9 rfl rfl)
theorem dX8_nodesForSet_10 : decode cX8_nodesForSet 10 = .ok (.ldc2_w 379, 3) := dk_20 1 123 (dk_at dksX8_nodesForSet_0 10 rfl rfl)
theorem dX8_nodesForSet_13 : decode cX8_nodesForSet 13 = .ok (.ldc2_w 381, 3) := dk_20 1 125 (dk_at dksX8_nodesForSet_0 13 rfl rfl)
theorem dX8_nodesForSet_16 : decode cX8_nodesForSet 16 = .ok (.invokestatic 167, 3) := dk_184 0 167 (dk_at dksX8_nodesForSet_0 16 rfl rfl)
theorem dX8_nodesForSet_19 : decode cX8_nodesForSet 19 = .ok (.istore 5, 2) := dk_54 5 (dk_at dksX8_nodesForSet_0 19 rfl rfl)
theorem dX8_nodesForSet_21 : decode cX8_nodesForSet 21 = .ok (.aload_n 0, 1) := dk_42 (dk_at dksX8_nodesForSet_0 21 rfl rfl)
theorem dX8_nodesForSet_22 : decode cX8_nodesForSet 22 = .ok (.iload 4, 2) := dk_21 4 (dk_at dksX8_nodesForSet_0 22 rfl rfl)
theorem dX8_nodesForSet_24 : decode cX8_nodesForSet 24 = .ok (.iload 5, 2) := dk_21 5 (dk_at dksX8_nodesForSet_1 0 rfl rfl)
theorem dX8_nodesForSet_26 : decode cX8_nodesForSet 26 = .ok (.iload 4, 2) := dk_21 4 (dk_at dksX8_nodesForSet_1 2 rfl rfl)
theorem dX8_nodesForSet_28 : decode cX8_nodesForSet 28 = .ok (.ifCond .eq 20, 3) := dk_153 0 20 (dk_at dksX8_nodesForSet_1 4 rfl rfl)
theorem dX8_nodesForSet_31 : decode cX8_nodesForSet 31 = .ok (.iload 5, 2) := dk_21 5 (dk_at dksX8_nodesForSet_1 7 rfl rfl)
theorem dX8_nodesForSet_33 : decode cX8_nodesForSet 33 = .ok (.ifCond .eq 15, 3) := dk_153 0 15 (dk_at dksX8_nodesForSet_1 9 rfl rfl)
theorem dX8_nodesForSet_36 : decode cX8_nodesForSet 36 = .ok (.aload_n 0, 1) := dk_42 (dk_at dksX8_nodesForSet_1 12 rfl rfl)
theorem dX8_nodesForSet_37 : decode cX8_nodesForSet 37 = .ok (.iload_n 1, 1) := dk_27 (dk_at dksX8_nodesForSet_1 13 rfl rfl)
theorem dX8_nodesForSet_38 : decode cX8_nodesForSet 38 = .ok (.invokevirtual 164, 3) := dk_182 0 164 (dk_at dksX8_nodesForSet_1 14 rfl rfl)
theorem dX8_nodesForSet_41 : decode cX8_nodesForSet 41 = .ok (.ifCond .ne 7, 3) := dk_154 0 7 (dk_at dksX8_nodesForSet_1 17 rfl rfl)
theorem dX8_nodesForSet_44 : decode cX8_nodesForSet 44 = .ok (.iconst 1, 1) := dk_4 (dk_at dksX8_nodesForSet_1 20 rfl rfl)
theorem dX8_nodesForSet_45 : decode cX8_nodesForSet 45 = .ok (.goto 4, 3) := dk_167 0 4 (dk_at dksX8_nodesForSet_1 21 rfl rfl)
theorem dX8_nodesForSet_48 : decode cX8_nodesForSet 48 = .ok (.iconst 0, 1) := dk_3 (dk_at dksX8_nodesForSet_2 0 rfl rfl)
theorem dX8_nodesForSet_49 : decode cX8_nodesForSet 49 = .ok (.invokevirtual 330, 3) := dk_182 1 74 (dk_at dksX8_nodesForSet_2 1 rfl rfl)
theorem dX8_nodesForSet_52 : decode cX8_nodesForSet 52 = .ok (.ifCond .ne 5, 3) := dk_154 0 5 (dk_at dksX8_nodesForSet_2 4 rfl rfl)
theorem dX8_nodesForSet_55 : decode cX8_nodesForSet 55 = .ok (.iconst 0, 1) := dk_3 (dk_at dksX8_nodesForSet_2 7 rfl rfl)
theorem dX8_nodesForSet_56 : decode cX8_nodesForSet 56 = .ok (.ireturn, 1) := dk_172 (dk_at dksX8_nodesForSet_2 8 rfl rfl)
theorem dX8_nodesForSet_57 : decode cX8_nodesForSet 57 = .ok (.aload_n 0, 1) := dk_42 (dk_at dksX8_nodesForSet_2 9 rfl rfl)
theorem dX8_nodesForSet_58 : decode cX8_nodesForSet 58 = .ok (.iload_n 1, 1) := dk_27 (dk_at dksX8_nodesForSet_2 10 rfl rfl)
theorem dX8_nodesForSet_59 : decode cX8_nodesForSet 59 = .ok (.iload_n 2, 1) := dk_28 (dk_at dksX8_nodesForSet_2 11 rfl rfl)
theorem dX8_nodesForSet_60 : decode cX8_nodesForSet 60 = .ok (.invokevirtual 129, 3) := dk_182 0 129 (dk_at dksX8_nodesForSet_2 12 rfl rfl)
theorem dX8_nodesForSet_63 : decode cX8_nodesForSet 63 = .ok (.iload_n 3, 1) := dk_29 (dk_at dksX8_nodesForSet_2 15 rfl rfl)
theorem dX8_nodesForSet_64 : decode cX8_nodesForSet 64 = .ok (.if_icmp .ne 7, 3) := dk_160 0 7 (dk_at dksX8_nodesForSet_2 16 rfl rfl)
theorem dX8_nodesForSet_67 : decode cX8_nodesForSet 67 = .ok (.iconst 0, 1) := dk_3 (dk_at dksX8_nodesForSet_2 19 rfl rfl)
theorem dX8_nodesForSet_68 : decode cX8_nodesForSet 68 = .ok (.goto 8, 3) := dk_167 0 8 (dk_at dksX8_nodesForSet_2 20 rfl rfl)
theorem dX8_nodesForSet_71 : decode cX8_nodesForSet 71 = .ok (.aload_n 0, 1) := dk_42 (dk_at dksX8_nodesForSet_2 23 rfl rfl)
theorem dX8_nodesForSet_72 : decode cX8_nodesForSet 72 = .ok (.iload_n 1, 1) := dk_27 (dk_at dksX8_nodesForSet_3 0 rfl rfl)
theorem dX8_nodesForSet_73 : decode cX8_nodesForSet 73 = .ok (.invokevirtual 148, 3) := dk_182 0 148 (dk_at dksX8_nodesForSet_3 1 rfl rfl)
theorem dX8_nodesForSet_76 : decode cX8_nodesForSet 76 = .ok (.ireturn, 1) := dk_172 (dk_at dksX8_nodesForSet_3 4 rfl rfl)
abbrev cX8_nodesForAppend : ByteArray := prog_18_method_118_code
def yX8_nodesForAppend : MethodName := ⟨RX8, "nodesForAppend", "(I)I"⟩
def dkwX8_nodesForAppend_1 : List UInt8 := [167, 0, 9, 28, 4, 96, 184, 0, 118, 172]
abbrev dktX8_nodesForAppend_1 : List UInt8 := dkwX8_nodesForAppend_1 ++ []
def dkwX8_nodesForAppend_0 : List UInt8 := [42, 27, 182, 1, 87, 154, 0, 5, 3, 172, 42, 27, 182, 0, 121, 61, 28, 16, 64, 160, 0, 7, 2]
abbrev dktX8_nodesForAppend_0 : List UInt8 := dkwX8_nodesForAppend_0 ++ dktX8_nodesForAppend_1
theorem dksX8_nodesForAppend_0 : cX8_nodesForAppend.data.toList.drop 0 = dktX8_nodesForAppend_0 := by decide +kernel
theorem dksX8_nodesForAppend_1 : cX8_nodesForAppend.data.toList.drop 23 = dktX8_nodesForAppend_1 := dk_seg dksX8_nodesForAppend_0 23 rfl rfl
theorem dX8_nodesForAppend_0 : decode cX8_nodesForAppend 0 = .ok (.aload_n 0, 1) := dk_42 (dk_at dksX8_nodesForAppend_0 0 rfl rfl)
theorem dX8_nodesForAppend_1 : decode cX8_nodesForAppend 1 = .ok (.iload_n 1, 1) := dk_27 (dk_at dksX8_nodesForAppend_0 1 rfl rfl)
theorem dX8_nodesForAppend_2 : decode cX8_nodesForAppend 2 = .ok (.invokevirtual 343, 3) := dk_182 1 87 (dk_at dksX8_nodesForAppend_0 2 rfl rfl)
theorem dX8_nodesForAppend_5 : decode cX8_nodesForAppend 5 = .ok (.ifCond .ne 5, 3) := dk_154 0 5 (dk_at dksX8_nodesForAppend_0 5 rfl rfl)
theorem dX8_nodesForAppend_8 : decode cX8_nodesForAppend 8 = .ok (.iconst 0, 1) := dk_3 (dk_at dksX8_nodesForAppend_0 8 rfl rfl)
theorem dX8_nodesForAppend_9 : decode cX8_nodesForAppend 9 = .ok (.ireturn, 1) := dk_172 (dk_at dksX8_nodesForAppend_0 9 rfl rfl)
theorem dX8_nodesForAppend_10 : decode cX8_nodesForAppend 10 = .ok (.aload_n 0, 1) := dk_42 (dk_at dksX8_nodesForAppend_0 10 rfl rfl)
theorem dX8_nodesForAppend_11 : decode cX8_nodesForAppend 11 = .ok (.iload_n 1, 1) := dk_27 (dk_at dksX8_nodesForAppend_0 11 rfl rfl)
theorem dX8_nodesForAppend_12 : decode cX8_nodesForAppend 12 = .ok (.invokevirtual 121, 3) := dk_182 0 121 (dk_at dksX8_nodesForAppend_0 12 rfl rfl)
theorem dX8_nodesForAppend_15 : decode cX8_nodesForAppend 15 = .ok (.istore_n 2, 1) := dk_61 (dk_at dksX8_nodesForAppend_0 15 rfl rfl)
theorem dX8_nodesForAppend_16 : decode cX8_nodesForAppend 16 = .ok (.iload_n 2, 1) := dk_28 (dk_at dksX8_nodesForAppend_0 16 rfl rfl)
theorem dX8_nodesForAppend_17 : decode cX8_nodesForAppend 17 = .ok (.bipush 64, 2) := dk_16 64 (dk_at dksX8_nodesForAppend_0 17 rfl rfl)
theorem dX8_nodesForAppend_19 : decode cX8_nodesForAppend 19 = .ok (.if_icmp .ne 7, 3) := dk_160 0 7 (dk_at dksX8_nodesForAppend_0 19 rfl rfl)
theorem dX8_nodesForAppend_22 : decode cX8_nodesForAppend 22 = .ok (.iconst (-1), 1) := dk_2 (dk_at dksX8_nodesForAppend_0 22 rfl rfl)
theorem dX8_nodesForAppend_23 : decode cX8_nodesForAppend 23 = .ok (.goto 9, 3) := dk_167 0 9 (dk_at dksX8_nodesForAppend_1 0 rfl rfl)
theorem dX8_nodesForAppend_26 : decode cX8_nodesForAppend 26 = .ok (.iload_n 2, 1) := dk_28 (dk_at dksX8_nodesForAppend_1 3 rfl rfl)
theorem dX8_nodesForAppend_27 : decode cX8_nodesForAppend 27 = .ok (.iconst 1, 1) := dk_4 (dk_at dksX8_nodesForAppend_1 4 rfl rfl)
theorem dX8_nodesForAppend_28 : decode cX8_nodesForAppend 28 = .ok (.iadd, 1) := dk_96 (dk_at dksX8_nodesForAppend_1 5 rfl rfl)
theorem dX8_nodesForAppend_29 : decode cX8_nodesForAppend 29 = .ok (.invokestatic 118, 3) := dk_184 0 118 (dk_at dksX8_nodesForAppend_1 6 rfl rfl)
theorem dX8_nodesForAppend_32 : decode cX8_nodesForAppend 32 = .ok (.ireturn, 1) := dk_172 (dk_at dksX8_nodesForAppend_1 9 rfl rfl)
abbrev cX8_garbageIfReleased : ByteArray := prog_18_method_119_code
def yX8_garbageIfReleased : MethodName := ⟨RX8, "garbageIfReleased", "(I)I"⟩
def dkwX8_garbageIfReleased_0 : List UInt8 := [42, 27, 182, 1, 87, 153, 0, 11, 42, 27, 182, 1, 108, 167, 0, 4, 3, 172]
abbrev dktX8_garbageIfReleased_0 : List UInt8 := dkwX8_garbageIfReleased_0 ++ []
theorem dksX8_garbageIfReleased_0 : cX8_garbageIfReleased.data.toList.drop 0 = dktX8_garbageIfReleased_0 := by decide +kernel
theorem dX8_garbageIfReleased_0 : decode cX8_garbageIfReleased 0 = .ok (.aload_n 0, 1) := dk_42 (dk_at dksX8_garbageIfReleased_0 0 rfl rfl)
theorem dX8_garbageIfReleased_1 : decode cX8_garbageIfReleased 1 = .ok (.iload_n 1, 1) := dk_27 (dk_at dksX8_garbageIfReleased_0 1 rfl rfl)
theorem dX8_garbageIfReleased_2 : decode cX8_garbageIfReleased 2 = .ok (.invokevirtual 343, 3) := dk_182 1 87 (dk_at dksX8_garbageIfReleased_0 2 rfl rfl)
theorem dX8_garbageIfReleased_5 : decode cX8_garbageIfReleased 5 = .ok (.ifCond .eq 11, 3) := dk_153 0 11 (dk_at dksX8_garbageIfReleased_0 5 rfl rfl)
theorem dX8_garbageIfReleased_8 : decode cX8_garbageIfReleased 8 = .ok (.aload_n 0, 1) := dk_42 (dk_at dksX8_garbageIfReleased_0 8 rfl rfl)
theorem dX8_garbageIfReleased_9 : decode cX8_garbageIfReleased 9 = .ok (.iload_n 1, 1) := dk_27 (dk_at dksX8_garbageIfReleased_0 9 rfl rfl)
theorem dX8_garbageIfReleased_10 : decode cX8_garbageIfReleased 10 = .ok (.invokevirtual 364, 3) := dk_182 1 108 (dk_at dksX8_garbageIfReleased_0 10 rfl rfl)
theorem dX8_garbageIfReleased_13 : decode cX8_garbageIfReleased 13 = .ok (.goto 4, 3) := dk_167 0 4 (dk_at dksX8_garbageIfReleased_0 13 rfl rfl)
theorem dX8_garbageIfReleased_16 : decode cX8_garbageIfReleased 16 = .ok (.iconst 0, 1) := dk_3 (dk_at dksX8_garbageIfReleased_0 16 rfl rfl)
theorem dX8_garbageIfReleased_17 : decode cX8_garbageIfReleased 17 = .ok (.ireturn, 1) := dk_172 (dk_at dksX8_garbageIfReleased_0 17 rfl rfl)
abbrev cX8_largestVersion : ByteArray := prog_18_method_120_code
def yX8_largestVersion : MethodName := ⟨RX8, "largestVersion", "()I"⟩
def dkwX8_largestVersion_2 : List UInt8 := [132, 2, 1, 167, 255, 215, 27, 172]
abbrev dktX8_largestVersion_2 : List UInt8 := dkwX8_largestVersion_2 ++ []
def dkwX8_largestVersion_1 : List UInt8 := [154, 0, 23, 27, 2, 159, 0, 16, 42, 28, 182, 0, 121, 42, 27, 182, 0, 121, 164, 0, 5, 28, 60]
abbrev dktX8_largestVersion_1 : List UInt8 := dkwX8_largestVersion_1 ++ dktX8_largestVersion_2
def dkwX8_largestVersion_0 : List UInt8 := [42, 3, 181, 0, 58, 2, 60, 3, 61, 28, 42, 180, 0, 9, 3, 46, 162, 0, 37, 42, 28, 182, 0, 164]
abbrev dktX8_largestVersion_0 : List UInt8 := dkwX8_largestVersion_0 ++ dktX8_largestVersion_1
theorem dksX8_largestVersion_0 : cX8_largestVersion.data.toList.drop 0 = dktX8_largestVersion_0 := by decide +kernel
theorem dksX8_largestVersion_1 : cX8_largestVersion.data.toList.drop 24 = dktX8_largestVersion_1 := dk_seg dksX8_largestVersion_0 24 rfl rfl
theorem dksX8_largestVersion_2 : cX8_largestVersion.data.toList.drop 47 = dktX8_largestVersion_2 := dk_seg dksX8_largestVersion_1 23 rfl rfl
theorem dX8_largestVersion_0 : decode cX8_largestVersion 0 = .ok (.aload_n 0, 1) := dk_42 (dk_at dksX8_largestVersion_0 0 rfl rfl)
theorem dX8_largestVersion_1 : decode cX8_largestVersion 1 = .ok (.iconst 0, 1) := dk_3 (dk_at dksX8_largestVersion_0 1 rfl rfl)
theorem dX8_largestVersion_2 : decode cX8_largestVersion 2 = .ok (.putfield 58, 3) := dk_181 0 58 (dk_at dksX8_largestVersion_0 2 rfl rfl)
theorem dX8_largestVersion_5 : decode cX8_largestVersion 5 = .ok (.iconst (-1), 1) := dk_2 (dk_at dksX8_largestVersion_0 5 rfl rfl)
theorem dX8_largestVersion_6 : decode cX8_largestVersion 6 = .ok (.istore_n 1, 1) := dk_60 (dk_at dksX8_largestVersion_0 6 rfl rfl)
theorem dX8_largestVersion_7 : decode cX8_largestVersion 7 = .ok (.iconst 0, 1) := dk_3 (dk_at dksX8_largestVersion_0 7 rfl rfl)
theorem dX8_largestVersion_8 : decode cX8_largestVersion 8 = .ok (.istore_n 2, 1) := dk_61 (dk_at dksX8_largestVersion_0 8 rfl rfl)
theorem dX8_largestVersion_9 : decode cX8_largestVersion 9 = .ok (.iload_n 2, 1) := dk_28 (dk_at dksX8_largestVersion_0 9 rfl rfl)
theorem dX8_largestVersion_10 : decode cX8_largestVersion 10 = .ok (.aload_n 0, 1) := dk_42 (dk_at dksX8_largestVersion_0 10 rfl rfl)
theorem dX8_largestVersion_11 : decode cX8_largestVersion 11 = .ok (.getfield 9, 3) := dk_180 0 9 (dk_at dksX8_largestVersion_0 11 rfl rfl)
theorem dX8_largestVersion_14 : decode cX8_largestVersion 14 = .ok (.iconst 0, 1) := dk_3 (dk_at dksX8_largestVersion_0 14 rfl rfl)
theorem dX8_largestVersion_15 : decode cX8_largestVersion 15 = .ok (.iaload, 1) := dk_46 (dk_at dksX8_largestVersion_0 15 rfl rfl)
theorem dX8_largestVersion_16 : decode cX8_largestVersion 16 = .ok (.if_icmp .ge 37, 3) := dk_162 0 37 (dk_at dksX8_largestVersion_0 16 rfl rfl)
theorem dX8_largestVersion_19 : decode cX8_largestVersion 19 = .ok (.aload_n 0, 1) := dk_42 (dk_at dksX8_largestVersion_0 19 rfl rfl)
theorem dX8_largestVersion_20 : decode cX8_largestVersion 20 = .ok (.iload_n 2, 1) := dk_28 (dk_at dksX8_largestVersion_0 20 rfl rfl)
theorem dX8_largestVersion_21 : decode cX8_largestVersion 21 = .ok (.invokevirtual 164, 3) := dk_182 0 164 (dk_at dksX8_largestVersion_0 21 rfl rfl)
theorem dX8_largestVersion_24 : decode cX8_largestVersion 24 = .ok (.ifCond .ne 23, 3) := dk_154 0 23 (dk_at dksX8_largestVersion_1 0 rfl rfl)
theorem dX8_largestVersion_27 : decode cX8_largestVersion 27 = .ok (.iload_n 1, 1) := dk_27 (dk_at dksX8_largestVersion_1 3 rfl rfl)
theorem dX8_largestVersion_28 : decode cX8_largestVersion 28 = .ok (.iconst (-1), 1) := dk_2 (dk_at dksX8_largestVersion_1 4 rfl rfl)
theorem dX8_largestVersion_29 : decode cX8_largestVersion 29 = .ok (.if_icmp .eq 16, 3) := dk_159 0 16 (dk_at dksX8_largestVersion_1 5 rfl rfl)
theorem dX8_largestVersion_32 : decode cX8_largestVersion 32 = .ok (.aload_n 0, 1) := dk_42 (dk_at dksX8_largestVersion_1 8 rfl rfl)
theorem dX8_largestVersion_33 : decode cX8_largestVersion 33 = .ok (.iload_n 2, 1) := dk_28 (dk_at dksX8_largestVersion_1 9 rfl rfl)
theorem dX8_largestVersion_34 : decode cX8_largestVersion 34 = .ok (.invokevirtual 121, 3) := dk_182 0 121 (dk_at dksX8_largestVersion_1 10 rfl rfl)
theorem dX8_largestVersion_37 : decode cX8_largestVersion 37 = .ok (.aload_n 0, 1) := dk_42 (dk_at dksX8_largestVersion_1 13 rfl rfl)
theorem dX8_largestVersion_38 : decode cX8_largestVersion 38 = .ok (.iload_n 1, 1) := dk_27 (dk_at dksX8_largestVersion_1 14 rfl rfl)
theorem dX8_largestVersion_39 : decode cX8_largestVersion 39 = .ok (.invokevirtual 121, 3) := dk_182 0 121 (dk_at dksX8_largestVersion_1 15 rfl rfl)
theorem dX8_largestVersion_42 : decode cX8_largestVersion 42 = .ok (.if_icmp .le 5, 3) := dk_164 0 5 (dk_at dksX8_largestVersion_1 18 rfl rfl)
theorem dX8_largestVersion_45 : decode cX8_largestVersion 45 = .ok (.iload_n 2, 1) := dk_28 (dk_at dksX8_largestVersion_1 21 rfl rfl)
theorem dX8_largestVersion_46 : decode cX8_largestVersion 46 = .ok (.istore_n 1, 1) := dk_60 (dk_at dksX8_largestVersion_1 22 rfl rfl)
theorem dX8_largestVersion_47 : decode cX8_largestVersion 47 = .ok (.iinc 2 1, 3) := dk_132 2 1 (dk_at dksX8_largestVersion_2 0 rfl rfl)
theorem dX8_largestVersion_50 : decode cX8_largestVersion 50 = .ok (.goto (-41), 3) := dk_167 255 215 (dk_at dksX8_largestVersion_2 3 rfl rfl)
theorem dX8_largestVersion_53 : decode cX8_largestVersion 53 = .ok (.iload_n 1, 1) := dk_27 (dk_at dksX8_largestVersion_2 6 rfl rfl)
theorem dX8_largestVersion_54 : decode cX8_largestVersion 54 = .ok (.ireturn, 1) := dk_172 (dk_at dksX8_largestVersion_2 7 rfl rfl)
abbrev cX8_sharing : ByteArray := prog_18_method_121_code
def yX8_sharing : MethodName := ⟨RX8, "sharing", "()D"⟩
def dkwX8_sharing_3 : List UInt8 := [135, 28, 135, 111, 175]
abbrev dktX8_sharing_3 : List UInt8 := dkwX8_sharing_3 ++ []
def dkwX8_sharing_2 : List UInt8 := [167, 0, 4, 3, 184, 0, 75, 96, 61, 132, 3, 1, 167, 255, 214, 28, 154, 0, 7, 14, 167, 0, 8, 27]
abbrev dktX8_sharing_2 : List UInt8 := dkwX8_sharing_2 ++ dktX8_sharing_3
def dkwX8_sharing_1 : List UInt8 := [162, 0, 38, 27, 42, 180, 0, 32, 29, 46, 96, 60, 28, 42, 180, 0, 32, 29, 46, 158, 0, 7, 4]
abbrev dktX8_sharing_1 : List UInt8 := dkwX8_sharing_1 ++ dktX8_sharing_2
def dkwX8_sharing_0 : List UInt8 := [42, 3, 181, 0, 58, 42, 182, 0, 174, 3, 60, 3, 61, 3, 62, 29, 42, 180, 0, 9, 4, 46]
abbrev dktX8_sharing_0 : List UInt8 := dkwX8_sharing_0 ++ dktX8_sharing_1
theorem dksX8_sharing_0 : cX8_sharing.data.toList.drop 0 = dktX8_sharing_0 := by decide +kernel
theorem dksX8_sharing_1 : cX8_sharing.data.toList.drop 22 = dktX8_sharing_1 := dk_seg dksX8_sharing_0 22 rfl rfl
theorem dksX8_sharing_2 : cX8_sharing.data.toList.drop 45 = dktX8_sharing_2 := dk_seg dksX8_sharing_1 23 rfl rfl
theorem dksX8_sharing_3 : cX8_sharing.data.toList.drop 69 = dktX8_sharing_3 := dk_seg dksX8_sharing_2 24 rfl rfl
theorem dX8_sharing_0 : decode cX8_sharing 0 = .ok (.aload_n 0, 1) := dk_42 (dk_at dksX8_sharing_0 0 rfl rfl)
theorem dX8_sharing_1 : decode cX8_sharing 1 = .ok (.iconst 0, 1) := dk_3 (dk_at dksX8_sharing_0 1 rfl rfl)
theorem dX8_sharing_2 : decode cX8_sharing 2 = .ok (.putfield 58, 3) := dk_181 0 58 (dk_at dksX8_sharing_0 2 rfl rfl)
theorem dX8_sharing_5 : decode cX8_sharing 5 = .ok (.aload_n 0, 1) := dk_42 (dk_at dksX8_sharing_0 5 rfl rfl)
theorem dX8_sharing_6 : decode cX8_sharing 6 = .ok (.invokevirtual 174, 3) := dk_182 0 174 (dk_at dksX8_sharing_0 6 rfl rfl)
theorem dX8_sharing_9 : decode cX8_sharing 9 = .ok (.iconst 0, 1) := dk_3 (dk_at dksX8_sharing_0 9 rfl rfl)
theorem dX8_sharing_10 : decode cX8_sharing 10 = .ok (.istore_n 1, 1) := dk_60 (dk_at dksX8_sharing_0 10 rfl rfl)
theorem dX8_sharing_11 : decode cX8_sharing 11 = .ok (.iconst 0, 1) := dk_3 (dk_at dksX8_sharing_0 11 rfl rfl)
theorem dX8_sharing_12 : decode cX8_sharing 12 = .ok (.istore_n 2, 1) := dk_61 (dk_at dksX8_sharing_0 12 rfl rfl)
theorem dX8_sharing_13 : decode cX8_sharing 13 = .ok (.iconst 0, 1) := dk_3 (dk_at dksX8_sharing_0 13 rfl rfl)
theorem dX8_sharing_14 : decode cX8_sharing 14 = .ok (.istore_n 3, 1) := dk_62 (dk_at dksX8_sharing_0 14 rfl rfl)
theorem dX8_sharing_15 : decode cX8_sharing 15 = .ok (.iload_n 3, 1) := dk_29 (dk_at dksX8_sharing_0 15 rfl rfl)
theorem dX8_sharing_16 : decode cX8_sharing 16 = .ok (.aload_n 0, 1) := dk_42 (dk_at dksX8_sharing_0 16 rfl rfl)
theorem dX8_sharing_17 : decode cX8_sharing 17 = .ok (.getfield 9, 3) := dk_180 0 9 (dk_at dksX8_sharing_0 17 rfl rfl)
theorem dX8_sharing_20 : decode cX8_sharing 20 = .ok (.iconst 1, 1) := dk_4 (dk_at dksX8_sharing_0 20 rfl rfl)
theorem dX8_sharing_21 : decode cX8_sharing 21 = .ok (.iaload, 1) := dk_46 (dk_at dksX8_sharing_0 21 rfl rfl)
theorem dX8_sharing_22 : decode cX8_sharing 22 = .ok (.if_icmp .ge 38, 3) := dk_162 0 38 (dk_at dksX8_sharing_1 0 rfl rfl)
theorem dX8_sharing_25 : decode cX8_sharing 25 = .ok (.iload_n 1, 1) := dk_27 (dk_at dksX8_sharing_1 3 rfl rfl)
theorem dX8_sharing_26 : decode cX8_sharing 26 = .ok (.aload_n 0, 1) := dk_42 (dk_at dksX8_sharing_1 4 rfl rfl)
theorem dX8_sharing_27 : decode cX8_sharing 27 = .ok (.getfield 32, 3) := dk_180 0 32 (dk_at dksX8_sharing_1 5 rfl rfl)
theorem dX8_sharing_30 : decode cX8_sharing 30 = .ok (.iload_n 3, 1) := dk_29 (dk_at dksX8_sharing_1 8 rfl rfl)
theorem dX8_sharing_31 : decode cX8_sharing 31 = .ok (.iaload, 1) := dk_46 (dk_at dksX8_sharing_1 9 rfl rfl)
theorem dX8_sharing_32 : decode cX8_sharing 32 = .ok (.iadd, 1) := dk_96 (dk_at dksX8_sharing_1 10 rfl rfl)
theorem dX8_sharing_33 : decode cX8_sharing 33 = .ok (.istore_n 1, 1) := dk_60 (dk_at dksX8_sharing_1 11 rfl rfl)
theorem dX8_sharing_34 : decode cX8_sharing 34 = .ok (.iload_n 2, 1) := dk_28 (dk_at dksX8_sharing_1 12 rfl rfl)
theorem dX8_sharing_35 : decode cX8_sharing 35 = .ok (.aload_n 0, 1) := dk_42 (dk_at dksX8_sharing_1 13 rfl rfl)
theorem dX8_sharing_36 : decode cX8_sharing 36 = .ok (.getfield 32, 3) := dk_180 0 32 (dk_at dksX8_sharing_1 14 rfl rfl)
theorem dX8_sharing_39 : decode cX8_sharing 39 = .ok (.iload_n 3, 1) := dk_29 (dk_at dksX8_sharing_1 17 rfl rfl)
theorem dX8_sharing_40 : decode cX8_sharing 40 = .ok (.iaload, 1) := dk_46 (dk_at dksX8_sharing_1 18 rfl rfl)
theorem dX8_sharing_41 : decode cX8_sharing 41 = .ok (.ifCond .le 7, 3) := dk_158 0 7 (dk_at dksX8_sharing_1 19 rfl rfl)
theorem dX8_sharing_44 : decode cX8_sharing 44 = .ok (.iconst 1, 1) := dk_4 (dk_at dksX8_sharing_1 22 rfl rfl)
theorem dX8_sharing_45 : decode cX8_sharing 45 = .ok (.goto 4, 3) := dk_167 0 4 (dk_at dksX8_sharing_2 0 rfl rfl)
theorem dX8_sharing_48 : decode cX8_sharing 48 = .ok (.iconst 0, 1) := dk_3 (dk_at dksX8_sharing_2 3 rfl rfl)
theorem dX8_sharing_49 : decode cX8_sharing 49 = .ok (.invokestatic 75, 3) := dk_184 0 75 (dk_at dksX8_sharing_2 4 rfl rfl)
theorem dX8_sharing_52 : decode cX8_sharing 52 = .ok (.iadd, 1) := dk_96 (dk_at dksX8_sharing_2 7 rfl rfl)
theorem dX8_sharing_53 : decode cX8_sharing 53 = .ok (.istore_n 2, 1) := dk_61 (dk_at dksX8_sharing_2 8 rfl rfl)
theorem dX8_sharing_54 : decode cX8_sharing 54 = .ok (.iinc 3 1, 3) := dk_132 3 1 (dk_at dksX8_sharing_2 9 rfl rfl)
theorem dX8_sharing_57 : decode cX8_sharing 57 = .ok (.goto (-42), 3) := dk_167 255 214 (dk_at dksX8_sharing_2 12 rfl rfl)
theorem dX8_sharing_60 : decode cX8_sharing 60 = .ok (.iload_n 2, 1) := dk_28 (dk_at dksX8_sharing_2 15 rfl rfl)
theorem dX8_sharing_61 : decode cX8_sharing 61 = .ok (.ifCond .ne 7, 3) := dk_154 0 7 (dk_at dksX8_sharing_2 16 rfl rfl)
theorem dX8_sharing_64 : decode cX8_sharing 64 = .ok (.dconst 0, 1) := dk_14 (dk_at dksX8_sharing_2 19 rfl rfl)
theorem dX8_sharing_65 : decode cX8_sharing 65 = .ok (.goto 8, 3) := dk_167 0 8 (dk_at dksX8_sharing_2 20 rfl rfl)
theorem dX8_sharing_68 : decode cX8_sharing 68 = .ok (.iload_n 1, 1) := dk_27 (dk_at dksX8_sharing_2 23 rfl rfl)
theorem dX8_sharing_69 : decode cX8_sharing 69 = .ok (.i2d, 1) := dk_135 (dk_at dksX8_sharing_3 0 rfl rfl)
theorem dX8_sharing_70 : decode cX8_sharing 70 = .ok (.iload_n 2, 1) := dk_28 (dk_at dksX8_sharing_3 1 rfl rfl)
theorem dX8_sharing_71 : decode cX8_sharing 71 = .ok (.i2d, 1) := dk_135 (dk_at dksX8_sharing_3 2 rfl rfl)
theorem dX8_sharing_72 : decode cX8_sharing 72 = .ok (.ddiv, 1) := dk_111 (dk_at dksX8_sharing_3 3 rfl rfl)
theorem dX8_sharing_73 : decode cX8_sharing 73 = .ok (.dreturn, 1) := dk_175 (dk_at dksX8_sharing_3 4 rfl rfl)
abbrev cX8_garbagePart : ByteArray := prog_18_method_122_code
def yX8_garbagePart : MethodName := ⟨RX8, "garbagePart", "()F"⟩
def dkwX8_garbagePart_1 : List UInt8 := [134, 28, 134, 110, 174]
abbrev dktX8_garbagePart_1 : List UInt8 := dkwX8_garbagePart_1 ++ []
def dkwX8_garbagePart_0 : List UInt8 := [42, 3, 181, 0, 58, 42, 182, 0, 177, 60, 42, 182, 1, 93, 61, 28, 154, 0, 7, 11, 167, 0, 8, 27]
abbrev dktX8_garbagePart_0 : List UInt8 := dkwX8_garbagePart_0 ++ dktX8_garbagePart_1
theorem dksX8_garbagePart_0 : cX8_garbagePart.data.toList.drop 0 = dktX8_garbagePart_0 := by decide +kernel
theorem dksX8_garbagePart_1 : cX8_garbagePart.data.toList.drop 24 = dktX8_garbagePart_1 := dk_seg dksX8_garbagePart_0 24 rfl rfl
theorem dX8_garbagePart_0 : decode cX8_garbagePart 0 = .ok (.aload_n 0, 1) := dk_42 (dk_at dksX8_garbagePart_0 0 rfl rfl)
theorem dX8_garbagePart_1 : decode cX8_garbagePart 1 = .ok (.iconst 0, 1) := dk_3 (dk_at dksX8_garbagePart_0 1 rfl rfl)
theorem dX8_garbagePart_2 : decode cX8_garbagePart 2 = .ok (.putfield 58, 3) := dk_181 0 58 (dk_at dksX8_garbagePart_0 2 rfl rfl)
theorem dX8_garbagePart_5 : decode cX8_garbagePart 5 = .ok (.aload_n 0, 1) := dk_42 (dk_at dksX8_garbagePart_0 5 rfl rfl)
theorem dX8_garbagePart_6 : decode cX8_garbagePart 6 = .ok (.invokevirtual 177, 3) := dk_182 0 177 (dk_at dksX8_garbagePart_0 6 rfl rfl)
theorem dX8_garbagePart_9 : decode cX8_garbagePart 9 = .ok (.istore_n 1, 1) := dk_60 (dk_at dksX8_garbagePart_0 9 rfl rfl)
theorem dX8_garbagePart_10 : decode cX8_garbagePart 10 = .ok (.aload_n 0, 1) := dk_42 (dk_at dksX8_garbagePart_0 10 rfl rfl)
theorem dX8_garbagePart_11 : decode cX8_garbagePart 11 = .ok (.invokevirtual 349, 3) := dk_182 1 93 (dk_at dksX8_garbagePart_0 11 rfl rfl)
theorem dX8_garbagePart_14 : decode cX8_garbagePart 14 = .ok (.istore_n 2, 1) := dk_61 (dk_at dksX8_garbagePart_0 14 rfl rfl)
theorem dX8_garbagePart_15 : decode cX8_garbagePart 15 = .ok (.iload_n 2, 1) := dk_28 (dk_at dksX8_garbagePart_0 15 rfl rfl)
theorem dX8_garbagePart_16 : decode cX8_garbagePart 16 = .ok (.ifCond .ne 7, 3) := dk_154 0 7 (dk_at dksX8_garbagePart_0 16 rfl rfl)
theorem dX8_garbagePart_19 : decode cX8_garbagePart 19 = .ok (.fconst 0, 1) := dk_11 (dk_at dksX8_garbagePart_0 19 rfl rfl)
theorem dX8_garbagePart_20 : decode cX8_garbagePart 20 = .ok (.goto 8, 3) := dk_167 0 8 (dk_at dksX8_garbagePart_0 20 rfl rfl)
theorem dX8_garbagePart_23 : decode cX8_garbagePart 23 = .ok (.iload_n 1, 1) := dk_27 (dk_at dksX8_garbagePart_0 23 rfl rfl)
theorem dX8_garbagePart_24 : decode cX8_garbagePart 24 = .ok (.i2f, 1) := dk_134 (dk_at dksX8_garbagePart_1 0 rfl rfl)
theorem dX8_garbagePart_25 : decode cX8_garbagePart 25 = .ok (.iload_n 2, 1) := dk_28 (dk_at dksX8_garbagePart_1 1 rfl rfl)
theorem dX8_garbagePart_26 : decode cX8_garbagePart 26 = .ok (.i2f, 1) := dk_134 (dk_at dksX8_garbagePart_1 2 rfl rfl)
theorem dX8_garbagePart_27 : decode cX8_garbagePart 27 = .ok (.fdiv, 1) := dk_110 (dk_at dksX8_garbagePart_1 3 rfl rfl)
theorem dX8_garbagePart_28 : decode cX8_garbagePart 28 = .ok (.freturn, 1) := dk_174 (dk_at dksX8_garbagePart_1 4 rfl rfl)
abbrev cX8_isConsistent : ByteArray := prog_18_method_128_code
def yX8_isConsistent : MethodName := ⟨RX8, "isConsistent", "()Z"⟩
def dkwX8_isConsistent_3 : List UInt8 := [182, 1, 143, 153, 0, 7, 4, 167, 0, 4, 3, 172]
abbrev dktX8_isConsistent_3 : List UInt8 := dkwX8_isConsistent_3 ++ []
def dkwX8_isConsistent_2 : List UInt8 := [154, 0, 5, 3, 172, 132, 2, 1, 167, 255, 211, 27, 42, 180, 0, 9, 4, 46, 160, 0, 14, 42]
abbrev dktX8_isConsistent_2 : List UInt8 := dkwX8_isConsistent_2 ++ dktX8_isConsistent_3
def dkwX8_isConsistent_1 : List UInt8 := [28, 184, 0, 112, 8, 96, 46, 96, 60, 42, 28, 182, 0, 164, 154, 0, 13, 42, 28, 182, 1, 140]
abbrev dktX8_isConsistent_1 : List UInt8 := dkwX8_isConsistent_1 ++ dktX8_isConsistent_2
def dkwX8_isConsistent_0 : List UInt8 := [42, 3, 181, 0, 58, 3, 60, 3, 61, 28, 42, 180, 0, 9, 3, 46, 162, 0, 41, 27, 42, 180, 0, 9]
abbrev dktX8_isConsistent_0 : List UInt8 := dkwX8_isConsistent_0 ++ dktX8_isConsistent_1
theorem dksX8_isConsistent_0 : cX8_isConsistent.data.toList.drop 0 = dktX8_isConsistent_0 := by decide +kernel
theorem dksX8_isConsistent_1 : cX8_isConsistent.data.toList.drop 24 = dktX8_isConsistent_1 := dk_seg dksX8_isConsistent_0 24 rfl rfl
theorem dksX8_isConsistent_2 : cX8_isConsistent.data.toList.drop 46 = dktX8_isConsistent_2 := dk_seg dksX8_isConsistent_1 22 rfl rfl
theorem dksX8_isConsistent_3 : cX8_isConsistent.data.toList.drop 68 = dktX8_isConsistent_3 := dk_seg dksX8_isConsistent_2 22 rfl rfl
theorem dX8_isConsistent_0 : decode cX8_isConsistent 0 = .ok (.aload_n 0, 1) := dk_42 (dk_at dksX8_isConsistent_0 0 rfl rfl)
theorem dX8_isConsistent_1 : decode cX8_isConsistent 1 = .ok (.iconst 0, 1) := dk_3 (dk_at dksX8_isConsistent_0 1 rfl rfl)
theorem dX8_isConsistent_2 : decode cX8_isConsistent 2 = .ok (.putfield 58, 3) := dk_181 0 58 (dk_at dksX8_isConsistent_0 2 rfl rfl)
theorem dX8_isConsistent_5 : decode cX8_isConsistent 5 = .ok (.iconst 0, 1) := dk_3 (dk_at dksX8_isConsistent_0 5 rfl rfl)
theorem dX8_isConsistent_6 : decode cX8_isConsistent 6 = .ok (.istore_n 1, 1) := dk_60 (dk_at dksX8_isConsistent_0 6 rfl rfl)
theorem dX8_isConsistent_7 : decode cX8_isConsistent 7 = .ok (.iconst 0, 1) := dk_3 (dk_at dksX8_isConsistent_0 7 rfl rfl)
theorem dX8_isConsistent_8 : decode cX8_isConsistent 8 = .ok (.istore_n 2, 1) := dk_61 (dk_at dksX8_isConsistent_0 8 rfl rfl)
theorem dX8_isConsistent_9 : decode cX8_isConsistent 9 = .ok (.iload_n 2, 1) := dk_28 (dk_at dksX8_isConsistent_0 9 rfl rfl)
theorem dX8_isConsistent_10 : decode cX8_isConsistent 10 = .ok (.aload_n 0, 1) := dk_42 (dk_at dksX8_isConsistent_0 10 rfl rfl)
theorem dX8_isConsistent_11 : decode cX8_isConsistent 11 = .ok (.getfield 9, 3) := dk_180 0 9 (dk_at dksX8_isConsistent_0 11 rfl rfl)
theorem dX8_isConsistent_14 : decode cX8_isConsistent 14 = .ok (.iconst 0, 1) := dk_3 (dk_at dksX8_isConsistent_0 14 rfl rfl)
theorem dX8_isConsistent_15 : decode cX8_isConsistent 15 = .ok (.iaload, 1) := dk_46 (dk_at dksX8_isConsistent_0 15 rfl rfl)
theorem dX8_isConsistent_16 : decode cX8_isConsistent 16 = .ok (.if_icmp .ge 41, 3) := dk_162 0 41 (dk_at dksX8_isConsistent_0 16 rfl rfl)
theorem dX8_isConsistent_19 : decode cX8_isConsistent 19 = .ok (.iload_n 1, 1) := dk_27 (dk_at dksX8_isConsistent_0 19 rfl rfl)
theorem dX8_isConsistent_20 : decode cX8_isConsistent 20 = .ok (.aload_n 0, 1) := dk_42 (dk_at dksX8_isConsistent_0 20 rfl rfl)
theorem dX8_isConsistent_21 : decode cX8_isConsistent 21 = .ok (.getfield 9, 3) := dk_180 0 9 (dk_at dksX8_isConsistent_0 21 rfl rfl)
theorem dX8_isConsistent_24 : decode cX8_isConsistent 24 = .ok (.iload_n 2, 1) := dk_28 (dk_at dksX8_isConsistent_1 0 rfl rfl)
theorem dX8_isConsistent_25 : decode cX8_isConsistent 25 = .ok (.invokestatic 112, 3) := dk_184 0 112 (dk_at dksX8_isConsistent_1 1 rfl rfl)
theorem dX8_isConsistent_28 : decode cX8_isConsistent 28 = .ok (.iconst 5, 1) := dk_8 (dk_at dksX8_isConsistent_1 4 rfl rfl)
theorem dX8_isConsistent_29 : decode cX8_isConsistent 29 = .ok (.iadd, 1) := dk_96 (dk_at dksX8_isConsistent_1 5 rfl rfl)
theorem dX8_isConsistent_30 : decode cX8_isConsistent 30 = .ok (.iaload, 1) := dk_46 (dk_at dksX8_isConsistent_1 6 rfl rfl)
theorem dX8_isConsistent_31 : decode cX8_isConsistent 31 = .ok (.iadd, 1) := dk_96 (dk_at dksX8_isConsistent_1 7 rfl rfl)
theorem dX8_isConsistent_32 : decode cX8_isConsistent 32 = .ok (.istore_n 1, 1) := dk_60 (dk_at dksX8_isConsistent_1 8 rfl rfl)
theorem dX8_isConsistent_33 : decode cX8_isConsistent 33 = .ok (.aload_n 0, 1) := dk_42 (dk_at dksX8_isConsistent_1 9 rfl rfl)
theorem dX8_isConsistent_34 : decode cX8_isConsistent 34 = .ok (.iload_n 2, 1) := dk_28 (dk_at dksX8_isConsistent_1 10 rfl rfl)
theorem dX8_isConsistent_35 : decode cX8_isConsistent 35 = .ok (.invokevirtual 164, 3) := dk_182 0 164 (dk_at dksX8_isConsistent_1 11 rfl rfl)
theorem dX8_isConsistent_38 : decode cX8_isConsistent 38 = .ok (.ifCond .ne 13, 3) := dk_154 0 13 (dk_at dksX8_isConsistent_1 14 rfl rfl)
theorem dX8_isConsistent_41 : decode cX8_isConsistent 41 = .ok (.aload_n 0, 1) := dk_42 (dk_at dksX8_isConsistent_1 17 rfl rfl)
theorem dX8_isConsistent_42 : decode cX8_isConsistent 42 = .ok (.iload_n 2, 1) := dk_28 (dk_at dksX8_isConsistent_1 18 rfl rfl)
theorem dX8_isConsistent_43 : decode cX8_isConsistent 43 = .ok (.invokevirtual 396, 3) := dk_182 1 140 (dk_at dksX8_isConsistent_1 19 rfl rfl)
theorem dX8_isConsistent_46 : decode cX8_isConsistent 46 = .ok (.ifCond .ne 5, 3) := dk_154 0 5 (dk_at dksX8_isConsistent_2 0 rfl rfl)
theorem dX8_isConsistent_49 : decode cX8_isConsistent 49 = .ok (.iconst 0, 1) := dk_3 (dk_at dksX8_isConsistent_2 3 rfl rfl)
theorem dX8_isConsistent_50 : decode cX8_isConsistent 50 = .ok (.ireturn, 1) := dk_172 (dk_at dksX8_isConsistent_2 4 rfl rfl)
theorem dX8_isConsistent_51 : decode cX8_isConsistent 51 = .ok (.iinc 2 1, 3) := dk_132 2 1 (dk_at dksX8_isConsistent_2 5 rfl rfl)
theorem dX8_isConsistent_54 : decode cX8_isConsistent 54 = .ok (.goto (-45), 3) := dk_167 255 211 (dk_at dksX8_isConsistent_2 8 rfl rfl)
theorem dX8_isConsistent_57 : decode cX8_isConsistent 57 = .ok (.iload_n 1, 1) := dk_27 (dk_at dksX8_isConsistent_2 11 rfl rfl)
theorem dX8_isConsistent_58 : decode cX8_isConsistent 58 = .ok (.aload_n 0, 1) := dk_42 (dk_at dksX8_isConsistent_2 12 rfl rfl)
theorem dX8_isConsistent_59 : decode cX8_isConsistent 59 = .ok (.getfield 9, 3) := dk_180 0 9 (dk_at dksX8_isConsistent_2 13 rfl rfl)
theorem dX8_isConsistent_62 : decode cX8_isConsistent 62 = .ok (.iconst 1, 1) := dk_4 (dk_at dksX8_isConsistent_2 16 rfl rfl)
theorem dX8_isConsistent_63 : decode cX8_isConsistent 63 = .ok (.iaload, 1) := dk_46 (dk_at dksX8_isConsistent_2 17 rfl rfl)
theorem dX8_isConsistent_64 : decode cX8_isConsistent 64 = .ok (.if_icmp .ne 14, 3) := dk_160 0 14 (dk_at dksX8_isConsistent_2 18 rfl rfl)
theorem dX8_isConsistent_67 : decode cX8_isConsistent 67 = .ok (.aload_n 0, 1) := dk_42 (dk_at dksX8_isConsistent_2 21 rfl rfl)
theorem dX8_isConsistent_68 : decode cX8_isConsistent 68 = .ok (.invokevirtual 399, 3) := dk_182 1 143 (dk_at dksX8_isConsistent_3 0 rfl rfl)
theorem dX8_isConsistent_71 : decode cX8_isConsistent 71 = .ok (.ifCond .eq 7, 3) := dk_153 0 7 (dk_at dksX8_isConsistent_3 3 rfl rfl)
theorem dX8_isConsistent_74 : decode cX8_isConsistent 74 = .ok (.iconst 1, 1) := dk_4 (dk_at dksX8_isConsistent_3 6 rfl rfl)
theorem dX8_isConsistent_75 : decode cX8_isConsistent 75 = .ok (.goto 4, 3) := dk_167 0 4 (dk_at dksX8_isConsistent_3 7 rfl rfl)
theorem dX8_isConsistent_78 : decode cX8_isConsistent 78 = .ok (.iconst 0, 1) := dk_3 (dk_at dksX8_isConsistent_3 10 rfl rfl)
theorem dX8_isConsistent_79 : decode cX8_isConsistent 79 = .ok (.ireturn, 1) := dk_172 (dk_at dksX8_isConsistent_3 11 rfl rfl)
abbrev cX8_isVersionConsistent : ByteArray := prog_18_method_124_code
def yX8_isVersionConsistent : MethodName := ⟨RX8, "isVersionConsistent", "(I)Z"⟩
def dkwX8_isVersionConsistent_3 : List UInt8 := [29, 46, 42, 27, 29, 182, 0, 129, 159, 0, 5, 3, 172, 132, 3, 1, 167, 255, 228, 4, 172]
abbrev dktX8_isVersionConsistent_3 : List UInt8 := dkwX8_isVersionConsistent_3 ++ []
def dkwX8_isVersionConsistent_2 : List UInt8 := [42, 27, 182, 0, 121, 159, 0, 5, 3, 172, 3, 62, 29, 42, 180, 1, 127, 162, 0, 26, 42, 180, 0, 46]
abbrev dktX8_isVersionConsistent_2 : List UInt8 := dkwX8_isVersionConsistent_2 ++ dktX8_isVersionConsistent_3
def dkwX8_isVersionConsistent_1 : List UInt8 := [4, 167, 0, 4, 3, 172, 42, 28, 42, 27, 182, 0, 148, 4, 182, 1, 130, 153, 0, 15, 42, 180, 1, 127]
abbrev dktX8_isVersionConsistent_1 : List UInt8 := dkwX8_isVersionConsistent_1 ++ dktX8_isVersionConsistent_2
def dkwX8_isVersionConsistent_0 : List UInt8 := [42, 3, 181, 1, 127, 42, 27, 182, 0, 145, 61, 28, 2, 160, 0, 17, 42, 27, 182, 0, 121, 154, 0, 7]
abbrev dktX8_isVersionConsistent_0 : List UInt8 := dkwX8_isVersionConsistent_0 ++ dktX8_isVersionConsistent_1
theorem dksX8_isVersionConsistent_0 : cX8_isVersionConsistent.data.toList.drop 0 = dktX8_isVersionConsistent_0 := by decide +kernel
theorem dksX8_isVersionConsistent_1 : cX8_isVersionConsistent.data.toList.drop 24 = dktX8_isVersionConsistent_1 := dk_seg dksX8_isVersionConsistent_0 24 rfl rfl
theorem dksX8_isVersionConsistent_2 : cX8_isVersionConsistent.data.toList.drop 48 = dktX8_isVersionConsistent_2 := dk_seg dksX8_isVersionConsistent_1 24 rfl rfl
theorem dksX8_isVersionConsistent_3 : cX8_isVersionConsistent.data.toList.drop 72 = dktX8_isVersionConsistent_3 := dk_seg dksX8_isVersionConsistent_2 24 rfl rfl
theorem dX8_isVersionConsistent_0 : decode cX8_isVersionConsistent 0 = .ok (.aload_n 0, 1) := dk_42 (dk_at dksX8_isVersionConsistent_0 0 rfl rfl)
theorem dX8_isVersionConsistent_1 : decode cX8_isVersionConsistent 1 = .ok (.iconst 0, 1) := dk_3 (dk_at dksX8_isVersionConsistent_0 1 rfl rfl)
theorem dX8_isVersionConsistent_2 : decode cX8_isVersionConsistent 2 = .ok (.putfield 383, 3) := dk_181 1 127 (dk_at dksX8_isVersionConsistent_0 2 rfl rfl)
theorem dX8_isVersionConsistent_5 : decode cX8_isVersionConsistent 5 = .ok (.aload_n 0, 1) := dk_42 (dk_at dksX8_isVersionConsistent_0 5 rfl rfl)
theorem dX8_isVersionConsistent_6 : decode cX8_isVersionConsistent 6 = .ok (.iload_n 1, 1) := dk_27 (dk_at dksX8_isVersionConsistent_0 6 rfl rfl)
theorem dX8_isVersionConsistent_7 : decode cX8_isVersionConsistent 7 = .ok (.invokevirtual 145, 3) := dk_182 0 145 (dk_at dksX8_isVersionConsistent_0 7 rfl rfl)
theorem dX8_isVersionConsistent_10 : decode cX8_isVersionConsistent 10 = .ok (.istore_n 2, 1) := dk_61 (dk_at dksX8_isVersionConsistent_0 10 rfl rfl)
theorem dX8_isVersionConsistent_11 : decode cX8_isVersionConsistent 11 = .ok (.iload_n 2, 1) := dk_28 (dk_at dksX8_isVersionConsistent_0 11 rfl rfl)
theorem dX8_isVersionConsistent_12 : decode cX8_isVersionConsistent 12 = .ok (.iconst (-1), 1) := dk_2 (dk_at dksX8_isVersionConsistent_0 12 rfl rfl)
theorem dX8_isVersionConsistent_13 : decode cX8_isVersionConsistent 13 = .ok (.if_icmp .ne 17, 3) := dk_160 0 17 (dk_at dksX8_isVersionConsistent_0 13 rfl rfl)
theorem dX8_isVersionConsistent_16 : decode cX8_isVersionConsistent 16 = .ok (.aload_n 0, 1) := dk_42 (dk_at dksX8_isVersionConsistent_0 16 rfl rfl)
theorem dX8_isVersionConsistent_17 : decode cX8_isVersionConsistent 17 = .ok (.iload_n 1, 1) := dk_27 (dk_at dksX8_isVersionConsistent_0 17 rfl rfl)
theorem dX8_isVersionConsistent_18 : decode cX8_isVersionConsistent 18 = .ok (.invokevirtual 121, 3) := dk_182 0 121 (dk_at dksX8_isVersionConsistent_0 18 rfl rfl)
theorem dX8_isVersionConsistent_21 : decode cX8_isVersionConsistent 21 = .ok (.ifCond .ne 7, 3) := dk_154 0 7 (dk_at dksX8_isVersionConsistent_0 21 rfl rfl)
theorem dX8_isVersionConsistent_24 : decode cX8_isVersionConsistent 24 = .ok (.iconst 1, 1) := dk_4 (dk_at dksX8_isVersionConsistent_1 0 rfl rfl)
theorem dX8_isVersionConsistent_25 : decode cX8_isVersionConsistent 25 = .ok (.goto 4, 3) := dk_167 0 4 (dk_at dksX8_isVersionConsistent_1 1 rfl rfl)
theorem dX8_isVersionConsistent_28 : decode cX8_isVersionConsistent 28 = .ok (.iconst 0, 1) := dk_3 (dk_at dksX8_isVersionConsistent_1 4 rfl rfl)
theorem dX8_isVersionConsistent_29 : decode cX8_isVersionConsistent 29 = .ok (.ireturn, 1) := dk_172 (dk_at dksX8_isVersionConsistent_1 5 rfl rfl)
theorem dX8_isVersionConsistent_30 : decode cX8_isVersionConsistent 30 = .ok (.aload_n 0, 1) := dk_42 (dk_at dksX8_isVersionConsistent_1 6 rfl rfl)
theorem dX8_isVersionConsistent_31 : decode cX8_isVersionConsistent 31 = .ok (.iload_n 2, 1) := dk_28 (dk_at dksX8_isVersionConsistent_1 7 rfl rfl)
theorem dX8_isVersionConsistent_32 : decode cX8_isVersionConsistent 32 = .ok (.aload_n 0, 1) := dk_42 (dk_at dksX8_isVersionConsistent_1 8 rfl rfl)
theorem dX8_isVersionConsistent_33 : decode cX8_isVersionConsistent 33 = .ok (.iload_n 1, 1) := dk_27 (dk_at dksX8_isVersionConsistent_1 9 rfl rfl)
theorem dX8_isVersionConsistent_34 : decode cX8_isVersionConsistent 34 = .ok (.invokevirtual 148, 3) := dk_182 0 148 (dk_at dksX8_isVersionConsistent_1 10 rfl rfl)
theorem dX8_isVersionConsistent_37 : decode cX8_isVersionConsistent 37 = .ok (.iconst 1, 1) := dk_4 (dk_at dksX8_isVersionConsistent_1 13 rfl rfl)
theorem dX8_isVersionConsistent_38 : decode cX8_isVersionConsistent 38 = .ok (.invokevirtual 386, 3) := dk_182 1 130 (dk_at dksX8_isVersionConsistent_1 14 rfl rfl)
theorem dX8_isVersionConsistent_41 : decode cX8_isVersionConsistent 41 = .ok (.ifCond .eq 15, 3) := dk_153 0 15 (dk_at dksX8_isVersionConsistent_1 17 rfl rfl)
theorem dX8_isVersionConsistent_44 : decode cX8_isVersionConsistent 44 = .ok (.aload_n 0, 1) := dk_42 (dk_at dksX8_isVersionConsistent_1 20 rfl rfl)
theorem dX8_isVersionConsistent_45 : decode cX8_isVersionConsistent 45 = .ok (.getfield 383, 3) := dk_180 1 127 (dk_at dksX8_isVersionConsistent_1 21 rfl rfl)
theorem dX8_isVersionConsistent_48 : decode cX8_isVersionConsistent 48 = .ok (.aload_n 0, 1) := dk_42 (dk_at dksX8_isVersionConsistent_2 0 rfl rfl)
theorem dX8_isVersionConsistent_49 : decode cX8_isVersionConsistent 49 = .ok (.iload_n 1, 1) := dk_27 (dk_at dksX8_isVersionConsistent_2 1 rfl rfl)
theorem dX8_isVersionConsistent_50 : decode cX8_isVersionConsistent 50 = .ok (.invokevirtual 121, 3) := dk_182 0 121 (dk_at dksX8_isVersionConsistent_2 2 rfl rfl)
theorem dX8_isVersionConsistent_53 : decode cX8_isVersionConsistent 53 = .ok (.if_icmp .eq 5, 3) := dk_159 0 5 (dk_at dksX8_isVersionConsistent_2 5 rfl rfl)
theorem dX8_isVersionConsistent_56 : decode cX8_isVersionConsistent 56 = .ok (.iconst 0, 1) := dk_3 (dk_at dksX8_isVersionConsistent_2 8 rfl rfl)
theorem dX8_isVersionConsistent_57 : decode cX8_isVersionConsistent 57 = .ok (.ireturn, 1) := dk_172 (dk_at dksX8_isVersionConsistent_2 9 rfl rfl)
theorem dX8_isVersionConsistent_58 : decode cX8_isVersionConsistent 58 = .ok (.iconst 0, 1) := dk_3 (dk_at dksX8_isVersionConsistent_2 10 rfl rfl)
theorem dX8_isVersionConsistent_59 : decode cX8_isVersionConsistent 59 = .ok (.istore_n 3, 1) := dk_62 (dk_at dksX8_isVersionConsistent_2 11 rfl rfl)
theorem dX8_isVersionConsistent_60 : decode cX8_isVersionConsistent 60 = .ok (.iload_n 3, 1) := dk_29 (dk_at dksX8_isVersionConsistent_2 12 rfl rfl)
theorem dX8_isVersionConsistent_61 : decode cX8_isVersionConsistent 61 = .ok (.aload_n 0, 1) := dk_42 (dk_at dksX8_isVersionConsistent_2 13 rfl rfl)
theorem dX8_isVersionConsistent_62 : decode cX8_isVersionConsistent 62 = .ok (.getfield 383, 3) := dk_180 1 127 (dk_at dksX8_isVersionConsistent_2 14 rfl rfl)
theorem dX8_isVersionConsistent_65 : decode cX8_isVersionConsistent 65 = .ok (.if_icmp .ge 26, 3) := dk_162 0 26 (dk_at dksX8_isVersionConsistent_2 17 rfl rfl)
theorem dX8_isVersionConsistent_68 : decode cX8_isVersionConsistent 68 = .ok (.aload_n 0, 1) := dk_42 (dk_at dksX8_isVersionConsistent_2 20 rfl rfl)
theorem dX8_isVersionConsistent_69 : decode cX8_isVersionConsistent 69 = .ok (.getfield 46, 3) := dk_180 0 46 (dk_at dksX8_isVersionConsistent_2 21 rfl rfl)
theorem dX8_isVersionConsistent_72 : decode cX8_isVersionConsistent 72 = .ok (.iload_n 3, 1) := dk_29 (dk_at dksX8_isVersionConsistent_3 0 rfl rfl)
theorem dX8_isVersionConsistent_73 : decode cX8_isVersionConsistent 73 = .ok (.iaload, 1) := dk_46 (dk_at dksX8_isVersionConsistent_3 1 rfl rfl)
theorem dX8_isVersionConsistent_74 : decode cX8_isVersionConsistent 74 = .ok (.aload_n 0, 1) := dk_42 (dk_at dksX8_isVersionConsistent_3 2 rfl rfl)
theorem dX8_isVersionConsistent_75 : decode cX8_isVersionConsistent 75 = .ok (.iload_n 1, 1) := dk_27 (dk_at dksX8_isVersionConsistent_3 3 rfl rfl)
theorem dX8_isVersionConsistent_76 : decode cX8_isVersionConsistent 76 = .ok (.iload_n 3, 1) := dk_29 (dk_at dksX8_isVersionConsistent_3 4 rfl rfl)
theorem dX8_isVersionConsistent_77 : decode cX8_isVersionConsistent 77 = .ok (.invokevirtual 129, 3) := dk_182 0 129 (dk_at dksX8_isVersionConsistent_3 5 rfl rfl)
theorem dX8_isVersionConsistent_80 : decode cX8_isVersionConsistent 80 = .ok (.if_icmp .eq 5, 3) := dk_159 0 5 (dk_at dksX8_isVersionConsistent_3 8 rfl rfl)
theorem dX8_isVersionConsistent_83 : decode cX8_isVersionConsistent 83 = .ok (.iconst 0, 1) := dk_3 (dk_at dksX8_isVersionConsistent_3 11 rfl rfl)
theorem dX8_isVersionConsistent_84 : decode cX8_isVersionConsistent 84 = .ok (.ireturn, 1) := dk_172 (dk_at dksX8_isVersionConsistent_3 12 rfl rfl)
theorem dX8_isVersionConsistent_85 : decode cX8_isVersionConsistent 85 = .ok (.iinc 3 1, 3) := dk_132 3 1 (dk_at dksX8_isVersionConsistent_3 13 rfl rfl)
theorem dX8_isVersionConsistent_88 : decode cX8_isVersionConsistent 88 = .ok (.goto (-28), 3) := dk_167 255 228 (dk_at dksX8_isVersionConsistent_3 16 rfl rfl)
theorem dX8_isVersionConsistent_91 : decode cX8_isVersionConsistent 91 = .ok (.iconst 1, 1) := dk_4 (dk_at dksX8_isVersionConsistent_3 19 rfl rfl)
theorem dX8_isVersionConsistent_92 : decode cX8_isVersionConsistent 92 = .ok (.ireturn, 1) := dk_172 (dk_at dksX8_isVersionConsistent_3 20 rfl rfl)
abbrev cX8_isTreeWhole : ByteArray := prog_18_method_123_code
def yX8_isTreeWhole : MethodName := ⟨RX8, "isTreeWhole", "(IIZ)Z"⟩
def dkwX8_isTreeWhole_5 : List UInt8 := [167, 0, 4, 3, 182, 1, 130, 154, 0, 5, 3, 172, 132, 4, 1, 167, 255, 169, 4, 172]
abbrev dktX8_isTreeWhole_5 : List UInt8 := dkwX8_isTreeWhole_5 ++ []
def dkwX8_isTreeWhole_4 : List UInt8 := [182, 0, 71, 28, 4, 100, 29, 153, 0, 19, 21, 4, 42, 27, 182, 0, 79, 4, 100, 160, 0, 7, 4]
abbrev dktX8_isTreeWhole_4 : List UInt8 := dkwX8_isTreeWhole_4 ++ dktX8_isTreeWhole_5
def dkwX8_isTreeWhole_3 : List UInt8 := [182, 0, 71, 79, 42, 89, 180, 1, 127, 4, 96, 181, 1, 127, 167, 0, 43, 42, 42, 27, 21, 4]
abbrev dktX8_isTreeWhole_3 : List UInt8 := dkwX8_isTreeWhole_3 ++ dktX8_isTreeWhole_4
def dkwX8_isTreeWhole_2 : List UInt8 := [27, 182, 0, 79, 162, 0, 83, 28, 4, 160, 0, 32, 42, 180, 0, 46, 42, 180, 1, 127, 42, 27, 21, 4]
abbrev dktX8_isTreeWhole_2 : List UInt8 := dkwX8_isTreeWhole_2 ++ dktX8_isTreeWhole_3
def dkwX8_isTreeWhole_1 : List UInt8 := [160, 0, 16, 29, 154, 0, 14, 42, 27, 182, 0, 79, 7, 162, 0, 5, 3, 172, 3, 54, 4, 21, 4, 42]
abbrev dktX8_isTreeWhole_1 : List UInt8 := dkwX8_isTreeWhole_1 ++ dktX8_isTreeWhole_2
def dkwX8_isTreeWhole_0 : List UInt8 := [42, 27, 182, 0, 171, 153, 0, 34, 42, 27, 182, 0, 90, 28, 4, 160, 0, 7, 4, 167, 0, 4, 3]
abbrev dktX8_isTreeWhole_0 : List UInt8 := dkwX8_isTreeWhole_0 ++ dktX8_isTreeWhole_1
theorem dksX8_isTreeWhole_0 : cX8_isTreeWhole.data.toList.drop 0 = dktX8_isTreeWhole_0 := by decide +kernel
theorem dksX8_isTreeWhole_1 : cX8_isTreeWhole.data.toList.drop 23 = dktX8_isTreeWhole_1 := dk_seg dksX8_isTreeWhole_0 23 rfl rfl
theorem dksX8_isTreeWhole_2 : cX8_isTreeWhole.data.toList.drop 47 = dktX8_isTreeWhole_2 := dk_seg dksX8_isTreeWhole_1 24 rfl rfl
theorem dksX8_isTreeWhole_3 : cX8_isTreeWhole.data.toList.drop 71 = dktX8_isTreeWhole_3 := dk_seg dksX8_isTreeWhole_2 24 rfl rfl
theorem dksX8_isTreeWhole_4 : cX8_isTreeWhole.data.toList.drop 93 = dktX8_isTreeWhole_4 := dk_seg dksX8_isTreeWhole_3 22 rfl rfl
theorem dksX8_isTreeWhole_5 : cX8_isTreeWhole.data.toList.drop 116 = dktX8_isTreeWhole_5 := dk_seg dksX8_isTreeWhole_4 23 rfl rfl
theorem dX8_isTreeWhole_0 : decode cX8_isTreeWhole 0 = .ok (.aload_n 0, 1) := dk_42 (dk_at dksX8_isTreeWhole_0 0 rfl rfl)
theorem dX8_isTreeWhole_1 : decode cX8_isTreeWhole 1 = .ok (.iload_n 1, 1) := dk_27 (dk_at dksX8_isTreeWhole_0 1 rfl rfl)
theorem dX8_isTreeWhole_2 : decode cX8_isTreeWhole 2 = .ok (.invokevirtual 171, 3) := dk_182 0 171 (dk_at dksX8_isTreeWhole_0 2 rfl rfl)
theorem dX8_isTreeWhole_5 : decode cX8_isTreeWhole 5 = .ok (.ifCond .eq 34, 3) := dk_153 0 34 (dk_at dksX8_isTreeWhole_0 5 rfl rfl)
theorem dX8_isTreeWhole_8 : decode cX8_isTreeWhole 8 = .ok (.aload_n 0, 1) := dk_42 (dk_at dksX8_isTreeWhole_0 8 rfl rfl)
theorem dX8_isTreeWhole_9 : decode cX8_isTreeWhole 9 = .ok (.iload_n 1, 1) := dk_27 (dk_at dksX8_isTreeWhole_0 9 rfl rfl)
theorem dX8_isTreeWhole_10 : decode cX8_isTreeWhole 10 = .ok (.invokevirtual 90, 3) := dk_182 0 90 (dk_at dksX8_isTreeWhole_0 10 rfl rfl)
theorem dX8_isTreeWhole_13 : decode cX8_isTreeWhole 13 = .ok (.iload_n 2, 1) := dk_28 (dk_at dksX8_isTreeWhole_0 13 rfl rfl)
theorem dX8_isTreeWhole_14 : decode cX8_isTreeWhole 14 = .ok (.iconst 1, 1) := dk_4 (dk_at dksX8_isTreeWhole_0 14 rfl rfl)
theorem dX8_isTreeWhole_15 : decode cX8_isTreeWhole 15 = .ok (.if_icmp .ne 7, 3) := dk_160 0 7 (dk_at dksX8_isTreeWhole_0 15 rfl rfl)
theorem dX8_isTreeWhole_18 : decode cX8_isTreeWhole 18 = .ok (.iconst 1, 1) := dk_4 (dk_at dksX8_isTreeWhole_0 18 rfl rfl)
theorem dX8_isTreeWhole_19 : decode cX8_isTreeWhole 19 = .ok (.goto 4, 3) := dk_167 0 4 (dk_at dksX8_isTreeWhole_0 19 rfl rfl)
theorem dX8_isTreeWhole_22 : decode cX8_isTreeWhole 22 = .ok (.iconst 0, 1) := dk_3 (dk_at dksX8_isTreeWhole_0 22 rfl rfl)
theorem dX8_isTreeWhole_23 : decode cX8_isTreeWhole 23 = .ok (.if_icmp .ne 16, 3) := dk_160 0 16 (dk_at dksX8_isTreeWhole_1 0 rfl rfl)
theorem dX8_isTreeWhole_26 : decode cX8_isTreeWhole 26 = .ok (.iload_n 3, 1) := dk_29 (dk_at dksX8_isTreeWhole_1 3 rfl rfl)
theorem dX8_isTreeWhole_27 : decode cX8_isTreeWhole 27 = .ok (.ifCond .ne 14, 3) := dk_154 0 14 (dk_at dksX8_isTreeWhole_1 4 rfl rfl)
theorem dX8_isTreeWhole_30 : decode cX8_isTreeWhole 30 = .ok (.aload_n 0, 1) := dk_42 (dk_at dksX8_isTreeWhole_1 7 rfl rfl)
theorem dX8_isTreeWhole_31 : decode cX8_isTreeWhole 31 = .ok (.iload_n 1, 1) := dk_27 (dk_at dksX8_isTreeWhole_1 8 rfl rfl)
theorem dX8_isTreeWhole_32 : decode cX8_isTreeWhole 32 = .ok (.invokevirtual 79, 3) := dk_182 0 79 (dk_at dksX8_isTreeWhole_1 9 rfl rfl)
theorem dX8_isTreeWhole_35 : decode cX8_isTreeWhole 35 = .ok (.iconst 4, 1) := dk_7 (dk_at dksX8_isTreeWhole_1 12 rfl rfl)
theorem dX8_isTreeWhole_36 : decode cX8_isTreeWhole 36 = .ok (.if_icmp .ge 5, 3) := dk_162 0 5 (dk_at dksX8_isTreeWhole_1 13 rfl rfl)
theorem dX8_isTreeWhole_39 : decode cX8_isTreeWhole 39 = .ok (.iconst 0, 1) := dk_3 (dk_at dksX8_isTreeWhole_1 16 rfl rfl)
theorem dX8_isTreeWhole_40 : decode cX8_isTreeWhole 40 = .ok (.ireturn, 1) := dk_172 (dk_at dksX8_isTreeWhole_1 17 rfl rfl)
theorem dX8_isTreeWhole_41 : decode cX8_isTreeWhole 41 = .ok (.iconst 0, 1) := dk_3 (dk_at dksX8_isTreeWhole_1 18 rfl rfl)
theorem dX8_isTreeWhole_42 : decode cX8_isTreeWhole 42 = .ok (.istore 4, 2) := dk_54 4 (dk_at dksX8_isTreeWhole_1 19 rfl rfl)
theorem dX8_isTreeWhole_44 : decode cX8_isTreeWhole 44 = .ok (.iload 4, 2) := dk_21 4 (dk_at dksX8_isTreeWhole_1 21 rfl rfl)
theorem dX8_isTreeWhole_46 : decode cX8_isTreeWhole 46 = .ok (.aload_n 0, 1) := dk_42 (dk_at dksX8_isTreeWhole_1 23 rfl rfl)
theorem dX8_isTreeWhole_47 : decode cX8_isTreeWhole 47 = .ok (.iload_n 1, 1) := dk_27 (dk_at dksX8_isTreeWhole_2 0 rfl rfl)
theorem dX8_isTreeWhole_48 : decode cX8_isTreeWhole 48 = .ok (.invokevirtual 79, 3) := dk_182 0 79 (dk_at dksX8_isTreeWhole_2 1 rfl rfl)
theorem dX8_isTreeWhole_51 : decode cX8_isTreeWhole 51 = .ok (.if_icmp .ge 83, 3) := dk_162 0 83 (dk_at dksX8_isTreeWhole_2 4 rfl rfl)
theorem dX8_isTreeWhole_54 : decode cX8_isTreeWhole 54 = .ok (.iload_n 2, 1) := dk_28 (dk_at dksX8_isTreeWhole_2 7 rfl rfl)
theorem dX8_isTreeWhole_55 : decode cX8_isTreeWhole 55 = .ok (.iconst 1, 1) := dk_4 (dk_at dksX8_isTreeWhole_2 8 rfl rfl)
theorem dX8_isTreeWhole_56 : decode cX8_isTreeWhole 56 = .ok (.if_icmp .ne 32, 3) := dk_160 0 32 (dk_at dksX8_isTreeWhole_2 9 rfl rfl)
theorem dX8_isTreeWhole_59 : decode cX8_isTreeWhole 59 = .ok (.aload_n 0, 1) := dk_42 (dk_at dksX8_isTreeWhole_2 12 rfl rfl)
theorem dX8_isTreeWhole_60 : decode cX8_isTreeWhole 60 = .ok (.getfield 46, 3) := dk_180 0 46 (dk_at dksX8_isTreeWhole_2 13 rfl rfl)
theorem dX8_isTreeWhole_63 : decode cX8_isTreeWhole 63 = .ok (.aload_n 0, 1) := dk_42 (dk_at dksX8_isTreeWhole_2 16 rfl rfl)
theorem dX8_isTreeWhole_64 : decode cX8_isTreeWhole 64 = .ok (.getfield 383, 3) := dk_180 1 127 (dk_at dksX8_isTreeWhole_2 17 rfl rfl)
theorem dX8_isTreeWhole_67 : decode cX8_isTreeWhole 67 = .ok (.aload_n 0, 1) := dk_42 (dk_at dksX8_isTreeWhole_2 20 rfl rfl)
theorem dX8_isTreeWhole_68 : decode cX8_isTreeWhole 68 = .ok (.iload_n 1, 1) := dk_27 (dk_at dksX8_isTreeWhole_2 21 rfl rfl)
theorem dX8_isTreeWhole_69 : decode cX8_isTreeWhole 69 = .ok (.iload 4, 2) := dk_21 4 (dk_at dksX8_isTreeWhole_2 22 rfl rfl)
theorem dX8_isTreeWhole_71 : decode cX8_isTreeWhole 71 = .ok (.invokevirtual 71, 3) := dk_182 0 71 (dk_at dksX8_isTreeWhole_3 0 rfl rfl)
theorem dX8_isTreeWhole_74 : decode cX8_isTreeWhole 74 = .ok (.iastore, 1) := dk_79 (dk_at dksX8_isTreeWhole_3 3 rfl rfl)
theorem dX8_isTreeWhole_75 : decode cX8_isTreeWhole 75 = .ok (.aload_n 0, 1) := dk_42 (dk_at dksX8_isTreeWhole_3 4 rfl rfl)
theorem dX8_isTreeWhole_76 : decode cX8_isTreeWhole 76 = .ok (.dup, 1) := dk_89 (dk_at dksX8_isTreeWhole_3 5 rfl rfl)
theorem dX8_isTreeWhole_77 : decode cX8_isTreeWhole 77 = .ok (.getfield 383, 3) := dk_180 1 127 (dk_at dksX8_isTreeWhole_3 6 rfl rfl)
theorem dX8_isTreeWhole_80 : decode cX8_isTreeWhole 80 = .ok (.iconst 1, 1) := dk_4 (dk_at dksX8_isTreeWhole_3 9 rfl rfl)
theorem dX8_isTreeWhole_81 : decode cX8_isTreeWhole 81 = .ok (.iadd, 1) := dk_96 (dk_at dksX8_isTreeWhole_3 10 rfl rfl)
theorem dX8_isTreeWhole_82 : decode cX8_isTreeWhole 82 = .ok (.putfield 383, 3) := dk_181 1 127 (dk_at dksX8_isTreeWhole_3 11 rfl rfl)
theorem dX8_isTreeWhole_85 : decode cX8_isTreeWhole 85 = .ok (.goto 43, 3) := dk_167 0 43 (dk_at dksX8_isTreeWhole_3 14 rfl rfl)
theorem dX8_isTreeWhole_88 : decode cX8_isTreeWhole 88 = .ok (.aload_n 0, 1) := dk_42 (dk_at dksX8_isTreeWhole_3 17 rfl rfl)
theorem dX8_isTreeWhole_89 : decode cX8_isTreeWhole 89 = .ok (.aload_n 0, 1) := dk_42 (dk_at dksX8_isTreeWhole_3 18 rfl rfl)
theorem dX8_isTreeWhole_90 : decode cX8_isTreeWhole 90 = .ok (.iload_n 1, 1) := dk_27 (dk_at dksX8_isTreeWhole_3 19 rfl rfl)
theorem dX8_isTreeWhole_91 : decode cX8_isTreeWhole 91 = .ok (.iload 4, 2) := dk_21 4 (dk_at dksX8_isTreeWhole_3 20 rfl rfl)
theorem dX8_isTreeWhole_93 : decode cX8_isTreeWhole 93 = .ok (.invokevirtual 71, 3) := dk_182 0 71 (dk_at dksX8_isTreeWhole_4 0 rfl rfl)
theorem dX8_isTreeWhole_96 : decode cX8_isTreeWhole 96 = .ok (.iload_n 2, 1) := dk_28 (dk_at dksX8_isTreeWhole_4 3 rfl rfl)
theorem dX8_isTreeWhole_97 : decode cX8_isTreeWhole 97 = .ok (.iconst 1, 1) := dk_4 (dk_at dksX8_isTreeWhole_4 4 rfl rfl)
theorem dX8_isTreeWhole_98 : decode cX8_isTreeWhole 98 = .ok (.isub, 1) := dk_100 (dk_at dksX8_isTreeWhole_4 5 rfl rfl)
theorem dX8_isTreeWhole_99 : decode cX8_isTreeWhole 99 = .ok (.iload_n 3, 1) := dk_29 (dk_at dksX8_isTreeWhole_4 6 rfl rfl)
theorem dX8_isTreeWhole_100 : decode cX8_isTreeWhole 100 = .ok (.ifCond .eq 19, 3) := dk_153 0 19 (dk_at dksX8_isTreeWhole_4 7 rfl rfl)
theorem dX8_isTreeWhole_103 : decode cX8_isTreeWhole 103 = .ok (.iload 4, 2) := dk_21 4 (dk_at dksX8_isTreeWhole_4 10 rfl rfl)
theorem dX8_isTreeWhole_105 : decode cX8_isTreeWhole 105 = .ok (.aload_n 0, 1) := dk_42 (dk_at dksX8_isTreeWhole_4 12 rfl rfl)
theorem dX8_isTreeWhole_106 : decode cX8_isTreeWhole 106 = .ok (.iload_n 1, 1) := dk_27 (dk_at dksX8_isTreeWhole_4 13 rfl rfl)
theorem dX8_isTreeWhole_107 : decode cX8_isTreeWhole 107 = .ok (.invokevirtual 79, 3) := dk_182 0 79 (dk_at dksX8_isTreeWhole_4 14 rfl rfl)
theorem dX8_isTreeWhole_110 : decode cX8_isTreeWhole 110 = .ok (.iconst 1, 1) := dk_4 (dk_at dksX8_isTreeWhole_4 17 rfl rfl)
theorem dX8_isTreeWhole_111 : decode cX8_isTreeWhole 111 = .ok (.isub, 1) := dk_100 (dk_at dksX8_isTreeWhole_4 18 rfl rfl)
theorem dX8_isTreeWhole_112 : decode cX8_isTreeWhole 112 = .ok (.if_icmp .ne 7, 3) := dk_160 0 7 (dk_at dksX8_isTreeWhole_4 19 rfl rfl)
theorem dX8_isTreeWhole_115 : decode cX8_isTreeWhole 115 = .ok (.iconst 1, 1) := dk_4 (dk_at dksX8_isTreeWhole_4 22 rfl rfl)
theorem dX8_isTreeWhole_116 : decode cX8_isTreeWhole 116 = .ok (.goto 4, 3) := dk_167 0 4 (dk_at dksX8_isTreeWhole_5 0 rfl rfl)
theorem dX8_isTreeWhole_119 : decode cX8_isTreeWhole 119 = .ok (.iconst 0, 1) := dk_3 (dk_at dksX8_isTreeWhole_5 3 rfl rfl)
theorem dX8_isTreeWhole_120 : decode cX8_isTreeWhole 120 = .ok (.invokevirtual 386, 3) := dk_182 1 130 (dk_at dksX8_isTreeWhole_5 4 rfl rfl)
theorem dX8_isTreeWhole_123 : decode cX8_isTreeWhole 123 = .ok (.ifCond .ne 5, 3) := dk_154 0 5 (dk_at dksX8_isTreeWhole_5 7 rfl rfl)
theorem dX8_isTreeWhole_126 : decode cX8_isTreeWhole 126 = .ok (.iconst 0, 1) := dk_3 (dk_at dksX8_isTreeWhole_5 10 rfl rfl)
theorem dX8_isTreeWhole_127 : decode cX8_isTreeWhole 127 = .ok (.ireturn, 1) := dk_172 (dk_at dksX8_isTreeWhole_5 11 rfl rfl)
theorem dX8_isTreeWhole_128 : decode cX8_isTreeWhole 128 = .ok (.iinc 4 1, 3) := dk_132 4 1 (dk_at dksX8_isTreeWhole_5 12 rfl rfl)
theorem dX8_isTreeWhole_131 : decode cX8_isTreeWhole 131 = .ok (.goto (-87), 3) := dk_167 255 169 (dk_at dksX8_isTreeWhole_5 15 rfl rfl)
theorem dX8_isTreeWhole_134 : decode cX8_isTreeWhole 134 = .ok (.iconst 1, 1) := dk_4 (dk_at dksX8_isTreeWhole_5 18 rfl rfl)
theorem dX8_isTreeWhole_135 : decode cX8_isTreeWhole 135 = .ok (.ireturn, 1) := dk_172 (dk_at dksX8_isTreeWhole_5 19 rfl rfl)
abbrev cX8_areNodesConsistent : ByteArray := prog_18_method_127_code
def yX8_areNodesConsistent : MethodName := ⟨RX8, "areNodesConsistent", "()Z"⟩
def dkwX8_areNodesConsistent_2 : List UInt8 := [153, 0, 7, 4, 167, 0, 4, 3, 159, 0, 5, 3, 172, 132, 1, 1, 167, 255, 201, 4, 172]
abbrev dktX8_areNodesConsistent_2 : List UInt8 := dkwX8_areNodesConsistent_2 ++ []
def dkwX8_areNodesConsistent_1 : List UInt8 := [158, 0, 7, 4, 167, 0, 4, 3, 61, 28, 42, 27, 182, 0, 171, 153, 0, 15, 42, 27, 182, 1, 137]
abbrev dktX8_areNodesConsistent_1 : List UInt8 := dkwX8_areNodesConsistent_1 ++ dktX8_areNodesConsistent_2
def dkwX8_areNodesConsistent_0 : List UInt8 := [42, 182, 0, 174, 3, 60, 27, 42, 180, 0, 9, 4, 46, 162, 0, 51, 42, 180, 0, 32, 27, 46]
abbrev dktX8_areNodesConsistent_0 : List UInt8 := dkwX8_areNodesConsistent_0 ++ dktX8_areNodesConsistent_1
theorem dksX8_areNodesConsistent_0 : cX8_areNodesConsistent.data.toList.drop 0 = dktX8_areNodesConsistent_0 := by decide +kernel
theorem dksX8_areNodesConsistent_1 : cX8_areNodesConsistent.data.toList.drop 22 = dktX8_areNodesConsistent_1 := dk_seg dksX8_areNodesConsistent_0 22 rfl rfl
theorem dksX8_areNodesConsistent_2 : cX8_areNodesConsistent.data.toList.drop 45 = dktX8_areNodesConsistent_2 := dk_seg dksX8_areNodesConsistent_1 23 rfl rfl
theorem dX8_areNodesConsistent_0 : decode cX8_areNodesConsistent 0 = .ok (.aload_n 0, 1) := dk_42 (dk_at dksX8_areNodesConsistent_0 0 rfl rfl)
theorem dX8_areNodesConsistent_1 : decode cX8_areNodesConsistent 1 = .ok (.invokevirtual 174, 3) := dk_182 0 174 (dk_at dksX8_areNodesConsistent_0 1 rfl rfl)
theorem dX8_areNodesConsistent_4 : decode cX8_areNodesConsistent 4 = .ok (.iconst 0, 1) := dk_3 (dk_at dksX8_areNodesConsistent_0 4 rfl rfl)
theorem dX8_areNodesConsistent_5 : decode cX8_areNodesConsistent 5 = .ok (.istore_n 1, 1) := dk_60 (dk_at dksX8_areNodesConsistent_0 5 rfl rfl)
theorem dX8_areNodesConsistent_6 : decode cX8_areNodesConsistent 6 = .ok (.iload_n 1, 1) := dk_27 (dk_at dksX8_areNodesConsistent_0 6 rfl rfl)
theorem dX8_areNodesConsistent_7 : decode cX8_areNodesConsistent 7 = .ok (.aload_n 0, 1) := dk_42 (dk_at dksX8_areNodesConsistent_0 7 rfl rfl)
theorem dX8_areNodesConsistent_8 : decode cX8_areNodesConsistent 8 = .ok (.getfield 9, 3) := dk_180 0 9 (dk_at dksX8_areNodesConsistent_0 8 rfl rfl)
theorem dX8_areNodesConsistent_11 : decode cX8_areNodesConsistent 11 = .ok (.iconst 1, 1) := dk_4 (dk_at dksX8_areNodesConsistent_0 11 rfl rfl)
theorem dX8_areNodesConsistent_12 : decode cX8_areNodesConsistent 12 = .ok (.iaload, 1) := dk_46 (dk_at dksX8_areNodesConsistent_0 12 rfl rfl)
theorem dX8_areNodesConsistent_13 : decode cX8_areNodesConsistent 13 = .ok (.if_icmp .ge 51, 3) := dk_162 0 51 (dk_at dksX8_areNodesConsistent_0 13 rfl rfl)
theorem dX8_areNodesConsistent_16 : decode cX8_areNodesConsistent 16 = .ok (.aload_n 0, 1) := dk_42 (dk_at dksX8_areNodesConsistent_0 16 rfl rfl)
theorem dX8_areNodesConsistent_17 : decode cX8_areNodesConsistent 17 = .ok (.getfield 32, 3) := dk_180 0 32 (dk_at dksX8_areNodesConsistent_0 17 rfl rfl)
theorem dX8_areNodesConsistent_20 : decode cX8_areNodesConsistent 20 = .ok (.iload_n 1, 1) := dk_27 (dk_at dksX8_areNodesConsistent_0 20 rfl rfl)
theorem dX8_areNodesConsistent_21 : decode cX8_areNodesConsistent 21 = .ok (.iaload, 1) := dk_46 (dk_at dksX8_areNodesConsistent_0 21 rfl rfl)
theorem dX8_areNodesConsistent_22 : decode cX8_areNodesConsistent 22 = .ok (.ifCond .le 7, 3) := dk_158 0 7 (dk_at dksX8_areNodesConsistent_1 0 rfl rfl)
theorem dX8_areNodesConsistent_25 : decode cX8_areNodesConsistent 25 = .ok (.iconst 1, 1) := dk_4 (dk_at dksX8_areNodesConsistent_1 3 rfl rfl)
theorem dX8_areNodesConsistent_26 : decode cX8_areNodesConsistent 26 = .ok (.goto 4, 3) := dk_167 0 4 (dk_at dksX8_areNodesConsistent_1 4 rfl rfl)
theorem dX8_areNodesConsistent_29 : decode cX8_areNodesConsistent 29 = .ok (.iconst 0, 1) := dk_3 (dk_at dksX8_areNodesConsistent_1 7 rfl rfl)
theorem dX8_areNodesConsistent_30 : decode cX8_areNodesConsistent 30 = .ok (.istore_n 2, 1) := dk_61 (dk_at dksX8_areNodesConsistent_1 8 rfl rfl)
theorem dX8_areNodesConsistent_31 : decode cX8_areNodesConsistent 31 = .ok (.iload_n 2, 1) := dk_28 (dk_at dksX8_areNodesConsistent_1 9 rfl rfl)
theorem dX8_areNodesConsistent_32 : decode cX8_areNodesConsistent 32 = .ok (.aload_n 0, 1) := dk_42 (dk_at dksX8_areNodesConsistent_1 10 rfl rfl)
theorem dX8_areNodesConsistent_33 : decode cX8_areNodesConsistent 33 = .ok (.iload_n 1, 1) := dk_27 (dk_at dksX8_areNodesConsistent_1 11 rfl rfl)
theorem dX8_areNodesConsistent_34 : decode cX8_areNodesConsistent 34 = .ok (.invokevirtual 171, 3) := dk_182 0 171 (dk_at dksX8_areNodesConsistent_1 12 rfl rfl)
theorem dX8_areNodesConsistent_37 : decode cX8_areNodesConsistent 37 = .ok (.ifCond .eq 15, 3) := dk_153 0 15 (dk_at dksX8_areNodesConsistent_1 15 rfl rfl)
theorem dX8_areNodesConsistent_40 : decode cX8_areNodesConsistent 40 = .ok (.aload_n 0, 1) := dk_42 (dk_at dksX8_areNodesConsistent_1 18 rfl rfl)
theorem dX8_areNodesConsistent_41 : decode cX8_areNodesConsistent 41 = .ok (.iload_n 1, 1) := dk_27 (dk_at dksX8_areNodesConsistent_1 19 rfl rfl)
theorem dX8_areNodesConsistent_42 : decode cX8_areNodesConsistent 42 = .ok (.invokevirtual 393, 3) := dk_182 1 137 (dk_at dksX8_areNodesConsistent_1 20 rfl rfl)
theorem dX8_areNodesConsistent_45 : decode cX8_areNodesConsistent 45 = .ok (.ifCond .eq 7, 3) := dk_153 0 7 (dk_at dksX8_areNodesConsistent_2 0 rfl rfl)
theorem dX8_areNodesConsistent_48 : decode cX8_areNodesConsistent 48 = .ok (.iconst 1, 1) := dk_4 (dk_at dksX8_areNodesConsistent_2 3 rfl rfl)
theorem dX8_areNodesConsistent_49 : decode cX8_areNodesConsistent 49 = .ok (.goto 4, 3) := dk_167 0 4 (dk_at dksX8_areNodesConsistent_2 4 rfl rfl)
theorem dX8_areNodesConsistent_52 : decode cX8_areNodesConsistent 52 = .ok (.iconst 0, 1) := dk_3 (dk_at dksX8_areNodesConsistent_2 7 rfl rfl)
theorem dX8_areNodesConsistent_53 : decode cX8_areNodesConsistent 53 = .ok (.if_icmp .eq 5, 3) := dk_159 0 5 (dk_at dksX8_areNodesConsistent_2 8 rfl rfl)
theorem dX8_areNodesConsistent_56 : decode cX8_areNodesConsistent 56 = .ok (.iconst 0, 1) := dk_3 (dk_at dksX8_areNodesConsistent_2 11 rfl rfl)
theorem dX8_areNodesConsistent_57 : decode cX8_areNodesConsistent 57 = .ok (.ireturn, 1) := dk_172 (dk_at dksX8_areNodesConsistent_2 12 rfl rfl)
theorem dX8_areNodesConsistent_58 : decode cX8_areNodesConsistent 58 = .ok (.iinc 1 1, 3) := dk_132 1 1 (dk_at dksX8_areNodesConsistent_2 13 rfl rfl)
theorem dX8_areNodesConsistent_61 : decode cX8_areNodesConsistent 61 = .ok (.goto (-55), 3) := dk_167 255 201 (dk_at dksX8_areNodesConsistent_2 16 rfl rfl)
theorem dX8_areNodesConsistent_64 : decode cX8_areNodesConsistent 64 = .ok (.iconst 1, 1) := dk_4 (dk_at dksX8_areNodesConsistent_2 19 rfl rfl)
theorem dX8_areNodesConsistent_65 : decode cX8_areNodesConsistent 65 = .ok (.ireturn, 1) := dk_172 (dk_at dksX8_areNodesConsistent_2 20 rfl rfl)
abbrev cX8_isHeld : ByteArray := prog_18_method_126_code
def yX8_isHeld : MethodName := ⟨RX8, "isHeld", "(I)Z"⟩
def dkwX8_isHeld_2 : List UInt8 := [172]
abbrev dktX8_isHeld_2 : List UInt8 := dkwX8_isHeld_2 ++ []
def dkwX8_isHeld_1 : List UInt8 := [27, 182, 1, 114, 153, 0, 13, 42, 28, 182, 1, 137, 153, 0, 5, 4, 172, 132, 2, 1, 167, 255, 224, 3]
abbrev dktX8_isHeld_1 : List UInt8 := dkwX8_isHeld_1 ++ dktX8_isHeld_2
def dkwX8_isHeld_0 : List UInt8 := [42, 27, 182, 1, 134, 153, 0, 5, 4, 172, 3, 61, 28, 42, 180, 0, 9, 4, 46, 162, 0, 28, 42, 28]
abbrev dktX8_isHeld_0 : List UInt8 := dkwX8_isHeld_0 ++ dktX8_isHeld_1
theorem dksX8_isHeld_0 : cX8_isHeld.data.toList.drop 0 = dktX8_isHeld_0 := by decide +kernel
theorem dksX8_isHeld_1 : cX8_isHeld.data.toList.drop 24 = dktX8_isHeld_1 := dk_seg dksX8_isHeld_0 24 rfl rfl
theorem dksX8_isHeld_2 : cX8_isHeld.data.toList.drop 48 = dktX8_isHeld_2 := dk_seg dksX8_isHeld_1 24 rfl rfl
theorem dX8_isHeld_0 : decode cX8_isHeld 0 = .ok (.aload_n 0, 1) := dk_42 (dk_at dksX8_isHeld_0 0 rfl rfl)
theorem dX8_isHeld_1 : decode cX8_isHeld 1 = .ok (.iload_n 1, 1) := dk_27 (dk_at dksX8_isHeld_0 1 rfl rfl)
theorem dX8_isHeld_2 : decode cX8_isHeld 2 = .ok (.invokevirtual 390, 3) := dk_182 1 134 (dk_at dksX8_isHeld_0 2 rfl rfl)
theorem dX8_isHeld_5 : decode cX8_isHeld 5 = .ok (.ifCond .eq 5, 3) := dk_153 0 5 (dk_at dksX8_isHeld_0 5 rfl rfl)
theorem dX8_isHeld_8 : decode cX8_isHeld 8 = .ok (.iconst 1, 1) := dk_4 (dk_at dksX8_isHeld_0 8 rfl rfl)
theorem dX8_isHeld_9 : decode cX8_isHeld 9 = .ok (.ireturn, 1) := dk_172 (dk_at dksX8_isHeld_0 9 rfl rfl)
theorem dX8_isHeld_10 : decode cX8_isHeld 10 = .ok (.iconst 0, 1) := dk_3 (dk_at dksX8_isHeld_0 10 rfl rfl)
theorem dX8_isHeld_11 : decode cX8_isHeld 11 = .ok (.istore_n 2, 1) := dk_61 (dk_at dksX8_isHeld_0 11 rfl rfl)
theorem dX8_isHeld_12 : decode cX8_isHeld 12 = .ok (.iload_n 2, 1) := dk_28 (dk_at dksX8_isHeld_0 12 rfl rfl)
theorem dX8_isHeld_13 : decode cX8_isHeld 13 = .ok (.aload_n 0, 1) := dk_42 (dk_at dksX8_isHeld_0 13 rfl rfl)
theorem dX8_isHeld_14 : decode cX8_isHeld 14 = .ok (.getfield 9, 3) := dk_180 0 9 (dk_at dksX8_isHeld_0 14 rfl rfl)
theorem dX8_isHeld_17 : decode cX8_isHeld 17 = .ok (.iconst 1, 1) := dk_4 (dk_at dksX8_isHeld_0 17 rfl rfl)
theorem dX8_isHeld_18 : decode cX8_isHeld 18 = .ok (.iaload, 1) := dk_46 (dk_at dksX8_isHeld_0 18 rfl rfl)
theorem dX8_isHeld_19 : decode cX8_isHeld 19 = .ok (.if_icmp .ge 28, 3) := dk_162 0 28 (dk_at dksX8_isHeld_0 19 rfl rfl)
theorem dX8_isHeld_22 : decode cX8_isHeld 22 = .ok (.aload_n 0, 1) := dk_42 (dk_at dksX8_isHeld_0 22 rfl rfl)
theorem dX8_isHeld_23 : decode cX8_isHeld 23 = .ok (.iload_n 2, 1) := dk_28 (dk_at dksX8_isHeld_0 23 rfl rfl)
theorem dX8_isHeld_24 : decode cX8_isHeld 24 = .ok (.iload_n 1, 1) := dk_27 (dk_at dksX8_isHeld_1 0 rfl rfl)
theorem dX8_isHeld_25 : decode cX8_isHeld 25 = .ok (.invokevirtual 370, 3) := dk_182 1 114 (dk_at dksX8_isHeld_1 1 rfl rfl)
theorem dX8_isHeld_28 : decode cX8_isHeld 28 = .ok (.ifCond .eq 13, 3) := dk_153 0 13 (dk_at dksX8_isHeld_1 4 rfl rfl)
theorem dX8_isHeld_31 : decode cX8_isHeld 31 = .ok (.aload_n 0, 1) := dk_42 (dk_at dksX8_isHeld_1 7 rfl rfl)
theorem dX8_isHeld_32 : decode cX8_isHeld 32 = .ok (.iload_n 2, 1) := dk_28 (dk_at dksX8_isHeld_1 8 rfl rfl)
theorem dX8_isHeld_33 : decode cX8_isHeld 33 = .ok (.invokevirtual 393, 3) := dk_182 1 137 (dk_at dksX8_isHeld_1 9 rfl rfl)
theorem dX8_isHeld_36 : decode cX8_isHeld 36 = .ok (.ifCond .eq 5, 3) := dk_153 0 5 (dk_at dksX8_isHeld_1 12 rfl rfl)
theorem dX8_isHeld_39 : decode cX8_isHeld 39 = .ok (.iconst 1, 1) := dk_4 (dk_at dksX8_isHeld_1 15 rfl rfl)
theorem dX8_isHeld_40 : decode cX8_isHeld 40 = .ok (.ireturn, 1) := dk_172 (dk_at dksX8_isHeld_1 16 rfl rfl)
theorem dX8_isHeld_41 : decode cX8_isHeld 41 = .ok (.iinc 2 1, 3) := dk_132 2 1 (dk_at dksX8_isHeld_1 17 rfl rfl)
theorem dX8_isHeld_44 : decode cX8_isHeld 44 = .ok (.goto (-32), 3) := dk_167 255 224 (dk_at dksX8_isHeld_1 20 rfl rfl)
theorem dX8_isHeld_47 : decode cX8_isHeld 47 = .ok (.iconst 0, 1) := dk_3 (dk_at dksX8_isHeld_1 23 rfl rfl)
theorem dX8_isHeld_48 : decode cX8_isHeld 48 = .ok (.ireturn, 1) := dk_172 (dk_at dksX8_isHeld_2 0 rfl rfl)
abbrev cX8_isRoot : ByteArray := prog_18_method_125_code
def yX8_isRoot : MethodName := ⟨RX8, "isRoot", "(I)Z"⟩
def dkwX8_isRoot_1 : List UInt8 := [182, 0, 145, 27, 160, 0, 5, 4, 172, 132, 2, 1, 167, 255, 224, 3, 172]
abbrev dktX8_isRoot_1 : List UInt8 := dkwX8_isRoot_1 ++ []
def dkwX8_isRoot_0 : List UInt8 := [3, 61, 28, 42, 180, 0, 9, 3, 46, 162, 0, 28, 42, 28, 182, 0, 164, 154, 0, 14, 42, 28]
abbrev dktX8_isRoot_0 : List UInt8 := dkwX8_isRoot_0 ++ dktX8_isRoot_1
theorem dksX8_isRoot_0 : cX8_isRoot.data.toList.drop 0 = dktX8_isRoot_0 := by decide +kernel
theorem dksX8_isRoot_1 : cX8_isRoot.data.toList.drop 22 = dktX8_isRoot_1 := dk_seg dksX8_isRoot_0 22 rfl rfl
theorem dX8_isRoot_0 : decode cX8_isRoot 0 = .ok (.iconst 0, 1) := dk_3 (dk_at dksX8_isRoot_0 0 rfl rfl)
theorem dX8_isRoot_1 : decode cX8_isRoot 1 = .ok (.istore_n 2, 1) := dk_61 (dk_at dksX8_isRoot_0 1 rfl rfl)
theorem dX8_isRoot_2 : decode cX8_isRoot 2 = .ok (.iload_n 2, 1) := dk_28 (dk_at dksX8_isRoot_0 2 rfl rfl)
theorem dX8_isRoot_3 : decode cX8_isRoot 3 = .ok (.aload_n 0, 1) := dk_42 (dk_at dksX8_isRoot_0 3 rfl rfl)
theorem dX8_isRoot_4 : decode cX8_isRoot 4 = .ok (.getfield 9, 3) := dk_180 0 9 (dk_at dksX8_isRoot_0 4 rfl rfl)
theorem dX8_isRoot_7 : decode cX8_isRoot 7 = .ok (.iconst 0, 1) := dk_3 (dk_at dksX8_isRoot_0 7 rfl rfl)
theorem dX8_isRoot_8 : decode cX8_isRoot 8 = .ok (.iaload, 1) := dk_46 (dk_at dksX8_isRoot_0 8 rfl rfl)
theorem dX8_isRoot_9 : decode cX8_isRoot 9 = .ok (.if_icmp .ge 28, 3) := dk_162 0 28 (dk_at dksX8_isRoot_0 9 rfl rfl)
theorem dX8_isRoot_12 : decode cX8_isRoot 12 = .ok (.aload_n 0, 1) := dk_42 (dk_at dksX8_isRoot_0 12 rfl rfl)
theorem dX8_isRoot_13 : decode cX8_isRoot 13 = .ok (.iload_n 2, 1) := dk_28 (dk_at dksX8_isRoot_0 13 rfl rfl)
theorem dX8_isRoot_14 : decode cX8_isRoot 14 = .ok (.invokevirtual 164, 3) := dk_182 0 164 (dk_at dksX8_isRoot_0 14 rfl rfl)
theorem dX8_isRoot_17 : decode cX8_isRoot 17 = .ok (.ifCond .ne 14, 3) := dk_154 0 14 (dk_at dksX8_isRoot_0 17 rfl rfl)
theorem dX8_isRoot_20 : decode cX8_isRoot 20 = .ok (.aload_n 0, 1) := dk_42 (dk_at dksX8_isRoot_0 20 rfl rfl)
theorem dX8_isRoot_21 : decode cX8_isRoot 21 = .ok (.iload_n 2, 1) := dk_28 (dk_at dksX8_isRoot_0 21 rfl rfl)
theorem dX8_isRoot_22 : decode cX8_isRoot 22 = .ok (.invokevirtual 145, 3) := dk_182 0 145 (dk_at dksX8_isRoot_1 0 rfl rfl)
theorem dX8_isRoot_25 : decode cX8_isRoot 25 = .ok (.iload_n 1, 1) := dk_27 (dk_at dksX8_isRoot_1 3 rfl rfl)
theorem dX8_isRoot_26 : decode cX8_isRoot 26 = .ok (.if_icmp .ne 5, 3) := dk_160 0 5 (dk_at dksX8_isRoot_1 4 rfl rfl)
theorem dX8_isRoot_29 : decode cX8_isRoot 29 = .ok (.iconst 1, 1) := dk_4 (dk_at dksX8_isRoot_1 7 rfl rfl)
theorem dX8_isRoot_30 : decode cX8_isRoot 30 = .ok (.ireturn, 1) := dk_172 (dk_at dksX8_isRoot_1 8 rfl rfl)
theorem dX8_isRoot_31 : decode cX8_isRoot 31 = .ok (.iinc 2 1, 3) := dk_132 2 1 (dk_at dksX8_isRoot_1 9 rfl rfl)
theorem dX8_isRoot_34 : decode cX8_isRoot 34 = .ok (.goto (-32), 3) := dk_167 255 224 (dk_at dksX8_isRoot_1 12 rfl rfl)
theorem dX8_isRoot_37 : decode cX8_isRoot 37 = .ok (.iconst 0, 1) := dk_3 (dk_at dksX8_isRoot_1 15 rfl rfl)
theorem dX8_isRoot_38 : decode cX8_isRoot 38 = .ok (.ireturn, 1) := dk_172 (dk_at dksX8_isRoot_1 16 rfl rfl)
abbrev cX8_set : ByteArray := prog_18_method_129_code
def yX8_set : MethodName := ⟨RX8, "set", "(III)I"⟩
def dkwX8_set_3 : List UInt8 := [182, 1, 39, 172]
abbrev dktX8_set_3 : List UInt8 := dkwX8_set_3 ++ []
def dkwX8_set_2 : List UInt8 := [153, 0, 7, 4, 167, 0, 4, 3, 182, 1, 74, 154, 0, 5, 3, 172, 42, 182, 1, 68, 42, 27, 28, 29]
abbrev dktX8_set_2 : List UInt8 := dkwX8_set_2 ++ dktX8_set_3
def dkwX8_set_1 : List UInt8 := [21, 5, 21, 4, 153, 0, 27, 21, 5, 153, 0, 22, 42, 27, 182, 0, 164, 154, 0, 14, 42, 182, 1, 35]
abbrev dktX8_set_1 : List UInt8 := dkwX8_set_1 ++ dktX8_set_2
def dkwX8_set_0 : List UInt8 := [42, 27, 28, 182, 1, 84, 54, 4, 29, 133, 20, 1, 123, 20, 1, 125, 184, 0, 167, 54, 5, 42, 21, 4]
abbrev dktX8_set_0 : List UInt8 := dkwX8_set_0 ++ dktX8_set_1
theorem dksX8_set_0 : cX8_set.data.toList.drop 0 = dktX8_set_0 := by decide +kernel
theorem dksX8_set_1 : cX8_set.data.toList.drop 24 = dktX8_set_1 := dk_seg dksX8_set_0 24 rfl rfl
theorem dksX8_set_2 : cX8_set.data.toList.drop 48 = dktX8_set_2 := dk_seg dksX8_set_1 24 rfl rfl
theorem dksX8_set_3 : cX8_set.data.toList.drop 72 = dktX8_set_3 := dk_seg dksX8_set_2 24 rfl rfl
theorem dX8_set_0 : decode cX8_set 0 = .ok (.aload_n 0, 1) := dk_42 (dk_at dksX8_set_0 0 rfl rfl)
theorem dX8_set_1 : decode cX8_set 1 = .ok (.iload_n 1, 1) := dk_27 (dk_at dksX8_set_0 1 rfl rfl)
theorem dX8_set_2 : decode cX8_set 2 = .ok (.iload_n 2, 1) := dk_28 (dk_at dksX8_set_0 2 rfl rfl)
theorem dX8_set_3 : decode cX8_set 3 = .ok (.invokevirtual 340, 3) := dk_182 1 84 (dk_at dksX8_set_0 3 rfl rfl)
theorem dX8_set_6 : decode cX8_set 6 = .ok (.istore 4, 2) := dk_54 4 (dk_at dksX8_set_0 6 rfl rfl)
theorem dX8_set_8 : decode cX8_set 8 = .ok (.iload_n 3, 1) := dk_29 (dk_at dksX8_set_0 8 rfl rfl)
theorem dX8_set_9 : decode cX8_set 9 = .ok (.i2l, 1) := dk_133 (dk_at dksX8_set_0 9 rfl rfl)
theorem dX8_set_10 : decode cX8_set 10 = .ok (.ldc2_w 379, 3) := dk_20 1 123 (dk_at dksX8_set_0 10 rfl rfl)
theorem dX8_set_13 : decode cX8_set 13 = .ok (.ldc2_w 381, 3) := dk_20 1 125 (dk_at dksX8_set_0 13 rfl rfl)
theorem dX8_set_16 : decode cX8_set 16 = .ok (.invokestatic 167, 3) := dk_184 0 167 (dk_at dksX8_set_0 16 rfl rfl)
theorem dX8_set_19 : decode cX8_set 19 = .ok (.istore 5, 2) := dk_54 5 (dk_at dksX8_set_0 19 rfl rfl)
theorem dX8_set_21 : decode cX8_set 21 = .ok (.aload_n 0, 1) := dk_42 (dk_at dksX8_set_0 21 rfl rfl)
theorem dX8_set_22 : decode cX8_set 22 = .ok (.iload 4, 2) := dk_21 4 (dk_at dksX8_set_0 22 rfl rfl)
theorem dX8_set_24 : decode cX8_set 24 = .ok (.iload 5, 2) := dk_21 5 (dk_at dksX8_set_1 0 rfl rfl)
theorem dX8_set_26 : decode cX8_set 26 = .ok (.iload 4, 2) := dk_21 4 (dk_at dksX8_set_1 2 rfl rfl)
theorem dX8_set_28 : decode cX8_set 28 = .ok (.ifCond .eq 27, 3) := dk_153 0 27 (dk_at dksX8_set_1 4 rfl rfl)
theorem dX8_set_31 : decode cX8_set 31 = .ok (.iload 5, 2) := dk_21 5 (dk_at dksX8_set_1 7 rfl rfl)
theorem dX8_set_33 : decode cX8_set 33 = .ok (.ifCond .eq 22, 3) := dk_153 0 22 (dk_at dksX8_set_1 9 rfl rfl)
theorem dX8_set_36 : decode cX8_set 36 = .ok (.aload_n 0, 1) := dk_42 (dk_at dksX8_set_1 12 rfl rfl)
theorem dX8_set_37 : decode cX8_set 37 = .ok (.iload_n 1, 1) := dk_27 (dk_at dksX8_set_1 13 rfl rfl)
theorem dX8_set_38 : decode cX8_set 38 = .ok (.invokevirtual 164, 3) := dk_182 0 164 (dk_at dksX8_set_1 14 rfl rfl)
theorem dX8_set_41 : decode cX8_set 41 = .ok (.ifCond .ne 14, 3) := dk_154 0 14 (dk_at dksX8_set_1 17 rfl rfl)
theorem dX8_set_44 : decode cX8_set 44 = .ok (.aload_n 0, 1) := dk_42 (dk_at dksX8_set_1 20 rfl rfl)
theorem dX8_set_45 : decode cX8_set 45 = .ok (.invokevirtual 291, 3) := dk_182 1 35 (dk_at dksX8_set_1 21 rfl rfl)
theorem dX8_set_48 : decode cX8_set 48 = .ok (.ifCond .eq 7, 3) := dk_153 0 7 (dk_at dksX8_set_2 0 rfl rfl)
theorem dX8_set_51 : decode cX8_set 51 = .ok (.iconst 1, 1) := dk_4 (dk_at dksX8_set_2 3 rfl rfl)
theorem dX8_set_52 : decode cX8_set 52 = .ok (.goto 4, 3) := dk_167 0 4 (dk_at dksX8_set_2 4 rfl rfl)
theorem dX8_set_55 : decode cX8_set 55 = .ok (.iconst 0, 1) := dk_3 (dk_at dksX8_set_2 7 rfl rfl)
theorem dX8_set_56 : decode cX8_set 56 = .ok (.invokevirtual 330, 3) := dk_182 1 74 (dk_at dksX8_set_2 8 rfl rfl)
theorem dX8_set_59 : decode cX8_set 59 = .ok (.ifCond .ne 5, 3) := dk_154 0 5 (dk_at dksX8_set_2 11 rfl rfl)
theorem dX8_set_62 : decode cX8_set 62 = .ok (.iconst 0, 1) := dk_3 (dk_at dksX8_set_2 14 rfl rfl)
theorem dX8_set_63 : decode cX8_set 63 = .ok (.ireturn, 1) := dk_172 (dk_at dksX8_set_2 15 rfl rfl)
theorem dX8_set_64 : decode cX8_set 64 = .ok (.aload_n 0, 1) := dk_42 (dk_at dksX8_set_2 16 rfl rfl)
theorem dX8_set_65 : decode cX8_set 65 = .ok (.invokevirtual 324, 3) := dk_182 1 68 (dk_at dksX8_set_2 17 rfl rfl)
theorem dX8_set_68 : decode cX8_set 68 = .ok (.aload_n 0, 1) := dk_42 (dk_at dksX8_set_2 20 rfl rfl)
theorem dX8_set_69 : decode cX8_set 69 = .ok (.iload_n 1, 1) := dk_27 (dk_at dksX8_set_2 21 rfl rfl)
theorem dX8_set_70 : decode cX8_set 70 = .ok (.iload_n 2, 1) := dk_28 (dk_at dksX8_set_2 22 rfl rfl)
theorem dX8_set_71 : decode cX8_set 71 = .ok (.iload_n 3, 1) := dk_29 (dk_at dksX8_set_2 23 rfl rfl)
theorem dX8_set_72 : decode cX8_set 72 = .ok (.invokevirtual 295, 3) := dk_182 1 39 (dk_at dksX8_set_3 0 rfl rfl)
theorem dX8_set_75 : decode cX8_set 75 = .ok (.ireturn, 1) := dk_172 (dk_at dksX8_set_3 3 rfl rfl)
abbrev cX8_append : ByteArray := prog_18_method_130_code
def yX8_append : MethodName := ⟨RX8, "append", "(II)I"⟩
def dkwX8_append_3 : List UInt8 := [182, 1, 68, 42, 27, 28, 182, 1, 42, 172]
abbrev dktX8_append_3 : List UInt8 := dkwX8_append_3 ++ []
def dkwX8_append_2 : List UInt8 := [4, 167, 0, 4, 3, 54, 5, 42, 29, 21, 4, 21, 5, 182, 1, 74, 154, 0, 5, 3, 172, 42]
abbrev dktX8_append_2 : List UInt8 := dkwX8_append_2 ++ dktX8_append_3
def dkwX8_append_1 : List UInt8 := [27, 182, 0, 164, 154, 0, 24, 42, 27, 182, 0, 121, 16, 64, 162, 0, 14, 42, 182, 1, 35, 153, 0, 7]
abbrev dktX8_append_1 : List UInt8 := dkwX8_append_1 ++ dktX8_append_2
def dkwX8_append_0 : List UInt8 := [42, 27, 182, 1, 29, 62, 28, 133, 20, 1, 123, 20, 1, 125, 184, 0, 167, 54, 4, 29, 153, 0, 32, 42]
abbrev dktX8_append_0 : List UInt8 := dkwX8_append_0 ++ dktX8_append_1
theorem dksX8_append_0 : cX8_append.data.toList.drop 0 = dktX8_append_0 := by decide +kernel
theorem dksX8_append_1 : cX8_append.data.toList.drop 24 = dktX8_append_1 := dk_seg dksX8_append_0 24 rfl rfl
theorem dksX8_append_2 : cX8_append.data.toList.drop 48 = dktX8_append_2 := dk_seg dksX8_append_1 24 rfl rfl
theorem dksX8_append_3 : cX8_append.data.toList.drop 70 = dktX8_append_3 := dk_seg dksX8_append_2 22 rfl rfl
theorem dX8_append_0 : decode cX8_append 0 = .ok (.aload_n 0, 1) := dk_42 (dk_at dksX8_append_0 0 rfl rfl)
theorem dX8_append_1 : decode cX8_append 1 = .ok (.iload_n 1, 1) := dk_27 (dk_at dksX8_append_0 1 rfl rfl)
theorem dX8_append_2 : decode cX8_append 2 = .ok (.invokevirtual 285, 3) := dk_182 1 29 (dk_at dksX8_append_0 2 rfl rfl)
theorem dX8_append_5 : decode cX8_append 5 = .ok (.istore_n 3, 1) := dk_62 (dk_at dksX8_append_0 5 rfl rfl)
theorem dX8_append_6 : decode cX8_append 6 = .ok (.iload_n 2, 1) := dk_28 (dk_at dksX8_append_0 6 rfl rfl)
theorem dX8_append_7 : decode cX8_append 7 = .ok (.i2l, 1) := dk_133 (dk_at dksX8_append_0 7 rfl rfl)
theorem dX8_append_8 : decode cX8_append 8 = .ok (.ldc2_w 379, 3) := dk_20 1 123 (dk_at dksX8_append_0 8 rfl rfl)
theorem dX8_append_11 : decode cX8_append 11 = .ok (.ldc2_w 381, 3) := dk_20 1 125 (dk_at dksX8_append_0 11 rfl rfl)
theorem dX8_append_14 : decode cX8_append 14 = .ok (.invokestatic 167, 3) := dk_184 0 167 (dk_at dksX8_append_0 14 rfl rfl)
theorem dX8_append_17 : decode cX8_append 17 = .ok (.istore 4, 2) := dk_54 4 (dk_at dksX8_append_0 17 rfl rfl)
theorem dX8_append_19 : decode cX8_append 19 = .ok (.iload_n 3, 1) := dk_29 (dk_at dksX8_append_0 19 rfl rfl)
theorem dX8_append_20 : decode cX8_append 20 = .ok (.ifCond .eq 32, 3) := dk_153 0 32 (dk_at dksX8_append_0 20 rfl rfl)
theorem dX8_append_23 : decode cX8_append 23 = .ok (.aload_n 0, 1) := dk_42 (dk_at dksX8_append_0 23 rfl rfl)
theorem dX8_append_24 : decode cX8_append 24 = .ok (.iload_n 1, 1) := dk_27 (dk_at dksX8_append_1 0 rfl rfl)
theorem dX8_append_25 : decode cX8_append 25 = .ok (.invokevirtual 164, 3) := dk_182 0 164 (dk_at dksX8_append_1 1 rfl rfl)
theorem dX8_append_28 : decode cX8_append 28 = .ok (.ifCond .ne 24, 3) := dk_154 0 24 (dk_at dksX8_append_1 4 rfl rfl)
theorem dX8_append_31 : decode cX8_append 31 = .ok (.aload_n 0, 1) := dk_42 (dk_at dksX8_append_1 7 rfl rfl)
theorem dX8_append_32 : decode cX8_append 32 = .ok (.iload_n 1, 1) := dk_27 (dk_at dksX8_append_1 8 rfl rfl)
theorem dX8_append_33 : decode cX8_append 33 = .ok (.invokevirtual 121, 3) := dk_182 0 121 (dk_at dksX8_append_1 9 rfl rfl)
theorem dX8_append_36 : decode cX8_append 36 = .ok (.bipush 64, 2) := dk_16 64 (dk_at dksX8_append_1 12 rfl rfl)
theorem dX8_append_38 : decode cX8_append 38 = .ok (.if_icmp .ge 14, 3) := dk_162 0 14 (dk_at dksX8_append_1 14 rfl rfl)
theorem dX8_append_41 : decode cX8_append 41 = .ok (.aload_n 0, 1) := dk_42 (dk_at dksX8_append_1 17 rfl rfl)
theorem dX8_append_42 : decode cX8_append 42 = .ok (.invokevirtual 291, 3) := dk_182 1 35 (dk_at dksX8_append_1 18 rfl rfl)
theorem dX8_append_45 : decode cX8_append 45 = .ok (.ifCond .eq 7, 3) := dk_153 0 7 (dk_at dksX8_append_1 21 rfl rfl)
theorem dX8_append_48 : decode cX8_append 48 = .ok (.iconst 1, 1) := dk_4 (dk_at dksX8_append_2 0 rfl rfl)
theorem dX8_append_49 : decode cX8_append 49 = .ok (.goto 4, 3) := dk_167 0 4 (dk_at dksX8_append_2 1 rfl rfl)
theorem dX8_append_52 : decode cX8_append 52 = .ok (.iconst 0, 1) := dk_3 (dk_at dksX8_append_2 4 rfl rfl)
theorem dX8_append_53 : decode cX8_append 53 = .ok (.istore 5, 2) := dk_54 5 (dk_at dksX8_append_2 5 rfl rfl)
theorem dX8_append_55 : decode cX8_append 55 = .ok (.aload_n 0, 1) := dk_42 (dk_at dksX8_append_2 7 rfl rfl)
theorem dX8_append_56 : decode cX8_append 56 = .ok (.iload_n 3, 1) := dk_29 (dk_at dksX8_append_2 8 rfl rfl)
theorem dX8_append_57 : decode cX8_append 57 = .ok (.iload 4, 2) := dk_21 4 (dk_at dksX8_append_2 9 rfl rfl)
theorem dX8_append_59 : decode cX8_append 59 = .ok (.iload 5, 2) := dk_21 5 (dk_at dksX8_append_2 11 rfl rfl)
theorem dX8_append_61 : decode cX8_append 61 = .ok (.invokevirtual 330, 3) := dk_182 1 74 (dk_at dksX8_append_2 13 rfl rfl)
theorem dX8_append_64 : decode cX8_append 64 = .ok (.ifCond .ne 5, 3) := dk_154 0 5 (dk_at dksX8_append_2 16 rfl rfl)
theorem dX8_append_67 : decode cX8_append 67 = .ok (.iconst 0, 1) := dk_3 (dk_at dksX8_append_2 19 rfl rfl)
theorem dX8_append_68 : decode cX8_append 68 = .ok (.ireturn, 1) := dk_172 (dk_at dksX8_append_2 20 rfl rfl)
theorem dX8_append_69 : decode cX8_append 69 = .ok (.aload_n 0, 1) := dk_42 (dk_at dksX8_append_2 21 rfl rfl)
theorem dX8_append_70 : decode cX8_append 70 = .ok (.invokevirtual 324, 3) := dk_182 1 68 (dk_at dksX8_append_3 0 rfl rfl)
theorem dX8_append_73 : decode cX8_append 73 = .ok (.aload_n 0, 1) := dk_42 (dk_at dksX8_append_3 3 rfl rfl)
theorem dX8_append_74 : decode cX8_append 74 = .ok (.iload_n 1, 1) := dk_27 (dk_at dksX8_append_3 4 rfl rfl)
theorem dX8_append_75 : decode cX8_append 75 = .ok (.iload_n 2, 1) := dk_28 (dk_at dksX8_append_3 5 rfl rfl)
theorem dX8_append_76 : decode cX8_append 76 = .ok (.invokevirtual 298, 3) := dk_182 1 42 (dk_at dksX8_append_3 6 rfl rfl)
theorem dX8_append_79 : decode cX8_append 79 = .ok (.ireturn, 1) := dk_172 (dk_at dksX8_append_3 9 rfl rfl)
abbrev cX8_truncate : ByteArray := prog_18_method_131_code
def yX8_truncate : MethodName := ⟨RX8, "truncate", "(II)I"⟩
def dkwX8_truncate_3 : List UInt8 := [154, 0, 5, 3, 172, 42, 182, 1, 68, 42, 27, 28, 182, 1, 45, 172]
abbrev dktX8_truncate_3 : List UInt8 := dkwX8_truncate_3 ++ []
def dkwX8_truncate_2 : List UInt8 := [27, 182, 0, 164, 154, 0, 14, 42, 182, 1, 35, 153, 0, 7, 4, 167, 0, 4, 3, 182, 1, 74]
abbrev dktX8_truncate_2 : List UInt8 := dkwX8_truncate_2 ++ dktX8_truncate_3
def dkwX8_truncate_1 : List UInt8 := [27, 182, 0, 121, 163, 0, 7, 4, 167, 0, 4, 3, 54, 4, 42, 29, 21, 4, 21, 4, 153, 0, 22, 42]
abbrev dktX8_truncate_1 : List UInt8 := dkwX8_truncate_1 ++ dktX8_truncate_2
def dkwX8_truncate_0 : List UInt8 := [42, 27, 182, 1, 29, 62, 29, 153, 0, 28, 28, 155, 0, 24, 42, 27, 182, 0, 164, 154, 0, 12, 28, 42]
abbrev dktX8_truncate_0 : List UInt8 := dkwX8_truncate_0 ++ dktX8_truncate_1
theorem dksX8_truncate_0 : cX8_truncate.data.toList.drop 0 = dktX8_truncate_0 := by decide +kernel
theorem dksX8_truncate_1 : cX8_truncate.data.toList.drop 24 = dktX8_truncate_1 := dk_seg dksX8_truncate_0 24 rfl rfl
theorem dksX8_truncate_2 : cX8_truncate.data.toList.drop 48 = dktX8_truncate_2 := dk_seg dksX8_truncate_1 24 rfl rfl
theorem dksX8_truncate_3 : cX8_truncate.data.toList.drop 70 = dktX8_truncate_3 := dk_seg dksX8_truncate_2 22 rfl rfl
theorem dX8_truncate_0 : decode cX8_truncate 0 = .ok (.aload_n 0, 1) := dk_42 (dk_at dksX8_truncate_0 0 rfl rfl)
theorem dX8_truncate_1 : decode cX8_truncate 1 = .ok (.iload_n 1, 1) := dk_27 (dk_at dksX8_truncate_0 1 rfl rfl)
theorem dX8_truncate_2 : decode cX8_truncate 2 = .ok (.invokevirtual 285, 3) := dk_182 1 29 (dk_at dksX8_truncate_0 2 rfl rfl)
theorem dX8_truncate_5 : decode cX8_truncate 5 = .ok (.istore_n 3, 1) := dk_62 (dk_at dksX8_truncate_0 5 rfl rfl)
theorem dX8_truncate_6 : decode cX8_truncate 6 = .ok (.iload_n 3, 1) := dk_29 (dk_at dksX8_truncate_0 6 rfl rfl)
theorem dX8_truncate_7 : decode cX8_truncate 7 = .ok (.ifCond .eq 28, 3) := dk_153 0 28 (dk_at dksX8_truncate_0 7 rfl rfl)
theorem dX8_truncate_10 : decode cX8_truncate 10 = .ok (.iload_n 2, 1) := dk_28 (dk_at dksX8_truncate_0 10 rfl rfl)
theorem dX8_truncate_11 : decode cX8_truncate 11 = .ok (.ifCond .lt 24, 3) := dk_155 0 24 (dk_at dksX8_truncate_0 11 rfl rfl)
theorem dX8_truncate_14 : decode cX8_truncate 14 = .ok (.aload_n 0, 1) := dk_42 (dk_at dksX8_truncate_0 14 rfl rfl)
theorem dX8_truncate_15 : decode cX8_truncate 15 = .ok (.iload_n 1, 1) := dk_27 (dk_at dksX8_truncate_0 15 rfl rfl)
theorem dX8_truncate_16 : decode cX8_truncate 16 = .ok (.invokevirtual 164, 3) := dk_182 0 164 (dk_at dksX8_truncate_0 16 rfl rfl)
theorem dX8_truncate_19 : decode cX8_truncate 19 = .ok (.ifCond .ne 12, 3) := dk_154 0 12 (dk_at dksX8_truncate_0 19 rfl rfl)
theorem dX8_truncate_22 : decode cX8_truncate 22 = .ok (.iload_n 2, 1) := dk_28 (dk_at dksX8_truncate_0 22 rfl rfl)
theorem dX8_truncate_23 : decode cX8_truncate 23 = .ok (.aload_n 0, 1) := dk_42 (dk_at dksX8_truncate_0 23 rfl rfl)
theorem dX8_truncate_24 : decode cX8_truncate 24 = .ok (.iload_n 1, 1) := dk_27 (dk_at dksX8_truncate_1 0 rfl rfl)
theorem dX8_truncate_25 : decode cX8_truncate 25 = .ok (.invokevirtual 121, 3) := dk_182 0 121 (dk_at dksX8_truncate_1 1 rfl rfl)
theorem dX8_truncate_28 : decode cX8_truncate 28 = .ok (.if_icmp .gt 7, 3) := dk_163 0 7 (dk_at dksX8_truncate_1 4 rfl rfl)
theorem dX8_truncate_31 : decode cX8_truncate 31 = .ok (.iconst 1, 1) := dk_4 (dk_at dksX8_truncate_1 7 rfl rfl)
theorem dX8_truncate_32 : decode cX8_truncate 32 = .ok (.goto 4, 3) := dk_167 0 4 (dk_at dksX8_truncate_1 8 rfl rfl)
theorem dX8_truncate_35 : decode cX8_truncate 35 = .ok (.iconst 0, 1) := dk_3 (dk_at dksX8_truncate_1 11 rfl rfl)
theorem dX8_truncate_36 : decode cX8_truncate 36 = .ok (.istore 4, 2) := dk_54 4 (dk_at dksX8_truncate_1 12 rfl rfl)
theorem dX8_truncate_38 : decode cX8_truncate 38 = .ok (.aload_n 0, 1) := dk_42 (dk_at dksX8_truncate_1 14 rfl rfl)
theorem dX8_truncate_39 : decode cX8_truncate 39 = .ok (.iload_n 3, 1) := dk_29 (dk_at dksX8_truncate_1 15 rfl rfl)
theorem dX8_truncate_40 : decode cX8_truncate 40 = .ok (.iload 4, 2) := dk_21 4 (dk_at dksX8_truncate_1 16 rfl rfl)
theorem dX8_truncate_42 : decode cX8_truncate 42 = .ok (.iload 4, 2) := dk_21 4 (dk_at dksX8_truncate_1 18 rfl rfl)
theorem dX8_truncate_44 : decode cX8_truncate 44 = .ok (.ifCond .eq 22, 3) := dk_153 0 22 (dk_at dksX8_truncate_1 20 rfl rfl)
theorem dX8_truncate_47 : decode cX8_truncate 47 = .ok (.aload_n 0, 1) := dk_42 (dk_at dksX8_truncate_1 23 rfl rfl)
theorem dX8_truncate_48 : decode cX8_truncate 48 = .ok (.iload_n 1, 1) := dk_27 (dk_at dksX8_truncate_2 0 rfl rfl)
theorem dX8_truncate_49 : decode cX8_truncate 49 = .ok (.invokevirtual 164, 3) := dk_182 0 164 (dk_at dksX8_truncate_2 1 rfl rfl)
theorem dX8_truncate_52 : decode cX8_truncate 52 = .ok (.ifCond .ne 14, 3) := dk_154 0 14 (dk_at dksX8_truncate_2 4 rfl rfl)
theorem dX8_truncate_55 : decode cX8_truncate 55 = .ok (.aload_n 0, 1) := dk_42 (dk_at dksX8_truncate_2 7 rfl rfl)
theorem dX8_truncate_56 : decode cX8_truncate 56 = .ok (.invokevirtual 291, 3) := dk_182 1 35 (dk_at dksX8_truncate_2 8 rfl rfl)
theorem dX8_truncate_59 : decode cX8_truncate 59 = .ok (.ifCond .eq 7, 3) := dk_153 0 7 (dk_at dksX8_truncate_2 11 rfl rfl)
theorem dX8_truncate_62 : decode cX8_truncate 62 = .ok (.iconst 1, 1) := dk_4 (dk_at dksX8_truncate_2 14 rfl rfl)
theorem dX8_truncate_63 : decode cX8_truncate 63 = .ok (.goto 4, 3) := dk_167 0 4 (dk_at dksX8_truncate_2 15 rfl rfl)
theorem dX8_truncate_66 : decode cX8_truncate 66 = .ok (.iconst 0, 1) := dk_3 (dk_at dksX8_truncate_2 18 rfl rfl)
theorem dX8_truncate_67 : decode cX8_truncate 67 = .ok (.invokevirtual 330, 3) := dk_182 1 74 (dk_at dksX8_truncate_2 19 rfl rfl)
theorem dX8_truncate_70 : decode cX8_truncate 70 = .ok (.ifCond .ne 5, 3) := dk_154 0 5 (dk_at dksX8_truncate_3 0 rfl rfl)
theorem dX8_truncate_73 : decode cX8_truncate 73 = .ok (.iconst 0, 1) := dk_3 (dk_at dksX8_truncate_3 3 rfl rfl)
theorem dX8_truncate_74 : decode cX8_truncate 74 = .ok (.ireturn, 1) := dk_172 (dk_at dksX8_truncate_3 4 rfl rfl)
theorem dX8_truncate_75 : decode cX8_truncate 75 = .ok (.aload_n 0, 1) := dk_42 (dk_at dksX8_truncate_3 5 rfl rfl)
theorem dX8_truncate_76 : decode cX8_truncate 76 = .ok (.invokevirtual 324, 3) := dk_182 1 68 (dk_at dksX8_truncate_3 6 rfl rfl)
theorem dX8_truncate_79 : decode cX8_truncate 79 = .ok (.aload_n 0, 1) := dk_42 (dk_at dksX8_truncate_3 9 rfl rfl)
theorem dX8_truncate_80 : decode cX8_truncate 80 = .ok (.iload_n 1, 1) := dk_27 (dk_at dksX8_truncate_3 10 rfl rfl)
theorem dX8_truncate_81 : decode cX8_truncate 81 = .ok (.iload_n 2, 1) := dk_28 (dk_at dksX8_truncate_3 11 rfl rfl)
theorem dX8_truncate_82 : decode cX8_truncate 82 = .ok (.invokevirtual 301, 3) := dk_182 1 45 (dk_at dksX8_truncate_3 12 rfl rfl)
theorem dX8_truncate_85 : decode cX8_truncate 85 = .ok (.ireturn, 1) := dk_172 (dk_at dksX8_truncate_3 15 rfl rfl)
abbrev cX8_release : ByteArray := prog_18_method_132_code
def yX8_release : MethodName := ⟨RX8, "release", "(I)I"⟩
def dkwX8_release_0 : List UInt8 := [42, 27, 182, 1, 87, 154, 0, 5, 3, 172, 42, 182, 1, 68, 42, 27, 182, 1, 59, 172]
abbrev dktX8_release_0 : List UInt8 := dkwX8_release_0 ++ []
theorem dksX8_release_0 : cX8_release.data.toList.drop 0 = dktX8_release_0 := by decide +kernel
theorem dX8_release_0 : decode cX8_release 0 = .ok (.aload_n 0, 1) := dk_42 (dk_at dksX8_release_0 0 rfl rfl)
theorem dX8_release_1 : decode cX8_release 1 = .ok (.iload_n 1, 1) := dk_27 (dk_at dksX8_release_0 1 rfl rfl)
theorem dX8_release_2 : decode cX8_release 2 = .ok (.invokevirtual 343, 3) := dk_182 1 87 (dk_at dksX8_release_0 2 rfl rfl)
theorem dX8_release_5 : decode cX8_release 5 = .ok (.ifCond .ne 5, 3) := dk_154 0 5 (dk_at dksX8_release_0 5 rfl rfl)
theorem dX8_release_8 : decode cX8_release 8 = .ok (.iconst 0, 1) := dk_3 (dk_at dksX8_release_0 8 rfl rfl)
theorem dX8_release_9 : decode cX8_release 9 = .ok (.ireturn, 1) := dk_172 (dk_at dksX8_release_0 9 rfl rfl)
theorem dX8_release_10 : decode cX8_release 10 = .ok (.aload_n 0, 1) := dk_42 (dk_at dksX8_release_0 10 rfl rfl)
theorem dX8_release_11 : decode cX8_release 11 = .ok (.invokevirtual 324, 3) := dk_182 1 68 (dk_at dksX8_release_0 11 rfl rfl)
theorem dX8_release_14 : decode cX8_release 14 = .ok (.aload_n 0, 1) := dk_42 (dk_at dksX8_release_0 14 rfl rfl)
theorem dX8_release_15 : decode cX8_release 15 = .ok (.iload_n 1, 1) := dk_27 (dk_at dksX8_release_0 15 rfl rfl)
theorem dX8_release_16 : decode cX8_release 16 = .ok (.invokevirtual 315, 3) := dk_182 1 59 (dk_at dksX8_release_0 16 rfl rfl)
theorem dX8_release_19 : decode cX8_release 19 = .ok (.ireturn, 1) := dk_172 (dk_at dksX8_release_0 19 rfl rfl)
abbrev cX8_collect : ByteArray := prog_18_method_133_code
def yX8_collect : MethodName := ⟨RX8, "collect", "()I"⟩
def dkwX8_collect_0 : List UInt8 := [42, 3, 181, 0, 58, 42, 182, 1, 68, 42, 182, 1, 62, 172]
abbrev dktX8_collect_0 : List UInt8 := dkwX8_collect_0 ++ []
theorem dksX8_collect_0 : cX8_collect.data.toList.drop 0 = dktX8_collect_0 := by decide +kernel
theorem dX8_collect_0 : decode cX8_collect 0 = .ok (.aload_n 0, 1) := dk_42 (dk_at dksX8_collect_0 0 rfl rfl)
theorem dX8_collect_1 : decode cX8_collect 1 = .ok (.iconst 0, 1) := dk_3 (dk_at dksX8_collect_0 1 rfl rfl)
theorem dX8_collect_2 : decode cX8_collect 2 = .ok (.putfield 58, 3) := dk_181 0 58 (dk_at dksX8_collect_0 2 rfl rfl)
theorem dX8_collect_5 : decode cX8_collect 5 = .ok (.aload_n 0, 1) := dk_42 (dk_at dksX8_collect_0 5 rfl rfl)
theorem dX8_collect_6 : decode cX8_collect 6 = .ok (.invokevirtual 324, 3) := dk_182 1 68 (dk_at dksX8_collect_0 6 rfl rfl)
theorem dX8_collect_9 : decode cX8_collect 9 = .ok (.aload_n 0, 1) := dk_42 (dk_at dksX8_collect_0 9 rfl rfl)
theorem dX8_collect_10 : decode cX8_collect 10 = .ok (.invokevirtual 318, 3) := dk_182 1 62 (dk_at dksX8_collect_0 10 rfl rfl)
theorem dX8_collect_13 : decode cX8_collect 13 = .ok (.ireturn, 1) := dk_172 (dk_at dksX8_collect_0 13 rfl rfl)
abbrev cX8_undo : ByteArray := prog_18_method_134_code
def yX8_undo : MethodName := ⟨RX8, "undo", "()I"⟩
def dkwX8_undo_3 : List UInt8 := [180, 0, 61, 172]
abbrev dktX8_undo_3 : List UInt8 := dkwX8_undo_3 ++ []
def dkwX8_undo_2 : List UInt8 := [180, 0, 20, 17, 16, 114, 42, 180, 0, 61, 104, 27, 96, 46, 79, 132, 1, 1, 167, 255, 225, 42]
abbrev dktX8_undo_2 : List UInt8 := dkwX8_undo_2 ++ dktX8_undo_3
def dkwX8_undo_1 : List UInt8 := [89, 180, 0, 61, 4, 100, 181, 0, 61, 3, 60, 27, 17, 16, 114, 162, 0, 30, 42, 180, 0, 9, 27, 42]
abbrev dktX8_undo_1 : List UInt8 := dkwX8_undo_1 ++ dktX8_undo_2
def dkwX8_undo_0 : List UInt8 := [42, 42, 180, 0, 61, 158, 0, 7, 4, 167, 0, 4, 3, 4, 4, 182, 1, 74, 154, 0, 5, 3, 172, 42]
abbrev dktX8_undo_0 : List UInt8 := dkwX8_undo_0 ++ dktX8_undo_1
theorem dksX8_undo_0 : cX8_undo.data.toList.drop 0 = dktX8_undo_0 := by decide +kernel
theorem dksX8_undo_1 : cX8_undo.data.toList.drop 24 = dktX8_undo_1 := dk_seg dksX8_undo_0 24 rfl rfl
theorem dksX8_undo_2 : cX8_undo.data.toList.drop 48 = dktX8_undo_2 := dk_seg dksX8_undo_1 24 rfl rfl
theorem dksX8_undo_3 : cX8_undo.data.toList.drop 70 = dktX8_undo_3 := dk_seg dksX8_undo_2 22 rfl rfl
theorem dX8_undo_0 : decode cX8_undo 0 = .ok (.aload_n 0, 1) := dk_42 (dk_at dksX8_undo_0 0 rfl rfl)
theorem dX8_undo_1 : decode cX8_undo 1 = .ok (.aload_n 0, 1) := dk_42 (dk_at dksX8_undo_0 1 rfl rfl)
theorem dX8_undo_2 : decode cX8_undo 2 = .ok (.getfield 61, 3) := dk_180 0 61 (dk_at dksX8_undo_0 2 rfl rfl)
theorem dX8_undo_5 : decode cX8_undo 5 = .ok (.ifCond .le 7, 3) := dk_158 0 7 (dk_at dksX8_undo_0 5 rfl rfl)
theorem dX8_undo_8 : decode cX8_undo 8 = .ok (.iconst 1, 1) := dk_4 (dk_at dksX8_undo_0 8 rfl rfl)
theorem dX8_undo_9 : decode cX8_undo 9 = .ok (.goto 4, 3) := dk_167 0 4 (dk_at dksX8_undo_0 9 rfl rfl)
theorem dX8_undo_12 : decode cX8_undo 12 = .ok (.iconst 0, 1) := dk_3 (dk_at dksX8_undo_0 12 rfl rfl)
theorem dX8_undo_13 : decode cX8_undo 13 = .ok (.iconst 1, 1) := dk_4 (dk_at dksX8_undo_0 13 rfl rfl)
theorem dX8_undo_14 : decode cX8_undo 14 = .ok (.iconst 1, 1) := dk_4 (dk_at dksX8_undo_0 14 rfl rfl)
theorem dX8_undo_15 : decode cX8_undo 15 = .ok (.invokevirtual 330, 3) := dk_182 1 74 (dk_at dksX8_undo_0 15 rfl rfl)
theorem dX8_undo_18 : decode cX8_undo 18 = .ok (.ifCond .ne 5, 3) := dk_154 0 5 (dk_at dksX8_undo_0 18 rfl rfl)
theorem dX8_undo_21 : decode cX8_undo 21 = .ok (.iconst 0, 1) := dk_3 (dk_at dksX8_undo_0 21 rfl rfl)
theorem dX8_undo_22 : decode cX8_undo 22 = .ok (.ireturn, 1) := dk_172 (dk_at dksX8_undo_0 22 rfl rfl)
theorem dX8_undo_23 : decode cX8_undo 23 = .ok (.aload_n 0, 1) := dk_42 (dk_at dksX8_undo_0 23 rfl rfl)
theorem dX8_undo_24 : decode cX8_undo 24 = .ok (.dup, 1) := dk_89 (dk_at dksX8_undo_1 0 rfl rfl)
theorem dX8_undo_25 : decode cX8_undo 25 = .ok (.getfield 61, 3) := dk_180 0 61 (dk_at dksX8_undo_1 1 rfl rfl)
theorem dX8_undo_28 : decode cX8_undo 28 = .ok (.iconst 1, 1) := dk_4 (dk_at dksX8_undo_1 4 rfl rfl)
theorem dX8_undo_29 : decode cX8_undo 29 = .ok (.isub, 1) := dk_100 (dk_at dksX8_undo_1 5 rfl rfl)
theorem dX8_undo_30 : decode cX8_undo 30 = .ok (.putfield 61, 3) := dk_181 0 61 (dk_at dksX8_undo_1 6 rfl rfl)
theorem dX8_undo_33 : decode cX8_undo 33 = .ok (.iconst 0, 1) := dk_3 (dk_at dksX8_undo_1 9 rfl rfl)
theorem dX8_undo_34 : decode cX8_undo 34 = .ok (.istore_n 1, 1) := dk_60 (dk_at dksX8_undo_1 10 rfl rfl)
theorem dX8_undo_35 : decode cX8_undo 35 = .ok (.iload_n 1, 1) := dk_27 (dk_at dksX8_undo_1 11 rfl rfl)
theorem dX8_undo_36 : decode cX8_undo 36 = .ok (.sipush 4210, 3) := dk_17 16 114 (dk_at dksX8_undo_1 12 rfl rfl)
theorem dX8_undo_39 : decode cX8_undo 39 = .ok (.if_icmp .ge 30, 3) := dk_162 0 30 (dk_at dksX8_undo_1 15 rfl rfl)
theorem dX8_undo_42 : decode cX8_undo 42 = .ok (.aload_n 0, 1) := dk_42 (dk_at dksX8_undo_1 18 rfl rfl)
theorem dX8_undo_43 : decode cX8_undo 43 = .ok (.getfield 9, 3) := dk_180 0 9 (dk_at dksX8_undo_1 19 rfl rfl)
theorem dX8_undo_46 : decode cX8_undo 46 = .ok (.iload_n 1, 1) := dk_27 (dk_at dksX8_undo_1 22 rfl rfl)
theorem dX8_undo_47 : decode cX8_undo 47 = .ok (.aload_n 0, 1) := dk_42 (dk_at dksX8_undo_1 23 rfl rfl)
theorem dX8_undo_48 : decode cX8_undo 48 = .ok (.getfield 20, 3) := dk_180 0 20 (dk_at dksX8_undo_2 0 rfl rfl)
theorem dX8_undo_51 : decode cX8_undo 51 = .ok (.sipush 4210, 3) := dk_17 16 114 (dk_at dksX8_undo_2 3 rfl rfl)
theorem dX8_undo_54 : decode cX8_undo 54 = .ok (.aload_n 0, 1) := dk_42 (dk_at dksX8_undo_2 6 rfl rfl)
theorem dX8_undo_55 : decode cX8_undo 55 = .ok (.getfield 61, 3) := dk_180 0 61 (dk_at dksX8_undo_2 7 rfl rfl)
theorem dX8_undo_58 : decode cX8_undo 58 = .ok (.imul, 1) := dk_104 (dk_at dksX8_undo_2 10 rfl rfl)
theorem dX8_undo_59 : decode cX8_undo 59 = .ok (.iload_n 1, 1) := dk_27 (dk_at dksX8_undo_2 11 rfl rfl)
theorem dX8_undo_60 : decode cX8_undo 60 = .ok (.iadd, 1) := dk_96 (dk_at dksX8_undo_2 12 rfl rfl)
theorem dX8_undo_61 : decode cX8_undo 61 = .ok (.iaload, 1) := dk_46 (dk_at dksX8_undo_2 13 rfl rfl)
theorem dX8_undo_62 : decode cX8_undo 62 = .ok (.iastore, 1) := dk_79 (dk_at dksX8_undo_2 14 rfl rfl)
theorem dX8_undo_63 : decode cX8_undo 63 = .ok (.iinc 1 1, 3) := dk_132 1 1 (dk_at dksX8_undo_2 15 rfl rfl)
theorem dX8_undo_66 : decode cX8_undo 66 = .ok (.goto (-31), 3) := dk_167 255 225 (dk_at dksX8_undo_2 18 rfl rfl)
theorem dX8_undo_69 : decode cX8_undo 69 = .ok (.aload_n 0, 1) := dk_42 (dk_at dksX8_undo_2 21 rfl rfl)
theorem dX8_undo_70 : decode cX8_undo 70 = .ok (.getfield 61, 3) := dk_180 0 61 (dk_at dksX8_undo_3 0 rfl rfl)
theorem dX8_undo_73 : decode cX8_undo 73 = .ok (.ireturn, 1) := dk_172 (dk_at dksX8_undo_3 3 rfl rfl)
abbrev cX8_writeVersion : ByteArray := prog_18_method_137_code
def yX8_writeVersion : MethodName := ⟨RX8, "writeVersion", "(I)I"⟩
def dkwX8_writeVersion_3 : List UInt8 := [182, 1, 152, 42, 180, 1, 146, 172]
abbrev dktX8_writeVersion_3 : List UInt8 := dkwX8_writeVersion_3 ++ []
def dkwX8_writeVersion_2 : List UInt8 := [16, 44, 182, 1, 152, 42, 42, 27, 28, 182, 0, 129, 182, 1, 155, 132, 2, 1, 167, 255, 213, 42, 16, 93]
abbrev dktX8_writeVersion_2 : List UInt8 := dkwX8_writeVersion_2 ++ dktX8_writeVersion_3
def dkwX8_writeVersion_1 : List UInt8 := [42, 27, 182, 0, 121, 162, 0, 40, 28, 158, 0, 20, 42, 28, 7, 112, 154, 0, 8, 16, 124, 167, 0, 5]
abbrev dktX8_writeVersion_1 : List UInt8 := dkwX8_writeVersion_1 ++ dktX8_writeVersion_2
def dkwX8_writeVersion_0 : List UInt8 := [42, 27, 182, 1, 87, 154, 0, 5, 3, 172, 42, 3, 181, 1, 146, 42, 16, 91, 182, 1, 152, 3, 61, 28]
abbrev dktX8_writeVersion_0 : List UInt8 := dkwX8_writeVersion_0 ++ dktX8_writeVersion_1
theorem dksX8_writeVersion_0 : cX8_writeVersion.data.toList.drop 0 = dktX8_writeVersion_0 := by decide +kernel
theorem dksX8_writeVersion_1 : cX8_writeVersion.data.toList.drop 24 = dktX8_writeVersion_1 := dk_seg dksX8_writeVersion_0 24 rfl rfl
theorem dksX8_writeVersion_2 : cX8_writeVersion.data.toList.drop 48 = dktX8_writeVersion_2 := dk_seg dksX8_writeVersion_1 24 rfl rfl
theorem dksX8_writeVersion_3 : cX8_writeVersion.data.toList.drop 72 = dktX8_writeVersion_3 := dk_seg dksX8_writeVersion_2 24 rfl rfl
theorem dX8_writeVersion_0 : decode cX8_writeVersion 0 = .ok (.aload_n 0, 1) := dk_42 (dk_at dksX8_writeVersion_0 0 rfl rfl)
theorem dX8_writeVersion_1 : decode cX8_writeVersion 1 = .ok (.iload_n 1, 1) := dk_27 (dk_at dksX8_writeVersion_0 1 rfl rfl)
theorem dX8_writeVersion_2 : decode cX8_writeVersion 2 = .ok (.invokevirtual 343, 3) := dk_182 1 87 (dk_at dksX8_writeVersion_0 2 rfl rfl)
theorem dX8_writeVersion_5 : decode cX8_writeVersion 5 = .ok (.ifCond .ne 5, 3) := dk_154 0 5 (dk_at dksX8_writeVersion_0 5 rfl rfl)
theorem dX8_writeVersion_8 : decode cX8_writeVersion 8 = .ok (.iconst 0, 1) := dk_3 (dk_at dksX8_writeVersion_0 8 rfl rfl)
theorem dX8_writeVersion_9 : decode cX8_writeVersion 9 = .ok (.ireturn, 1) := dk_172 (dk_at dksX8_writeVersion_0 9 rfl rfl)
theorem dX8_writeVersion_10 : decode cX8_writeVersion 10 = .ok (.aload_n 0, 1) := dk_42 (dk_at dksX8_writeVersion_0 10 rfl rfl)
theorem dX8_writeVersion_11 : decode cX8_writeVersion 11 = .ok (.iconst 0, 1) := dk_3 (dk_at dksX8_writeVersion_0 11 rfl rfl)
theorem dX8_writeVersion_12 : decode cX8_writeVersion 12 = .ok (.putfield 402, 3) := dk_181 1 146 (dk_at dksX8_writeVersion_0 12 rfl rfl)
theorem dX8_writeVersion_15 : decode cX8_writeVersion 15 = .ok (.aload_n 0, 1) := dk_42 (dk_at dksX8_writeVersion_0 15 rfl rfl)
theorem dX8_writeVersion_16 : decode cX8_writeVersion 16 = .ok (.bipush 91, 2) := dk_16 91 (dk_at dksX8_writeVersion_0 16 rfl rfl)
theorem dX8_writeVersion_18 : decode cX8_writeVersion 18 = .ok (.invokevirtual 408, 3) := dk_182 1 152 (dk_at dksX8_writeVersion_0 18 rfl rfl)
theorem dX8_writeVersion_21 : decode cX8_writeVersion 21 = .ok (.iconst 0, 1) := dk_3 (dk_at dksX8_writeVersion_0 21 rfl rfl)
theorem dX8_writeVersion_22 : decode cX8_writeVersion 22 = .ok (.istore_n 2, 1) := dk_61 (dk_at dksX8_writeVersion_0 22 rfl rfl)
theorem dX8_writeVersion_23 : decode cX8_writeVersion 23 = .ok (.iload_n 2, 1) := dk_28 (dk_at dksX8_writeVersion_0 23 rfl rfl)
theorem dX8_writeVersion_24 : decode cX8_writeVersion 24 = .ok (.aload_n 0, 1) := dk_42 (dk_at dksX8_writeVersion_1 0 rfl rfl)
theorem dX8_writeVersion_25 : decode cX8_writeVersion 25 = .ok (.iload_n 1, 1) := dk_27 (dk_at dksX8_writeVersion_1 1 rfl rfl)
theorem dX8_writeVersion_26 : decode cX8_writeVersion 26 = .ok (.invokevirtual 121, 3) := dk_182 0 121 (dk_at dksX8_writeVersion_1 2 rfl rfl)
theorem dX8_writeVersion_29 : decode cX8_writeVersion 29 = .ok (.if_icmp .ge 40, 3) := dk_162 0 40 (dk_at dksX8_writeVersion_1 5 rfl rfl)
theorem dX8_writeVersion_32 : decode cX8_writeVersion 32 = .ok (.iload_n 2, 1) := dk_28 (dk_at dksX8_writeVersion_1 8 rfl rfl)
theorem dX8_writeVersion_33 : decode cX8_writeVersion 33 = .ok (.ifCond .le 20, 3) := dk_158 0 20 (dk_at dksX8_writeVersion_1 9 rfl rfl)
theorem dX8_writeVersion_36 : decode cX8_writeVersion 36 = .ok (.aload_n 0, 1) := dk_42 (dk_at dksX8_writeVersion_1 12 rfl rfl)
theorem dX8_writeVersion_37 : decode cX8_writeVersion 37 = .ok (.iload_n 2, 1) := dk_28 (dk_at dksX8_writeVersion_1 13 rfl rfl)
theorem dX8_writeVersion_38 : decode cX8_writeVersion 38 = .ok (.iconst 4, 1) := dk_7 (dk_at dksX8_writeVersion_1 14 rfl rfl)
theorem dX8_writeVersion_39 : decode cX8_writeVersion 39 = .ok (.irem, 1) := dk_112 (dk_at dksX8_writeVersion_1 15 rfl rfl)
theorem dX8_writeVersion_40 : decode cX8_writeVersion 40 = .ok (.ifCond .ne 8, 3) := dk_154 0 8 (dk_at dksX8_writeVersion_1 16 rfl rfl)
theorem dX8_writeVersion_43 : decode cX8_writeVersion 43 = .ok (.bipush 124, 2) := dk_16 124 (dk_at dksX8_writeVersion_1 19 rfl rfl)
theorem dX8_writeVersion_45 : decode cX8_writeVersion 45 = .ok (.goto 5, 3) := dk_167 0 5 (dk_at dksX8_writeVersion_1 21 rfl rfl)
theorem dX8_writeVersion_48 : decode cX8_writeVersion 48 = .ok (.bipush 44, 2) := dk_16 44 (dk_at dksX8_writeVersion_2 0 rfl rfl)
theorem dX8_writeVersion_50 : decode cX8_writeVersion 50 = .ok (.invokevirtual 408, 3) := dk_182 1 152 (dk_at dksX8_writeVersion_2 2 rfl rfl)
theorem dX8_writeVersion_53 : decode cX8_writeVersion 53 = .ok (.aload_n 0, 1) := dk_42 (dk_at dksX8_writeVersion_2 5 rfl rfl)
theorem dX8_writeVersion_54 : decode cX8_writeVersion 54 = .ok (.aload_n 0, 1) := dk_42 (dk_at dksX8_writeVersion_2 6 rfl rfl)
theorem dX8_writeVersion_55 : decode cX8_writeVersion 55 = .ok (.iload_n 1, 1) := dk_27 (dk_at dksX8_writeVersion_2 7 rfl rfl)
theorem dX8_writeVersion_56 : decode cX8_writeVersion 56 = .ok (.iload_n 2, 1) := dk_28 (dk_at dksX8_writeVersion_2 8 rfl rfl)
theorem dX8_writeVersion_57 : decode cX8_writeVersion 57 = .ok (.invokevirtual 129, 3) := dk_182 0 129 (dk_at dksX8_writeVersion_2 9 rfl rfl)
theorem dX8_writeVersion_60 : decode cX8_writeVersion 60 = .ok (.invokevirtual 411, 3) := dk_182 1 155 (dk_at dksX8_writeVersion_2 12 rfl rfl)
theorem dX8_writeVersion_63 : decode cX8_writeVersion 63 = .ok (.iinc 2 1, 3) := dk_132 2 1 (dk_at dksX8_writeVersion_2 15 rfl rfl)
theorem dX8_writeVersion_66 : decode cX8_writeVersion 66 = .ok (.goto (-43), 3) := dk_167 255 213 (dk_at dksX8_writeVersion_2 18 rfl rfl)
theorem dX8_writeVersion_69 : decode cX8_writeVersion 69 = .ok (.aload_n 0, 1) := dk_42 (dk_at dksX8_writeVersion_2 21 rfl rfl)
theorem dX8_writeVersion_70 : decode cX8_writeVersion 70 = .ok (.bipush 93, 2) := dk_16 93 (dk_at dksX8_writeVersion_2 22 rfl rfl)
theorem dX8_writeVersion_72 : decode cX8_writeVersion 72 = .ok (.invokevirtual 408, 3) := dk_182 1 152 (dk_at dksX8_writeVersion_3 0 rfl rfl)
theorem dX8_writeVersion_75 : decode cX8_writeVersion 75 = .ok (.aload_n 0, 1) := dk_42 (dk_at dksX8_writeVersion_3 3 rfl rfl)
theorem dX8_writeVersion_76 : decode cX8_writeVersion 76 = .ok (.getfield 402, 3) := dk_180 1 146 (dk_at dksX8_writeVersion_3 4 rfl rfl)
theorem dX8_writeVersion_79 : decode cX8_writeVersion 79 = .ok (.ireturn, 1) := dk_172 (dk_at dksX8_writeVersion_3 7 rfl rfl)
abbrev cX8_write : ByteArray := prog_18_method_135_code
def yX8_write : MethodName := ⟨RX8, "write", "(I)V"⟩
def dkwX8_write_0 : List UInt8 := [42, 180, 0, 49, 42, 180, 1, 146, 27, 145, 84, 42, 89, 180, 1, 146, 4, 96, 181, 1, 146, 177]
abbrev dktX8_write_0 : List UInt8 := dkwX8_write_0 ++ []
theorem dksX8_write_0 : cX8_write.data.toList.drop 0 = dktX8_write_0 := by decide +kernel
theorem dX8_write_0 : decode cX8_write 0 = .ok (.aload_n 0, 1) := dk_42 (dk_at dksX8_write_0 0 rfl rfl)
theorem dX8_write_1 : decode cX8_write 1 = .ok (.getfield 49, 3) := dk_180 0 49 (dk_at dksX8_write_0 1 rfl rfl)
theorem dX8_write_4 : decode cX8_write 4 = .ok (.aload_n 0, 1) := dk_42 (dk_at dksX8_write_0 4 rfl rfl)
theorem dX8_write_5 : decode cX8_write 5 = .ok (.getfield 402, 3) := dk_180 1 146 (dk_at dksX8_write_0 5 rfl rfl)
theorem dX8_write_8 : decode cX8_write 8 = .ok (.iload_n 1, 1) := dk_27 (dk_at dksX8_write_0 8 rfl rfl)
theorem dX8_write_9 : decode cX8_write 9 = .ok (.i2b, 1) := dk_145 (dk_at dksX8_write_0 9 rfl rfl)
theorem dX8_write_10 : decode cX8_write 10 = .ok (.bastore, 1) := dk_84 (dk_at dksX8_write_0 10 rfl rfl)
theorem dX8_write_11 : decode cX8_write 11 = .ok (.aload_n 0, 1) := dk_42 (dk_at dksX8_write_0 11 rfl rfl)
theorem dX8_write_12 : decode cX8_write 12 = .ok (.dup, 1) := dk_89 (dk_at dksX8_write_0 12 rfl rfl)
theorem dX8_write_13 : decode cX8_write 13 = .ok (.getfield 402, 3) := dk_180 1 146 (dk_at dksX8_write_0 13 rfl rfl)
theorem dX8_write_16 : decode cX8_write 16 = .ok (.iconst 1, 1) := dk_4 (dk_at dksX8_write_0 16 rfl rfl)
theorem dX8_write_17 : decode cX8_write 17 = .ok (.iadd, 1) := dk_96 (dk_at dksX8_write_0 17 rfl rfl)
theorem dX8_write_18 : decode cX8_write 18 = .ok (.putfield 402, 3) := dk_181 1 146 (dk_at dksX8_write_0 18 rfl rfl)
theorem dX8_write_21 : decode cX8_write 21 = .ok (.return_, 1) := dk_177 (dk_at dksX8_write_0 21 rfl rfl)
abbrev cX8_writeNumber : ByteArray := prog_18_method_136_code
def yX8_writeNumber : MethodName := ⟨RX8, "writeNumber", "(I)V"⟩
def dkwX8_writeNumber_2 : List UInt8 := [96, 182, 1, 152, 42, 16, 48, 28, 16, 10, 112, 96, 182, 1, 152, 177]
abbrev dktX8_writeNumber_2 : List UInt8 := dkwX8_writeNumber_2 ++ []
def dkwX8_writeNumber_1 : List UInt8 := [28, 16, 100, 108, 96, 182, 1, 152, 28, 16, 9, 164, 0, 17, 42, 16, 48, 28, 16, 10, 108, 16, 10, 112]
abbrev dktX8_writeNumber_1 : List UInt8 := dkwX8_writeNumber_1 ++ dktX8_writeNumber_2
def dkwX8_writeNumber_0 : List UInt8 := [27, 184, 1, 149, 61, 27, 156, 0, 9, 42, 16, 45, 182, 1, 152, 28, 16, 99, 164, 0, 14, 42, 16, 48]
abbrev dktX8_writeNumber_0 : List UInt8 := dkwX8_writeNumber_0 ++ dktX8_writeNumber_1
theorem dksX8_writeNumber_0 : cX8_writeNumber.data.toList.drop 0 = dktX8_writeNumber_0 := by decide +kernel
theorem dksX8_writeNumber_1 : cX8_writeNumber.data.toList.drop 24 = dktX8_writeNumber_1 := dk_seg dksX8_writeNumber_0 24 rfl rfl
theorem dksX8_writeNumber_2 : cX8_writeNumber.data.toList.drop 48 = dktX8_writeNumber_2 := dk_seg dksX8_writeNumber_1 24 rfl rfl
theorem dX8_writeNumber_0 : decode cX8_writeNumber 0 = .ok (.iload_n 1, 1) := dk_27 (dk_at dksX8_writeNumber_0 0 rfl rfl)
theorem dX8_writeNumber_1 : decode cX8_writeNumber 1 = .ok (.invokestatic 405, 3) := dk_184 1 149 (dk_at dksX8_writeNumber_0 1 rfl rfl)
theorem dX8_writeNumber_4 : decode cX8_writeNumber 4 = .ok (.istore_n 2, 1) := dk_61 (dk_at dksX8_writeNumber_0 4 rfl rfl)
theorem dX8_writeNumber_5 : decode cX8_writeNumber 5 = .ok (.iload_n 1, 1) := dk_27 (dk_at dksX8_writeNumber_0 5 rfl rfl)
theorem dX8_writeNumber_6 : decode cX8_writeNumber 6 = .ok (.ifCond .ge 9, 3) := dk_156 0 9 (dk_at dksX8_writeNumber_0 6 rfl rfl)
theorem dX8_writeNumber_9 : decode cX8_writeNumber 9 = .ok (.aload_n 0, 1) := dk_42 (dk_at dksX8_writeNumber_0 9 rfl rfl)
theorem dX8_writeNumber_10 : decode cX8_writeNumber 10 = .ok (.bipush 45, 2) := dk_16 45 (dk_at dksX8_writeNumber_0 10 rfl rfl)
theorem dX8_writeNumber_12 : decode cX8_writeNumber 12 = .ok (.invokevirtual 408, 3) := dk_182 1 152 (dk_at dksX8_writeNumber_0 12 rfl rfl)
theorem dX8_writeNumber_15 : decode cX8_writeNumber 15 = .ok (.iload_n 2, 1) := dk_28 (dk_at dksX8_writeNumber_0 15 rfl rfl)
theorem dX8_writeNumber_16 : decode cX8_writeNumber 16 = .ok (.bipush 99, 2) := dk_16 99 (dk_at dksX8_writeNumber_0 16 rfl rfl)
theorem dX8_writeNumber_18 : decode cX8_writeNumber 18 = .ok (.if_icmp .le 14, 3) := dk_164 0 14 (dk_at dksX8_writeNumber_0 18 rfl rfl)
theorem dX8_writeNumber_21 : decode cX8_writeNumber 21 = .ok (.aload_n 0, 1) := dk_42 (dk_at dksX8_writeNumber_0 21 rfl rfl)
theorem dX8_writeNumber_22 : decode cX8_writeNumber 22 = .ok (.bipush 48, 2) := dk_16 48 (dk_at dksX8_writeNumber_0 22 rfl rfl)
theorem dX8_writeNumber_24 : decode cX8_writeNumber 24 = .ok (.iload_n 2, 1) := dk_28 (dk_at dksX8_writeNumber_1 0 rfl rfl)
theorem dX8_writeNumber_25 : decode cX8_writeNumber 25 = .ok (.bipush 100, 2) := dk_16 100 (dk_at dksX8_writeNumber_1 1 rfl rfl)
theorem dX8_writeNumber_27 : decode cX8_writeNumber 27 = .ok (.idiv, 1) := dk_108 (dk_at dksX8_writeNumber_1 3 rfl rfl)
theorem dX8_writeNumber_28 : decode cX8_writeNumber 28 = .ok (.iadd, 1) := dk_96 (dk_at dksX8_writeNumber_1 4 rfl rfl)
theorem dX8_writeNumber_29 : decode cX8_writeNumber 29 = .ok (.invokevirtual 408, 3) := dk_182 1 152 (dk_at dksX8_writeNumber_1 5 rfl rfl)
theorem dX8_writeNumber_32 : decode cX8_writeNumber 32 = .ok (.iload_n 2, 1) := dk_28 (dk_at dksX8_writeNumber_1 8 rfl rfl)
theorem dX8_writeNumber_33 : decode cX8_writeNumber 33 = .ok (.bipush 9, 2) := dk_16 9 (dk_at dksX8_writeNumber_1 9 rfl rfl)
theorem dX8_writeNumber_35 : decode cX8_writeNumber 35 = .ok (.if_icmp .le 17, 3) := dk_164 0 17 (dk_at dksX8_writeNumber_1 11 rfl rfl)
theorem dX8_writeNumber_38 : decode cX8_writeNumber 38 = .ok (.aload_n 0, 1) := dk_42 (dk_at dksX8_writeNumber_1 14 rfl rfl)
theorem dX8_writeNumber_39 : decode cX8_writeNumber 39 = .ok (.bipush 48, 2) := dk_16 48 (dk_at dksX8_writeNumber_1 15 rfl rfl)
theorem dX8_writeNumber_41 : decode cX8_writeNumber 41 = .ok (.iload_n 2, 1) := dk_28 (dk_at dksX8_writeNumber_1 17 rfl rfl)
theorem dX8_writeNumber_42 : decode cX8_writeNumber 42 = .ok (.bipush 10, 2) := dk_16 10 (dk_at dksX8_writeNumber_1 18 rfl rfl)
theorem dX8_writeNumber_44 : decode cX8_writeNumber 44 = .ok (.idiv, 1) := dk_108 (dk_at dksX8_writeNumber_1 20 rfl rfl)
theorem dX8_writeNumber_45 : decode cX8_writeNumber 45 = .ok (.bipush 10, 2) := dk_16 10 (dk_at dksX8_writeNumber_1 21 rfl rfl)
theorem dX8_writeNumber_47 : decode cX8_writeNumber 47 = .ok (.irem, 1) := dk_112 (dk_at dksX8_writeNumber_1 23 rfl rfl)
theorem dX8_writeNumber_48 : decode cX8_writeNumber 48 = .ok (.iadd, 1) := dk_96 (dk_at dksX8_writeNumber_2 0 rfl rfl)
theorem dX8_writeNumber_49 : decode cX8_writeNumber 49 = .ok (.invokevirtual 408, 3) := dk_182 1 152 (dk_at dksX8_writeNumber_2 1 rfl rfl)
theorem dX8_writeNumber_52 : decode cX8_writeNumber 52 = .ok (.aload_n 0, 1) := dk_42 (dk_at dksX8_writeNumber_2 4 rfl rfl)
theorem dX8_writeNumber_53 : decode cX8_writeNumber 53 = .ok (.bipush 48, 2) := dk_16 48 (dk_at dksX8_writeNumber_2 5 rfl rfl)
theorem dX8_writeNumber_55 : decode cX8_writeNumber 55 = .ok (.iload_n 2, 1) := dk_28 (dk_at dksX8_writeNumber_2 7 rfl rfl)
theorem dX8_writeNumber_56 : decode cX8_writeNumber 56 = .ok (.bipush 10, 2) := dk_16 10 (dk_at dksX8_writeNumber_2 8 rfl rfl)
theorem dX8_writeNumber_58 : decode cX8_writeNumber 58 = .ok (.irem, 1) := dk_112 (dk_at dksX8_writeNumber_2 10 rfl rfl)
theorem dX8_writeNumber_59 : decode cX8_writeNumber 59 = .ok (.iadd, 1) := dk_96 (dk_at dksX8_writeNumber_2 11 rfl rfl)
theorem dX8_writeNumber_60 : decode cX8_writeNumber 60 = .ok (.invokevirtual 408, 3) := dk_182 1 152 (dk_at dksX8_writeNumber_2 12 rfl rfl)
theorem dX8_writeNumber_63 : decode cX8_writeNumber 63 = .ok (.return_, 1) := dk_177 (dk_at dksX8_writeNumber_2 15 rfl rfl)
abbrev cX8_outputByte : ByteArray := prog_18_method_138_code
def yX8_outputByte : MethodName := ⟨RX8, "outputByte", "(I)I"⟩
def dkwX8_outputByte_1 : List UInt8 := [180, 0, 49, 27, 51, 167, 0, 4, 2, 172]
abbrev dktX8_outputByte_1 : List UInt8 := dkwX8_outputByte_1 ++ []
def dkwX8_outputByte_0 : List UInt8 := [42, 3, 181, 0, 58, 27, 133, 9, 42, 180, 1, 146, 4, 100, 133, 184, 0, 167, 153, 0, 12, 42]
abbrev dktX8_outputByte_0 : List UInt8 := dkwX8_outputByte_0 ++ dktX8_outputByte_1
theorem dksX8_outputByte_0 : cX8_outputByte.data.toList.drop 0 = dktX8_outputByte_0 := by decide +kernel
theorem dksX8_outputByte_1 : cX8_outputByte.data.toList.drop 22 = dktX8_outputByte_1 := dk_seg dksX8_outputByte_0 22 rfl rfl
theorem dX8_outputByte_0 : decode cX8_outputByte 0 = .ok (.aload_n 0, 1) := dk_42 (dk_at dksX8_outputByte_0 0 rfl rfl)
theorem dX8_outputByte_1 : decode cX8_outputByte 1 = .ok (.iconst 0, 1) := dk_3 (dk_at dksX8_outputByte_0 1 rfl rfl)
theorem dX8_outputByte_2 : decode cX8_outputByte 2 = .ok (.putfield 58, 3) := dk_181 0 58 (dk_at dksX8_outputByte_0 2 rfl rfl)
theorem dX8_outputByte_5 : decode cX8_outputByte 5 = .ok (.iload_n 1, 1) := dk_27 (dk_at dksX8_outputByte_0 5 rfl rfl)
theorem dX8_outputByte_6 : decode cX8_outputByte 6 = .ok (.i2l, 1) := dk_133 (dk_at dksX8_outputByte_0 6 rfl rfl)
theorem dX8_outputByte_7 : decode cX8_outputByte 7 = .ok (.lconst 0, 1) := dk_9 (dk_at dksX8_outputByte_0 7 rfl rfl)
theorem dX8_outputByte_8 : decode cX8_outputByte 8 = .ok (.aload_n 0, 1) := dk_42 (dk_at dksX8_outputByte_0 8 rfl rfl)
theorem dX8_outputByte_9 : decode cX8_outputByte 9 = .ok (.getfield 402, 3) := dk_180 1 146 (dk_at dksX8_outputByte_0 9 rfl rfl)
theorem dX8_outputByte_12 : decode cX8_outputByte 12 = .ok (.iconst 1, 1) := dk_4 (dk_at dksX8_outputByte_0 12 rfl rfl)
theorem dX8_outputByte_13 : decode cX8_outputByte 13 = .ok (.isub, 1) := dk_100 (dk_at dksX8_outputByte_0 13 rfl rfl)
theorem dX8_outputByte_14 : decode cX8_outputByte 14 = .ok (.i2l, 1) := dk_133 (dk_at dksX8_outputByte_0 14 rfl rfl)
theorem dX8_outputByte_15 : decode cX8_outputByte 15 = .ok (.invokestatic 167, 3) := dk_184 0 167 (dk_at dksX8_outputByte_0 15 rfl rfl)
theorem dX8_outputByte_18 : decode cX8_outputByte 18 = .ok (.ifCond .eq 12, 3) := dk_153 0 12 (dk_at dksX8_outputByte_0 18 rfl rfl)
theorem dX8_outputByte_21 : decode cX8_outputByte 21 = .ok (.aload_n 0, 1) := dk_42 (dk_at dksX8_outputByte_0 21 rfl rfl)
theorem dX8_outputByte_22 : decode cX8_outputByte 22 = .ok (.getfield 49, 3) := dk_180 0 49 (dk_at dksX8_outputByte_1 0 rfl rfl)
theorem dX8_outputByte_25 : decode cX8_outputByte 25 = .ok (.iload_n 1, 1) := dk_27 (dk_at dksX8_outputByte_1 3 rfl rfl)
theorem dX8_outputByte_26 : decode cX8_outputByte 26 = .ok (.baload, 1) := dk_51 (dk_at dksX8_outputByte_1 4 rfl rfl)
theorem dX8_outputByte_27 : decode cX8_outputByte 27 = .ok (.goto 4, 3) := dk_167 0 4 (dk_at dksX8_outputByte_1 5 rfl rfl)
theorem dX8_outputByte_30 : decode cX8_outputByte 30 = .ok (.iconst (-1), 1) := dk_2 (dk_at dksX8_outputByte_1 8 rfl rfl)
theorem dX8_outputByte_31 : decode cX8_outputByte 31 = .ok (.ireturn, 1) := dk_172 (dk_at dksX8_outputByte_1 9 rfl rfl)
abbrev cX8_saveState : ByteArray := prog_18_method_139_code
def yX8_saveState : MethodName := ⟨RX8, "saveState", "()I"⟩
def dkwX8_saveState_1 : List UInt8 := [172]
abbrev dktX8_saveState_1 : List UInt8 := dkwX8_saveState_1 ++ []
def dkwX8_saveState_0 : List UInt8 := [42, 3, 181, 0, 58, 42, 42, 180, 0, 16, 182, 1, 158, 42, 4, 181, 1, 6, 42, 180, 0, 9, 3, 46]
abbrev dktX8_saveState_0 : List UInt8 := dkwX8_saveState_0 ++ dktX8_saveState_1
theorem dksX8_saveState_0 : cX8_saveState.data.toList.drop 0 = dktX8_saveState_0 := by decide +kernel
theorem dksX8_saveState_1 : cX8_saveState.data.toList.drop 24 = dktX8_saveState_1 := dk_seg dksX8_saveState_0 24 rfl rfl
theorem dX8_saveState_0 : decode cX8_saveState 0 = .ok (.aload_n 0, 1) := dk_42 (dk_at dksX8_saveState_0 0 rfl rfl)
theorem dX8_saveState_1 : decode cX8_saveState 1 = .ok (.iconst 0, 1) := dk_3 (dk_at dksX8_saveState_0 1 rfl rfl)
theorem dX8_saveState_2 : decode cX8_saveState 2 = .ok (.putfield 58, 3) := dk_181 0 58 (dk_at dksX8_saveState_0 2 rfl rfl)
theorem dX8_saveState_5 : decode cX8_saveState 5 = .ok (.aload_n 0, 1) := dk_42 (dk_at dksX8_saveState_0 5 rfl rfl)
theorem dX8_saveState_6 : decode cX8_saveState 6 = .ok (.aload_n 0, 1) := dk_42 (dk_at dksX8_saveState_0 6 rfl rfl)
theorem dX8_saveState_7 : decode cX8_saveState 7 = .ok (.getfield 16, 3) := dk_180 0 16 (dk_at dksX8_saveState_0 7 rfl rfl)
theorem dX8_saveState_10 : decode cX8_saveState 10 = .ok (.invokevirtual 414, 3) := dk_182 1 158 (dk_at dksX8_saveState_0 10 rfl rfl)
theorem dX8_saveState_13 : decode cX8_saveState 13 = .ok (.aload_n 0, 1) := dk_42 (dk_at dksX8_saveState_0 13 rfl rfl)
theorem dX8_saveState_14 : decode cX8_saveState 14 = .ok (.iconst 1, 1) := dk_4 (dk_at dksX8_saveState_0 14 rfl rfl)
theorem dX8_saveState_15 : decode cX8_saveState 15 = .ok (.putfield 262, 3) := dk_181 1 6 (dk_at dksX8_saveState_0 15 rfl rfl)
theorem dX8_saveState_18 : decode cX8_saveState 18 = .ok (.aload_n 0, 1) := dk_42 (dk_at dksX8_saveState_0 18 rfl rfl)
theorem dX8_saveState_19 : decode cX8_saveState 19 = .ok (.getfield 9, 3) := dk_180 0 9 (dk_at dksX8_saveState_0 19 rfl rfl)
theorem dX8_saveState_22 : decode cX8_saveState 22 = .ok (.iconst 0, 1) := dk_3 (dk_at dksX8_saveState_0 22 rfl rfl)
theorem dX8_saveState_23 : decode cX8_saveState 23 = .ok (.iaload, 1) := dk_46 (dk_at dksX8_saveState_0 23 rfl rfl)
theorem dX8_saveState_24 : decode cX8_saveState 24 = .ok (.ireturn, 1) := dk_172 (dk_at dksX8_saveState_1 0 rfl rfl)
abbrev cX8_copyTo : ByteArray := prog_18_method_10_code
def yX8_copyTo : MethodName := ⟨RX8, "copyTo", "([I)V"⟩
def dkwX8_copyTo_1 : List UInt8 := [177]
abbrev dktX8_copyTo_1 : List UInt8 := dkwX8_copyTo_1 ++ []
def dkwX8_copyTo_0 : List UInt8 := [3, 61, 28, 17, 16, 114, 162, 0, 18, 43, 28, 42, 180, 0, 9, 28, 46, 79, 132, 2, 1, 167, 255, 237]
abbrev dktX8_copyTo_0 : List UInt8 := dkwX8_copyTo_0 ++ dktX8_copyTo_1
theorem dksX8_copyTo_0 : cX8_copyTo.data.toList.drop 0 = dktX8_copyTo_0 := by decide +kernel
theorem dksX8_copyTo_1 : cX8_copyTo.data.toList.drop 24 = dktX8_copyTo_1 := dk_seg dksX8_copyTo_0 24 rfl rfl
theorem dX8_copyTo_0 : decode cX8_copyTo 0 = .ok (.iconst 0, 1) := dk_3 (dk_at dksX8_copyTo_0 0 rfl rfl)
theorem dX8_copyTo_1 : decode cX8_copyTo 1 = .ok (.istore_n 2, 1) := dk_61 (dk_at dksX8_copyTo_0 1 rfl rfl)
theorem dX8_copyTo_2 : decode cX8_copyTo 2 = .ok (.iload_n 2, 1) := dk_28 (dk_at dksX8_copyTo_0 2 rfl rfl)
theorem dX8_copyTo_3 : decode cX8_copyTo 3 = .ok (.sipush 4210, 3) := dk_17 16 114 (dk_at dksX8_copyTo_0 3 rfl rfl)
theorem dX8_copyTo_6 : decode cX8_copyTo 6 = .ok (.if_icmp .ge 18, 3) := dk_162 0 18 (dk_at dksX8_copyTo_0 6 rfl rfl)
theorem dX8_copyTo_9 : decode cX8_copyTo 9 = .ok (.aload_n 1, 1) := dk_43 (dk_at dksX8_copyTo_0 9 rfl rfl)
theorem dX8_copyTo_10 : decode cX8_copyTo 10 = .ok (.iload_n 2, 1) := dk_28 (dk_at dksX8_copyTo_0 10 rfl rfl)
theorem dX8_copyTo_11 : decode cX8_copyTo 11 = .ok (.aload_n 0, 1) := dk_42 (dk_at dksX8_copyTo_0 11 rfl rfl)
theorem dX8_copyTo_12 : decode cX8_copyTo 12 = .ok (.getfield 9, 3) := dk_180 0 9 (dk_at dksX8_copyTo_0 12 rfl rfl)
theorem dX8_copyTo_15 : decode cX8_copyTo 15 = .ok (.iload_n 2, 1) := dk_28 (dk_at dksX8_copyTo_0 15 rfl rfl)
theorem dX8_copyTo_16 : decode cX8_copyTo 16 = .ok (.iaload, 1) := dk_46 (dk_at dksX8_copyTo_0 16 rfl rfl)
theorem dX8_copyTo_17 : decode cX8_copyTo 17 = .ok (.iastore, 1) := dk_79 (dk_at dksX8_copyTo_0 17 rfl rfl)
theorem dX8_copyTo_18 : decode cX8_copyTo 18 = .ok (.iinc 2 1, 3) := dk_132 2 1 (dk_at dksX8_copyTo_0 18 rfl rfl)
theorem dX8_copyTo_21 : decode cX8_copyTo 21 = .ok (.goto (-19), 3) := dk_167 255 237 (dk_at dksX8_copyTo_0 21 rfl rfl)
theorem dX8_copyTo_24 : decode cX8_copyTo 24 = .ok (.return_, 1) := dk_177 (dk_at dksX8_copyTo_1 0 rfl rfl)
abbrev cX8_restoreState : ByteArray := prog_18_method_140_code
def yX8_restoreState : MethodName := ⟨RX8, "restoreState", "()I"⟩
def dkwX8_restoreState_1 : List UInt8 := [3, 181, 0, 61, 42, 180, 0, 9, 3, 46, 172]
abbrev dktX8_restoreState_1 : List UInt8 := dkwX8_restoreState_1 ++ []
def dkwX8_restoreState_0 : List UInt8 := [42, 42, 180, 1, 6, 4, 4, 182, 1, 74, 154, 0, 5, 3, 172, 42, 42, 180, 0, 16, 182, 1, 162, 42]
abbrev dktX8_restoreState_0 : List UInt8 := dkwX8_restoreState_0 ++ dktX8_restoreState_1
theorem dksX8_restoreState_0 : cX8_restoreState.data.toList.drop 0 = dktX8_restoreState_0 := by decide +kernel
theorem dksX8_restoreState_1 : cX8_restoreState.data.toList.drop 24 = dktX8_restoreState_1 := dk_seg dksX8_restoreState_0 24 rfl rfl
theorem dX8_restoreState_0 : decode cX8_restoreState 0 = .ok (.aload_n 0, 1) := dk_42 (dk_at dksX8_restoreState_0 0 rfl rfl)
theorem dX8_restoreState_1 : decode cX8_restoreState 1 = .ok (.aload_n 0, 1) := dk_42 (dk_at dksX8_restoreState_0 1 rfl rfl)
theorem dX8_restoreState_2 : decode cX8_restoreState 2 = .ok (.getfield 262, 3) := dk_180 1 6 (dk_at dksX8_restoreState_0 2 rfl rfl)
theorem dX8_restoreState_5 : decode cX8_restoreState 5 = .ok (.iconst 1, 1) := dk_4 (dk_at dksX8_restoreState_0 5 rfl rfl)
theorem dX8_restoreState_6 : decode cX8_restoreState 6 = .ok (.iconst 1, 1) := dk_4 (dk_at dksX8_restoreState_0 6 rfl rfl)
theorem dX8_restoreState_7 : decode cX8_restoreState 7 = .ok (.invokevirtual 330, 3) := dk_182 1 74 (dk_at dksX8_restoreState_0 7 rfl rfl)
theorem dX8_restoreState_10 : decode cX8_restoreState 10 = .ok (.ifCond .ne 5, 3) := dk_154 0 5 (dk_at dksX8_restoreState_0 10 rfl rfl)
theorem dX8_restoreState_13 : decode cX8_restoreState 13 = .ok (.iconst 0, 1) := dk_3 (dk_at dksX8_restoreState_0 13 rfl rfl)
theorem dX8_restoreState_14 : decode cX8_restoreState 14 = .ok (.ireturn, 1) := dk_172 (dk_at dksX8_restoreState_0 14 rfl rfl)
theorem dX8_restoreState_15 : decode cX8_restoreState 15 = .ok (.aload_n 0, 1) := dk_42 (dk_at dksX8_restoreState_0 15 rfl rfl)
theorem dX8_restoreState_16 : decode cX8_restoreState 16 = .ok (.aload_n 0, 1) := dk_42 (dk_at dksX8_restoreState_0 16 rfl rfl)
theorem dX8_restoreState_17 : decode cX8_restoreState 17 = .ok (.getfield 16, 3) := dk_180 0 16 (dk_at dksX8_restoreState_0 17 rfl rfl)
theorem dX8_restoreState_20 : decode cX8_restoreState 20 = .ok (.invokevirtual 418, 3) := dk_182 1 162 (dk_at dksX8_restoreState_0 20 rfl rfl)
theorem dX8_restoreState_23 : decode cX8_restoreState 23 = .ok (.aload_n 0, 1) := dk_42 (dk_at dksX8_restoreState_0 23 rfl rfl)
theorem dX8_restoreState_24 : decode cX8_restoreState 24 = .ok (.iconst 0, 1) := dk_3 (dk_at dksX8_restoreState_1 0 rfl rfl)
theorem dX8_restoreState_25 : decode cX8_restoreState 25 = .ok (.putfield 61, 3) := dk_181 0 61 (dk_at dksX8_restoreState_1 1 rfl rfl)
theorem dX8_restoreState_28 : decode cX8_restoreState 28 = .ok (.aload_n 0, 1) := dk_42 (dk_at dksX8_restoreState_1 4 rfl rfl)
theorem dX8_restoreState_29 : decode cX8_restoreState 29 = .ok (.getfield 9, 3) := dk_180 0 9 (dk_at dksX8_restoreState_1 5 rfl rfl)
theorem dX8_restoreState_32 : decode cX8_restoreState 32 = .ok (.iconst 0, 1) := dk_3 (dk_at dksX8_restoreState_1 8 rfl rfl)
theorem dX8_restoreState_33 : decode cX8_restoreState 33 = .ok (.iaload, 1) := dk_46 (dk_at dksX8_restoreState_1 9 rfl rfl)
theorem dX8_restoreState_34 : decode cX8_restoreState 34 = .ok (.ireturn, 1) := dk_172 (dk_at dksX8_restoreState_1 10 rfl rfl)
abbrev cX8_copyFrom : ByteArray := prog_18_method_11_code
def yX8_copyFrom : MethodName := ⟨RX8, "copyFrom", "([I)V"⟩
def dkwX8_copyFrom_1 : List UInt8 := [177]
abbrev dktX8_copyFrom_1 : List UInt8 := dkwX8_copyFrom_1 ++ []
def dkwX8_copyFrom_0 : List UInt8 := [3, 61, 28, 17, 16, 114, 162, 0, 18, 42, 180, 0, 9, 28, 43, 28, 46, 79, 132, 2, 1, 167, 255, 237]
abbrev dktX8_copyFrom_0 : List UInt8 := dkwX8_copyFrom_0 ++ dktX8_copyFrom_1
theorem dksX8_copyFrom_0 : cX8_copyFrom.data.toList.drop 0 = dktX8_copyFrom_0 := by decide +kernel
theorem dksX8_copyFrom_1 : cX8_copyFrom.data.toList.drop 24 = dktX8_copyFrom_1 := dk_seg dksX8_copyFrom_0 24 rfl rfl
theorem dX8_copyFrom_0 : decode cX8_copyFrom 0 = .ok (.iconst 0, 1) := dk_3 (dk_at dksX8_copyFrom_0 0 rfl rfl)
theorem dX8_copyFrom_1 : decode cX8_copyFrom 1 = .ok (.istore_n 2, 1) := dk_61 (dk_at dksX8_copyFrom_0 1 rfl rfl)
theorem dX8_copyFrom_2 : decode cX8_copyFrom 2 = .ok (.iload_n 2, 1) := dk_28 (dk_at dksX8_copyFrom_0 2 rfl rfl)
theorem dX8_copyFrom_3 : decode cX8_copyFrom 3 = .ok (.sipush 4210, 3) := dk_17 16 114 (dk_at dksX8_copyFrom_0 3 rfl rfl)
theorem dX8_copyFrom_6 : decode cX8_copyFrom 6 = .ok (.if_icmp .ge 18, 3) := dk_162 0 18 (dk_at dksX8_copyFrom_0 6 rfl rfl)
theorem dX8_copyFrom_9 : decode cX8_copyFrom 9 = .ok (.aload_n 0, 1) := dk_42 (dk_at dksX8_copyFrom_0 9 rfl rfl)
theorem dX8_copyFrom_10 : decode cX8_copyFrom 10 = .ok (.getfield 9, 3) := dk_180 0 9 (dk_at dksX8_copyFrom_0 10 rfl rfl)
theorem dX8_copyFrom_13 : decode cX8_copyFrom 13 = .ok (.iload_n 2, 1) := dk_28 (dk_at dksX8_copyFrom_0 13 rfl rfl)
theorem dX8_copyFrom_14 : decode cX8_copyFrom 14 = .ok (.aload_n 1, 1) := dk_43 (dk_at dksX8_copyFrom_0 14 rfl rfl)
theorem dX8_copyFrom_15 : decode cX8_copyFrom 15 = .ok (.iload_n 2, 1) := dk_28 (dk_at dksX8_copyFrom_0 15 rfl rfl)
theorem dX8_copyFrom_16 : decode cX8_copyFrom 16 = .ok (.iaload, 1) := dk_46 (dk_at dksX8_copyFrom_0 16 rfl rfl)
theorem dX8_copyFrom_17 : decode cX8_copyFrom 17 = .ok (.iastore, 1) := dk_79 (dk_at dksX8_copyFrom_0 17 rfl rfl)
theorem dX8_copyFrom_18 : decode cX8_copyFrom 18 = .ok (.iinc 2 1, 3) := dk_132 2 1 (dk_at dksX8_copyFrom_0 18 rfl rfl)
theorem dX8_copyFrom_21 : decode cX8_copyFrom 21 = .ok (.goto (-19), 3) := dk_167 255 237 (dk_at dksX8_copyFrom_0 21 rfl rfl)
theorem dX8_copyFrom_24 : decode cX8_copyFrom 24 = .ok (.return_, 1) := dk_177 (dk_at dksX8_copyFrom_1 0 rfl rfl)
theorem q164 : (Jvm.Cond.initialized "VectorVersionsModel") ∈ lw_all := lw_g (lw_at lw_m1 30 rfl) rfl
theorem q298 : (Jvm.Cond.selects "VectorVersionsModel" ({ cls := "java/lang/Object", name := "getClass", desc := "()Ljava/lang/Class;" } : Jvm.MethodName) ({ cls := "java/lang/Object", name := "getClass", desc := "()Ljava/lang/Class;" } : Jvm.MethodName)) ∈ lw_all := lw_g (lw_at lw_m1 164 rfl) rfl
theorem q2441 : (Jvm.Cond.instantiable "VectorVersionsModel" (28 : Nat)) ∈ lw_all := lw_g (lw_at lw_m10 147 rfl) rfl
theorem q2443 : (Jvm.Cond.instanceMethod ({ cls := "VectorVersionsModel", name := "<init>", desc := "()V" } : Jvm.MethodName)) ∈ lw_all := lw_g (lw_at lw_m10 149 rfl) rfl
theorem q2444 : (Jvm.Cond.code ({ cls := "VectorVersionsModel", name := "<init>", desc := "()V" } : Jvm.MethodName) prog_18_method_1_code (3 : Nat) (Option.none : Option Jvm.ClassFile.FieldType)) ∈ lw_all := lw_g (lw_at lw_m10 150 rfl) rfl
theorem q2445 : (Jvm.Cond.methodLink "VectorVersionsModel" (3 : Nat) ({ cls := "java/lang/Object", name := "<init>", desc := "()V" } : Jvm.MethodName)) ∈ lw_all := lw_g (lw_at lw_m10 151 rfl) rfl
theorem q2446 : (Jvm.Cond.constant "VectorVersionsModel" (19 : Nat) (33680 : Int32)) ∈ lw_all := lw_g (lw_at lw_m10 152 rfl) rfl
theorem q2447 : (Jvm.Cond.methodLink "VectorVersionsModel" (55 : Nat) ({ cls := "VectorVersionsModel", name := "begin", desc := "()V" } : Jvm.MethodName)) ∈ lw_all := lw_g (lw_at lw_m10 153 rfl) rfl
theorem q2448 : (Jvm.Cond.privateMethod ({ cls := "VectorVersionsModel", name := "begin", desc := "()V" } : Jvm.MethodName)) ∈ lw_tbl := lw_at lw_m10 154 rfl
theorem q2449 : (Jvm.Cond.instanceMethod ({ cls := "VectorVersionsModel", name := "begin", desc := "()V" } : Jvm.MethodName)) ∈ lw_all := lw_g (lw_at lw_m10 155 rfl) rfl
theorem q2450 : (Jvm.Cond.code ({ cls := "VectorVersionsModel", name := "begin", desc := "()V" } : Jvm.MethodName) prog_18_method_33_code (4 : Nat) (Option.none : Option Jvm.ClassFile.FieldType)) ∈ lw_all := lw_g (lw_at lw_m10 156 rfl) rfl
theorem q2451 : (Jvm.Cond.methodLink "VectorVersionsModel" (132 : Nat) ({ cls := "VectorVersionsModel", name := "clear", desc := "()V" } : Jvm.MethodName)) ∈ lw_all := lw_g (lw_at lw_m10 157 rfl) rfl
theorem q2452 : (Jvm.Cond.privateMethod ({ cls := "VectorVersionsModel", name := "clear", desc := "()V" } : Jvm.MethodName)) ∈ lw_tbl := lw_at lw_m10 158 rfl
theorem q2453 : (Jvm.Cond.instanceMethod ({ cls := "VectorVersionsModel", name := "clear", desc := "()V" } : Jvm.MethodName)) ∈ lw_all := lw_g (lw_at lw_m10 159 rfl) rfl
theorem q2454 : (Jvm.Cond.code ({ cls := "VectorVersionsModel", name := "clear", desc := "()V" } : Jvm.MethodName) prog_18_method_9_code (2 : Nat) (Option.none : Option Jvm.ClassFile.FieldType)) ∈ lw_all := lw_g (lw_at lw_m10 160 rfl) rfl
theorem q2455 : (Jvm.Cond.methodLink "VectorVersionsModel" (135 : Nat) ({ cls := "VectorVersionsModel", name := "makeLeaves", desc := "()I" } : Jvm.MethodName)) ∈ lw_all := lw_g (lw_at lw_m10 161 rfl) rfl
theorem q2456 : (Jvm.Cond.privateMethod ({ cls := "VectorVersionsModel", name := "makeLeaves", desc := "()I" } : Jvm.MethodName)) ∈ lw_tbl := lw_at lw_m10 162 rfl
theorem q2457 : (Jvm.Cond.instanceMethod ({ cls := "VectorVersionsModel", name := "makeLeaves", desc := "()I" } : Jvm.MethodName)) ∈ lw_all := lw_g (lw_at lw_m10 163 rfl) rfl
theorem q2458 : (Jvm.Cond.code ({ cls := "VectorVersionsModel", name := "makeLeaves", desc := "()I" } : Jvm.MethodName) prog_18_method_31_code (5 : Nat) (Option.some Jvm.ClassFile.FieldType.int)) ∈ lw_all := lw_g (lw_at lw_m10 164 rfl) rfl
theorem q2459 : (Jvm.Cond.methodLink "VectorVersionsModel" (124 : Nat) ({ cls := "java/lang/Math", name := "min", desc := "(II)I" } : Jvm.MethodName)) ∈ lw_all := lw_g (lw_at lw_m10 165 rfl) rfl
theorem q2460 : (Jvm.Cond.methodLink "VectorVersionsModel" (86 : Nat) ({ cls := "VectorVersionsModel", name := "makeNode", desc := "(ZI)I" } : Jvm.MethodName)) ∈ lw_all := lw_g (lw_at lw_m10 166 rfl) rfl
theorem q2461 : (Jvm.Cond.privateMethod ({ cls := "VectorVersionsModel", name := "makeNode", desc := "(ZI)I" } : Jvm.MethodName)) ∈ lw_tbl := lw_at lw_m10 167 rfl
theorem q2462 : (Jvm.Cond.instanceMethod ({ cls := "VectorVersionsModel", name := "makeNode", desc := "(ZI)I" } : Jvm.MethodName)) ∈ lw_all := lw_g (lw_at lw_m10 168 rfl) rfl
theorem q2463 : (Jvm.Cond.code ({ cls := "VectorVersionsModel", name := "makeNode", desc := "(ZI)I" } : Jvm.MethodName) prog_18_method_19_code (5 : Nat) (Option.some Jvm.ClassFile.FieldType.int)) ∈ lw_all := lw_g (lw_at lw_m10 169 rfl) rfl
theorem q2464 : (Jvm.Cond.methodLink "VectorVersionsModel" (68 : Nat) ({ cls := "VectorVersionsModel", name := "n", desc := "(I)I" } : Jvm.MethodName)) ∈ lw_all := lw_g (lw_at lw_m10 170 rfl) rfl
theorem q2465 : (Jvm.Cond.static ({ cls := "VectorVersionsModel", name := "n", desc := "(I)I" } : Jvm.MethodName)) ∈ lw_all := lw_g (lw_at lw_m10 171 rfl) rfl
theorem q2466 : (Jvm.Cond.code ({ cls := "VectorVersionsModel", name := "n", desc := "(I)I" } : Jvm.MethodName) prog_18_method_8_code (1 : Nat) (Option.some Jvm.ClassFile.FieldType.int)) ∈ lw_all := lw_g (lw_at lw_m10 172 rfl) rfl
theorem q2467 : (Jvm.Cond.methodLink "VectorVersionsModel" (75 : Nat) ({ cls := "VectorVersionsModel", name := "one", desc := "(Z)I" } : Jvm.MethodName)) ∈ lw_all := lw_g (lw_at lw_m10 173 rfl) rfl
theorem q2468 : (Jvm.Cond.static ({ cls := "VectorVersionsModel", name := "one", desc := "(Z)I" } : Jvm.MethodName)) ∈ lw_all := lw_g (lw_at lw_m10 174 rfl) rfl
theorem q2469 : (Jvm.Cond.code ({ cls := "VectorVersionsModel", name := "one", desc := "(Z)I" } : Jvm.MethodName) prog_18_method_4_code (1 : Nat) (Option.some Jvm.ClassFile.FieldType.int)) ∈ lw_all := lw_g (lw_at lw_m10 175 rfl) rfl
theorem q2470 : (Jvm.Cond.methodLink "VectorVersionsModel" (139 : Nat) ({ cls := "VectorVersionsModel", name := "makeLevel", desc := "(I)I" } : Jvm.MethodName)) ∈ lw_all := lw_g (lw_at lw_m10 176 rfl) rfl
theorem q2471 : (Jvm.Cond.privateMethod ({ cls := "VectorVersionsModel", name := "makeLevel", desc := "(I)I" } : Jvm.MethodName)) ∈ lw_tbl := lw_at lw_m10 177 rfl
theorem q2472 : (Jvm.Cond.instanceMethod ({ cls := "VectorVersionsModel", name := "makeLevel", desc := "(I)I" } : Jvm.MethodName)) ∈ lw_all := lw_g (lw_at lw_m10 178 rfl) rfl
theorem q2473 : (Jvm.Cond.code ({ cls := "VectorVersionsModel", name := "makeLevel", desc := "(I)I" } : Jvm.MethodName) prog_18_method_32_code (6 : Nat) (Option.some Jvm.ClassFile.FieldType.int)) ∈ lw_all := lw_g (lw_at lw_m10 179 rfl) rfl
theorem q2474 : (Jvm.Cond.methodLink "VectorVersionsModel" (142 : Nat) ({ cls := "VectorVersionsModel", name := "addVersion", desc := "(IIII)I" } : Jvm.MethodName)) ∈ lw_all := lw_g (lw_at lw_m10 180 rfl) rfl
theorem q2475 : (Jvm.Cond.privateMethod ({ cls := "VectorVersionsModel", name := "addVersion", desc := "(IIII)I" } : Jvm.MethodName)) ∈ lw_tbl := lw_at lw_m10 181 rfl
theorem q2476 : (Jvm.Cond.instanceMethod ({ cls := "VectorVersionsModel", name := "addVersion", desc := "(IIII)I" } : Jvm.MethodName)) ∈ lw_all := lw_g (lw_at lw_m10 182 rfl) rfl
theorem q2477 : (Jvm.Cond.code ({ cls := "VectorVersionsModel", name := "addVersion", desc := "(IIII)I" } : Jvm.MethodName) prog_18_method_30_code (9 : Nat) (Option.some Jvm.ClassFile.FieldType.int)) ∈ lw_all := lw_g (lw_at lw_m10 183 rfl) rfl
theorem q2478 : (Jvm.Cond.methodLink "VectorVersionsModel" (112 : Nat) ({ cls := "VectorVersionsModel", name := "v", desc := "(I)I" } : Jvm.MethodName)) ∈ lw_all := lw_g (lw_at lw_m10 184 rfl) rfl
theorem q2479 : (Jvm.Cond.static ({ cls := "VectorVersionsModel", name := "v", desc := "(I)I" } : Jvm.MethodName)) ∈ lw_all := lw_g (lw_at lw_m10 185 rfl) rfl
theorem q2480 : (Jvm.Cond.code ({ cls := "VectorVersionsModel", name := "v", desc := "(I)I" } : Jvm.MethodName) prog_18_method_6_code (1 : Nat) (Option.some Jvm.ClassFile.FieldType.int)) ∈ lw_all := lw_g (lw_at lw_m10 186 rfl) rfl
theorem q2481 : (Jvm.Cond.methodLink "VectorVersionsModel" (118 : Nat) ({ cls := "VectorVersionsModel", name := "heightFor", desc := "(I)I" } : Jvm.MethodName)) ∈ lw_all := lw_g (lw_at lw_m10 187 rfl) rfl
theorem q2482 : (Jvm.Cond.static ({ cls := "VectorVersionsModel", name := "heightFor", desc := "(I)I" } : Jvm.MethodName)) ∈ lw_all := lw_g (lw_at lw_m10 188 rfl) rfl
theorem q2483 : (Jvm.Cond.code ({ cls := "VectorVersionsModel", name := "heightFor", desc := "(I)I" } : Jvm.MethodName) prog_18_method_14_code (2 : Nat) (Option.some Jvm.ClassFile.FieldType.int)) ∈ lw_all := lw_g (lw_at lw_m10 189 rfl) rfl
theorem q2484 : (Jvm.Cond.methodLink "VectorVersionsModel" (64 : Nat) ({ cls := "VectorVersionsModel", name := "span", desc := "(I)I" } : Jvm.MethodName)) ∈ lw_all := lw_g (lw_at lw_m10 190 rfl) rfl
theorem q2485 : (Jvm.Cond.static ({ cls := "VectorVersionsModel", name := "span", desc := "(I)I" } : Jvm.MethodName)) ∈ lw_all := lw_g (lw_at lw_m10 191 rfl) rfl
theorem q2486 : (Jvm.Cond.code ({ cls := "VectorVersionsModel", name := "span", desc := "(I)I" } : Jvm.MethodName) prog_18_method_13_code (3 : Nat) (Option.some Jvm.ClassFile.FieldType.int)) ∈ lw_all := lw_g (lw_at lw_m10 192 rfl) rfl
theorem q2487 : (Jvm.Cond.methodLink "VectorVersionsModel" (121 : Nat) ({ cls := "VectorVersionsModel", name := "lengthOf", desc := "(I)I" } : Jvm.MethodName)) ∈ lw_all := lw_g (lw_at lw_m10 193 rfl) rfl
theorem q2488 : (Jvm.Cond.privateMethod ({ cls := "VectorVersionsModel", name := "lengthOf", desc := "(I)I" } : Jvm.MethodName)) ∈ lw_tbl := lw_at lw_m10 194 rfl
theorem q2489 : (Jvm.Cond.instanceMethod ({ cls := "VectorVersionsModel", name := "lengthOf", desc := "(I)I" } : Jvm.MethodName)) ∈ lw_all := lw_g (lw_at lw_m10 195 rfl) rfl
theorem q2490 : (Jvm.Cond.code ({ cls := "VectorVersionsModel", name := "lengthOf", desc := "(I)I" } : Jvm.MethodName) prog_18_method_25_code (2 : Nat) (Option.some Jvm.ClassFile.FieldType.int)) ∈ lw_all := lw_g (lw_at lw_m10 196 rfl) rfl
theorem q2491 : (Jvm.Cond.methodLink "VectorVersionsModel" (115 : Nat) ({ cls := "VectorVersionsModel", name := "e", desc := "(I)I" } : Jvm.MethodName)) ∈ lw_all := lw_g (lw_at lw_m10 197 rfl) rfl
theorem q2492 : (Jvm.Cond.static ({ cls := "VectorVersionsModel", name := "e", desc := "(I)I" } : Jvm.MethodName)) ∈ lw_all := lw_g (lw_at lw_m10 198 rfl) rfl
theorem q2493 : (Jvm.Cond.code ({ cls := "VectorVersionsModel", name := "e", desc := "(I)I" } : Jvm.MethodName) prog_18_method_7_code (1 : Nat) (Option.some Jvm.ClassFile.FieldType.int)) ∈ lw_all := lw_g (lw_at lw_m10 199 rfl) rfl
theorem q2494 : (Jvm.Cond.methodLink "VectorVersionsModel" (129 : Nat) ({ cls := "VectorVersionsModel", name := "element", desc := "(II)I" } : Jvm.MethodName)) ∈ lw_all := lw_g (lw_at lw_m10 200 rfl) rfl
theorem q2495 : (Jvm.Cond.privateMethod ({ cls := "VectorVersionsModel", name := "element", desc := "(II)I" } : Jvm.MethodName)) ∈ lw_tbl := lw_at lw_m10 201 rfl
theorem q2496 : (Jvm.Cond.instanceMethod ({ cls := "VectorVersionsModel", name := "element", desc := "(II)I" } : Jvm.MethodName)) ∈ lw_all := lw_g (lw_at lw_m10 202 rfl) rfl
theorem q2497 : (Jvm.Cond.code ({ cls := "VectorVersionsModel", name := "element", desc := "(II)I" } : Jvm.MethodName) prog_18_method_29_code (3 : Nat) (Option.some Jvm.ClassFile.FieldType.int)) ∈ lw_all := lw_g (lw_at lw_m10 203 rfl) rfl
theorem q2498 : (Jvm.Cond.fieldLink "VectorVersionsModel" (9 : Nat) "VectorVersionsModel" "state" "[I") ∈ lw_all := lw_g (lw_at lw_m10 204 rfl) rfl
theorem q2499 : (Jvm.Cond.fieldLink "VectorVersionsModel" (13 : Nat) "VectorVersionsModel" "aside" "[I") ∈ lw_all := lw_g (lw_at lw_m10 205 rfl) rfl
theorem q2500 : (Jvm.Cond.fieldLink "VectorVersionsModel" (16 : Nat) "VectorVersionsModel" "savedOne" "[I") ∈ lw_all := lw_g (lw_at lw_m10 206 rfl) rfl
theorem q2501 : (Jvm.Cond.fieldLink "VectorVersionsModel" (20 : Nat) "VectorVersionsModel" "past" "[I") ∈ lw_all := lw_g (lw_at lw_m10 207 rfl) rfl
theorem q2502 : (Jvm.Cond.fieldLink "VectorVersionsModel" (61 : Nat) "VectorVersionsModel" "pastCount" "I") ∈ lw_all := lw_g (lw_at lw_m10 208 rfl) rfl
theorem q2503 : (Jvm.Cond.fieldLink "VectorVersionsModel" (262 : Nat) "VectorVersionsModel" "isSaved" "Z") ∈ lw_all := lw_g (lw_at lw_m10 209 rfl) rfl
theorem q2504 : (Jvm.Cond.fieldLink "VectorVersionsModel" (58 : Nat) "VectorVersionsModel" "thrown" "I") ∈ lw_all := lw_g (lw_at lw_m10 210 rfl) rfl
theorem q2505 : (Jvm.Cond.fieldLink "VectorVersionsModel" (23 : Nat) "VectorVersionsModel" "entries" "[I") ∈ lw_all := lw_g (lw_at lw_m10 211 rfl) rfl
theorem q2506 : (Jvm.Cond.fieldLink "VectorVersionsModel" (26 : Nat) "VectorVersionsModel" "values" "[I") ∈ lw_all := lw_g (lw_at lw_m10 212 rfl) rfl
theorem q2507 : (Jvm.Cond.fieldLink "VectorVersionsModel" (52 : Nat) "VectorVersionsModel" "valueCount" "I") ∈ lw_all := lw_g (lw_at lw_m10 213 rfl) rfl
theorem q2508 : (Jvm.Cond.fieldLink "VectorVersionsModel" (29 : Nat) "VectorVersionsModel" "level" "[I") ∈ lw_all := lw_g (lw_at lw_m10 214 rfl) rfl
theorem q2509 : (Jvm.Cond.fieldLink "VectorVersionsModel" (32 : Nat) "VectorVersionsModel" "reached" "[I") ∈ lw_all := lw_g (lw_at lw_m10 215 rfl) rfl
theorem q2510 : (Jvm.Cond.fieldLink "VectorVersionsModel" (35 : Nat) "VectorVersionsModel" "buffer" "[B") ∈ lw_all := lw_g (lw_at lw_m10 216 rfl) rfl
theorem q2511 : (Jvm.Cond.fieldLink "VectorVersionsModel" (180 : Nat) "VectorVersionsModel" "length" "I") ∈ lw_all := lw_g (lw_at lw_m10 217 rfl) rfl
theorem q2512 : (Jvm.Cond.fieldLink "VectorVersionsModel" (186 : Nat) "VectorVersionsModel" "errorCode" "I") ∈ lw_all := lw_g (lw_at lw_m10 218 rfl) rfl
theorem q2513 : (Jvm.Cond.fieldLink "VectorVersionsModel" (39 : Nat) "VectorVersionsModel" "errorOffset" "I") ∈ lw_all := lw_g (lw_at lw_m10 219 rfl) rfl
theorem q2514 : (Jvm.Cond.fieldLink "VectorVersionsModel" (203 : Nat) "VectorVersionsModel" "start" "I") ∈ lw_all := lw_g (lw_at lw_m10 220 rfl) rfl
theorem q2515 : (Jvm.Cond.fieldLink "VectorVersionsModel" (200 : Nat) "VectorVersionsModel" "end" "I") ∈ lw_all := lw_g (lw_at lw_m10 221 rfl) rfl
theorem q2516 : (Jvm.Cond.fieldLink "VectorVersionsModel" (206 : Nat) "VectorVersionsModel" "token" "I") ∈ lw_all := lw_g (lw_at lw_m10 222 rfl) rfl
theorem q2517 : (Jvm.Cond.fieldLink "VectorVersionsModel" (215 : Nat) "VectorVersionsModel" "value" "I") ∈ lw_all := lw_g (lw_at lw_m10 223 rfl) rfl
theorem q2518 : (Jvm.Cond.fieldLink "VectorVersionsModel" (197 : Nat) "VectorVersionsModel" "fault" "I") ∈ lw_all := lw_g (lw_at lw_m10 224 rfl) rfl
theorem q2519 : (Jvm.Cond.fieldLink "VectorVersionsModel" (218 : Nat) "VectorVersionsModel" "faultOffset" "I") ∈ lw_all := lw_g (lw_at lw_m10 225 rfl) rfl
theorem q2520 : (Jvm.Cond.fieldLink "VectorVersionsModel" (43 : Nat) "VectorVersionsModel" "statements" "[I") ∈ lw_all := lw_g (lw_at lw_m10 226 rfl) rfl
theorem q2521 : (Jvm.Cond.fieldLink "VectorVersionsModel" (279 : Nat) "VectorVersionsModel" "statementCount" "I") ∈ lw_all := lw_g (lw_at lw_m10 227 rfl) rfl
theorem q2522 : (Jvm.Cond.fieldLink "VectorVersionsModel" (46 : Nat) "VectorVersionsModel" "met" "[I") ∈ lw_all := lw_g (lw_at lw_m10 228 rfl) rfl
theorem q2523 : (Jvm.Cond.fieldLink "VectorVersionsModel" (383 : Nat) "VectorVersionsModel" "metCount" "I") ∈ lw_all := lw_g (lw_at lw_m10 229 rfl) rfl
theorem q2524 : (Jvm.Cond.fieldLink "VectorVersionsModel" (49 : Nat) "VectorVersionsModel" "output" "[B") ∈ lw_all := lw_g (lw_at lw_m10 230 rfl) rfl
theorem q2525 : (Jvm.Cond.fieldLink "VectorVersionsModel" (402 : Nat) "VectorVersionsModel" "outputLength" "I") ∈ lw_all := lw_g (lw_at lw_m10 231 rfl) rfl
theorem q2526 : (Jvm.Cond.laysFinal "VectorVersionsModel" "VectorVersionsModel" "state" "[I") ∈ lw_all := lw_g (lw_at lw_m10 232 rfl) rfl
theorem q2527 : (Jvm.Cond.soleField "VectorVersionsModel" "state") ∈ lw_all := lw_g (lw_at lw_m10 233 rfl) rfl
theorem q2528 : (Jvm.Cond.laysFinal "VectorVersionsModel" "VectorVersionsModel" "aside" "[I") ∈ lw_all := lw_g (lw_at lw_m10 234 rfl) rfl
theorem q2529 : (Jvm.Cond.soleField "VectorVersionsModel" "aside") ∈ lw_all := lw_g (lw_at lw_m10 235 rfl) rfl
theorem q2530 : (Jvm.Cond.laysFinal "VectorVersionsModel" "VectorVersionsModel" "savedOne" "[I") ∈ lw_all := lw_g (lw_at lw_m10 236 rfl) rfl
theorem q2531 : (Jvm.Cond.soleField "VectorVersionsModel" "savedOne") ∈ lw_all := lw_g (lw_at lw_m10 237 rfl) rfl
theorem q2532 : (Jvm.Cond.laysFinal "VectorVersionsModel" "VectorVersionsModel" "past" "[I") ∈ lw_all := lw_g (lw_at lw_m10 238 rfl) rfl
theorem q2533 : (Jvm.Cond.soleField "VectorVersionsModel" "past") ∈ lw_all := lw_g (lw_at lw_m10 239 rfl) rfl
theorem q2534 : (Jvm.Cond.lays "VectorVersionsModel" "VectorVersionsModel" "pastCount" "I") ∈ lw_all := lw_g (lw_at lw_m11 0 rfl) rfl
theorem q2535 : (Jvm.Cond.soleField "VectorVersionsModel" "pastCount") ∈ lw_all := lw_g (lw_at lw_m11 1 rfl) rfl
theorem q2536 : (Jvm.Cond.lays "VectorVersionsModel" "VectorVersionsModel" "isSaved" "Z") ∈ lw_all := lw_g (lw_at lw_m11 2 rfl) rfl
theorem q2537 : (Jvm.Cond.soleField "VectorVersionsModel" "isSaved") ∈ lw_all := lw_g (lw_at lw_m11 3 rfl) rfl
theorem q2538 : (Jvm.Cond.lays "VectorVersionsModel" "VectorVersionsModel" "thrown" "I") ∈ lw_all := lw_g (lw_at lw_m11 4 rfl) rfl
theorem q2539 : (Jvm.Cond.soleField "VectorVersionsModel" "thrown") ∈ lw_all := lw_g (lw_at lw_m11 5 rfl) rfl
theorem q2540 : (Jvm.Cond.laysFinal "VectorVersionsModel" "VectorVersionsModel" "entries" "[I") ∈ lw_all := lw_g (lw_at lw_m11 6 rfl) rfl
theorem q2541 : (Jvm.Cond.soleField "VectorVersionsModel" "entries") ∈ lw_all := lw_g (lw_at lw_m11 7 rfl) rfl
theorem q2542 : (Jvm.Cond.laysFinal "VectorVersionsModel" "VectorVersionsModel" "values" "[I") ∈ lw_all := lw_g (lw_at lw_m11 8 rfl) rfl
theorem q2543 : (Jvm.Cond.soleField "VectorVersionsModel" "values") ∈ lw_all := lw_g (lw_at lw_m11 9 rfl) rfl
theorem q2544 : (Jvm.Cond.lays "VectorVersionsModel" "VectorVersionsModel" "valueCount" "I") ∈ lw_all := lw_g (lw_at lw_m11 10 rfl) rfl
theorem q2545 : (Jvm.Cond.soleField "VectorVersionsModel" "valueCount") ∈ lw_all := lw_g (lw_at lw_m11 11 rfl) rfl
theorem q2546 : (Jvm.Cond.laysFinal "VectorVersionsModel" "VectorVersionsModel" "level" "[I") ∈ lw_all := lw_g (lw_at lw_m11 12 rfl) rfl
theorem q2547 : (Jvm.Cond.soleField "VectorVersionsModel" "level") ∈ lw_all := lw_g (lw_at lw_m11 13 rfl) rfl
theorem q2548 : (Jvm.Cond.laysFinal "VectorVersionsModel" "VectorVersionsModel" "reached" "[I") ∈ lw_all := lw_g (lw_at lw_m11 14 rfl) rfl
theorem q2549 : (Jvm.Cond.soleField "VectorVersionsModel" "reached") ∈ lw_all := lw_g (lw_at lw_m11 15 rfl) rfl
theorem q2550 : (Jvm.Cond.laysFinal "VectorVersionsModel" "VectorVersionsModel" "buffer" "[B") ∈ lw_all := lw_g (lw_at lw_m11 16 rfl) rfl
theorem q2551 : (Jvm.Cond.soleField "VectorVersionsModel" "buffer") ∈ lw_all := lw_g (lw_at lw_m11 17 rfl) rfl
theorem q2552 : (Jvm.Cond.lays "VectorVersionsModel" "VectorVersionsModel" "length" "I") ∈ lw_all := lw_g (lw_at lw_m11 18 rfl) rfl
theorem q2553 : (Jvm.Cond.soleField "VectorVersionsModel" "length") ∈ lw_all := lw_g (lw_at lw_m11 19 rfl) rfl
theorem q2554 : (Jvm.Cond.lays "VectorVersionsModel" "VectorVersionsModel" "errorCode" "I") ∈ lw_all := lw_g (lw_at lw_m11 20 rfl) rfl
theorem q2555 : (Jvm.Cond.soleField "VectorVersionsModel" "errorCode") ∈ lw_all := lw_g (lw_at lw_m11 21 rfl) rfl
theorem q2556 : (Jvm.Cond.lays "VectorVersionsModel" "VectorVersionsModel" "errorOffset" "I") ∈ lw_all := lw_g (lw_at lw_m11 22 rfl) rfl
theorem q2557 : (Jvm.Cond.soleField "VectorVersionsModel" "errorOffset") ∈ lw_all := lw_g (lw_at lw_m11 23 rfl) rfl
theorem q2558 : (Jvm.Cond.lays "VectorVersionsModel" "VectorVersionsModel" "start" "I") ∈ lw_all := lw_g (lw_at lw_m11 24 rfl) rfl
theorem q2559 : (Jvm.Cond.soleField "VectorVersionsModel" "start") ∈ lw_all := lw_g (lw_at lw_m11 25 rfl) rfl
theorem q2560 : (Jvm.Cond.lays "VectorVersionsModel" "VectorVersionsModel" "end" "I") ∈ lw_all := lw_g (lw_at lw_m11 26 rfl) rfl
theorem q2561 : (Jvm.Cond.soleField "VectorVersionsModel" "end") ∈ lw_all := lw_g (lw_at lw_m11 27 rfl) rfl
theorem q2562 : (Jvm.Cond.lays "VectorVersionsModel" "VectorVersionsModel" "token" "I") ∈ lw_all := lw_g (lw_at lw_m11 28 rfl) rfl
theorem q2563 : (Jvm.Cond.soleField "VectorVersionsModel" "token") ∈ lw_all := lw_g (lw_at lw_m11 29 rfl) rfl
theorem q2564 : (Jvm.Cond.lays "VectorVersionsModel" "VectorVersionsModel" "value" "I") ∈ lw_all := lw_g (lw_at lw_m11 30 rfl) rfl
theorem q2565 : (Jvm.Cond.soleField "VectorVersionsModel" "value") ∈ lw_all := lw_g (lw_at lw_m11 31 rfl) rfl
theorem q2566 : (Jvm.Cond.lays "VectorVersionsModel" "VectorVersionsModel" "fault" "I") ∈ lw_all := lw_g (lw_at lw_m11 32 rfl) rfl
theorem q2567 : (Jvm.Cond.soleField "VectorVersionsModel" "fault") ∈ lw_all := lw_g (lw_at lw_m11 33 rfl) rfl
theorem q2568 : (Jvm.Cond.lays "VectorVersionsModel" "VectorVersionsModel" "faultOffset" "I") ∈ lw_all := lw_g (lw_at lw_m11 34 rfl) rfl
theorem q2569 : (Jvm.Cond.soleField "VectorVersionsModel" "faultOffset") ∈ lw_all := lw_g (lw_at lw_m11 35 rfl) rfl
theorem q2570 : (Jvm.Cond.laysFinal "VectorVersionsModel" "VectorVersionsModel" "statements" "[I") ∈ lw_all := lw_g (lw_at lw_m11 36 rfl) rfl
theorem q2571 : (Jvm.Cond.soleField "VectorVersionsModel" "statements") ∈ lw_all := lw_g (lw_at lw_m11 37 rfl) rfl
theorem q2572 : (Jvm.Cond.lays "VectorVersionsModel" "VectorVersionsModel" "statementCount" "I") ∈ lw_all := lw_g (lw_at lw_m11 38 rfl) rfl
theorem q2573 : (Jvm.Cond.soleField "VectorVersionsModel" "statementCount") ∈ lw_all := lw_g (lw_at lw_m11 39 rfl) rfl
theorem q2574 : (Jvm.Cond.laysFinal "VectorVersionsModel" "VectorVersionsModel" "met" "[I") ∈ lw_all := lw_g (lw_at lw_m11 40 rfl) rfl
theorem q2575 : (Jvm.Cond.soleField "VectorVersionsModel" "met") ∈ lw_all := lw_g (lw_at lw_m11 41 rfl) rfl
theorem q2576 : (Jvm.Cond.lays "VectorVersionsModel" "VectorVersionsModel" "metCount" "I") ∈ lw_all := lw_g (lw_at lw_m11 42 rfl) rfl
theorem q2577 : (Jvm.Cond.soleField "VectorVersionsModel" "metCount") ∈ lw_all := lw_g (lw_at lw_m11 43 rfl) rfl
theorem q2578 : (Jvm.Cond.laysFinal "VectorVersionsModel" "VectorVersionsModel" "output" "[B") ∈ lw_all := lw_g (lw_at lw_m11 44 rfl) rfl
theorem q2579 : (Jvm.Cond.soleField "VectorVersionsModel" "output") ∈ lw_all := lw_g (lw_at lw_m11 45 rfl) rfl
theorem q2580 : (Jvm.Cond.lays "VectorVersionsModel" "VectorVersionsModel" "outputLength" "I") ∈ lw_all := lw_g (lw_at lw_m11 46 rfl) rfl
theorem q2581 : (Jvm.Cond.soleField "VectorVersionsModel" "outputLength") ∈ lw_all := lw_g (lw_at lw_m11 47 rfl) rfl
theorem q2582 : (Jvm.Cond.superclass "VectorVersionsModel" "java/lang/Object") ∈ lw_all := lw_g (lw_at lw_m11 48 rfl) rfl
theorem q2584 : (Jvm.Cond.instanceMethod ({ cls := "VectorVersionsModel", name := "thrown", desc := "()I" } : Jvm.MethodName)) ∈ lw_all := lw_g (lw_at lw_m11 50 rfl) rfl
theorem q2585 : (Jvm.Cond.selects "VectorVersionsModel" ({ cls := "VectorVersionsModel", name := "thrown", desc := "()I" } : Jvm.MethodName) ({ cls := "VectorVersionsModel", name := "thrown", desc := "()I" } : Jvm.MethodName)) ∈ lw_all := lw_g (lw_at lw_m11 51 rfl) rfl
theorem q2586 : (Jvm.Cond.code ({ cls := "VectorVersionsModel", name := "thrown", desc := "()I" } : Jvm.MethodName) prog_18_method_2_code (1 : Nat) (Option.some Jvm.ClassFile.FieldType.int)) ∈ lw_all := lw_g (lw_at lw_m11 52 rfl) rfl
theorem q2588 : (Jvm.Cond.instanceMethod ({ cls := "VectorVersionsModel", name := "appendInput", desc := "(IIIII)I" } : Jvm.MethodName)) ∈ lw_all := lw_g (lw_at lw_m11 54 rfl) rfl
theorem q2589 : (Jvm.Cond.selects "VectorVersionsModel" ({ cls := "VectorVersionsModel", name := "appendInput", desc := "(IIIII)I" } : Jvm.MethodName) ({ cls := "VectorVersionsModel", name := "appendInput", desc := "(IIIII)I" } : Jvm.MethodName)) ∈ lw_all := lw_g (lw_at lw_m11 55 rfl) rfl
theorem q2590 : (Jvm.Cond.code ({ cls := "VectorVersionsModel", name := "appendInput", desc := "(IIIII)I" } : Jvm.MethodName) prog_18_method_48_code (6 : Nat) (Option.some Jvm.ClassFile.FieldType.int)) ∈ lw_all := lw_g (lw_at lw_m11 56 rfl) rfl
theorem q2591 : (Jvm.Cond.methodLink "VectorVersionsModel" (183 : Nat) ({ cls := "VectorVersionsModel", name := "appendWord", desc := "(I)V" } : Jvm.MethodName)) ∈ lw_all := lw_g (lw_at lw_m11 57 rfl) rfl
theorem q2592 : (Jvm.Cond.privateMethod ({ cls := "VectorVersionsModel", name := "appendWord", desc := "(I)V" } : Jvm.MethodName)) ∈ lw_tbl := lw_at lw_m11 58 rfl
theorem q2593 : (Jvm.Cond.instanceMethod ({ cls := "VectorVersionsModel", name := "appendWord", desc := "(I)V" } : Jvm.MethodName)) ∈ lw_all := lw_g (lw_at lw_m11 59 rfl) rfl
theorem q2594 : (Jvm.Cond.code ({ cls := "VectorVersionsModel", name := "appendWord", desc := "(I)V" } : Jvm.MethodName) prog_18_method_47_code (3 : Nat) (Option.none : Option Jvm.ClassFile.FieldType)) ∈ lw_all := lw_g (lw_at lw_m11 60 rfl) rfl
theorem q2596 : (Jvm.Cond.instanceMethod ({ cls := "VectorVersionsModel", name := "truncateInput", desc := "(I)Z" } : Jvm.MethodName)) ∈ lw_all := lw_g (lw_at lw_m11 62 rfl) rfl
theorem q2597 : (Jvm.Cond.selects "VectorVersionsModel" ({ cls := "VectorVersionsModel", name := "truncateInput", desc := "(I)Z" } : Jvm.MethodName) ({ cls := "VectorVersionsModel", name := "truncateInput", desc := "(I)Z" } : Jvm.MethodName)) ∈ lw_all := lw_g (lw_at lw_m11 63 rfl) rfl
theorem q2598 : (Jvm.Cond.code ({ cls := "VectorVersionsModel", name := "truncateInput", desc := "(I)Z" } : Jvm.MethodName) prog_18_method_49_code (2 : Nat) (Option.some Jvm.ClassFile.FieldType.boolean)) ∈ lw_all := lw_g (lw_at lw_m11 64 rfl) rfl
theorem q2599 : (Jvm.Cond.methodLink "VectorVersionsModel" (167 : Nat) ({ cls := "VectorVersionsModel", name := "isWithin", desc := "(JJJ)Z" } : Jvm.MethodName)) ∈ lw_all := lw_g (lw_at lw_m11 65 rfl) rfl
theorem q2600 : (Jvm.Cond.static ({ cls := "VectorVersionsModel", name := "isWithin", desc := "(JJJ)Z" } : Jvm.MethodName)) ∈ lw_all := lw_g (lw_at lw_m11 66 rfl) rfl
theorem q2601 : (Jvm.Cond.code ({ cls := "VectorVersionsModel", name := "isWithin", desc := "(JJJ)Z" } : Jvm.MethodName) prog_18_method_3_code (6 : Nat) (Option.some Jvm.ClassFile.FieldType.boolean)) ∈ lw_all := lw_g (lw_at lw_m11 67 rfl) rfl
theorem q2603 : (Jvm.Cond.instanceMethod ({ cls := "VectorVersionsModel", name := "errorCode", desc := "()I" } : Jvm.MethodName)) ∈ lw_all := lw_g (lw_at lw_m11 69 rfl) rfl
theorem q2604 : (Jvm.Cond.selects "VectorVersionsModel" ({ cls := "VectorVersionsModel", name := "errorCode", desc := "()I" } : Jvm.MethodName) ({ cls := "VectorVersionsModel", name := "errorCode", desc := "()I" } : Jvm.MethodName)) ∈ lw_all := lw_g (lw_at lw_m11 70 rfl) rfl
theorem q2605 : (Jvm.Cond.code ({ cls := "VectorVersionsModel", name := "errorCode", desc := "()I" } : Jvm.MethodName) prog_18_method_50_code (1 : Nat) (Option.some Jvm.ClassFile.FieldType.int)) ∈ lw_all := lw_g (lw_at lw_m11 71 rfl) rfl
theorem q2607 : (Jvm.Cond.instanceMethod ({ cls := "VectorVersionsModel", name := "errorOffset", desc := "()I" } : Jvm.MethodName)) ∈ lw_all := lw_g (lw_at lw_m11 73 rfl) rfl
theorem q2608 : (Jvm.Cond.selects "VectorVersionsModel" ({ cls := "VectorVersionsModel", name := "errorOffset", desc := "()I" } : Jvm.MethodName) ({ cls := "VectorVersionsModel", name := "errorOffset", desc := "()I" } : Jvm.MethodName)) ∈ lw_all := lw_g (lw_at lw_m11 74 rfl) rfl
theorem q2609 : (Jvm.Cond.code ({ cls := "VectorVersionsModel", name := "errorOffset", desc := "()I" } : Jvm.MethodName) prog_18_method_51_code (1 : Nat) (Option.some Jvm.ClassFile.FieldType.int)) ∈ lw_all := lw_g (lw_at lw_m11 75 rfl) rfl
theorem q2611 : (Jvm.Cond.instanceMethod ({ cls := "VectorVersionsModel", name := "loadSetup", desc := "()I" } : Jvm.MethodName)) ∈ lw_all := lw_g (lw_at lw_m11 77 rfl) rfl
theorem q2612 : (Jvm.Cond.selects "VectorVersionsModel" ({ cls := "VectorVersionsModel", name := "loadSetup", desc := "()I" } : Jvm.MethodName) ({ cls := "VectorVersionsModel", name := "loadSetup", desc := "()I" } : Jvm.MethodName)) ∈ lw_all := lw_g (lw_at lw_m11 78 rfl) rfl
theorem q2613 : (Jvm.Cond.code ({ cls := "VectorVersionsModel", name := "loadSetup", desc := "()I" } : Jvm.MethodName) prog_18_method_63_code (1 : Nat) (Option.some Jvm.ClassFile.FieldType.int)) ∈ lw_all := lw_g (lw_at lw_m11 79 rfl) rfl
theorem q2614 : (Jvm.Cond.methodLink "VectorVersionsModel" (253 : Nat) ({ cls := "VectorVersionsModel", name := "beginText", desc := "()V" } : Jvm.MethodName)) ∈ lw_all := lw_g (lw_at lw_m11 80 rfl) rfl
theorem q2615 : (Jvm.Cond.privateMethod ({ cls := "VectorVersionsModel", name := "beginText", desc := "()V" } : Jvm.MethodName)) ∈ lw_tbl := lw_at lw_m11 81 rfl
theorem q2616 : (Jvm.Cond.instanceMethod ({ cls := "VectorVersionsModel", name := "beginText", desc := "()V" } : Jvm.MethodName)) ∈ lw_all := lw_g (lw_at lw_m11 82 rfl) rfl
theorem q2617 : (Jvm.Cond.code ({ cls := "VectorVersionsModel", name := "beginText", desc := "()V" } : Jvm.MethodName) prog_18_method_56_code (1 : Nat) (Option.none : Option Jvm.ClassFile.FieldType)) ∈ lw_all := lw_g (lw_at lw_m11 83 rfl) rfl
theorem q2618 : (Jvm.Cond.methodLink "VectorVersionsModel" (221 : Nat) ({ cls := "VectorVersionsModel", name := "advanceToken", desc := "()V" } : Jvm.MethodName)) ∈ lw_all := lw_g (lw_at lw_m11 84 rfl) rfl
theorem q2619 : (Jvm.Cond.privateMethod ({ cls := "VectorVersionsModel", name := "advanceToken", desc := "()V" } : Jvm.MethodName)) ∈ lw_tbl := lw_at lw_m11 85 rfl
theorem q2620 : (Jvm.Cond.instanceMethod ({ cls := "VectorVersionsModel", name := "advanceToken", desc := "()V" } : Jvm.MethodName)) ∈ lw_all := lw_g (lw_at lw_m11 86 rfl) rfl
theorem q2621 : (Jvm.Cond.code ({ cls := "VectorVersionsModel", name := "advanceToken", desc := "()V" } : Jvm.MethodName) prog_18_method_54_code (1 : Nat) (Option.none : Option Jvm.ClassFile.FieldType)) ∈ lw_all := lw_g (lw_at lw_m11 87 rfl) rfl
theorem q2622 : (Jvm.Cond.methodLink "VectorVersionsModel" (209 : Nat) ({ cls := "VectorVersionsModel", name := "isLetter", desc := "(I)Z" } : Jvm.MethodName)) ∈ lw_all := lw_g (lw_at lw_m11 88 rfl) rfl
theorem q2623 : (Jvm.Cond.privateMethod ({ cls := "VectorVersionsModel", name := "isLetter", desc := "(I)Z" } : Jvm.MethodName)) ∈ lw_tbl := lw_at lw_m11 89 rfl
theorem q2624 : (Jvm.Cond.instanceMethod ({ cls := "VectorVersionsModel", name := "isLetter", desc := "(I)Z" } : Jvm.MethodName)) ∈ lw_all := lw_g (lw_at lw_m11 90 rfl) rfl
theorem q2625 : (Jvm.Cond.code ({ cls := "VectorVersionsModel", name := "isLetter", desc := "(I)Z" } : Jvm.MethodName) prog_18_method_52_code (2 : Nat) (Option.some Jvm.ClassFile.FieldType.boolean)) ∈ lw_all := lw_g (lw_at lw_m11 91 rfl) rfl
theorem q2626 : (Jvm.Cond.constantLong "VectorVersionsModel" (189 : Nat) (97 : Int64)) ∈ lw_all := lw_g (lw_at lw_m11 92 rfl) rfl
theorem q2627 : (Jvm.Cond.constantLong "VectorVersionsModel" (191 : Nat) (122 : Int64)) ∈ lw_all := lw_g (lw_at lw_m11 93 rfl) rfl
theorem q2628 : (Jvm.Cond.methodLink "VectorVersionsModel" (212 : Nat) ({ cls := "VectorVersionsModel", name := "isDigit", desc := "(I)Z" } : Jvm.MethodName)) ∈ lw_all := lw_g (lw_at lw_m11 94 rfl) rfl
theorem q2629 : (Jvm.Cond.privateMethod ({ cls := "VectorVersionsModel", name := "isDigit", desc := "(I)Z" } : Jvm.MethodName)) ∈ lw_tbl := lw_at lw_m11 95 rfl
theorem q2630 : (Jvm.Cond.instanceMethod ({ cls := "VectorVersionsModel", name := "isDigit", desc := "(I)Z" } : Jvm.MethodName)) ∈ lw_all := lw_g (lw_at lw_m11 96 rfl) rfl
theorem q2631 : (Jvm.Cond.code ({ cls := "VectorVersionsModel", name := "isDigit", desc := "(I)Z" } : Jvm.MethodName) prog_18_method_53_code (2 : Nat) (Option.some Jvm.ClassFile.FieldType.boolean)) ∈ lw_all := lw_g (lw_at lw_m11 97 rfl) rfl
theorem q2632 : (Jvm.Cond.constantLong "VectorVersionsModel" (193 : Nat) (48 : Int64)) ∈ lw_all := lw_g (lw_at lw_m11 98 rfl) rfl
theorem q2633 : (Jvm.Cond.constantLong "VectorVersionsModel" (195 : Nat) (57 : Int64)) ∈ lw_all := lw_g (lw_at lw_m11 99 rfl) rfl
theorem q2634 : (Jvm.Cond.methodLink "VectorVersionsModel" (256 : Nat) ({ cls := "VectorVersionsModel", name := "parseList", desc := "()V" } : Jvm.MethodName)) ∈ lw_all := lw_g (lw_at lw_m11 100 rfl) rfl
theorem q2635 : (Jvm.Cond.privateMethod ({ cls := "VectorVersionsModel", name := "parseList", desc := "()V" } : Jvm.MethodName)) ∈ lw_tbl := lw_at lw_m11 101 rfl
theorem q2636 : (Jvm.Cond.instanceMethod ({ cls := "VectorVersionsModel", name := "parseList", desc := "()V" } : Jvm.MethodName)) ∈ lw_all := lw_g (lw_at lw_m11 102 rfl) rfl
theorem q2637 : (Jvm.Cond.code ({ cls := "VectorVersionsModel", name := "parseList", desc := "()V" } : Jvm.MethodName) prog_18_method_62_code (2 : Nat) (Option.none : Option Jvm.ClassFile.FieldType)) ∈ lw_all := lw_g (lw_at lw_m11 103 rfl) rfl
theorem q2638 : (Jvm.Cond.stringRef "VectorVersionsModel" (245 : Nat) "list") ∈ lw_tbl := lw_at lw_m11 104 rfl
theorem q2639 : (Jvm.Cond.methodLink "VectorVersionsModel" (238 : Nat) ({ cls := "VectorVersionsModel", name := "isWord", desc := "(Ljava/lang/String;)Z" } : Jvm.MethodName)) ∈ lw_all := lw_g (lw_at lw_m11 105 rfl) rfl
theorem q2640 : (Jvm.Cond.privateMethod ({ cls := "VectorVersionsModel", name := "isWord", desc := "(Ljava/lang/String;)Z" } : Jvm.MethodName)) ∈ lw_tbl := lw_at lw_m11 106 rfl
theorem q2641 : (Jvm.Cond.instanceMethod ({ cls := "VectorVersionsModel", name := "isWord", desc := "(Ljava/lang/String;)Z" } : Jvm.MethodName)) ∈ lw_all := lw_g (lw_at lw_m11 107 rfl) rfl
theorem q2642 : (Jvm.Cond.code ({ cls := "VectorVersionsModel", name := "isWord", desc := "(Ljava/lang/String;)Z" } : Jvm.MethodName) prog_18_method_58_code (3 : Nat) (Option.some Jvm.ClassFile.FieldType.boolean)) ∈ lw_all := lw_g (lw_at lw_m11 108 rfl) rfl
theorem q2643 : (Jvm.Cond.methodLink "VectorVersionsModel" (224 : Nat) ({ cls := "java/lang/String", name := "length", desc := "()I" } : Jvm.MethodName)) ∈ lw_all := lw_g (lw_at lw_m11 109 rfl) rfl
theorem q2644 : (Jvm.Cond.methodLink "VectorVersionsModel" (228 : Nat) ({ cls := "java/lang/String", name := "charAt", desc := "(I)C" } : Jvm.MethodName)) ∈ lw_all := lw_g (lw_at lw_m11 110 rfl) rfl
theorem q2655 : (Jvm.Cond.methodLink "VectorVersionsModel" (232 : Nat) ({ cls := "VectorVersionsModel", name := "expect", desc := "(ZI)V" } : Jvm.MethodName)) ∈ lw_all := lw_g (lw_at lw_m11 121 rfl) rfl
theorem q2656 : (Jvm.Cond.privateMethod ({ cls := "VectorVersionsModel", name := "expect", desc := "(ZI)V" } : Jvm.MethodName)) ∈ lw_tbl := lw_at lw_m11 122 rfl
theorem q2657 : (Jvm.Cond.instanceMethod ({ cls := "VectorVersionsModel", name := "expect", desc := "(ZI)V" } : Jvm.MethodName)) ∈ lw_all := lw_g (lw_at lw_m11 123 rfl) rfl
theorem q2658 : (Jvm.Cond.code ({ cls := "VectorVersionsModel", name := "expect", desc := "(ZI)V" } : Jvm.MethodName) prog_18_method_55_code (3 : Nat) (Option.none : Option Jvm.ClassFile.FieldType)) ∈ lw_all := lw_g (lw_at lw_m11 124 rfl) rfl
theorem q2659 : (Jvm.Cond.methodLink "VectorVersionsModel" (247 : Nat) ({ cls := "VectorVersionsModel", name := "parseValue", desc := "(Z)I" } : Jvm.MethodName)) ∈ lw_all := lw_g (lw_at lw_m11 125 rfl) rfl
theorem q2660 : (Jvm.Cond.privateMethod ({ cls := "VectorVersionsModel", name := "parseValue", desc := "(Z)I" } : Jvm.MethodName)) ∈ lw_tbl := lw_at lw_m11 126 rfl
theorem q2661 : (Jvm.Cond.instanceMethod ({ cls := "VectorVersionsModel", name := "parseValue", desc := "(Z)I" } : Jvm.MethodName)) ∈ lw_all := lw_g (lw_at lw_m11 127 rfl) rfl
theorem q2662 : (Jvm.Cond.code ({ cls := "VectorVersionsModel", name := "parseValue", desc := "(Z)I" } : Jvm.MethodName) prog_18_method_61_code (4 : Nat) (Option.some Jvm.ClassFile.FieldType.int)) ∈ lw_all := lw_g (lw_at lw_m11 128 rfl) rfl
theorem q2663 : (Jvm.Cond.stringRef "VectorVersionsModel" (236 : Nat) "minus") ∈ lw_tbl := lw_at lw_m11 129 rfl
theorem q2664 : (Jvm.Cond.methodLink "VectorVersionsModel" (242 : Nat) ({ cls := "VectorVersionsModel", name := "parseNumber", desc := "(II)I" } : Jvm.MethodName)) ∈ lw_all := lw_g (lw_at lw_m11 130 rfl) rfl
theorem q2665 : (Jvm.Cond.privateMethod ({ cls := "VectorVersionsModel", name := "parseNumber", desc := "(II)I" } : Jvm.MethodName)) ∈ lw_tbl := lw_at lw_m11 131 rfl
theorem q2666 : (Jvm.Cond.instanceMethod ({ cls := "VectorVersionsModel", name := "parseNumber", desc := "(II)I" } : Jvm.MethodName)) ∈ lw_all := lw_g (lw_at lw_m11 132 rfl) rfl
theorem q2667 : (Jvm.Cond.code ({ cls := "VectorVersionsModel", name := "parseNumber", desc := "(II)I" } : Jvm.MethodName) prog_18_method_59_code (4 : Nat) (Option.some Jvm.ClassFile.FieldType.int)) ∈ lw_all := lw_g (lw_at lw_m11 133 rfl) rfl
theorem q2668 : (Jvm.Cond.methodLink "VectorVersionsModel" (250 : Nat) ({ cls := "VectorVersionsModel", name := "parseSemicolon", desc := "()V" } : Jvm.MethodName)) ∈ lw_all := lw_g (lw_at lw_m11 134 rfl) rfl
theorem q2669 : (Jvm.Cond.privateMethod ({ cls := "VectorVersionsModel", name := "parseSemicolon", desc := "()V" } : Jvm.MethodName)) ∈ lw_tbl := lw_at lw_m11 135 rfl
theorem q2670 : (Jvm.Cond.instanceMethod ({ cls := "VectorVersionsModel", name := "parseSemicolon", desc := "()V" } : Jvm.MethodName)) ∈ lw_all := lw_g (lw_at lw_m11 136 rfl) rfl
theorem q2671 : (Jvm.Cond.code ({ cls := "VectorVersionsModel", name := "parseSemicolon", desc := "()V" } : Jvm.MethodName) prog_18_method_60_code (1 : Nat) (Option.none : Option Jvm.ClassFile.FieldType)) ∈ lw_all := lw_g (lw_at lw_m11 137 rfl) rfl
theorem q2672 : (Jvm.Cond.methodLink "VectorVersionsModel" (259 : Nat) ({ cls := "VectorVersionsModel", name := "endText", desc := "()V" } : Jvm.MethodName)) ∈ lw_all := lw_g (lw_at lw_m11 138 rfl) rfl
theorem q2673 : (Jvm.Cond.privateMethod ({ cls := "VectorVersionsModel", name := "endText", desc := "()V" } : Jvm.MethodName)) ∈ lw_tbl := lw_at lw_m11 139 rfl
theorem q2674 : (Jvm.Cond.instanceMethod ({ cls := "VectorVersionsModel", name := "endText", desc := "()V" } : Jvm.MethodName)) ∈ lw_all := lw_g (lw_at lw_m11 140 rfl) rfl
theorem q2675 : (Jvm.Cond.code ({ cls := "VectorVersionsModel", name := "endText", desc := "()V" } : Jvm.MethodName) prog_18_method_57_code (1 : Nat) (Option.none : Option Jvm.ClassFile.FieldType)) ∈ lw_all := lw_g (lw_at lw_m11 141 rfl) rfl
theorem q2677 : (Jvm.Cond.instanceMethod ({ cls := "VectorVersionsModel", name := "runScript", desc := "()I" } : Jvm.MethodName)) ∈ lw_all := lw_g (lw_at lw_m11 143 rfl) rfl
theorem q2678 : (Jvm.Cond.selects "VectorVersionsModel" ({ cls := "VectorVersionsModel", name := "runScript", desc := "()I" } : Jvm.MethodName) ({ cls := "VectorVersionsModel", name := "runScript", desc := "()I" } : Jvm.MethodName)) ∈ lw_all := lw_g (lw_at lw_m11 144 rfl) rfl
theorem q2679 : (Jvm.Cond.code ({ cls := "VectorVersionsModel", name := "runScript", desc := "()I" } : Jvm.MethodName) prog_18_method_73_code (2 : Nat) (Option.some Jvm.ClassFile.FieldType.int)) ∈ lw_all := lw_g (lw_at lw_m11 145 rfl) rfl
theorem q2680 : (Jvm.Cond.methodLink "VectorVersionsModel" (321 : Nat) ({ cls := "VectorVersionsModel", name := "parseStatement", desc := "()V" } : Jvm.MethodName)) ∈ lw_all := lw_g (lw_at lw_m11 146 rfl) rfl
theorem q2681 : (Jvm.Cond.privateMethod ({ cls := "VectorVersionsModel", name := "parseStatement", desc := "()V" } : Jvm.MethodName)) ∈ lw_tbl := lw_at lw_m11 147 rfl
theorem q2682 : (Jvm.Cond.instanceMethod ({ cls := "VectorVersionsModel", name := "parseStatement", desc := "()V" } : Jvm.MethodName)) ∈ lw_all := lw_g (lw_at lw_m11 148 rfl) rfl
theorem q2683 : (Jvm.Cond.code ({ cls := "VectorVersionsModel", name := "parseStatement", desc := "()V" } : Jvm.MethodName) prog_18_method_66_code (3 : Nat) (Option.none : Option Jvm.ClassFile.FieldType)) ∈ lw_all := lw_g (lw_at lw_m11 149 rfl) rfl
theorem q2684 : (Jvm.Cond.methodLink "VectorVersionsModel" (276 : Nat) ({ cls := "VectorVersionsModel", name := "statementKind", desc := "()I" } : Jvm.MethodName)) ∈ lw_all := lw_g (lw_at lw_m11 150 rfl) rfl
theorem q2685 : (Jvm.Cond.privateMethod ({ cls := "VectorVersionsModel", name := "statementKind", desc := "()I" } : Jvm.MethodName)) ∈ lw_tbl := lw_at lw_m11 151 rfl
theorem q2686 : (Jvm.Cond.instanceMethod ({ cls := "VectorVersionsModel", name := "statementKind", desc := "()I" } : Jvm.MethodName)) ∈ lw_all := lw_g (lw_at lw_m11 152 rfl) rfl
theorem q2687 : (Jvm.Cond.code ({ cls := "VectorVersionsModel", name := "statementKind", desc := "()I" } : Jvm.MethodName) prog_18_method_64_code (1 : Nat) (Option.some Jvm.ClassFile.FieldType.int)) ∈ lw_all := lw_g (lw_at lw_m11 153 rfl) rfl
theorem q2688 : (Jvm.Cond.stringRef "VectorVersionsModel" (266 : Nat) "set") ∈ lw_tbl := lw_at lw_m11 154 rfl
theorem q2689 : (Jvm.Cond.stringRef "VectorVersionsModel" (268 : Nat) "append") ∈ lw_tbl := lw_at lw_m11 155 rfl
theorem q2690 : (Jvm.Cond.stringRef "VectorVersionsModel" (270 : Nat) "truncate") ∈ lw_tbl := lw_at lw_m11 156 rfl
theorem q2691 : (Jvm.Cond.stringRef "VectorVersionsModel" (272 : Nat) "release") ∈ lw_tbl := lw_at lw_m11 157 rfl
theorem q2692 : (Jvm.Cond.stringRef "VectorVersionsModel" (274 : Nat) "collect") ∈ lw_tbl := lw_at lw_m11 158 rfl
theorem q2693 : (Jvm.Cond.methodLink "VectorVersionsModel" (282 : Nat) ({ cls := "VectorVersionsModel", name := "parseVersion", desc := "()I" } : Jvm.MethodName)) ∈ lw_all := lw_g (lw_at lw_m11 159 rfl) rfl
theorem q2694 : (Jvm.Cond.privateMethod ({ cls := "VectorVersionsModel", name := "parseVersion", desc := "()I" } : Jvm.MethodName)) ∈ lw_tbl := lw_at lw_m11 160 rfl
theorem q2695 : (Jvm.Cond.instanceMethod ({ cls := "VectorVersionsModel", name := "parseVersion", desc := "()I" } : Jvm.MethodName)) ∈ lw_all := lw_g (lw_at lw_m11 161 rfl) rfl
theorem q2696 : (Jvm.Cond.code ({ cls := "VectorVersionsModel", name := "parseVersion", desc := "()I" } : Jvm.MethodName) prog_18_method_65_code (1 : Nat) (Option.some Jvm.ClassFile.FieldType.int)) ∈ lw_all := lw_g (lw_at lw_m11 162 rfl) rfl
theorem q2697 : (Jvm.Cond.methodLink "VectorVersionsModel" (324 : Nat) ({ cls := "VectorVersionsModel", name := "remember", desc := "()V" } : Jvm.MethodName)) ∈ lw_all := lw_g (lw_at lw_m11 163 rfl) rfl
theorem q2698 : (Jvm.Cond.privateMethod ({ cls := "VectorVersionsModel", name := "remember", desc := "()V" } : Jvm.MethodName)) ∈ lw_tbl := lw_at lw_m11 164 rfl
theorem q2699 : (Jvm.Cond.instanceMethod ({ cls := "VectorVersionsModel", name := "remember", desc := "()V" } : Jvm.MethodName)) ∈ lw_all := lw_g (lw_at lw_m11 165 rfl) rfl
theorem q2700 : (Jvm.Cond.code ({ cls := "VectorVersionsModel", name := "remember", desc := "()V" } : Jvm.MethodName) prog_18_method_12_code (2 : Nat) (Option.none : Option Jvm.ClassFile.FieldType)) ∈ lw_all := lw_g (lw_at lw_m11 166 rfl) rfl
theorem q2701 : (Jvm.Cond.methodLink "VectorVersionsModel" (327 : Nat) ({ cls := "VectorVersionsModel", name := "execute", desc := "(I)Z" } : Jvm.MethodName)) ∈ lw_all := lw_g (lw_at lw_m11 167 rfl) rfl
theorem q2702 : (Jvm.Cond.privateMethod ({ cls := "VectorVersionsModel", name := "execute", desc := "(I)Z" } : Jvm.MethodName)) ∈ lw_tbl := lw_at lw_m11 168 rfl
theorem q2703 : (Jvm.Cond.instanceMethod ({ cls := "VectorVersionsModel", name := "execute", desc := "(I)Z" } : Jvm.MethodName)) ∈ lw_all := lw_g (lw_at lw_m11 169 rfl) rfl
theorem q2704 : (Jvm.Cond.code ({ cls := "VectorVersionsModel", name := "execute", desc := "(I)Z" } : Jvm.MethodName) prog_18_method_72_code (5 : Nat) (Option.some Jvm.ClassFile.FieldType.boolean)) ∈ lw_all := lw_g (lw_at lw_m11 170 rfl) rfl
theorem q2705 : (Jvm.Cond.methodLink "VectorVersionsModel" (304 : Nat) ({ cls := "VectorVersionsModel", name := "executeSet", desc := "(III)Z" } : Jvm.MethodName)) ∈ lw_all := lw_g (lw_at lw_m11 171 rfl) rfl
theorem q2706 : (Jvm.Cond.privateMethod ({ cls := "VectorVersionsModel", name := "executeSet", desc := "(III)Z" } : Jvm.MethodName)) ∈ lw_tbl := lw_at lw_m11 172 rfl
theorem q2707 : (Jvm.Cond.instanceMethod ({ cls := "VectorVersionsModel", name := "executeSet", desc := "(III)Z" } : Jvm.MethodName)) ∈ lw_all := lw_g (lw_at lw_m11 173 rfl) rfl
theorem q2708 : (Jvm.Cond.code ({ cls := "VectorVersionsModel", name := "executeSet", desc := "(III)Z" } : Jvm.MethodName) prog_18_method_69_code (4 : Nat) (Option.some Jvm.ClassFile.FieldType.boolean)) ∈ lw_all := lw_g (lw_at lw_m11 174 rfl) rfl
theorem q2709 : (Jvm.Cond.methodLink "VectorVersionsModel" (288 : Nat) ({ cls := "VectorVersionsModel", name := "isLive", desc := "(I)Z" } : Jvm.MethodName)) ∈ lw_all := lw_g (lw_at lw_m11 175 rfl) rfl
theorem q2710 : (Jvm.Cond.privateMethod ({ cls := "VectorVersionsModel", name := "isLive", desc := "(I)Z" } : Jvm.MethodName)) ∈ lw_tbl := lw_at lw_m11 176 rfl
theorem q2711 : (Jvm.Cond.instanceMethod ({ cls := "VectorVersionsModel", name := "isLive", desc := "(I)Z" } : Jvm.MethodName)) ∈ lw_all := lw_g (lw_at lw_m11 177 rfl) rfl
theorem q2712 : (Jvm.Cond.code ({ cls := "VectorVersionsModel", name := "isLive", desc := "(I)Z" } : Jvm.MethodName) prog_18_method_67_code (2 : Nat) (Option.some Jvm.ClassFile.FieldType.boolean)) ∈ lw_all := lw_g (lw_at lw_m11 178 rfl) rfl
theorem q2713 : (Jvm.Cond.methodLink "VectorVersionsModel" (285 : Nat) ({ cls := "VectorVersionsModel", name := "isVersion", desc := "(I)Z" } : Jvm.MethodName)) ∈ lw_all := lw_g (lw_at lw_m11 179 rfl) rfl
theorem q2714 : (Jvm.Cond.privateMethod ({ cls := "VectorVersionsModel", name := "isVersion", desc := "(I)Z" } : Jvm.MethodName)) ∈ lw_tbl := lw_at lw_m11 180 rfl
theorem q2715 : (Jvm.Cond.instanceMethod ({ cls := "VectorVersionsModel", name := "isVersion", desc := "(I)Z" } : Jvm.MethodName)) ∈ lw_all := lw_g (lw_at lw_m11 181 rfl) rfl
theorem q2716 : (Jvm.Cond.code ({ cls := "VectorVersionsModel", name := "isVersion", desc := "(I)Z" } : Jvm.MethodName) prog_18_method_74_code (2 : Nat) (Option.some Jvm.ClassFile.FieldType.boolean)) ∈ lw_all := lw_g (lw_at lw_m11 182 rfl) rfl
theorem q2717 : (Jvm.Cond.methodLink "VectorVersionsModel" (164 : Nat) ({ cls := "VectorVersionsModel", name := "isGone", desc := "(I)Z" } : Jvm.MethodName)) ∈ lw_all := lw_g (lw_at lw_m11 183 rfl) rfl
theorem q2718 : (Jvm.Cond.privateMethod ({ cls := "VectorVersionsModel", name := "isGone", desc := "(I)Z" } : Jvm.MethodName)) ∈ lw_tbl := lw_at lw_m11 184 rfl
theorem q2719 : (Jvm.Cond.instanceMethod ({ cls := "VectorVersionsModel", name := "isGone", desc := "(I)Z" } : Jvm.MethodName)) ∈ lw_all := lw_g (lw_at lw_m11 185 rfl) rfl
theorem q2720 : (Jvm.Cond.code ({ cls := "VectorVersionsModel", name := "isGone", desc := "(I)Z" } : Jvm.MethodName) prog_18_method_28_code (2 : Nat) (Option.some Jvm.ClassFile.FieldType.boolean)) ∈ lw_all := lw_g (lw_at lw_m11 186 rfl) rfl
theorem q2721 : (Jvm.Cond.methodLink "VectorVersionsModel" (291 : Nat) ({ cls := "VectorVersionsModel", name := "hasRoom", desc := "()Z" } : Jvm.MethodName)) ∈ lw_all := lw_g (lw_at lw_m11 187 rfl) rfl
theorem q2722 : (Jvm.Cond.privateMethod ({ cls := "VectorVersionsModel", name := "hasRoom", desc := "()Z" } : Jvm.MethodName)) ∈ lw_tbl := lw_at lw_m11 188 rfl
theorem q2723 : (Jvm.Cond.instanceMethod ({ cls := "VectorVersionsModel", name := "hasRoom", desc := "()Z" } : Jvm.MethodName)) ∈ lw_all := lw_g (lw_at lw_m11 189 rfl) rfl
theorem q2724 : (Jvm.Cond.code ({ cls := "VectorVersionsModel", name := "hasRoom", desc := "()Z" } : Jvm.MethodName) prog_18_method_68_code (1 : Nat) (Option.some Jvm.ClassFile.FieldType.boolean)) ∈ lw_all := lw_g (lw_at lw_m11 190 rfl) rfl
theorem q2725 : (Jvm.Cond.methodLink "VectorVersionsModel" (295 : Nat) ({ cls := "VectorVersionsModel", name := "makeSet", desc := "(III)I" } : Jvm.MethodName)) ∈ lw_all := lw_g (lw_at lw_m11 191 rfl) rfl
theorem q2726 : (Jvm.Cond.privateMethod ({ cls := "VectorVersionsModel", name := "makeSet", desc := "(III)I" } : Jvm.MethodName)) ∈ lw_tbl := lw_at lw_m11 192 rfl
theorem q2727 : (Jvm.Cond.instanceMethod ({ cls := "VectorVersionsModel", name := "makeSet", desc := "(III)I" } : Jvm.MethodName)) ∈ lw_all := lw_g (lw_at lw_m11 193 rfl) rfl
theorem q2728 : (Jvm.Cond.code ({ cls := "VectorVersionsModel", name := "makeSet", desc := "(III)I" } : Jvm.MethodName) prog_18_method_34_code (8 : Nat) (Option.some Jvm.ClassFile.FieldType.int)) ∈ lw_all := lw_g (lw_at lw_m11 194 rfl) rfl
theorem q2729 : (Jvm.Cond.methodLink "VectorVersionsModel" (145 : Nat) ({ cls := "VectorVersionsModel", name := "root", desc := "(I)I" } : Jvm.MethodName)) ∈ lw_all := lw_g (lw_at lw_m11 195 rfl) rfl
theorem q2730 : (Jvm.Cond.privateMethod ({ cls := "VectorVersionsModel", name := "root", desc := "(I)I" } : Jvm.MethodName)) ∈ lw_tbl := lw_at lw_m11 196 rfl
theorem q2731 : (Jvm.Cond.instanceMethod ({ cls := "VectorVersionsModel", name := "root", desc := "(I)I" } : Jvm.MethodName)) ∈ lw_all := lw_g (lw_at lw_m11 197 rfl) rfl
theorem q2732 : (Jvm.Cond.code ({ cls := "VectorVersionsModel", name := "root", desc := "(I)I" } : Jvm.MethodName) prog_18_method_26_code (2 : Nat) (Option.some Jvm.ClassFile.FieldType.int)) ∈ lw_all := lw_g (lw_at lw_m11 198 rfl) rfl
theorem q2733 : (Jvm.Cond.methodLink "VectorVersionsModel" (148 : Nat) ({ cls := "VectorVersionsModel", name := "heightOf", desc := "(I)I" } : Jvm.MethodName)) ∈ lw_all := lw_g (lw_at lw_m11 199 rfl) rfl
theorem q2734 : (Jvm.Cond.privateMethod ({ cls := "VectorVersionsModel", name := "heightOf", desc := "(I)I" } : Jvm.MethodName)) ∈ lw_tbl := lw_at lw_m11 200 rfl
theorem q2735 : (Jvm.Cond.instanceMethod ({ cls := "VectorVersionsModel", name := "heightOf", desc := "(I)I" } : Jvm.MethodName)) ∈ lw_all := lw_g (lw_at lw_m11 201 rfl) rfl
theorem q2736 : (Jvm.Cond.code ({ cls := "VectorVersionsModel", name := "heightOf", desc := "(I)I" } : Jvm.MethodName) prog_18_method_27_code (2 : Nat) (Option.some Jvm.ClassFile.FieldType.int)) ∈ lw_all := lw_g (lw_at lw_m11 202 rfl) rfl
theorem q2737 : (Jvm.Cond.methodLink "VectorVersionsModel" (101 : Nat) ({ cls := "VectorVersionsModel", name := "replaced", desc := "(IIII)I" } : Jvm.MethodName)) ∈ lw_all := lw_g (lw_at lw_m11 203 rfl) rfl
theorem q2738 : (Jvm.Cond.privateMethod ({ cls := "VectorVersionsModel", name := "replaced", desc := "(IIII)I" } : Jvm.MethodName)) ∈ lw_tbl := lw_at lw_m11 204 rfl
theorem q2739 : (Jvm.Cond.instanceMethod ({ cls := "VectorVersionsModel", name := "replaced", desc := "(IIII)I" } : Jvm.MethodName)) ∈ lw_all := lw_g (lw_at lw_m11 205 rfl) rfl
theorem q2740 : (Jvm.Cond.code ({ cls := "VectorVersionsModel", name := "replaced", desc := "(IIII)I" } : Jvm.MethodName) prog_18_method_22_code (8 : Nat) (Option.some Jvm.ClassFile.FieldType.int)) ∈ lw_all := lw_g (lw_at lw_m11 206 rfl) rfl
theorem q2741 : (Jvm.Cond.methodLink "VectorVersionsModel" (97 : Nat) ({ cls := "VectorVersionsModel", name := "remake", desc := "(IIIZZ)I" } : Jvm.MethodName)) ∈ lw_all := lw_g (lw_at lw_m11 207 rfl) rfl
theorem q2742 : (Jvm.Cond.privateMethod ({ cls := "VectorVersionsModel", name := "remake", desc := "(IIIZZ)I" } : Jvm.MethodName)) ∈ lw_tbl := lw_at lw_m11 208 rfl
theorem q2743 : (Jvm.Cond.instanceMethod ({ cls := "VectorVersionsModel", name := "remake", desc := "(IIIZZ)I" } : Jvm.MethodName)) ∈ lw_all := lw_g (lw_at lw_m11 209 rfl) rfl
theorem q2744 : (Jvm.Cond.code ({ cls := "VectorVersionsModel", name := "remake", desc := "(IIIZZ)I" } : Jvm.MethodName) prog_18_method_20_code (7 : Nat) (Option.some Jvm.ClassFile.FieldType.int)) ∈ lw_all := lw_g (lw_at lw_m11 210 rfl) rfl
theorem q2745 : (Jvm.Cond.methodLink "VectorVersionsModel" (79 : Nat) ({ cls := "VectorVersionsModel", name := "countOf", desc := "(I)I" } : Jvm.MethodName)) ∈ lw_all := lw_g (lw_at lw_m11 211 rfl) rfl
theorem q2746 : (Jvm.Cond.privateMethod ({ cls := "VectorVersionsModel", name := "countOf", desc := "(I)I" } : Jvm.MethodName)) ∈ lw_tbl := lw_at lw_m11 212 rfl
theorem q2747 : (Jvm.Cond.instanceMethod ({ cls := "VectorVersionsModel", name := "countOf", desc := "(I)I" } : Jvm.MethodName)) ∈ lw_all := lw_g (lw_at lw_m11 213 rfl) rfl
theorem q2748 : (Jvm.Cond.code ({ cls := "VectorVersionsModel", name := "countOf", desc := "(I)I" } : Jvm.MethodName) prog_18_method_16_code (2 : Nat) (Option.some Jvm.ClassFile.FieldType.int)) ∈ lw_all := lw_g (lw_at lw_m11 214 rfl) rfl
theorem q2749 : (Jvm.Cond.methodLink "VectorVersionsModel" (82 : Nat) ({ cls := "VectorVersionsModel", name := "takeEntries", desc := "(II)V" } : Jvm.MethodName)) ∈ lw_all := lw_g (lw_at lw_m11 215 rfl) rfl
theorem q2750 : (Jvm.Cond.privateMethod ({ cls := "VectorVersionsModel", name := "takeEntries", desc := "(II)V" } : Jvm.MethodName)) ∈ lw_tbl := lw_at lw_m11 216 rfl
theorem q2751 : (Jvm.Cond.instanceMethod ({ cls := "VectorVersionsModel", name := "takeEntries", desc := "(II)V" } : Jvm.MethodName)) ∈ lw_all := lw_g (lw_at lw_m11 217 rfl) rfl
theorem q2752 : (Jvm.Cond.code ({ cls := "VectorVersionsModel", name := "takeEntries", desc := "(II)V" } : Jvm.MethodName) prog_18_method_18_code (4 : Nat) (Option.none : Option Jvm.ClassFile.FieldType)) ∈ lw_all := lw_g (lw_at lw_m11 218 rfl) rfl
theorem q2753 : (Jvm.Cond.methodLink "VectorVersionsModel" (71 : Nat) ({ cls := "VectorVersionsModel", name := "entry", desc := "(II)I" } : Jvm.MethodName)) ∈ lw_all := lw_g (lw_at lw_m11 219 rfl) rfl
theorem q2754 : (Jvm.Cond.privateMethod ({ cls := "VectorVersionsModel", name := "entry", desc := "(II)I" } : Jvm.MethodName)) ∈ lw_tbl := lw_at lw_m11 220 rfl
theorem q2755 : (Jvm.Cond.instanceMethod ({ cls := "VectorVersionsModel", name := "entry", desc := "(II)I" } : Jvm.MethodName)) ∈ lw_all := lw_g (lw_at lw_m11 221 rfl) rfl
theorem q2756 : (Jvm.Cond.code ({ cls := "VectorVersionsModel", name := "entry", desc := "(II)I" } : Jvm.MethodName) prog_18_method_17_code (3 : Nat) (Option.some Jvm.ClassFile.FieldType.int)) ∈ lw_all := lw_g (lw_at lw_m11 222 rfl) rfl
theorem q2757 : (Jvm.Cond.methodLink "VectorVersionsModel" (308 : Nat) ({ cls := "VectorVersionsModel", name := "executeAppend", desc := "(II)Z" } : Jvm.MethodName)) ∈ lw_all := lw_g (lw_at lw_m11 223 rfl) rfl
theorem q2758 : (Jvm.Cond.privateMethod ({ cls := "VectorVersionsModel", name := "executeAppend", desc := "(II)Z" } : Jvm.MethodName)) ∈ lw_tbl := lw_at lw_m11 224 rfl
theorem q2759 : (Jvm.Cond.instanceMethod ({ cls := "VectorVersionsModel", name := "executeAppend", desc := "(II)Z" } : Jvm.MethodName)) ∈ lw_all := lw_g (lw_at lw_m11 225 rfl) rfl
theorem q2760 : (Jvm.Cond.code ({ cls := "VectorVersionsModel", name := "executeAppend", desc := "(II)Z" } : Jvm.MethodName) prog_18_method_70_code (3 : Nat) (Option.some Jvm.ClassFile.FieldType.boolean)) ∈ lw_all := lw_g (lw_at lw_m11 226 rfl) rfl
theorem q2761 : (Jvm.Cond.methodLink "VectorVersionsModel" (298 : Nat) ({ cls := "VectorVersionsModel", name := "makeAppend", desc := "(II)I" } : Jvm.MethodName)) ∈ lw_all := lw_g (lw_at lw_m11 227 rfl) rfl
theorem q2762 : (Jvm.Cond.privateMethod ({ cls := "VectorVersionsModel", name := "makeAppend", desc := "(II)I" } : Jvm.MethodName)) ∈ lw_tbl := lw_at lw_m11 228 rfl
theorem q2763 : (Jvm.Cond.instanceMethod ({ cls := "VectorVersionsModel", name := "makeAppend", desc := "(II)I" } : Jvm.MethodName)) ∈ lw_all := lw_g (lw_at lw_m11 229 rfl) rfl
theorem q2764 : (Jvm.Cond.code ({ cls := "VectorVersionsModel", name := "makeAppend", desc := "(II)I" } : Jvm.MethodName) prog_18_method_36_code (7 : Nat) (Option.some Jvm.ClassFile.FieldType.int)) ∈ lw_all := lw_g (lw_at lw_m11 230 rfl) rfl
theorem q2765 : (Jvm.Cond.methodLink "VectorVersionsModel" (151 : Nat) ({ cls := "VectorVersionsModel", name := "grownRoot", desc := "(II)I" } : Jvm.MethodName)) ∈ lw_all := lw_g (lw_at lw_m11 231 rfl) rfl
theorem q2766 : (Jvm.Cond.privateMethod ({ cls := "VectorVersionsModel", name := "grownRoot", desc := "(II)I" } : Jvm.MethodName)) ∈ lw_tbl := lw_at lw_m11 232 rfl
theorem q2767 : (Jvm.Cond.instanceMethod ({ cls := "VectorVersionsModel", name := "grownRoot", desc := "(II)I" } : Jvm.MethodName)) ∈ lw_all := lw_g (lw_at lw_m11 233 rfl) rfl
theorem q2768 : (Jvm.Cond.code ({ cls := "VectorVersionsModel", name := "grownRoot", desc := "(II)I" } : Jvm.MethodName) prog_18_method_35_code (6 : Nat) (Option.some Jvm.ClassFile.FieldType.int)) ∈ lw_all := lw_g (lw_at lw_m11 234 rfl) rfl
theorem q2769 : (Jvm.Cond.methodLink "VectorVersionsModel" (105 : Nat) ({ cls := "VectorVersionsModel", name := "extended", desc := "(IIII)I" } : Jvm.MethodName)) ∈ lw_all := lw_g (lw_at lw_m11 235 rfl) rfl
theorem q2770 : (Jvm.Cond.privateMethod ({ cls := "VectorVersionsModel", name := "extended", desc := "(IIII)I" } : Jvm.MethodName)) ∈ lw_tbl := lw_at lw_m11 236 rfl
theorem q2771 : (Jvm.Cond.instanceMethod ({ cls := "VectorVersionsModel", name := "extended", desc := "(IIII)I" } : Jvm.MethodName)) ∈ lw_all := lw_g (lw_at lw_m11 237 rfl) rfl
theorem q2772 : (Jvm.Cond.code ({ cls := "VectorVersionsModel", name := "extended", desc := "(IIII)I" } : Jvm.MethodName) prog_18_method_23_code (9 : Nat) (Option.some Jvm.ClassFile.FieldType.int)) ∈ lw_all := lw_g (lw_at lw_m11 238 rfl) rfl
theorem q2773 : (Jvm.Cond.methodLink "VectorVersionsModel" (312 : Nat) ({ cls := "VectorVersionsModel", name := "executeTruncate", desc := "(II)Z" } : Jvm.MethodName)) ∈ lw_all := lw_g (lw_at lw_m11 239 rfl) rfl
theorem q2774 : (Jvm.Cond.privateMethod ({ cls := "VectorVersionsModel", name := "executeTruncate", desc := "(II)Z" } : Jvm.MethodName)) ∈ lw_tbl := lw_at lw_m12 0 rfl
theorem q2775 : (Jvm.Cond.instanceMethod ({ cls := "VectorVersionsModel", name := "executeTruncate", desc := "(II)Z" } : Jvm.MethodName)) ∈ lw_all := lw_g (lw_at lw_m12 1 rfl) rfl
theorem q2776 : (Jvm.Cond.code ({ cls := "VectorVersionsModel", name := "executeTruncate", desc := "(II)Z" } : Jvm.MethodName) prog_18_method_71_code (3 : Nat) (Option.some Jvm.ClassFile.FieldType.boolean)) ∈ lw_all := lw_g (lw_at lw_m12 2 rfl) rfl
theorem q2777 : (Jvm.Cond.methodLink "VectorVersionsModel" (301 : Nat) ({ cls := "VectorVersionsModel", name := "makeTruncate", desc := "(II)I" } : Jvm.MethodName)) ∈ lw_all := lw_g (lw_at lw_m12 3 rfl) rfl
theorem q2778 : (Jvm.Cond.privateMethod ({ cls := "VectorVersionsModel", name := "makeTruncate", desc := "(II)I" } : Jvm.MethodName)) ∈ lw_tbl := lw_at lw_m12 4 rfl
theorem q2779 : (Jvm.Cond.instanceMethod ({ cls := "VectorVersionsModel", name := "makeTruncate", desc := "(II)I" } : Jvm.MethodName)) ∈ lw_all := lw_g (lw_at lw_m12 5 rfl) rfl
theorem q2780 : (Jvm.Cond.code ({ cls := "VectorVersionsModel", name := "makeTruncate", desc := "(II)I" } : Jvm.MethodName) prog_18_method_38_code (4 : Nat) (Option.some Jvm.ClassFile.FieldType.int)) ∈ lw_all := lw_g (lw_at lw_m12 6 rfl) rfl
theorem q2781 : (Jvm.Cond.methodLink "VectorVersionsModel" (154 : Nat) ({ cls := "VectorVersionsModel", name := "cutRoot", desc := "(II)I" } : Jvm.MethodName)) ∈ lw_all := lw_g (lw_at lw_m12 7 rfl) rfl
theorem q2782 : (Jvm.Cond.privateMethod ({ cls := "VectorVersionsModel", name := "cutRoot", desc := "(II)I" } : Jvm.MethodName)) ∈ lw_tbl := lw_at lw_m12 8 rfl
theorem q2783 : (Jvm.Cond.instanceMethod ({ cls := "VectorVersionsModel", name := "cutRoot", desc := "(II)I" } : Jvm.MethodName)) ∈ lw_all := lw_g (lw_at lw_m12 9 rfl) rfl
theorem q2784 : (Jvm.Cond.code ({ cls := "VectorVersionsModel", name := "cutRoot", desc := "(II)I" } : Jvm.MethodName) prog_18_method_37_code (5 : Nat) (Option.some Jvm.ClassFile.FieldType.int)) ∈ lw_all := lw_g (lw_at lw_m12 10 rfl) rfl
theorem q2785 : (Jvm.Cond.methodLink "VectorVersionsModel" (108 : Nat) ({ cls := "VectorVersionsModel", name := "cut", desc := "(III)I" } : Jvm.MethodName)) ∈ lw_all := lw_g (lw_at lw_m12 11 rfl) rfl
theorem q2786 : (Jvm.Cond.privateMethod ({ cls := "VectorVersionsModel", name := "cut", desc := "(III)I" } : Jvm.MethodName)) ∈ lw_tbl := lw_at lw_m12 12 rfl
theorem q2787 : (Jvm.Cond.instanceMethod ({ cls := "VectorVersionsModel", name := "cut", desc := "(III)I" } : Jvm.MethodName)) ∈ lw_all := lw_g (lw_at lw_m12 13 rfl) rfl
theorem q2788 : (Jvm.Cond.code ({ cls := "VectorVersionsModel", name := "cut", desc := "(III)I" } : Jvm.MethodName) prog_18_method_24_code (8 : Nat) (Option.some Jvm.ClassFile.FieldType.int)) ∈ lw_all := lw_g (lw_at lw_m12 14 rfl) rfl
theorem q2789 : (Jvm.Cond.methodLink "VectorVersionsModel" (94 : Nat) ({ cls := "VectorVersionsModel", name := "elementsUnder", desc := "(I)I" } : Jvm.MethodName)) ∈ lw_all := lw_g (lw_at lw_m12 15 rfl) rfl
theorem q2790 : (Jvm.Cond.privateMethod ({ cls := "VectorVersionsModel", name := "elementsUnder", desc := "(I)I" } : Jvm.MethodName)) ∈ lw_tbl := lw_at lw_m12 16 rfl
theorem q2791 : (Jvm.Cond.instanceMethod ({ cls := "VectorVersionsModel", name := "elementsUnder", desc := "(I)I" } : Jvm.MethodName)) ∈ lw_all := lw_g (lw_at lw_m12 17 rfl) rfl
theorem q2792 : (Jvm.Cond.code ({ cls := "VectorVersionsModel", name := "elementsUnder", desc := "(I)I" } : Jvm.MethodName) prog_18_method_21_code (4 : Nat) (Option.some Jvm.ClassFile.FieldType.int)) ∈ lw_all := lw_g (lw_at lw_m12 18 rfl) rfl
theorem q2793 : (Jvm.Cond.methodLink "VectorVersionsModel" (90 : Nat) ({ cls := "VectorVersionsModel", name := "isLeafNode", desc := "(I)Z" } : Jvm.MethodName)) ∈ lw_all := lw_g (lw_at lw_m12 19 rfl) rfl
theorem q2794 : (Jvm.Cond.privateMethod ({ cls := "VectorVersionsModel", name := "isLeafNode", desc := "(I)Z" } : Jvm.MethodName)) ∈ lw_tbl := lw_at lw_m12 20 rfl
theorem q2795 : (Jvm.Cond.instanceMethod ({ cls := "VectorVersionsModel", name := "isLeafNode", desc := "(I)Z" } : Jvm.MethodName)) ∈ lw_all := lw_g (lw_at lw_m12 21 rfl) rfl
theorem q2796 : (Jvm.Cond.code ({ cls := "VectorVersionsModel", name := "isLeafNode", desc := "(I)Z" } : Jvm.MethodName) prog_18_method_15_code (2 : Nat) (Option.some Jvm.ClassFile.FieldType.boolean)) ∈ lw_all := lw_g (lw_at lw_m12 22 rfl) rfl
theorem q2797 : (Jvm.Cond.methodLink "VectorVersionsModel" (315 : Nat) ({ cls := "VectorVersionsModel", name := "releaseVersion", desc := "(I)I" } : Jvm.MethodName)) ∈ lw_all := lw_g (lw_at lw_m12 23 rfl) rfl
theorem q2798 : (Jvm.Cond.privateMethod ({ cls := "VectorVersionsModel", name := "releaseVersion", desc := "(I)I" } : Jvm.MethodName)) ∈ lw_tbl := lw_at lw_m12 24 rfl
theorem q2799 : (Jvm.Cond.instanceMethod ({ cls := "VectorVersionsModel", name := "releaseVersion", desc := "(I)I" } : Jvm.MethodName)) ∈ lw_all := lw_g (lw_at lw_m12 25 rfl) rfl
theorem q2800 : (Jvm.Cond.code ({ cls := "VectorVersionsModel", name := "releaseVersion", desc := "(I)I" } : Jvm.MethodName) prog_18_method_45_code (2 : Nat) (Option.some Jvm.ClassFile.FieldType.int)) ∈ lw_all := lw_g (lw_at lw_m12 26 rfl) rfl
theorem q2801 : (Jvm.Cond.methodLink "VectorVersionsModel" (177 : Nat) ({ cls := "VectorVersionsModel", name := "countGarbage", desc := "()I" } : Jvm.MethodName)) ∈ lw_all := lw_g (lw_at lw_m12 27 rfl) rfl
theorem q2802 : (Jvm.Cond.privateMethod ({ cls := "VectorVersionsModel", name := "countGarbage", desc := "()I" } : Jvm.MethodName)) ∈ lw_tbl := lw_at lw_m12 28 rfl
theorem q2803 : (Jvm.Cond.instanceMethod ({ cls := "VectorVersionsModel", name := "countGarbage", desc := "()I" } : Jvm.MethodName)) ∈ lw_all := lw_g (lw_at lw_m12 29 rfl) rfl
theorem q2804 : (Jvm.Cond.code ({ cls := "VectorVersionsModel", name := "countGarbage", desc := "()I" } : Jvm.MethodName) prog_18_method_44_code (3 : Nat) (Option.some Jvm.ClassFile.FieldType.int)) ∈ lw_all := lw_g (lw_at lw_m12 30 rfl) rfl
theorem q2805 : (Jvm.Cond.methodLink "VectorVersionsModel" (174 : Nat) ({ cls := "VectorVersionsModel", name := "reachAll", desc := "()V" } : Jvm.MethodName)) ∈ lw_all := lw_g (lw_at lw_m12 31 rfl) rfl
theorem q2806 : (Jvm.Cond.privateMethod ({ cls := "VectorVersionsModel", name := "reachAll", desc := "()V" } : Jvm.MethodName)) ∈ lw_tbl := lw_at lw_m12 32 rfl
theorem q2807 : (Jvm.Cond.instanceMethod ({ cls := "VectorVersionsModel", name := "reachAll", desc := "()V" } : Jvm.MethodName)) ∈ lw_all := lw_g (lw_at lw_m12 33 rfl) rfl
theorem q2808 : (Jvm.Cond.code ({ cls := "VectorVersionsModel", name := "reachAll", desc := "()V" } : Jvm.MethodName) prog_18_method_41_code (2 : Nat) (Option.none : Option Jvm.ClassFile.FieldType)) ∈ lw_all := lw_g (lw_at lw_m12 34 rfl) rfl
theorem q2809 : (Jvm.Cond.methodLink "VectorVersionsModel" (161 : Nat) ({ cls := "VectorVersionsModel", name := "clearReached", desc := "()V" } : Jvm.MethodName)) ∈ lw_all := lw_g (lw_at lw_m12 35 rfl) rfl
theorem q2810 : (Jvm.Cond.privateMethod ({ cls := "VectorVersionsModel", name := "clearReached", desc := "()V" } : Jvm.MethodName)) ∈ lw_tbl := lw_at lw_m12 36 rfl
theorem q2811 : (Jvm.Cond.instanceMethod ({ cls := "VectorVersionsModel", name := "clearReached", desc := "()V" } : Jvm.MethodName)) ∈ lw_all := lw_g (lw_at lw_m12 37 rfl) rfl
theorem q2812 : (Jvm.Cond.code ({ cls := "VectorVersionsModel", name := "clearReached", desc := "()V" } : Jvm.MethodName) prog_18_method_39_code (2 : Nat) (Option.none : Option Jvm.ClassFile.FieldType)) ∈ lw_all := lw_g (lw_at lw_m12 38 rfl) rfl
theorem q2813 : (Jvm.Cond.methodLink "VectorVersionsModel" (157 : Nat) ({ cls := "VectorVersionsModel", name := "reach", desc := "(I)V" } : Jvm.MethodName)) ∈ lw_all := lw_g (lw_at lw_m12 39 rfl) rfl
theorem q2814 : (Jvm.Cond.privateMethod ({ cls := "VectorVersionsModel", name := "reach", desc := "(I)V" } : Jvm.MethodName)) ∈ lw_tbl := lw_at lw_m12 40 rfl
theorem q2815 : (Jvm.Cond.instanceMethod ({ cls := "VectorVersionsModel", name := "reach", desc := "(I)V" } : Jvm.MethodName)) ∈ lw_all := lw_g (lw_at lw_m12 41 rfl) rfl
theorem q2816 : (Jvm.Cond.code ({ cls := "VectorVersionsModel", name := "reach", desc := "(I)V" } : Jvm.MethodName) prog_18_method_40_code (3 : Nat) (Option.none : Option Jvm.ClassFile.FieldType)) ∈ lw_all := lw_g (lw_at lw_m12 42 rfl) rfl
theorem q2817 : (Jvm.Cond.methodLink "VectorVersionsModel" (171 : Nat) ({ cls := "VectorVersionsModel", name := "isStored", desc := "(I)Z" } : Jvm.MethodName)) ∈ lw_all := lw_g (lw_at lw_m12 43 rfl) rfl
theorem q2818 : (Jvm.Cond.privateMethod ({ cls := "VectorVersionsModel", name := "isStored", desc := "(I)Z" } : Jvm.MethodName)) ∈ lw_tbl := lw_at lw_m12 44 rfl
theorem q2819 : (Jvm.Cond.instanceMethod ({ cls := "VectorVersionsModel", name := "isStored", desc := "(I)Z" } : Jvm.MethodName)) ∈ lw_all := lw_g (lw_at lw_m12 45 rfl) rfl
theorem q2820 : (Jvm.Cond.code ({ cls := "VectorVersionsModel", name := "isStored", desc := "(I)Z" } : Jvm.MethodName) prog_18_method_42_code (2 : Nat) (Option.some Jvm.ClassFile.FieldType.boolean)) ∈ lw_all := lw_g (lw_at lw_m12 46 rfl) rfl
theorem q2821 : (Jvm.Cond.methodLink "VectorVersionsModel" (318 : Nat) ({ cls := "VectorVersionsModel", name := "collectAll", desc := "()I" } : Jvm.MethodName)) ∈ lw_all := lw_g (lw_at lw_m12 47 rfl) rfl
theorem q2822 : (Jvm.Cond.privateMethod ({ cls := "VectorVersionsModel", name := "collectAll", desc := "()I" } : Jvm.MethodName)) ∈ lw_tbl := lw_at lw_m12 48 rfl
theorem q2823 : (Jvm.Cond.instanceMethod ({ cls := "VectorVersionsModel", name := "collectAll", desc := "()I" } : Jvm.MethodName)) ∈ lw_all := lw_g (lw_at lw_m12 49 rfl) rfl
theorem q2824 : (Jvm.Cond.code ({ cls := "VectorVersionsModel", name := "collectAll", desc := "()I" } : Jvm.MethodName) prog_18_method_46_code (3 : Nat) (Option.some Jvm.ClassFile.FieldType.int)) ∈ lw_all := lw_g (lw_at lw_m12 50 rfl) rfl
theorem q2826 : (Jvm.Cond.instanceMethod ({ cls := "VectorVersionsModel", name := "versionCount", desc := "()I" } : Jvm.MethodName)) ∈ lw_all := lw_g (lw_at lw_m12 52 rfl) rfl
theorem q2827 : (Jvm.Cond.selects "VectorVersionsModel" ({ cls := "VectorVersionsModel", name := "versionCount", desc := "()I" } : Jvm.MethodName) ({ cls := "VectorVersionsModel", name := "versionCount", desc := "()I" } : Jvm.MethodName)) ∈ lw_all := lw_g (lw_at lw_m12 53 rfl) rfl
theorem q2828 : (Jvm.Cond.code ({ cls := "VectorVersionsModel", name := "versionCount", desc := "()I" } : Jvm.MethodName) prog_18_method_76_code (1 : Nat) (Option.some Jvm.ClassFile.FieldType.int)) ∈ lw_all := lw_g (lw_at lw_m12 54 rfl) rfl
theorem q2830 : (Jvm.Cond.instanceMethod ({ cls := "VectorVersionsModel", name := "liveCount", desc := "()I" } : Jvm.MethodName)) ∈ lw_all := lw_g (lw_at lw_m12 56 rfl) rfl
theorem q2831 : (Jvm.Cond.selects "VectorVersionsModel" ({ cls := "VectorVersionsModel", name := "liveCount", desc := "()I" } : Jvm.MethodName) ({ cls := "VectorVersionsModel", name := "liveCount", desc := "()I" } : Jvm.MethodName)) ∈ lw_all := lw_g (lw_at lw_m12 57 rfl) rfl
theorem q2832 : (Jvm.Cond.code ({ cls := "VectorVersionsModel", name := "liveCount", desc := "()I" } : Jvm.MethodName) prog_18_method_77_code (3 : Nat) (Option.some Jvm.ClassFile.FieldType.int)) ∈ lw_all := lw_g (lw_at lw_m12 58 rfl) rfl
theorem q2834 : (Jvm.Cond.instanceMethod ({ cls := "VectorVersionsModel", name := "isReleased", desc := "(I)Z" } : Jvm.MethodName)) ∈ lw_all := lw_g (lw_at lw_m12 60 rfl) rfl
theorem q2835 : (Jvm.Cond.selects "VectorVersionsModel" ({ cls := "VectorVersionsModel", name := "isReleased", desc := "(I)Z" } : Jvm.MethodName) ({ cls := "VectorVersionsModel", name := "isReleased", desc := "(I)Z" } : Jvm.MethodName)) ∈ lw_all := lw_g (lw_at lw_m12 61 rfl) rfl
theorem q2836 : (Jvm.Cond.code ({ cls := "VectorVersionsModel", name := "isReleased", desc := "(I)Z" } : Jvm.MethodName) prog_18_method_78_code (2 : Nat) (Option.some Jvm.ClassFile.FieldType.boolean)) ∈ lw_all := lw_g (lw_at lw_m12 62 rfl) rfl
theorem q2837 : (Jvm.Cond.methodLink "VectorVersionsModel" (334 : Nat) ({ cls := "VectorVersionsModel", name := "checkVersion", desc := "(I)Z" } : Jvm.MethodName)) ∈ lw_all := lw_g (lw_at lw_m12 63 rfl) rfl
theorem q2838 : (Jvm.Cond.privateMethod ({ cls := "VectorVersionsModel", name := "checkVersion", desc := "(I)Z" } : Jvm.MethodName)) ∈ lw_tbl := lw_at lw_m12 64 rfl
theorem q2839 : (Jvm.Cond.instanceMethod ({ cls := "VectorVersionsModel", name := "checkVersion", desc := "(I)Z" } : Jvm.MethodName)) ∈ lw_all := lw_g (lw_at lw_m12 65 rfl) rfl
theorem q2840 : (Jvm.Cond.code ({ cls := "VectorVersionsModel", name := "checkVersion", desc := "(I)Z" } : Jvm.MethodName) prog_18_method_75_code (2 : Nat) (Option.some Jvm.ClassFile.FieldType.boolean)) ∈ lw_all := lw_g (lw_at lw_m12 66 rfl) rfl
theorem q2841 : (Jvm.Cond.methodLink "VectorVersionsModel" (330 : Nat) ({ cls := "VectorVersionsModel", name := "check", desc := "(ZZZ)Z" } : Jvm.MethodName)) ∈ lw_all := lw_g (lw_at lw_m12 67 rfl) rfl
theorem q2842 : (Jvm.Cond.privateMethod ({ cls := "VectorVersionsModel", name := "check", desc := "(ZZZ)Z" } : Jvm.MethodName)) ∈ lw_tbl := lw_at lw_m12 68 rfl
theorem q2843 : (Jvm.Cond.instanceMethod ({ cls := "VectorVersionsModel", name := "check", desc := "(ZZZ)Z" } : Jvm.MethodName)) ∈ lw_all := lw_g (lw_at lw_m12 69 rfl) rfl
theorem q2844 : (Jvm.Cond.code ({ cls := "VectorVersionsModel", name := "check", desc := "(ZZZ)Z" } : Jvm.MethodName) prog_18_method_5_code (4 : Nat) (Option.some Jvm.ClassFile.FieldType.boolean)) ∈ lw_all := lw_g (lw_at lw_m12 70 rfl) rfl
theorem q2846 : (Jvm.Cond.instanceMethod ({ cls := "VectorVersionsModel", name := "parentOf", desc := "(I)I" } : Jvm.MethodName)) ∈ lw_all := lw_g (lw_at lw_m12 72 rfl) rfl
theorem q2847 : (Jvm.Cond.selects "VectorVersionsModel" ({ cls := "VectorVersionsModel", name := "parentOf", desc := "(I)I" } : Jvm.MethodName) ({ cls := "VectorVersionsModel", name := "parentOf", desc := "(I)I" } : Jvm.MethodName)) ∈ lw_all := lw_g (lw_at lw_m12 73 rfl) rfl
theorem q2848 : (Jvm.Cond.code ({ cls := "VectorVersionsModel", name := "parentOf", desc := "(I)I" } : Jvm.MethodName) prog_18_method_79_code (2 : Nat) (Option.some Jvm.ClassFile.FieldType.int)) ∈ lw_all := lw_g (lw_at lw_m12 74 rfl) rfl
theorem q2850 : (Jvm.Cond.instanceMethod ({ cls := "VectorVersionsModel", name := "depthOf", desc := "(I)I" } : Jvm.MethodName)) ∈ lw_all := lw_g (lw_at lw_m12 76 rfl) rfl
theorem q2851 : (Jvm.Cond.selects "VectorVersionsModel" ({ cls := "VectorVersionsModel", name := "depthOf", desc := "(I)I" } : Jvm.MethodName) ({ cls := "VectorVersionsModel", name := "depthOf", desc := "(I)I" } : Jvm.MethodName)) ∈ lw_all := lw_g (lw_at lw_m12 77 rfl) rfl
theorem q2852 : (Jvm.Cond.code ({ cls := "VectorVersionsModel", name := "depthOf", desc := "(I)I" } : Jvm.MethodName) prog_18_method_81_code (2 : Nat) (Option.some Jvm.ClassFile.FieldType.int)) ∈ lw_all := lw_g (lw_at lw_m12 78 rfl) rfl
theorem q2853 : (Jvm.Cond.methodLink "VectorVersionsModel" (337 : Nat) ({ cls := "VectorVersionsModel", name := "depth", desc := "(I)I" } : Jvm.MethodName)) ∈ lw_all := lw_g (lw_at lw_m12 79 rfl) rfl
theorem q2854 : (Jvm.Cond.privateMethod ({ cls := "VectorVersionsModel", name := "depth", desc := "(I)I" } : Jvm.MethodName)) ∈ lw_tbl := lw_at lw_m12 80 rfl
theorem q2855 : (Jvm.Cond.instanceMethod ({ cls := "VectorVersionsModel", name := "depth", desc := "(I)I" } : Jvm.MethodName)) ∈ lw_all := lw_g (lw_at lw_m12 81 rfl) rfl
theorem q2856 : (Jvm.Cond.code ({ cls := "VectorVersionsModel", name := "depth", desc := "(I)I" } : Jvm.MethodName) prog_18_method_80_code (4 : Nat) (Option.some Jvm.ClassFile.FieldType.int)) ∈ lw_all := lw_g (lw_at lw_m12 82 rfl) rfl
theorem q2858 : (Jvm.Cond.instanceMethod ({ cls := "VectorVersionsModel", name := "childCount", desc := "(I)I" } : Jvm.MethodName)) ∈ lw_all := lw_g (lw_at lw_m12 84 rfl) rfl
theorem q2859 : (Jvm.Cond.selects "VectorVersionsModel" ({ cls := "VectorVersionsModel", name := "childCount", desc := "(I)I" } : Jvm.MethodName) ({ cls := "VectorVersionsModel", name := "childCount", desc := "(I)I" } : Jvm.MethodName)) ∈ lw_all := lw_g (lw_at lw_m12 85 rfl) rfl
theorem q2860 : (Jvm.Cond.code ({ cls := "VectorVersionsModel", name := "childCount", desc := "(I)I" } : Jvm.MethodName) prog_18_method_82_code (4 : Nat) (Option.some Jvm.ClassFile.FieldType.int)) ∈ lw_all := lw_g (lw_at lw_m12 86 rfl) rfl
theorem q2862 : (Jvm.Cond.instanceMethod ({ cls := "VectorVersionsModel", name := "commonAncestor", desc := "(II)I" } : Jvm.MethodName)) ∈ lw_all := lw_g (lw_at lw_m12 88 rfl) rfl
theorem q2863 : (Jvm.Cond.selects "VectorVersionsModel" ({ cls := "VectorVersionsModel", name := "commonAncestor", desc := "(II)I" } : Jvm.MethodName) ({ cls := "VectorVersionsModel", name := "commonAncestor", desc := "(II)I" } : Jvm.MethodName)) ∈ lw_all := lw_g (lw_at lw_m12 89 rfl) rfl
theorem q2864 : (Jvm.Cond.code ({ cls := "VectorVersionsModel", name := "commonAncestor", desc := "(II)I" } : Jvm.MethodName) prog_18_method_83_code (5 : Nat) (Option.some Jvm.ClassFile.FieldType.int)) ∈ lw_all := lw_g (lw_at lw_m12 90 rfl) rfl
theorem q2866 : (Jvm.Cond.instanceMethod ({ cls := "VectorVersionsModel", name := "size", desc := "(I)I" } : Jvm.MethodName)) ∈ lw_all := lw_g (lw_at lw_m12 92 rfl) rfl
theorem q2867 : (Jvm.Cond.selects "VectorVersionsModel" ({ cls := "VectorVersionsModel", name := "size", desc := "(I)I" } : Jvm.MethodName) ({ cls := "VectorVersionsModel", name := "size", desc := "(I)I" } : Jvm.MethodName)) ∈ lw_all := lw_g (lw_at lw_m12 93 rfl) rfl
theorem q2868 : (Jvm.Cond.code ({ cls := "VectorVersionsModel", name := "size", desc := "(I)I" } : Jvm.MethodName) prog_18_method_87_code (2 : Nat) (Option.some Jvm.ClassFile.FieldType.int)) ∈ lw_all := lw_g (lw_at lw_m12 94 rfl) rfl
theorem q2869 : (Jvm.Cond.methodLink "VectorVersionsModel" (343 : Nat) ({ cls := "VectorVersionsModel", name := "checkLive", desc := "(I)Z" } : Jvm.MethodName)) ∈ lw_all := lw_g (lw_at lw_m12 95 rfl) rfl
theorem q2870 : (Jvm.Cond.privateMethod ({ cls := "VectorVersionsModel", name := "checkLive", desc := "(I)Z" } : Jvm.MethodName)) ∈ lw_tbl := lw_at lw_m12 96 rfl
theorem q2871 : (Jvm.Cond.instanceMethod ({ cls := "VectorVersionsModel", name := "checkLive", desc := "(I)Z" } : Jvm.MethodName)) ∈ lw_all := lw_g (lw_at lw_m12 97 rfl) rfl
theorem q2872 : (Jvm.Cond.code ({ cls := "VectorVersionsModel", name := "checkLive", desc := "(I)Z" } : Jvm.MethodName) prog_18_method_84_code (3 : Nat) (Option.some Jvm.ClassFile.FieldType.boolean)) ∈ lw_all := lw_g (lw_at lw_m12 98 rfl) rfl
theorem q2874 : (Jvm.Cond.instanceMethod ({ cls := "VectorVersionsModel", name := "height", desc := "(I)I" } : Jvm.MethodName)) ∈ lw_all := lw_g (lw_at lw_m12 100 rfl) rfl
theorem q2875 : (Jvm.Cond.selects "VectorVersionsModel" ({ cls := "VectorVersionsModel", name := "height", desc := "(I)I" } : Jvm.MethodName) ({ cls := "VectorVersionsModel", name := "height", desc := "(I)I" } : Jvm.MethodName)) ∈ lw_all := lw_g (lw_at lw_m12 101 rfl) rfl
theorem q2876 : (Jvm.Cond.code ({ cls := "VectorVersionsModel", name := "height", desc := "(I)I" } : Jvm.MethodName) prog_18_method_88_code (2 : Nat) (Option.some Jvm.ClassFile.FieldType.int)) ∈ lw_all := lw_g (lw_at lw_m12 102 rfl) rfl
theorem q2878 : (Jvm.Cond.instanceMethod ({ cls := "VectorVersionsModel", name := "rootOf", desc := "(I)I" } : Jvm.MethodName)) ∈ lw_all := lw_g (lw_at lw_m12 104 rfl) rfl
theorem q2879 : (Jvm.Cond.selects "VectorVersionsModel" ({ cls := "VectorVersionsModel", name := "rootOf", desc := "(I)I" } : Jvm.MethodName) ({ cls := "VectorVersionsModel", name := "rootOf", desc := "(I)I" } : Jvm.MethodName)) ∈ lw_all := lw_g (lw_at lw_m12 105 rfl) rfl
theorem q2880 : (Jvm.Cond.code ({ cls := "VectorVersionsModel", name := "rootOf", desc := "(I)I" } : Jvm.MethodName) prog_18_method_89_code (2 : Nat) (Option.some Jvm.ClassFile.FieldType.int)) ∈ lw_all := lw_g (lw_at lw_m12 106 rfl) rfl
theorem q2882 : (Jvm.Cond.instanceMethod ({ cls := "VectorVersionsModel", name := "get", desc := "(II)I" } : Jvm.MethodName)) ∈ lw_all := lw_g (lw_at lw_m12 108 rfl) rfl
theorem q2883 : (Jvm.Cond.selects "VectorVersionsModel" ({ cls := "VectorVersionsModel", name := "get", desc := "(II)I" } : Jvm.MethodName) ({ cls := "VectorVersionsModel", name := "get", desc := "(II)I" } : Jvm.MethodName)) ∈ lw_all := lw_g (lw_at lw_m12 109 rfl) rfl
theorem q2884 : (Jvm.Cond.code ({ cls := "VectorVersionsModel", name := "get", desc := "(II)I" } : Jvm.MethodName) prog_18_method_90_code (3 : Nat) (Option.some Jvm.ClassFile.FieldType.int)) ∈ lw_all := lw_g (lw_at lw_m12 110 rfl) rfl
theorem q2885 : (Jvm.Cond.methodLink "VectorVersionsModel" (346 : Nat) ({ cls := "VectorVersionsModel", name := "checkElement", desc := "(II)Z" } : Jvm.MethodName)) ∈ lw_all := lw_g (lw_at lw_m12 111 rfl) rfl
theorem q2886 : (Jvm.Cond.privateMethod ({ cls := "VectorVersionsModel", name := "checkElement", desc := "(II)Z" } : Jvm.MethodName)) ∈ lw_tbl := lw_at lw_m12 112 rfl
theorem q2887 : (Jvm.Cond.instanceMethod ({ cls := "VectorVersionsModel", name := "checkElement", desc := "(II)Z" } : Jvm.MethodName)) ∈ lw_all := lw_g (lw_at lw_m12 113 rfl) rfl
theorem q2888 : (Jvm.Cond.code ({ cls := "VectorVersionsModel", name := "checkElement", desc := "(II)Z" } : Jvm.MethodName) prog_18_method_86_code (4 : Nat) (Option.some Jvm.ClassFile.FieldType.boolean)) ∈ lw_all := lw_g (lw_at lw_m12 114 rfl) rfl
theorem q2889 : (Jvm.Cond.methodLink "VectorVersionsModel" (340 : Nat) ({ cls := "VectorVersionsModel", name := "hasElement", desc := "(II)Z" } : Jvm.MethodName)) ∈ lw_all := lw_g (lw_at lw_m12 115 rfl) rfl
theorem q2890 : (Jvm.Cond.privateMethod ({ cls := "VectorVersionsModel", name := "hasElement", desc := "(II)Z" } : Jvm.MethodName)) ∈ lw_tbl := lw_at lw_m12 116 rfl
theorem q2891 : (Jvm.Cond.instanceMethod ({ cls := "VectorVersionsModel", name := "hasElement", desc := "(II)Z" } : Jvm.MethodName)) ∈ lw_all := lw_g (lw_at lw_m12 117 rfl) rfl
theorem q2892 : (Jvm.Cond.code ({ cls := "VectorVersionsModel", name := "hasElement", desc := "(II)Z" } : Jvm.MethodName) prog_18_method_85_code (3 : Nat) (Option.some Jvm.ClassFile.FieldType.boolean)) ∈ lw_all := lw_g (lw_at lw_m12 118 rfl) rfl
theorem q2894 : (Jvm.Cond.instanceMethod ({ cls := "VectorVersionsModel", name := "leafOf", desc := "(II)I" } : Jvm.MethodName)) ∈ lw_all := lw_g (lw_at lw_m12 120 rfl) rfl
theorem q2895 : (Jvm.Cond.selects "VectorVersionsModel" ({ cls := "VectorVersionsModel", name := "leafOf", desc := "(II)I" } : Jvm.MethodName) ({ cls := "VectorVersionsModel", name := "leafOf", desc := "(II)I" } : Jvm.MethodName)) ∈ lw_all := lw_g (lw_at lw_m12 121 rfl) rfl
theorem q2896 : (Jvm.Cond.code ({ cls := "VectorVersionsModel", name := "leafOf", desc := "(II)I" } : Jvm.MethodName) prog_18_method_91_code (5 : Nat) (Option.some Jvm.ClassFile.FieldType.int)) ∈ lw_all := lw_g (lw_at lw_m12 122 rfl) rfl
theorem q2898 : (Jvm.Cond.instanceMethod ({ cls := "VectorVersionsModel", name := "sum", desc := "(I)I" } : Jvm.MethodName)) ∈ lw_all := lw_g (lw_at lw_m12 124 rfl) rfl
theorem q2899 : (Jvm.Cond.selects "VectorVersionsModel" ({ cls := "VectorVersionsModel", name := "sum", desc := "(I)I" } : Jvm.MethodName) ({ cls := "VectorVersionsModel", name := "sum", desc := "(I)I" } : Jvm.MethodName)) ∈ lw_all := lw_g (lw_at lw_m12 125 rfl) rfl
theorem q2900 : (Jvm.Cond.code ({ cls := "VectorVersionsModel", name := "sum", desc := "(I)I" } : Jvm.MethodName) prog_18_method_92_code (4 : Nat) (Option.some Jvm.ClassFile.FieldType.int)) ∈ lw_all := lw_g (lw_at lw_m12 126 rfl) rfl
theorem q2902 : (Jvm.Cond.instanceMethod ({ cls := "VectorVersionsModel", name := "indexOf", desc := "(II)I" } : Jvm.MethodName)) ∈ lw_all := lw_g (lw_at lw_m12 128 rfl) rfl
theorem q2903 : (Jvm.Cond.selects "VectorVersionsModel" ({ cls := "VectorVersionsModel", name := "indexOf", desc := "(II)I" } : Jvm.MethodName) ({ cls := "VectorVersionsModel", name := "indexOf", desc := "(II)I" } : Jvm.MethodName)) ∈ lw_all := lw_g (lw_at lw_m12 129 rfl) rfl
theorem q2904 : (Jvm.Cond.code ({ cls := "VectorVersionsModel", name := "indexOf", desc := "(II)I" } : Jvm.MethodName) prog_18_method_93_code (4 : Nat) (Option.some Jvm.ClassFile.FieldType.int)) ∈ lw_all := lw_g (lw_at lw_m12 130 rfl) rfl
theorem q2906 : (Jvm.Cond.instanceMethod ({ cls := "VectorVersionsModel", name := "createdNodes", desc := "()I" } : Jvm.MethodName)) ∈ lw_all := lw_g (lw_at lw_m12 132 rfl) rfl
theorem q2907 : (Jvm.Cond.selects "VectorVersionsModel" ({ cls := "VectorVersionsModel", name := "createdNodes", desc := "()I" } : Jvm.MethodName) ({ cls := "VectorVersionsModel", name := "createdNodes", desc := "()I" } : Jvm.MethodName)) ∈ lw_all := lw_g (lw_at lw_m12 133 rfl) rfl
theorem q2908 : (Jvm.Cond.code ({ cls := "VectorVersionsModel", name := "createdNodes", desc := "()I" } : Jvm.MethodName) prog_18_method_94_code (1 : Nat) (Option.some Jvm.ClassFile.FieldType.int)) ∈ lw_all := lw_g (lw_at lw_m12 134 rfl) rfl
theorem q2910 : (Jvm.Cond.instanceMethod ({ cls := "VectorVersionsModel", name := "storedNodes", desc := "()I" } : Jvm.MethodName)) ∈ lw_all := lw_g (lw_at lw_m12 136 rfl) rfl
theorem q2911 : (Jvm.Cond.selects "VectorVersionsModel" ({ cls := "VectorVersionsModel", name := "storedNodes", desc := "()I" } : Jvm.MethodName) ({ cls := "VectorVersionsModel", name := "storedNodes", desc := "()I" } : Jvm.MethodName)) ∈ lw_all := lw_g (lw_at lw_m12 137 rfl) rfl
theorem q2912 : (Jvm.Cond.code ({ cls := "VectorVersionsModel", name := "storedNodes", desc := "()I" } : Jvm.MethodName) prog_18_method_95_code (1 : Nat) (Option.some Jvm.ClassFile.FieldType.int)) ∈ lw_all := lw_g (lw_at lw_m12 138 rfl) rfl
theorem q2913 : (Jvm.Cond.methodLink "VectorVersionsModel" (349 : Nat) ({ cls := "VectorVersionsModel", name := "countStored", desc := "()I" } : Jvm.MethodName)) ∈ lw_all := lw_g (lw_at lw_m12 139 rfl) rfl
theorem q2914 : (Jvm.Cond.privateMethod ({ cls := "VectorVersionsModel", name := "countStored", desc := "()I" } : Jvm.MethodName)) ∈ lw_tbl := lw_at lw_m12 140 rfl
theorem q2915 : (Jvm.Cond.instanceMethod ({ cls := "VectorVersionsModel", name := "countStored", desc := "()I" } : Jvm.MethodName)) ∈ lw_all := lw_g (lw_at lw_m12 141 rfl) rfl
theorem q2916 : (Jvm.Cond.code ({ cls := "VectorVersionsModel", name := "countStored", desc := "()I" } : Jvm.MethodName) prog_18_method_43_code (3 : Nat) (Option.some Jvm.ClassFile.FieldType.int)) ∈ lw_all := lw_g (lw_at lw_m12 142 rfl) rfl
theorem q2918 : (Jvm.Cond.instanceMethod ({ cls := "VectorVersionsModel", name := "garbageNodes", desc := "()I" } : Jvm.MethodName)) ∈ lw_all := lw_g (lw_at lw_m12 144 rfl) rfl
theorem q2919 : (Jvm.Cond.selects "VectorVersionsModel" ({ cls := "VectorVersionsModel", name := "garbageNodes", desc := "()I" } : Jvm.MethodName) ({ cls := "VectorVersionsModel", name := "garbageNodes", desc := "()I" } : Jvm.MethodName)) ∈ lw_all := lw_g (lw_at lw_m12 145 rfl) rfl
theorem q2920 : (Jvm.Cond.code ({ cls := "VectorVersionsModel", name := "garbageNodes", desc := "()I" } : Jvm.MethodName) prog_18_method_96_code (1 : Nat) (Option.some Jvm.ClassFile.FieldType.int)) ∈ lw_all := lw_g (lw_at lw_m12 146 rfl) rfl
theorem q2922 : (Jvm.Cond.instanceMethod ({ cls := "VectorVersionsModel", name := "nodesCreatedFor", desc := "(I)I" } : Jvm.MethodName)) ∈ lw_all := lw_g (lw_at lw_m12 148 rfl) rfl
theorem q2923 : (Jvm.Cond.selects "VectorVersionsModel" ({ cls := "VectorVersionsModel", name := "nodesCreatedFor", desc := "(I)I" } : Jvm.MethodName) ({ cls := "VectorVersionsModel", name := "nodesCreatedFor", desc := "(I)I" } : Jvm.MethodName)) ∈ lw_all := lw_g (lw_at lw_m12 149 rfl) rfl
theorem q2924 : (Jvm.Cond.code ({ cls := "VectorVersionsModel", name := "nodesCreatedFor", desc := "(I)I" } : Jvm.MethodName) prog_18_method_97_code (2 : Nat) (Option.some Jvm.ClassFile.FieldType.int)) ∈ lw_all := lw_g (lw_at lw_m12 150 rfl) rfl
theorem q2926 : (Jvm.Cond.instanceMethod ({ cls := "VectorVersionsModel", name := "nodesOf", desc := "(I)I" } : Jvm.MethodName)) ∈ lw_all := lw_g (lw_at lw_m12 152 rfl) rfl
theorem q2927 : (Jvm.Cond.selects "VectorVersionsModel" ({ cls := "VectorVersionsModel", name := "nodesOf", desc := "(I)I" } : Jvm.MethodName) ({ cls := "VectorVersionsModel", name := "nodesOf", desc := "(I)I" } : Jvm.MethodName)) ∈ lw_all := lw_g (lw_at lw_m12 153 rfl) rfl
theorem q2928 : (Jvm.Cond.code ({ cls := "VectorVersionsModel", name := "nodesOf", desc := "(I)I" } : Jvm.MethodName) prog_18_method_100_code (2 : Nat) (Option.some Jvm.ClassFile.FieldType.int)) ∈ lw_all := lw_g (lw_at lw_m12 154 rfl) rfl
theorem q2929 : (Jvm.Cond.methodLink "VectorVersionsModel" (355 : Nat) ({ cls := "VectorVersionsModel", name := "countNodes", desc := "(I)I" } : Jvm.MethodName)) ∈ lw_all := lw_g (lw_at lw_m12 155 rfl) rfl
theorem q2930 : (Jvm.Cond.privateMethod ({ cls := "VectorVersionsModel", name := "countNodes", desc := "(I)I" } : Jvm.MethodName)) ∈ lw_tbl := lw_at lw_m12 156 rfl
theorem q2931 : (Jvm.Cond.instanceMethod ({ cls := "VectorVersionsModel", name := "countNodes", desc := "(I)I" } : Jvm.MethodName)) ∈ lw_all := lw_g (lw_at lw_m12 157 rfl) rfl
theorem q2932 : (Jvm.Cond.code ({ cls := "VectorVersionsModel", name := "countNodes", desc := "(I)I" } : Jvm.MethodName) prog_18_method_99_code (2 : Nat) (Option.some Jvm.ClassFile.FieldType.int)) ∈ lw_all := lw_g (lw_at lw_m12 158 rfl) rfl
theorem q2933 : (Jvm.Cond.methodLink "VectorVersionsModel" (352 : Nat) ({ cls := "VectorVersionsModel", name := "countReached", desc := "(I)I" } : Jvm.MethodName)) ∈ lw_all := lw_g (lw_at lw_m12 159 rfl) rfl
theorem q2934 : (Jvm.Cond.privateMethod ({ cls := "VectorVersionsModel", name := "countReached", desc := "(I)I" } : Jvm.MethodName)) ∈ lw_tbl := lw_at lw_m12 160 rfl
theorem q2935 : (Jvm.Cond.instanceMethod ({ cls := "VectorVersionsModel", name := "countReached", desc := "(I)I" } : Jvm.MethodName)) ∈ lw_all := lw_g (lw_at lw_m12 161 rfl) rfl
theorem q2936 : (Jvm.Cond.code ({ cls := "VectorVersionsModel", name := "countReached", desc := "(I)I" } : Jvm.MethodName) prog_18_method_98_code (4 : Nat) (Option.some Jvm.ClassFile.FieldType.int)) ∈ lw_all := lw_g (lw_at lw_m12 162 rfl) rfl
theorem q2938 : (Jvm.Cond.instanceMethod ({ cls := "VectorVersionsModel", name := "sharedNodes", desc := "(II)I" } : Jvm.MethodName)) ∈ lw_all := lw_g (lw_at lw_m12 164 rfl) rfl
theorem q2939 : (Jvm.Cond.selects "VectorVersionsModel" ({ cls := "VectorVersionsModel", name := "sharedNodes", desc := "(II)I" } : Jvm.MethodName) ({ cls := "VectorVersionsModel", name := "sharedNodes", desc := "(II)I" } : Jvm.MethodName)) ∈ lw_all := lw_g (lw_at lw_m12 165 rfl) rfl
theorem q2940 : (Jvm.Cond.code ({ cls := "VectorVersionsModel", name := "sharedNodes", desc := "(II)I" } : Jvm.MethodName) prog_18_method_102_code (3 : Nat) (Option.some Jvm.ClassFile.FieldType.int)) ∈ lw_all := lw_g (lw_at lw_m12 166 rfl) rfl
theorem q2941 : (Jvm.Cond.methodLink "VectorVersionsModel" (358 : Nat) ({ cls := "VectorVersionsModel", name := "checkTwo", desc := "(II)Z" } : Jvm.MethodName)) ∈ lw_all := lw_g (lw_at lw_m12 167 rfl) rfl
theorem q2942 : (Jvm.Cond.privateMethod ({ cls := "VectorVersionsModel", name := "checkTwo", desc := "(II)Z" } : Jvm.MethodName)) ∈ lw_tbl := lw_at lw_m12 168 rfl
theorem q2943 : (Jvm.Cond.instanceMethod ({ cls := "VectorVersionsModel", name := "checkTwo", desc := "(II)Z" } : Jvm.MethodName)) ∈ lw_all := lw_g (lw_at lw_m12 169 rfl) rfl
theorem q2944 : (Jvm.Cond.code ({ cls := "VectorVersionsModel", name := "checkTwo", desc := "(II)Z" } : Jvm.MethodName) prog_18_method_101_code (4 : Nat) (Option.some Jvm.ClassFile.FieldType.boolean)) ∈ lw_all := lw_g (lw_at lw_m12 170 rfl) rfl
theorem q2946 : (Jvm.Cond.instanceMethod ({ cls := "VectorVersionsModel", name := "exclusiveNodes", desc := "(I)I" } : Jvm.MethodName)) ∈ lw_all := lw_g (lw_at lw_m12 172 rfl) rfl
theorem q2947 : (Jvm.Cond.selects "VectorVersionsModel" ({ cls := "VectorVersionsModel", name := "exclusiveNodes", desc := "(I)I" } : Jvm.MethodName) ({ cls := "VectorVersionsModel", name := "exclusiveNodes", desc := "(I)I" } : Jvm.MethodName)) ∈ lw_all := lw_g (lw_at lw_m12 173 rfl) rfl
theorem q2948 : (Jvm.Cond.code ({ cls := "VectorVersionsModel", name := "exclusiveNodes", desc := "(I)I" } : Jvm.MethodName) prog_18_method_105_code (2 : Nat) (Option.some Jvm.ClassFile.FieldType.int)) ∈ lw_all := lw_g (lw_at lw_m12 174 rfl) rfl
theorem q2949 : (Jvm.Cond.methodLink "VectorVersionsModel" (364 : Nat) ({ cls := "VectorVersionsModel", name := "countExclusive", desc := "(I)I" } : Jvm.MethodName)) ∈ lw_all := lw_g (lw_at lw_m12 175 rfl) rfl
theorem q2950 : (Jvm.Cond.privateMethod ({ cls := "VectorVersionsModel", name := "countExclusive", desc := "(I)I" } : Jvm.MethodName)) ∈ lw_tbl := lw_at lw_m12 176 rfl
theorem q2951 : (Jvm.Cond.instanceMethod ({ cls := "VectorVersionsModel", name := "countExclusive", desc := "(I)I" } : Jvm.MethodName)) ∈ lw_all := lw_g (lw_at lw_m12 177 rfl) rfl
theorem q2952 : (Jvm.Cond.code ({ cls := "VectorVersionsModel", name := "countExclusive", desc := "(I)I" } : Jvm.MethodName) prog_18_method_103_code (4 : Nat) (Option.some Jvm.ClassFile.FieldType.int)) ∈ lw_all := lw_g (lw_at lw_m12 178 rfl) rfl
theorem q2953 : (Jvm.Cond.methodLink "VectorVersionsModel" (361 : Nat) ({ cls := "VectorVersionsModel", name := "countGarbageOf", desc := "()I" } : Jvm.MethodName)) ∈ lw_all := lw_g (lw_at lw_m12 179 rfl) rfl
theorem q2954 : (Jvm.Cond.privateMethod ({ cls := "VectorVersionsModel", name := "countGarbageOf", desc := "()I" } : Jvm.MethodName)) ∈ lw_tbl := lw_at lw_m12 180 rfl
theorem q2955 : (Jvm.Cond.instanceMethod ({ cls := "VectorVersionsModel", name := "countGarbageOf", desc := "()I" } : Jvm.MethodName)) ∈ lw_all := lw_g (lw_at lw_m12 181 rfl) rfl
theorem q2956 : (Jvm.Cond.code ({ cls := "VectorVersionsModel", name := "countGarbageOf", desc := "()I" } : Jvm.MethodName) prog_18_method_104_code (3 : Nat) (Option.some Jvm.ClassFile.FieldType.int)) ∈ lw_all := lw_g (lw_at lw_m12 182 rfl) rfl
theorem q2958 : (Jvm.Cond.instanceMethod ({ cls := "VectorVersionsModel", name := "isLeaf", desc := "(I)Z" } : Jvm.MethodName)) ∈ lw_all := lw_g (lw_at lw_m12 184 rfl) rfl
theorem q2959 : (Jvm.Cond.selects "VectorVersionsModel" ({ cls := "VectorVersionsModel", name := "isLeaf", desc := "(I)Z" } : Jvm.MethodName) ({ cls := "VectorVersionsModel", name := "isLeaf", desc := "(I)Z" } : Jvm.MethodName)) ∈ lw_all := lw_g (lw_at lw_m12 185 rfl) rfl
theorem q2960 : (Jvm.Cond.code ({ cls := "VectorVersionsModel", name := "isLeaf", desc := "(I)Z" } : Jvm.MethodName) prog_18_method_107_code (2 : Nat) (Option.some Jvm.ClassFile.FieldType.boolean)) ∈ lw_all := lw_g (lw_at lw_m12 186 rfl) rfl
theorem q2961 : (Jvm.Cond.methodLink "VectorVersionsModel" (367 : Nat) ({ cls := "VectorVersionsModel", name := "checkNode", desc := "(I)Z" } : Jvm.MethodName)) ∈ lw_all := lw_g (lw_at lw_m12 187 rfl) rfl
theorem q2962 : (Jvm.Cond.privateMethod ({ cls := "VectorVersionsModel", name := "checkNode", desc := "(I)Z" } : Jvm.MethodName)) ∈ lw_tbl := lw_at lw_m12 188 rfl
theorem q2963 : (Jvm.Cond.instanceMethod ({ cls := "VectorVersionsModel", name := "checkNode", desc := "(I)Z" } : Jvm.MethodName)) ∈ lw_all := lw_g (lw_at lw_m12 189 rfl) rfl
theorem q2964 : (Jvm.Cond.code ({ cls := "VectorVersionsModel", name := "checkNode", desc := "(I)Z" } : Jvm.MethodName) prog_18_method_106_code (2 : Nat) (Option.some Jvm.ClassFile.FieldType.boolean)) ∈ lw_all := lw_g (lw_at lw_m12 190 rfl) rfl
theorem q2966 : (Jvm.Cond.instanceMethod ({ cls := "VectorVersionsModel", name := "entryCount", desc := "(I)I" } : Jvm.MethodName)) ∈ lw_all := lw_g (lw_at lw_m12 192 rfl) rfl
theorem q2967 : (Jvm.Cond.selects "VectorVersionsModel" ({ cls := "VectorVersionsModel", name := "entryCount", desc := "(I)I" } : Jvm.MethodName) ({ cls := "VectorVersionsModel", name := "entryCount", desc := "(I)I" } : Jvm.MethodName)) ∈ lw_all := lw_g (lw_at lw_m12 193 rfl) rfl
theorem q2968 : (Jvm.Cond.code ({ cls := "VectorVersionsModel", name := "entryCount", desc := "(I)I" } : Jvm.MethodName) prog_18_method_108_code (2 : Nat) (Option.some Jvm.ClassFile.FieldType.int)) ∈ lw_all := lw_g (lw_at lw_m12 194 rfl) rfl
theorem q2970 : (Jvm.Cond.instanceMethod ({ cls := "VectorVersionsModel", name := "childOf", desc := "(II)I" } : Jvm.MethodName)) ∈ lw_all := lw_g (lw_at lw_m12 196 rfl) rfl
theorem q2971 : (Jvm.Cond.selects "VectorVersionsModel" ({ cls := "VectorVersionsModel", name := "childOf", desc := "(II)I" } : Jvm.MethodName) ({ cls := "VectorVersionsModel", name := "childOf", desc := "(II)I" } : Jvm.MethodName)) ∈ lw_all := lw_g (lw_at lw_m12 197 rfl) rfl
theorem q2972 : (Jvm.Cond.code ({ cls := "VectorVersionsModel", name := "childOf", desc := "(II)I" } : Jvm.MethodName) prog_18_method_109_code (4 : Nat) (Option.some Jvm.ClassFile.FieldType.int)) ∈ lw_all := lw_g (lw_at lw_m12 198 rfl) rfl
theorem q2974 : (Jvm.Cond.instanceMethod ({ cls := "VectorVersionsModel", name := "referencesTo", desc := "(I)I" } : Jvm.MethodName)) ∈ lw_all := lw_g (lw_at lw_m12 200 rfl) rfl
theorem q2975 : (Jvm.Cond.selects "VectorVersionsModel" ({ cls := "VectorVersionsModel", name := "referencesTo", desc := "(I)I" } : Jvm.MethodName) ({ cls := "VectorVersionsModel", name := "referencesTo", desc := "(I)I" } : Jvm.MethodName)) ∈ lw_all := lw_g (lw_at lw_m12 201 rfl) rfl
theorem q2976 : (Jvm.Cond.code ({ cls := "VectorVersionsModel", name := "referencesTo", desc := "(I)I" } : Jvm.MethodName) prog_18_method_111_code (4 : Nat) (Option.some Jvm.ClassFile.FieldType.int)) ∈ lw_all := lw_g (lw_at lw_m12 202 rfl) rfl
theorem q2977 : (Jvm.Cond.methodLink "VectorVersionsModel" (370 : Nat) ({ cls := "VectorVersionsModel", name := "hasChild", desc := "(II)Z" } : Jvm.MethodName)) ∈ lw_all := lw_g (lw_at lw_m12 203 rfl) rfl
theorem q2978 : (Jvm.Cond.privateMethod ({ cls := "VectorVersionsModel", name := "hasChild", desc := "(II)Z" } : Jvm.MethodName)) ∈ lw_tbl := lw_at lw_m12 204 rfl
theorem q2979 : (Jvm.Cond.instanceMethod ({ cls := "VectorVersionsModel", name := "hasChild", desc := "(II)Z" } : Jvm.MethodName)) ∈ lw_all := lw_g (lw_at lw_m12 205 rfl) rfl
theorem q2980 : (Jvm.Cond.code ({ cls := "VectorVersionsModel", name := "hasChild", desc := "(II)Z" } : Jvm.MethodName) prog_18_method_110_code (4 : Nat) (Option.some Jvm.ClassFile.FieldType.boolean)) ∈ lw_all := lw_g (lw_at lw_m12 206 rfl) rfl
theorem q2982 : (Jvm.Cond.instanceMethod ({ cls := "VectorVersionsModel", name := "differences", desc := "(II)I" } : Jvm.MethodName)) ∈ lw_all := lw_g (lw_at lw_m12 208 rfl) rfl
theorem q2983 : (Jvm.Cond.selects "VectorVersionsModel" ({ cls := "VectorVersionsModel", name := "differences", desc := "(II)I" } : Jvm.MethodName) ({ cls := "VectorVersionsModel", name := "differences", desc := "(II)I" } : Jvm.MethodName)) ∈ lw_all := lw_g (lw_at lw_m12 209 rfl) rfl
theorem q2984 : (Jvm.Cond.code ({ cls := "VectorVersionsModel", name := "differences", desc := "(II)I" } : Jvm.MethodName) prog_18_method_113_code (5 : Nat) (Option.some Jvm.ClassFile.FieldType.int)) ∈ lw_all := lw_g (lw_at lw_m12 210 rfl) rfl
theorem q2985 : (Jvm.Cond.methodLink "VectorVersionsModel" (373 : Nat) ({ cls := "VectorVersionsModel", name := "differAt", desc := "(III)Z" } : Jvm.MethodName)) ∈ lw_all := lw_g (lw_at lw_m12 211 rfl) rfl
theorem q2986 : (Jvm.Cond.privateMethod ({ cls := "VectorVersionsModel", name := "differAt", desc := "(III)Z" } : Jvm.MethodName)) ∈ lw_tbl := lw_at lw_m12 212 rfl
theorem q2987 : (Jvm.Cond.instanceMethod ({ cls := "VectorVersionsModel", name := "differAt", desc := "(III)Z" } : Jvm.MethodName)) ∈ lw_all := lw_g (lw_at lw_m12 213 rfl) rfl
theorem q2988 : (Jvm.Cond.code ({ cls := "VectorVersionsModel", name := "differAt", desc := "(III)Z" } : Jvm.MethodName) prog_18_method_112_code (6 : Nat) (Option.some Jvm.ClassFile.FieldType.boolean)) ∈ lw_all := lw_g (lw_at lw_m12 214 rfl) rfl
theorem q2990 : (Jvm.Cond.instanceMethod ({ cls := "VectorVersionsModel", name := "firstDifference", desc := "(II)I" } : Jvm.MethodName)) ∈ lw_all := lw_g (lw_at lw_m12 216 rfl) rfl
theorem q2991 : (Jvm.Cond.selects "VectorVersionsModel" ({ cls := "VectorVersionsModel", name := "firstDifference", desc := "(II)I" } : Jvm.MethodName) ({ cls := "VectorVersionsModel", name := "firstDifference", desc := "(II)I" } : Jvm.MethodName)) ∈ lw_all := lw_g (lw_at lw_m12 217 rfl) rfl
theorem q2992 : (Jvm.Cond.code ({ cls := "VectorVersionsModel", name := "firstDifference", desc := "(II)I" } : Jvm.MethodName) prog_18_method_114_code (4 : Nat) (Option.some Jvm.ClassFile.FieldType.int)) ∈ lw_all := lw_g (lw_at lw_m12 218 rfl) rfl
theorem q2994 : (Jvm.Cond.instanceMethod ({ cls := "VectorVersionsModel", name := "comparisonCost", desc := "(II)I" } : Jvm.MethodName)) ∈ lw_all := lw_g (lw_at lw_m12 220 rfl) rfl
theorem q2995 : (Jvm.Cond.selects "VectorVersionsModel" ({ cls := "VectorVersionsModel", name := "comparisonCost", desc := "(II)I" } : Jvm.MethodName) ({ cls := "VectorVersionsModel", name := "comparisonCost", desc := "(II)I" } : Jvm.MethodName)) ∈ lw_all := lw_g (lw_at lw_m12 221 rfl) rfl
theorem q2996 : (Jvm.Cond.code ({ cls := "VectorVersionsModel", name := "comparisonCost", desc := "(II)I" } : Jvm.MethodName) prog_18_method_116_code (3 : Nat) (Option.some Jvm.ClassFile.FieldType.int)) ∈ lw_all := lw_g (lw_at lw_m12 222 rfl) rfl
theorem q2997 : (Jvm.Cond.methodLink "VectorVersionsModel" (376 : Nat) ({ cls := "VectorVersionsModel", name := "cost", desc := "(II)I" } : Jvm.MethodName)) ∈ lw_all := lw_g (lw_at lw_m12 223 rfl) rfl
theorem q2998 : (Jvm.Cond.privateMethod ({ cls := "VectorVersionsModel", name := "cost", desc := "(II)I" } : Jvm.MethodName)) ∈ lw_tbl := lw_at lw_m12 224 rfl
theorem q2999 : (Jvm.Cond.instanceMethod ({ cls := "VectorVersionsModel", name := "cost", desc := "(II)I" } : Jvm.MethodName)) ∈ lw_all := lw_g (lw_at lw_m12 225 rfl) rfl
theorem q3000 : (Jvm.Cond.code ({ cls := "VectorVersionsModel", name := "cost", desc := "(II)I" } : Jvm.MethodName) prog_18_method_115_code (6 : Nat) (Option.some Jvm.ClassFile.FieldType.int)) ∈ lw_all := lw_g (lw_at lw_m12 226 rfl) rfl
theorem q3002 : (Jvm.Cond.instanceMethod ({ cls := "VectorVersionsModel", name := "nodesForSet", desc := "(III)I" } : Jvm.MethodName)) ∈ lw_all := lw_g (lw_at lw_m12 228 rfl) rfl
theorem q3003 : (Jvm.Cond.selects "VectorVersionsModel" ({ cls := "VectorVersionsModel", name := "nodesForSet", desc := "(III)I" } : Jvm.MethodName) ({ cls := "VectorVersionsModel", name := "nodesForSet", desc := "(III)I" } : Jvm.MethodName)) ∈ lw_all := lw_g (lw_at lw_m12 229 rfl) rfl
theorem q3004 : (Jvm.Cond.code ({ cls := "VectorVersionsModel", name := "nodesForSet", desc := "(III)I" } : Jvm.MethodName) prog_18_method_117_code (6 : Nat) (Option.some Jvm.ClassFile.FieldType.int)) ∈ lw_all := lw_g (lw_at lw_m12 230 rfl) rfl
theorem q3005 : (Jvm.Cond.constantLong "VectorVersionsModel" (379 : Nat) (-999 : Int64)) ∈ lw_all := lw_g (lw_at lw_m12 231 rfl) rfl
theorem q3006 : (Jvm.Cond.constantLong "VectorVersionsModel" (381 : Nat) (999 : Int64)) ∈ lw_all := lw_g (lw_at lw_m12 232 rfl) rfl
theorem q3008 : (Jvm.Cond.instanceMethod ({ cls := "VectorVersionsModel", name := "nodesForAppend", desc := "(I)I" } : Jvm.MethodName)) ∈ lw_all := lw_g (lw_at lw_m12 234 rfl) rfl
theorem q3009 : (Jvm.Cond.selects "VectorVersionsModel" ({ cls := "VectorVersionsModel", name := "nodesForAppend", desc := "(I)I" } : Jvm.MethodName) ({ cls := "VectorVersionsModel", name := "nodesForAppend", desc := "(I)I" } : Jvm.MethodName)) ∈ lw_all := lw_g (lw_at lw_m12 235 rfl) rfl
theorem q3010 : (Jvm.Cond.code ({ cls := "VectorVersionsModel", name := "nodesForAppend", desc := "(I)I" } : Jvm.MethodName) prog_18_method_118_code (3 : Nat) (Option.some Jvm.ClassFile.FieldType.int)) ∈ lw_all := lw_g (lw_at lw_m12 236 rfl) rfl
theorem q3012 : (Jvm.Cond.instanceMethod ({ cls := "VectorVersionsModel", name := "garbageIfReleased", desc := "(I)I" } : Jvm.MethodName)) ∈ lw_all := lw_g (lw_at lw_m12 238 rfl) rfl
theorem q3013 : (Jvm.Cond.selects "VectorVersionsModel" ({ cls := "VectorVersionsModel", name := "garbageIfReleased", desc := "(I)I" } : Jvm.MethodName) ({ cls := "VectorVersionsModel", name := "garbageIfReleased", desc := "(I)I" } : Jvm.MethodName)) ∈ lw_all := lw_g (lw_at lw_m12 239 rfl) rfl
theorem q3014 : (Jvm.Cond.code ({ cls := "VectorVersionsModel", name := "garbageIfReleased", desc := "(I)I" } : Jvm.MethodName) prog_18_method_119_code (2 : Nat) (Option.some Jvm.ClassFile.FieldType.int)) ∈ lw_all := lw_g (lw_at lw_m13 0 rfl) rfl
theorem q3016 : (Jvm.Cond.instanceMethod ({ cls := "VectorVersionsModel", name := "largestVersion", desc := "()I" } : Jvm.MethodName)) ∈ lw_all := lw_g (lw_at lw_m13 2 rfl) rfl
theorem q3017 : (Jvm.Cond.selects "VectorVersionsModel" ({ cls := "VectorVersionsModel", name := "largestVersion", desc := "()I" } : Jvm.MethodName) ({ cls := "VectorVersionsModel", name := "largestVersion", desc := "()I" } : Jvm.MethodName)) ∈ lw_all := lw_g (lw_at lw_m13 3 rfl) rfl
theorem q3018 : (Jvm.Cond.code ({ cls := "VectorVersionsModel", name := "largestVersion", desc := "()I" } : Jvm.MethodName) prog_18_method_120_code (3 : Nat) (Option.some Jvm.ClassFile.FieldType.int)) ∈ lw_all := lw_g (lw_at lw_m13 4 rfl) rfl
theorem q3020 : (Jvm.Cond.instanceMethod ({ cls := "VectorVersionsModel", name := "sharing", desc := "()D" } : Jvm.MethodName)) ∈ lw_all := lw_g (lw_at lw_m13 6 rfl) rfl
theorem q3021 : (Jvm.Cond.selects "VectorVersionsModel" ({ cls := "VectorVersionsModel", name := "sharing", desc := "()D" } : Jvm.MethodName) ({ cls := "VectorVersionsModel", name := "sharing", desc := "()D" } : Jvm.MethodName)) ∈ lw_all := lw_g (lw_at lw_m13 7 rfl) rfl
theorem q3022 : (Jvm.Cond.code ({ cls := "VectorVersionsModel", name := "sharing", desc := "()D" } : Jvm.MethodName) prog_18_method_121_code (4 : Nat) (Option.some Jvm.ClassFile.FieldType.double)) ∈ lw_all := lw_g (lw_at lw_m13 8 rfl) rfl
theorem q3024 : (Jvm.Cond.instanceMethod ({ cls := "VectorVersionsModel", name := "garbagePart", desc := "()F" } : Jvm.MethodName)) ∈ lw_all := lw_g (lw_at lw_m13 10 rfl) rfl
theorem q3025 : (Jvm.Cond.selects "VectorVersionsModel" ({ cls := "VectorVersionsModel", name := "garbagePart", desc := "()F" } : Jvm.MethodName) ({ cls := "VectorVersionsModel", name := "garbagePart", desc := "()F" } : Jvm.MethodName)) ∈ lw_all := lw_g (lw_at lw_m13 11 rfl) rfl
theorem q3026 : (Jvm.Cond.code ({ cls := "VectorVersionsModel", name := "garbagePart", desc := "()F" } : Jvm.MethodName) prog_18_method_122_code (3 : Nat) (Option.some Jvm.ClassFile.FieldType.float)) ∈ lw_all := lw_g (lw_at lw_m13 12 rfl) rfl
theorem q3028 : (Jvm.Cond.instanceMethod ({ cls := "VectorVersionsModel", name := "isConsistent", desc := "()Z" } : Jvm.MethodName)) ∈ lw_all := lw_g (lw_at lw_m13 14 rfl) rfl
theorem q3029 : (Jvm.Cond.selects "VectorVersionsModel" ({ cls := "VectorVersionsModel", name := "isConsistent", desc := "()Z" } : Jvm.MethodName) ({ cls := "VectorVersionsModel", name := "isConsistent", desc := "()Z" } : Jvm.MethodName)) ∈ lw_all := lw_g (lw_at lw_m13 15 rfl) rfl
theorem q3030 : (Jvm.Cond.code ({ cls := "VectorVersionsModel", name := "isConsistent", desc := "()Z" } : Jvm.MethodName) prog_18_method_128_code (3 : Nat) (Option.some Jvm.ClassFile.FieldType.boolean)) ∈ lw_all := lw_g (lw_at lw_m13 16 rfl) rfl
theorem q3031 : (Jvm.Cond.methodLink "VectorVersionsModel" (396 : Nat) ({ cls := "VectorVersionsModel", name := "isVersionConsistent", desc := "(I)Z" } : Jvm.MethodName)) ∈ lw_all := lw_g (lw_at lw_m13 17 rfl) rfl
theorem q3032 : (Jvm.Cond.privateMethod ({ cls := "VectorVersionsModel", name := "isVersionConsistent", desc := "(I)Z" } : Jvm.MethodName)) ∈ lw_tbl := lw_at lw_m13 18 rfl
theorem q3033 : (Jvm.Cond.instanceMethod ({ cls := "VectorVersionsModel", name := "isVersionConsistent", desc := "(I)Z" } : Jvm.MethodName)) ∈ lw_all := lw_g (lw_at lw_m13 19 rfl) rfl
theorem q3034 : (Jvm.Cond.code ({ cls := "VectorVersionsModel", name := "isVersionConsistent", desc := "(I)Z" } : Jvm.MethodName) prog_18_method_124_code (4 : Nat) (Option.some Jvm.ClassFile.FieldType.boolean)) ∈ lw_all := lw_g (lw_at lw_m13 20 rfl) rfl
theorem q3035 : (Jvm.Cond.methodLink "VectorVersionsModel" (386 : Nat) ({ cls := "VectorVersionsModel", name := "isTreeWhole", desc := "(IIZ)Z" } : Jvm.MethodName)) ∈ lw_all := lw_g (lw_at lw_m13 21 rfl) rfl
theorem q3036 : (Jvm.Cond.privateMethod ({ cls := "VectorVersionsModel", name := "isTreeWhole", desc := "(IIZ)Z" } : Jvm.MethodName)) ∈ lw_tbl := lw_at lw_m13 22 rfl
theorem q3037 : (Jvm.Cond.instanceMethod ({ cls := "VectorVersionsModel", name := "isTreeWhole", desc := "(IIZ)Z" } : Jvm.MethodName)) ∈ lw_all := lw_g (lw_at lw_m13 23 rfl) rfl
theorem q3038 : (Jvm.Cond.code ({ cls := "VectorVersionsModel", name := "isTreeWhole", desc := "(IIZ)Z" } : Jvm.MethodName) prog_18_method_123_code (5 : Nat) (Option.some Jvm.ClassFile.FieldType.boolean)) ∈ lw_all := lw_g (lw_at lw_m13 24 rfl) rfl
theorem q3039 : (Jvm.Cond.methodLink "VectorVersionsModel" (399 : Nat) ({ cls := "VectorVersionsModel", name := "areNodesConsistent", desc := "()Z" } : Jvm.MethodName)) ∈ lw_all := lw_g (lw_at lw_m13 25 rfl) rfl
theorem q3040 : (Jvm.Cond.privateMethod ({ cls := "VectorVersionsModel", name := "areNodesConsistent", desc := "()Z" } : Jvm.MethodName)) ∈ lw_tbl := lw_at lw_m13 26 rfl
theorem q3041 : (Jvm.Cond.instanceMethod ({ cls := "VectorVersionsModel", name := "areNodesConsistent", desc := "()Z" } : Jvm.MethodName)) ∈ lw_all := lw_g (lw_at lw_m13 27 rfl) rfl
theorem q3042 : (Jvm.Cond.code ({ cls := "VectorVersionsModel", name := "areNodesConsistent", desc := "()Z" } : Jvm.MethodName) prog_18_method_127_code (3 : Nat) (Option.some Jvm.ClassFile.FieldType.boolean)) ∈ lw_all := lw_g (lw_at lw_m13 28 rfl) rfl
theorem q3043 : (Jvm.Cond.methodLink "VectorVersionsModel" (393 : Nat) ({ cls := "VectorVersionsModel", name := "isHeld", desc := "(I)Z" } : Jvm.MethodName)) ∈ lw_all := lw_g (lw_at lw_m13 29 rfl) rfl
theorem q3044 : (Jvm.Cond.privateMethod ({ cls := "VectorVersionsModel", name := "isHeld", desc := "(I)Z" } : Jvm.MethodName)) ∈ lw_tbl := lw_at lw_m13 30 rfl
theorem q3045 : (Jvm.Cond.instanceMethod ({ cls := "VectorVersionsModel", name := "isHeld", desc := "(I)Z" } : Jvm.MethodName)) ∈ lw_all := lw_g (lw_at lw_m13 31 rfl) rfl
theorem q3046 : (Jvm.Cond.code ({ cls := "VectorVersionsModel", name := "isHeld", desc := "(I)Z" } : Jvm.MethodName) prog_18_method_126_code (3 : Nat) (Option.some Jvm.ClassFile.FieldType.boolean)) ∈ lw_all := lw_g (lw_at lw_m13 32 rfl) rfl
theorem q3047 : (Jvm.Cond.methodLink "VectorVersionsModel" (390 : Nat) ({ cls := "VectorVersionsModel", name := "isRoot", desc := "(I)Z" } : Jvm.MethodName)) ∈ lw_all := lw_g (lw_at lw_m13 33 rfl) rfl
theorem q3048 : (Jvm.Cond.privateMethod ({ cls := "VectorVersionsModel", name := "isRoot", desc := "(I)Z" } : Jvm.MethodName)) ∈ lw_tbl := lw_at lw_m13 34 rfl
theorem q3049 : (Jvm.Cond.instanceMethod ({ cls := "VectorVersionsModel", name := "isRoot", desc := "(I)Z" } : Jvm.MethodName)) ∈ lw_all := lw_g (lw_at lw_m13 35 rfl) rfl
theorem q3050 : (Jvm.Cond.code ({ cls := "VectorVersionsModel", name := "isRoot", desc := "(I)Z" } : Jvm.MethodName) prog_18_method_125_code (3 : Nat) (Option.some Jvm.ClassFile.FieldType.boolean)) ∈ lw_all := lw_g (lw_at lw_m13 36 rfl) rfl
theorem q3052 : (Jvm.Cond.instanceMethod ({ cls := "VectorVersionsModel", name := "set", desc := "(III)I" } : Jvm.MethodName)) ∈ lw_all := lw_g (lw_at lw_m13 38 rfl) rfl
theorem q3053 : (Jvm.Cond.selects "VectorVersionsModel" ({ cls := "VectorVersionsModel", name := "set", desc := "(III)I" } : Jvm.MethodName) ({ cls := "VectorVersionsModel", name := "set", desc := "(III)I" } : Jvm.MethodName)) ∈ lw_all := lw_g (lw_at lw_m13 39 rfl) rfl
theorem q3054 : (Jvm.Cond.code ({ cls := "VectorVersionsModel", name := "set", desc := "(III)I" } : Jvm.MethodName) prog_18_method_129_code (6 : Nat) (Option.some Jvm.ClassFile.FieldType.int)) ∈ lw_all := lw_g (lw_at lw_m13 40 rfl) rfl
theorem q3056 : (Jvm.Cond.instanceMethod ({ cls := "VectorVersionsModel", name := "append", desc := "(II)I" } : Jvm.MethodName)) ∈ lw_all := lw_g (lw_at lw_m13 42 rfl) rfl
theorem q3057 : (Jvm.Cond.selects "VectorVersionsModel" ({ cls := "VectorVersionsModel", name := "append", desc := "(II)I" } : Jvm.MethodName) ({ cls := "VectorVersionsModel", name := "append", desc := "(II)I" } : Jvm.MethodName)) ∈ lw_all := lw_g (lw_at lw_m13 43 rfl) rfl
theorem q3058 : (Jvm.Cond.code ({ cls := "VectorVersionsModel", name := "append", desc := "(II)I" } : Jvm.MethodName) prog_18_method_130_code (6 : Nat) (Option.some Jvm.ClassFile.FieldType.int)) ∈ lw_all := lw_g (lw_at lw_m13 44 rfl) rfl
theorem q3060 : (Jvm.Cond.instanceMethod ({ cls := "VectorVersionsModel", name := "truncate", desc := "(II)I" } : Jvm.MethodName)) ∈ lw_all := lw_g (lw_at lw_m13 46 rfl) rfl
theorem q3061 : (Jvm.Cond.selects "VectorVersionsModel" ({ cls := "VectorVersionsModel", name := "truncate", desc := "(II)I" } : Jvm.MethodName) ({ cls := "VectorVersionsModel", name := "truncate", desc := "(II)I" } : Jvm.MethodName)) ∈ lw_all := lw_g (lw_at lw_m13 47 rfl) rfl
theorem q3062 : (Jvm.Cond.code ({ cls := "VectorVersionsModel", name := "truncate", desc := "(II)I" } : Jvm.MethodName) prog_18_method_131_code (5 : Nat) (Option.some Jvm.ClassFile.FieldType.int)) ∈ lw_all := lw_g (lw_at lw_m13 48 rfl) rfl
theorem q3064 : (Jvm.Cond.instanceMethod ({ cls := "VectorVersionsModel", name := "release", desc := "(I)I" } : Jvm.MethodName)) ∈ lw_all := lw_g (lw_at lw_m13 50 rfl) rfl
theorem q3065 : (Jvm.Cond.selects "VectorVersionsModel" ({ cls := "VectorVersionsModel", name := "release", desc := "(I)I" } : Jvm.MethodName) ({ cls := "VectorVersionsModel", name := "release", desc := "(I)I" } : Jvm.MethodName)) ∈ lw_all := lw_g (lw_at lw_m13 51 rfl) rfl
theorem q3066 : (Jvm.Cond.code ({ cls := "VectorVersionsModel", name := "release", desc := "(I)I" } : Jvm.MethodName) prog_18_method_132_code (2 : Nat) (Option.some Jvm.ClassFile.FieldType.int)) ∈ lw_all := lw_g (lw_at lw_m13 52 rfl) rfl
theorem q3068 : (Jvm.Cond.instanceMethod ({ cls := "VectorVersionsModel", name := "collect", desc := "()I" } : Jvm.MethodName)) ∈ lw_all := lw_g (lw_at lw_m13 54 rfl) rfl
theorem q3069 : (Jvm.Cond.selects "VectorVersionsModel" ({ cls := "VectorVersionsModel", name := "collect", desc := "()I" } : Jvm.MethodName) ({ cls := "VectorVersionsModel", name := "collect", desc := "()I" } : Jvm.MethodName)) ∈ lw_all := lw_g (lw_at lw_m13 55 rfl) rfl
theorem q3070 : (Jvm.Cond.code ({ cls := "VectorVersionsModel", name := "collect", desc := "()I" } : Jvm.MethodName) prog_18_method_133_code (1 : Nat) (Option.some Jvm.ClassFile.FieldType.int)) ∈ lw_all := lw_g (lw_at lw_m13 56 rfl) rfl
theorem q3072 : (Jvm.Cond.instanceMethod ({ cls := "VectorVersionsModel", name := "undo", desc := "()I" } : Jvm.MethodName)) ∈ lw_all := lw_g (lw_at lw_m13 58 rfl) rfl
theorem q3073 : (Jvm.Cond.selects "VectorVersionsModel" ({ cls := "VectorVersionsModel", name := "undo", desc := "()I" } : Jvm.MethodName) ({ cls := "VectorVersionsModel", name := "undo", desc := "()I" } : Jvm.MethodName)) ∈ lw_all := lw_g (lw_at lw_m13 59 rfl) rfl
theorem q3074 : (Jvm.Cond.code ({ cls := "VectorVersionsModel", name := "undo", desc := "()I" } : Jvm.MethodName) prog_18_method_134_code (2 : Nat) (Option.some Jvm.ClassFile.FieldType.int)) ∈ lw_all := lw_g (lw_at lw_m13 60 rfl) rfl
theorem q3076 : (Jvm.Cond.instanceMethod ({ cls := "VectorVersionsModel", name := "writeVersion", desc := "(I)I" } : Jvm.MethodName)) ∈ lw_all := lw_g (lw_at lw_m13 62 rfl) rfl
theorem q3077 : (Jvm.Cond.selects "VectorVersionsModel" ({ cls := "VectorVersionsModel", name := "writeVersion", desc := "(I)I" } : Jvm.MethodName) ({ cls := "VectorVersionsModel", name := "writeVersion", desc := "(I)I" } : Jvm.MethodName)) ∈ lw_all := lw_g (lw_at lw_m13 63 rfl) rfl
theorem q3078 : (Jvm.Cond.code ({ cls := "VectorVersionsModel", name := "writeVersion", desc := "(I)I" } : Jvm.MethodName) prog_18_method_137_code (3 : Nat) (Option.some Jvm.ClassFile.FieldType.int)) ∈ lw_all := lw_g (lw_at lw_m13 64 rfl) rfl
theorem q3079 : (Jvm.Cond.methodLink "VectorVersionsModel" (408 : Nat) ({ cls := "VectorVersionsModel", name := "write", desc := "(I)V" } : Jvm.MethodName)) ∈ lw_all := lw_g (lw_at lw_m13 65 rfl) rfl
theorem q3080 : (Jvm.Cond.privateMethod ({ cls := "VectorVersionsModel", name := "write", desc := "(I)V" } : Jvm.MethodName)) ∈ lw_tbl := lw_at lw_m13 66 rfl
theorem q3081 : (Jvm.Cond.instanceMethod ({ cls := "VectorVersionsModel", name := "write", desc := "(I)V" } : Jvm.MethodName)) ∈ lw_all := lw_g (lw_at lw_m13 67 rfl) rfl
theorem q3082 : (Jvm.Cond.code ({ cls := "VectorVersionsModel", name := "write", desc := "(I)V" } : Jvm.MethodName) prog_18_method_135_code (2 : Nat) (Option.none : Option Jvm.ClassFile.FieldType)) ∈ lw_all := lw_g (lw_at lw_m13 68 rfl) rfl
theorem q3083 : (Jvm.Cond.methodLink "VectorVersionsModel" (411 : Nat) ({ cls := "VectorVersionsModel", name := "writeNumber", desc := "(I)V" } : Jvm.MethodName)) ∈ lw_all := lw_g (lw_at lw_m13 69 rfl) rfl
theorem q3084 : (Jvm.Cond.privateMethod ({ cls := "VectorVersionsModel", name := "writeNumber", desc := "(I)V" } : Jvm.MethodName)) ∈ lw_tbl := lw_at lw_m13 70 rfl
theorem q3085 : (Jvm.Cond.instanceMethod ({ cls := "VectorVersionsModel", name := "writeNumber", desc := "(I)V" } : Jvm.MethodName)) ∈ lw_all := lw_g (lw_at lw_m13 71 rfl) rfl
theorem q3086 : (Jvm.Cond.code ({ cls := "VectorVersionsModel", name := "writeNumber", desc := "(I)V" } : Jvm.MethodName) prog_18_method_136_code (3 : Nat) (Option.none : Option Jvm.ClassFile.FieldType)) ∈ lw_all := lw_g (lw_at lw_m13 72 rfl) rfl
theorem q3087 : (Jvm.Cond.methodLink "VectorVersionsModel" (405 : Nat) ({ cls := "java/lang/Math", name := "abs", desc := "(I)I" } : Jvm.MethodName)) ∈ lw_all := lw_g (lw_at lw_m13 73 rfl) rfl
theorem q3089 : (Jvm.Cond.instanceMethod ({ cls := "VectorVersionsModel", name := "outputByte", desc := "(I)I" } : Jvm.MethodName)) ∈ lw_all := lw_g (lw_at lw_m13 75 rfl) rfl
theorem q3090 : (Jvm.Cond.selects "VectorVersionsModel" ({ cls := "VectorVersionsModel", name := "outputByte", desc := "(I)I" } : Jvm.MethodName) ({ cls := "VectorVersionsModel", name := "outputByte", desc := "(I)I" } : Jvm.MethodName)) ∈ lw_all := lw_g (lw_at lw_m13 76 rfl) rfl
theorem q3091 : (Jvm.Cond.code ({ cls := "VectorVersionsModel", name := "outputByte", desc := "(I)I" } : Jvm.MethodName) prog_18_method_138_code (2 : Nat) (Option.some Jvm.ClassFile.FieldType.int)) ∈ lw_all := lw_g (lw_at lw_m13 77 rfl) rfl
theorem q3093 : (Jvm.Cond.instanceMethod ({ cls := "VectorVersionsModel", name := "saveState", desc := "()I" } : Jvm.MethodName)) ∈ lw_all := lw_g (lw_at lw_m13 79 rfl) rfl
theorem q3094 : (Jvm.Cond.selects "VectorVersionsModel" ({ cls := "VectorVersionsModel", name := "saveState", desc := "()I" } : Jvm.MethodName) ({ cls := "VectorVersionsModel", name := "saveState", desc := "()I" } : Jvm.MethodName)) ∈ lw_all := lw_g (lw_at lw_m13 80 rfl) rfl
theorem q3095 : (Jvm.Cond.code ({ cls := "VectorVersionsModel", name := "saveState", desc := "()I" } : Jvm.MethodName) prog_18_method_139_code (1 : Nat) (Option.some Jvm.ClassFile.FieldType.int)) ∈ lw_all := lw_g (lw_at lw_m13 81 rfl) rfl
theorem q3096 : (Jvm.Cond.methodLink "VectorVersionsModel" (414 : Nat) ({ cls := "VectorVersionsModel", name := "copyTo", desc := "([I)V" } : Jvm.MethodName)) ∈ lw_all := lw_g (lw_at lw_m13 82 rfl) rfl
theorem q3097 : (Jvm.Cond.privateMethod ({ cls := "VectorVersionsModel", name := "copyTo", desc := "([I)V" } : Jvm.MethodName)) ∈ lw_tbl := lw_at lw_m13 83 rfl
theorem q3098 : (Jvm.Cond.instanceMethod ({ cls := "VectorVersionsModel", name := "copyTo", desc := "([I)V" } : Jvm.MethodName)) ∈ lw_all := lw_g (lw_at lw_m13 84 rfl) rfl
theorem q3099 : (Jvm.Cond.code ({ cls := "VectorVersionsModel", name := "copyTo", desc := "([I)V" } : Jvm.MethodName) prog_18_method_10_code (3 : Nat) (Option.none : Option Jvm.ClassFile.FieldType)) ∈ lw_all := lw_g (lw_at lw_m13 85 rfl) rfl
theorem q3101 : (Jvm.Cond.instanceMethod ({ cls := "VectorVersionsModel", name := "restoreState", desc := "()I" } : Jvm.MethodName)) ∈ lw_all := lw_g (lw_at lw_m13 87 rfl) rfl
theorem q3102 : (Jvm.Cond.selects "VectorVersionsModel" ({ cls := "VectorVersionsModel", name := "restoreState", desc := "()I" } : Jvm.MethodName) ({ cls := "VectorVersionsModel", name := "restoreState", desc := "()I" } : Jvm.MethodName)) ∈ lw_all := lw_g (lw_at lw_m13 88 rfl) rfl
theorem q3103 : (Jvm.Cond.code ({ cls := "VectorVersionsModel", name := "restoreState", desc := "()I" } : Jvm.MethodName) prog_18_method_140_code (1 : Nat) (Option.some Jvm.ClassFile.FieldType.int)) ∈ lw_all := lw_g (lw_at lw_m13 89 rfl) rfl
theorem q3104 : (Jvm.Cond.methodLink "VectorVersionsModel" (418 : Nat) ({ cls := "VectorVersionsModel", name := "copyFrom", desc := "([I)V" } : Jvm.MethodName)) ∈ lw_all := lw_g (lw_at lw_m13 90 rfl) rfl
theorem q3105 : (Jvm.Cond.privateMethod ({ cls := "VectorVersionsModel", name := "copyFrom", desc := "([I)V" } : Jvm.MethodName)) ∈ lw_tbl := lw_at lw_m13 91 rfl
theorem q3106 : (Jvm.Cond.instanceMethod ({ cls := "VectorVersionsModel", name := "copyFrom", desc := "([I)V" } : Jvm.MethodName)) ∈ lw_all := lw_g (lw_at lw_m13 92 rfl) rfl
theorem q3107 : (Jvm.Cond.code ({ cls := "VectorVersionsModel", name := "copyFrom", desc := "([I)V" } : Jvm.MethodName) prog_18_method_11_code (3 : Nat) (Option.none : Option Jvm.ClassFile.FieldType)) ∈ lw_all := lw_g (lw_at lw_m13 93 rfl) rfl
theorem q3146 : (Jvm.Cond.castable "VectorVersionsModel" "java/lang/Object") ∈ lw_tbl := lw_at lw_m13 132 rfl
theorem in_X8 : ∀ w ∈ wsX80, w ∈ lw_all := lw_in wsX80 [2526, 2528, 2530, 2532, 2534, 2536, 2538, 2540, 2542, 2544, 2546, 2548, 2550, 2552, 2554, 2556, 2558, 2560, 2562, 2564, 2566, 2568, 2570, 2572, 2574, 2576, 2578, 2580] (by decide +kernel) (by decide +kernel)
