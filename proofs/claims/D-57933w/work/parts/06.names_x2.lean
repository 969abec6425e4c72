/-! VectorVersions$Store -/
set_option maxRecDepth 100000
def RX2 : String := "VectorVersions$Store"
def TX2 : u_T := fun k => match k with
  | 0 => ("VectorVersions$Store", "versions", "Ljava/util/List;", true)
  | 1 => ("VectorVersions$Store", "nodes", "Ljava/util/List;", true)
  | _ => ("VectorVersions$Store", "created", "I", false)
def tyX2 : Nat → FieldType := fun k => match k with
  | 0 => .object "java/util/List"
  | 1 => .object "java/util/List"
  | _ => .int
abbrev wsX20 : List Cond := u_ws RX2 TX2 3
theorem nmX2 : ∀ a, a < 3 → ∀ b, b < 3 → a ≠ b → (TX2 a).2.1 ≠ (TX2 b).2.1 := by decide +kernel
theorem tyX2_ok : ∀ k, k < 3 → parseFieldDescriptor (TX2 k).2.2.1 = some (tyX2 k) := by decide +kernel
abbrev cX2_init : ByteArray := prog_12_method_1_code
def yX2_init : MethodName := ⟨RX2, "<init>", "()V"⟩
def dkwX2_init_1 : List UInt8 := [183, 0, 20, 181, 0, 21, 177]
abbrev dktX2_init_1 : List UInt8 := dkwX2_init_1 ++ []
def dkwX2_init_0 : List UInt8 := [42, 183, 0, 3, 42, 187, 0, 9, 89, 16, 40, 183, 0, 11, 181, 0, 14, 42, 187, 0, 9, 89]
abbrev dktX2_init_0 : List UInt8 := dkwX2_init_0 ++ dktX2_init_1
theorem dksX2_init_0 : cX2_init.data.toList.drop 0 = dktX2_init_0 := by decide +kernel
theorem dksX2_init_1 : cX2_init.data.toList.drop 22 = dktX2_init_1 := dk_seg dksX2_init_0 22 rfl rfl
theorem dX2_init_0 : decode cX2_init 0 = .ok (.aload_n 0, 1) := dk_42 (dk_at dksX2_init_0 0 rfl rfl)
theorem dX2_init_1 : decode cX2_init 1 = .ok (.invokespecial 3, 3) := dk_183 0 3 (dk_at dksX2_init_0 1 rfl rfl)
theorem dX2_init_4 : decode cX2_init 4 = .ok (.aload_n 0, 1) := dk_42 (dk_at dksX2_init_0 4 rfl rfl)
theorem dX2_init_5 : decode cX2_init 5 = .ok (.new 9, 3) := dk_187 0 9 (dk_at dksX2_init_0 5 rfl rfl)
theorem dX2_init_8 : decode cX2_init 8 = .ok (.dup, 1) := dk_89 (dk_at dksX2_init_0 8 rfl rfl)
theorem dX2_init_9 : decode cX2_init 9 = .ok (.bipush 40, 2) := dk_16 40 (dk_at dksX2_init_0 9 rfl rfl)
theorem dX2_init_11 : decode cX2_init 11 = .ok (.invokespecial 11, 3) := dk_183 0 11 (dk_at dksX2_init_0 11 rfl rfl)
theorem dX2_init_14 : decode cX2_init 14 = .ok (.putfield 14, 3) := dk_181 0 14 (dk_at dksX2_init_0 14 rfl rfl)
theorem dX2_init_17 : decode cX2_init 17 = .ok (.aload_n 0, 1) := dk_42 (dk_at dksX2_init_0 17 rfl rfl)
theorem dX2_init_18 : decode cX2_init 18 = .ok (.new 9, 3) := dk_187 0 9 (dk_at dksX2_init_0 18 rfl rfl)
theorem dX2_init_21 : decode cX2_init 21 = .ok (.dup, 1) := dk_89 (dk_at dksX2_init_0 21 rfl rfl)
theorem dX2_init_22 : decode cX2_init 22 = .ok (.invokespecial 20, 3) := dk_183 0 20 (dk_at dksX2_init_1 0 rfl rfl)
theorem dX2_init_25 : decode cX2_init 25 = .ok (.putfield 21, 3) := dk_181 0 21 (dk_at dksX2_init_1 3 rfl rfl)
theorem dX2_init_28 : decode cX2_init 28 = .ok (.return_, 1) := dk_177 (dk_at dksX2_init_1 6 rfl rfl)
abbrev cX2_start : ByteArray := prog_12_method_15_code
def yX2_start : MethodName := ⟨RX2, "start", "(Ljava/util/List;)LVectorVersions$Store;"⟩
def dkwX2_start_8 : List UInt8 := [45, 190, 184, 0, 155, 183, 0, 158, 45, 182, 0, 161, 54, 4, 42, 176]
abbrev dktX2_start_8 : List UInt8 := dkwX2_start_8 ++ []
def dkwX2_start_7 : List UInt8 := [185, 0, 151, 1, 0, 153, 0, 7, 1, 167, 0, 13, 44, 3, 185, 0, 45, 2, 0, 192, 0, 49, 45, 190]
abbrev dktX2_start_7 : List UInt8 := dkwX2_start_7 ++ dktX2_start_8
def dkwX2_start_6 : List UInt8 := [164, 0, 12, 42, 44, 182, 0, 145, 77, 167, 255, 240, 42, 2, 3, 187, 0, 149, 89, 44]
abbrev dktX2_start_6 : List UInt8 := dkwX2_start_6 ++ dktX2_start_7
def dkwX2_start_5 : List UInt8 := [182, 0, 102, 185, 0, 41, 2, 0, 87, 132, 4, 4, 167, 255, 180, 44, 185, 0, 25, 1, 0, 4]
abbrev dktX2_start_5 : List UInt8 := dkwX2_start_5 ++ dktX2_start_6
def dkwX2_start_4 : List UInt8 := [185, 0, 45, 2, 0, 192, 0, 78, 185, 0, 41, 2, 0, 87, 132, 6, 1, 167, 255, 220, 44, 42, 25, 5]
abbrev dktX2_start_4 : List UInt8 := dkwX2_start_4 ++ dktX2_start_5
def dkwX2_start_3 : List UInt8 := [21, 4, 54, 6, 21, 6, 21, 4, 7, 96, 45, 190, 184, 0, 121, 162, 0, 28, 25, 5, 43, 21, 6]
abbrev dktX2_start_3 : List UInt8 := dkwX2_start_3 ++ dktX2_start_4
def dkwX2_start_2 : List UInt8 := [167, 255, 228, 3, 54, 4, 21, 4, 45, 190, 162, 0, 75, 187, 0, 9, 89, 7, 183, 0, 11, 58, 5]
abbrev dktX2_start_2 : List UInt8 := dkwX2_start_2 ++ dktX2_start_3
def dkwX2_start_1 : List UInt8 := [162, 0, 27, 45, 21, 4, 43, 21, 4, 185, 0, 45, 2, 0, 192, 0, 78, 182, 0, 142, 79, 132, 4, 1]
abbrev dktX2_start_1 : List UInt8 := dkwX2_start_1 ++ dktX2_start_2
def dkwX2_start_0 : List UInt8 := [187, 0, 9, 89, 183, 0, 20, 77, 43, 185, 0, 25, 1, 0, 188, 10, 78, 3, 54, 4, 21, 4, 45, 190]
abbrev dktX2_start_0 : List UInt8 := dkwX2_start_0 ++ dktX2_start_1
theorem dksX2_start_0 : cX2_start.data.toList.drop 0 = dktX2_start_0 := by decide +kernel
theorem dksX2_start_1 : cX2_start.data.toList.drop 24 = dktX2_start_1 := dk_seg dksX2_start_0 24 rfl rfl
theorem dksX2_start_2 : cX2_start.data.toList.drop 48 = dktX2_start_2 := dk_seg dksX2_start_1 24 rfl rfl
theorem dksX2_start_3 : cX2_start.data.toList.drop 71 = dktX2_start_3 := dk_seg dksX2_start_2 23 rfl rfl
theorem dksX2_start_4 : cX2_start.data.toList.drop 94 = dktX2_start_4 := dk_seg dksX2_start_3 23 rfl rfl
theorem dksX2_start_5 : cX2_start.data.toList.drop 118 = dktX2_start_5 := dk_seg dksX2_start_4 24 rfl rfl
theorem dksX2_start_6 : cX2_start.data.toList.drop 140 = dktX2_start_6 := dk_seg dksX2_start_5 22 rfl rfl
theorem dksX2_start_7 : cX2_start.data.toList.drop 160 = dktX2_start_7 := dk_seg dksX2_start_6 20 rfl rfl
theorem dksX2_start_8 : cX2_start.data.toList.drop 184 = dktX2_start_8 := dk_seg dksX2_start_7 24 rfl rfl
theorem dX2_start_0 : decode cX2_start 0 = .ok (.new 9, 3) := dk_187 0 9 (dk_at dksX2_start_0 0 rfl rfl)
theorem dX2_start_3 : decode cX2_start 3 = .ok (.dup, 1) := dk_89 (dk_at dksX2_start_0 3 rfl rfl)
theorem dX2_start_4 : decode cX2_start 4 = .ok (.invokespecial 20, 3) := dk_183 0 20 (dk_at dksX2_start_0 4 rfl rfl)
theorem dX2_start_7 : decode cX2_start 7 = .ok (.astore_n 2, 1) := dk_77 (dk_at dksX2_start_0 7 rfl rfl)
theorem dX2_start_8 : decode cX2_start 8 = .ok (.aload_n 1, 1) := dk_43 (dk_at dksX2_start_0 8 rfl rfl)
theorem dX2_start_9 : decode cX2_start 9 = .ok (.invokeinterface 25 1, 5) := by decide +kernel
theorem dX2_start_14 : decode cX2_start 14 = .ok (.newarray .int, 2) := dk_188_10 (dk_at dksX2_start_0 14 rfl rfl)
theorem dX2_start_16 : decode cX2_start 16 = .ok (.astore_n 3, 1) := dk_78 (dk_at dksX2_start_0 16 rfl rfl)
theorem dX2_start_17 : decode cX2_start 17 = .ok (.iconst 0, 1) := dk_3 (dk_at dksX2_start_0 17 rfl rfl)
theorem dX2_start_18 : decode cX2_start 18 = .ok (.istore 4, 2) := dk_54 4 (dk_at dksX2_start_0 18 rfl rfl)
theorem dX2_start_20 : decode cX2_start 20 = .ok (.iload 4, 2) := dk_21 4 (dk_at dksX2_start_0 20 rfl rfl)
theorem dX2_start_22 : decode cX2_start 22 = .ok (.aload_n 3, 1) := dk_45 (dk_at dksX2_start_0 22 rfl rfl)
theorem dX2_start_23 : decode cX2_start 23 = .ok (.arraylength, 1) := dk_190 (dk_at dksX2_start_0 23 rfl rfl)
theorem dX2_start_24 : decode cX2_start 24 = .ok (.if_icmp .ge 27, 3) := dk_162 0 27 (dk_at dksX2_start_1 0 rfl rfl)
theorem dX2_start_27 : decode cX2_start 27 = .ok (.aload_n 3, 1) := dk_45 (dk_at dksX2_start_1 3 rfl rfl)
theorem dX2_start_28 : decode cX2_start 28 = .ok (.iload 4, 2) := dk_21 4 (dk_at dksX2_start_1 4 rfl rfl)
theorem dX2_start_30 : decode cX2_start 30 = .ok (.aload_n 1, 1) := dk_43 (dk_at dksX2_start_1 6 rfl rfl)
theorem dX2_start_31 : decode cX2_start 31 = .ok (.iload 4, 2) := dk_21 4 (dk_at dksX2_start_1 7 rfl rfl)
theorem dX2_start_33 : decode cX2_start 33 = .ok (.invokeinterface 45 2, 5) := by decide +kernel
theorem dX2_start_38 : decode cX2_start 38 = .ok (.checkcast 78, 3) := dk_192 0 78 (dk_at dksX2_start_1 14 rfl rfl)
theorem dX2_start_41 : decode cX2_start 41 = .ok (.invokevirtual 142, 3) := dk_182 0 142 (dk_at dksX2_start_1 17 rfl rfl)
theorem dX2_start_44 : decode cX2_start 44 = .ok (.iastore, 1) := dk_79 (dk_at dksX2_start_1 20 rfl rfl)
theorem dX2_start_45 : decode cX2_start 45 = .ok (.iinc 4 1, 3) := dk_132 4 1 (dk_at dksX2_start_1 21 rfl rfl)
theorem dX2_start_48 : decode cX2_start 48 = .ok (.goto (-28), 3) := dk_167 255 228 (dk_at dksX2_start_2 0 rfl rfl)
theorem dX2_start_51 : decode cX2_start 51 = .ok (.iconst 0, 1) := dk_3 (dk_at dksX2_start_2 3 rfl rfl)
theorem dX2_start_52 : decode cX2_start 52 = .ok (.istore 4, 2) := dk_54 4 (dk_at dksX2_start_2 4 rfl rfl)
theorem dX2_start_54 : decode cX2_start 54 = .ok (.iload 4, 2) := dk_21 4 (dk_at dksX2_start_2 6 rfl rfl)
theorem dX2_start_56 : decode cX2_start 56 = .ok (.aload_n 3, 1) := dk_45 (dk_at dksX2_start_2 8 rfl rfl)
theorem dX2_start_57 : decode cX2_start 57 = .ok (.arraylength, 1) := dk_190 (dk_at dksX2_start_2 9 rfl rfl)
theorem dX2_start_58 : decode cX2_start 58 = .ok (.if_icmp .ge 75, 3) := dk_162 0 75 (dk_at dksX2_start_2 10 rfl rfl)
theorem dX2_start_61 : decode cX2_start 61 = .ok (.new 9, 3) := dk_187 0 9 (dk_at dksX2_start_2 13 rfl rfl)
theorem dX2_start_64 : decode cX2_start 64 = .ok (.dup, 1) := dk_89 (dk_at dksX2_start_2 16 rfl rfl)
theorem dX2_start_65 : decode cX2_start 65 = .ok (.iconst 4, 1) := dk_7 (dk_at dksX2_start_2 17 rfl rfl)
theorem dX2_start_66 : decode cX2_start 66 = .ok (.invokespecial 11, 3) := dk_183 0 11 (dk_at dksX2_start_2 18 rfl rfl)
theorem dX2_start_69 : decode cX2_start 69 = .ok (.astore 5, 2) := dk_58 5 (dk_at dksX2_start_2 21 rfl rfl)
theorem dX2_start_71 : decode cX2_start 71 = .ok (.iload 4, 2) := dk_21 4 (dk_at dksX2_start_3 0 rfl rfl)
theorem dX2_start_73 : decode cX2_start 73 = .ok (.istore 6, 2) := dk_54 6 (dk_at dksX2_start_3 2 rfl rfl)
theorem dX2_start_75 : decode cX2_start 75 = .ok (.iload 6, 2) := dk_21 6 (dk_at dksX2_start_3 4 rfl rfl)
theorem dX2_start_77 : decode cX2_start 77 = .ok (.iload 4, 2) := dk_21 4 (dk_at dksX2_start_3 6 rfl rfl)
theorem dX2_start_79 : decode cX2_start 79 = .ok (.iconst 4, 1) := dk_7 (dk_at dksX2_start_3 8 rfl rfl)
theorem dX2_start_80 : decode cX2_start 80 = .ok (.iadd, 1) := dk_96 (dk_at dksX2_start_3 9 rfl rfl)
theorem dX2_start_81 : decode cX2_start 81 = .ok (.aload_n 3, 1) := dk_45 (dk_at dksX2_start_3 10 rfl rfl)
theorem dX2_start_82 : decode cX2_start 82 = .ok (.arraylength, 1) := dk_190 (dk_at dksX2_start_3 11 rfl rfl)
theorem dX2_start_83 : decode cX2_start 83 = .ok (.invokestatic 121, 3) := dk_184 0 121 (dk_at dksX2_start_3 12 rfl rfl)
theorem dX2_start_86 : decode cX2_start 86 = .ok (.if_icmp .ge 28, 3) := dk_162 0 28 (dk_at dksX2_start_3 15 rfl rfl)
theorem dX2_start_89 : decode cX2_start 89 = .ok (.aload 5, 2) := dk_25 5 (dk_at dksX2_start_3 18 rfl rfl)
theorem dX2_start_91 : decode cX2_start 91 = .ok (.aload_n 1, 1) := dk_43 (dk_at dksX2_start_3 20 rfl rfl)
theorem dX2_start_92 : decode cX2_start 92 = .ok (.iload 6, 2) := dk_21 6 (dk_at dksX2_start_3 21 rfl rfl)
theorem dX2_start_94 : decode cX2_start 94 = .ok (.invokeinterface 45 2, 5) := by decide +kernel
theorem dX2_start_99 : decode cX2_start 99 = .ok (.checkcast 78, 3) := dk_192 0 78 (dk_at dksX2_start_4 5 rfl rfl)
theorem dX2_start_102 : decode cX2_start 102 = .ok (.invokeinterface 41 2, 5) := by decide +kernel
theorem dX2_start_107 : decode cX2_start 107 = .ok (.pop, 1) := dk_87 (dk_at dksX2_start_4 13 rfl rfl)
theorem dX2_start_108 : decode cX2_start 108 = .ok (.iinc 6 1, 3) := dk_132 6 1 (dk_at dksX2_start_4 14 rfl rfl)
theorem dX2_start_111 : decode cX2_start 111 = .ok (.goto (-36), 3) := dk_167 255 220 (dk_at dksX2_start_4 17 rfl rfl)
theorem dX2_start_114 : decode cX2_start 114 = .ok (.aload_n 2, 1) := dk_44 (dk_at dksX2_start_4 20 rfl rfl)
theorem dX2_start_115 : decode cX2_start 115 = .ok (.aload_n 0, 1) := dk_42 (dk_at dksX2_start_4 21 rfl rfl)
theorem dX2_start_116 : decode cX2_start 116 = .ok (.aload 5, 2) := dk_25 5 (dk_at dksX2_start_4 22 rfl rfl)
theorem dX2_start_118 : decode cX2_start 118 = .ok (.invokevirtual 102, 3) := dk_182 0 102 (dk_at dksX2_start_5 0 rfl rfl)
theorem dX2_start_121 : decode cX2_start 121 = .ok (.invokeinterface 41 2, 5) := by decide +kernel
theorem dX2_start_126 : decode cX2_start 126 = .ok (.pop, 1) := dk_87 (dk_at dksX2_start_5 8 rfl rfl)
theorem dX2_start_127 : decode cX2_start 127 = .ok (.iinc 4 4, 3) := dk_132 4 4 (dk_at dksX2_start_5 9 rfl rfl)
theorem dX2_start_130 : decode cX2_start 130 = .ok (.goto (-76), 3) := dk_167 255 180 (dk_at dksX2_start_5 12 rfl rfl)
theorem dX2_start_133 : decode cX2_start 133 = .ok (.aload_n 2, 1) := dk_44 (dk_at dksX2_start_5 15 rfl rfl)
theorem dX2_start_134 : decode cX2_start 134 = .ok (.invokeinterface 25 1, 5) := by decide +kernel
theorem dX2_start_139 : decode cX2_start 139 = .ok (.iconst 1, 1) := dk_4 (dk_at dksX2_start_5 21 rfl rfl)
theorem dX2_start_140 : decode cX2_start 140 = .ok (.if_icmp .le 12, 3) := dk_164 0 12 (dk_at dksX2_start_6 0 rfl rfl)
theorem dX2_start_143 : decode cX2_start 143 = .ok (.aload_n 0, 1) := dk_42 (dk_at dksX2_start_6 3 rfl rfl)
theorem dX2_start_144 : decode cX2_start 144 = .ok (.aload_n 2, 1) := dk_44 (dk_at dksX2_start_6 4 rfl rfl)
theorem dX2_start_145 : decode cX2_start 145 = .ok (.invokevirtual 145, 3) := dk_182 0 145 (dk_at dksX2_start_6 5 rfl rfl)
theorem dX2_start_148 : decode cX2_start 148 = .ok (.astore_n 2, 1) := dk_77 (dk_at dksX2_start_6 8 rfl rfl)
theorem dX2_start_149 : decode cX2_start 149 = .ok (.goto (-16), 3) := dk_167 255 240 (dk_at dksX2_start_6 9 rfl rfl)
theorem dX2_start_152 : decode cX2_start 152 = .ok (.aload_n 0, 1) := dk_42 (dk_at dksX2_start_6 12 rfl rfl)
theorem dX2_start_153 : decode cX2_start 153 = .ok (.iconst (-1), 1) := dk_2 (dk_at dksX2_start_6 13 rfl rfl)
theorem dX2_start_154 : decode cX2_start 154 = .ok (.iconst 0, 1) := dk_3 (dk_at dksX2_start_6 14 rfl rfl)
theorem dX2_start_155 : decode cX2_start 155 = .ok (.new 149, 3) := dk_187 0 149 (dk_at dksX2_start_6 15 rfl rfl)
theorem dX2_start_158 : decode cX2_start 158 = .ok (.dup, 1) := dk_89 (dk_at dksX2_start_6 18 rfl rfl)
theorem dX2_start_159 : decode cX2_start 159 = .ok (.aload_n 2, 1) := dk_44 (dk_at dksX2_start_6 19 rfl rfl)
theorem dX2_start_160 : decode cX2_start 160 = .ok (.invokeinterface 151 1, 5) := by decide +kernel
theorem dX2_start_165 : decode cX2_start 165 = .ok (.ifCond .eq 7, 3) := dk_153 0 7 (dk_at dksX2_start_7 5 rfl rfl)
theorem dX2_start_168 : decode cX2_start 168 = .ok (.aconst_null, 1) := dk_1 (dk_at dksX2_start_7 8 rfl rfl)
theorem dX2_start_169 : decode cX2_start 169 = .ok (.goto 13, 3) := dk_167 0 13 (dk_at dksX2_start_7 9 rfl rfl)
theorem dX2_start_172 : decode cX2_start 172 = .ok (.aload_n 2, 1) := dk_44 (dk_at dksX2_start_7 12 rfl rfl)
theorem dX2_start_173 : decode cX2_start 173 = .ok (.iconst 0, 1) := dk_3 (dk_at dksX2_start_7 13 rfl rfl)
theorem dX2_start_174 : decode cX2_start 174 = .ok (.invokeinterface 45 2, 5) := by decide +kernel
theorem dX2_start_179 : decode cX2_start 179 = .ok (.checkcast 49, 3) := dk_192 0 49 (dk_at dksX2_start_7 19 rfl rfl)
theorem dX2_start_182 : decode cX2_start 182 = .ok (.aload_n 3, 1) := dk_45 (dk_at dksX2_start_7 22 rfl rfl)
theorem dX2_start_183 : decode cX2_start 183 = .ok (.arraylength, 1) := dk_190 (dk_at dksX2_start_7 23 rfl rfl)
theorem dX2_start_184 : decode cX2_start 184 = .ok (.aload_n 3, 1) := dk_45 (dk_at dksX2_start_8 0 rfl rfl)
theorem dX2_start_185 : decode cX2_start 185 = .ok (.arraylength, 1) := dk_190 (dk_at dksX2_start_8 1 rfl rfl)
theorem dX2_start_186 : decode cX2_start 186 = .ok (.invokestatic 155, 3) := dk_184 0 155 (dk_at dksX2_start_8 2 rfl rfl)
theorem dX2_start_189 : decode cX2_start 189 = .ok (.invokespecial 158, 3) := dk_183 0 158 (dk_at dksX2_start_8 5 rfl rfl)
theorem dX2_start_192 : decode cX2_start 192 = .ok (.aload_n 3, 1) := dk_45 (dk_at dksX2_start_8 8 rfl rfl)
theorem dX2_start_193 : decode cX2_start 193 = .ok (.invokevirtual 161, 3) := dk_182 0 161 (dk_at dksX2_start_8 9 rfl rfl)
theorem dX2_start_196 : decode cX2_start 196 = .ok (.istore 4, 2) := dk_54 4 (dk_at dksX2_start_8 12 rfl rfl)
theorem dX2_start_198 : decode cX2_start 198 = .ok (.aload_n 0, 1) := dk_42 (dk_at dksX2_start_8 14 rfl rfl)
theorem dX2_start_199 : decode cX2_start 199 = .ok (.areturn, 1) := dk_176 (dk_at dksX2_start_8 15 rfl rfl)
abbrev cX2_leaf : ByteArray := prog_12_method_6_code
def yX2_leaf : MethodName := ⟨RX2, "leaf", "(Ljava/util/List;)LVectorVersions$Leaf;"⟩
def dkwX2_leaf_0 : List UInt8 := [42, 187, 0, 59, 89, 42, 180, 0, 51, 43, 183, 0, 61, 182, 0, 64, 192, 0, 59, 176]
abbrev dktX2_leaf_0 : List UInt8 := dkwX2_leaf_0 ++ []
theorem dksX2_leaf_0 : cX2_leaf.data.toList.drop 0 = dktX2_leaf_0 := by decide +kernel
theorem dX2_leaf_0 : decode cX2_leaf 0 = .ok (.aload_n 0, 1) := dk_42 (dk_at dksX2_leaf_0 0 rfl rfl)
theorem dX2_leaf_1 : decode cX2_leaf 1 = .ok (.new 59, 3) := dk_187 0 59 (dk_at dksX2_leaf_0 1 rfl rfl)
theorem dX2_leaf_4 : decode cX2_leaf 4 = .ok (.dup, 1) := dk_89 (dk_at dksX2_leaf_0 4 rfl rfl)
theorem dX2_leaf_5 : decode cX2_leaf 5 = .ok (.aload_n 0, 1) := dk_42 (dk_at dksX2_leaf_0 5 rfl rfl)
theorem dX2_leaf_6 : decode cX2_leaf 6 = .ok (.getfield 51, 3) := dk_180 0 51 (dk_at dksX2_leaf_0 6 rfl rfl)
theorem dX2_leaf_9 : decode cX2_leaf 9 = .ok (.aload_n 1, 1) := dk_43 (dk_at dksX2_leaf_0 9 rfl rfl)
theorem dX2_leaf_10 : decode cX2_leaf 10 = .ok (.invokespecial 61, 3) := dk_183 0 61 (dk_at dksX2_leaf_0 10 rfl rfl)
theorem dX2_leaf_13 : decode cX2_leaf 13 = .ok (.invokevirtual 64, 3) := dk_182 0 64 (dk_at dksX2_leaf_0 13 rfl rfl)
theorem dX2_leaf_16 : decode cX2_leaf 16 = .ok (.checkcast 59, 3) := dk_192 0 59 (dk_at dksX2_leaf_0 16 rfl rfl)
theorem dX2_leaf_19 : decode cX2_leaf 19 = .ok (.areturn, 1) := dk_176 (dk_at dksX2_leaf_0 19 rfl rfl)
abbrev cX2_store : ByteArray := prog_12_method_5_code
def yX2_store : MethodName := ⟨RX2, "store", "(LVectorVersions$Node;)LVectorVersions$Node;"⟩
def dkwX2_store_0 : List UInt8 := [42, 180, 0, 21, 43, 185, 0, 41, 2, 0, 87, 42, 89, 180, 0, 51, 4, 96, 181, 0, 51, 43, 176]
abbrev dktX2_store_0 : List UInt8 := dkwX2_store_0 ++ []
theorem dksX2_store_0 : cX2_store.data.toList.drop 0 = dktX2_store_0 := by decide +kernel
theorem dX2_store_0 : decode cX2_store 0 = .ok (.aload_n 0, 1) := dk_42 (dk_at dksX2_store_0 0 rfl rfl)
theorem dX2_store_1 : decode cX2_store 1 = .ok (.getfield 21, 3) := dk_180 0 21 (dk_at dksX2_store_0 1 rfl rfl)
theorem dX2_store_4 : decode cX2_store 4 = .ok (.aload_n 1, 1) := dk_43 (dk_at dksX2_store_0 4 rfl rfl)
theorem dX2_store_5 : decode cX2_store 5 = .ok (.invokeinterface 41 2, 5) := by decide +kernel
theorem dX2_store_10 : decode cX2_store 10 = .ok (.pop, 1) := dk_87 (dk_at dksX2_store_0 10 rfl rfl)
theorem dX2_store_11 : decode cX2_store 11 = .ok (.aload_n 0, 1) := dk_42 (dk_at dksX2_store_0 11 rfl rfl)
theorem dX2_store_12 : decode cX2_store 12 = .ok (.dup, 1) := dk_89 (dk_at dksX2_store_0 12 rfl rfl)
theorem dX2_store_13 : decode cX2_store 13 = .ok (.getfield 51, 3) := dk_180 0 51 (dk_at dksX2_store_0 13 rfl rfl)
theorem dX2_store_16 : decode cX2_store 16 = .ok (.iconst 1, 1) := dk_4 (dk_at dksX2_store_0 16 rfl rfl)
theorem dX2_store_17 : decode cX2_store 17 = .ok (.iadd, 1) := dk_96 (dk_at dksX2_store_0 17 rfl rfl)
theorem dX2_store_18 : decode cX2_store 18 = .ok (.putfield 51, 3) := dk_181 0 51 (dk_at dksX2_store_0 18 rfl rfl)
theorem dX2_store_21 : decode cX2_store 21 = .ok (.aload_n 1, 1) := dk_43 (dk_at dksX2_store_0 21 rfl rfl)
theorem dX2_store_22 : decode cX2_store 22 = .ok (.areturn, 1) := dk_176 (dk_at dksX2_store_0 22 rfl rfl)
abbrev cX2_nextLevel : ByteArray := prog_12_method_16_code
def yX2_nextLevel : MethodName := ⟨RX2, "nextLevel", "(Ljava/util/List;)Ljava/util/List;"⟩
def dkwX2_nextLevel_4 : List UInt8 := [167, 255, 175, 44, 176]
abbrev dktX2_nextLevel_4 : List UInt8 := dkwX2_nextLevel_4 ++ []
def dkwX2_nextLevel_3 : List UInt8 := [132, 5, 1, 167, 255, 217, 44, 42, 25, 4, 182, 0, 117, 185, 0, 41, 2, 0, 87, 132, 3, 4]
abbrev dktX2_nextLevel_3 : List UInt8 := dkwX2_nextLevel_3 ++ dktX2_nextLevel_4
def dkwX2_nextLevel_2 : List UInt8 := [162, 0, 28, 25, 4, 43, 21, 5, 185, 0, 45, 2, 0, 192, 0, 49, 185, 0, 41, 2, 0, 87]
abbrev dktX2_nextLevel_2 : List UInt8 := dkwX2_nextLevel_2 ++ dktX2_nextLevel_3
def dkwX2_nextLevel_1 : List UInt8 := [7, 183, 0, 11, 58, 4, 29, 54, 5, 21, 5, 29, 7, 96, 43, 185, 0, 25, 1, 0, 184, 0, 121]
abbrev dktX2_nextLevel_1 : List UInt8 := dkwX2_nextLevel_1 ++ dktX2_nextLevel_2
def dkwX2_nextLevel_0 : List UInt8 := [187, 0, 9, 89, 183, 0, 20, 77, 3, 62, 29, 43, 185, 0, 25, 1, 0, 162, 0, 77, 187, 0, 9, 89]
abbrev dktX2_nextLevel_0 : List UInt8 := dkwX2_nextLevel_0 ++ dktX2_nextLevel_1
theorem dksX2_nextLevel_0 : cX2_nextLevel.data.toList.drop 0 = dktX2_nextLevel_0 := by decide +kernel
theorem dksX2_nextLevel_1 : cX2_nextLevel.data.toList.drop 24 = dktX2_nextLevel_1 := dk_seg dksX2_nextLevel_0 24 rfl rfl
theorem dksX2_nextLevel_2 : cX2_nextLevel.data.toList.drop 47 = dktX2_nextLevel_2 := dk_seg dksX2_nextLevel_1 23 rfl rfl
theorem dksX2_nextLevel_3 : cX2_nextLevel.data.toList.drop 69 = dktX2_nextLevel_3 := dk_seg dksX2_nextLevel_2 22 rfl rfl
theorem dksX2_nextLevel_4 : cX2_nextLevel.data.toList.drop 91 = dktX2_nextLevel_4 := dk_seg dksX2_nextLevel_3 22 rfl rfl
theorem dX2_nextLevel_0 : decode cX2_nextLevel 0 = .ok (.new 9, 3) := dk_187 0 9 (dk_at dksX2_nextLevel_0 0 rfl rfl)
theorem dX2_nextLevel_3 : decode cX2_nextLevel 3 = .ok (.dup, 1) := dk_89 (dk_at dksX2_nextLevel_0 3 rfl rfl)
theorem dX2_nextLevel_4 : decode cX2_nextLevel 4 = .ok (.invokespecial 20, 3) := dk_183 0 20 (dk_at dksX2_nextLevel_0 4 rfl rfl)
theorem dX2_nextLevel_7 : decode cX2_nextLevel 7 = .ok (.astore_n 2, 1) := dk_77 (dk_at dksX2_nextLevel_0 7 rfl rfl)
theorem dX2_nextLevel_8 : decode cX2_nextLevel 8 = .ok (.iconst 0, 1) := dk_3 (dk_at dksX2_nextLevel_0 8 rfl rfl)
theorem dX2_nextLevel_9 : decode cX2_nextLevel 9 = .ok (.istore_n 3, 1) := dk_62 (dk_at dksX2_nextLevel_0 9 rfl rfl)
theorem dX2_nextLevel_10 : decode cX2_nextLevel 10 = .ok (.iload_n 3, 1) := dk_29 (dk_at dksX2_nextLevel_0 10 rfl rfl)
theorem dX2_nextLevel_11 : decode cX2_nextLevel 11 = .ok (.aload_n 1, 1) := dk_43 (dk_at dksX2_nextLevel_0 11 rfl rfl)
theorem dX2_nextLevel_12 : decode cX2_nextLevel 12 = .ok (.invokeinterface 25 1, 5) := by decide +kernel
theorem dX2_nextLevel_17 : decode cX2_nextLevel 17 = .ok (.if_icmp .ge 77, 3) := dk_162 0 77 (dk_at dksX2_nextLevel_0 17 rfl rfl)
theorem dX2_nextLevel_20 : decode cX2_nextLevel 20 = .ok (.new 9, 3) := dk_187 0 9 (dk_at dksX2_nextLevel_0 20 rfl rfl)
theorem dX2_nextLevel_23 : decode cX2_nextLevel 23 = .ok (.dup, 1) := dk_89 (dk_at dksX2_nextLevel_0 23 rfl rfl)
theorem dX2_nextLevel_24 : decode cX2_nextLevel 24 = .ok (.iconst 4, 1) := dk_7 (dk_at dksX2_nextLevel_1 0 rfl rfl)
theorem dX2_nextLevel_25 : decode cX2_nextLevel 25 = .ok (.invokespecial 11, 3) := dk_183 0 11 (dk_at dksX2_nextLevel_1 1 rfl rfl)
theorem dX2_nextLevel_28 : decode cX2_nextLevel 28 = .ok (.astore 4, 2) := dk_58 4 (dk_at dksX2_nextLevel_1 4 rfl rfl)
theorem dX2_nextLevel_30 : decode cX2_nextLevel 30 = .ok (.iload_n 3, 1) := dk_29 (dk_at dksX2_nextLevel_1 6 rfl rfl)
theorem dX2_nextLevel_31 : decode cX2_nextLevel 31 = .ok (.istore 5, 2) := dk_54 5 (dk_at dksX2_nextLevel_1 7 rfl rfl)
theorem dX2_nextLevel_33 : decode cX2_nextLevel 33 = .ok (.iload 5, 2) := dk_21 5 (dk_at dksX2_nextLevel_1 9 rfl rfl)
theorem dX2_nextLevel_35 : decode cX2_nextLevel 35 = .ok (.iload_n 3, 1) := dk_29 (dk_at dksX2_nextLevel_1 11 rfl rfl)
theorem dX2_nextLevel_36 : decode cX2_nextLevel 36 = .ok (.iconst 4, 1) := dk_7 (dk_at dksX2_nextLevel_1 12 rfl rfl)
theorem dX2_nextLevel_37 : decode cX2_nextLevel 37 = .ok (.iadd, 1) := dk_96 (dk_at dksX2_nextLevel_1 13 rfl rfl)
theorem dX2_nextLevel_38 : decode cX2_nextLevel 38 = .ok (.aload_n 1, 1) := dk_43 (dk_at dksX2_nextLevel_1 14 rfl rfl)
theorem dX2_nextLevel_39 : decode cX2_nextLevel 39 = .ok (.invokeinterface 25 1, 5) := by decide +kernel
theorem dX2_nextLevel_44 : decode cX2_nextLevel 44 = .ok (.invokestatic 121, 3) := dk_184 0 121 (dk_at dksX2_nextLevel_1 20 rfl rfl)
theorem dX2_nextLevel_47 : decode cX2_nextLevel 47 = .ok (.if_icmp .ge 28, 3) := dk_162 0 28 (dk_at dksX2_nextLevel_2 0 rfl rfl)
theorem dX2_nextLevel_50 : decode cX2_nextLevel 50 = .ok (.aload 4, 2) := dk_25 4 (dk_at dksX2_nextLevel_2 3 rfl rfl)
theorem dX2_nextLevel_52 : decode cX2_nextLevel 52 = .ok (.aload_n 1, 1) := dk_43 (dk_at dksX2_nextLevel_2 5 rfl rfl)
theorem dX2_nextLevel_53 : decode cX2_nextLevel 53 = .ok (.iload 5, 2) := dk_21 5 (dk_at dksX2_nextLevel_2 6 rfl rfl)
theorem dX2_nextLevel_55 : decode cX2_nextLevel 55 = .ok (.invokeinterface 45 2, 5) := by decide +kernel
theorem dX2_nextLevel_60 : decode cX2_nextLevel 60 = .ok (.checkcast 49, 3) := dk_192 0 49 (dk_at dksX2_nextLevel_2 13 rfl rfl)
theorem dX2_nextLevel_63 : decode cX2_nextLevel 63 = .ok (.invokeinterface 41 2, 5) := by decide +kernel
theorem dX2_nextLevel_68 : decode cX2_nextLevel 68 = .ok (.pop, 1) := dk_87 (dk_at dksX2_nextLevel_2 21 rfl rfl)
theorem dX2_nextLevel_69 : decode cX2_nextLevel 69 = .ok (.iinc 5 1, 3) := dk_132 5 1 (dk_at dksX2_nextLevel_3 0 rfl rfl)
theorem dX2_nextLevel_72 : decode cX2_nextLevel 72 = .ok (.goto (-39), 3) := dk_167 255 217 (dk_at dksX2_nextLevel_3 3 rfl rfl)
theorem dX2_nextLevel_75 : decode cX2_nextLevel 75 = .ok (.aload_n 2, 1) := dk_44 (dk_at dksX2_nextLevel_3 6 rfl rfl)
theorem dX2_nextLevel_76 : decode cX2_nextLevel 76 = .ok (.aload_n 0, 1) := dk_42 (dk_at dksX2_nextLevel_3 7 rfl rfl)
theorem dX2_nextLevel_77 : decode cX2_nextLevel 77 = .ok (.aload 4, 2) := dk_25 4 (dk_at dksX2_nextLevel_3 8 rfl rfl)
theorem dX2_nextLevel_79 : decode cX2_nextLevel 79 = .ok (.invokevirtual 117, 3) := dk_182 0 117 (dk_at dksX2_nextLevel_3 10 rfl rfl)
theorem dX2_nextLevel_82 : decode cX2_nextLevel 82 = .ok (.invokeinterface 41 2, 5) := by decide +kernel
theorem dX2_nextLevel_87 : decode cX2_nextLevel 87 = .ok (.pop, 1) := dk_87 (dk_at dksX2_nextLevel_3 18 rfl rfl)
theorem dX2_nextLevel_88 : decode cX2_nextLevel 88 = .ok (.iinc 3 4, 3) := dk_132 3 4 (dk_at dksX2_nextLevel_3 19 rfl rfl)
theorem dX2_nextLevel_91 : decode cX2_nextLevel 91 = .ok (.goto (-81), 3) := dk_167 255 175 (dk_at dksX2_nextLevel_4 0 rfl rfl)
theorem dX2_nextLevel_94 : decode cX2_nextLevel 94 = .ok (.aload_n 2, 1) := dk_44 (dk_at dksX2_nextLevel_4 3 rfl rfl)
theorem dX2_nextLevel_95 : decode cX2_nextLevel 95 = .ok (.areturn, 1) := dk_176 (dk_at dksX2_nextLevel_4 4 rfl rfl)
abbrev cX2_inner : ByteArray := prog_12_method_7_code
def yX2_inner : MethodName := ⟨RX2, "inner", "(Ljava/util/List;)LVectorVersions$Inner;"⟩
def dkwX2_inner_0 : List UInt8 := [42, 187, 0, 68, 89, 42, 180, 0, 51, 43, 183, 0, 70, 182, 0, 64, 192, 0, 68, 176]
abbrev dktX2_inner_0 : List UInt8 := dkwX2_inner_0 ++ []
theorem dksX2_inner_0 : cX2_inner.data.toList.drop 0 = dktX2_inner_0 := by decide +kernel
theorem dX2_inner_0 : decode cX2_inner 0 = .ok (.aload_n 0, 1) := dk_42 (dk_at dksX2_inner_0 0 rfl rfl)
theorem dX2_inner_1 : decode cX2_inner 1 = .ok (.new 68, 3) := dk_187 0 68 (dk_at dksX2_inner_0 1 rfl rfl)
theorem dX2_inner_4 : decode cX2_inner 4 = .ok (.dup, 1) := dk_89 (dk_at dksX2_inner_0 4 rfl rfl)
theorem dX2_inner_5 : decode cX2_inner 5 = .ok (.aload_n 0, 1) := dk_42 (dk_at dksX2_inner_0 5 rfl rfl)
theorem dX2_inner_6 : decode cX2_inner 6 = .ok (.getfield 51, 3) := dk_180 0 51 (dk_at dksX2_inner_0 6 rfl rfl)
theorem dX2_inner_9 : decode cX2_inner 9 = .ok (.aload_n 1, 1) := dk_43 (dk_at dksX2_inner_0 9 rfl rfl)
theorem dX2_inner_10 : decode cX2_inner 10 = .ok (.invokespecial 70, 3) := dk_183 0 70 (dk_at dksX2_inner_0 10 rfl rfl)
theorem dX2_inner_13 : decode cX2_inner 13 = .ok (.invokevirtual 64, 3) := dk_182 0 64 (dk_at dksX2_inner_0 13 rfl rfl)
theorem dX2_inner_16 : decode cX2_inner 16 = .ok (.checkcast 68, 3) := dk_192 0 68 (dk_at dksX2_inner_0 16 rfl rfl)
theorem dX2_inner_19 : decode cX2_inner 19 = .ok (.areturn, 1) := dk_176 (dk_at dksX2_inner_0 19 rfl rfl)
abbrev cX2_addVersion : ByteArray := prog_12_method_14_code
def yX2_addVersion : MethodName := ⟨RX2, "addVersion", "(IILVectorVersions$Tree;[I)I"⟩
def dkwX2_addVersion_1 : List UInt8 := [45, 25, 4, 183, 0, 139, 185, 0, 41, 2, 0, 87, 42, 180, 0, 14, 185, 0, 25, 1, 0, 4, 100, 172]
abbrev dktX2_addVersion_1 : List UInt8 := dkwX2_addVersion_1 ++ []
def dkwX2_addVersion_0 : List UInt8 := [42, 180, 0, 14, 187, 0, 36, 89, 42, 180, 0, 14, 185, 0, 25, 1, 0, 27, 42, 180, 0, 51, 28, 100]
abbrev dktX2_addVersion_0 : List UInt8 := dkwX2_addVersion_0 ++ dktX2_addVersion_1
theorem dksX2_addVersion_0 : cX2_addVersion.data.toList.drop 0 = dktX2_addVersion_0 := by decide +kernel
theorem dksX2_addVersion_1 : cX2_addVersion.data.toList.drop 24 = dktX2_addVersion_1 := dk_seg dksX2_addVersion_0 24 rfl rfl
theorem dX2_addVersion_0 : decode cX2_addVersion 0 = .ok (.aload_n 0, 1) := dk_42 (dk_at dksX2_addVersion_0 0 rfl rfl)
theorem dX2_addVersion_1 : decode cX2_addVersion 1 = .ok (.getfield 14, 3) := dk_180 0 14 (dk_at dksX2_addVersion_0 1 rfl rfl)
theorem dX2_addVersion_4 : decode cX2_addVersion 4 = .ok (.new 36, 3) := dk_187 0 36 (dk_at dksX2_addVersion_0 4 rfl rfl)
theorem dX2_addVersion_7 : decode cX2_addVersion 7 = .ok (.dup, 1) := dk_89 (dk_at dksX2_addVersion_0 7 rfl rfl)
theorem dX2_addVersion_8 : decode cX2_addVersion 8 = .ok (.aload_n 0, 1) := dk_42 (dk_at dksX2_addVersion_0 8 rfl rfl)
theorem dX2_addVersion_9 : decode cX2_addVersion 9 = .ok (.getfield 14, 3) := dk_180 0 14 (dk_at dksX2_addVersion_0 9 rfl rfl)
theorem dX2_addVersion_12 : decode cX2_addVersion 12 = .ok (.invokeinterface 25 1, 5) := by decide +kernel
theorem dX2_addVersion_17 : decode cX2_addVersion 17 = .ok (.iload_n 1, 1) := dk_27 (dk_at dksX2_addVersion_0 17 rfl rfl)
theorem dX2_addVersion_18 : decode cX2_addVersion 18 = .ok (.aload_n 0, 1) := dk_42 (dk_at dksX2_addVersion_0 18 rfl rfl)
theorem dX2_addVersion_19 : decode cX2_addVersion 19 = .ok (.getfield 51, 3) := dk_180 0 51 (dk_at dksX2_addVersion_0 19 rfl rfl)
theorem dX2_addVersion_22 : decode cX2_addVersion 22 = .ok (.iload_n 2, 1) := dk_28 (dk_at dksX2_addVersion_0 22 rfl rfl)
theorem dX2_addVersion_23 : decode cX2_addVersion 23 = .ok (.isub, 1) := dk_100 (dk_at dksX2_addVersion_0 23 rfl rfl)
theorem dX2_addVersion_24 : decode cX2_addVersion 24 = .ok (.aload_n 3, 1) := dk_45 (dk_at dksX2_addVersion_1 0 rfl rfl)
theorem dX2_addVersion_25 : decode cX2_addVersion 25 = .ok (.aload 4, 2) := dk_25 4 (dk_at dksX2_addVersion_1 1 rfl rfl)
theorem dX2_addVersion_27 : decode cX2_addVersion 27 = .ok (.invokespecial 139, 3) := dk_183 0 139 (dk_at dksX2_addVersion_1 3 rfl rfl)
theorem dX2_addVersion_30 : decode cX2_addVersion 30 = .ok (.invokeinterface 41 2, 5) := by decide +kernel
theorem dX2_addVersion_35 : decode cX2_addVersion 35 = .ok (.pop, 1) := dk_87 (dk_at dksX2_addVersion_1 11 rfl rfl)
theorem dX2_addVersion_36 : decode cX2_addVersion 36 = .ok (.aload_n 0, 1) := dk_42 (dk_at dksX2_addVersion_1 12 rfl rfl)
theorem dX2_addVersion_37 : decode cX2_addVersion 37 = .ok (.getfield 14, 3) := dk_180 0 14 (dk_at dksX2_addVersion_1 13 rfl rfl)
theorem dX2_addVersion_40 : decode cX2_addVersion 40 = .ok (.invokeinterface 25 1, 5) := by decide +kernel
theorem dX2_addVersion_45 : decode cX2_addVersion 45 = .ok (.iconst 1, 1) := dk_4 (dk_at dksX2_addVersion_1 21 rfl rfl)
theorem dX2_addVersion_46 : decode cX2_addVersion 46 = .ok (.isub, 1) := dk_100 (dk_at dksX2_addVersion_1 22 rfl rfl)
theorem dX2_addVersion_47 : decode cX2_addVersion 47 = .ok (.ireturn, 1) := dk_172 (dk_at dksX2_addVersion_1 23 rfl rfl)
abbrev cX2_tree : ByteArray := prog_12_method_4_code
def yX2_tree : MethodName := ⟨RX2, "tree", "(I)LVectorVersions$Tree;"⟩
def dkwX2_tree_0 : List UInt8 := [42, 27, 182, 0, 31, 180, 0, 55, 176]
abbrev dktX2_tree_0 : List UInt8 := dkwX2_tree_0 ++ []
theorem dksX2_tree_0 : cX2_tree.data.toList.drop 0 = dktX2_tree_0 := by decide +kernel
theorem dX2_tree_0 : decode cX2_tree 0 = .ok (.aload_n 0, 1) := dk_42 (dk_at dksX2_tree_0 0 rfl rfl)
theorem dX2_tree_1 : decode cX2_tree 1 = .ok (.iload_n 1, 1) := dk_27 (dk_at dksX2_tree_0 1 rfl rfl)
theorem dX2_tree_2 : decode cX2_tree 2 = .ok (.invokevirtual 31, 3) := dk_182 0 31 (dk_at dksX2_tree_0 2 rfl rfl)
theorem dX2_tree_5 : decode cX2_tree 5 = .ok (.getfield 55, 3) := dk_180 0 55 (dk_at dksX2_tree_0 5 rfl rfl)
theorem dX2_tree_8 : decode cX2_tree 8 = .ok (.areturn, 1) := dk_176 (dk_at dksX2_tree_0 8 rfl rfl)
abbrev cX2_version : ByteArray := prog_12_method_3_code
def yX2_version : MethodName := ⟨RX2, "version", "(I)LVectorVersions$Version;"⟩
def dkwX2_version_0 : List UInt8 := [42, 180, 0, 14, 27, 185, 0, 45, 2, 0, 192, 0, 36, 176]
abbrev dktX2_version_0 : List UInt8 := dkwX2_version_0 ++ []
theorem dksX2_version_0 : cX2_version.data.toList.drop 0 = dktX2_version_0 := by decide +kernel
theorem dX2_version_0 : decode cX2_version 0 = .ok (.aload_n 0, 1) := dk_42 (dk_at dksX2_version_0 0 rfl rfl)
theorem dX2_version_1 : decode cX2_version 1 = .ok (.getfield 14, 3) := dk_180 0 14 (dk_at dksX2_version_0 1 rfl rfl)
theorem dX2_version_4 : decode cX2_version 4 = .ok (.iload_n 1, 1) := dk_27 (dk_at dksX2_version_0 4 rfl rfl)
theorem dX2_version_5 : decode cX2_version 5 = .ok (.invokeinterface 45 2, 5) := by decide +kernel
theorem dX2_version_10 : decode cX2_version 10 = .ok (.checkcast 36, 3) := dk_192 0 36 (dk_at dksX2_version_0 10 rfl rfl)
theorem dX2_version_13 : decode cX2_version 13 = .ok (.areturn, 1) := dk_176 (dk_at dksX2_version_0 13 rfl rfl)
abbrev cX2_copy : ByteArray := prog_12_method_2_code
def yX2_copy : MethodName := ⟨RX2, "copy", "()LVectorVersions$Store;"⟩
def dkwX2_copy_4 : List UInt8 := [180, 0, 51, 181, 0, 51, 43, 176]
abbrev dktX2_copy_4 : List UInt8 := dkwX2_copy_4 ++ []
def dkwX2_copy_3 : List UInt8 := [185, 0, 45, 2, 0, 192, 0, 49, 185, 0, 41, 2, 0, 87, 132, 2, 1, 167, 255, 217, 43, 42]
abbrev dktX2_copy_3 : List UInt8 := dkwX2_copy_3 ++ dktX2_copy_4
def dkwX2_copy_2 : List UInt8 := [61, 28, 42, 180, 0, 21, 185, 0, 25, 1, 0, 162, 0, 32, 43, 180, 0, 21, 42, 180, 0, 21, 28]
abbrev dktX2_copy_2 : List UInt8 := dkwX2_copy_2 ++ dktX2_copy_3
def dkwX2_copy_1 : List UInt8 := [180, 0, 14, 42, 28, 182, 0, 31, 182, 0, 35, 185, 0, 41, 2, 0, 87, 132, 2, 1, 167, 255, 222, 3]
abbrev dktX2_copy_1 : List UInt8 := dkwX2_copy_1 ++ dktX2_copy_2
def dkwX2_copy_0 : List UInt8 := [187, 0, 15, 89, 183, 0, 24, 76, 3, 61, 28, 42, 180, 0, 14, 185, 0, 25, 1, 0, 162, 0, 27, 43]
abbrev dktX2_copy_0 : List UInt8 := dkwX2_copy_0 ++ dktX2_copy_1
theorem dksX2_copy_0 : cX2_copy.data.toList.drop 0 = dktX2_copy_0 := by decide +kernel
theorem dksX2_copy_1 : cX2_copy.data.toList.drop 24 = dktX2_copy_1 := dk_seg dksX2_copy_0 24 rfl rfl
theorem dksX2_copy_2 : cX2_copy.data.toList.drop 48 = dktX2_copy_2 := dk_seg dksX2_copy_1 24 rfl rfl
theorem dksX2_copy_3 : cX2_copy.data.toList.drop 71 = dktX2_copy_3 := dk_seg dksX2_copy_2 23 rfl rfl
theorem dksX2_copy_4 : cX2_copy.data.toList.drop 93 = dktX2_copy_4 := dk_seg dksX2_copy_3 22 rfl rfl
theorem dX2_copy_0 : decode cX2_copy 0 = .ok (.new 15, 3) := dk_187 0 15 (dk_at dksX2_copy_0 0 rfl rfl)
theorem dX2_copy_3 : decode cX2_copy 3 = .ok (.dup, 1) := dk_89 (dk_at dksX2_copy_0 3 rfl rfl)
theorem dX2_copy_4 : decode cX2_copy 4 = .ok (.invokespecial 24, 3) := dk_183 0 24 (dk_at dksX2_copy_0 4 rfl rfl)
theorem dX2_copy_7 : decode cX2_copy 7 = .ok (.astore_n 1, 1) := dk_76 (dk_at dksX2_copy_0 7 rfl rfl)
theorem dX2_copy_8 : decode cX2_copy 8 = .ok (.iconst 0, 1) := dk_3 (dk_at dksX2_copy_0 8 rfl rfl)
theorem dX2_copy_9 : decode cX2_copy 9 = .ok (.istore_n 2, 1) := dk_61 (dk_at dksX2_copy_0 9 rfl rfl)
theorem dX2_copy_10 : decode cX2_copy 10 = .ok (.iload_n 2, 1) := dk_28 (dk_at dksX2_copy_0 10 rfl rfl)
theorem dX2_copy_11 : decode cX2_copy 11 = .ok (.aload_n 0, 1) := dk_42 (dk_at dksX2_copy_0 11 rfl rfl)
theorem dX2_copy_12 : decode cX2_copy 12 = .ok (.getfield 14, 3) := dk_180 0 14 (dk_at dksX2_copy_0 12 rfl rfl)
theorem dX2_copy_15 : decode cX2_copy 15 = .ok (.invokeinterface 25 1, 5) := by decide +kernel
theorem dX2_copy_20 : decode cX2_copy 20 = .ok (.if_icmp .ge 27, 3) := dk_162 0 27 (dk_at dksX2_copy_0 20 rfl rfl)
theorem dX2_copy_23 : decode cX2_copy 23 = .ok (.aload_n 1, 1) := dk_43 (dk_at dksX2_copy_0 23 rfl rfl)
theorem dX2_copy_24 : decode cX2_copy 24 = .ok (.getfield 14, 3) := dk_180 0 14 (dk_at dksX2_copy_1 0 rfl rfl)
theorem dX2_copy_27 : decode cX2_copy 27 = .ok (.aload_n 0, 1) := dk_42 (dk_at dksX2_copy_1 3 rfl rfl)
theorem dX2_copy_28 : decode cX2_copy 28 = .ok (.iload_n 2, 1) := dk_28 (dk_at dksX2_copy_1 4 rfl rfl)
theorem dX2_copy_29 : decode cX2_copy 29 = .ok (.invokevirtual 31, 3) := dk_182 0 31 (dk_at dksX2_copy_1 5 rfl rfl)
theorem dX2_copy_32 : decode cX2_copy 32 = .ok (.invokevirtual 35, 3) := dk_182 0 35 (dk_at dksX2_copy_1 8 rfl rfl)
theorem dX2_copy_35 : decode cX2_copy 35 = .ok (.invokeinterface 41 2, 5) := by decide +kernel
theorem dX2_copy_40 : decode cX2_copy 40 = .ok (.pop, 1) := dk_87 (dk_at dksX2_copy_1 16 rfl rfl)
theorem dX2_copy_41 : decode cX2_copy 41 = .ok (.iinc 2 1, 3) := dk_132 2 1 (dk_at dksX2_copy_1 17 rfl rfl)
theorem dX2_copy_44 : decode cX2_copy 44 = .ok (.goto (-34), 3) := dk_167 255 222 (dk_at dksX2_copy_1 20 rfl rfl)
theorem dX2_copy_47 : decode cX2_copy 47 = .ok (.iconst 0, 1) := dk_3 (dk_at dksX2_copy_1 23 rfl rfl)
theorem dX2_copy_48 : decode cX2_copy 48 = .ok (.istore_n 2, 1) := dk_61 (dk_at dksX2_copy_2 0 rfl rfl)
theorem dX2_copy_49 : decode cX2_copy 49 = .ok (.iload_n 2, 1) := dk_28 (dk_at dksX2_copy_2 1 rfl rfl)
theorem dX2_copy_50 : decode cX2_copy 50 = .ok (.aload_n 0, 1) := dk_42 (dk_at dksX2_copy_2 2 rfl rfl)
theorem dX2_copy_51 : decode cX2_copy 51 = .ok (.getfield 21, 3) := dk_180 0 21 (dk_at dksX2_copy_2 3 rfl rfl)
theorem dX2_copy_54 : decode cX2_copy 54 = .ok (.invokeinterface 25 1, 5) := by decide +kernel
theorem dX2_copy_59 : decode cX2_copy 59 = .ok (.if_icmp .ge 32, 3) := dk_162 0 32 (dk_at dksX2_copy_2 11 rfl rfl)
theorem dX2_copy_62 : decode cX2_copy 62 = .ok (.aload_n 1, 1) := dk_43 (dk_at dksX2_copy_2 14 rfl rfl)
theorem dX2_copy_63 : decode cX2_copy 63 = .ok (.getfield 21, 3) := dk_180 0 21 (dk_at dksX2_copy_2 15 rfl rfl)
theorem dX2_copy_66 : decode cX2_copy 66 = .ok (.aload_n 0, 1) := dk_42 (dk_at dksX2_copy_2 18 rfl rfl)
theorem dX2_copy_67 : decode cX2_copy 67 = .ok (.getfield 21, 3) := dk_180 0 21 (dk_at dksX2_copy_2 19 rfl rfl)
theorem dX2_copy_70 : decode cX2_copy 70 = .ok (.iload_n 2, 1) := dk_28 (dk_at dksX2_copy_2 22 rfl rfl)
theorem dX2_copy_71 : decode cX2_copy 71 = .ok (.invokeinterface 45 2, 5) := by decide +kernel
theorem dX2_copy_76 : decode cX2_copy 76 = .ok (.checkcast 49, 3) := dk_192 0 49 (dk_at dksX2_copy_3 5 rfl rfl)
theorem dX2_copy_79 : decode cX2_copy 79 = .ok (.invokeinterface 41 2, 5) := by decide +kernel
theorem dX2_copy_84 : decode cX2_copy 84 = .ok (.pop, 1) := dk_87 (dk_at dksX2_copy_3 13 rfl rfl)
theorem dX2_copy_85 : decode cX2_copy 85 = .ok (.iinc 2 1, 3) := dk_132 2 1 (dk_at dksX2_copy_3 14 rfl rfl)
theorem dX2_copy_88 : decode cX2_copy 88 = .ok (.goto (-39), 3) := dk_167 255 217 (dk_at dksX2_copy_3 17 rfl rfl)
theorem dX2_copy_91 : decode cX2_copy 91 = .ok (.aload_n 1, 1) := dk_43 (dk_at dksX2_copy_3 20 rfl rfl)
theorem dX2_copy_92 : decode cX2_copy 92 = .ok (.aload_n 0, 1) := dk_42 (dk_at dksX2_copy_3 21 rfl rfl)
theorem dX2_copy_93 : decode cX2_copy 93 = .ok (.getfield 51, 3) := dk_180 0 51 (dk_at dksX2_copy_4 0 rfl rfl)
theorem dX2_copy_96 : decode cX2_copy 96 = .ok (.putfield 51, 3) := dk_181 0 51 (dk_at dksX2_copy_4 3 rfl rfl)
theorem dX2_copy_99 : decode cX2_copy 99 = .ok (.aload_n 1, 1) := dk_43 (dk_at dksX2_copy_4 6 rfl rfl)
theorem dX2_copy_100 : decode cX2_copy 100 = .ok (.areturn, 1) := dk_176 (dk_at dksX2_copy_4 7 rfl rfl)
abbrev cX2_set : ByteArray := prog_12_method_18_code
def yX2_set : MethodName := ⟨RX2, "set", "(III)I"⟩
def dkwX2_set_5 : List UInt8 := [172]
abbrev dktX2_set_5 : List UInt8 := dkwX2_set_5 ++ []
def dkwX2_set_4 : List UInt8 := [180, 0, 176, 25, 5, 180, 0, 185, 183, 0, 158, 25, 4, 180, 0, 188, 28, 29, 184, 0, 192, 182, 0, 161]
abbrev dktX2_set_4 : List UInt8 := dkwX2_set_4 ++ dktX2_set_5
def dkwX2_set_3 : List UInt8 := [180, 0, 185, 28, 29, 182, 0, 113, 58, 7, 42, 27, 21, 6, 187, 0, 149, 89, 25, 7, 25, 5]
abbrev dktX2_set_3 : List UInt8 := dkwX2_set_3 ++ dktX2_set_4
def dkwX2_set_2 : List UInt8 := [182, 0, 142, 29, 160, 0, 11, 25, 5, 180, 0, 181, 167, 0, 19, 42, 25, 5, 180, 0, 181, 25, 5]
abbrev dktX2_set_2 : List UInt8 := dkwX2_set_2 ++ dktX2_set_3
def dkwX2_set_1 : List UInt8 := [167, 0, 4, 3, 184, 0, 169, 42, 180, 0, 51, 54, 6, 25, 5, 28, 182, 0, 178, 192, 0, 78]
abbrev dktX2_set_1 : List UInt8 := dkwX2_set_1 ++ dktX2_set_2
def dkwX2_set_0 : List UInt8 := [42, 27, 182, 0, 173, 58, 4, 25, 4, 180, 0, 55, 58, 5, 28, 25, 5, 180, 0, 176, 162, 0, 7, 4]
abbrev dktX2_set_0 : List UInt8 := dkwX2_set_0 ++ dktX2_set_1
theorem dksX2_set_0 : cX2_set.data.toList.drop 0 = dktX2_set_0 := by decide +kernel
theorem dksX2_set_1 : cX2_set.data.toList.drop 24 = dktX2_set_1 := dk_seg dksX2_set_0 24 rfl rfl
theorem dksX2_set_2 : cX2_set.data.toList.drop 46 = dktX2_set_2 := dk_seg dksX2_set_1 22 rfl rfl
theorem dksX2_set_3 : cX2_set.data.toList.drop 69 = dktX2_set_3 := dk_seg dksX2_set_2 23 rfl rfl
theorem dksX2_set_4 : cX2_set.data.toList.drop 91 = dktX2_set_4 := dk_seg dksX2_set_3 22 rfl rfl
theorem dksX2_set_5 : cX2_set.data.toList.drop 115 = dktX2_set_5 := dk_seg dksX2_set_4 24 rfl rfl
theorem dX2_set_0 : decode cX2_set 0 = .ok (.aload_n 0, 1) := dk_42 (dk_at dksX2_set_0 0 rfl rfl)
theorem dX2_set_1 : decode cX2_set 1 = .ok (.iload_n 1, 1) := dk_27 (dk_at dksX2_set_0 1 rfl rfl)
theorem dX2_set_2 : decode cX2_set 2 = .ok (.invokevirtual 173, 3) := dk_182 0 173 (dk_at dksX2_set_0 2 rfl rfl)
theorem dX2_set_5 : decode cX2_set 5 = .ok (.astore 4, 2) := dk_58 4 (dk_at dksX2_set_0 5 rfl rfl)
theorem dX2_set_7 : decode cX2_set 7 = .ok (.aload 4, 2) := dk_25 4 (dk_at dksX2_set_0 7 rfl rfl)
theorem dX2_set_9 : decode cX2_set 9 = .ok (.getfield 55, 3) := dk_180 0 55 (dk_at dksX2_set_0 9 rfl rfl)
theorem dX2_set_12 : decode cX2_set 12 = .ok (.astore 5, 2) := dk_58 5 (dk_at dksX2_set_0 12 rfl rfl)
theorem dX2_set_14 : decode cX2_set 14 = .ok (.iload_n 2, 1) := dk_28 (dk_at dksX2_set_0 14 rfl rfl)
theorem dX2_set_15 : decode cX2_set 15 = .ok (.aload 5, 2) := dk_25 5 (dk_at dksX2_set_0 15 rfl rfl)
theorem dX2_set_17 : decode cX2_set 17 = .ok (.getfield 176, 3) := dk_180 0 176 (dk_at dksX2_set_0 17 rfl rfl)
theorem dX2_set_20 : decode cX2_set 20 = .ok (.if_icmp .ge 7, 3) := dk_162 0 7 (dk_at dksX2_set_0 20 rfl rfl)
theorem dX2_set_23 : decode cX2_set 23 = .ok (.iconst 1, 1) := dk_4 (dk_at dksX2_set_0 23 rfl rfl)
theorem dX2_set_24 : decode cX2_set 24 = .ok (.goto 4, 3) := dk_167 0 4 (dk_at dksX2_set_1 0 rfl rfl)
theorem dX2_set_27 : decode cX2_set 27 = .ok (.iconst 0, 1) := dk_3 (dk_at dksX2_set_1 3 rfl rfl)
theorem dX2_set_28 : decode cX2_set 28 = .ok (.invokestatic 169, 3) := dk_184 0 169 (dk_at dksX2_set_1 4 rfl rfl)
theorem dX2_set_31 : decode cX2_set 31 = .ok (.aload_n 0, 1) := dk_42 (dk_at dksX2_set_1 7 rfl rfl)
theorem dX2_set_32 : decode cX2_set 32 = .ok (.getfield 51, 3) := dk_180 0 51 (dk_at dksX2_set_1 8 rfl rfl)
theorem dX2_set_35 : decode cX2_set 35 = .ok (.istore 6, 2) := dk_54 6 (dk_at dksX2_set_1 11 rfl rfl)
theorem dX2_set_37 : decode cX2_set 37 = .ok (.aload 5, 2) := dk_25 5 (dk_at dksX2_set_1 13 rfl rfl)
theorem dX2_set_39 : decode cX2_set 39 = .ok (.iload_n 2, 1) := dk_28 (dk_at dksX2_set_1 15 rfl rfl)
theorem dX2_set_40 : decode cX2_set 40 = .ok (.invokevirtual 178, 3) := dk_182 0 178 (dk_at dksX2_set_1 16 rfl rfl)
theorem dX2_set_43 : decode cX2_set 43 = .ok (.checkcast 78, 3) := dk_192 0 78 (dk_at dksX2_set_1 19 rfl rfl)
theorem dX2_set_46 : decode cX2_set 46 = .ok (.invokevirtual 142, 3) := dk_182 0 142 (dk_at dksX2_set_2 0 rfl rfl)
theorem dX2_set_49 : decode cX2_set 49 = .ok (.iload_n 3, 1) := dk_29 (dk_at dksX2_set_2 3 rfl rfl)
theorem dX2_set_50 : decode cX2_set 50 = .ok (.if_icmp .ne 11, 3) := dk_160 0 11 (dk_at dksX2_set_2 4 rfl rfl)
theorem dX2_set_53 : decode cX2_set 53 = .ok (.aload 5, 2) := dk_25 5 (dk_at dksX2_set_2 7 rfl rfl)
theorem dX2_set_55 : decode cX2_set 55 = .ok (.getfield 181, 3) := dk_180 0 181 (dk_at dksX2_set_2 9 rfl rfl)
theorem dX2_set_58 : decode cX2_set 58 = .ok (.goto 19, 3) := dk_167 0 19 (dk_at dksX2_set_2 12 rfl rfl)
theorem dX2_set_61 : decode cX2_set 61 = .ok (.aload_n 0, 1) := dk_42 (dk_at dksX2_set_2 15 rfl rfl)
theorem dX2_set_62 : decode cX2_set 62 = .ok (.aload 5, 2) := dk_25 5 (dk_at dksX2_set_2 16 rfl rfl)
theorem dX2_set_64 : decode cX2_set 64 = .ok (.getfield 181, 3) := dk_180 0 181 (dk_at dksX2_set_2 18 rfl rfl)
theorem dX2_set_67 : decode cX2_set 67 = .ok (.aload 5, 2) := dk_25 5 (dk_at dksX2_set_2 21 rfl rfl)
theorem dX2_set_69 : decode cX2_set 69 = .ok (.getfield 185, 3) := dk_180 0 185 (dk_at dksX2_set_3 0 rfl rfl)
theorem dX2_set_72 : decode cX2_set 72 = .ok (.iload_n 2, 1) := dk_28 (dk_at dksX2_set_3 3 rfl rfl)
theorem dX2_set_73 : decode cX2_set 73 = .ok (.iload_n 3, 1) := dk_29 (dk_at dksX2_set_3 4 rfl rfl)
theorem dX2_set_74 : decode cX2_set 74 = .ok (.invokevirtual 113, 3) := dk_182 0 113 (dk_at dksX2_set_3 5 rfl rfl)
theorem dX2_set_77 : decode cX2_set 77 = .ok (.astore 7, 2) := dk_58 7 (dk_at dksX2_set_3 8 rfl rfl)
theorem dX2_set_79 : decode cX2_set 79 = .ok (.aload_n 0, 1) := dk_42 (dk_at dksX2_set_3 10 rfl rfl)
theorem dX2_set_80 : decode cX2_set 80 = .ok (.iload_n 1, 1) := dk_27 (dk_at dksX2_set_3 11 rfl rfl)
theorem dX2_set_81 : decode cX2_set 81 = .ok (.iload 6, 2) := dk_21 6 (dk_at dksX2_set_3 12 rfl rfl)
theorem dX2_set_83 : decode cX2_set 83 = .ok (.new 149, 3) := dk_187 0 149 (dk_at dksX2_set_3 14 rfl rfl)
theorem dX2_set_86 : decode cX2_set 86 = .ok (.dup, 1) := dk_89 (dk_at dksX2_set_3 17 rfl rfl)
theorem dX2_set_87 : decode cX2_set 87 = .ok (.aload 7, 2) := dk_25 7 (dk_at dksX2_set_3 18 rfl rfl)
theorem dX2_set_89 : decode cX2_set 89 = .ok (.aload 5, 2) := dk_25 5 (dk_at dksX2_set_3 20 rfl rfl)
theorem dX2_set_91 : decode cX2_set 91 = .ok (.getfield 176, 3) := dk_180 0 176 (dk_at dksX2_set_4 0 rfl rfl)
theorem dX2_set_94 : decode cX2_set 94 = .ok (.aload 5, 2) := dk_25 5 (dk_at dksX2_set_4 3 rfl rfl)
theorem dX2_set_96 : decode cX2_set 96 = .ok (.getfield 185, 3) := dk_180 0 185 (dk_at dksX2_set_4 5 rfl rfl)
theorem dX2_set_99 : decode cX2_set 99 = .ok (.invokespecial 158, 3) := dk_183 0 158 (dk_at dksX2_set_4 8 rfl rfl)
theorem dX2_set_102 : decode cX2_set 102 = .ok (.aload 4, 2) := dk_25 4 (dk_at dksX2_set_4 11 rfl rfl)
theorem dX2_set_104 : decode cX2_set 104 = .ok (.getfield 188, 3) := dk_180 0 188 (dk_at dksX2_set_4 13 rfl rfl)
theorem dX2_set_107 : decode cX2_set 107 = .ok (.iload_n 2, 1) := dk_28 (dk_at dksX2_set_4 16 rfl rfl)
theorem dX2_set_108 : decode cX2_set 108 = .ok (.iload_n 3, 1) := dk_29 (dk_at dksX2_set_4 17 rfl rfl)
theorem dX2_set_109 : decode cX2_set 109 = .ok (.invokestatic 192, 3) := dk_184 0 192 (dk_at dksX2_set_4 18 rfl rfl)
theorem dX2_set_112 : decode cX2_set 112 = .ok (.invokevirtual 161, 3) := dk_182 0 161 (dk_at dksX2_set_4 21 rfl rfl)
theorem dX2_set_115 : decode cX2_set 115 = .ok (.ireturn, 1) := dk_172 (dk_at dksX2_set_5 0 rfl rfl)
abbrev cX2_source : ByteArray := prog_12_method_17_code
def yX2_source : MethodName := ⟨RX2, "source", "(I)LVectorVersions$Version;"⟩
def dkwX2_source_2 : List UInt8 := [182, 0, 31, 176]
abbrev dktX2_source_2 : List UInt8 := dkwX2_source_2 ++ []
def dkwX2_source_1 : List UInt8 := [42, 180, 0, 14, 185, 0, 25, 1, 0, 16, 40, 162, 0, 7, 4, 167, 0, 4, 3, 184, 0, 169, 42, 27]
abbrev dktX2_source_1 : List UInt8 := dkwX2_source_1 ++ dktX2_source_2
def dkwX2_source_0 : List UInt8 := [27, 42, 180, 0, 14, 185, 0, 25, 1, 0, 162, 0, 32, 42, 27, 182, 0, 31, 180, 0, 165, 154, 0, 21]
abbrev dktX2_source_0 : List UInt8 := dkwX2_source_0 ++ dktX2_source_1
theorem dksX2_source_0 : cX2_source.data.toList.drop 0 = dktX2_source_0 := by decide +kernel
theorem dksX2_source_1 : cX2_source.data.toList.drop 24 = dktX2_source_1 := dk_seg dksX2_source_0 24 rfl rfl
theorem dksX2_source_2 : cX2_source.data.toList.drop 48 = dktX2_source_2 := dk_seg dksX2_source_1 24 rfl rfl
theorem dX2_source_0 : decode cX2_source 0 = .ok (.iload_n 1, 1) := dk_27 (dk_at dksX2_source_0 0 rfl rfl)
theorem dX2_source_1 : decode cX2_source 1 = .ok (.aload_n 0, 1) := dk_42 (dk_at dksX2_source_0 1 rfl rfl)
theorem dX2_source_2 : decode cX2_source 2 = .ok (.getfield 14, 3) := dk_180 0 14 (dk_at dksX2_source_0 2 rfl rfl)
theorem dX2_source_5 : decode cX2_source 5 = .ok (.invokeinterface 25 1, 5) := by decide +kernel
theorem dX2_source_10 : decode cX2_source 10 = .ok (.if_icmp .ge 32, 3) := dk_162 0 32 (dk_at dksX2_source_0 10 rfl rfl)
theorem dX2_source_13 : decode cX2_source 13 = .ok (.aload_n 0, 1) := dk_42 (dk_at dksX2_source_0 13 rfl rfl)
theorem dX2_source_14 : decode cX2_source 14 = .ok (.iload_n 1, 1) := dk_27 (dk_at dksX2_source_0 14 rfl rfl)
theorem dX2_source_15 : decode cX2_source 15 = .ok (.invokevirtual 31, 3) := dk_182 0 31 (dk_at dksX2_source_0 15 rfl rfl)
theorem dX2_source_18 : decode cX2_source 18 = .ok (.getfield 165, 3) := dk_180 0 165 (dk_at dksX2_source_0 18 rfl rfl)
theorem dX2_source_21 : decode cX2_source 21 = .ok (.ifCond .ne 21, 3) := dk_154 0 21 (dk_at dksX2_source_0 21 rfl rfl)
theorem dX2_source_24 : decode cX2_source 24 = .ok (.aload_n 0, 1) := dk_42 (dk_at dksX2_source_1 0 rfl rfl)
theorem dX2_source_25 : decode cX2_source 25 = .ok (.getfield 14, 3) := dk_180 0 14 (dk_at dksX2_source_1 1 rfl rfl)
theorem dX2_source_28 : decode cX2_source 28 = .ok (.invokeinterface 25 1, 5) := by decide +kernel
theorem dX2_source_33 : decode cX2_source 33 = .ok (.bipush 40, 2) := dk_16 40 (dk_at dksX2_source_1 9 rfl rfl)
theorem dX2_source_35 : decode cX2_source 35 = .ok (.if_icmp .ge 7, 3) := dk_162 0 7 (dk_at dksX2_source_1 11 rfl rfl)
theorem dX2_source_38 : decode cX2_source 38 = .ok (.iconst 1, 1) := dk_4 (dk_at dksX2_source_1 14 rfl rfl)
theorem dX2_source_39 : decode cX2_source 39 = .ok (.goto 4, 3) := dk_167 0 4 (dk_at dksX2_source_1 15 rfl rfl)
theorem dX2_source_42 : decode cX2_source 42 = .ok (.iconst 0, 1) := dk_3 (dk_at dksX2_source_1 18 rfl rfl)
theorem dX2_source_43 : decode cX2_source 43 = .ok (.invokestatic 169, 3) := dk_184 0 169 (dk_at dksX2_source_1 19 rfl rfl)
theorem dX2_source_46 : decode cX2_source 46 = .ok (.aload_n 0, 1) := dk_42 (dk_at dksX2_source_1 22 rfl rfl)
theorem dX2_source_47 : decode cX2_source 47 = .ok (.iload_n 1, 1) := dk_27 (dk_at dksX2_source_1 23 rfl rfl)
theorem dX2_source_48 : decode cX2_source 48 = .ok (.invokevirtual 31, 3) := dk_182 0 31 (dk_at dksX2_source_2 0 rfl rfl)
theorem dX2_source_51 : decode cX2_source 51 = .ok (.areturn, 1) := dk_176 (dk_at dksX2_source_2 3 rfl rfl)
abbrev cX2_copyPath : ByteArray := prog_12_method_11_code
def yX2_copyPath : MethodName := ⟨RX2, "copyPath", "(LVectorVersions$Node;III)LVectorVersions$Node;"⟩
def dkwX2_copyPath_4 : List UInt8 := [182, 0, 117, 176]
abbrev dktX2_copyPath_4 : List UInt8 := dkwX2_copyPath_4 ++ []
def dkwX2_copyPath_3 : List UInt8 := [21, 5, 112, 21, 4, 182, 0, 113, 58, 8, 25, 6, 29, 21, 5, 108, 25, 8, 184, 0, 98, 42, 25, 6]
abbrev dktX2_copyPath_3 : List UInt8 := dkwX2_copyPath_3 ++ dktX2_copyPath_4
def dkwX2_copyPath_2 : List UInt8 := [199, 0, 7, 1, 167, 0, 11, 43, 29, 21, 5, 108, 182, 0, 80, 58, 7, 42, 25, 7, 28, 4, 100, 29]
abbrev dktX2_copyPath_2 : List UInt8 := dkwX2_copyPath_2 ++ dktX2_copyPath_3
def dkwX2_copyPath_1 : List UInt8 := [42, 25, 5, 182, 0, 102, 176, 28, 4, 100, 184, 0, 106, 54, 5, 42, 43, 7, 182, 0, 110, 58, 6, 43]
abbrev dktX2_copyPath_1 : List UInt8 := dkwX2_copyPath_1 ++ dktX2_copyPath_2
def dkwX2_copyPath_0 : List UInt8 := [28, 4, 160, 0, 29, 42, 43, 7, 182, 0, 90, 58, 5, 25, 5, 29, 21, 4, 184, 0, 94, 184, 0, 98]
abbrev dktX2_copyPath_0 : List UInt8 := dkwX2_copyPath_0 ++ dktX2_copyPath_1
theorem dksX2_copyPath_0 : cX2_copyPath.data.toList.drop 0 = dktX2_copyPath_0 := by decide +kernel
theorem dksX2_copyPath_1 : cX2_copyPath.data.toList.drop 24 = dktX2_copyPath_1 := dk_seg dksX2_copyPath_0 24 rfl rfl
theorem dksX2_copyPath_2 : cX2_copyPath.data.toList.drop 48 = dktX2_copyPath_2 := dk_seg dksX2_copyPath_1 24 rfl rfl
theorem dksX2_copyPath_3 : cX2_copyPath.data.toList.drop 72 = dktX2_copyPath_3 := dk_seg dksX2_copyPath_2 24 rfl rfl
theorem dksX2_copyPath_4 : cX2_copyPath.data.toList.drop 96 = dktX2_copyPath_4 := dk_seg dksX2_copyPath_3 24 rfl rfl
theorem dX2_copyPath_0 : decode cX2_copyPath 0 = .ok (.iload_n 2, 1) := dk_28 (dk_at dksX2_copyPath_0 0 rfl rfl)
theorem dX2_copyPath_1 : decode cX2_copyPath 1 = .ok (.iconst 1, 1) := dk_4 (dk_at dksX2_copyPath_0 1 rfl rfl)
theorem dX2_copyPath_2 : decode cX2_copyPath 2 = .ok (.if_icmp .ne 29, 3) := dk_160 0 29 (dk_at dksX2_copyPath_0 2 rfl rfl)
theorem dX2_copyPath_5 : decode cX2_copyPath 5 = .ok (.aload_n 0, 1) := dk_42 (dk_at dksX2_copyPath_0 5 rfl rfl)
theorem dX2_copyPath_6 : decode cX2_copyPath 6 = .ok (.aload_n 1, 1) := dk_43 (dk_at dksX2_copyPath_0 6 rfl rfl)
theorem dX2_copyPath_7 : decode cX2_copyPath 7 = .ok (.iconst 4, 1) := dk_7 (dk_at dksX2_copyPath_0 7 rfl rfl)
theorem dX2_copyPath_8 : decode cX2_copyPath 8 = .ok (.invokevirtual 90, 3) := dk_182 0 90 (dk_at dksX2_copyPath_0 8 rfl rfl)
theorem dX2_copyPath_11 : decode cX2_copyPath 11 = .ok (.astore 5, 2) := dk_58 5 (dk_at dksX2_copyPath_0 11 rfl rfl)
theorem dX2_copyPath_13 : decode cX2_copyPath 13 = .ok (.aload 5, 2) := dk_25 5 (dk_at dksX2_copyPath_0 13 rfl rfl)
theorem dX2_copyPath_15 : decode cX2_copyPath 15 = .ok (.iload_n 3, 1) := dk_29 (dk_at dksX2_copyPath_0 15 rfl rfl)
theorem dX2_copyPath_16 : decode cX2_copyPath 16 = .ok (.iload 4, 2) := dk_21 4 (dk_at dksX2_copyPath_0 16 rfl rfl)
theorem dX2_copyPath_18 : decode cX2_copyPath 18 = .ok (.invokestatic 94, 3) := dk_184 0 94 (dk_at dksX2_copyPath_0 18 rfl rfl)
theorem dX2_copyPath_21 : decode cX2_copyPath 21 = .ok (.invokestatic 98, 3) := dk_184 0 98 (dk_at dksX2_copyPath_0 21 rfl rfl)
theorem dX2_copyPath_24 : decode cX2_copyPath 24 = .ok (.aload_n 0, 1) := dk_42 (dk_at dksX2_copyPath_1 0 rfl rfl)
theorem dX2_copyPath_25 : decode cX2_copyPath 25 = .ok (.aload 5, 2) := dk_25 5 (dk_at dksX2_copyPath_1 1 rfl rfl)
theorem dX2_copyPath_27 : decode cX2_copyPath 27 = .ok (.invokevirtual 102, 3) := dk_182 0 102 (dk_at dksX2_copyPath_1 3 rfl rfl)
theorem dX2_copyPath_30 : decode cX2_copyPath 30 = .ok (.areturn, 1) := dk_176 (dk_at dksX2_copyPath_1 6 rfl rfl)
theorem dX2_copyPath_31 : decode cX2_copyPath 31 = .ok (.iload_n 2, 1) := dk_28 (dk_at dksX2_copyPath_1 7 rfl rfl)
theorem dX2_copyPath_32 : decode cX2_copyPath 32 = .ok (.iconst 1, 1) := dk_4 (dk_at dksX2_copyPath_1 8 rfl rfl)
theorem dX2_copyPath_33 : decode cX2_copyPath 33 = .ok (.isub, 1) := dk_100 (dk_at dksX2_copyPath_1 9 rfl rfl)
theorem dX2_copyPath_34 : decode cX2_copyPath 34 = .ok (.invokestatic 106, 3) := dk_184 0 106 (dk_at dksX2_copyPath_1 10 rfl rfl)
theorem dX2_copyPath_37 : decode cX2_copyPath 37 = .ok (.istore 5, 2) := dk_54 5 (dk_at dksX2_copyPath_1 13 rfl rfl)
theorem dX2_copyPath_39 : decode cX2_copyPath 39 = .ok (.aload_n 0, 1) := dk_42 (dk_at dksX2_copyPath_1 15 rfl rfl)
theorem dX2_copyPath_40 : decode cX2_copyPath 40 = .ok (.aload_n 1, 1) := dk_43 (dk_at dksX2_copyPath_1 16 rfl rfl)
theorem dX2_copyPath_41 : decode cX2_copyPath 41 = .ok (.iconst 4, 1) := dk_7 (dk_at dksX2_copyPath_1 17 rfl rfl)
theorem dX2_copyPath_42 : decode cX2_copyPath 42 = .ok (.invokevirtual 110, 3) := dk_182 0 110 (dk_at dksX2_copyPath_1 18 rfl rfl)
theorem dX2_copyPath_45 : decode cX2_copyPath 45 = .ok (.astore 6, 2) := dk_58 6 (dk_at dksX2_copyPath_1 21 rfl rfl)
theorem dX2_copyPath_47 : decode cX2_copyPath 47 = .ok (.aload_n 1, 1) := dk_43 (dk_at dksX2_copyPath_1 23 rfl rfl)
theorem dX2_copyPath_48 : decode cX2_copyPath 48 = .ok (.ifnonnull 7, 3) := dk_199 0 7 (dk_at dksX2_copyPath_2 0 rfl rfl)
theorem dX2_copyPath_51 : decode cX2_copyPath 51 = .ok (.aconst_null, 1) := dk_1 (dk_at dksX2_copyPath_2 3 rfl rfl)
theorem dX2_copyPath_52 : decode cX2_copyPath 52 = .ok (.goto 11, 3) := dk_167 0 11 (dk_at dksX2_copyPath_2 4 rfl rfl)
theorem dX2_copyPath_55 : decode cX2_copyPath 55 = .ok (.aload_n 1, 1) := dk_43 (dk_at dksX2_copyPath_2 7 rfl rfl)
theorem dX2_copyPath_56 : decode cX2_copyPath 56 = .ok (.iload_n 3, 1) := dk_29 (dk_at dksX2_copyPath_2 8 rfl rfl)
theorem dX2_copyPath_57 : decode cX2_copyPath 57 = .ok (.iload 5, 2) := dk_21 5 (dk_at dksX2_copyPath_2 9 rfl rfl)
theorem dX2_copyPath_59 : decode cX2_copyPath 59 = .ok (.idiv, 1) := dk_108 (dk_at dksX2_copyPath_2 11 rfl rfl)
theorem dX2_copyPath_60 : decode cX2_copyPath 60 = .ok (.invokevirtual 80, 3) := dk_182 0 80 (dk_at dksX2_copyPath_2 12 rfl rfl)
theorem dX2_copyPath_63 : decode cX2_copyPath 63 = .ok (.astore 7, 2) := dk_58 7 (dk_at dksX2_copyPath_2 15 rfl rfl)
theorem dX2_copyPath_65 : decode cX2_copyPath 65 = .ok (.aload_n 0, 1) := dk_42 (dk_at dksX2_copyPath_2 17 rfl rfl)
theorem dX2_copyPath_66 : decode cX2_copyPath 66 = .ok (.aload 7, 2) := dk_25 7 (dk_at dksX2_copyPath_2 18 rfl rfl)
theorem dX2_copyPath_68 : decode cX2_copyPath 68 = .ok (.iload_n 2, 1) := dk_28 (dk_at dksX2_copyPath_2 20 rfl rfl)
theorem dX2_copyPath_69 : decode cX2_copyPath 69 = .ok (.iconst 1, 1) := dk_4 (dk_at dksX2_copyPath_2 21 rfl rfl)
theorem dX2_copyPath_70 : decode cX2_copyPath 70 = .ok (.isub, 1) := dk_100 (dk_at dksX2_copyPath_2 22 rfl rfl)
theorem dX2_copyPath_71 : decode cX2_copyPath 71 = .ok (.iload_n 3, 1) := dk_29 (dk_at dksX2_copyPath_2 23 rfl rfl)
theorem dX2_copyPath_72 : decode cX2_copyPath 72 = .ok (.iload 5, 2) := dk_21 5 (dk_at dksX2_copyPath_3 0 rfl rfl)
theorem dX2_copyPath_74 : decode cX2_copyPath 74 = .ok (.irem, 1) := dk_112 (dk_at dksX2_copyPath_3 2 rfl rfl)
theorem dX2_copyPath_75 : decode cX2_copyPath 75 = .ok (.iload 4, 2) := dk_21 4 (dk_at dksX2_copyPath_3 3 rfl rfl)
theorem dX2_copyPath_77 : decode cX2_copyPath 77 = .ok (.invokevirtual 113, 3) := dk_182 0 113 (dk_at dksX2_copyPath_3 5 rfl rfl)
theorem dX2_copyPath_80 : decode cX2_copyPath 80 = .ok (.astore 8, 2) := dk_58 8 (dk_at dksX2_copyPath_3 8 rfl rfl)
theorem dX2_copyPath_82 : decode cX2_copyPath 82 = .ok (.aload 6, 2) := dk_25 6 (dk_at dksX2_copyPath_3 10 rfl rfl)
theorem dX2_copyPath_84 : decode cX2_copyPath 84 = .ok (.iload_n 3, 1) := dk_29 (dk_at dksX2_copyPath_3 12 rfl rfl)
theorem dX2_copyPath_85 : decode cX2_copyPath 85 = .ok (.iload 5, 2) := dk_21 5 (dk_at dksX2_copyPath_3 13 rfl rfl)
theorem dX2_copyPath_87 : decode cX2_copyPath 87 = .ok (.idiv, 1) := dk_108 (dk_at dksX2_copyPath_3 15 rfl rfl)
theorem dX2_copyPath_88 : decode cX2_copyPath 88 = .ok (.aload 8, 2) := dk_25 8 (dk_at dksX2_copyPath_3 16 rfl rfl)
theorem dX2_copyPath_90 : decode cX2_copyPath 90 = .ok (.invokestatic 98, 3) := dk_184 0 98 (dk_at dksX2_copyPath_3 18 rfl rfl)
theorem dX2_copyPath_93 : decode cX2_copyPath 93 = .ok (.aload_n 0, 1) := dk_42 (dk_at dksX2_copyPath_3 21 rfl rfl)
theorem dX2_copyPath_94 : decode cX2_copyPath 94 = .ok (.aload 6, 2) := dk_25 6 (dk_at dksX2_copyPath_3 22 rfl rfl)
theorem dX2_copyPath_96 : decode cX2_copyPath 96 = .ok (.invokevirtual 117, 3) := dk_182 0 117 (dk_at dksX2_copyPath_4 0 rfl rfl)
theorem dX2_copyPath_99 : decode cX2_copyPath 99 = .ok (.areturn, 1) := dk_176 (dk_at dksX2_copyPath_4 3 rfl rfl)
abbrev cX2_elements : ByteArray := prog_12_method_8_code
def yX2_elements : MethodName := ⟨RX2, "elements", "(LVectorVersions$Node;I)Ljava/util/List;"⟩
def dkwX2_elements_2 : List UInt8 := [132, 4, 1, 167, 255, 217, 45, 176]
abbrev dktX2_elements_2 : List UInt8 := dkwX2_elements_2 ++ []
def dkwX2_elements_1 : List UInt8 := [43, 182, 0, 71, 162, 0, 26, 45, 43, 21, 4, 4, 182, 0, 74, 192, 0, 78, 185, 0, 41, 2, 0, 87]
abbrev dktX2_elements_1 : List UInt8 := dkwX2_elements_1 ++ dktX2_elements_2
def dkwX2_elements_0 : List UInt8 := [187, 0, 9, 89, 7, 183, 0, 11, 78, 3, 54, 4, 21, 4, 28, 162, 0, 39, 43, 198, 0, 35, 21, 4]
abbrev dktX2_elements_0 : List UInt8 := dkwX2_elements_0 ++ dktX2_elements_1
theorem dksX2_elements_0 : cX2_elements.data.toList.drop 0 = dktX2_elements_0 := by decide +kernel
theorem dksX2_elements_1 : cX2_elements.data.toList.drop 24 = dktX2_elements_1 := dk_seg dksX2_elements_0 24 rfl rfl
theorem dksX2_elements_2 : cX2_elements.data.toList.drop 48 = dktX2_elements_2 := dk_seg dksX2_elements_1 24 rfl rfl
theorem dX2_elements_0 : decode cX2_elements 0 = .ok (.new 9, 3) := dk_187 0 9 (dk_at dksX2_elements_0 0 rfl rfl)
theorem dX2_elements_3 : decode cX2_elements 3 = .ok (.dup, 1) := dk_89 (dk_at dksX2_elements_0 3 rfl rfl)
theorem dX2_elements_4 : decode cX2_elements 4 = .ok (.iconst 4, 1) := dk_7 (dk_at dksX2_elements_0 4 rfl rfl)
theorem dX2_elements_5 : decode cX2_elements 5 = .ok (.invokespecial 11, 3) := dk_183 0 11 (dk_at dksX2_elements_0 5 rfl rfl)
theorem dX2_elements_8 : decode cX2_elements 8 = .ok (.astore_n 3, 1) := dk_78 (dk_at dksX2_elements_0 8 rfl rfl)
theorem dX2_elements_9 : decode cX2_elements 9 = .ok (.iconst 0, 1) := dk_3 (dk_at dksX2_elements_0 9 rfl rfl)
theorem dX2_elements_10 : decode cX2_elements 10 = .ok (.istore 4, 2) := dk_54 4 (dk_at dksX2_elements_0 10 rfl rfl)
theorem dX2_elements_12 : decode cX2_elements 12 = .ok (.iload 4, 2) := dk_21 4 (dk_at dksX2_elements_0 12 rfl rfl)
theorem dX2_elements_14 : decode cX2_elements 14 = .ok (.iload_n 2, 1) := dk_28 (dk_at dksX2_elements_0 14 rfl rfl)
theorem dX2_elements_15 : decode cX2_elements 15 = .ok (.if_icmp .ge 39, 3) := dk_162 0 39 (dk_at dksX2_elements_0 15 rfl rfl)
theorem dX2_elements_18 : decode cX2_elements 18 = .ok (.aload_n 1, 1) := dk_43 (dk_at dksX2_elements_0 18 rfl rfl)
theorem dX2_elements_19 : decode cX2_elements 19 = .ok (.ifnull 35, 3) := dk_198 0 35 (dk_at dksX2_elements_0 19 rfl rfl)
theorem dX2_elements_22 : decode cX2_elements 22 = .ok (.iload 4, 2) := dk_21 4 (dk_at dksX2_elements_0 22 rfl rfl)
theorem dX2_elements_24 : decode cX2_elements 24 = .ok (.aload_n 1, 1) := dk_43 (dk_at dksX2_elements_1 0 rfl rfl)
theorem dX2_elements_25 : decode cX2_elements 25 = .ok (.invokevirtual 71, 3) := dk_182 0 71 (dk_at dksX2_elements_1 1 rfl rfl)
theorem dX2_elements_28 : decode cX2_elements 28 = .ok (.if_icmp .ge 26, 3) := dk_162 0 26 (dk_at dksX2_elements_1 4 rfl rfl)
theorem dX2_elements_31 : decode cX2_elements 31 = .ok (.aload_n 3, 1) := dk_45 (dk_at dksX2_elements_1 7 rfl rfl)
theorem dX2_elements_32 : decode cX2_elements 32 = .ok (.aload_n 1, 1) := dk_43 (dk_at dksX2_elements_1 8 rfl rfl)
theorem dX2_elements_33 : decode cX2_elements 33 = .ok (.iload 4, 2) := dk_21 4 (dk_at dksX2_elements_1 9 rfl rfl)
theorem dX2_elements_35 : decode cX2_elements 35 = .ok (.iconst 1, 1) := dk_4 (dk_at dksX2_elements_1 11 rfl rfl)
theorem dX2_elements_36 : decode cX2_elements 36 = .ok (.invokevirtual 74, 3) := dk_182 0 74 (dk_at dksX2_elements_1 12 rfl rfl)
theorem dX2_elements_39 : decode cX2_elements 39 = .ok (.checkcast 78, 3) := dk_192 0 78 (dk_at dksX2_elements_1 15 rfl rfl)
theorem dX2_elements_42 : decode cX2_elements 42 = .ok (.invokeinterface 41 2, 5) := by decide +kernel
theorem dX2_elements_47 : decode cX2_elements 47 = .ok (.pop, 1) := dk_87 (dk_at dksX2_elements_1 23 rfl rfl)
theorem dX2_elements_48 : decode cX2_elements 48 = .ok (.iinc 4 1, 3) := dk_132 4 1 (dk_at dksX2_elements_2 0 rfl rfl)
theorem dX2_elements_51 : decode cX2_elements 51 = .ok (.goto (-39), 3) := dk_167 255 217 (dk_at dksX2_elements_2 3 rfl rfl)
theorem dX2_elements_54 : decode cX2_elements 54 = .ok (.aload_n 3, 1) := dk_45 (dk_at dksX2_elements_2 6 rfl rfl)
theorem dX2_elements_55 : decode cX2_elements 55 = .ok (.areturn, 1) := dk_176 (dk_at dksX2_elements_2 7 rfl rfl)
abbrev cX2_put : ByteArray := prog_12_method_10_code
def yX2_put : MethodName := ⟨RX2, "put", "(Ljava/util/List;ILjava/lang/Object;)V"⟩
def dkwX2_put_1 : List UInt8 := [185, 0, 87, 3, 0, 167, 0, 11, 42, 44, 185, 0, 41, 2, 0, 87, 177]
abbrev dktX2_put_1 : List UInt8 := dkwX2_put_1 ++ []
def dkwX2_put_0 : List UInt8 := [27, 42, 185, 0, 25, 1, 0, 162, 0, 22, 42, 27, 185, 0, 84, 2, 0, 87, 42, 27, 44]
abbrev dktX2_put_0 : List UInt8 := dkwX2_put_0 ++ dktX2_put_1
theorem dksX2_put_0 : cX2_put.data.toList.drop 0 = dktX2_put_0 := by decide +kernel
theorem dksX2_put_1 : cX2_put.data.toList.drop 21 = dktX2_put_1 := dk_seg dksX2_put_0 21 rfl rfl
theorem dX2_put_0 : decode cX2_put 0 = .ok (.iload_n 1, 1) := dk_27 (dk_at dksX2_put_0 0 rfl rfl)
theorem dX2_put_1 : decode cX2_put 1 = .ok (.aload_n 0, 1) := dk_42 (dk_at dksX2_put_0 1 rfl rfl)
theorem dX2_put_2 : decode cX2_put 2 = .ok (.invokeinterface 25 1, 5) := by decide +kernel
theorem dX2_put_7 : decode cX2_put 7 = .ok (.if_icmp .ge 22, 3) := dk_162 0 22 (dk_at dksX2_put_0 7 rfl rfl)
theorem dX2_put_10 : decode cX2_put 10 = .ok (.aload_n 0, 1) := dk_42 (dk_at dksX2_put_0 10 rfl rfl)
theorem dX2_put_11 : decode cX2_put 11 = .ok (.iload_n 1, 1) := dk_27 (dk_at dksX2_put_0 11 rfl rfl)
theorem dX2_put_12 : decode cX2_put 12 = .ok (.invokeinterface 84 2, 5) := by decide +kernel
theorem dX2_put_17 : decode cX2_put 17 = .ok (.pop, 1) := dk_87 (dk_at dksX2_put_0 17 rfl rfl)
theorem dX2_put_18 : decode cX2_put 18 = .ok (.aload_n 0, 1) := dk_42 (dk_at dksX2_put_0 18 rfl rfl)
theorem dX2_put_19 : decode cX2_put 19 = .ok (.iload_n 1, 1) := dk_27 (dk_at dksX2_put_0 19 rfl rfl)
theorem dX2_put_20 : decode cX2_put 20 = .ok (.aload_n 2, 1) := dk_44 (dk_at dksX2_put_0 20 rfl rfl)
theorem dX2_put_21 : decode cX2_put 21 = .ok (.invokeinterface 87 3, 5) := by decide +kernel
theorem dX2_put_26 : decode cX2_put 26 = .ok (.goto 11, 3) := dk_167 0 11 (dk_at dksX2_put_1 5 rfl rfl)
theorem dX2_put_29 : decode cX2_put 29 = .ok (.aload_n 0, 1) := dk_42 (dk_at dksX2_put_1 8 rfl rfl)
theorem dX2_put_30 : decode cX2_put 30 = .ok (.aload_n 2, 1) := dk_44 (dk_at dksX2_put_1 9 rfl rfl)
theorem dX2_put_31 : decode cX2_put 31 = .ok (.invokeinterface 41 2, 5) := by decide +kernel
theorem dX2_put_36 : decode cX2_put 36 = .ok (.pop, 1) := dk_87 (dk_at dksX2_put_1 15 rfl rfl)
theorem dX2_put_37 : decode cX2_put 37 = .ok (.return_, 1) := dk_177 (dk_at dksX2_put_1 16 rfl rfl)
abbrev cX2_children : ByteArray := prog_12_method_9_code
def yX2_children : MethodName := ⟨RX2, "children", "(LVectorVersions$Node;I)Ljava/util/List;"⟩
def dkwX2_children_2 : List UInt8 := [167, 255, 221, 45, 176]
abbrev dktX2_children_2 : List UInt8 := dkwX2_children_2 ++ []
def dkwX2_children_1 : List UInt8 := [43, 182, 0, 71, 162, 0, 22, 45, 43, 21, 4, 182, 0, 80, 185, 0, 41, 2, 0, 87, 132, 4, 1]
abbrev dktX2_children_1 : List UInt8 := dkwX2_children_1 ++ dktX2_children_2
def dkwX2_children_0 : List UInt8 := [187, 0, 9, 89, 7, 183, 0, 11, 78, 3, 54, 4, 21, 4, 28, 162, 0, 35, 43, 198, 0, 31, 21, 4]
abbrev dktX2_children_0 : List UInt8 := dkwX2_children_0 ++ dktX2_children_1
theorem dksX2_children_0 : cX2_children.data.toList.drop 0 = dktX2_children_0 := by decide +kernel
theorem dksX2_children_1 : cX2_children.data.toList.drop 24 = dktX2_children_1 := dk_seg dksX2_children_0 24 rfl rfl
theorem dksX2_children_2 : cX2_children.data.toList.drop 47 = dktX2_children_2 := dk_seg dksX2_children_1 23 rfl rfl
theorem dX2_children_0 : decode cX2_children 0 = .ok (.new 9, 3) := dk_187 0 9 (dk_at dksX2_children_0 0 rfl rfl)
theorem dX2_children_3 : decode cX2_children 3 = .ok (.dup, 1) := dk_89 (dk_at dksX2_children_0 3 rfl rfl)
theorem dX2_children_4 : decode cX2_children 4 = .ok (.iconst 4, 1) := dk_7 (dk_at dksX2_children_0 4 rfl rfl)
theorem dX2_children_5 : decode cX2_children 5 = .ok (.invokespecial 11, 3) := dk_183 0 11 (dk_at dksX2_children_0 5 rfl rfl)
theorem dX2_children_8 : decode cX2_children 8 = .ok (.astore_n 3, 1) := dk_78 (dk_at dksX2_children_0 8 rfl rfl)
theorem dX2_children_9 : decode cX2_children 9 = .ok (.iconst 0, 1) := dk_3 (dk_at dksX2_children_0 9 rfl rfl)
theorem dX2_children_10 : decode cX2_children 10 = .ok (.istore 4, 2) := dk_54 4 (dk_at dksX2_children_0 10 rfl rfl)
theorem dX2_children_12 : decode cX2_children 12 = .ok (.iload 4, 2) := dk_21 4 (dk_at dksX2_children_0 12 rfl rfl)
theorem dX2_children_14 : decode cX2_children 14 = .ok (.iload_n 2, 1) := dk_28 (dk_at dksX2_children_0 14 rfl rfl)
theorem dX2_children_15 : decode cX2_children 15 = .ok (.if_icmp .ge 35, 3) := dk_162 0 35 (dk_at dksX2_children_0 15 rfl rfl)
theorem dX2_children_18 : decode cX2_children 18 = .ok (.aload_n 1, 1) := dk_43 (dk_at dksX2_children_0 18 rfl rfl)
theorem dX2_children_19 : decode cX2_children 19 = .ok (.ifnull 31, 3) := dk_198 0 31 (dk_at dksX2_children_0 19 rfl rfl)
theorem dX2_children_22 : decode cX2_children 22 = .ok (.iload 4, 2) := dk_21 4 (dk_at dksX2_children_0 22 rfl rfl)
theorem dX2_children_24 : decode cX2_children 24 = .ok (.aload_n 1, 1) := dk_43 (dk_at dksX2_children_1 0 rfl rfl)
theorem dX2_children_25 : decode cX2_children 25 = .ok (.invokevirtual 71, 3) := dk_182 0 71 (dk_at dksX2_children_1 1 rfl rfl)
theorem dX2_children_28 : decode cX2_children 28 = .ok (.if_icmp .ge 22, 3) := dk_162 0 22 (dk_at dksX2_children_1 4 rfl rfl)
theorem dX2_children_31 : decode cX2_children 31 = .ok (.aload_n 3, 1) := dk_45 (dk_at dksX2_children_1 7 rfl rfl)
theorem dX2_children_32 : decode cX2_children 32 = .ok (.aload_n 1, 1) := dk_43 (dk_at dksX2_children_1 8 rfl rfl)
theorem dX2_children_33 : decode cX2_children 33 = .ok (.iload 4, 2) := dk_21 4 (dk_at dksX2_children_1 9 rfl rfl)
theorem dX2_children_35 : decode cX2_children 35 = .ok (.invokevirtual 80, 3) := dk_182 0 80 (dk_at dksX2_children_1 11 rfl rfl)
theorem dX2_children_38 : decode cX2_children 38 = .ok (.invokeinterface 41 2, 5) := by decide +kernel
theorem dX2_children_43 : decode cX2_children 43 = .ok (.pop, 1) := dk_87 (dk_at dksX2_children_1 19 rfl rfl)
theorem dX2_children_44 : decode cX2_children 44 = .ok (.iinc 4 1, 3) := dk_132 4 1 (dk_at dksX2_children_1 20 rfl rfl)
theorem dX2_children_47 : decode cX2_children 47 = .ok (.goto (-35), 3) := dk_167 255 221 (dk_at dksX2_children_2 0 rfl rfl)
theorem dX2_children_50 : decode cX2_children 50 = .ok (.aload_n 3, 1) := dk_45 (dk_at dksX2_children_2 3 rfl rfl)
theorem dX2_children_51 : decode cX2_children 51 = .ok (.areturn, 1) := dk_176 (dk_at dksX2_children_2 4 rfl rfl)
abbrev cX2_withElement : ByteArray := prog_12_method_13_code
def yX2_withElement : MethodName := ⟨RX2, "withElement", "([III)[I"⟩
def dkwX2_withElement_1 : List UInt8 := [45, 176]
abbrev dktX2_withElement_1 : List UInt8 := dkwX2_withElement_1 ++ []
def dkwX2_withElement_0 : List UInt8 := [42, 190, 27, 4, 96, 184, 0, 130, 188, 10, 78, 42, 3, 45, 3, 42, 190, 184, 0, 133, 45, 27, 28, 79]
abbrev dktX2_withElement_0 : List UInt8 := dkwX2_withElement_0 ++ dktX2_withElement_1
theorem dksX2_withElement_0 : cX2_withElement.data.toList.drop 0 = dktX2_withElement_0 := by decide +kernel
theorem dksX2_withElement_1 : cX2_withElement.data.toList.drop 24 = dktX2_withElement_1 := dk_seg dksX2_withElement_0 24 rfl rfl
theorem dX2_withElement_0 : decode cX2_withElement 0 = .ok (.aload_n 0, 1) := dk_42 (dk_at dksX2_withElement_0 0 rfl rfl)
theorem dX2_withElement_1 : decode cX2_withElement 1 = .ok (.arraylength, 1) := dk_190 (dk_at dksX2_withElement_0 1 rfl rfl)
theorem dX2_withElement_2 : decode cX2_withElement 2 = .ok (.iload_n 1, 1) := dk_27 (dk_at dksX2_withElement_0 2 rfl rfl)
theorem dX2_withElement_3 : decode cX2_withElement 3 = .ok (.iconst 1, 1) := dk_4 (dk_at dksX2_withElement_0 3 rfl rfl)
theorem dX2_withElement_4 : decode cX2_withElement 4 = .ok (.iadd, 1) := dk_96 (dk_at dksX2_withElement_0 4 rfl rfl)
theorem dX2_withElement_5 : decode cX2_withElement 5 = .ok (.invokestatic 130, 3) := dk_184 0 130 (dk_at dksX2_withElement_0 5 rfl rfl)
theorem dX2_withElement_8 : decode cX2_withElement 8 = .ok (.newarray .int, 2) := dk_188_10 (dk_at dksX2_withElement_0 8 rfl rfl)
theorem dX2_withElement_10 : decode cX2_withElement 10 = .ok (.astore_n 3, 1) := dk_78 (dk_at dksX2_withElement_0 10 rfl rfl)
theorem dX2_withElement_11 : decode cX2_withElement 11 = .ok (.aload_n 0, 1) := dk_42 (dk_at dksX2_withElement_0 11 rfl rfl)
theorem dX2_withElement_12 : decode cX2_withElement 12 = .ok (.iconst 0, 1) := dk_3 (dk_at dksX2_withElement_0 12 rfl rfl)
theorem dX2_withElement_13 : decode cX2_withElement 13 = .ok (.aload_n 3, 1) := dk_45 (dk_at dksX2_withElement_0 13 rfl rfl)
theorem dX2_withElement_14 : decode cX2_withElement 14 = .ok (.iconst 0, 1) := dk_3 (dk_at dksX2_withElement_0 14 rfl rfl)
theorem dX2_withElement_15 : decode cX2_withElement 15 = .ok (.aload_n 0, 1) := dk_42 (dk_at dksX2_withElement_0 15 rfl rfl)
theorem dX2_withElement_16 : decode cX2_withElement 16 = .ok (.arraylength, 1) := dk_190 (dk_at dksX2_withElement_0 16 rfl rfl)
theorem dX2_withElement_17 : decode cX2_withElement 17 = .ok (.invokestatic 133, 3) := dk_184 0 133 (dk_at dksX2_withElement_0 17 rfl rfl)
theorem dX2_withElement_20 : decode cX2_withElement 20 = .ok (.aload_n 3, 1) := dk_45 (dk_at dksX2_withElement_0 20 rfl rfl)
theorem dX2_withElement_21 : decode cX2_withElement 21 = .ok (.iload_n 1, 1) := dk_27 (dk_at dksX2_withElement_0 21 rfl rfl)
theorem dX2_withElement_22 : decode cX2_withElement 22 = .ok (.iload_n 2, 1) := dk_28 (dk_at dksX2_withElement_0 22 rfl rfl)
theorem dX2_withElement_23 : decode cX2_withElement 23 = .ok (.iastore, 1) := dk_79 (dk_at dksX2_withElement_0 23 rfl rfl)
theorem dX2_withElement_24 : decode cX2_withElement 24 = .ok (.aload_n 3, 1) := dk_45 (dk_at dksX2_withElement_1 0 rfl rfl)
theorem dX2_withElement_25 : decode cX2_withElement 25 = .ok (.areturn, 1) := dk_176 (dk_at dksX2_withElement_1 1 rfl rfl)
abbrev cX2_append : ByteArray := prog_12_method_19_code
def yX2_append : MethodName := ⟨RX2, "append", "(II)I"⟩
def dkwX2_append_5 : List UInt8 := [183, 0, 158, 45, 180, 0, 188, 25, 4, 180, 0, 176, 28, 184, 0, 192, 182, 0, 161, 172]
abbrev dktX2_append_5 : List UInt8 := dkwX2_append_5 ++ []
def dkwX2_append_4 : List UInt8 := [182, 0, 113, 58, 7, 42, 27, 21, 5, 187, 0, 149, 89, 25, 7, 25, 4, 180, 0, 176, 4, 96, 21, 6]
abbrev dktX2_append_4 : List UInt8 := dkwX2_append_4 ++ dktX2_append_5
def dkwX2_append_3 : List UInt8 := [21, 6, 28, 182, 0, 196, 167, 0, 20, 42, 25, 4, 180, 0, 181, 21, 6, 25, 4, 180, 0, 176, 28]
abbrev dktX2_append_3 : List UInt8 := dkwX2_append_3 ++ dktX2_append_4
def dkwX2_append_2 : List UInt8 := [54, 6, 21, 6, 25, 4, 180, 0, 185, 164, 0, 23, 25, 4, 180, 0, 181, 198, 0, 15, 42, 25, 4]
abbrev dktX2_append_2 : List UInt8 := dkwX2_append_2 ++ dktX2_append_3
def dkwX2_append_1 : List UInt8 := [167, 0, 4, 3, 184, 0, 169, 42, 180, 0, 51, 54, 5, 25, 4, 180, 0, 176, 4, 96, 184, 0, 155]
abbrev dktX2_append_1 : List UInt8 := dkwX2_append_1 ++ dktX2_append_2
def dkwX2_append_0 : List UInt8 := [42, 27, 182, 0, 173, 78, 45, 180, 0, 55, 58, 4, 25, 4, 180, 0, 176, 16, 64, 162, 0, 7, 4]
abbrev dktX2_append_0 : List UInt8 := dkwX2_append_0 ++ dktX2_append_1
theorem dksX2_append_0 : cX2_append.data.toList.drop 0 = dktX2_append_0 := by decide +kernel
theorem dksX2_append_1 : cX2_append.data.toList.drop 23 = dktX2_append_1 := dk_seg dksX2_append_0 23 rfl rfl
theorem dksX2_append_2 : cX2_append.data.toList.drop 46 = dktX2_append_2 := dk_seg dksX2_append_1 23 rfl rfl
theorem dksX2_append_3 : cX2_append.data.toList.drop 69 = dktX2_append_3 := dk_seg dksX2_append_2 23 rfl rfl
theorem dksX2_append_4 : cX2_append.data.toList.drop 92 = dktX2_append_4 := dk_seg dksX2_append_3 23 rfl rfl
theorem dksX2_append_5 : cX2_append.data.toList.drop 116 = dktX2_append_5 := dk_seg dksX2_append_4 24 rfl rfl
theorem dX2_append_0 : decode cX2_append 0 = .ok (.aload_n 0, 1) := dk_42 (dk_at dksX2_append_0 0 rfl rfl)
theorem dX2_append_1 : decode cX2_append 1 = .ok (.iload_n 1, 1) := dk_27 (dk_at dksX2_append_0 1 rfl rfl)
theorem dX2_append_2 : decode cX2_append 2 = .ok (.invokevirtual 173, 3) := dk_182 0 173 (dk_at dksX2_append_0 2 rfl rfl)
theorem dX2_append_5 : decode cX2_append 5 = .ok (.astore_n 3, 1) := dk_78 (dk_at dksX2_append_0 5 rfl rfl)
theorem dX2_append_6 : decode cX2_append 6 = .ok (.aload_n 3, 1) := dk_45 (dk_at dksX2_append_0 6 rfl rfl)
theorem dX2_append_7 : decode cX2_append 7 = .ok (.getfield 55, 3) := dk_180 0 55 (dk_at dksX2_append_0 7 rfl rfl)
theorem dX2_append_10 : decode cX2_append 10 = .ok (.astore 4, 2) := dk_58 4 (dk_at dksX2_append_0 10 rfl rfl)
theorem dX2_append_12 : decode cX2_append 12 = .ok (.aload 4, 2) := dk_25 4 (dk_at dksX2_append_0 12 rfl rfl)
theorem dX2_append_14 : decode cX2_append 14 = .ok (.getfield 176, 3) := dk_180 0 176 (dk_at dksX2_append_0 14 rfl rfl)
theorem dX2_append_17 : decode cX2_append 17 = .ok (.bipush 64, 2) := dk_16 64 (dk_at dksX2_append_0 17 rfl rfl)
theorem dX2_append_19 : decode cX2_append 19 = .ok (.if_icmp .ge 7, 3) := dk_162 0 7 (dk_at dksX2_append_0 19 rfl rfl)
theorem dX2_append_22 : decode cX2_append 22 = .ok (.iconst 1, 1) := dk_4 (dk_at dksX2_append_0 22 rfl rfl)
theorem dX2_append_23 : decode cX2_append 23 = .ok (.goto 4, 3) := dk_167 0 4 (dk_at dksX2_append_1 0 rfl rfl)
theorem dX2_append_26 : decode cX2_append 26 = .ok (.iconst 0, 1) := dk_3 (dk_at dksX2_append_1 3 rfl rfl)
theorem dX2_append_27 : decode cX2_append 27 = .ok (.invokestatic 169, 3) := dk_184 0 169 (dk_at dksX2_append_1 4 rfl rfl)
theorem dX2_append_30 : decode cX2_append 30 = .ok (.aload_n 0, 1) := dk_42 (dk_at dksX2_append_1 7 rfl rfl)
theorem dX2_append_31 : decode cX2_append 31 = .ok (.getfield 51, 3) := dk_180 0 51 (dk_at dksX2_append_1 8 rfl rfl)
theorem dX2_append_34 : decode cX2_append 34 = .ok (.istore 5, 2) := dk_54 5 (dk_at dksX2_append_1 11 rfl rfl)
theorem dX2_append_36 : decode cX2_append 36 = .ok (.aload 4, 2) := dk_25 4 (dk_at dksX2_append_1 13 rfl rfl)
theorem dX2_append_38 : decode cX2_append 38 = .ok (.getfield 176, 3) := dk_180 0 176 (dk_at dksX2_append_1 15 rfl rfl)
theorem dX2_append_41 : decode cX2_append 41 = .ok (.iconst 1, 1) := dk_4 (dk_at dksX2_append_1 18 rfl rfl)
theorem dX2_append_42 : decode cX2_append 42 = .ok (.iadd, 1) := dk_96 (dk_at dksX2_append_1 19 rfl rfl)
theorem dX2_append_43 : decode cX2_append 43 = .ok (.invokestatic 155, 3) := dk_184 0 155 (dk_at dksX2_append_1 20 rfl rfl)
theorem dX2_append_46 : decode cX2_append 46 = .ok (.istore 6, 2) := dk_54 6 (dk_at dksX2_append_2 0 rfl rfl)
theorem dX2_append_48 : decode cX2_append 48 = .ok (.iload 6, 2) := dk_21 6 (dk_at dksX2_append_2 2 rfl rfl)
theorem dX2_append_50 : decode cX2_append 50 = .ok (.aload 4, 2) := dk_25 4 (dk_at dksX2_append_2 4 rfl rfl)
theorem dX2_append_52 : decode cX2_append 52 = .ok (.getfield 185, 3) := dk_180 0 185 (dk_at dksX2_append_2 6 rfl rfl)
theorem dX2_append_55 : decode cX2_append 55 = .ok (.if_icmp .le 23, 3) := dk_164 0 23 (dk_at dksX2_append_2 9 rfl rfl)
theorem dX2_append_58 : decode cX2_append 58 = .ok (.aload 4, 2) := dk_25 4 (dk_at dksX2_append_2 12 rfl rfl)
theorem dX2_append_60 : decode cX2_append 60 = .ok (.getfield 181, 3) := dk_180 0 181 (dk_at dksX2_append_2 14 rfl rfl)
theorem dX2_append_63 : decode cX2_append 63 = .ok (.ifnull 15, 3) := dk_198 0 15 (dk_at dksX2_append_2 17 rfl rfl)
theorem dX2_append_66 : decode cX2_append 66 = .ok (.aload_n 0, 1) := dk_42 (dk_at dksX2_append_2 20 rfl rfl)
theorem dX2_append_67 : decode cX2_append 67 = .ok (.aload 4, 2) := dk_25 4 (dk_at dksX2_append_2 21 rfl rfl)
theorem dX2_append_69 : decode cX2_append 69 = .ok (.iload 6, 2) := dk_21 6 (dk_at dksX2_append_3 0 rfl rfl)
theorem dX2_append_71 : decode cX2_append 71 = .ok (.iload_n 2, 1) := dk_28 (dk_at dksX2_append_3 2 rfl rfl)
theorem dX2_append_72 : decode cX2_append 72 = .ok (.invokevirtual 196, 3) := dk_182 0 196 (dk_at dksX2_append_3 3 rfl rfl)
theorem dX2_append_75 : decode cX2_append 75 = .ok (.goto 20, 3) := dk_167 0 20 (dk_at dksX2_append_3 6 rfl rfl)
theorem dX2_append_78 : decode cX2_append 78 = .ok (.aload_n 0, 1) := dk_42 (dk_at dksX2_append_3 9 rfl rfl)
theorem dX2_append_79 : decode cX2_append 79 = .ok (.aload 4, 2) := dk_25 4 (dk_at dksX2_append_3 10 rfl rfl)
theorem dX2_append_81 : decode cX2_append 81 = .ok (.getfield 181, 3) := dk_180 0 181 (dk_at dksX2_append_3 12 rfl rfl)
theorem dX2_append_84 : decode cX2_append 84 = .ok (.iload 6, 2) := dk_21 6 (dk_at dksX2_append_3 15 rfl rfl)
theorem dX2_append_86 : decode cX2_append 86 = .ok (.aload 4, 2) := dk_25 4 (dk_at dksX2_append_3 17 rfl rfl)
theorem dX2_append_88 : decode cX2_append 88 = .ok (.getfield 176, 3) := dk_180 0 176 (dk_at dksX2_append_3 19 rfl rfl)
theorem dX2_append_91 : decode cX2_append 91 = .ok (.iload_n 2, 1) := dk_28 (dk_at dksX2_append_3 22 rfl rfl)
theorem dX2_append_92 : decode cX2_append 92 = .ok (.invokevirtual 113, 3) := dk_182 0 113 (dk_at dksX2_append_4 0 rfl rfl)
theorem dX2_append_95 : decode cX2_append 95 = .ok (.astore 7, 2) := dk_58 7 (dk_at dksX2_append_4 3 rfl rfl)
theorem dX2_append_97 : decode cX2_append 97 = .ok (.aload_n 0, 1) := dk_42 (dk_at dksX2_append_4 5 rfl rfl)
theorem dX2_append_98 : decode cX2_append 98 = .ok (.iload_n 1, 1) := dk_27 (dk_at dksX2_append_4 6 rfl rfl)
theorem dX2_append_99 : decode cX2_append 99 = .ok (.iload 5, 2) := dk_21 5 (dk_at dksX2_append_4 7 rfl rfl)
theorem dX2_append_101 : decode cX2_append 101 = .ok (.new 149, 3) := dk_187 0 149 (dk_at dksX2_append_4 9 rfl rfl)
theorem dX2_append_104 : decode cX2_append 104 = .ok (.dup, 1) := dk_89 (dk_at dksX2_append_4 12 rfl rfl)
theorem dX2_append_105 : decode cX2_append 105 = .ok (.aload 7, 2) := dk_25 7 (dk_at dksX2_append_4 13 rfl rfl)
theorem dX2_append_107 : decode cX2_append 107 = .ok (.aload 4, 2) := dk_25 4 (dk_at dksX2_append_4 15 rfl rfl)
theorem dX2_append_109 : decode cX2_append 109 = .ok (.getfield 176, 3) := dk_180 0 176 (dk_at dksX2_append_4 17 rfl rfl)
theorem dX2_append_112 : decode cX2_append 112 = .ok (.iconst 1, 1) := dk_4 (dk_at dksX2_append_4 20 rfl rfl)
theorem dX2_append_113 : decode cX2_append 113 = .ok (.iadd, 1) := dk_96 (dk_at dksX2_append_4 21 rfl rfl)
theorem dX2_append_114 : decode cX2_append 114 = .ok (.iload 6, 2) := dk_21 6 (dk_at dksX2_append_4 22 rfl rfl)
theorem dX2_append_116 : decode cX2_append 116 = .ok (.invokespecial 158, 3) := dk_183 0 158 (dk_at dksX2_append_5 0 rfl rfl)
theorem dX2_append_119 : decode cX2_append 119 = .ok (.aload_n 3, 1) := dk_45 (dk_at dksX2_append_5 3 rfl rfl)
theorem dX2_append_120 : decode cX2_append 120 = .ok (.getfield 188, 3) := dk_180 0 188 (dk_at dksX2_append_5 4 rfl rfl)
theorem dX2_append_123 : decode cX2_append 123 = .ok (.aload 4, 2) := dk_25 4 (dk_at dksX2_append_5 7 rfl rfl)
theorem dX2_append_125 : decode cX2_append 125 = .ok (.getfield 176, 3) := dk_180 0 176 (dk_at dksX2_append_5 9 rfl rfl)
theorem dX2_append_128 : decode cX2_append 128 = .ok (.iload_n 2, 1) := dk_28 (dk_at dksX2_append_5 12 rfl rfl)
theorem dX2_append_129 : decode cX2_append 129 = .ok (.invokestatic 192, 3) := dk_184 0 192 (dk_at dksX2_append_5 13 rfl rfl)
theorem dX2_append_132 : decode cX2_append 132 = .ok (.invokevirtual 161, 3) := dk_182 0 161 (dk_at dksX2_append_5 16 rfl rfl)
theorem dX2_append_135 : decode cX2_append 135 = .ok (.ireturn, 1) := dk_172 (dk_at dksX2_append_5 19 rfl rfl)
abbrev cX2_grow : ByteArray := prog_12_method_20_code
def yX2_grow : MethodName := ⟨RX2, "grow", "(LVectorVersions$Tree;II)LVectorVersions$Node;"⟩
def dkwX2_grow_2 : List UInt8 := [182, 0, 117, 176]
abbrev dktX2_grow_2 : List UInt8 := dkwX2_grow_2 ++ []
def dkwX2_grow_1 : List UInt8 := [43, 180, 0, 181, 185, 0, 41, 2, 0, 87, 25, 5, 25, 4, 185, 0, 41, 2, 0, 87, 42, 25, 5]
abbrev dktX2_grow_1 : List UInt8 := dkwX2_grow_1 ++ dktX2_grow_2
def dkwX2_grow_0 : List UInt8 := [42, 1, 28, 4, 100, 3, 29, 182, 0, 113, 58, 4, 187, 0, 9, 89, 7, 183, 0, 11, 58, 5, 25, 5]
abbrev dktX2_grow_0 : List UInt8 := dkwX2_grow_0 ++ dktX2_grow_1
theorem dksX2_grow_0 : cX2_grow.data.toList.drop 0 = dktX2_grow_0 := by decide +kernel
theorem dksX2_grow_1 : cX2_grow.data.toList.drop 24 = dktX2_grow_1 := dk_seg dksX2_grow_0 24 rfl rfl
theorem dksX2_grow_2 : cX2_grow.data.toList.drop 47 = dktX2_grow_2 := dk_seg dksX2_grow_1 23 rfl rfl
theorem dX2_grow_0 : decode cX2_grow 0 = .ok (.aload_n 0, 1) := dk_42 (dk_at dksX2_grow_0 0 rfl rfl)
theorem dX2_grow_1 : decode cX2_grow 1 = .ok (.aconst_null, 1) := dk_1 (dk_at dksX2_grow_0 1 rfl rfl)
theorem dX2_grow_2 : decode cX2_grow 2 = .ok (.iload_n 2, 1) := dk_28 (dk_at dksX2_grow_0 2 rfl rfl)
theorem dX2_grow_3 : decode cX2_grow 3 = .ok (.iconst 1, 1) := dk_4 (dk_at dksX2_grow_0 3 rfl rfl)
theorem dX2_grow_4 : decode cX2_grow 4 = .ok (.isub, 1) := dk_100 (dk_at dksX2_grow_0 4 rfl rfl)
theorem dX2_grow_5 : decode cX2_grow 5 = .ok (.iconst 0, 1) := dk_3 (dk_at dksX2_grow_0 5 rfl rfl)
theorem dX2_grow_6 : decode cX2_grow 6 = .ok (.iload_n 3, 1) := dk_29 (dk_at dksX2_grow_0 6 rfl rfl)
theorem dX2_grow_7 : decode cX2_grow 7 = .ok (.invokevirtual 113, 3) := dk_182 0 113 (dk_at dksX2_grow_0 7 rfl rfl)
theorem dX2_grow_10 : decode cX2_grow 10 = .ok (.astore 4, 2) := dk_58 4 (dk_at dksX2_grow_0 10 rfl rfl)
theorem dX2_grow_12 : decode cX2_grow 12 = .ok (.new 9, 3) := dk_187 0 9 (dk_at dksX2_grow_0 12 rfl rfl)
theorem dX2_grow_15 : decode cX2_grow 15 = .ok (.dup, 1) := dk_89 (dk_at dksX2_grow_0 15 rfl rfl)
theorem dX2_grow_16 : decode cX2_grow 16 = .ok (.iconst 4, 1) := dk_7 (dk_at dksX2_grow_0 16 rfl rfl)
theorem dX2_grow_17 : decode cX2_grow 17 = .ok (.invokespecial 11, 3) := dk_183 0 11 (dk_at dksX2_grow_0 17 rfl rfl)
theorem dX2_grow_20 : decode cX2_grow 20 = .ok (.astore 5, 2) := dk_58 5 (dk_at dksX2_grow_0 20 rfl rfl)
theorem dX2_grow_22 : decode cX2_grow 22 = .ok (.aload 5, 2) := dk_25 5 (dk_at dksX2_grow_0 22 rfl rfl)
theorem dX2_grow_24 : decode cX2_grow 24 = .ok (.aload_n 1, 1) := dk_43 (dk_at dksX2_grow_1 0 rfl rfl)
theorem dX2_grow_25 : decode cX2_grow 25 = .ok (.getfield 181, 3) := dk_180 0 181 (dk_at dksX2_grow_1 1 rfl rfl)
theorem dX2_grow_28 : decode cX2_grow 28 = .ok (.invokeinterface 41 2, 5) := by decide +kernel
theorem dX2_grow_33 : decode cX2_grow 33 = .ok (.pop, 1) := dk_87 (dk_at dksX2_grow_1 9 rfl rfl)
theorem dX2_grow_34 : decode cX2_grow 34 = .ok (.aload 5, 2) := dk_25 5 (dk_at dksX2_grow_1 10 rfl rfl)
theorem dX2_grow_36 : decode cX2_grow 36 = .ok (.aload 4, 2) := dk_25 4 (dk_at dksX2_grow_1 12 rfl rfl)
theorem dX2_grow_38 : decode cX2_grow 38 = .ok (.invokeinterface 41 2, 5) := by decide +kernel
theorem dX2_grow_43 : decode cX2_grow 43 = .ok (.pop, 1) := dk_87 (dk_at dksX2_grow_1 19 rfl rfl)
theorem dX2_grow_44 : decode cX2_grow 44 = .ok (.aload_n 0, 1) := dk_42 (dk_at dksX2_grow_1 20 rfl rfl)
theorem dX2_grow_45 : decode cX2_grow 45 = .ok (.aload 5, 2) := dk_25 5 (dk_at dksX2_grow_1 21 rfl rfl)
theorem dX2_grow_47 : decode cX2_grow 47 = .ok (.invokevirtual 117, 3) := dk_182 0 117 (dk_at dksX2_grow_2 0 rfl rfl)
theorem dX2_grow_50 : decode cX2_grow 50 = .ok (.areturn, 1) := dk_176 (dk_at dksX2_grow_2 3 rfl rfl)
abbrev cX2_truncate : ByteArray := prog_12_method_21_code
def yX2_truncate : MethodName := ⟨RX2, "truncate", "(II)I"⟩
def dkwX2_truncate_6 : List UInt8 := [21, 6, 183, 0, 158, 25, 9, 182, 0, 161, 172]
abbrev dktX2_truncate_6 : List UInt8 := dkwX2_truncate_6 ++ []
def dkwX2_truncate_5 : List UInt8 := [45, 180, 0, 188, 3, 25, 9, 3, 28, 184, 0, 133, 42, 27, 21, 5, 187, 0, 149, 89, 25, 8, 28]
abbrev dktX2_truncate_5 : List UInt8 := dkwX2_truncate_5 ++ dktX2_truncate_6
def dkwX2_truncate_4 : List UInt8 := [28, 25, 4, 180, 0, 176, 21, 6, 184, 0, 106, 184, 0, 121, 182, 0, 127, 58, 8, 28, 188, 10, 58, 9]
abbrev dktX2_truncate_4 : List UInt8 := dkwX2_truncate_4 ++ dktX2_truncate_5
def dkwX2_truncate_3 : List UInt8 := [182, 0, 80, 58, 7, 132, 8, 255, 167, 255, 233, 28, 154, 0, 7, 1, 167, 0, 25, 42, 25, 7, 21, 6]
abbrev dktX2_truncate_3 : List UInt8 := dkwX2_truncate_3 ++ dktX2_truncate_4
def dkwX2_truncate_2 : List UInt8 := [58, 7, 25, 4, 180, 0, 185, 54, 8, 21, 8, 21, 6, 164, 0, 22, 21, 6, 158, 0, 17, 25, 7, 3]
abbrev dktX2_truncate_2 : List UInt8 := dkwX2_truncate_2 ++ dktX2_truncate_3
def dkwX2_truncate_1 : List UInt8 := [167, 0, 4, 3, 184, 0, 169, 42, 180, 0, 51, 54, 5, 28, 184, 0, 155, 54, 6, 25, 4, 180, 0, 181]
abbrev dktX2_truncate_1 : List UInt8 := dkwX2_truncate_1 ++ dktX2_truncate_2
def dkwX2_truncate_0 : List UInt8 := [42, 27, 182, 0, 173, 78, 45, 180, 0, 55, 58, 4, 28, 25, 4, 180, 0, 176, 163, 0, 7, 4]
abbrev dktX2_truncate_0 : List UInt8 := dkwX2_truncate_0 ++ dktX2_truncate_1
theorem dksX2_truncate_0 : cX2_truncate.data.toList.drop 0 = dktX2_truncate_0 := by decide +kernel
theorem dksX2_truncate_1 : cX2_truncate.data.toList.drop 22 = dktX2_truncate_1 := dk_seg dksX2_truncate_0 22 rfl rfl
theorem dksX2_truncate_2 : cX2_truncate.data.toList.drop 46 = dktX2_truncate_2 := dk_seg dksX2_truncate_1 24 rfl rfl
theorem dksX2_truncate_3 : cX2_truncate.data.toList.drop 70 = dktX2_truncate_3 := dk_seg dksX2_truncate_2 24 rfl rfl
theorem dksX2_truncate_4 : cX2_truncate.data.toList.drop 94 = dktX2_truncate_4 := dk_seg dksX2_truncate_3 24 rfl rfl
theorem dksX2_truncate_5 : cX2_truncate.data.toList.drop 118 = dktX2_truncate_5 := dk_seg dksX2_truncate_4 24 rfl rfl
theorem dksX2_truncate_6 : cX2_truncate.data.toList.drop 141 = dktX2_truncate_6 := dk_seg dksX2_truncate_5 23 rfl rfl
theorem dX2_truncate_0 : decode cX2_truncate 0 = .ok (.aload_n 0, 1) := dk_42 (dk_at dksX2_truncate_0 0 rfl rfl)
theorem dX2_truncate_1 : decode cX2_truncate 1 = .ok (.iload_n 1, 1) := dk_27 (dk_at dksX2_truncate_0 1 rfl rfl)
theorem dX2_truncate_2 : decode cX2_truncate 2 = .ok (.invokevirtual 173, 3) := dk_182 0 173 (dk_at dksX2_truncate_0 2 rfl rfl)
theorem dX2_truncate_5 : decode cX2_truncate 5 = .ok (.astore_n 3, 1) := dk_78 (dk_at dksX2_truncate_0 5 rfl rfl)
theorem dX2_truncate_6 : decode cX2_truncate 6 = .ok (.aload_n 3, 1) := dk_45 (dk_at dksX2_truncate_0 6 rfl rfl)
theorem dX2_truncate_7 : decode cX2_truncate 7 = .ok (.getfield 55, 3) := dk_180 0 55 (dk_at dksX2_truncate_0 7 rfl rfl)
theorem dX2_truncate_10 : decode cX2_truncate 10 = .ok (.astore 4, 2) := dk_58 4 (dk_at dksX2_truncate_0 10 rfl rfl)
theorem dX2_truncate_12 : decode cX2_truncate 12 = .ok (.iload_n 2, 1) := dk_28 (dk_at dksX2_truncate_0 12 rfl rfl)
theorem dX2_truncate_13 : decode cX2_truncate 13 = .ok (.aload 4, 2) := dk_25 4 (dk_at dksX2_truncate_0 13 rfl rfl)
theorem dX2_truncate_15 : decode cX2_truncate 15 = .ok (.getfield 176, 3) := dk_180 0 176 (dk_at dksX2_truncate_0 15 rfl rfl)
theorem dX2_truncate_18 : decode cX2_truncate 18 = .ok (.if_icmp .gt 7, 3) := dk_163 0 7 (dk_at dksX2_truncate_0 18 rfl rfl)
theorem dX2_truncate_21 : decode cX2_truncate 21 = .ok (.iconst 1, 1) := dk_4 (dk_at dksX2_truncate_0 21 rfl rfl)
theorem dX2_truncate_22 : decode cX2_truncate 22 = .ok (.goto 4, 3) := dk_167 0 4 (dk_at dksX2_truncate_1 0 rfl rfl)
theorem dX2_truncate_25 : decode cX2_truncate 25 = .ok (.iconst 0, 1) := dk_3 (dk_at dksX2_truncate_1 3 rfl rfl)
theorem dX2_truncate_26 : decode cX2_truncate 26 = .ok (.invokestatic 169, 3) := dk_184 0 169 (dk_at dksX2_truncate_1 4 rfl rfl)
theorem dX2_truncate_29 : decode cX2_truncate 29 = .ok (.aload_n 0, 1) := dk_42 (dk_at dksX2_truncate_1 7 rfl rfl)
theorem dX2_truncate_30 : decode cX2_truncate 30 = .ok (.getfield 51, 3) := dk_180 0 51 (dk_at dksX2_truncate_1 8 rfl rfl)
theorem dX2_truncate_33 : decode cX2_truncate 33 = .ok (.istore 5, 2) := dk_54 5 (dk_at dksX2_truncate_1 11 rfl rfl)
theorem dX2_truncate_35 : decode cX2_truncate 35 = .ok (.iload_n 2, 1) := dk_28 (dk_at dksX2_truncate_1 13 rfl rfl)
theorem dX2_truncate_36 : decode cX2_truncate 36 = .ok (.invokestatic 155, 3) := dk_184 0 155 (dk_at dksX2_truncate_1 14 rfl rfl)
theorem dX2_truncate_39 : decode cX2_truncate 39 = .ok (.istore 6, 2) := dk_54 6 (dk_at dksX2_truncate_1 17 rfl rfl)
theorem dX2_truncate_41 : decode cX2_truncate 41 = .ok (.aload 4, 2) := dk_25 4 (dk_at dksX2_truncate_1 19 rfl rfl)
theorem dX2_truncate_43 : decode cX2_truncate 43 = .ok (.getfield 181, 3) := dk_180 0 181 (dk_at dksX2_truncate_1 21 rfl rfl)
theorem dX2_truncate_46 : decode cX2_truncate 46 = .ok (.astore 7, 2) := dk_58 7 (dk_at dksX2_truncate_2 0 rfl rfl)
theorem dX2_truncate_48 : decode cX2_truncate 48 = .ok (.aload 4, 2) := dk_25 4 (dk_at dksX2_truncate_2 2 rfl rfl)
theorem dX2_truncate_50 : decode cX2_truncate 50 = .ok (.getfield 185, 3) := dk_180 0 185 (dk_at dksX2_truncate_2 4 rfl rfl)
theorem dX2_truncate_53 : decode cX2_truncate 53 = .ok (.istore 8, 2) := dk_54 8 (dk_at dksX2_truncate_2 7 rfl rfl)
theorem dX2_truncate_55 : decode cX2_truncate 55 = .ok (.iload 8, 2) := dk_21 8 (dk_at dksX2_truncate_2 9 rfl rfl)
theorem dX2_truncate_57 : decode cX2_truncate 57 = .ok (.iload 6, 2) := dk_21 6 (dk_at dksX2_truncate_2 11 rfl rfl)
theorem dX2_truncate_59 : decode cX2_truncate 59 = .ok (.if_icmp .le 22, 3) := dk_164 0 22 (dk_at dksX2_truncate_2 13 rfl rfl)
theorem dX2_truncate_62 : decode cX2_truncate 62 = .ok (.iload 6, 2) := dk_21 6 (dk_at dksX2_truncate_2 16 rfl rfl)
theorem dX2_truncate_64 : decode cX2_truncate 64 = .ok (.ifCond .le 17, 3) := dk_158 0 17 (dk_at dksX2_truncate_2 18 rfl rfl)
theorem dX2_truncate_67 : decode cX2_truncate 67 = .ok (.aload 7, 2) := dk_25 7 (dk_at dksX2_truncate_2 21 rfl rfl)
theorem dX2_truncate_69 : decode cX2_truncate 69 = .ok (.iconst 0, 1) := dk_3 (dk_at dksX2_truncate_2 23 rfl rfl)
theorem dX2_truncate_70 : decode cX2_truncate 70 = .ok (.invokevirtual 80, 3) := dk_182 0 80 (dk_at dksX2_truncate_3 0 rfl rfl)
theorem dX2_truncate_73 : decode cX2_truncate 73 = .ok (.astore 7, 2) := dk_58 7 (dk_at dksX2_truncate_3 3 rfl rfl)
theorem dX2_truncate_75 : decode cX2_truncate 75 = .ok (.iinc 8 (-1), 3) := dk_132 8 255 (dk_at dksX2_truncate_3 5 rfl rfl)
theorem dX2_truncate_78 : decode cX2_truncate 78 = .ok (.goto (-23), 3) := dk_167 255 233 (dk_at dksX2_truncate_3 8 rfl rfl)
theorem dX2_truncate_81 : decode cX2_truncate 81 = .ok (.iload_n 2, 1) := dk_28 (dk_at dksX2_truncate_3 11 rfl rfl)
theorem dX2_truncate_82 : decode cX2_truncate 82 = .ok (.ifCond .ne 7, 3) := dk_154 0 7 (dk_at dksX2_truncate_3 12 rfl rfl)
theorem dX2_truncate_85 : decode cX2_truncate 85 = .ok (.aconst_null, 1) := dk_1 (dk_at dksX2_truncate_3 15 rfl rfl)
theorem dX2_truncate_86 : decode cX2_truncate 86 = .ok (.goto 25, 3) := dk_167 0 25 (dk_at dksX2_truncate_3 16 rfl rfl)
theorem dX2_truncate_89 : decode cX2_truncate 89 = .ok (.aload_n 0, 1) := dk_42 (dk_at dksX2_truncate_3 19 rfl rfl)
theorem dX2_truncate_90 : decode cX2_truncate 90 = .ok (.aload 7, 2) := dk_25 7 (dk_at dksX2_truncate_3 20 rfl rfl)
theorem dX2_truncate_92 : decode cX2_truncate 92 = .ok (.iload 6, 2) := dk_21 6 (dk_at dksX2_truncate_3 22 rfl rfl)
theorem dX2_truncate_94 : decode cX2_truncate 94 = .ok (.iload_n 2, 1) := dk_28 (dk_at dksX2_truncate_4 0 rfl rfl)
theorem dX2_truncate_95 : decode cX2_truncate 95 = .ok (.aload 4, 2) := dk_25 4 (dk_at dksX2_truncate_4 1 rfl rfl)
theorem dX2_truncate_97 : decode cX2_truncate 97 = .ok (.getfield 176, 3) := dk_180 0 176 (dk_at dksX2_truncate_4 3 rfl rfl)
theorem dX2_truncate_100 : decode cX2_truncate 100 = .ok (.iload 6, 2) := dk_21 6 (dk_at dksX2_truncate_4 6 rfl rfl)
theorem dX2_truncate_102 : decode cX2_truncate 102 = .ok (.invokestatic 106, 3) := dk_184 0 106 (dk_at dksX2_truncate_4 8 rfl rfl)
theorem dX2_truncate_105 : decode cX2_truncate 105 = .ok (.invokestatic 121, 3) := dk_184 0 121 (dk_at dksX2_truncate_4 11 rfl rfl)
theorem dX2_truncate_108 : decode cX2_truncate 108 = .ok (.invokevirtual 127, 3) := dk_182 0 127 (dk_at dksX2_truncate_4 14 rfl rfl)
theorem dX2_truncate_111 : decode cX2_truncate 111 = .ok (.astore 8, 2) := dk_58 8 (dk_at dksX2_truncate_4 17 rfl rfl)
theorem dX2_truncate_113 : decode cX2_truncate 113 = .ok (.iload_n 2, 1) := dk_28 (dk_at dksX2_truncate_4 19 rfl rfl)
theorem dX2_truncate_114 : decode cX2_truncate 114 = .ok (.newarray .int, 2) := dk_188_10 (dk_at dksX2_truncate_4 20 rfl rfl)
theorem dX2_truncate_116 : decode cX2_truncate 116 = .ok (.astore 9, 2) := dk_58 9 (dk_at dksX2_truncate_4 22 rfl rfl)
theorem dX2_truncate_118 : decode cX2_truncate 118 = .ok (.aload_n 3, 1) := dk_45 (dk_at dksX2_truncate_5 0 rfl rfl)
theorem dX2_truncate_119 : decode cX2_truncate 119 = .ok (.getfield 188, 3) := dk_180 0 188 (dk_at dksX2_truncate_5 1 rfl rfl)
theorem dX2_truncate_122 : decode cX2_truncate 122 = .ok (.iconst 0, 1) := dk_3 (dk_at dksX2_truncate_5 4 rfl rfl)
theorem dX2_truncate_123 : decode cX2_truncate 123 = .ok (.aload 9, 2) := dk_25 9 (dk_at dksX2_truncate_5 5 rfl rfl)
theorem dX2_truncate_125 : decode cX2_truncate 125 = .ok (.iconst 0, 1) := dk_3 (dk_at dksX2_truncate_5 7 rfl rfl)
theorem dX2_truncate_126 : decode cX2_truncate 126 = .ok (.iload_n 2, 1) := dk_28 (dk_at dksX2_truncate_5 8 rfl rfl)
theorem dX2_truncate_127 : decode cX2_truncate 127 = .ok (.invokestatic 133, 3) := dk_184 0 133 (dk_at dksX2_truncate_5 9 rfl rfl)
theorem dX2_truncate_130 : decode cX2_truncate 130 = .ok (.aload_n 0, 1) := dk_42 (dk_at dksX2_truncate_5 12 rfl rfl)
theorem dX2_truncate_131 : decode cX2_truncate 131 = .ok (.iload_n 1, 1) := dk_27 (dk_at dksX2_truncate_5 13 rfl rfl)
theorem dX2_truncate_132 : decode cX2_truncate 132 = .ok (.iload 5, 2) := dk_21 5 (dk_at dksX2_truncate_5 14 rfl rfl)
theorem dX2_truncate_134 : decode cX2_truncate 134 = .ok (.new 149, 3) := dk_187 0 149 (dk_at dksX2_truncate_5 16 rfl rfl)
theorem dX2_truncate_137 : decode cX2_truncate 137 = .ok (.dup, 1) := dk_89 (dk_at dksX2_truncate_5 19 rfl rfl)
theorem dX2_truncate_138 : decode cX2_truncate 138 = .ok (.aload 8, 2) := dk_25 8 (dk_at dksX2_truncate_5 20 rfl rfl)
theorem dX2_truncate_140 : decode cX2_truncate 140 = .ok (.iload_n 2, 1) := dk_28 (dk_at dksX2_truncate_5 22 rfl rfl)
theorem dX2_truncate_141 : decode cX2_truncate 141 = .ok (.iload 6, 2) := dk_21 6 (dk_at dksX2_truncate_6 0 rfl rfl)
theorem dX2_truncate_143 : decode cX2_truncate 143 = .ok (.invokespecial 158, 3) := dk_183 0 158 (dk_at dksX2_truncate_6 2 rfl rfl)
theorem dX2_truncate_146 : decode cX2_truncate 146 = .ok (.aload 9, 2) := dk_25 9 (dk_at dksX2_truncate_6 5 rfl rfl)
theorem dX2_truncate_148 : decode cX2_truncate 148 = .ok (.invokevirtual 161, 3) := dk_182 0 161 (dk_at dksX2_truncate_6 7 rfl rfl)
theorem dX2_truncate_151 : decode cX2_truncate 151 = .ok (.ireturn, 1) := dk_172 (dk_at dksX2_truncate_6 10 rfl rfl)
abbrev cX2_cutPath : ByteArray := prog_12_method_12_code
def yX2_cutPath : MethodName := ⟨RX2, "cutPath", "(LVectorVersions$Node;III)LVectorVersions$Node;"⟩
def dkwX2_cutPath_4 : List UInt8 := [42, 25, 8, 182, 0, 117, 176]
abbrev dktX2_cutPath_4 : List UInt8 := dkwX2_cutPath_4 ++ []
def dkwX2_cutPath_3 : List UInt8 := [182, 0, 127, 58, 7, 42, 43, 21, 6, 182, 0, 110, 58, 8, 25, 8, 25, 7, 185, 0, 41, 2, 0, 87]
abbrev dktX2_cutPath_3 : List UInt8 := dkwX2_cutPath_3 ++ dktX2_cutPath_4
def dkwX2_cutPath_2 : List UInt8 := [4, 100, 29, 21, 6, 21, 5, 104, 100, 21, 5, 21, 4, 21, 6, 21, 5, 104, 100, 184, 0, 121]
abbrev dktX2_cutPath_2 : List UInt8 := dkwX2_cutPath_2 ++ dktX2_cutPath_3
def dkwX2_cutPath_1 : List UInt8 := [28, 4, 100, 184, 0, 106, 54, 5, 29, 4, 100, 21, 5, 108, 54, 6, 42, 43, 21, 6, 182, 0, 80, 28]
abbrev dktX2_cutPath_1 : List UInt8 := dkwX2_cutPath_1 ++ dktX2_cutPath_2
def dkwX2_cutPath_0 : List UInt8 := [29, 21, 4, 160, 0, 5, 43, 176, 28, 4, 160, 0, 14, 42, 42, 43, 29, 182, 0, 90, 182, 0, 102, 176]
abbrev dktX2_cutPath_0 : List UInt8 := dkwX2_cutPath_0 ++ dktX2_cutPath_1
theorem dksX2_cutPath_0 : cX2_cutPath.data.toList.drop 0 = dktX2_cutPath_0 := by decide +kernel
theorem dksX2_cutPath_1 : cX2_cutPath.data.toList.drop 24 = dktX2_cutPath_1 := dk_seg dksX2_cutPath_0 24 rfl rfl
theorem dksX2_cutPath_2 : cX2_cutPath.data.toList.drop 48 = dktX2_cutPath_2 := dk_seg dksX2_cutPath_1 24 rfl rfl
theorem dksX2_cutPath_3 : cX2_cutPath.data.toList.drop 70 = dktX2_cutPath_3 := dk_seg dksX2_cutPath_2 22 rfl rfl
theorem dksX2_cutPath_4 : cX2_cutPath.data.toList.drop 94 = dktX2_cutPath_4 := dk_seg dksX2_cutPath_3 24 rfl rfl
theorem dX2_cutPath_0 : decode cX2_cutPath 0 = .ok (.iload_n 3, 1) := dk_29 (dk_at dksX2_cutPath_0 0 rfl rfl)
theorem dX2_cutPath_1 : decode cX2_cutPath 1 = .ok (.iload 4, 2) := dk_21 4 (dk_at dksX2_cutPath_0 1 rfl rfl)
theorem dX2_cutPath_3 : decode cX2_cutPath 3 = .ok (.if_icmp .ne 5, 3) := dk_160 0 5 (dk_at dksX2_cutPath_0 3 rfl rfl)
theorem dX2_cutPath_6 : decode cX2_cutPath 6 = .ok (.aload_n 1, 1) := dk_43 (dk_at dksX2_cutPath_0 6 rfl rfl)
theorem dX2_cutPath_7 : decode cX2_cutPath 7 = .ok (.areturn, 1) := dk_176 (dk_at dksX2_cutPath_0 7 rfl rfl)
theorem dX2_cutPath_8 : decode cX2_cutPath 8 = .ok (.iload_n 2, 1) := dk_28 (dk_at dksX2_cutPath_0 8 rfl rfl)
theorem dX2_cutPath_9 : decode cX2_cutPath 9 = .ok (.iconst 1, 1) := dk_4 (dk_at dksX2_cutPath_0 9 rfl rfl)
theorem dX2_cutPath_10 : decode cX2_cutPath 10 = .ok (.if_icmp .ne 14, 3) := dk_160 0 14 (dk_at dksX2_cutPath_0 10 rfl rfl)
theorem dX2_cutPath_13 : decode cX2_cutPath 13 = .ok (.aload_n 0, 1) := dk_42 (dk_at dksX2_cutPath_0 13 rfl rfl)
theorem dX2_cutPath_14 : decode cX2_cutPath 14 = .ok (.aload_n 0, 1) := dk_42 (dk_at dksX2_cutPath_0 14 rfl rfl)
theorem dX2_cutPath_15 : decode cX2_cutPath 15 = .ok (.aload_n 1, 1) := dk_43 (dk_at dksX2_cutPath_0 15 rfl rfl)
theorem dX2_cutPath_16 : decode cX2_cutPath 16 = .ok (.iload_n 3, 1) := dk_29 (dk_at dksX2_cutPath_0 16 rfl rfl)
theorem dX2_cutPath_17 : decode cX2_cutPath 17 = .ok (.invokevirtual 90, 3) := dk_182 0 90 (dk_at dksX2_cutPath_0 17 rfl rfl)
theorem dX2_cutPath_20 : decode cX2_cutPath 20 = .ok (.invokevirtual 102, 3) := dk_182 0 102 (dk_at dksX2_cutPath_0 20 rfl rfl)
theorem dX2_cutPath_23 : decode cX2_cutPath 23 = .ok (.areturn, 1) := dk_176 (dk_at dksX2_cutPath_0 23 rfl rfl)
theorem dX2_cutPath_24 : decode cX2_cutPath 24 = .ok (.iload_n 2, 1) := dk_28 (dk_at dksX2_cutPath_1 0 rfl rfl)
theorem dX2_cutPath_25 : decode cX2_cutPath 25 = .ok (.iconst 1, 1) := dk_4 (dk_at dksX2_cutPath_1 1 rfl rfl)
theorem dX2_cutPath_26 : decode cX2_cutPath 26 = .ok (.isub, 1) := dk_100 (dk_at dksX2_cutPath_1 2 rfl rfl)
theorem dX2_cutPath_27 : decode cX2_cutPath 27 = .ok (.invokestatic 106, 3) := dk_184 0 106 (dk_at dksX2_cutPath_1 3 rfl rfl)
theorem dX2_cutPath_30 : decode cX2_cutPath 30 = .ok (.istore 5, 2) := dk_54 5 (dk_at dksX2_cutPath_1 6 rfl rfl)
theorem dX2_cutPath_32 : decode cX2_cutPath 32 = .ok (.iload_n 3, 1) := dk_29 (dk_at dksX2_cutPath_1 8 rfl rfl)
theorem dX2_cutPath_33 : decode cX2_cutPath 33 = .ok (.iconst 1, 1) := dk_4 (dk_at dksX2_cutPath_1 9 rfl rfl)
theorem dX2_cutPath_34 : decode cX2_cutPath 34 = .ok (.isub, 1) := dk_100 (dk_at dksX2_cutPath_1 10 rfl rfl)
theorem dX2_cutPath_35 : decode cX2_cutPath 35 = .ok (.iload 5, 2) := dk_21 5 (dk_at dksX2_cutPath_1 11 rfl rfl)
theorem dX2_cutPath_37 : decode cX2_cutPath 37 = .ok (.idiv, 1) := dk_108 (dk_at dksX2_cutPath_1 13 rfl rfl)
theorem dX2_cutPath_38 : decode cX2_cutPath 38 = .ok (.istore 6, 2) := dk_54 6 (dk_at dksX2_cutPath_1 14 rfl rfl)
theorem dX2_cutPath_40 : decode cX2_cutPath 40 = .ok (.aload_n 0, 1) := dk_42 (dk_at dksX2_cutPath_1 16 rfl rfl)
theorem dX2_cutPath_41 : decode cX2_cutPath 41 = .ok (.aload_n 1, 1) := dk_43 (dk_at dksX2_cutPath_1 17 rfl rfl)
theorem dX2_cutPath_42 : decode cX2_cutPath 42 = .ok (.iload 6, 2) := dk_21 6 (dk_at dksX2_cutPath_1 18 rfl rfl)
theorem dX2_cutPath_44 : decode cX2_cutPath 44 = .ok (.invokevirtual 80, 3) := dk_182 0 80 (dk_at dksX2_cutPath_1 20 rfl rfl)
theorem dX2_cutPath_47 : decode cX2_cutPath 47 = .ok (.iload_n 2, 1) := dk_28 (dk_at dksX2_cutPath_1 23 rfl rfl)
theorem dX2_cutPath_48 : decode cX2_cutPath 48 = .ok (.iconst 1, 1) := dk_4 (dk_at dksX2_cutPath_2 0 rfl rfl)
theorem dX2_cutPath_49 : decode cX2_cutPath 49 = .ok (.isub, 1) := dk_100 (dk_at dksX2_cutPath_2 1 rfl rfl)
theorem dX2_cutPath_50 : decode cX2_cutPath 50 = .ok (.iload_n 3, 1) := dk_29 (dk_at dksX2_cutPath_2 2 rfl rfl)
theorem dX2_cutPath_51 : decode cX2_cutPath 51 = .ok (.iload 6, 2) := dk_21 6 (dk_at dksX2_cutPath_2 3 rfl rfl)
theorem dX2_cutPath_53 : decode cX2_cutPath 53 = .ok (.iload 5, 2) := dk_21 5 (dk_at dksX2_cutPath_2 5 rfl rfl)
theorem dX2_cutPath_55 : decode cX2_cutPath 55 = .ok (.imul, 1) := dk_104 (dk_at dksX2_cutPath_2 7 rfl rfl)
theorem dX2_cutPath_56 : decode cX2_cutPath 56 = .ok (.isub, 1) := dk_100 (dk_at dksX2_cutPath_2 8 rfl rfl)
theorem dX2_cutPath_57 : decode cX2_cutPath 57 = .ok (.iload 5, 2) := dk_21 5 (dk_at dksX2_cutPath_2 9 rfl rfl)
theorem dX2_cutPath_59 : decode cX2_cutPath 59 = .ok (.iload 4, 2) := dk_21 4 (dk_at dksX2_cutPath_2 11 rfl rfl)
theorem dX2_cutPath_61 : decode cX2_cutPath 61 = .ok (.iload 6, 2) := dk_21 6 (dk_at dksX2_cutPath_2 13 rfl rfl)
theorem dX2_cutPath_63 : decode cX2_cutPath 63 = .ok (.iload 5, 2) := dk_21 5 (dk_at dksX2_cutPath_2 15 rfl rfl)
theorem dX2_cutPath_65 : decode cX2_cutPath 65 = .ok (.imul, 1) := dk_104 (dk_at dksX2_cutPath_2 17 rfl rfl)
theorem dX2_cutPath_66 : decode cX2_cutPath 66 = .ok (.isub, 1) := dk_100 (dk_at dksX2_cutPath_2 18 rfl rfl)
theorem dX2_cutPath_67 : decode cX2_cutPath 67 = .ok (.invokestatic 121, 3) := dk_184 0 121 (dk_at dksX2_cutPath_2 19 rfl rfl)
theorem dX2_cutPath_70 : decode cX2_cutPath 70 = .ok (.invokevirtual 127, 3) := dk_182 0 127 (dk_at dksX2_cutPath_3 0 rfl rfl)
theorem dX2_cutPath_73 : decode cX2_cutPath 73 = .ok (.astore 7, 2) := dk_58 7 (dk_at dksX2_cutPath_3 3 rfl rfl)
theorem dX2_cutPath_75 : decode cX2_cutPath 75 = .ok (.aload_n 0, 1) := dk_42 (dk_at dksX2_cutPath_3 5 rfl rfl)
theorem dX2_cutPath_76 : decode cX2_cutPath 76 = .ok (.aload_n 1, 1) := dk_43 (dk_at dksX2_cutPath_3 6 rfl rfl)
theorem dX2_cutPath_77 : decode cX2_cutPath 77 = .ok (.iload 6, 2) := dk_21 6 (dk_at dksX2_cutPath_3 7 rfl rfl)
theorem dX2_cutPath_79 : decode cX2_cutPath 79 = .ok (.invokevirtual 110, 3) := dk_182 0 110 (dk_at dksX2_cutPath_3 9 rfl rfl)
theorem dX2_cutPath_82 : decode cX2_cutPath 82 = .ok (.astore 8, 2) := dk_58 8 (dk_at dksX2_cutPath_3 12 rfl rfl)
theorem dX2_cutPath_84 : decode cX2_cutPath 84 = .ok (.aload 8, 2) := dk_25 8 (dk_at dksX2_cutPath_3 14 rfl rfl)
theorem dX2_cutPath_86 : decode cX2_cutPath 86 = .ok (.aload 7, 2) := dk_25 7 (dk_at dksX2_cutPath_3 16 rfl rfl)
theorem dX2_cutPath_88 : decode cX2_cutPath 88 = .ok (.invokeinterface 41 2, 5) := by decide +kernel
theorem dX2_cutPath_93 : decode cX2_cutPath 93 = .ok (.pop, 1) := dk_87 (dk_at dksX2_cutPath_3 23 rfl rfl)
theorem dX2_cutPath_94 : decode cX2_cutPath 94 = .ok (.aload_n 0, 1) := dk_42 (dk_at dksX2_cutPath_4 0 rfl rfl)
theorem dX2_cutPath_95 : decode cX2_cutPath 95 = .ok (.aload 8, 2) := dk_25 8 (dk_at dksX2_cutPath_4 1 rfl rfl)
theorem dX2_cutPath_97 : decode cX2_cutPath 97 = .ok (.invokevirtual 117, 3) := dk_182 0 117 (dk_at dksX2_cutPath_4 3 rfl rfl)
theorem dX2_cutPath_100 : decode cX2_cutPath 100 = .ok (.areturn, 1) := dk_176 (dk_at dksX2_cutPath_4 6 rfl rfl)
abbrev cX2_release : ByteArray := prog_12_method_22_code
def yX2_release : MethodName := ⟨RX2, "release", "(I)I"⟩
def dkwX2_release_1 : List UInt8 := [4, 167, 0, 4, 3, 184, 0, 169, 42, 27, 182, 0, 31, 4, 181, 0, 165, 42, 182, 0, 200, 172]
abbrev dktX2_release_1 : List UInt8 := dkwX2_release_1 ++ []
def dkwX2_release_0 : List UInt8 := [27, 42, 180, 0, 14, 185, 0, 25, 1, 0, 162, 0, 18, 42, 27, 182, 0, 31, 180, 0, 165, 154, 0, 7]
abbrev dktX2_release_0 : List UInt8 := dkwX2_release_0 ++ dktX2_release_1
theorem dksX2_release_0 : cX2_release.data.toList.drop 0 = dktX2_release_0 := by decide +kernel
theorem dksX2_release_1 : cX2_release.data.toList.drop 24 = dktX2_release_1 := dk_seg dksX2_release_0 24 rfl rfl
theorem dX2_release_0 : decode cX2_release 0 = .ok (.iload_n 1, 1) := dk_27 (dk_at dksX2_release_0 0 rfl rfl)
theorem dX2_release_1 : decode cX2_release 1 = .ok (.aload_n 0, 1) := dk_42 (dk_at dksX2_release_0 1 rfl rfl)
theorem dX2_release_2 : decode cX2_release 2 = .ok (.getfield 14, 3) := dk_180 0 14 (dk_at dksX2_release_0 2 rfl rfl)
theorem dX2_release_5 : decode cX2_release 5 = .ok (.invokeinterface 25 1, 5) := by decide +kernel
theorem dX2_release_10 : decode cX2_release 10 = .ok (.if_icmp .ge 18, 3) := dk_162 0 18 (dk_at dksX2_release_0 10 rfl rfl)
theorem dX2_release_13 : decode cX2_release 13 = .ok (.aload_n 0, 1) := dk_42 (dk_at dksX2_release_0 13 rfl rfl)
theorem dX2_release_14 : decode cX2_release 14 = .ok (.iload_n 1, 1) := dk_27 (dk_at dksX2_release_0 14 rfl rfl)
theorem dX2_release_15 : decode cX2_release 15 = .ok (.invokevirtual 31, 3) := dk_182 0 31 (dk_at dksX2_release_0 15 rfl rfl)
theorem dX2_release_18 : decode cX2_release 18 = .ok (.getfield 165, 3) := dk_180 0 165 (dk_at dksX2_release_0 18 rfl rfl)
theorem dX2_release_21 : decode cX2_release 21 = .ok (.ifCond .ne 7, 3) := dk_154 0 7 (dk_at dksX2_release_0 21 rfl rfl)
theorem dX2_release_24 : decode cX2_release 24 = .ok (.iconst 1, 1) := dk_4 (dk_at dksX2_release_1 0 rfl rfl)
theorem dX2_release_25 : decode cX2_release 25 = .ok (.goto 4, 3) := dk_167 0 4 (dk_at dksX2_release_1 1 rfl rfl)
theorem dX2_release_28 : decode cX2_release 28 = .ok (.iconst 0, 1) := dk_3 (dk_at dksX2_release_1 4 rfl rfl)
theorem dX2_release_29 : decode cX2_release 29 = .ok (.invokestatic 169, 3) := dk_184 0 169 (dk_at dksX2_release_1 5 rfl rfl)
theorem dX2_release_32 : decode cX2_release 32 = .ok (.aload_n 0, 1) := dk_42 (dk_at dksX2_release_1 8 rfl rfl)
theorem dX2_release_33 : decode cX2_release 33 = .ok (.iload_n 1, 1) := dk_27 (dk_at dksX2_release_1 9 rfl rfl)
theorem dX2_release_34 : decode cX2_release 34 = .ok (.invokevirtual 31, 3) := dk_182 0 31 (dk_at dksX2_release_1 10 rfl rfl)
theorem dX2_release_37 : decode cX2_release 37 = .ok (.iconst 1, 1) := dk_4 (dk_at dksX2_release_1 13 rfl rfl)
theorem dX2_release_38 : decode cX2_release 38 = .ok (.putfield 165, 3) := dk_181 0 165 (dk_at dksX2_release_1 14 rfl rfl)
theorem dX2_release_41 : decode cX2_release 41 = .ok (.aload_n 0, 1) := dk_42 (dk_at dksX2_release_1 17 rfl rfl)
theorem dX2_release_42 : decode cX2_release 42 = .ok (.invokevirtual 200, 3) := dk_182 0 200 (dk_at dksX2_release_1 18 rfl rfl)
theorem dX2_release_45 : decode cX2_release 45 = .ok (.ireturn, 1) := dk_172 (dk_at dksX2_release_1 21 rfl rfl)
abbrev cX2_garbage : ByteArray := prog_12_method_29_code
def yX2_garbage : MethodName := ⟨RX2, "garbage", "()I"⟩
def dkwX2_garbage_0 : List UInt8 := [42, 180, 0, 21, 185, 0, 25, 1, 0, 42, 2, 182, 0, 203, 184, 0, 235, 100, 172]
abbrev dktX2_garbage_0 : List UInt8 := dkwX2_garbage_0 ++ []
theorem dksX2_garbage_0 : cX2_garbage.data.toList.drop 0 = dktX2_garbage_0 := by decide +kernel
theorem dX2_garbage_0 : decode cX2_garbage 0 = .ok (.aload_n 0, 1) := dk_42 (dk_at dksX2_garbage_0 0 rfl rfl)
theorem dX2_garbage_1 : decode cX2_garbage 1 = .ok (.getfield 21, 3) := dk_180 0 21 (dk_at dksX2_garbage_0 1 rfl rfl)
theorem dX2_garbage_4 : decode cX2_garbage 4 = .ok (.invokeinterface 25 1, 5) := by decide +kernel
theorem dX2_garbage_9 : decode cX2_garbage 9 = .ok (.aload_n 0, 1) := dk_42 (dk_at dksX2_garbage_0 9 rfl rfl)
theorem dX2_garbage_10 : decode cX2_garbage 10 = .ok (.iconst (-1), 1) := dk_2 (dk_at dksX2_garbage_0 10 rfl rfl)
theorem dX2_garbage_11 : decode cX2_garbage 11 = .ok (.invokevirtual 203, 3) := dk_182 0 203 (dk_at dksX2_garbage_0 11 rfl rfl)
theorem dX2_garbage_14 : decode cX2_garbage 14 = .ok (.invokestatic 235, 3) := dk_184 0 235 (dk_at dksX2_garbage_0 14 rfl rfl)
theorem dX2_garbage_17 : decode cX2_garbage 17 = .ok (.isub, 1) := dk_100 (dk_at dksX2_garbage_0 17 rfl rfl)
theorem dX2_garbage_18 : decode cX2_garbage 18 = .ok (.ireturn, 1) := dk_172 (dk_at dksX2_garbage_0 18 rfl rfl)
abbrev cX2_reachable : ByteArray := prog_12_method_26_code
def yX2_reachable : MethodName := ⟨RX2, "reachable", "(I)[Z"⟩
def dkwX2_reachable_2 : List UInt8 := [182, 0, 228, 132, 3, 1, 167, 255, 211, 44, 176]
abbrev dktX2_reachable_2 : List UInt8 := dkwX2_reachable_2 ++ []
def dkwX2_reachable_1 : List UInt8 := [159, 0, 27, 42, 29, 182, 0, 31, 180, 0, 165, 154, 0, 16, 42, 42, 29, 182, 0, 232, 180, 0, 181, 44]
abbrev dktX2_reachable_1 : List UInt8 := dkwX2_reachable_1 ++ dktX2_reachable_2
def dkwX2_reachable_0 : List UInt8 := [42, 180, 0, 51, 188, 4, 77, 3, 62, 29, 42, 180, 0, 14, 185, 0, 25, 1, 0, 162, 0, 38, 29, 27]
abbrev dktX2_reachable_0 : List UInt8 := dkwX2_reachable_0 ++ dktX2_reachable_1
theorem dksX2_reachable_0 : cX2_reachable.data.toList.drop 0 = dktX2_reachable_0 := by decide +kernel
theorem dksX2_reachable_1 : cX2_reachable.data.toList.drop 24 = dktX2_reachable_1 := dk_seg dksX2_reachable_0 24 rfl rfl
theorem dksX2_reachable_2 : cX2_reachable.data.toList.drop 48 = dktX2_reachable_2 := dk_seg dksX2_reachable_1 24 rfl rfl
theorem dX2_reachable_0 : decode cX2_reachable 0 = .ok (.aload_n 0, 1) := dk_42 (dk_at dksX2_reachable_0 0 rfl rfl)
theorem dX2_reachable_1 : decode cX2_reachable 1 = .ok (.getfield 51, 3) := dk_180 0 51 (dk_at dksX2_reachable_0 1 rfl rfl)
theorem dX2_reachable_4 : decode cX2_reachable 4 = .ok (.newarray .boolean, 2) := dk_188_4 (dk_at dksX2_reachable_0 4 rfl rfl)
theorem dX2_reachable_6 : decode cX2_reachable 6 = .ok (.astore_n 2, 1) := dk_77 (dk_at dksX2_reachable_0 6 rfl rfl)
theorem dX2_reachable_7 : decode cX2_reachable 7 = .ok (.iconst 0, 1) := dk_3 (dk_at dksX2_reachable_0 7 rfl rfl)
theorem dX2_reachable_8 : decode cX2_reachable 8 = .ok (.istore_n 3, 1) := dk_62 (dk_at dksX2_reachable_0 8 rfl rfl)
theorem dX2_reachable_9 : decode cX2_reachable 9 = .ok (.iload_n 3, 1) := dk_29 (dk_at dksX2_reachable_0 9 rfl rfl)
theorem dX2_reachable_10 : decode cX2_reachable 10 = .ok (.aload_n 0, 1) := dk_42 (dk_at dksX2_reachable_0 10 rfl rfl)
theorem dX2_reachable_11 : decode cX2_reachable 11 = .ok (.getfield 14, 3) := dk_180 0 14 (dk_at dksX2_reachable_0 11 rfl rfl)
theorem dX2_reachable_14 : decode cX2_reachable 14 = .ok (.invokeinterface 25 1, 5) := by decide +kernel
theorem dX2_reachable_19 : decode cX2_reachable 19 = .ok (.if_icmp .ge 38, 3) := dk_162 0 38 (dk_at dksX2_reachable_0 19 rfl rfl)
theorem dX2_reachable_22 : decode cX2_reachable 22 = .ok (.iload_n 3, 1) := dk_29 (dk_at dksX2_reachable_0 22 rfl rfl)
theorem dX2_reachable_23 : decode cX2_reachable 23 = .ok (.iload_n 1, 1) := dk_27 (dk_at dksX2_reachable_0 23 rfl rfl)
theorem dX2_reachable_24 : decode cX2_reachable 24 = .ok (.if_icmp .eq 27, 3) := dk_159 0 27 (dk_at dksX2_reachable_1 0 rfl rfl)
theorem dX2_reachable_27 : decode cX2_reachable 27 = .ok (.aload_n 0, 1) := dk_42 (dk_at dksX2_reachable_1 3 rfl rfl)
theorem dX2_reachable_28 : decode cX2_reachable 28 = .ok (.iload_n 3, 1) := dk_29 (dk_at dksX2_reachable_1 4 rfl rfl)
theorem dX2_reachable_29 : decode cX2_reachable 29 = .ok (.invokevirtual 31, 3) := dk_182 0 31 (dk_at dksX2_reachable_1 5 rfl rfl)
theorem dX2_reachable_32 : decode cX2_reachable 32 = .ok (.getfield 165, 3) := dk_180 0 165 (dk_at dksX2_reachable_1 8 rfl rfl)
theorem dX2_reachable_35 : decode cX2_reachable 35 = .ok (.ifCond .ne 16, 3) := dk_154 0 16 (dk_at dksX2_reachable_1 11 rfl rfl)
theorem dX2_reachable_38 : decode cX2_reachable 38 = .ok (.aload_n 0, 1) := dk_42 (dk_at dksX2_reachable_1 14 rfl rfl)
theorem dX2_reachable_39 : decode cX2_reachable 39 = .ok (.aload_n 0, 1) := dk_42 (dk_at dksX2_reachable_1 15 rfl rfl)
theorem dX2_reachable_40 : decode cX2_reachable 40 = .ok (.iload_n 3, 1) := dk_29 (dk_at dksX2_reachable_1 16 rfl rfl)
theorem dX2_reachable_41 : decode cX2_reachable 41 = .ok (.invokevirtual 232, 3) := dk_182 0 232 (dk_at dksX2_reachable_1 17 rfl rfl)
theorem dX2_reachable_44 : decode cX2_reachable 44 = .ok (.getfield 181, 3) := dk_180 0 181 (dk_at dksX2_reachable_1 20 rfl rfl)
theorem dX2_reachable_47 : decode cX2_reachable 47 = .ok (.aload_n 2, 1) := dk_44 (dk_at dksX2_reachable_1 23 rfl rfl)
theorem dX2_reachable_48 : decode cX2_reachable 48 = .ok (.invokevirtual 228, 3) := dk_182 0 228 (dk_at dksX2_reachable_2 0 rfl rfl)
theorem dX2_reachable_51 : decode cX2_reachable 51 = .ok (.iinc 3 1, 3) := dk_132 3 1 (dk_at dksX2_reachable_2 3 rfl rfl)
theorem dX2_reachable_54 : decode cX2_reachable 54 = .ok (.goto (-45), 3) := dk_167 255 211 (dk_at dksX2_reachable_2 6 rfl rfl)
theorem dX2_reachable_57 : decode cX2_reachable 57 = .ok (.aload_n 2, 1) := dk_44 (dk_at dksX2_reachable_2 9 rfl rfl)
theorem dX2_reachable_58 : decode cX2_reachable 58 = .ok (.areturn, 1) := dk_176 (dk_at dksX2_reachable_2 10 rfl rfl)
abbrev cX2_reach : ByteArray := prog_12_method_24_code
def yX2_reach : MethodName := ⟨RX2, "reach", "(LVectorVersions$Node;[Z)V"⟩
def dkwX2_reach_2 : List UInt8 := [132, 3, 1, 167, 255, 228, 177]
abbrev dktX2_reach_2 : List UInt8 := dkwX2_reach_2 ++ []
def dkwX2_reach_1 : List UInt8 := [43, 182, 0, 71, 162, 0, 26, 43, 182, 0, 225, 154, 0, 19, 42, 43, 29, 182, 0, 80, 44, 182, 0, 228]
abbrev dktX2_reach_1 : List UInt8 := dkwX2_reach_1 ++ dktX2_reach_2
def dkwX2_reach_0 : List UInt8 := [43, 198, 0, 12, 44, 43, 180, 0, 220, 51, 153, 0, 4, 177, 44, 43, 180, 0, 220, 4, 84, 3, 62, 29]
abbrev dktX2_reach_0 : List UInt8 := dkwX2_reach_0 ++ dktX2_reach_1
theorem dksX2_reach_0 : cX2_reach.data.toList.drop 0 = dktX2_reach_0 := by decide +kernel
theorem dksX2_reach_1 : cX2_reach.data.toList.drop 24 = dktX2_reach_1 := dk_seg dksX2_reach_0 24 rfl rfl
theorem dksX2_reach_2 : cX2_reach.data.toList.drop 48 = dktX2_reach_2 := dk_seg dksX2_reach_1 24 rfl rfl
theorem dX2_reach_0 : decode cX2_reach 0 = .ok (.aload_n 1, 1) := dk_43 (dk_at dksX2_reach_0 0 rfl rfl)
theorem dX2_reach_1 : decode cX2_reach 1 = .ok (.ifnull 12, 3) := dk_198 0 12 (dk_at dksX2_reach_0 1 rfl rfl)
theorem dX2_reach_4 : decode cX2_reach 4 = .ok (.aload_n 2, 1) := dk_44 (dk_at dksX2_reach_0 4 rfl rfl)
theorem dX2_reach_5 : decode cX2_reach 5 = .ok (.aload_n 1, 1) := dk_43 (dk_at dksX2_reach_0 5 rfl rfl)
theorem dX2_reach_6 : decode cX2_reach 6 = .ok (.getfield 220, 3) := dk_180 0 220 (dk_at dksX2_reach_0 6 rfl rfl)
theorem dX2_reach_9 : decode cX2_reach 9 = .ok (.baload, 1) := dk_51 (dk_at dksX2_reach_0 9 rfl rfl)
theorem dX2_reach_10 : decode cX2_reach 10 = .ok (.ifCond .eq 4, 3) := dk_153 0 4 (dk_at dksX2_reach_0 10 rfl rfl)
theorem dX2_reach_13 : decode cX2_reach 13 = .ok (.return_, 1) := dk_177 (dk_at dksX2_reach_0 13 rfl rfl)
theorem dX2_reach_14 : decode cX2_reach 14 = .ok (.aload_n 2, 1) := dk_44 (dk_at dksX2_reach_0 14 rfl rfl)
theorem dX2_reach_15 : decode cX2_reach 15 = .ok (.aload_n 1, 1) := dk_43 (dk_at dksX2_reach_0 15 rfl rfl)
theorem dX2_reach_16 : decode cX2_reach 16 = .ok (.getfield 220, 3) := dk_180 0 220 (dk_at dksX2_reach_0 16 rfl rfl)
theorem dX2_reach_19 : decode cX2_reach 19 = .ok (.iconst 1, 1) := dk_4 (dk_at dksX2_reach_0 19 rfl rfl)
theorem dX2_reach_20 : decode cX2_reach 20 = .ok (.bastore, 1) := dk_84 (dk_at dksX2_reach_0 20 rfl rfl)
theorem dX2_reach_21 : decode cX2_reach 21 = .ok (.iconst 0, 1) := dk_3 (dk_at dksX2_reach_0 21 rfl rfl)
theorem dX2_reach_22 : decode cX2_reach 22 = .ok (.istore_n 3, 1) := dk_62 (dk_at dksX2_reach_0 22 rfl rfl)
theorem dX2_reach_23 : decode cX2_reach 23 = .ok (.iload_n 3, 1) := dk_29 (dk_at dksX2_reach_0 23 rfl rfl)
theorem dX2_reach_24 : decode cX2_reach 24 = .ok (.aload_n 1, 1) := dk_43 (dk_at dksX2_reach_1 0 rfl rfl)
theorem dX2_reach_25 : decode cX2_reach 25 = .ok (.invokevirtual 71, 3) := dk_182 0 71 (dk_at dksX2_reach_1 1 rfl rfl)
theorem dX2_reach_28 : decode cX2_reach 28 = .ok (.if_icmp .ge 26, 3) := dk_162 0 26 (dk_at dksX2_reach_1 4 rfl rfl)
theorem dX2_reach_31 : decode cX2_reach 31 = .ok (.aload_n 1, 1) := dk_43 (dk_at dksX2_reach_1 7 rfl rfl)
theorem dX2_reach_32 : decode cX2_reach 32 = .ok (.invokevirtual 225, 3) := dk_182 0 225 (dk_at dksX2_reach_1 8 rfl rfl)
theorem dX2_reach_35 : decode cX2_reach 35 = .ok (.ifCond .ne 19, 3) := dk_154 0 19 (dk_at dksX2_reach_1 11 rfl rfl)
theorem dX2_reach_38 : decode cX2_reach 38 = .ok (.aload_n 0, 1) := dk_42 (dk_at dksX2_reach_1 14 rfl rfl)
theorem dX2_reach_39 : decode cX2_reach 39 = .ok (.aload_n 1, 1) := dk_43 (dk_at dksX2_reach_1 15 rfl rfl)
theorem dX2_reach_40 : decode cX2_reach 40 = .ok (.iload_n 3, 1) := dk_29 (dk_at dksX2_reach_1 16 rfl rfl)
theorem dX2_reach_41 : decode cX2_reach 41 = .ok (.invokevirtual 80, 3) := dk_182 0 80 (dk_at dksX2_reach_1 17 rfl rfl)
theorem dX2_reach_44 : decode cX2_reach 44 = .ok (.aload_n 2, 1) := dk_44 (dk_at dksX2_reach_1 20 rfl rfl)
theorem dX2_reach_45 : decode cX2_reach 45 = .ok (.invokevirtual 228, 3) := dk_182 0 228 (dk_at dksX2_reach_1 21 rfl rfl)
theorem dX2_reach_48 : decode cX2_reach 48 = .ok (.iinc 3 1, 3) := dk_132 3 1 (dk_at dksX2_reach_2 0 rfl rfl)
theorem dX2_reach_51 : decode cX2_reach 51 = .ok (.goto (-28), 3) := dk_167 255 228 (dk_at dksX2_reach_2 3 rfl rfl)
theorem dX2_reach_54 : decode cX2_reach 54 = .ok (.return_, 1) := dk_177 (dk_at dksX2_reach_2 6 rfl rfl)
abbrev cX2_count : ByteArray := prog_12_method_27_code
def yX2_count : MethodName := ⟨RX2, "count", "([Z)I"⟩
def dkwX2_count_1 : List UInt8 := [153, 0, 6, 132, 1, 1, 132, 4, 1, 167, 255, 233, 27, 172]
abbrev dktX2_count_1 : List UInt8 := dkwX2_count_1 ++ []
def dkwX2_count_0 : List UInt8 := [3, 60, 42, 77, 44, 190, 62, 3, 54, 4, 21, 4, 29, 162, 0, 23, 44, 21, 4, 51, 54, 5, 21, 5]
abbrev dktX2_count_0 : List UInt8 := dkwX2_count_0 ++ dktX2_count_1
theorem dksX2_count_0 : cX2_count.data.toList.drop 0 = dktX2_count_0 := by decide +kernel
theorem dksX2_count_1 : cX2_count.data.toList.drop 24 = dktX2_count_1 := dk_seg dksX2_count_0 24 rfl rfl
theorem dX2_count_0 : decode cX2_count 0 = .ok (.iconst 0, 1) := dk_3 (dk_at dksX2_count_0 0 rfl rfl)
theorem dX2_count_1 : decode cX2_count 1 = .ok (.istore_n 1, 1) := dk_60 (dk_at dksX2_count_0 1 rfl rfl)
theorem dX2_count_2 : decode cX2_count 2 = .ok (.aload_n 0, 1) := dk_42 (dk_at dksX2_count_0 2 rfl rfl)
theorem dX2_count_3 : decode cX2_count 3 = .ok (.astore_n 2, 1) := dk_77 (dk_at dksX2_count_0 3 rfl rfl)
theorem dX2_count_4 : decode cX2_count 4 = .ok (.aload_n 2, 1) := dk_44 (dk_at dksX2_count_0 4 rfl rfl)
theorem dX2_count_5 : decode cX2_count 5 = .ok (.arraylength, 1) := dk_190 (dk_at dksX2_count_0 5 rfl rfl)
theorem dX2_count_6 : decode cX2_count 6 = .ok (.istore_n 3, 1) := dk_62 (dk_at dksX2_count_0 6 rfl rfl)
theorem dX2_count_7 : decode cX2_count 7 = .ok (.iconst 0, 1) := dk_3 (dk_at dksX2_count_0 7 rfl rfl)
theorem dX2_count_8 : decode cX2_count 8 = .ok (.istore 4, 2) := dk_54 4 (dk_at dksX2_count_0 8 rfl rfl)
theorem dX2_count_10 : decode cX2_count 10 = .ok (.iload 4, 2) := dk_21 4 (dk_at dksX2_count_0 10 rfl rfl)
theorem dX2_count_12 : decode cX2_count 12 = .ok (.iload_n 3, 1) := dk_29 (dk_at dksX2_count_0 12 rfl rfl)
theorem dX2_count_13 : decode cX2_count 13 = .ok (.if_icmp .ge 23, 3) := dk_162 0 23 (dk_at dksX2_count_0 13 rfl rfl)
theorem dX2_count_16 : decode cX2_count 16 = .ok (.aload_n 2, 1) := dk_44 (dk_at dksX2_count_0 16 rfl rfl)
theorem dX2_count_17 : decode cX2_count 17 = .ok (.iload 4, 2) := dk_21 4 (dk_at dksX2_count_0 17 rfl rfl)
theorem dX2_count_19 : decode cX2_count 19 = .ok (.baload, 1) := dk_51 (dk_at dksX2_count_0 19 rfl rfl)
theorem dX2_count_20 : decode cX2_count 20 = .ok (.istore 5, 2) := dk_54 5 (dk_at dksX2_count_0 20 rfl rfl)
theorem dX2_count_22 : decode cX2_count 22 = .ok (.iload 5, 2) := dk_21 5 (dk_at dksX2_count_0 22 rfl rfl)
theorem dX2_count_24 : decode cX2_count 24 = .ok (.ifCond .eq 6, 3) := dk_153 0 6 (dk_at dksX2_count_1 0 rfl rfl)
theorem dX2_count_27 : decode cX2_count 27 = .ok (.iinc 1 1, 3) := dk_132 1 1 (dk_at dksX2_count_1 3 rfl rfl)
theorem dX2_count_30 : decode cX2_count 30 = .ok (.iinc 4 1, 3) := dk_132 4 1 (dk_at dksX2_count_1 6 rfl rfl)
theorem dX2_count_33 : decode cX2_count 33 = .ok (.goto (-23), 3) := dk_167 255 233 (dk_at dksX2_count_1 9 rfl rfl)
theorem dX2_count_36 : decode cX2_count 36 = .ok (.iload_n 1, 1) := dk_27 (dk_at dksX2_count_1 12 rfl rfl)
theorem dX2_count_37 : decode cX2_count 37 = .ok (.ireturn, 1) := dk_172 (dk_at dksX2_count_1 13 rfl rfl)
abbrev cX2_collect : ByteArray := prog_12_method_23_code
def yX2_collect : MethodName := ⟨RX2, "collect", "()I"⟩
def dkwX2_collect_2 : List UInt8 := [185, 0, 223, 1, 0, 132, 2, 1, 167, 255, 218, 28, 172]
abbrev dktX2_collect_2 : List UInt8 := dkwX2_collect_2 ++ []
def dkwX2_collect_1 : List UInt8 := [153, 0, 35, 43, 45, 185, 0, 216, 1, 0, 192, 0, 49, 180, 0, 220, 51, 153, 0, 6, 167, 255, 230, 45]
abbrev dktX2_collect_1 : List UInt8 := dkwX2_collect_1 ++ dktX2_collect_2
def dkwX2_collect_0 : List UInt8 := [42, 2, 182, 0, 203, 76, 3, 61, 42, 180, 0, 21, 185, 0, 207, 1, 0, 78, 45, 185, 0, 211, 1, 0]
abbrev dktX2_collect_0 : List UInt8 := dkwX2_collect_0 ++ dktX2_collect_1
theorem dksX2_collect_0 : cX2_collect.data.toList.drop 0 = dktX2_collect_0 := by decide +kernel
theorem dksX2_collect_1 : cX2_collect.data.toList.drop 24 = dktX2_collect_1 := dk_seg dksX2_collect_0 24 rfl rfl
theorem dksX2_collect_2 : cX2_collect.data.toList.drop 48 = dktX2_collect_2 := dk_seg dksX2_collect_1 24 rfl rfl
theorem dX2_collect_0 : decode cX2_collect 0 = .ok (.aload_n 0, 1) := dk_42 (dk_at dksX2_collect_0 0 rfl rfl)
theorem dX2_collect_1 : decode cX2_collect 1 = .ok (.iconst (-1), 1) := dk_2 (dk_at dksX2_collect_0 1 rfl rfl)
theorem dX2_collect_2 : decode cX2_collect 2 = .ok (.invokevirtual 203, 3) := dk_182 0 203 (dk_at dksX2_collect_0 2 rfl rfl)
theorem dX2_collect_5 : decode cX2_collect 5 = .ok (.astore_n 1, 1) := dk_76 (dk_at dksX2_collect_0 5 rfl rfl)
theorem dX2_collect_6 : decode cX2_collect 6 = .ok (.iconst 0, 1) := dk_3 (dk_at dksX2_collect_0 6 rfl rfl)
theorem dX2_collect_7 : decode cX2_collect 7 = .ok (.istore_n 2, 1) := dk_61 (dk_at dksX2_collect_0 7 rfl rfl)
theorem dX2_collect_8 : decode cX2_collect 8 = .ok (.aload_n 0, 1) := dk_42 (dk_at dksX2_collect_0 8 rfl rfl)
theorem dX2_collect_9 : decode cX2_collect 9 = .ok (.getfield 21, 3) := dk_180 0 21 (dk_at dksX2_collect_0 9 rfl rfl)
theorem dX2_collect_12 : decode cX2_collect 12 = .ok (.invokeinterface 207 1, 5) := by decide +kernel
theorem dX2_collect_17 : decode cX2_collect 17 = .ok (.astore_n 3, 1) := dk_78 (dk_at dksX2_collect_0 17 rfl rfl)
theorem dX2_collect_18 : decode cX2_collect 18 = .ok (.aload_n 3, 1) := dk_45 (dk_at dksX2_collect_0 18 rfl rfl)
theorem dX2_collect_19 : decode cX2_collect 19 = .ok (.invokeinterface 211 1, 5) := by decide +kernel
theorem dX2_collect_24 : decode cX2_collect 24 = .ok (.ifCond .eq 35, 3) := dk_153 0 35 (dk_at dksX2_collect_1 0 rfl rfl)
theorem dX2_collect_27 : decode cX2_collect 27 = .ok (.aload_n 1, 1) := dk_43 (dk_at dksX2_collect_1 3 rfl rfl)
theorem dX2_collect_28 : decode cX2_collect 28 = .ok (.aload_n 3, 1) := dk_45 (dk_at dksX2_collect_1 4 rfl rfl)
theorem dX2_collect_29 : decode cX2_collect 29 = .ok (.invokeinterface 216 1, 5) := by decide +kernel
theorem dX2_collect_34 : decode cX2_collect 34 = .ok (.checkcast 49, 3) := dk_192 0 49 (dk_at dksX2_collect_1 10 rfl rfl)
theorem dX2_collect_37 : decode cX2_collect 37 = .ok (.getfield 220, 3) := dk_180 0 220 (dk_at dksX2_collect_1 13 rfl rfl)
theorem dX2_collect_40 : decode cX2_collect 40 = .ok (.baload, 1) := dk_51 (dk_at dksX2_collect_1 16 rfl rfl)
theorem dX2_collect_41 : decode cX2_collect 41 = .ok (.ifCond .eq 6, 3) := dk_153 0 6 (dk_at dksX2_collect_1 17 rfl rfl)
theorem dX2_collect_44 : decode cX2_collect 44 = .ok (.goto (-26), 3) := dk_167 255 230 (dk_at dksX2_collect_1 20 rfl rfl)
theorem dX2_collect_47 : decode cX2_collect 47 = .ok (.aload_n 3, 1) := dk_45 (dk_at dksX2_collect_1 23 rfl rfl)
theorem dX2_collect_48 : decode cX2_collect 48 = .ok (.invokeinterface 223 1, 5) := by decide +kernel
theorem dX2_collect_53 : decode cX2_collect 53 = .ok (.iinc 2 1, 3) := dk_132 2 1 (dk_at dksX2_collect_2 5 rfl rfl)
theorem dX2_collect_56 : decode cX2_collect 56 = .ok (.goto (-38), 3) := dk_167 255 218 (dk_at dksX2_collect_2 8 rfl rfl)
theorem dX2_collect_59 : decode cX2_collect 59 = .ok (.iload_n 2, 1) := dk_28 (dk_at dksX2_collect_2 11 rfl rfl)
theorem dX2_collect_60 : decode cX2_collect 60 = .ok (.ireturn, 1) := dk_172 (dk_at dksX2_collect_2 12 rfl rfl)
abbrev cX2_reachableFrom : ByteArray := prog_12_method_25_code
def yX2_reachableFrom : MethodName := ⟨RX2, "reachableFrom", "(I)[Z"⟩
def dkwX2_reachableFrom_0 : List UInt8 := [42, 180, 0, 51, 188, 4, 77, 42, 42, 27, 182, 0, 232, 180, 0, 181, 44, 182, 0, 228, 44, 176]
abbrev dktX2_reachableFrom_0 : List UInt8 := dkwX2_reachableFrom_0 ++ []
theorem dksX2_reachableFrom_0 : cX2_reachableFrom.data.toList.drop 0 = dktX2_reachableFrom_0 := by decide +kernel
theorem dX2_reachableFrom_0 : decode cX2_reachableFrom 0 = .ok (.aload_n 0, 1) := dk_42 (dk_at dksX2_reachableFrom_0 0 rfl rfl)
theorem dX2_reachableFrom_1 : decode cX2_reachableFrom 1 = .ok (.getfield 51, 3) := dk_180 0 51 (dk_at dksX2_reachableFrom_0 1 rfl rfl)
theorem dX2_reachableFrom_4 : decode cX2_reachableFrom 4 = .ok (.newarray .boolean, 2) := dk_188_4 (dk_at dksX2_reachableFrom_0 4 rfl rfl)
theorem dX2_reachableFrom_6 : decode cX2_reachableFrom 6 = .ok (.astore_n 2, 1) := dk_77 (dk_at dksX2_reachableFrom_0 6 rfl rfl)
theorem dX2_reachableFrom_7 : decode cX2_reachableFrom 7 = .ok (.aload_n 0, 1) := dk_42 (dk_at dksX2_reachableFrom_0 7 rfl rfl)
theorem dX2_reachableFrom_8 : decode cX2_reachableFrom 8 = .ok (.aload_n 0, 1) := dk_42 (dk_at dksX2_reachableFrom_0 8 rfl rfl)
theorem dX2_reachableFrom_9 : decode cX2_reachableFrom 9 = .ok (.iload_n 1, 1) := dk_27 (dk_at dksX2_reachableFrom_0 9 rfl rfl)
theorem dX2_reachableFrom_10 : decode cX2_reachableFrom 10 = .ok (.invokevirtual 232, 3) := dk_182 0 232 (dk_at dksX2_reachableFrom_0 10 rfl rfl)
theorem dX2_reachableFrom_13 : decode cX2_reachableFrom 13 = .ok (.getfield 181, 3) := dk_180 0 181 (dk_at dksX2_reachableFrom_0 13 rfl rfl)
theorem dX2_reachableFrom_16 : decode cX2_reachableFrom 16 = .ok (.aload_n 2, 1) := dk_44 (dk_at dksX2_reachableFrom_0 16 rfl rfl)
theorem dX2_reachableFrom_17 : decode cX2_reachableFrom 17 = .ok (.invokevirtual 228, 3) := dk_182 0 228 (dk_at dksX2_reachableFrom_0 17 rfl rfl)
theorem dX2_reachableFrom_20 : decode cX2_reachableFrom 20 = .ok (.aload_n 2, 1) := dk_44 (dk_at dksX2_reachableFrom_0 20 rfl rfl)
theorem dX2_reachableFrom_21 : decode cX2_reachableFrom 21 = .ok (.areturn, 1) := dk_176 (dk_at dksX2_reachableFrom_0 21 rfl rfl)
abbrev cX2_isConsistent : ByteArray := prog_12_method_39_code
def yX2_isConsistent : MethodName := ⟨RX2, "isConsistent", "()Z"⟩
def dkwX2_isConsistent_6 : List UInt8 := [172]
abbrev dktX2_isConsistent_6 : List UInt8 := dkwX2_isConsistent_6 ++ []
def dkwX2_isConsistent_5 : List UInt8 := [159, 0, 5, 3, 172, 132, 3, 1, 167, 255, 200, 27, 42, 180, 0, 51, 160, 0, 7, 4, 167, 0, 4, 3]
abbrev dktX2_isConsistent_5 : List UInt8 := dkwX2_isConsistent_5 ++ dktX2_isConsistent_6
def dkwX2_isConsistent_4 : List UInt8 := [192, 0, 49, 180, 0, 220, 51, 42, 42, 180, 0, 21, 29, 185, 0, 45, 2, 0, 192, 0, 49, 182, 0, 252]
abbrev dktX2_isConsistent_4 : List UInt8 := dkwX2_isConsistent_4 ++ dktX2_isConsistent_5
def dkwX2_isConsistent_3 : List UInt8 := [180, 0, 21, 185, 0, 25, 1, 0, 162, 0, 49, 44, 42, 180, 0, 21, 29, 185, 0, 45, 2, 0]
abbrev dktX2_isConsistent_3 : List UInt8 := dkwX2_isConsistent_3 ++ dktX2_isConsistent_4
def dkwX2_isConsistent_2 : List UInt8 := [182, 1, 4, 154, 0, 5, 3, 172, 132, 2, 1, 167, 255, 201, 42, 2, 182, 0, 203, 77, 3, 62, 29, 42]
abbrev dktX2_isConsistent_2 : List UInt8 := dkwX2_isConsistent_2 ++ dktX2_isConsistent_3
def dkwX2_isConsistent_1 : List UInt8 := [45, 180, 1, 0, 96, 60, 45, 180, 0, 165, 154, 0, 22, 45, 182, 1, 1, 153, 0, 13, 45, 180, 0, 55]
abbrev dktX2_isConsistent_1 : List UInt8 := dkwX2_isConsistent_1 ++ dktX2_isConsistent_2
def dkwX2_isConsistent_0 : List UInt8 := [3, 60, 3, 61, 28, 42, 180, 0, 14, 185, 0, 25, 1, 0, 162, 0, 48, 42, 28, 182, 0, 31, 78, 27]
abbrev dktX2_isConsistent_0 : List UInt8 := dkwX2_isConsistent_0 ++ dktX2_isConsistent_1
theorem dksX2_isConsistent_0 : cX2_isConsistent.data.toList.drop 0 = dktX2_isConsistent_0 := by decide +kernel
theorem dksX2_isConsistent_1 : cX2_isConsistent.data.toList.drop 24 = dktX2_isConsistent_1 := dk_seg dksX2_isConsistent_0 24 rfl rfl
theorem dksX2_isConsistent_2 : cX2_isConsistent.data.toList.drop 48 = dktX2_isConsistent_2 := dk_seg dksX2_isConsistent_1 24 rfl rfl
theorem dksX2_isConsistent_3 : cX2_isConsistent.data.toList.drop 72 = dktX2_isConsistent_3 := dk_seg dksX2_isConsistent_2 24 rfl rfl
theorem dksX2_isConsistent_4 : cX2_isConsistent.data.toList.drop 94 = dktX2_isConsistent_4 := dk_seg dksX2_isConsistent_3 22 rfl rfl
theorem dksX2_isConsistent_5 : cX2_isConsistent.data.toList.drop 118 = dktX2_isConsistent_5 := dk_seg dksX2_isConsistent_4 24 rfl rfl
theorem dksX2_isConsistent_6 : cX2_isConsistent.data.toList.drop 142 = dktX2_isConsistent_6 := dk_seg dksX2_isConsistent_5 24 rfl rfl
theorem dX2_isConsistent_0 : decode cX2_isConsistent 0 = .ok (.iconst 0, 1) := dk_3 (dk_at dksX2_isConsistent_0 0 rfl rfl)
theorem dX2_isConsistent_1 : decode cX2_isConsistent 1 = .ok (.istore_n 1, 1) := dk_60 (dk_at dksX2_isConsistent_0 1 rfl rfl)
theorem dX2_isConsistent_2 : decode cX2_isConsistent 2 = .ok (.iconst 0, 1) := dk_3 (dk_at dksX2_isConsistent_0 2 rfl rfl)
theorem dX2_isConsistent_3 : decode cX2_isConsistent 3 = .ok (.istore_n 2, 1) := dk_61 (dk_at dksX2_isConsistent_0 3 rfl rfl)
theorem dX2_isConsistent_4 : decode cX2_isConsistent 4 = .ok (.iload_n 2, 1) := dk_28 (dk_at dksX2_isConsistent_0 4 rfl rfl)
theorem dX2_isConsistent_5 : decode cX2_isConsistent 5 = .ok (.aload_n 0, 1) := dk_42 (dk_at dksX2_isConsistent_0 5 rfl rfl)
theorem dX2_isConsistent_6 : decode cX2_isConsistent 6 = .ok (.getfield 14, 3) := dk_180 0 14 (dk_at dksX2_isConsistent_0 6 rfl rfl)
theorem dX2_isConsistent_9 : decode cX2_isConsistent 9 = .ok (.invokeinterface 25 1, 5) := by decide +kernel
theorem dX2_isConsistent_14 : decode cX2_isConsistent 14 = .ok (.if_icmp .ge 48, 3) := dk_162 0 48 (dk_at dksX2_isConsistent_0 14 rfl rfl)
theorem dX2_isConsistent_17 : decode cX2_isConsistent 17 = .ok (.aload_n 0, 1) := dk_42 (dk_at dksX2_isConsistent_0 17 rfl rfl)
theorem dX2_isConsistent_18 : decode cX2_isConsistent 18 = .ok (.iload_n 2, 1) := dk_28 (dk_at dksX2_isConsistent_0 18 rfl rfl)
theorem dX2_isConsistent_19 : decode cX2_isConsistent 19 = .ok (.invokevirtual 31, 3) := dk_182 0 31 (dk_at dksX2_isConsistent_0 19 rfl rfl)
theorem dX2_isConsistent_22 : decode cX2_isConsistent 22 = .ok (.astore_n 3, 1) := dk_78 (dk_at dksX2_isConsistent_0 22 rfl rfl)
theorem dX2_isConsistent_23 : decode cX2_isConsistent 23 = .ok (.iload_n 1, 1) := dk_27 (dk_at dksX2_isConsistent_0 23 rfl rfl)
theorem dX2_isConsistent_24 : decode cX2_isConsistent 24 = .ok (.aload_n 3, 1) := dk_45 (dk_at dksX2_isConsistent_1 0 rfl rfl)
theorem dX2_isConsistent_25 : decode cX2_isConsistent 25 = .ok (.getfield 256, 3) := dk_180 1 0 (dk_at dksX2_isConsistent_1 1 rfl rfl)
theorem dX2_isConsistent_28 : decode cX2_isConsistent 28 = .ok (.iadd, 1) := dk_96 (dk_at dksX2_isConsistent_1 4 rfl rfl)
theorem dX2_isConsistent_29 : decode cX2_isConsistent 29 = .ok (.istore_n 1, 1) := dk_60 (dk_at dksX2_isConsistent_1 5 rfl rfl)
theorem dX2_isConsistent_30 : decode cX2_isConsistent 30 = .ok (.aload_n 3, 1) := dk_45 (dk_at dksX2_isConsistent_1 6 rfl rfl)
theorem dX2_isConsistent_31 : decode cX2_isConsistent 31 = .ok (.getfield 165, 3) := dk_180 0 165 (dk_at dksX2_isConsistent_1 7 rfl rfl)
theorem dX2_isConsistent_34 : decode cX2_isConsistent 34 = .ok (.ifCond .ne 22, 3) := dk_154 0 22 (dk_at dksX2_isConsistent_1 10 rfl rfl)
theorem dX2_isConsistent_37 : decode cX2_isConsistent 37 = .ok (.aload_n 3, 1) := dk_45 (dk_at dksX2_isConsistent_1 13 rfl rfl)
theorem dX2_isConsistent_38 : decode cX2_isConsistent 38 = .ok (.invokevirtual 257, 3) := dk_182 1 1 (dk_at dksX2_isConsistent_1 14 rfl rfl)
theorem dX2_isConsistent_41 : decode cX2_isConsistent 41 = .ok (.ifCond .eq 13, 3) := dk_153 0 13 (dk_at dksX2_isConsistent_1 17 rfl rfl)
theorem dX2_isConsistent_44 : decode cX2_isConsistent 44 = .ok (.aload_n 3, 1) := dk_45 (dk_at dksX2_isConsistent_1 20 rfl rfl)
theorem dX2_isConsistent_45 : decode cX2_isConsistent 45 = .ok (.getfield 55, 3) := dk_180 0 55 (dk_at dksX2_isConsistent_1 21 rfl rfl)
theorem dX2_isConsistent_48 : decode cX2_isConsistent 48 = .ok (.invokevirtual 260, 3) := dk_182 1 4 (dk_at dksX2_isConsistent_2 0 rfl rfl)
theorem dX2_isConsistent_51 : decode cX2_isConsistent 51 = .ok (.ifCond .ne 5, 3) := dk_154 0 5 (dk_at dksX2_isConsistent_2 3 rfl rfl)
theorem dX2_isConsistent_54 : decode cX2_isConsistent 54 = .ok (.iconst 0, 1) := dk_3 (dk_at dksX2_isConsistent_2 6 rfl rfl)
theorem dX2_isConsistent_55 : decode cX2_isConsistent 55 = .ok (.ireturn, 1) := dk_172 (dk_at dksX2_isConsistent_2 7 rfl rfl)
theorem dX2_isConsistent_56 : decode cX2_isConsistent 56 = .ok (.iinc 2 1, 3) := dk_132 2 1 (dk_at dksX2_isConsistent_2 8 rfl rfl)
theorem dX2_isConsistent_59 : decode cX2_isConsistent 59 = .ok (.goto (-55), 3) := dk_167 255 201 (dk_at dksX2_isConsistent_2 11 rfl rfl)
theorem dX2_isConsistent_62 : decode cX2_isConsistent 62 = .ok (.aload_n 0, 1) := dk_42 (dk_at dksX2_isConsistent_2 14 rfl rfl)
theorem dX2_isConsistent_63 : decode cX2_isConsistent 63 = .ok (.iconst (-1), 1) := dk_2 (dk_at dksX2_isConsistent_2 15 rfl rfl)
theorem dX2_isConsistent_64 : decode cX2_isConsistent 64 = .ok (.invokevirtual 203, 3) := dk_182 0 203 (dk_at dksX2_isConsistent_2 16 rfl rfl)
theorem dX2_isConsistent_67 : decode cX2_isConsistent 67 = .ok (.astore_n 2, 1) := dk_77 (dk_at dksX2_isConsistent_2 19 rfl rfl)
theorem dX2_isConsistent_68 : decode cX2_isConsistent 68 = .ok (.iconst 0, 1) := dk_3 (dk_at dksX2_isConsistent_2 20 rfl rfl)
theorem dX2_isConsistent_69 : decode cX2_isConsistent 69 = .ok (.istore_n 3, 1) := dk_62 (dk_at dksX2_isConsistent_2 21 rfl rfl)
theorem dX2_isConsistent_70 : decode cX2_isConsistent 70 = .ok (.iload_n 3, 1) := dk_29 (dk_at dksX2_isConsistent_2 22 rfl rfl)
theorem dX2_isConsistent_71 : decode cX2_isConsistent 71 = .ok (.aload_n 0, 1) := dk_42 (dk_at dksX2_isConsistent_2 23 rfl rfl)
theorem dX2_isConsistent_72 : decode cX2_isConsistent 72 = .ok (.getfield 21, 3) := dk_180 0 21 (dk_at dksX2_isConsistent_3 0 rfl rfl)
theorem dX2_isConsistent_75 : decode cX2_isConsistent 75 = .ok (.invokeinterface 25 1, 5) := by decide +kernel
theorem dX2_isConsistent_80 : decode cX2_isConsistent 80 = .ok (.if_icmp .ge 49, 3) := dk_162 0 49 (dk_at dksX2_isConsistent_3 8 rfl rfl)
theorem dX2_isConsistent_83 : decode cX2_isConsistent 83 = .ok (.aload_n 2, 1) := dk_44 (dk_at dksX2_isConsistent_3 11 rfl rfl)
theorem dX2_isConsistent_84 : decode cX2_isConsistent 84 = .ok (.aload_n 0, 1) := dk_42 (dk_at dksX2_isConsistent_3 12 rfl rfl)
theorem dX2_isConsistent_85 : decode cX2_isConsistent 85 = .ok (.getfield 21, 3) := dk_180 0 21 (dk_at dksX2_isConsistent_3 13 rfl rfl)
theorem dX2_isConsistent_88 : decode cX2_isConsistent 88 = .ok (.iload_n 3, 1) := dk_29 (dk_at dksX2_isConsistent_3 16 rfl rfl)
theorem dX2_isConsistent_89 : decode cX2_isConsistent 89 = .ok (.invokeinterface 45 2, 5) := by decide +kernel
theorem dX2_isConsistent_94 : decode cX2_isConsistent 94 = .ok (.checkcast 49, 3) := dk_192 0 49 (dk_at dksX2_isConsistent_4 0 rfl rfl)
theorem dX2_isConsistent_97 : decode cX2_isConsistent 97 = .ok (.getfield 220, 3) := dk_180 0 220 (dk_at dksX2_isConsistent_4 3 rfl rfl)
theorem dX2_isConsistent_100 : decode cX2_isConsistent 100 = .ok (.baload, 1) := dk_51 (dk_at dksX2_isConsistent_4 6 rfl rfl)
theorem dX2_isConsistent_101 : decode cX2_isConsistent 101 = .ok (.aload_n 0, 1) := dk_42 (dk_at dksX2_isConsistent_4 7 rfl rfl)
theorem dX2_isConsistent_102 : decode cX2_isConsistent 102 = .ok (.aload_n 0, 1) := dk_42 (dk_at dksX2_isConsistent_4 8 rfl rfl)
theorem dX2_isConsistent_103 : decode cX2_isConsistent 103 = .ok (.getfield 21, 3) := dk_180 0 21 (dk_at dksX2_isConsistent_4 9 rfl rfl)
theorem dX2_isConsistent_106 : decode cX2_isConsistent 106 = .ok (.iload_n 3, 1) := dk_29 (dk_at dksX2_isConsistent_4 12 rfl rfl)
theorem dX2_isConsistent_107 : decode cX2_isConsistent 107 = .ok (.invokeinterface 45 2, 5) := by decide +kernel
theorem dX2_isConsistent_112 : decode cX2_isConsistent 112 = .ok (.checkcast 49, 3) := dk_192 0 49 (dk_at dksX2_isConsistent_4 18 rfl rfl)
theorem dX2_isConsistent_115 : decode cX2_isConsistent 115 = .ok (.invokevirtual 252, 3) := dk_182 0 252 (dk_at dksX2_isConsistent_4 21 rfl rfl)
theorem dX2_isConsistent_118 : decode cX2_isConsistent 118 = .ok (.if_icmp .eq 5, 3) := dk_159 0 5 (dk_at dksX2_isConsistent_5 0 rfl rfl)
theorem dX2_isConsistent_121 : decode cX2_isConsistent 121 = .ok (.iconst 0, 1) := dk_3 (dk_at dksX2_isConsistent_5 3 rfl rfl)
theorem dX2_isConsistent_122 : decode cX2_isConsistent 122 = .ok (.ireturn, 1) := dk_172 (dk_at dksX2_isConsistent_5 4 rfl rfl)
theorem dX2_isConsistent_123 : decode cX2_isConsistent 123 = .ok (.iinc 3 1, 3) := dk_132 3 1 (dk_at dksX2_isConsistent_5 5 rfl rfl)
theorem dX2_isConsistent_126 : decode cX2_isConsistent 126 = .ok (.goto (-56), 3) := dk_167 255 200 (dk_at dksX2_isConsistent_5 8 rfl rfl)
theorem dX2_isConsistent_129 : decode cX2_isConsistent 129 = .ok (.iload_n 1, 1) := dk_27 (dk_at dksX2_isConsistent_5 11 rfl rfl)
theorem dX2_isConsistent_130 : decode cX2_isConsistent 130 = .ok (.aload_n 0, 1) := dk_42 (dk_at dksX2_isConsistent_5 12 rfl rfl)
theorem dX2_isConsistent_131 : decode cX2_isConsistent 131 = .ok (.getfield 51, 3) := dk_180 0 51 (dk_at dksX2_isConsistent_5 13 rfl rfl)
theorem dX2_isConsistent_134 : decode cX2_isConsistent 134 = .ok (.if_icmp .ne 7, 3) := dk_160 0 7 (dk_at dksX2_isConsistent_5 16 rfl rfl)
theorem dX2_isConsistent_137 : decode cX2_isConsistent 137 = .ok (.iconst 1, 1) := dk_4 (dk_at dksX2_isConsistent_5 19 rfl rfl)
theorem dX2_isConsistent_138 : decode cX2_isConsistent 138 = .ok (.goto 4, 3) := dk_167 0 4 (dk_at dksX2_isConsistent_5 20 rfl rfl)
theorem dX2_isConsistent_141 : decode cX2_isConsistent 141 = .ok (.iconst 0, 1) := dk_3 (dk_at dksX2_isConsistent_5 23 rfl rfl)
theorem dX2_isConsistent_142 : decode cX2_isConsistent 142 = .ok (.ireturn, 1) := dk_172 (dk_at dksX2_isConsistent_6 0 rfl rfl)
abbrev cX2_leadsToRoot : ByteArray := prog_12_method_38_code
def yX2_leadsToRoot : MethodName := ⟨RX2, "leadsToRoot", "(LVectorVersions$Node;)Z"⟩
def dkwX2_leadsToRoot_4 : List UInt8 := [45, 182, 0, 252, 153, 0, 5, 4, 172, 132, 4, 1, 167, 255, 227, 132, 2, 1, 167, 255, 191, 3, 172]
abbrev dktX2_leadsToRoot_4 : List UInt8 := dkwX2_leadsToRoot_4 ++ []
def dkwX2_leadsToRoot_3 : List UInt8 := [192, 0, 49, 78, 3, 54, 4, 21, 4, 7, 162, 0, 29, 45, 21, 4, 182, 0, 80, 43, 166, 0, 13, 42]
abbrev dktX2_leadsToRoot_3 : List UInt8 := dkwX2_leadsToRoot_3 ++ dktX2_leadsToRoot_4
def dkwX2_leadsToRoot_2 : List UInt8 := [61, 28, 42, 180, 0, 21, 185, 0, 25, 1, 0, 162, 0, 58, 42, 180, 0, 21, 28, 185, 0, 45, 2, 0]
abbrev dktX2_leadsToRoot_2 : List UInt8 := dkwX2_leadsToRoot_2 ++ dktX2_leadsToRoot_3
def dkwX2_leadsToRoot_1 : List UInt8 := [154, 0, 17, 42, 28, 182, 0, 232, 180, 0, 181, 43, 166, 0, 5, 4, 172, 132, 2, 1, 167, 255, 215, 3]
abbrev dktX2_leadsToRoot_1 : List UInt8 := dkwX2_leadsToRoot_1 ++ dktX2_leadsToRoot_2
def dkwX2_leadsToRoot_0 : List UInt8 := [3, 61, 28, 42, 180, 0, 14, 185, 0, 25, 1, 0, 162, 0, 34, 42, 28, 182, 0, 31, 180, 0, 165]
abbrev dktX2_leadsToRoot_0 : List UInt8 := dkwX2_leadsToRoot_0 ++ dktX2_leadsToRoot_1
theorem dksX2_leadsToRoot_0 : cX2_leadsToRoot.data.toList.drop 0 = dktX2_leadsToRoot_0 := by decide +kernel
theorem dksX2_leadsToRoot_1 : cX2_leadsToRoot.data.toList.drop 23 = dktX2_leadsToRoot_1 := dk_seg dksX2_leadsToRoot_0 23 rfl rfl
theorem dksX2_leadsToRoot_2 : cX2_leadsToRoot.data.toList.drop 47 = dktX2_leadsToRoot_2 := dk_seg dksX2_leadsToRoot_1 24 rfl rfl
theorem dksX2_leadsToRoot_3 : cX2_leadsToRoot.data.toList.drop 71 = dktX2_leadsToRoot_3 := dk_seg dksX2_leadsToRoot_2 24 rfl rfl
theorem dksX2_leadsToRoot_4 : cX2_leadsToRoot.data.toList.drop 95 = dktX2_leadsToRoot_4 := dk_seg dksX2_leadsToRoot_3 24 rfl rfl
theorem dX2_leadsToRoot_0 : decode cX2_leadsToRoot 0 = .ok (.iconst 0, 1) := dk_3 (dk_at dksX2_leadsToRoot_0 0 rfl rfl)
theorem dX2_leadsToRoot_1 : decode cX2_leadsToRoot 1 = .ok (.istore_n 2, 1) := dk_61 (dk_at dksX2_leadsToRoot_0 1 rfl rfl)
theorem dX2_leadsToRoot_2 : decode cX2_leadsToRoot 2 = .ok (.iload_n 2, 1) := dk_28 (dk_at dksX2_leadsToRoot_0 2 rfl rfl)
theorem dX2_leadsToRoot_3 : decode cX2_leadsToRoot 3 = .ok (.aload_n 0, 1) := dk_42 (dk_at dksX2_leadsToRoot_0 3 rfl rfl)
theorem dX2_leadsToRoot_4 : decode cX2_leadsToRoot 4 = .ok (.getfield 14, 3) := dk_180 0 14 (dk_at dksX2_leadsToRoot_0 4 rfl rfl)
theorem dX2_leadsToRoot_7 : decode cX2_leadsToRoot 7 = .ok (.invokeinterface 25 1, 5) := by decide +kernel
theorem dX2_leadsToRoot_12 : decode cX2_leadsToRoot 12 = .ok (.if_icmp .ge 34, 3) := dk_162 0 34 (dk_at dksX2_leadsToRoot_0 12 rfl rfl)
theorem dX2_leadsToRoot_15 : decode cX2_leadsToRoot 15 = .ok (.aload_n 0, 1) := dk_42 (dk_at dksX2_leadsToRoot_0 15 rfl rfl)
theorem dX2_leadsToRoot_16 : decode cX2_leadsToRoot 16 = .ok (.iload_n 2, 1) := dk_28 (dk_at dksX2_leadsToRoot_0 16 rfl rfl)
theorem dX2_leadsToRoot_17 : decode cX2_leadsToRoot 17 = .ok (.invokevirtual 31, 3) := dk_182 0 31 (dk_at dksX2_leadsToRoot_0 17 rfl rfl)
theorem dX2_leadsToRoot_20 : decode cX2_leadsToRoot 20 = .ok (.getfield 165, 3) := dk_180 0 165 (dk_at dksX2_leadsToRoot_0 20 rfl rfl)
theorem dX2_leadsToRoot_23 : decode cX2_leadsToRoot 23 = .ok (.ifCond .ne 17, 3) := dk_154 0 17 (dk_at dksX2_leadsToRoot_1 0 rfl rfl)
theorem dX2_leadsToRoot_26 : decode cX2_leadsToRoot 26 = .ok (.aload_n 0, 1) := dk_42 (dk_at dksX2_leadsToRoot_1 3 rfl rfl)
theorem dX2_leadsToRoot_27 : decode cX2_leadsToRoot 27 = .ok (.iload_n 2, 1) := dk_28 (dk_at dksX2_leadsToRoot_1 4 rfl rfl)
theorem dX2_leadsToRoot_28 : decode cX2_leadsToRoot 28 = .ok (.invokevirtual 232, 3) := dk_182 0 232 (dk_at dksX2_leadsToRoot_1 5 rfl rfl)
theorem dX2_leadsToRoot_31 : decode cX2_leadsToRoot 31 = .ok (.getfield 181, 3) := dk_180 0 181 (dk_at dksX2_leadsToRoot_1 8 rfl rfl)
theorem dX2_leadsToRoot_34 : decode cX2_leadsToRoot 34 = .ok (.aload_n 1, 1) := dk_43 (dk_at dksX2_leadsToRoot_1 11 rfl rfl)
theorem dX2_leadsToRoot_35 : decode cX2_leadsToRoot 35 = .ok (.if_acmp .ne 5, 3) := dk_166 0 5 (dk_at dksX2_leadsToRoot_1 12 rfl rfl)
theorem dX2_leadsToRoot_38 : decode cX2_leadsToRoot 38 = .ok (.iconst 1, 1) := dk_4 (dk_at dksX2_leadsToRoot_1 15 rfl rfl)
theorem dX2_leadsToRoot_39 : decode cX2_leadsToRoot 39 = .ok (.ireturn, 1) := dk_172 (dk_at dksX2_leadsToRoot_1 16 rfl rfl)
theorem dX2_leadsToRoot_40 : decode cX2_leadsToRoot 40 = .ok (.iinc 2 1, 3) := dk_132 2 1 (dk_at dksX2_leadsToRoot_1 17 rfl rfl)
theorem dX2_leadsToRoot_43 : decode cX2_leadsToRoot 43 = .ok (.goto (-41), 3) := dk_167 255 215 (dk_at dksX2_leadsToRoot_1 20 rfl rfl)
theorem dX2_leadsToRoot_46 : decode cX2_leadsToRoot 46 = .ok (.iconst 0, 1) := dk_3 (dk_at dksX2_leadsToRoot_1 23 rfl rfl)
theorem dX2_leadsToRoot_47 : decode cX2_leadsToRoot 47 = .ok (.istore_n 2, 1) := dk_61 (dk_at dksX2_leadsToRoot_2 0 rfl rfl)
theorem dX2_leadsToRoot_48 : decode cX2_leadsToRoot 48 = .ok (.iload_n 2, 1) := dk_28 (dk_at dksX2_leadsToRoot_2 1 rfl rfl)
theorem dX2_leadsToRoot_49 : decode cX2_leadsToRoot 49 = .ok (.aload_n 0, 1) := dk_42 (dk_at dksX2_leadsToRoot_2 2 rfl rfl)
theorem dX2_leadsToRoot_50 : decode cX2_leadsToRoot 50 = .ok (.getfield 21, 3) := dk_180 0 21 (dk_at dksX2_leadsToRoot_2 3 rfl rfl)
theorem dX2_leadsToRoot_53 : decode cX2_leadsToRoot 53 = .ok (.invokeinterface 25 1, 5) := by decide +kernel
theorem dX2_leadsToRoot_58 : decode cX2_leadsToRoot 58 = .ok (.if_icmp .ge 58, 3) := dk_162 0 58 (dk_at dksX2_leadsToRoot_2 11 rfl rfl)
theorem dX2_leadsToRoot_61 : decode cX2_leadsToRoot 61 = .ok (.aload_n 0, 1) := dk_42 (dk_at dksX2_leadsToRoot_2 14 rfl rfl)
theorem dX2_leadsToRoot_62 : decode cX2_leadsToRoot 62 = .ok (.getfield 21, 3) := dk_180 0 21 (dk_at dksX2_leadsToRoot_2 15 rfl rfl)
theorem dX2_leadsToRoot_65 : decode cX2_leadsToRoot 65 = .ok (.iload_n 2, 1) := dk_28 (dk_at dksX2_leadsToRoot_2 18 rfl rfl)
theorem dX2_leadsToRoot_66 : decode cX2_leadsToRoot 66 = .ok (.invokeinterface 45 2, 5) := by decide +kernel
theorem dX2_leadsToRoot_71 : decode cX2_leadsToRoot 71 = .ok (.checkcast 49, 3) := dk_192 0 49 (dk_at dksX2_leadsToRoot_3 0 rfl rfl)
theorem dX2_leadsToRoot_74 : decode cX2_leadsToRoot 74 = .ok (.astore_n 3, 1) := dk_78 (dk_at dksX2_leadsToRoot_3 3 rfl rfl)
theorem dX2_leadsToRoot_75 : decode cX2_leadsToRoot 75 = .ok (.iconst 0, 1) := dk_3 (dk_at dksX2_leadsToRoot_3 4 rfl rfl)
theorem dX2_leadsToRoot_76 : decode cX2_leadsToRoot 76 = .ok (.istore 4, 2) := dk_54 4 (dk_at dksX2_leadsToRoot_3 5 rfl rfl)
theorem dX2_leadsToRoot_78 : decode cX2_leadsToRoot 78 = .ok (.iload 4, 2) := dk_21 4 (dk_at dksX2_leadsToRoot_3 7 rfl rfl)
theorem dX2_leadsToRoot_80 : decode cX2_leadsToRoot 80 = .ok (.iconst 4, 1) := dk_7 (dk_at dksX2_leadsToRoot_3 9 rfl rfl)
theorem dX2_leadsToRoot_81 : decode cX2_leadsToRoot 81 = .ok (.if_icmp .ge 29, 3) := dk_162 0 29 (dk_at dksX2_leadsToRoot_3 10 rfl rfl)
theorem dX2_leadsToRoot_84 : decode cX2_leadsToRoot 84 = .ok (.aload_n 3, 1) := dk_45 (dk_at dksX2_leadsToRoot_3 13 rfl rfl)
theorem dX2_leadsToRoot_85 : decode cX2_leadsToRoot 85 = .ok (.iload 4, 2) := dk_21 4 (dk_at dksX2_leadsToRoot_3 14 rfl rfl)
theorem dX2_leadsToRoot_87 : decode cX2_leadsToRoot 87 = .ok (.invokevirtual 80, 3) := dk_182 0 80 (dk_at dksX2_leadsToRoot_3 16 rfl rfl)
theorem dX2_leadsToRoot_90 : decode cX2_leadsToRoot 90 = .ok (.aload_n 1, 1) := dk_43 (dk_at dksX2_leadsToRoot_3 19 rfl rfl)
theorem dX2_leadsToRoot_91 : decode cX2_leadsToRoot 91 = .ok (.if_acmp .ne 13, 3) := dk_166 0 13 (dk_at dksX2_leadsToRoot_3 20 rfl rfl)
theorem dX2_leadsToRoot_94 : decode cX2_leadsToRoot 94 = .ok (.aload_n 0, 1) := dk_42 (dk_at dksX2_leadsToRoot_3 23 rfl rfl)
theorem dX2_leadsToRoot_95 : decode cX2_leadsToRoot 95 = .ok (.aload_n 3, 1) := dk_45 (dk_at dksX2_leadsToRoot_4 0 rfl rfl)
theorem dX2_leadsToRoot_96 : decode cX2_leadsToRoot 96 = .ok (.invokevirtual 252, 3) := dk_182 0 252 (dk_at dksX2_leadsToRoot_4 1 rfl rfl)
theorem dX2_leadsToRoot_99 : decode cX2_leadsToRoot 99 = .ok (.ifCond .eq 5, 3) := dk_153 0 5 (dk_at dksX2_leadsToRoot_4 4 rfl rfl)
theorem dX2_leadsToRoot_102 : decode cX2_leadsToRoot 102 = .ok (.iconst 1, 1) := dk_4 (dk_at dksX2_leadsToRoot_4 7 rfl rfl)
theorem dX2_leadsToRoot_103 : decode cX2_leadsToRoot 103 = .ok (.ireturn, 1) := dk_172 (dk_at dksX2_leadsToRoot_4 8 rfl rfl)
theorem dX2_leadsToRoot_104 : decode cX2_leadsToRoot 104 = .ok (.iinc 4 1, 3) := dk_132 4 1 (dk_at dksX2_leadsToRoot_4 9 rfl rfl)
theorem dX2_leadsToRoot_107 : decode cX2_leadsToRoot 107 = .ok (.goto (-29), 3) := dk_167 255 227 (dk_at dksX2_leadsToRoot_4 12 rfl rfl)
theorem dX2_leadsToRoot_110 : decode cX2_leadsToRoot 110 = .ok (.iinc 2 1, 3) := dk_132 2 1 (dk_at dksX2_leadsToRoot_4 15 rfl rfl)
theorem dX2_leadsToRoot_113 : decode cX2_leadsToRoot 113 = .ok (.goto (-65), 3) := dk_167 255 191 (dk_at dksX2_leadsToRoot_4 18 rfl rfl)
theorem dX2_leadsToRoot_116 : decode cX2_leadsToRoot 116 = .ok (.iconst 0, 1) := dk_3 (dk_at dksX2_leadsToRoot_4 21 rfl rfl)
theorem dX2_leadsToRoot_117 : decode cX2_leadsToRoot 117 = .ok (.ireturn, 1) := dk_172 (dk_at dksX2_leadsToRoot_4 22 rfl rfl)
abbrev cX2_depth : ByteArray := prog_12_method_36_code
def yX2_depth : MethodName := ⟨RX2, "depth", "(I)I"⟩
def dkwX2_depth_1 : List UInt8 := [180, 0, 249, 62, 167, 255, 239, 28, 172]
abbrev dktX2_depth_1 : List UInt8 := dkwX2_depth_1 ++ []
def dkwX2_depth_0 : List UInt8 := [3, 61, 42, 27, 182, 0, 31, 180, 0, 249, 62, 29, 2, 159, 0, 18, 132, 2, 1, 42, 29, 182, 0, 31]
abbrev dktX2_depth_0 : List UInt8 := dkwX2_depth_0 ++ dktX2_depth_1
theorem dksX2_depth_0 : cX2_depth.data.toList.drop 0 = dktX2_depth_0 := by decide +kernel
theorem dksX2_depth_1 : cX2_depth.data.toList.drop 24 = dktX2_depth_1 := dk_seg dksX2_depth_0 24 rfl rfl
theorem dX2_depth_0 : decode cX2_depth 0 = .ok (.iconst 0, 1) := dk_3 (dk_at dksX2_depth_0 0 rfl rfl)
theorem dX2_depth_1 : decode cX2_depth 1 = .ok (.istore_n 2, 1) := dk_61 (dk_at dksX2_depth_0 1 rfl rfl)
theorem dX2_depth_2 : decode cX2_depth 2 = .ok (.aload_n 0, 1) := dk_42 (dk_at dksX2_depth_0 2 rfl rfl)
theorem dX2_depth_3 : decode cX2_depth 3 = .ok (.iload_n 1, 1) := dk_27 (dk_at dksX2_depth_0 3 rfl rfl)
theorem dX2_depth_4 : decode cX2_depth 4 = .ok (.invokevirtual 31, 3) := dk_182 0 31 (dk_at dksX2_depth_0 4 rfl rfl)
theorem dX2_depth_7 : decode cX2_depth 7 = .ok (.getfield 249, 3) := dk_180 0 249 (dk_at dksX2_depth_0 7 rfl rfl)
theorem dX2_depth_10 : decode cX2_depth 10 = .ok (.istore_n 3, 1) := dk_62 (dk_at dksX2_depth_0 10 rfl rfl)
theorem dX2_depth_11 : decode cX2_depth 11 = .ok (.iload_n 3, 1) := dk_29 (dk_at dksX2_depth_0 11 rfl rfl)
theorem dX2_depth_12 : decode cX2_depth 12 = .ok (.iconst (-1), 1) := dk_2 (dk_at dksX2_depth_0 12 rfl rfl)
theorem dX2_depth_13 : decode cX2_depth 13 = .ok (.if_icmp .eq 18, 3) := dk_159 0 18 (dk_at dksX2_depth_0 13 rfl rfl)
theorem dX2_depth_16 : decode cX2_depth 16 = .ok (.iinc 2 1, 3) := dk_132 2 1 (dk_at dksX2_depth_0 16 rfl rfl)
theorem dX2_depth_19 : decode cX2_depth 19 = .ok (.aload_n 0, 1) := dk_42 (dk_at dksX2_depth_0 19 rfl rfl)
theorem dX2_depth_20 : decode cX2_depth 20 = .ok (.iload_n 3, 1) := dk_29 (dk_at dksX2_depth_0 20 rfl rfl)
theorem dX2_depth_21 : decode cX2_depth 21 = .ok (.invokevirtual 31, 3) := dk_182 0 31 (dk_at dksX2_depth_0 21 rfl rfl)
theorem dX2_depth_24 : decode cX2_depth 24 = .ok (.getfield 249, 3) := dk_180 0 249 (dk_at dksX2_depth_1 0 rfl rfl)
theorem dX2_depth_27 : decode cX2_depth 27 = .ok (.istore_n 3, 1) := dk_62 (dk_at dksX2_depth_1 3 rfl rfl)
theorem dX2_depth_28 : decode cX2_depth 28 = .ok (.goto (-17), 3) := dk_167 255 239 (dk_at dksX2_depth_1 4 rfl rfl)
theorem dX2_depth_31 : decode cX2_depth 31 = .ok (.iload_n 2, 1) := dk_28 (dk_at dksX2_depth_1 7 rfl rfl)
theorem dX2_depth_32 : decode cX2_depth 32 = .ok (.ireturn, 1) := dk_172 (dk_at dksX2_depth_1 8 rfl rfl)
abbrev cX2_commonAncestor : ByteArray := prog_12_method_37_code
def yX2_commonAncestor : MethodName := ⟨RX2, "commonAncestor", "(II)I"⟩
def dkwX2_commonAncestor_1 : List UInt8 := [180, 0, 249, 62, 167, 255, 235, 42, 21, 4, 182, 0, 31, 180, 0, 249, 54, 4, 167, 255, 221, 29, 172]
abbrev dktX2_commonAncestor_1 : List UInt8 := dkwX2_commonAncestor_1 ++ []
def dkwX2_commonAncestor_0 : List UInt8 := [27, 62, 28, 54, 4, 29, 21, 4, 159, 0, 35, 29, 21, 4, 164, 0, 15, 42, 29, 182, 0, 31]
abbrev dktX2_commonAncestor_0 : List UInt8 := dkwX2_commonAncestor_0 ++ dktX2_commonAncestor_1
theorem dksX2_commonAncestor_0 : cX2_commonAncestor.data.toList.drop 0 = dktX2_commonAncestor_0 := by decide +kernel
theorem dksX2_commonAncestor_1 : cX2_commonAncestor.data.toList.drop 22 = dktX2_commonAncestor_1 := dk_seg dksX2_commonAncestor_0 22 rfl rfl
theorem dX2_commonAncestor_0 : decode cX2_commonAncestor 0 = .ok (.iload_n 1, 1) := dk_27 (dk_at dksX2_commonAncestor_0 0 rfl rfl)
theorem dX2_commonAncestor_1 : decode cX2_commonAncestor 1 = .ok (.istore_n 3, 1) := dk_62 (dk_at dksX2_commonAncestor_0 1 rfl rfl)
theorem dX2_commonAncestor_2 : decode cX2_commonAncestor 2 = .ok (.iload_n 2, 1) := dk_28 (dk_at dksX2_commonAncestor_0 2 rfl rfl)
theorem dX2_commonAncestor_3 : decode cX2_commonAncestor 3 = .ok (.istore 4, 2) := dk_54 4 (dk_at dksX2_commonAncestor_0 3 rfl rfl)
theorem dX2_commonAncestor_5 : decode cX2_commonAncestor 5 = .ok (.iload_n 3, 1) := dk_29 (dk_at dksX2_commonAncestor_0 5 rfl rfl)
theorem dX2_commonAncestor_6 : decode cX2_commonAncestor 6 = .ok (.iload 4, 2) := dk_21 4 (dk_at dksX2_commonAncestor_0 6 rfl rfl)
theorem dX2_commonAncestor_8 : decode cX2_commonAncestor 8 = .ok (.if_icmp .eq 35, 3) := dk_159 0 35 (dk_at dksX2_commonAncestor_0 8 rfl rfl)
theorem dX2_commonAncestor_11 : decode cX2_commonAncestor 11 = .ok (.iload_n 3, 1) := dk_29 (dk_at dksX2_commonAncestor_0 11 rfl rfl)
theorem dX2_commonAncestor_12 : decode cX2_commonAncestor 12 = .ok (.iload 4, 2) := dk_21 4 (dk_at dksX2_commonAncestor_0 12 rfl rfl)
theorem dX2_commonAncestor_14 : decode cX2_commonAncestor 14 = .ok (.if_icmp .le 15, 3) := dk_164 0 15 (dk_at dksX2_commonAncestor_0 14 rfl rfl)
theorem dX2_commonAncestor_17 : decode cX2_commonAncestor 17 = .ok (.aload_n 0, 1) := dk_42 (dk_at dksX2_commonAncestor_0 17 rfl rfl)
theorem dX2_commonAncestor_18 : decode cX2_commonAncestor 18 = .ok (.iload_n 3, 1) := dk_29 (dk_at dksX2_commonAncestor_0 18 rfl rfl)
theorem dX2_commonAncestor_19 : decode cX2_commonAncestor 19 = .ok (.invokevirtual 31, 3) := dk_182 0 31 (dk_at dksX2_commonAncestor_0 19 rfl rfl)
theorem dX2_commonAncestor_22 : decode cX2_commonAncestor 22 = .ok (.getfield 249, 3) := dk_180 0 249 (dk_at dksX2_commonAncestor_1 0 rfl rfl)
theorem dX2_commonAncestor_25 : decode cX2_commonAncestor 25 = .ok (.istore_n 3, 1) := dk_62 (dk_at dksX2_commonAncestor_1 3 rfl rfl)
theorem dX2_commonAncestor_26 : decode cX2_commonAncestor 26 = .ok (.goto (-21), 3) := dk_167 255 235 (dk_at dksX2_commonAncestor_1 4 rfl rfl)
theorem dX2_commonAncestor_29 : decode cX2_commonAncestor 29 = .ok (.aload_n 0, 1) := dk_42 (dk_at dksX2_commonAncestor_1 7 rfl rfl)
theorem dX2_commonAncestor_30 : decode cX2_commonAncestor 30 = .ok (.iload 4, 2) := dk_21 4 (dk_at dksX2_commonAncestor_1 8 rfl rfl)
theorem dX2_commonAncestor_32 : decode cX2_commonAncestor 32 = .ok (.invokevirtual 31, 3) := dk_182 0 31 (dk_at dksX2_commonAncestor_1 10 rfl rfl)
theorem dX2_commonAncestor_35 : decode cX2_commonAncestor 35 = .ok (.getfield 249, 3) := dk_180 0 249 (dk_at dksX2_commonAncestor_1 13 rfl rfl)
theorem dX2_commonAncestor_38 : decode cX2_commonAncestor 38 = .ok (.istore 4, 2) := dk_54 4 (dk_at dksX2_commonAncestor_1 16 rfl rfl)
theorem dX2_commonAncestor_40 : decode cX2_commonAncestor 40 = .ok (.goto (-35), 3) := dk_167 255 221 (dk_at dksX2_commonAncestor_1 18 rfl rfl)
theorem dX2_commonAncestor_43 : decode cX2_commonAncestor 43 = .ok (.iload_n 3, 1) := dk_29 (dk_at dksX2_commonAncestor_1 21 rfl rfl)
theorem dX2_commonAncestor_44 : decode cX2_commonAncestor 44 = .ok (.ireturn, 1) := dk_172 (dk_at dksX2_commonAncestor_1 22 rfl rfl)
abbrev cX2_countBoth : ByteArray := prog_12_method_28_code
def yX2_countBoth : MethodName := ⟨RX2, "countBoth", "([Z[ZZ)I"⟩
def dkwX2_countBoth_1 : List UInt8 := [160, 0, 6, 132, 3, 1, 132, 4, 1, 167, 255, 228, 29, 172]
abbrev dktX2_countBoth_1 : List UInt8 := dkwX2_countBoth_1 ++ []
def dkwX2_countBoth_0 : List UInt8 := [3, 62, 3, 54, 4, 21, 4, 42, 190, 162, 0, 27, 42, 21, 4, 51, 153, 0, 14, 43, 21, 4, 51, 28]
abbrev dktX2_countBoth_0 : List UInt8 := dkwX2_countBoth_0 ++ dktX2_countBoth_1
theorem dksX2_countBoth_0 : cX2_countBoth.data.toList.drop 0 = dktX2_countBoth_0 := by decide +kernel
theorem dksX2_countBoth_1 : cX2_countBoth.data.toList.drop 24 = dktX2_countBoth_1 := dk_seg dksX2_countBoth_0 24 rfl rfl
theorem dX2_countBoth_0 : decode cX2_countBoth 0 = .ok (.iconst 0, 1) := dk_3 (dk_at dksX2_countBoth_0 0 rfl rfl)
theorem dX2_countBoth_1 : decode cX2_countBoth 1 = .ok (.istore_n 3, 1) := dk_62 (dk_at dksX2_countBoth_0 1 rfl rfl)
theorem dX2_countBoth_2 : decode cX2_countBoth 2 = .ok (.iconst 0, 1) := dk_3 (dk_at dksX2_countBoth_0 2 rfl rfl)
theorem dX2_countBoth_3 : decode cX2_countBoth 3 = .ok (.istore 4, 2) := dk_54 4 (dk_at dksX2_countBoth_0 3 rfl rfl)
theorem dX2_countBoth_5 : decode cX2_countBoth 5 = .ok (.iload 4, 2) := dk_21 4 (dk_at dksX2_countBoth_0 5 rfl rfl)
theorem dX2_countBoth_7 : decode cX2_countBoth 7 = .ok (.aload_n 0, 1) := dk_42 (dk_at dksX2_countBoth_0 7 rfl rfl)
theorem dX2_countBoth_8 : decode cX2_countBoth 8 = .ok (.arraylength, 1) := dk_190 (dk_at dksX2_countBoth_0 8 rfl rfl)
theorem dX2_countBoth_9 : decode cX2_countBoth 9 = .ok (.if_icmp .ge 27, 3) := dk_162 0 27 (dk_at dksX2_countBoth_0 9 rfl rfl)
theorem dX2_countBoth_12 : decode cX2_countBoth 12 = .ok (.aload_n 0, 1) := dk_42 (dk_at dksX2_countBoth_0 12 rfl rfl)
theorem dX2_countBoth_13 : decode cX2_countBoth 13 = .ok (.iload 4, 2) := dk_21 4 (dk_at dksX2_countBoth_0 13 rfl rfl)
theorem dX2_countBoth_15 : decode cX2_countBoth 15 = .ok (.baload, 1) := dk_51 (dk_at dksX2_countBoth_0 15 rfl rfl)
theorem dX2_countBoth_16 : decode cX2_countBoth 16 = .ok (.ifCond .eq 14, 3) := dk_153 0 14 (dk_at dksX2_countBoth_0 16 rfl rfl)
theorem dX2_countBoth_19 : decode cX2_countBoth 19 = .ok (.aload_n 1, 1) := dk_43 (dk_at dksX2_countBoth_0 19 rfl rfl)
theorem dX2_countBoth_20 : decode cX2_countBoth 20 = .ok (.iload 4, 2) := dk_21 4 (dk_at dksX2_countBoth_0 20 rfl rfl)
theorem dX2_countBoth_22 : decode cX2_countBoth 22 = .ok (.baload, 1) := dk_51 (dk_at dksX2_countBoth_0 22 rfl rfl)
theorem dX2_countBoth_23 : decode cX2_countBoth 23 = .ok (.iload_n 2, 1) := dk_28 (dk_at dksX2_countBoth_0 23 rfl rfl)
theorem dX2_countBoth_24 : decode cX2_countBoth 24 = .ok (.if_icmp .ne 6, 3) := dk_160 0 6 (dk_at dksX2_countBoth_1 0 rfl rfl)
theorem dX2_countBoth_27 : decode cX2_countBoth 27 = .ok (.iinc 3 1, 3) := dk_132 3 1 (dk_at dksX2_countBoth_1 3 rfl rfl)
theorem dX2_countBoth_30 : decode cX2_countBoth 30 = .ok (.iinc 4 1, 3) := dk_132 4 1 (dk_at dksX2_countBoth_1 6 rfl rfl)
theorem dX2_countBoth_33 : decode cX2_countBoth 33 = .ok (.goto (-28), 3) := dk_167 255 228 (dk_at dksX2_countBoth_1 9 rfl rfl)
theorem dX2_countBoth_36 : decode cX2_countBoth 36 = .ok (.iload_n 3, 1) := dk_29 (dk_at dksX2_countBoth_1 12 rfl rfl)
theorem dX2_countBoth_37 : decode cX2_countBoth 37 = .ok (.ireturn, 1) := dk_172 (dk_at dksX2_countBoth_1 13 rfl rfl)
abbrev cX2_node : ByteArray := prog_12_method_31_code
def yX2_node : MethodName := ⟨RX2, "node", "(I)LVectorVersions$Node;"⟩
def dkwX2_node_2 : List UInt8 := [185, 0, 45, 2, 0, 192, 0, 49, 176, 132, 2, 1, 167, 255, 206, 1, 176]
abbrev dktX2_node_2 : List UInt8 := dkwX2_node_2 ++ []
def dkwX2_node_1 : List UInt8 := [185, 0, 45, 2, 0, 192, 0, 49, 180, 0, 220, 27, 160, 0, 17, 42, 180, 0, 21, 28]
abbrev dktX2_node_1 : List UInt8 := dkwX2_node_1 ++ dktX2_node_2
def dkwX2_node_0 : List UInt8 := [3, 61, 28, 42, 180, 0, 21, 185, 0, 25, 1, 0, 162, 0, 43, 42, 180, 0, 21, 28]
abbrev dktX2_node_0 : List UInt8 := dkwX2_node_0 ++ dktX2_node_1
theorem dksX2_node_0 : cX2_node.data.toList.drop 0 = dktX2_node_0 := by decide +kernel
theorem dksX2_node_1 : cX2_node.data.toList.drop 20 = dktX2_node_1 := dk_seg dksX2_node_0 20 rfl rfl
theorem dksX2_node_2 : cX2_node.data.toList.drop 40 = dktX2_node_2 := dk_seg dksX2_node_1 20 rfl rfl
theorem dX2_node_0 : decode cX2_node 0 = .ok (.iconst 0, 1) := dk_3 (dk_at dksX2_node_0 0 rfl rfl)
theorem dX2_node_1 : decode cX2_node 1 = .ok (.istore_n 2, 1) := dk_61 (dk_at dksX2_node_0 1 rfl rfl)
theorem dX2_node_2 : decode cX2_node 2 = .ok (.iload_n 2, 1) := dk_28 (dk_at dksX2_node_0 2 rfl rfl)
theorem dX2_node_3 : decode cX2_node 3 = .ok (.aload_n 0, 1) := dk_42 (dk_at dksX2_node_0 3 rfl rfl)
theorem dX2_node_4 : decode cX2_node 4 = .ok (.getfield 21, 3) := dk_180 0 21 (dk_at dksX2_node_0 4 rfl rfl)
theorem dX2_node_7 : decode cX2_node 7 = .ok (.invokeinterface 25 1, 5) := by decide +kernel
theorem dX2_node_12 : decode cX2_node 12 = .ok (.if_icmp .ge 43, 3) := dk_162 0 43 (dk_at dksX2_node_0 12 rfl rfl)
theorem dX2_node_15 : decode cX2_node 15 = .ok (.aload_n 0, 1) := dk_42 (dk_at dksX2_node_0 15 rfl rfl)
theorem dX2_node_16 : decode cX2_node 16 = .ok (.getfield 21, 3) := dk_180 0 21 (dk_at dksX2_node_0 16 rfl rfl)
theorem dX2_node_19 : decode cX2_node 19 = .ok (.iload_n 2, 1) := dk_28 (dk_at dksX2_node_0 19 rfl rfl)
theorem dX2_node_20 : decode cX2_node 20 = .ok (.invokeinterface 45 2, 5) := by decide +kernel
theorem dX2_node_25 : decode cX2_node 25 = .ok (.checkcast 49, 3) := dk_192 0 49 (dk_at dksX2_node_1 5 rfl rfl)
theorem dX2_node_28 : decode cX2_node 28 = .ok (.getfield 220, 3) := dk_180 0 220 (dk_at dksX2_node_1 8 rfl rfl)
theorem dX2_node_31 : decode cX2_node 31 = .ok (.iload_n 1, 1) := dk_27 (dk_at dksX2_node_1 11 rfl rfl)
theorem dX2_node_32 : decode cX2_node 32 = .ok (.if_icmp .ne 17, 3) := dk_160 0 17 (dk_at dksX2_node_1 12 rfl rfl)
theorem dX2_node_35 : decode cX2_node 35 = .ok (.aload_n 0, 1) := dk_42 (dk_at dksX2_node_1 15 rfl rfl)
theorem dX2_node_36 : decode cX2_node 36 = .ok (.getfield 21, 3) := dk_180 0 21 (dk_at dksX2_node_1 16 rfl rfl)
theorem dX2_node_39 : decode cX2_node 39 = .ok (.iload_n 2, 1) := dk_28 (dk_at dksX2_node_1 19 rfl rfl)
theorem dX2_node_40 : decode cX2_node 40 = .ok (.invokeinterface 45 2, 5) := by decide +kernel
theorem dX2_node_45 : decode cX2_node 45 = .ok (.checkcast 49, 3) := dk_192 0 49 (dk_at dksX2_node_2 5 rfl rfl)
theorem dX2_node_48 : decode cX2_node 48 = .ok (.areturn, 1) := dk_176 (dk_at dksX2_node_2 8 rfl rfl)
theorem dX2_node_49 : decode cX2_node 49 = .ok (.iinc 2 1, 3) := dk_132 2 1 (dk_at dksX2_node_2 9 rfl rfl)
theorem dX2_node_52 : decode cX2_node 52 = .ok (.goto (-50), 3) := dk_167 255 206 (dk_at dksX2_node_2 12 rfl rfl)
theorem dX2_node_55 : decode cX2_node 55 = .ok (.aconst_null, 1) := dk_1 (dk_at dksX2_node_2 15 rfl rfl)
theorem dX2_node_56 : decode cX2_node 56 = .ok (.areturn, 1) := dk_176 (dk_at dksX2_node_2 16 rfl rfl)
abbrev cX2_references : ByteArray := prog_12_method_32_code
def yX2_references : MethodName := ⟨RX2, "references", "(LVectorVersions$Node;)I"⟩
def dkwX2_references_4 : List UInt8 := [166, 0, 6, 132, 2, 1, 132, 4, 1, 167, 255, 222, 132, 3, 1, 167, 255, 200, 28, 172]
abbrev dktX2_references_4 : List UInt8 := dkwX2_references_4 ++ []
def dkwX2_references_3 : List UInt8 := [162, 0, 34, 42, 180, 0, 21, 29, 185, 0, 45, 2, 0, 192, 0, 49, 21, 4, 182, 0, 80, 43]
abbrev dktX2_references_3 : List UInt8 := dkwX2_references_3 ++ dktX2_references_4
def dkwX2_references_2 : List UInt8 := [167, 255, 214, 3, 62, 29, 42, 180, 0, 21, 185, 0, 25, 1, 0, 162, 0, 49, 3, 54, 4, 21, 4, 7]
abbrev dktX2_references_2 : List UInt8 := dkwX2_references_2 ++ dktX2_references_3
def dkwX2_references_1 : List UInt8 := [180, 0, 165, 154, 0, 18, 42, 29, 182, 0, 232, 180, 0, 181, 43, 166, 0, 6, 132, 2, 1, 132, 3, 1]
abbrev dktX2_references_1 : List UInt8 := dkwX2_references_1 ++ dktX2_references_2
def dkwX2_references_0 : List UInt8 := [3, 61, 3, 62, 29, 42, 180, 0, 14, 185, 0, 25, 1, 0, 162, 0, 35, 42, 29, 182, 0, 31]
abbrev dktX2_references_0 : List UInt8 := dkwX2_references_0 ++ dktX2_references_1
theorem dksX2_references_0 : cX2_references.data.toList.drop 0 = dktX2_references_0 := by decide +kernel
theorem dksX2_references_1 : cX2_references.data.toList.drop 22 = dktX2_references_1 := dk_seg dksX2_references_0 22 rfl rfl
theorem dksX2_references_2 : cX2_references.data.toList.drop 46 = dktX2_references_2 := dk_seg dksX2_references_1 24 rfl rfl
theorem dksX2_references_3 : cX2_references.data.toList.drop 70 = dktX2_references_3 := dk_seg dksX2_references_2 24 rfl rfl
theorem dksX2_references_4 : cX2_references.data.toList.drop 92 = dktX2_references_4 := dk_seg dksX2_references_3 22 rfl rfl
theorem dX2_references_0 : decode cX2_references 0 = .ok (.iconst 0, 1) := dk_3 (dk_at dksX2_references_0 0 rfl rfl)
theorem dX2_references_1 : decode cX2_references 1 = .ok (.istore_n 2, 1) := dk_61 (dk_at dksX2_references_0 1 rfl rfl)
theorem dX2_references_2 : decode cX2_references 2 = .ok (.iconst 0, 1) := dk_3 (dk_at dksX2_references_0 2 rfl rfl)
theorem dX2_references_3 : decode cX2_references 3 = .ok (.istore_n 3, 1) := dk_62 (dk_at dksX2_references_0 3 rfl rfl)
theorem dX2_references_4 : decode cX2_references 4 = .ok (.iload_n 3, 1) := dk_29 (dk_at dksX2_references_0 4 rfl rfl)
theorem dX2_references_5 : decode cX2_references 5 = .ok (.aload_n 0, 1) := dk_42 (dk_at dksX2_references_0 5 rfl rfl)
theorem dX2_references_6 : decode cX2_references 6 = .ok (.getfield 14, 3) := dk_180 0 14 (dk_at dksX2_references_0 6 rfl rfl)
theorem dX2_references_9 : decode cX2_references 9 = .ok (.invokeinterface 25 1, 5) := by decide +kernel
theorem dX2_references_14 : decode cX2_references 14 = .ok (.if_icmp .ge 35, 3) := dk_162 0 35 (dk_at dksX2_references_0 14 rfl rfl)
theorem dX2_references_17 : decode cX2_references 17 = .ok (.aload_n 0, 1) := dk_42 (dk_at dksX2_references_0 17 rfl rfl)
theorem dX2_references_18 : decode cX2_references 18 = .ok (.iload_n 3, 1) := dk_29 (dk_at dksX2_references_0 18 rfl rfl)
theorem dX2_references_19 : decode cX2_references 19 = .ok (.invokevirtual 31, 3) := dk_182 0 31 (dk_at dksX2_references_0 19 rfl rfl)
theorem dX2_references_22 : decode cX2_references 22 = .ok (.getfield 165, 3) := dk_180 0 165 (dk_at dksX2_references_1 0 rfl rfl)
theorem dX2_references_25 : decode cX2_references 25 = .ok (.ifCond .ne 18, 3) := dk_154 0 18 (dk_at dksX2_references_1 3 rfl rfl)
theorem dX2_references_28 : decode cX2_references 28 = .ok (.aload_n 0, 1) := dk_42 (dk_at dksX2_references_1 6 rfl rfl)
theorem dX2_references_29 : decode cX2_references 29 = .ok (.iload_n 3, 1) := dk_29 (dk_at dksX2_references_1 7 rfl rfl)
theorem dX2_references_30 : decode cX2_references 30 = .ok (.invokevirtual 232, 3) := dk_182 0 232 (dk_at dksX2_references_1 8 rfl rfl)
theorem dX2_references_33 : decode cX2_references 33 = .ok (.getfield 181, 3) := dk_180 0 181 (dk_at dksX2_references_1 11 rfl rfl)
theorem dX2_references_36 : decode cX2_references 36 = .ok (.aload_n 1, 1) := dk_43 (dk_at dksX2_references_1 14 rfl rfl)
theorem dX2_references_37 : decode cX2_references 37 = .ok (.if_acmp .ne 6, 3) := dk_166 0 6 (dk_at dksX2_references_1 15 rfl rfl)
theorem dX2_references_40 : decode cX2_references 40 = .ok (.iinc 2 1, 3) := dk_132 2 1 (dk_at dksX2_references_1 18 rfl rfl)
theorem dX2_references_43 : decode cX2_references 43 = .ok (.iinc 3 1, 3) := dk_132 3 1 (dk_at dksX2_references_1 21 rfl rfl)
theorem dX2_references_46 : decode cX2_references 46 = .ok (.goto (-42), 3) := dk_167 255 214 (dk_at dksX2_references_2 0 rfl rfl)
theorem dX2_references_49 : decode cX2_references 49 = .ok (.iconst 0, 1) := dk_3 (dk_at dksX2_references_2 3 rfl rfl)
theorem dX2_references_50 : decode cX2_references 50 = .ok (.istore_n 3, 1) := dk_62 (dk_at dksX2_references_2 4 rfl rfl)
theorem dX2_references_51 : decode cX2_references 51 = .ok (.iload_n 3, 1) := dk_29 (dk_at dksX2_references_2 5 rfl rfl)
theorem dX2_references_52 : decode cX2_references 52 = .ok (.aload_n 0, 1) := dk_42 (dk_at dksX2_references_2 6 rfl rfl)
theorem dX2_references_53 : decode cX2_references 53 = .ok (.getfield 21, 3) := dk_180 0 21 (dk_at dksX2_references_2 7 rfl rfl)
theorem dX2_references_56 : decode cX2_references 56 = .ok (.invokeinterface 25 1, 5) := by decide +kernel
theorem dX2_references_61 : decode cX2_references 61 = .ok (.if_icmp .ge 49, 3) := dk_162 0 49 (dk_at dksX2_references_2 15 rfl rfl)
theorem dX2_references_64 : decode cX2_references 64 = .ok (.iconst 0, 1) := dk_3 (dk_at dksX2_references_2 18 rfl rfl)
theorem dX2_references_65 : decode cX2_references 65 = .ok (.istore 4, 2) := dk_54 4 (dk_at dksX2_references_2 19 rfl rfl)
theorem dX2_references_67 : decode cX2_references 67 = .ok (.iload 4, 2) := dk_21 4 (dk_at dksX2_references_2 21 rfl rfl)
theorem dX2_references_69 : decode cX2_references 69 = .ok (.iconst 4, 1) := dk_7 (dk_at dksX2_references_2 23 rfl rfl)
theorem dX2_references_70 : decode cX2_references 70 = .ok (.if_icmp .ge 34, 3) := dk_162 0 34 (dk_at dksX2_references_3 0 rfl rfl)
theorem dX2_references_73 : decode cX2_references 73 = .ok (.aload_n 0, 1) := dk_42 (dk_at dksX2_references_3 3 rfl rfl)
theorem dX2_references_74 : decode cX2_references 74 = .ok (.getfield 21, 3) := dk_180 0 21 (dk_at dksX2_references_3 4 rfl rfl)
theorem dX2_references_77 : decode cX2_references 77 = .ok (.iload_n 3, 1) := dk_29 (dk_at dksX2_references_3 7 rfl rfl)
theorem dX2_references_78 : decode cX2_references 78 = .ok (.invokeinterface 45 2, 5) := by decide +kernel
theorem dX2_references_83 : decode cX2_references 83 = .ok (.checkcast 49, 3) := dk_192 0 49 (dk_at dksX2_references_3 13 rfl rfl)
theorem dX2_references_86 : decode cX2_references 86 = .ok (.iload 4, 2) := dk_21 4 (dk_at dksX2_references_3 16 rfl rfl)
theorem dX2_references_88 : decode cX2_references 88 = .ok (.invokevirtual 80, 3) := dk_182 0 80 (dk_at dksX2_references_3 18 rfl rfl)
theorem dX2_references_91 : decode cX2_references 91 = .ok (.aload_n 1, 1) := dk_43 (dk_at dksX2_references_3 21 rfl rfl)
theorem dX2_references_92 : decode cX2_references 92 = .ok (.if_acmp .ne 6, 3) := dk_166 0 6 (dk_at dksX2_references_4 0 rfl rfl)
theorem dX2_references_95 : decode cX2_references 95 = .ok (.iinc 2 1, 3) := dk_132 2 1 (dk_at dksX2_references_4 3 rfl rfl)
theorem dX2_references_98 : decode cX2_references 98 = .ok (.iinc 4 1, 3) := dk_132 4 1 (dk_at dksX2_references_4 6 rfl rfl)
theorem dX2_references_101 : decode cX2_references 101 = .ok (.goto (-34), 3) := dk_167 255 222 (dk_at dksX2_references_4 9 rfl rfl)
theorem dX2_references_104 : decode cX2_references 104 = .ok (.iinc 3 1, 3) := dk_132 3 1 (dk_at dksX2_references_4 12 rfl rfl)
theorem dX2_references_107 : decode cX2_references 107 = .ok (.goto (-56), 3) := dk_167 255 200 (dk_at dksX2_references_4 15 rfl rfl)
theorem dX2_references_110 : decode cX2_references 110 = .ok (.iload_n 2, 1) := dk_28 (dk_at dksX2_references_4 18 rfl rfl)
theorem dX2_references_111 : decode cX2_references 111 = .ok (.ireturn, 1) := dk_172 (dk_at dksX2_references_4 19 rfl rfl)
abbrev cX2_differences : ByteArray := prog_12_method_34_code
def yX2_differences : MethodName := ⟨RX2, "differences", "(LVectorVersions$Tree;LVectorVersions$Tree;)I"⟩
def dkwX2_differences_2 : List UInt8 := [132, 4, 1, 167, 255, 224, 29, 172]
abbrev dktX2_differences_2 : List UInt8 := dkwX2_differences_2 ++ []
def dkwX2_differences_1 : List UInt8 := [180, 0, 176, 184, 0, 121, 162, 0, 22, 43, 44, 21, 4, 182, 0, 238, 154, 0, 6, 132, 3, 1]
abbrev dktX2_differences_1 : List UInt8 := dkwX2_differences_1 ++ dktX2_differences_2
def dkwX2_differences_0 : List UInt8 := [43, 180, 0, 176, 44, 180, 0, 176, 100, 184, 0, 242, 62, 3, 54, 4, 21, 4, 43, 180, 0, 176, 44]
abbrev dktX2_differences_0 : List UInt8 := dkwX2_differences_0 ++ dktX2_differences_1
theorem dksX2_differences_0 : cX2_differences.data.toList.drop 0 = dktX2_differences_0 := by decide +kernel
theorem dksX2_differences_1 : cX2_differences.data.toList.drop 23 = dktX2_differences_1 := dk_seg dksX2_differences_0 23 rfl rfl
theorem dksX2_differences_2 : cX2_differences.data.toList.drop 45 = dktX2_differences_2 := dk_seg dksX2_differences_1 22 rfl rfl
theorem dX2_differences_0 : decode cX2_differences 0 = .ok (.aload_n 1, 1) := dk_43 (dk_at dksX2_differences_0 0 rfl rfl)
theorem dX2_differences_1 : decode cX2_differences 1 = .ok (.getfield 176, 3) := dk_180 0 176 (dk_at dksX2_differences_0 1 rfl rfl)
theorem dX2_differences_4 : decode cX2_differences 4 = .ok (.aload_n 2, 1) := dk_44 (dk_at dksX2_differences_0 4 rfl rfl)
theorem dX2_differences_5 : decode cX2_differences 5 = .ok (.getfield 176, 3) := dk_180 0 176 (dk_at dksX2_differences_0 5 rfl rfl)
theorem dX2_differences_8 : decode cX2_differences 8 = .ok (.isub, 1) := dk_100 (dk_at dksX2_differences_0 8 rfl rfl)
theorem dX2_differences_9 : decode cX2_differences 9 = .ok (.invokestatic 242, 3) := dk_184 0 242 (dk_at dksX2_differences_0 9 rfl rfl)
theorem dX2_differences_12 : decode cX2_differences 12 = .ok (.istore_n 3, 1) := dk_62 (dk_at dksX2_differences_0 12 rfl rfl)
theorem dX2_differences_13 : decode cX2_differences 13 = .ok (.iconst 0, 1) := dk_3 (dk_at dksX2_differences_0 13 rfl rfl)
theorem dX2_differences_14 : decode cX2_differences 14 = .ok (.istore 4, 2) := dk_54 4 (dk_at dksX2_differences_0 14 rfl rfl)
theorem dX2_differences_16 : decode cX2_differences 16 = .ok (.iload 4, 2) := dk_21 4 (dk_at dksX2_differences_0 16 rfl rfl)
theorem dX2_differences_18 : decode cX2_differences 18 = .ok (.aload_n 1, 1) := dk_43 (dk_at dksX2_differences_0 18 rfl rfl)
theorem dX2_differences_19 : decode cX2_differences 19 = .ok (.getfield 176, 3) := dk_180 0 176 (dk_at dksX2_differences_0 19 rfl rfl)
theorem dX2_differences_22 : decode cX2_differences 22 = .ok (.aload_n 2, 1) := dk_44 (dk_at dksX2_differences_0 22 rfl rfl)
theorem dX2_differences_23 : decode cX2_differences 23 = .ok (.getfield 176, 3) := dk_180 0 176 (dk_at dksX2_differences_1 0 rfl rfl)
theorem dX2_differences_26 : decode cX2_differences 26 = .ok (.invokestatic 121, 3) := dk_184 0 121 (dk_at dksX2_differences_1 3 rfl rfl)
theorem dX2_differences_29 : decode cX2_differences 29 = .ok (.if_icmp .ge 22, 3) := dk_162 0 22 (dk_at dksX2_differences_1 6 rfl rfl)
theorem dX2_differences_32 : decode cX2_differences 32 = .ok (.aload_n 1, 1) := dk_43 (dk_at dksX2_differences_1 9 rfl rfl)
theorem dX2_differences_33 : decode cX2_differences 33 = .ok (.aload_n 2, 1) := dk_44 (dk_at dksX2_differences_1 10 rfl rfl)
theorem dX2_differences_34 : decode cX2_differences 34 = .ok (.iload 4, 2) := dk_21 4 (dk_at dksX2_differences_1 11 rfl rfl)
theorem dX2_differences_36 : decode cX2_differences 36 = .ok (.invokevirtual 238, 3) := dk_182 0 238 (dk_at dksX2_differences_1 13 rfl rfl)
theorem dX2_differences_39 : decode cX2_differences 39 = .ok (.ifCond .ne 6, 3) := dk_154 0 6 (dk_at dksX2_differences_1 16 rfl rfl)
theorem dX2_differences_42 : decode cX2_differences 42 = .ok (.iinc 3 1, 3) := dk_132 3 1 (dk_at dksX2_differences_1 19 rfl rfl)
theorem dX2_differences_45 : decode cX2_differences 45 = .ok (.iinc 4 1, 3) := dk_132 4 1 (dk_at dksX2_differences_2 0 rfl rfl)
theorem dX2_differences_48 : decode cX2_differences 48 = .ok (.goto (-32), 3) := dk_167 255 224 (dk_at dksX2_differences_2 3 rfl rfl)
theorem dX2_differences_51 : decode cX2_differences 51 = .ok (.iload_n 3, 1) := dk_29 (dk_at dksX2_differences_2 6 rfl rfl)
theorem dX2_differences_52 : decode cX2_differences 52 = .ok (.ireturn, 1) := dk_172 (dk_at dksX2_differences_2 7 rfl rfl)
abbrev cX2_firstDifference : ByteArray := prog_12_method_33_code
def yX2_firstDifference : MethodName := ⟨RX2, "firstDifference", "(LVectorVersions$Tree;LVectorVersions$Tree;)I"⟩
def dkwX2_firstDifference_2 : List UInt8 := [180, 0, 176, 160, 0, 7, 2, 167, 0, 4, 29, 172]
abbrev dktX2_firstDifference_2 : List UInt8 := dkwX2_firstDifference_2 ++ []
def dkwX2_firstDifference_1 : List UInt8 := [21, 4, 182, 0, 238, 154, 0, 6, 21, 4, 172, 132, 4, 1, 167, 255, 234, 43, 180, 0, 176, 44]
abbrev dktX2_firstDifference_1 : List UInt8 := dkwX2_firstDifference_1 ++ dktX2_firstDifference_2
def dkwX2_firstDifference_0 : List UInt8 := [43, 180, 0, 176, 44, 180, 0, 176, 184, 0, 121, 62, 3, 54, 4, 21, 4, 29, 162, 0, 22, 43, 44]
abbrev dktX2_firstDifference_0 : List UInt8 := dkwX2_firstDifference_0 ++ dktX2_firstDifference_1
theorem dksX2_firstDifference_0 : cX2_firstDifference.data.toList.drop 0 = dktX2_firstDifference_0 := by decide +kernel
theorem dksX2_firstDifference_1 : cX2_firstDifference.data.toList.drop 23 = dktX2_firstDifference_1 := dk_seg dksX2_firstDifference_0 23 rfl rfl
theorem dksX2_firstDifference_2 : cX2_firstDifference.data.toList.drop 45 = dktX2_firstDifference_2 := dk_seg dksX2_firstDifference_1 22 rfl rfl
theorem dX2_firstDifference_0 : decode cX2_firstDifference 0 = .ok (.aload_n 1, 1) := dk_43 (dk_at dksX2_firstDifference_0 0 rfl rfl)
theorem dX2_firstDifference_1 : decode cX2_firstDifference 1 = .ok (.getfield 176, 3) := dk_180 0 176 (dk_at dksX2_firstDifference_0 1 rfl rfl)
theorem dX2_firstDifference_4 : decode cX2_firstDifference 4 = .ok (.aload_n 2, 1) := dk_44 (dk_at dksX2_firstDifference_0 4 rfl rfl)
theorem dX2_firstDifference_5 : decode cX2_firstDifference 5 = .ok (.getfield 176, 3) := dk_180 0 176 (dk_at dksX2_firstDifference_0 5 rfl rfl)
theorem dX2_firstDifference_8 : decode cX2_firstDifference 8 = .ok (.invokestatic 121, 3) := dk_184 0 121 (dk_at dksX2_firstDifference_0 8 rfl rfl)
theorem dX2_firstDifference_11 : decode cX2_firstDifference 11 = .ok (.istore_n 3, 1) := dk_62 (dk_at dksX2_firstDifference_0 11 rfl rfl)
theorem dX2_firstDifference_12 : decode cX2_firstDifference 12 = .ok (.iconst 0, 1) := dk_3 (dk_at dksX2_firstDifference_0 12 rfl rfl)
theorem dX2_firstDifference_13 : decode cX2_firstDifference 13 = .ok (.istore 4, 2) := dk_54 4 (dk_at dksX2_firstDifference_0 13 rfl rfl)
theorem dX2_firstDifference_15 : decode cX2_firstDifference 15 = .ok (.iload 4, 2) := dk_21 4 (dk_at dksX2_firstDifference_0 15 rfl rfl)
theorem dX2_firstDifference_17 : decode cX2_firstDifference 17 = .ok (.iload_n 3, 1) := dk_29 (dk_at dksX2_firstDifference_0 17 rfl rfl)
theorem dX2_firstDifference_18 : decode cX2_firstDifference 18 = .ok (.if_icmp .ge 22, 3) := dk_162 0 22 (dk_at dksX2_firstDifference_0 18 rfl rfl)
theorem dX2_firstDifference_21 : decode cX2_firstDifference 21 = .ok (.aload_n 1, 1) := dk_43 (dk_at dksX2_firstDifference_0 21 rfl rfl)
theorem dX2_firstDifference_22 : decode cX2_firstDifference 22 = .ok (.aload_n 2, 1) := dk_44 (dk_at dksX2_firstDifference_0 22 rfl rfl)
theorem dX2_firstDifference_23 : decode cX2_firstDifference 23 = .ok (.iload 4, 2) := dk_21 4 (dk_at dksX2_firstDifference_1 0 rfl rfl)
theorem dX2_firstDifference_25 : decode cX2_firstDifference 25 = .ok (.invokevirtual 238, 3) := dk_182 0 238 (dk_at dksX2_firstDifference_1 2 rfl rfl)
theorem dX2_firstDifference_28 : decode cX2_firstDifference 28 = .ok (.ifCond .ne 6, 3) := dk_154 0 6 (dk_at dksX2_firstDifference_1 5 rfl rfl)
theorem dX2_firstDifference_31 : decode cX2_firstDifference 31 = .ok (.iload 4, 2) := dk_21 4 (dk_at dksX2_firstDifference_1 8 rfl rfl)
theorem dX2_firstDifference_33 : decode cX2_firstDifference 33 = .ok (.ireturn, 1) := dk_172 (dk_at dksX2_firstDifference_1 10 rfl rfl)
theorem dX2_firstDifference_34 : decode cX2_firstDifference 34 = .ok (.iinc 4 1, 3) := dk_132 4 1 (dk_at dksX2_firstDifference_1 11 rfl rfl)
theorem dX2_firstDifference_37 : decode cX2_firstDifference 37 = .ok (.goto (-22), 3) := dk_167 255 234 (dk_at dksX2_firstDifference_1 14 rfl rfl)
theorem dX2_firstDifference_40 : decode cX2_firstDifference 40 = .ok (.aload_n 1, 1) := dk_43 (dk_at dksX2_firstDifference_1 17 rfl rfl)
theorem dX2_firstDifference_41 : decode cX2_firstDifference 41 = .ok (.getfield 176, 3) := dk_180 0 176 (dk_at dksX2_firstDifference_1 18 rfl rfl)
theorem dX2_firstDifference_44 : decode cX2_firstDifference 44 = .ok (.aload_n 2, 1) := dk_44 (dk_at dksX2_firstDifference_1 21 rfl rfl)
theorem dX2_firstDifference_45 : decode cX2_firstDifference 45 = .ok (.getfield 176, 3) := dk_180 0 176 (dk_at dksX2_firstDifference_2 0 rfl rfl)
theorem dX2_firstDifference_48 : decode cX2_firstDifference 48 = .ok (.if_icmp .ne 7, 3) := dk_160 0 7 (dk_at dksX2_firstDifference_2 3 rfl rfl)
theorem dX2_firstDifference_51 : decode cX2_firstDifference 51 = .ok (.iconst (-1), 1) := dk_2 (dk_at dksX2_firstDifference_2 6 rfl rfl)
theorem dX2_firstDifference_52 : decode cX2_firstDifference 52 = .ok (.goto 4, 3) := dk_167 0 4 (dk_at dksX2_firstDifference_2 7 rfl rfl)
theorem dX2_firstDifference_55 : decode cX2_firstDifference 55 = .ok (.iload_n 3, 1) := dk_29 (dk_at dksX2_firstDifference_2 10 rfl rfl)
theorem dX2_firstDifference_56 : decode cX2_firstDifference 56 = .ok (.ireturn, 1) := dk_172 (dk_at dksX2_firstDifference_2 11 rfl rfl)
abbrev cX2_visitedPairs : ByteArray := prog_12_method_35_code
def yX2_visitedPairs : MethodName := ⟨RX2, "visitedPairs", "(LVectorVersions$Node;LVectorVersions$Node;)I"⟩
def dkwX2_visitedPairs_2 : List UInt8 := [21, 4, 182, 0, 80, 44, 21, 4, 182, 0, 80, 182, 0, 245, 96, 62, 132, 4, 1, 167, 255, 211, 29, 172]
abbrev dktX2_visitedPairs_2 : List UInt8 := dkwX2_visitedPairs_2 ++ []
def dkwX2_visitedPairs_1 : List UInt8 := [182, 0, 71, 44, 182, 0, 71, 184, 0, 121, 162, 0, 35, 43, 182, 0, 225, 154, 0, 28, 29, 42, 43]
abbrev dktX2_visitedPairs_1 : List UInt8 := dkwX2_visitedPairs_1 ++ dktX2_visitedPairs_2
def dkwX2_visitedPairs_0 : List UInt8 := [43, 198, 0, 12, 44, 198, 0, 8, 43, 44, 166, 0, 5, 3, 172, 4, 62, 3, 54, 4, 21, 4, 43]
abbrev dktX2_visitedPairs_0 : List UInt8 := dkwX2_visitedPairs_0 ++ dktX2_visitedPairs_1
theorem dksX2_visitedPairs_0 : cX2_visitedPairs.data.toList.drop 0 = dktX2_visitedPairs_0 := by decide +kernel
theorem dksX2_visitedPairs_1 : cX2_visitedPairs.data.toList.drop 23 = dktX2_visitedPairs_1 := dk_seg dksX2_visitedPairs_0 23 rfl rfl
theorem dksX2_visitedPairs_2 : cX2_visitedPairs.data.toList.drop 46 = dktX2_visitedPairs_2 := dk_seg dksX2_visitedPairs_1 23 rfl rfl
theorem dX2_visitedPairs_0 : decode cX2_visitedPairs 0 = .ok (.aload_n 1, 1) := dk_43 (dk_at dksX2_visitedPairs_0 0 rfl rfl)
theorem dX2_visitedPairs_1 : decode cX2_visitedPairs 1 = .ok (.ifnull 12, 3) := dk_198 0 12 (dk_at dksX2_visitedPairs_0 1 rfl rfl)
theorem dX2_visitedPairs_4 : decode cX2_visitedPairs 4 = .ok (.aload_n 2, 1) := dk_44 (dk_at dksX2_visitedPairs_0 4 rfl rfl)
theorem dX2_visitedPairs_5 : decode cX2_visitedPairs 5 = .ok (.ifnull 8, 3) := dk_198 0 8 (dk_at dksX2_visitedPairs_0 5 rfl rfl)
theorem dX2_visitedPairs_8 : decode cX2_visitedPairs 8 = .ok (.aload_n 1, 1) := dk_43 (dk_at dksX2_visitedPairs_0 8 rfl rfl)
theorem dX2_visitedPairs_9 : decode cX2_visitedPairs 9 = .ok (.aload_n 2, 1) := dk_44 (dk_at dksX2_visitedPairs_0 9 rfl rfl)
theorem dX2_visitedPairs_10 : decode cX2_visitedPairs 10 = .ok (.if_acmp .ne 5, 3) := dk_166 0 5 (dk_at dksX2_visitedPairs_0 10 rfl rfl)
theorem dX2_visitedPairs_13 : decode cX2_visitedPairs 13 = .ok (.iconst 0, 1) := dk_3 (dk_at dksX2_visitedPairs_0 13 rfl rfl)
theorem dX2_visitedPairs_14 : decode cX2_visitedPairs 14 = .ok (.ireturn, 1) := dk_172 (dk_at dksX2_visitedPairs_0 14 rfl rfl)
theorem dX2_visitedPairs_15 : decode cX2_visitedPairs 15 = .ok (.iconst 1, 1) := dk_4 (dk_at dksX2_visitedPairs_0 15 rfl rfl)
theorem dX2_visitedPairs_16 : decode cX2_visitedPairs 16 = .ok (.istore_n 3, 1) := dk_62 (dk_at dksX2_visitedPairs_0 16 rfl rfl)
theorem dX2_visitedPairs_17 : decode cX2_visitedPairs 17 = .ok (.iconst 0, 1) := dk_3 (dk_at dksX2_visitedPairs_0 17 rfl rfl)
theorem dX2_visitedPairs_18 : decode cX2_visitedPairs 18 = .ok (.istore 4, 2) := dk_54 4 (dk_at dksX2_visitedPairs_0 18 rfl rfl)
theorem dX2_visitedPairs_20 : decode cX2_visitedPairs 20 = .ok (.iload 4, 2) := dk_21 4 (dk_at dksX2_visitedPairs_0 20 rfl rfl)
theorem dX2_visitedPairs_22 : decode cX2_visitedPairs 22 = .ok (.aload_n 1, 1) := dk_43 (dk_at dksX2_visitedPairs_0 22 rfl rfl)
theorem dX2_visitedPairs_23 : decode cX2_visitedPairs 23 = .ok (.invokevirtual 71, 3) := dk_182 0 71 (dk_at dksX2_visitedPairs_1 0 rfl rfl)
theorem dX2_visitedPairs_26 : decode cX2_visitedPairs 26 = .ok (.aload_n 2, 1) := dk_44 (dk_at dksX2_visitedPairs_1 3 rfl rfl)
theorem dX2_visitedPairs_27 : decode cX2_visitedPairs 27 = .ok (.invokevirtual 71, 3) := dk_182 0 71 (dk_at dksX2_visitedPairs_1 4 rfl rfl)
theorem dX2_visitedPairs_30 : decode cX2_visitedPairs 30 = .ok (.invokestatic 121, 3) := dk_184 0 121 (dk_at dksX2_visitedPairs_1 7 rfl rfl)
theorem dX2_visitedPairs_33 : decode cX2_visitedPairs 33 = .ok (.if_icmp .ge 35, 3) := dk_162 0 35 (dk_at dksX2_visitedPairs_1 10 rfl rfl)
theorem dX2_visitedPairs_36 : decode cX2_visitedPairs 36 = .ok (.aload_n 1, 1) := dk_43 (dk_at dksX2_visitedPairs_1 13 rfl rfl)
theorem dX2_visitedPairs_37 : decode cX2_visitedPairs 37 = .ok (.invokevirtual 225, 3) := dk_182 0 225 (dk_at dksX2_visitedPairs_1 14 rfl rfl)
theorem dX2_visitedPairs_40 : decode cX2_visitedPairs 40 = .ok (.ifCond .ne 28, 3) := dk_154 0 28 (dk_at dksX2_visitedPairs_1 17 rfl rfl)
theorem dX2_visitedPairs_43 : decode cX2_visitedPairs 43 = .ok (.iload_n 3, 1) := dk_29 (dk_at dksX2_visitedPairs_1 20 rfl rfl)
theorem dX2_visitedPairs_44 : decode cX2_visitedPairs 44 = .ok (.aload_n 0, 1) := dk_42 (dk_at dksX2_visitedPairs_1 21 rfl rfl)
theorem dX2_visitedPairs_45 : decode cX2_visitedPairs 45 = .ok (.aload_n 1, 1) := dk_43 (dk_at dksX2_visitedPairs_1 22 rfl rfl)
theorem dX2_visitedPairs_46 : decode cX2_visitedPairs 46 = .ok (.iload 4, 2) := dk_21 4 (dk_at dksX2_visitedPairs_2 0 rfl rfl)
theorem dX2_visitedPairs_48 : decode cX2_visitedPairs 48 = .ok (.invokevirtual 80, 3) := dk_182 0 80 (dk_at dksX2_visitedPairs_2 2 rfl rfl)
theorem dX2_visitedPairs_51 : decode cX2_visitedPairs 51 = .ok (.aload_n 2, 1) := dk_44 (dk_at dksX2_visitedPairs_2 5 rfl rfl)
theorem dX2_visitedPairs_52 : decode cX2_visitedPairs 52 = .ok (.iload 4, 2) := dk_21 4 (dk_at dksX2_visitedPairs_2 6 rfl rfl)
theorem dX2_visitedPairs_54 : decode cX2_visitedPairs 54 = .ok (.invokevirtual 80, 3) := dk_182 0 80 (dk_at dksX2_visitedPairs_2 8 rfl rfl)
theorem dX2_visitedPairs_57 : decode cX2_visitedPairs 57 = .ok (.invokevirtual 245, 3) := dk_182 0 245 (dk_at dksX2_visitedPairs_2 11 rfl rfl)
theorem dX2_visitedPairs_60 : decode cX2_visitedPairs 60 = .ok (.iadd, 1) := dk_96 (dk_at dksX2_visitedPairs_2 14 rfl rfl)
theorem dX2_visitedPairs_61 : decode cX2_visitedPairs 61 = .ok (.istore_n 3, 1) := dk_62 (dk_at dksX2_visitedPairs_2 15 rfl rfl)
theorem dX2_visitedPairs_62 : decode cX2_visitedPairs 62 = .ok (.iinc 4 1, 3) := dk_132 4 1 (dk_at dksX2_visitedPairs_2 16 rfl rfl)
theorem dX2_visitedPairs_65 : decode cX2_visitedPairs 65 = .ok (.goto (-45), 3) := dk_167 255 211 (dk_at dksX2_visitedPairs_2 19 rfl rfl)
theorem dX2_visitedPairs_68 : decode cX2_visitedPairs 68 = .ok (.iload_n 3, 1) := dk_29 (dk_at dksX2_visitedPairs_2 22 rfl rfl)
theorem dX2_visitedPairs_69 : decode cX2_visitedPairs 69 = .ok (.ireturn, 1) := dk_172 (dk_at dksX2_visitedPairs_2 23 rfl rfl)
abbrev cX2_garbageIfReleased : ByteArray := prog_12_method_30_code
def yX2_garbageIfReleased : MethodName := ⟨RX2, "garbageIfReleased", "(I)I"⟩
def dkwX2_garbageIfReleased_0 : List UInt8 := [42, 2, 182, 0, 203, 184, 0, 235, 42, 27, 182, 0, 203, 184, 0, 235, 100, 172]
abbrev dktX2_garbageIfReleased_0 : List UInt8 := dkwX2_garbageIfReleased_0 ++ []
theorem dksX2_garbageIfReleased_0 : cX2_garbageIfReleased.data.toList.drop 0 = dktX2_garbageIfReleased_0 := by decide +kernel
theorem dX2_garbageIfReleased_0 : decode cX2_garbageIfReleased 0 = .ok (.aload_n 0, 1) := dk_42 (dk_at dksX2_garbageIfReleased_0 0 rfl rfl)
theorem dX2_garbageIfReleased_1 : decode cX2_garbageIfReleased 1 = .ok (.iconst (-1), 1) := dk_2 (dk_at dksX2_garbageIfReleased_0 1 rfl rfl)
theorem dX2_garbageIfReleased_2 : decode cX2_garbageIfReleased 2 = .ok (.invokevirtual 203, 3) := dk_182 0 203 (dk_at dksX2_garbageIfReleased_0 2 rfl rfl)
theorem dX2_garbageIfReleased_5 : decode cX2_garbageIfReleased 5 = .ok (.invokestatic 235, 3) := dk_184 0 235 (dk_at dksX2_garbageIfReleased_0 5 rfl rfl)
theorem dX2_garbageIfReleased_8 : decode cX2_garbageIfReleased 8 = .ok (.aload_n 0, 1) := dk_42 (dk_at dksX2_garbageIfReleased_0 8 rfl rfl)
theorem dX2_garbageIfReleased_9 : decode cX2_garbageIfReleased 9 = .ok (.iload_n 1, 1) := dk_27 (dk_at dksX2_garbageIfReleased_0 9 rfl rfl)
theorem dX2_garbageIfReleased_10 : decode cX2_garbageIfReleased 10 = .ok (.invokevirtual 203, 3) := dk_182 0 203 (dk_at dksX2_garbageIfReleased_0 10 rfl rfl)
theorem dX2_garbageIfReleased_13 : decode cX2_garbageIfReleased 13 = .ok (.invokestatic 235, 3) := dk_184 0 235 (dk_at dksX2_garbageIfReleased_0 13 rfl rfl)
theorem dX2_garbageIfReleased_16 : decode cX2_garbageIfReleased 16 = .ok (.isub, 1) := dk_100 (dk_at dksX2_garbageIfReleased_0 16 rfl rfl)
theorem dX2_garbageIfReleased_17 : decode cX2_garbageIfReleased 17 = .ok (.ireturn, 1) := dk_172 (dk_at dksX2_garbageIfReleased_0 17 rfl rfl)
theorem q146 : (Jvm.Cond.initialized "VectorVersions$Store") ∈ lw_all := lw_g (lw_at lw_m1 12 rfl) rfl
theorem q293 : (Jvm.Cond.selects "VectorVersions$Store" ({ cls := "java/lang/Object", name := "getClass", desc := "()Ljava/lang/Class;" } : Jvm.MethodName) ({ cls := "java/lang/Object", name := "getClass", desc := "()Ljava/lang/Class;" } : Jvm.MethodName)) ∈ lw_all := lw_g (lw_at lw_m1 159 rfl) rfl
theorem q330 : (Jvm.Cond.instantiable "VectorVersions$Store" (3 : Nat)) ∈ lw_all := lw_g (lw_at lw_m1 196 rfl) rfl
theorem q332 : (Jvm.Cond.instanceMethod ({ cls := "VectorVersions$Store", name := "<init>", desc := "()V" } : Jvm.MethodName)) ∈ lw_all := lw_g (lw_at lw_m1 198 rfl) rfl
theorem q333 : (Jvm.Cond.code ({ cls := "VectorVersions$Store", name := "<init>", desc := "()V" } : Jvm.MethodName) prog_12_method_1_code (1 : Nat) (Option.none : Option Jvm.ClassFile.FieldType)) ∈ lw_all := lw_g (lw_at lw_m1 199 rfl) rfl
theorem q334 : (Jvm.Cond.methodLink "VectorVersions$Store" (3 : Nat) ({ cls := "java/lang/Object", name := "<init>", desc := "()V" } : Jvm.MethodName)) ∈ lw_all := lw_g (lw_at lw_m1 200 rfl) rfl
theorem q335 : (Jvm.Cond.classLink "VectorVersions$Store" (9 : Nat) "java/util/ArrayList") ∈ lw_all := lw_g (lw_at lw_m1 201 rfl) rfl
theorem q336 : (Jvm.Cond.methodLink "VectorVersions$Store" (11 : Nat) ({ cls := "java/util/ArrayList", name := "<init>", desc := "(I)V" } : Jvm.MethodName)) ∈ lw_all := lw_g (lw_at lw_m1 202 rfl) rfl
theorem q645 : (Jvm.Cond.methodLink "VectorVersions$Store" (20 : Nat) ({ cls := "java/util/ArrayList", name := "<init>", desc := "()V" } : Jvm.MethodName)) ∈ lw_all := lw_g (lw_at lw_m3 31 rfl) rfl
theorem q646 : (Jvm.Cond.fieldLink "VectorVersions$Store" (14 : Nat) "VectorVersions$Store" "versions" "Ljava/util/List;") ∈ lw_all := lw_g (lw_at lw_m3 32 rfl) rfl
theorem q648 : (Jvm.Cond.fieldLink "VectorVersions$Store" (21 : Nat) "VectorVersions$Store" "nodes" "Ljava/util/List;") ∈ lw_all := lw_g (lw_at lw_m3 34 rfl) rfl
theorem q650 : (Jvm.Cond.fieldLink "VectorVersions$Store" (51 : Nat) "VectorVersions$Store" "created" "I") ∈ lw_all := lw_g (lw_at lw_m3 36 rfl) rfl
theorem q652 : (Jvm.Cond.laysFinal "VectorVersions$Store" "VectorVersions$Store" "versions" "Ljava/util/List;") ∈ lw_all := lw_g (lw_at lw_m3 38 rfl) rfl
theorem q653 : (Jvm.Cond.soleField "VectorVersions$Store" "versions") ∈ lw_all := lw_g (lw_at lw_m3 39 rfl) rfl
theorem q654 : (Jvm.Cond.laysFinal "VectorVersions$Store" "VectorVersions$Store" "nodes" "Ljava/util/List;") ∈ lw_all := lw_g (lw_at lw_m3 40 rfl) rfl
theorem q655 : (Jvm.Cond.soleField "VectorVersions$Store" "nodes") ∈ lw_all := lw_g (lw_at lw_m3 41 rfl) rfl
theorem q656 : (Jvm.Cond.lays "VectorVersions$Store" "VectorVersions$Store" "created" "I") ∈ lw_all := lw_g (lw_at lw_m3 42 rfl) rfl
theorem q657 : (Jvm.Cond.soleField "VectorVersions$Store" "created") ∈ lw_all := lw_g (lw_at lw_m3 43 rfl) rfl
theorem q658 : (Jvm.Cond.superclass "VectorVersions$Store" "java/lang/Object") ∈ lw_all := lw_g (lw_at lw_m3 44 rfl) rfl
theorem q660 : (Jvm.Cond.instanceMethod ({ cls := "VectorVersions$Store", name := "start", desc := "(Ljava/util/List;)LVectorVersions$Store;" } : Jvm.MethodName)) ∈ lw_all := lw_g (lw_at lw_m3 46 rfl) rfl
theorem q661 : (Jvm.Cond.selects "VectorVersions$Store" ({ cls := "VectorVersions$Store", name := "start", desc := "(Ljava/util/List;)LVectorVersions$Store;" } : Jvm.MethodName) ({ cls := "VectorVersions$Store", name := "start", desc := "(Ljava/util/List;)LVectorVersions$Store;" } : Jvm.MethodName)) ∈ lw_all := lw_g (lw_at lw_m3 47 rfl) rfl
theorem q662 : (Jvm.Cond.code ({ cls := "VectorVersions$Store", name := "start", desc := "(Ljava/util/List;)LVectorVersions$Store;" } : Jvm.MethodName) prog_12_method_15_code (7 : Nat) (Option.some (Jvm.ClassFile.FieldType.object "VectorVersions$Store"))) ∈ lw_all := lw_g (lw_at lw_m3 48 rfl) rfl
theorem q663 : (Jvm.Cond.interfaceEntry "VectorVersions$Store" (25 : Nat)) ∈ lw_tbl := lw_at lw_m3 49 rfl
theorem q664 : (Jvm.Cond.methodLink "VectorVersions$Store" (25 : Nat) ({ cls := "java/util/List", name := "size", desc := "()I" } : Jvm.MethodName)) ∈ lw_all := lw_g (lw_at lw_m3 50 rfl) rfl
theorem q672 : (Jvm.Cond.interfaceEntry "VectorVersions$Store" (45 : Nat)) ∈ lw_tbl := lw_at lw_m3 58 rfl
theorem q673 : (Jvm.Cond.methodLink "VectorVersions$Store" (45 : Nat) ({ cls := "java/util/List", name := "get", desc := "(I)Ljava/lang/Object;" } : Jvm.MethodName)) ∈ lw_all := lw_g (lw_at lw_m3 59 rfl) rfl
theorem q691 : (Jvm.Cond.classLink "VectorVersions$Store" (78 : Nat) "java/lang/Integer") ∈ lw_all := lw_g (lw_at lw_m3 77 rfl) rfl
theorem q692 : (Jvm.Cond.methodLink "VectorVersions$Store" (142 : Nat) ({ cls := "java/lang/Integer", name := "intValue", desc := "()I" } : Jvm.MethodName)) ∈ lw_all := lw_g (lw_at lw_m3 78 rfl) rfl
theorem q696 : (Jvm.Cond.methodLink "VectorVersions$Store" (121 : Nat) ({ cls := "java/lang/Math", name := "min", desc := "(II)I" } : Jvm.MethodName)) ∈ lw_all := lw_g (lw_at lw_m3 82 rfl) rfl
theorem q697 : (Jvm.Cond.interfaceEntry "VectorVersions$Store" (41 : Nat)) ∈ lw_tbl := lw_at lw_m3 83 rfl
theorem q698 : (Jvm.Cond.methodLink "VectorVersions$Store" (41 : Nat) ({ cls := "java/util/List", name := "add", desc := "(Ljava/lang/Object;)Z" } : Jvm.MethodName)) ∈ lw_all := lw_g (lw_at lw_m3 84 rfl) rfl
theorem q699 : (Jvm.Cond.methodLink "VectorVersions$Store" (102 : Nat) ({ cls := "VectorVersions$Store", name := "leaf", desc := "(Ljava/util/List;)LVectorVersions$Leaf;" } : Jvm.MethodName)) ∈ lw_all := lw_g (lw_at lw_m3 85 rfl) rfl
theorem q700 : (Jvm.Cond.privateMethod ({ cls := "VectorVersions$Store", name := "leaf", desc := "(Ljava/util/List;)LVectorVersions$Leaf;" } : Jvm.MethodName)) ∈ lw_tbl := lw_at lw_m3 86 rfl
theorem q701 : (Jvm.Cond.instanceMethod ({ cls := "VectorVersions$Store", name := "leaf", desc := "(Ljava/util/List;)LVectorVersions$Leaf;" } : Jvm.MethodName)) ∈ lw_all := lw_g (lw_at lw_m3 87 rfl) rfl
theorem q702 : (Jvm.Cond.code ({ cls := "VectorVersions$Store", name := "leaf", desc := "(Ljava/util/List;)LVectorVersions$Leaf;" } : Jvm.MethodName) prog_12_method_6_code (2 : Nat) (Option.some (Jvm.ClassFile.FieldType.object "VectorVersions$Leaf"))) ∈ lw_all := lw_g (lw_at lw_m3 88 rfl) rfl
theorem q703 : (Jvm.Cond.classLink "VectorVersions$Store" (59 : Nat) "VectorVersions$Leaf") ∈ lw_all := lw_g (lw_at lw_m3 89 rfl) rfl
theorem q705 : (Jvm.Cond.methodLink "VectorVersions$Store" (61 : Nat) ({ cls := "VectorVersions$Leaf", name := "<init>", desc := "(ILjava/util/List;)V" } : Jvm.MethodName)) ∈ lw_all := lw_g (lw_at lw_m3 91 rfl) rfl
theorem q724 : (Jvm.Cond.fieldLinkNest "VectorVersions$Store" (220 : Nat) "VectorVersions$Node" "number" "I" "VectorVersions") ∈ lw_tbl := lw_at lw_m3 110 rfl
theorem q731 : (Jvm.Cond.methodLink "VectorVersions$Store" (64 : Nat) ({ cls := "VectorVersions$Store", name := "store", desc := "(LVectorVersions$Node;)LVectorVersions$Node;" } : Jvm.MethodName)) ∈ lw_all := lw_g (lw_at lw_m3 117 rfl) rfl
theorem q732 : (Jvm.Cond.privateMethod ({ cls := "VectorVersions$Store", name := "store", desc := "(LVectorVersions$Node;)LVectorVersions$Node;" } : Jvm.MethodName)) ∈ lw_tbl := lw_at lw_m3 118 rfl
theorem q733 : (Jvm.Cond.instanceMethod ({ cls := "VectorVersions$Store", name := "store", desc := "(LVectorVersions$Node;)LVectorVersions$Node;" } : Jvm.MethodName)) ∈ lw_all := lw_g (lw_at lw_m3 119 rfl) rfl
theorem q734 : (Jvm.Cond.code ({ cls := "VectorVersions$Store", name := "store", desc := "(LVectorVersions$Node;)LVectorVersions$Node;" } : Jvm.MethodName) prog_12_method_5_code (2 : Nat) (Option.some (Jvm.ClassFile.FieldType.object "VectorVersions$Node"))) ∈ lw_all := lw_g (lw_at lw_m3 120 rfl) rfl
theorem q735 : (Jvm.Cond.methodLink "VectorVersions$Store" (145 : Nat) ({ cls := "VectorVersions$Store", name := "nextLevel", desc := "(Ljava/util/List;)Ljava/util/List;" } : Jvm.MethodName)) ∈ lw_all := lw_g (lw_at lw_m3 121 rfl) rfl
theorem q736 : (Jvm.Cond.privateMethod ({ cls := "VectorVersions$Store", name := "nextLevel", desc := "(Ljava/util/List;)Ljava/util/List;" } : Jvm.MethodName)) ∈ lw_tbl := lw_at lw_m3 122 rfl
theorem q737 : (Jvm.Cond.instanceMethod ({ cls := "VectorVersions$Store", name := "nextLevel", desc := "(Ljava/util/List;)Ljava/util/List;" } : Jvm.MethodName)) ∈ lw_all := lw_g (lw_at lw_m3 123 rfl) rfl
theorem q738 : (Jvm.Cond.code ({ cls := "VectorVersions$Store", name := "nextLevel", desc := "(Ljava/util/List;)Ljava/util/List;" } : Jvm.MethodName) prog_12_method_16_code (6 : Nat) (Option.some (Jvm.ClassFile.FieldType.object "java/util/List"))) ∈ lw_all := lw_g (lw_at lw_m3 124 rfl) rfl
theorem q739 : (Jvm.Cond.classLink "VectorVersions$Store" (49 : Nat) "VectorVersions$Node") ∈ lw_all := lw_g (lw_at lw_m3 125 rfl) rfl
theorem q740 : (Jvm.Cond.methodLink "VectorVersions$Store" (117 : Nat) ({ cls := "VectorVersions$Store", name := "inner", desc := "(Ljava/util/List;)LVectorVersions$Inner;" } : Jvm.MethodName)) ∈ lw_all := lw_g (lw_at lw_m3 126 rfl) rfl
theorem q741 : (Jvm.Cond.privateMethod ({ cls := "VectorVersions$Store", name := "inner", desc := "(Ljava/util/List;)LVectorVersions$Inner;" } : Jvm.MethodName)) ∈ lw_tbl := lw_at lw_m3 127 rfl
theorem q742 : (Jvm.Cond.instanceMethod ({ cls := "VectorVersions$Store", name := "inner", desc := "(Ljava/util/List;)LVectorVersions$Inner;" } : Jvm.MethodName)) ∈ lw_all := lw_g (lw_at lw_m3 128 rfl) rfl
theorem q743 : (Jvm.Cond.code ({ cls := "VectorVersions$Store", name := "inner", desc := "(Ljava/util/List;)LVectorVersions$Inner;" } : Jvm.MethodName) prog_12_method_7_code (2 : Nat) (Option.some (Jvm.ClassFile.FieldType.object "VectorVersions$Inner"))) ∈ lw_all := lw_g (lw_at lw_m3 129 rfl) rfl
theorem q744 : (Jvm.Cond.classLink "VectorVersions$Store" (68 : Nat) "VectorVersions$Inner") ∈ lw_all := lw_g (lw_at lw_m3 130 rfl) rfl
theorem q746 : (Jvm.Cond.methodLink "VectorVersions$Store" (70 : Nat) ({ cls := "VectorVersions$Inner", name := "<init>", desc := "(ILjava/util/List;)V" } : Jvm.MethodName)) ∈ lw_all := lw_g (lw_at lw_m3 132 rfl) rfl
theorem q764 : (Jvm.Cond.classLink "VectorVersions$Store" (149 : Nat) "VectorVersions$Tree") ∈ lw_all := lw_g (lw_at lw_m3 150 rfl) rfl
theorem q766 : (Jvm.Cond.interfaceEntry "VectorVersions$Store" (151 : Nat)) ∈ lw_tbl := lw_at lw_m3 152 rfl
theorem q767 : (Jvm.Cond.methodLink "VectorVersions$Store" (151 : Nat) ({ cls := "java/util/List", name := "isEmpty", desc := "()Z" } : Jvm.MethodName)) ∈ lw_all := lw_g (lw_at lw_m3 153 rfl) rfl
theorem q775 : (Jvm.Cond.methodLinkNest "VectorVersions$Store" (155 : Nat) ({ cls := "VectorVersions", name := "heightFor", desc := "(I)I" } : Jvm.MethodName) "VectorVersions") ∈ lw_tbl := lw_at lw_m3 161 rfl
theorem q781 : (Jvm.Cond.methodLink "VectorVersions$Store" (158 : Nat) ({ cls := "VectorVersions$Tree", name := "<init>", desc := "(LVectorVersions$Node;II)V" } : Jvm.MethodName)) ∈ lw_all := lw_g (lw_at lw_m3 167 rfl) rfl
theorem q787 : (Jvm.Cond.fieldLinkNest "VectorVersions$Store" (181 : Nat) "VectorVersions$Tree" "root" "LVectorVersions$Node;" "VectorVersions") ∈ lw_tbl := lw_at lw_m3 173 rfl
theorem q791 : (Jvm.Cond.fieldLinkNest "VectorVersions$Store" (176 : Nat) "VectorVersions$Tree" "size" "I" "VectorVersions") ∈ lw_tbl := lw_at lw_m3 177 rfl
theorem q794 : (Jvm.Cond.fieldLinkNest "VectorVersions$Store" (185 : Nat) "VectorVersions$Tree" "height" "I" "VectorVersions") ∈ lw_tbl := lw_at lw_m3 180 rfl
theorem q803 : (Jvm.Cond.methodLink "VectorVersions$Store" (161 : Nat) ({ cls := "VectorVersions$Store", name := "addVersion", desc := "(IILVectorVersions$Tree;[I)I" } : Jvm.MethodName)) ∈ lw_all := lw_g (lw_at lw_m3 189 rfl) rfl
theorem q804 : (Jvm.Cond.privateMethod ({ cls := "VectorVersions$Store", name := "addVersion", desc := "(IILVectorVersions$Tree;[I)I" } : Jvm.MethodName)) ∈ lw_tbl := lw_at lw_m3 190 rfl
theorem q805 : (Jvm.Cond.instanceMethod ({ cls := "VectorVersions$Store", name := "addVersion", desc := "(IILVectorVersions$Tree;[I)I" } : Jvm.MethodName)) ∈ lw_all := lw_g (lw_at lw_m3 191 rfl) rfl
theorem q806 : (Jvm.Cond.code ({ cls := "VectorVersions$Store", name := "addVersion", desc := "(IILVectorVersions$Tree;[I)I" } : Jvm.MethodName) prog_12_method_14_code (5 : Nat) (Option.some Jvm.ClassFile.FieldType.int)) ∈ lw_all := lw_g (lw_at lw_m3 192 rfl) rfl
theorem q807 : (Jvm.Cond.classLink "VectorVersions$Store" (36 : Nat) "VectorVersions$Version") ∈ lw_all := lw_g (lw_at lw_m3 193 rfl) rfl
theorem q809 : (Jvm.Cond.methodLink "VectorVersions$Store" (139 : Nat) ({ cls := "VectorVersions$Version", name := "<init>", desc := "(IIILVectorVersions$Tree;[I)V" } : Jvm.MethodName)) ∈ lw_all := lw_g (lw_at lw_m3 195 rfl) rfl
theorem q817 : (Jvm.Cond.fieldLinkNest "VectorVersions$Store" (249 : Nat) "VectorVersions$Version" "parent" "I" "VectorVersions") ∈ lw_tbl := lw_at lw_m3 203 rfl
theorem q819 : (Jvm.Cond.fieldLinkNest "VectorVersions$Store" (256 : Nat) "VectorVersions$Version" "created" "I" "VectorVersions") ∈ lw_tbl := lw_at lw_m3 205 rfl
theorem q822 : (Jvm.Cond.fieldLinkNest "VectorVersions$Store" (55 : Nat) "VectorVersions$Version" "tree" "LVectorVersions$Tree;" "VectorVersions") ∈ lw_tbl := lw_at lw_m3 208 rfl
theorem q825 : (Jvm.Cond.fieldLinkNest "VectorVersions$Store" (188 : Nat) "VectorVersions$Version" "original" "[I" "VectorVersions") ∈ lw_tbl := lw_at lw_m3 211 rfl
theorem q827 : (Jvm.Cond.fieldLinkNest "VectorVersions$Store" (165 : Nat) "VectorVersions$Version" "released" "Z" "VectorVersions") ∈ lw_tbl := lw_at lw_m3 213 rfl
theorem q1083 : (Jvm.Cond.instanceMethod ({ cls := "VectorVersions$Store", name := "tree", desc := "(I)LVectorVersions$Tree;" } : Jvm.MethodName)) ∈ lw_all := lw_g (lw_at lw_m4 229 rfl) rfl
theorem q1084 : (Jvm.Cond.selects "VectorVersions$Store" ({ cls := "VectorVersions$Store", name := "tree", desc := "(I)LVectorVersions$Tree;" } : Jvm.MethodName) ({ cls := "VectorVersions$Store", name := "tree", desc := "(I)LVectorVersions$Tree;" } : Jvm.MethodName)) ∈ lw_all := lw_g (lw_at lw_m4 230 rfl) rfl
theorem q1085 : (Jvm.Cond.code ({ cls := "VectorVersions$Store", name := "tree", desc := "(I)LVectorVersions$Tree;" } : Jvm.MethodName) prog_12_method_4_code (2 : Nat) (Option.some (Jvm.ClassFile.FieldType.object "VectorVersions$Tree"))) ∈ lw_all := lw_g (lw_at lw_m4 231 rfl) rfl
theorem q1086 : (Jvm.Cond.methodLink "VectorVersions$Store" (31 : Nat) ({ cls := "VectorVersions$Store", name := "version", desc := "(I)LVectorVersions$Version;" } : Jvm.MethodName)) ∈ lw_all := lw_g (lw_at lw_m4 232 rfl) rfl
theorem q1087 : (Jvm.Cond.instanceMethod ({ cls := "VectorVersions$Store", name := "version", desc := "(I)LVectorVersions$Version;" } : Jvm.MethodName)) ∈ lw_all := lw_g (lw_at lw_m4 233 rfl) rfl
theorem q1088 : (Jvm.Cond.selects "VectorVersions$Store" ({ cls := "VectorVersions$Store", name := "version", desc := "(I)LVectorVersions$Version;" } : Jvm.MethodName) ({ cls := "VectorVersions$Store", name := "version", desc := "(I)LVectorVersions$Version;" } : Jvm.MethodName)) ∈ lw_all := lw_g (lw_at lw_m4 234 rfl) rfl
theorem q1089 : (Jvm.Cond.code ({ cls := "VectorVersions$Store", name := "version", desc := "(I)LVectorVersions$Version;" } : Jvm.MethodName) prog_12_method_3_code (2 : Nat) (Option.some (Jvm.ClassFile.FieldType.object "VectorVersions$Version"))) ∈ lw_all := lw_g (lw_at lw_m4 235 rfl) rfl
theorem q1266 : (Jvm.Cond.instanceMethod ({ cls := "VectorVersions$Store", name := "copy", desc := "()LVectorVersions$Store;" } : Jvm.MethodName)) ∈ lw_all := lw_g (lw_at lw_m5 172 rfl) rfl
theorem q1267 : (Jvm.Cond.selects "VectorVersions$Store" ({ cls := "VectorVersions$Store", name := "copy", desc := "()LVectorVersions$Store;" } : Jvm.MethodName) ({ cls := "VectorVersions$Store", name := "copy", desc := "()LVectorVersions$Store;" } : Jvm.MethodName)) ∈ lw_all := lw_g (lw_at lw_m5 173 rfl) rfl
theorem q1268 : (Jvm.Cond.code ({ cls := "VectorVersions$Store", name := "copy", desc := "()LVectorVersions$Store;" } : Jvm.MethodName) prog_12_method_2_code (3 : Nat) (Option.some (Jvm.ClassFile.FieldType.object "VectorVersions$Store"))) ∈ lw_all := lw_g (lw_at lw_m5 174 rfl) rfl
theorem q1269 : (Jvm.Cond.classLink "VectorVersions$Store" (15 : Nat) "VectorVersions$Store") ∈ lw_all := lw_g (lw_at lw_m5 175 rfl) rfl
theorem q1270 : (Jvm.Cond.methodLink "VectorVersions$Store" (24 : Nat) ({ cls := "VectorVersions$Store", name := "<init>", desc := "()V" } : Jvm.MethodName)) ∈ lw_all := lw_g (lw_at lw_m5 176 rfl) rfl
theorem q1271 : (Jvm.Cond.methodLink "VectorVersions$Store" (35 : Nat) ({ cls := "VectorVersions$Version", name := "copy", desc := "()LVectorVersions$Version;" } : Jvm.MethodName)) ∈ lw_all := lw_g (lw_at lw_m5 177 rfl) rfl
theorem q1371 : (Jvm.Cond.instanceMethod ({ cls := "VectorVersions$Store", name := "set", desc := "(III)I" } : Jvm.MethodName)) ∈ lw_all := lw_g (lw_at lw_m6 37 rfl) rfl
theorem q1372 : (Jvm.Cond.selects "VectorVersions$Store" ({ cls := "VectorVersions$Store", name := "set", desc := "(III)I" } : Jvm.MethodName) ({ cls := "VectorVersions$Store", name := "set", desc := "(III)I" } : Jvm.MethodName)) ∈ lw_all := lw_g (lw_at lw_m6 38 rfl) rfl
theorem q1373 : (Jvm.Cond.code ({ cls := "VectorVersions$Store", name := "set", desc := "(III)I" } : Jvm.MethodName) prog_12_method_18_code (8 : Nat) (Option.some Jvm.ClassFile.FieldType.int)) ∈ lw_all := lw_g (lw_at lw_m6 39 rfl) rfl
theorem q1374 : (Jvm.Cond.methodLink "VectorVersions$Store" (173 : Nat) ({ cls := "VectorVersions$Store", name := "source", desc := "(I)LVectorVersions$Version;" } : Jvm.MethodName)) ∈ lw_all := lw_g (lw_at lw_m6 40 rfl) rfl
theorem q1375 : (Jvm.Cond.privateMethod ({ cls := "VectorVersions$Store", name := "source", desc := "(I)LVectorVersions$Version;" } : Jvm.MethodName)) ∈ lw_tbl := lw_at lw_m6 41 rfl
theorem q1376 : (Jvm.Cond.instanceMethod ({ cls := "VectorVersions$Store", name := "source", desc := "(I)LVectorVersions$Version;" } : Jvm.MethodName)) ∈ lw_all := lw_g (lw_at lw_m6 42 rfl) rfl
theorem q1377 : (Jvm.Cond.code ({ cls := "VectorVersions$Store", name := "source", desc := "(I)LVectorVersions$Version;" } : Jvm.MethodName) prog_12_method_17_code (2 : Nat) (Option.some (Jvm.ClassFile.FieldType.object "VectorVersions$Version"))) ∈ lw_all := lw_g (lw_at lw_m6 43 rfl) rfl
theorem q1378 : (Jvm.Cond.methodLinkNest "VectorVersions$Store" (169 : Nat) ({ cls := "VectorVersions", name := "checkState", desc := "(Z)V" } : Jvm.MethodName) "VectorVersions") ∈ lw_tbl := lw_at lw_m6 44 rfl
theorem q1385 : (Jvm.Cond.methodLink "VectorVersions$Store" (178 : Nat) ({ cls := "VectorVersions$Tree", name := "get", desc := "(I)Ljava/lang/Comparable;" } : Jvm.MethodName)) ∈ lw_all := lw_g (lw_at lw_m6 51 rfl) rfl
theorem q1400 : (Jvm.Cond.methodLink "VectorVersions$Store" (113 : Nat) ({ cls := "VectorVersions$Store", name := "copyPath", desc := "(LVectorVersions$Node;III)LVectorVersions$Node;" } : Jvm.MethodName)) ∈ lw_all := lw_g (lw_at lw_m6 66 rfl) rfl
theorem q1401 : (Jvm.Cond.privateMethod ({ cls := "VectorVersions$Store", name := "copyPath", desc := "(LVectorVersions$Node;III)LVectorVersions$Node;" } : Jvm.MethodName)) ∈ lw_tbl := lw_at lw_m6 67 rfl
theorem q1402 : (Jvm.Cond.instanceMethod ({ cls := "VectorVersions$Store", name := "copyPath", desc := "(LVectorVersions$Node;III)LVectorVersions$Node;" } : Jvm.MethodName)) ∈ lw_all := lw_g (lw_at lw_m6 68 rfl) rfl
theorem q1403 : (Jvm.Cond.code ({ cls := "VectorVersions$Store", name := "copyPath", desc := "(LVectorVersions$Node;III)LVectorVersions$Node;" } : Jvm.MethodName) prog_12_method_11_code (9 : Nat) (Option.some (Jvm.ClassFile.FieldType.object "VectorVersions$Node"))) ∈ lw_all := lw_g (lw_at lw_m6 69 rfl) rfl
theorem q1404 : (Jvm.Cond.methodLink "VectorVersions$Store" (90 : Nat) ({ cls := "VectorVersions$Store", name := "elements", desc := "(LVectorVersions$Node;I)Ljava/util/List;" } : Jvm.MethodName)) ∈ lw_all := lw_g (lw_at lw_m6 70 rfl) rfl
theorem q1405 : (Jvm.Cond.privateMethod ({ cls := "VectorVersions$Store", name := "elements", desc := "(LVectorVersions$Node;I)Ljava/util/List;" } : Jvm.MethodName)) ∈ lw_tbl := lw_at lw_m6 71 rfl
theorem q1406 : (Jvm.Cond.instanceMethod ({ cls := "VectorVersions$Store", name := "elements", desc := "(LVectorVersions$Node;I)Ljava/util/List;" } : Jvm.MethodName)) ∈ lw_all := lw_g (lw_at lw_m6 72 rfl) rfl
theorem q1407 : (Jvm.Cond.code ({ cls := "VectorVersions$Store", name := "elements", desc := "(LVectorVersions$Node;I)Ljava/util/List;" } : Jvm.MethodName) prog_12_method_8_code (5 : Nat) (Option.some (Jvm.ClassFile.FieldType.object "java/util/List"))) ∈ lw_all := lw_g (lw_at lw_m6 73 rfl) rfl
theorem q1408 : (Jvm.Cond.methodLink "VectorVersions$Store" (71 : Nat) ({ cls := "VectorVersions$Node", name := "count", desc := "()I" } : Jvm.MethodName)) ∈ lw_all := lw_g (lw_at lw_m6 74 rfl) rfl
theorem q1417 : (Jvm.Cond.methodLink "VectorVersions$Store" (74 : Nat) ({ cls := "VectorVersions$Node", name := "element", desc := "(II)Ljava/lang/Comparable;" } : Jvm.MethodName)) ∈ lw_all := lw_g (lw_at lw_m6 83 rfl) rfl
theorem q1418 : (Jvm.Cond.methodLink "VectorVersions$Store" (94 : Nat) ({ cls := "java/lang/Integer", name := "valueOf", desc := "(I)Ljava/lang/Integer;" } : Jvm.MethodName)) ∈ lw_all := lw_g (lw_at lw_m6 84 rfl) rfl
theorem q1419 : (Jvm.Cond.methodLink "VectorVersions$Store" (98 : Nat) ({ cls := "VectorVersions$Store", name := "put", desc := "(Ljava/util/List;ILjava/lang/Object;)V" } : Jvm.MethodName)) ∈ lw_all := lw_g (lw_at lw_m6 85 rfl) rfl
theorem q1420 : (Jvm.Cond.static ({ cls := "VectorVersions$Store", name := "put", desc := "(Ljava/util/List;ILjava/lang/Object;)V" } : Jvm.MethodName)) ∈ lw_all := lw_g (lw_at lw_m6 86 rfl) rfl
theorem q1421 : (Jvm.Cond.code ({ cls := "VectorVersions$Store", name := "put", desc := "(Ljava/util/List;ILjava/lang/Object;)V" } : Jvm.MethodName) prog_12_method_10_code (3 : Nat) (Option.none : Option Jvm.ClassFile.FieldType)) ∈ lw_all := lw_g (lw_at lw_m6 87 rfl) rfl
theorem q1422 : (Jvm.Cond.interfaceEntry "VectorVersions$Store" (84 : Nat)) ∈ lw_tbl := lw_at lw_m6 88 rfl
theorem q1423 : (Jvm.Cond.methodLink "VectorVersions$Store" (84 : Nat) ({ cls := "java/util/List", name := "remove", desc := "(I)Ljava/lang/Object;" } : Jvm.MethodName)) ∈ lw_all := lw_g (lw_at lw_m6 89 rfl) rfl
theorem q1436 : (Jvm.Cond.interfaceEntry "VectorVersions$Store" (87 : Nat)) ∈ lw_tbl := lw_at lw_m6 102 rfl
theorem q1437 : (Jvm.Cond.methodLink "VectorVersions$Store" (87 : Nat) ({ cls := "java/util/List", name := "add", desc := "(ILjava/lang/Object;)V" } : Jvm.MethodName)) ∈ lw_all := lw_g (lw_at lw_m6 103 rfl) rfl
theorem q1470 : (Jvm.Cond.methodLinkNest "VectorVersions$Store" (106 : Nat) ({ cls := "VectorVersions", name := "capacity", desc := "(I)I" } : Jvm.MethodName) "VectorVersions") ∈ lw_tbl := lw_at lw_m6 136 rfl
theorem q1471 : (Jvm.Cond.methodLink "VectorVersions$Store" (110 : Nat) ({ cls := "VectorVersions$Store", name := "children", desc := "(LVectorVersions$Node;I)Ljava/util/List;" } : Jvm.MethodName)) ∈ lw_all := lw_g (lw_at lw_m6 137 rfl) rfl
theorem q1472 : (Jvm.Cond.privateMethod ({ cls := "VectorVersions$Store", name := "children", desc := "(LVectorVersions$Node;I)Ljava/util/List;" } : Jvm.MethodName)) ∈ lw_tbl := lw_at lw_m6 138 rfl
theorem q1473 : (Jvm.Cond.instanceMethod ({ cls := "VectorVersions$Store", name := "children", desc := "(LVectorVersions$Node;I)Ljava/util/List;" } : Jvm.MethodName)) ∈ lw_all := lw_g (lw_at lw_m6 139 rfl) rfl
theorem q1474 : (Jvm.Cond.code ({ cls := "VectorVersions$Store", name := "children", desc := "(LVectorVersions$Node;I)Ljava/util/List;" } : Jvm.MethodName) prog_12_method_9_code (5 : Nat) (Option.some (Jvm.ClassFile.FieldType.object "java/util/List"))) ∈ lw_all := lw_g (lw_at lw_m6 140 rfl) rfl
theorem q1475 : (Jvm.Cond.methodLink "VectorVersions$Store" (80 : Nat) ({ cls := "VectorVersions$Node", name := "child", desc := "(I)LVectorVersions$Node;" } : Jvm.MethodName)) ∈ lw_all := lw_g (lw_at lw_m6 141 rfl) rfl
theorem q1484 : (Jvm.Cond.methodLink "VectorVersions$Store" (192 : Nat) ({ cls := "VectorVersions$Store", name := "withElement", desc := "([III)[I" } : Jvm.MethodName)) ∈ lw_all := lw_g (lw_at lw_m6 150 rfl) rfl
theorem q1485 : (Jvm.Cond.static ({ cls := "VectorVersions$Store", name := "withElement", desc := "([III)[I" } : Jvm.MethodName)) ∈ lw_all := lw_g (lw_at lw_m6 151 rfl) rfl
theorem q1486 : (Jvm.Cond.code ({ cls := "VectorVersions$Store", name := "withElement", desc := "([III)[I" } : Jvm.MethodName) prog_12_method_13_code (4 : Nat) (Option.some (Jvm.ClassFile.FieldType.array Jvm.ClassFile.FieldType.int))) ∈ lw_all := lw_g (lw_at lw_m6 152 rfl) rfl
theorem q1487 : (Jvm.Cond.methodLink "VectorVersions$Store" (130 : Nat) ({ cls := "java/lang/Math", name := "max", desc := "(II)I" } : Jvm.MethodName)) ∈ lw_all := lw_g (lw_at lw_m6 153 rfl) rfl
theorem q1488 : (Jvm.Cond.methodLink "VectorVersions$Store" (133 : Nat) ({ cls := "java/lang/System", name := "arraycopy", desc := "(Ljava/lang/Object;ILjava/lang/Object;II)V" } : Jvm.MethodName)) ∈ lw_all := lw_g (lw_at lw_m6 154 rfl) rfl
theorem q1493 : (Jvm.Cond.instanceMethod ({ cls := "VectorVersions$Store", name := "append", desc := "(II)I" } : Jvm.MethodName)) ∈ lw_all := lw_g (lw_at lw_m6 159 rfl) rfl
theorem q1494 : (Jvm.Cond.selects "VectorVersions$Store" ({ cls := "VectorVersions$Store", name := "append", desc := "(II)I" } : Jvm.MethodName) ({ cls := "VectorVersions$Store", name := "append", desc := "(II)I" } : Jvm.MethodName)) ∈ lw_all := lw_g (lw_at lw_m6 160 rfl) rfl
theorem q1495 : (Jvm.Cond.code ({ cls := "VectorVersions$Store", name := "append", desc := "(II)I" } : Jvm.MethodName) prog_12_method_19_code (8 : Nat) (Option.some Jvm.ClassFile.FieldType.int)) ∈ lw_all := lw_g (lw_at lw_m6 161 rfl) rfl
theorem q1496 : (Jvm.Cond.methodLink "VectorVersions$Store" (196 : Nat) ({ cls := "VectorVersions$Store", name := "grow", desc := "(LVectorVersions$Tree;II)LVectorVersions$Node;" } : Jvm.MethodName)) ∈ lw_all := lw_g (lw_at lw_m6 162 rfl) rfl
theorem q1497 : (Jvm.Cond.privateMethod ({ cls := "VectorVersions$Store", name := "grow", desc := "(LVectorVersions$Tree;II)LVectorVersions$Node;" } : Jvm.MethodName)) ∈ lw_tbl := lw_at lw_m6 163 rfl
theorem q1498 : (Jvm.Cond.instanceMethod ({ cls := "VectorVersions$Store", name := "grow", desc := "(LVectorVersions$Tree;II)LVectorVersions$Node;" } : Jvm.MethodName)) ∈ lw_all := lw_g (lw_at lw_m6 164 rfl) rfl
theorem q1499 : (Jvm.Cond.code ({ cls := "VectorVersions$Store", name := "grow", desc := "(LVectorVersions$Tree;II)LVectorVersions$Node;" } : Jvm.MethodName) prog_12_method_20_code (6 : Nat) (Option.some (Jvm.ClassFile.FieldType.object "VectorVersions$Node"))) ∈ lw_all := lw_g (lw_at lw_m6 165 rfl) rfl
theorem q1504 : (Jvm.Cond.instanceMethod ({ cls := "VectorVersions$Store", name := "truncate", desc := "(II)I" } : Jvm.MethodName)) ∈ lw_all := lw_g (lw_at lw_m6 170 rfl) rfl
theorem q1505 : (Jvm.Cond.selects "VectorVersions$Store" ({ cls := "VectorVersions$Store", name := "truncate", desc := "(II)I" } : Jvm.MethodName) ({ cls := "VectorVersions$Store", name := "truncate", desc := "(II)I" } : Jvm.MethodName)) ∈ lw_all := lw_g (lw_at lw_m6 171 rfl) rfl
theorem q1506 : (Jvm.Cond.code ({ cls := "VectorVersions$Store", name := "truncate", desc := "(II)I" } : Jvm.MethodName) prog_12_method_21_code (10 : Nat) (Option.some Jvm.ClassFile.FieldType.int)) ∈ lw_all := lw_g (lw_at lw_m6 172 rfl) rfl
theorem q1507 : (Jvm.Cond.methodLink "VectorVersions$Store" (127 : Nat) ({ cls := "VectorVersions$Store", name := "cutPath", desc := "(LVectorVersions$Node;III)LVectorVersions$Node;" } : Jvm.MethodName)) ∈ lw_all := lw_g (lw_at lw_m6 173 rfl) rfl
theorem q1508 : (Jvm.Cond.privateMethod ({ cls := "VectorVersions$Store", name := "cutPath", desc := "(LVectorVersions$Node;III)LVectorVersions$Node;" } : Jvm.MethodName)) ∈ lw_tbl := lw_at lw_m6 174 rfl
theorem q1509 : (Jvm.Cond.instanceMethod ({ cls := "VectorVersions$Store", name := "cutPath", desc := "(LVectorVersions$Node;III)LVectorVersions$Node;" } : Jvm.MethodName)) ∈ lw_all := lw_g (lw_at lw_m6 175 rfl) rfl
theorem q1510 : (Jvm.Cond.code ({ cls := "VectorVersions$Store", name := "cutPath", desc := "(LVectorVersions$Node;III)LVectorVersions$Node;" } : Jvm.MethodName) prog_12_method_12_code (9 : Nat) (Option.some (Jvm.ClassFile.FieldType.object "VectorVersions$Node"))) ∈ lw_all := lw_g (lw_at lw_m6 176 rfl) rfl
theorem q1515 : (Jvm.Cond.instanceMethod ({ cls := "VectorVersions$Store", name := "release", desc := "(I)I" } : Jvm.MethodName)) ∈ lw_all := lw_g (lw_at lw_m6 181 rfl) rfl
theorem q1516 : (Jvm.Cond.selects "VectorVersions$Store" ({ cls := "VectorVersions$Store", name := "release", desc := "(I)I" } : Jvm.MethodName) ({ cls := "VectorVersions$Store", name := "release", desc := "(I)I" } : Jvm.MethodName)) ∈ lw_all := lw_g (lw_at lw_m6 182 rfl) rfl
theorem q1517 : (Jvm.Cond.code ({ cls := "VectorVersions$Store", name := "release", desc := "(I)I" } : Jvm.MethodName) prog_12_method_22_code (2 : Nat) (Option.some Jvm.ClassFile.FieldType.int)) ∈ lw_all := lw_g (lw_at lw_m6 183 rfl) rfl
theorem q1518 : (Jvm.Cond.methodLink "VectorVersions$Store" (200 : Nat) ({ cls := "VectorVersions$Store", name := "garbage", desc := "()I" } : Jvm.MethodName)) ∈ lw_all := lw_g (lw_at lw_m6 184 rfl) rfl
theorem q1519 : (Jvm.Cond.instanceMethod ({ cls := "VectorVersions$Store", name := "garbage", desc := "()I" } : Jvm.MethodName)) ∈ lw_all := lw_g (lw_at lw_m6 185 rfl) rfl
theorem q1520 : (Jvm.Cond.selects "VectorVersions$Store" ({ cls := "VectorVersions$Store", name := "garbage", desc := "()I" } : Jvm.MethodName) ({ cls := "VectorVersions$Store", name := "garbage", desc := "()I" } : Jvm.MethodName)) ∈ lw_all := lw_g (lw_at lw_m6 186 rfl) rfl
theorem q1521 : (Jvm.Cond.code ({ cls := "VectorVersions$Store", name := "garbage", desc := "()I" } : Jvm.MethodName) prog_12_method_29_code (1 : Nat) (Option.some Jvm.ClassFile.FieldType.int)) ∈ lw_all := lw_g (lw_at lw_m6 187 rfl) rfl
theorem q1522 : (Jvm.Cond.methodLink "VectorVersions$Store" (203 : Nat) ({ cls := "VectorVersions$Store", name := "reachable", desc := "(I)[Z" } : Jvm.MethodName)) ∈ lw_all := lw_g (lw_at lw_m6 188 rfl) rfl
theorem q1523 : (Jvm.Cond.instanceMethod ({ cls := "VectorVersions$Store", name := "reachable", desc := "(I)[Z" } : Jvm.MethodName)) ∈ lw_all := lw_g (lw_at lw_m6 189 rfl) rfl
theorem q1524 : (Jvm.Cond.selects "VectorVersions$Store" ({ cls := "VectorVersions$Store", name := "reachable", desc := "(I)[Z" } : Jvm.MethodName) ({ cls := "VectorVersions$Store", name := "reachable", desc := "(I)[Z" } : Jvm.MethodName)) ∈ lw_all := lw_g (lw_at lw_m6 190 rfl) rfl
theorem q1525 : (Jvm.Cond.code ({ cls := "VectorVersions$Store", name := "reachable", desc := "(I)[Z" } : Jvm.MethodName) prog_12_method_26_code (4 : Nat) (Option.some (Jvm.ClassFile.FieldType.array Jvm.ClassFile.FieldType.boolean))) ∈ lw_all := lw_g (lw_at lw_m6 191 rfl) rfl
theorem q1526 : (Jvm.Cond.methodLink "VectorVersions$Store" (232 : Nat) ({ cls := "VectorVersions$Store", name := "tree", desc := "(I)LVectorVersions$Tree;" } : Jvm.MethodName)) ∈ lw_all := lw_g (lw_at lw_m6 192 rfl) rfl
theorem q1527 : (Jvm.Cond.methodLink "VectorVersions$Store" (228 : Nat) ({ cls := "VectorVersions$Store", name := "reach", desc := "(LVectorVersions$Node;[Z)V" } : Jvm.MethodName)) ∈ lw_all := lw_g (lw_at lw_m6 193 rfl) rfl
theorem q1528 : (Jvm.Cond.privateMethod ({ cls := "VectorVersions$Store", name := "reach", desc := "(LVectorVersions$Node;[Z)V" } : Jvm.MethodName)) ∈ lw_tbl := lw_at lw_m6 194 rfl
theorem q1529 : (Jvm.Cond.instanceMethod ({ cls := "VectorVersions$Store", name := "reach", desc := "(LVectorVersions$Node;[Z)V" } : Jvm.MethodName)) ∈ lw_all := lw_g (lw_at lw_m6 195 rfl) rfl
theorem q1530 : (Jvm.Cond.code ({ cls := "VectorVersions$Store", name := "reach", desc := "(LVectorVersions$Node;[Z)V" } : Jvm.MethodName) prog_12_method_24_code (4 : Nat) (Option.none : Option Jvm.ClassFile.FieldType)) ∈ lw_all := lw_g (lw_at lw_m6 196 rfl) rfl
theorem q1531 : (Jvm.Cond.methodLink "VectorVersions$Store" (225 : Nat) ({ cls := "VectorVersions$Node", name := "isLeaf", desc := "()Z" } : Jvm.MethodName)) ∈ lw_all := lw_g (lw_at lw_m6 197 rfl) rfl
theorem q1540 : (Jvm.Cond.methodLink "VectorVersions$Store" (235 : Nat) ({ cls := "VectorVersions$Store", name := "count", desc := "([Z)I" } : Jvm.MethodName)) ∈ lw_all := lw_g (lw_at lw_m6 206 rfl) rfl
theorem q1541 : (Jvm.Cond.static ({ cls := "VectorVersions$Store", name := "count", desc := "([Z)I" } : Jvm.MethodName)) ∈ lw_all := lw_g (lw_at lw_m6 207 rfl) rfl
theorem q1542 : (Jvm.Cond.code ({ cls := "VectorVersions$Store", name := "count", desc := "([Z)I" } : Jvm.MethodName) prog_12_method_27_code (6 : Nat) (Option.some Jvm.ClassFile.FieldType.int)) ∈ lw_all := lw_g (lw_at lw_m6 208 rfl) rfl
theorem q1547 : (Jvm.Cond.instanceMethod ({ cls := "VectorVersions$Store", name := "collect", desc := "()I" } : Jvm.MethodName)) ∈ lw_all := lw_g (lw_at lw_m6 213 rfl) rfl
theorem q1548 : (Jvm.Cond.selects "VectorVersions$Store" ({ cls := "VectorVersions$Store", name := "collect", desc := "()I" } : Jvm.MethodName) ({ cls := "VectorVersions$Store", name := "collect", desc := "()I" } : Jvm.MethodName)) ∈ lw_all := lw_g (lw_at lw_m6 214 rfl) rfl
theorem q1549 : (Jvm.Cond.code ({ cls := "VectorVersions$Store", name := "collect", desc := "()I" } : Jvm.MethodName) prog_12_method_23_code (4 : Nat) (Option.some Jvm.ClassFile.FieldType.int)) ∈ lw_all := lw_g (lw_at lw_m6 215 rfl) rfl
theorem q1550 : (Jvm.Cond.interfaceEntry "VectorVersions$Store" (207 : Nat)) ∈ lw_tbl := lw_at lw_m6 216 rfl
theorem q1551 : (Jvm.Cond.methodLink "VectorVersions$Store" (207 : Nat) ({ cls := "java/util/List", name := "iterator", desc := "()Ljava/util/Iterator;" } : Jvm.MethodName)) ∈ lw_all := lw_g (lw_at lw_m6 217 rfl) rfl
theorem q1579 : (Jvm.Cond.interfaceEntry "VectorVersions$Store" (211 : Nat)) ∈ lw_tbl := lw_at lw_m7 5 rfl
theorem q1580 : (Jvm.Cond.methodLink "VectorVersions$Store" (211 : Nat) ({ cls := "java/util/Iterator", name := "hasNext", desc := "()Z" } : Jvm.MethodName)) ∈ lw_all := lw_g (lw_at lw_m7 6 rfl) rfl
theorem q1595 : (Jvm.Cond.interfaceEntry "VectorVersions$Store" (216 : Nat)) ∈ lw_tbl := lw_at lw_m7 21 rfl
theorem q1596 : (Jvm.Cond.methodLink "VectorVersions$Store" (216 : Nat) ({ cls := "java/util/Iterator", name := "next", desc := "()Ljava/lang/Object;" } : Jvm.MethodName)) ∈ lw_all := lw_g (lw_at lw_m7 22 rfl) rfl
theorem q1645 : (Jvm.Cond.interfaceEntry "VectorVersions$Store" (223 : Nat)) ∈ lw_tbl := lw_at lw_m7 71 rfl
theorem q1646 : (Jvm.Cond.methodLink "VectorVersions$Store" (223 : Nat) ({ cls := "java/util/Iterator", name := "remove", desc := "()V" } : Jvm.MethodName)) ∈ lw_all := lw_g (lw_at lw_m7 72 rfl) rfl
theorem q1715 : (Jvm.Cond.instanceMethod ({ cls := "VectorVersions$Store", name := "reachableFrom", desc := "(I)[Z" } : Jvm.MethodName)) ∈ lw_all := lw_g (lw_at lw_m7 141 rfl) rfl
theorem q1716 : (Jvm.Cond.selects "VectorVersions$Store" ({ cls := "VectorVersions$Store", name := "reachableFrom", desc := "(I)[Z" } : Jvm.MethodName) ({ cls := "VectorVersions$Store", name := "reachableFrom", desc := "(I)[Z" } : Jvm.MethodName)) ∈ lw_all := lw_g (lw_at lw_m7 142 rfl) rfl
theorem q1717 : (Jvm.Cond.code ({ cls := "VectorVersions$Store", name := "reachableFrom", desc := "(I)[Z" } : Jvm.MethodName) prog_12_method_25_code (3 : Nat) (Option.some (Jvm.ClassFile.FieldType.array Jvm.ClassFile.FieldType.boolean))) ∈ lw_all := lw_g (lw_at lw_m7 143 rfl) rfl
theorem q1731 : (Jvm.Cond.instanceMethod ({ cls := "VectorVersions$Store", name := "isConsistent", desc := "()Z" } : Jvm.MethodName)) ∈ lw_all := lw_g (lw_at lw_m7 157 rfl) rfl
theorem q1732 : (Jvm.Cond.selects "VectorVersions$Store" ({ cls := "VectorVersions$Store", name := "isConsistent", desc := "()Z" } : Jvm.MethodName) ({ cls := "VectorVersions$Store", name := "isConsistent", desc := "()Z" } : Jvm.MethodName)) ∈ lw_all := lw_g (lw_at lw_m7 158 rfl) rfl
theorem q1733 : (Jvm.Cond.code ({ cls := "VectorVersions$Store", name := "isConsistent", desc := "()Z" } : Jvm.MethodName) prog_12_method_39_code (4 : Nat) (Option.some Jvm.ClassFile.FieldType.boolean)) ∈ lw_all := lw_g (lw_at lw_m7 159 rfl) rfl
theorem q1734 : (Jvm.Cond.methodLink "VectorVersions$Store" (257 : Nat) ({ cls := "VectorVersions$Version", name := "isUnchanged", desc := "()Z" } : Jvm.MethodName)) ∈ lw_all := lw_g (lw_at lw_m7 160 rfl) rfl
theorem q1770 : (Jvm.Cond.methodLink "VectorVersions$Store" (260 : Nat) ({ cls := "VectorVersions$Tree", name := "isRegular", desc := "()Z" } : Jvm.MethodName)) ∈ lw_all := lw_g (lw_at lw_m7 196 rfl) rfl
theorem q1784 : (Jvm.Cond.methodLink "VectorVersions$Store" (252 : Nat) ({ cls := "VectorVersions$Store", name := "leadsToRoot", desc := "(LVectorVersions$Node;)Z" } : Jvm.MethodName)) ∈ lw_all := lw_g (lw_at lw_m7 210 rfl) rfl
theorem q1785 : (Jvm.Cond.privateMethod ({ cls := "VectorVersions$Store", name := "leadsToRoot", desc := "(LVectorVersions$Node;)Z" } : Jvm.MethodName)) ∈ lw_tbl := lw_at lw_m7 211 rfl
theorem q1786 : (Jvm.Cond.instanceMethod ({ cls := "VectorVersions$Store", name := "leadsToRoot", desc := "(LVectorVersions$Node;)Z" } : Jvm.MethodName)) ∈ lw_all := lw_g (lw_at lw_m7 212 rfl) rfl
theorem q1787 : (Jvm.Cond.code ({ cls := "VectorVersions$Store", name := "leadsToRoot", desc := "(LVectorVersions$Node;)Z" } : Jvm.MethodName) prog_12_method_38_code (5 : Nat) (Option.some Jvm.ClassFile.FieldType.boolean)) ∈ lw_all := lw_g (lw_at lw_m7 213 rfl) rfl
theorem q1866 : (Jvm.Cond.instanceMethod ({ cls := "VectorVersions$Store", name := "depth", desc := "(I)I" } : Jvm.MethodName)) ∈ lw_all := lw_g (lw_at lw_m8 52 rfl) rfl
theorem q1867 : (Jvm.Cond.selects "VectorVersions$Store" ({ cls := "VectorVersions$Store", name := "depth", desc := "(I)I" } : Jvm.MethodName) ({ cls := "VectorVersions$Store", name := "depth", desc := "(I)I" } : Jvm.MethodName)) ∈ lw_all := lw_g (lw_at lw_m8 53 rfl) rfl
theorem q1868 : (Jvm.Cond.code ({ cls := "VectorVersions$Store", name := "depth", desc := "(I)I" } : Jvm.MethodName) prog_12_method_36_code (4 : Nat) (Option.some Jvm.ClassFile.FieldType.int)) ∈ lw_all := lw_g (lw_at lw_m8 54 rfl) rfl
theorem q1884 : (Jvm.Cond.instanceMethod ({ cls := "VectorVersions$Store", name := "commonAncestor", desc := "(II)I" } : Jvm.MethodName)) ∈ lw_all := lw_g (lw_at lw_m8 70 rfl) rfl
theorem q1885 : (Jvm.Cond.selects "VectorVersions$Store" ({ cls := "VectorVersions$Store", name := "commonAncestor", desc := "(II)I" } : Jvm.MethodName) ({ cls := "VectorVersions$Store", name := "commonAncestor", desc := "(II)I" } : Jvm.MethodName)) ∈ lw_all := lw_g (lw_at lw_m8 71 rfl) rfl
theorem q1886 : (Jvm.Cond.code ({ cls := "VectorVersions$Store", name := "commonAncestor", desc := "(II)I" } : Jvm.MethodName) prog_12_method_37_code (5 : Nat) (Option.some Jvm.ClassFile.FieldType.int)) ∈ lw_all := lw_g (lw_at lw_m8 72 rfl) rfl
theorem q2193 : (Jvm.Cond.static ({ cls := "VectorVersions$Store", name := "countBoth", desc := "([Z[ZZ)I" } : Jvm.MethodName)) ∈ lw_all := lw_g (lw_at lw_m9 139 rfl) rfl
theorem q2194 : (Jvm.Cond.code ({ cls := "VectorVersions$Store", name := "countBoth", desc := "([Z[ZZ)I" } : Jvm.MethodName) prog_12_method_28_code (5 : Nat) (Option.some Jvm.ClassFile.FieldType.int)) ∈ lw_all := lw_g (lw_at lw_m9 140 rfl) rfl
theorem q2214 : (Jvm.Cond.instanceMethod ({ cls := "VectorVersions$Store", name := "node", desc := "(I)LVectorVersions$Node;" } : Jvm.MethodName)) ∈ lw_all := lw_g (lw_at lw_m9 160 rfl) rfl
theorem q2215 : (Jvm.Cond.selects "VectorVersions$Store" ({ cls := "VectorVersions$Store", name := "node", desc := "(I)LVectorVersions$Node;" } : Jvm.MethodName) ({ cls := "VectorVersions$Store", name := "node", desc := "(I)LVectorVersions$Node;" } : Jvm.MethodName)) ∈ lw_all := lw_g (lw_at lw_m9 161 rfl) rfl
theorem q2216 : (Jvm.Cond.code ({ cls := "VectorVersions$Store", name := "node", desc := "(I)LVectorVersions$Node;" } : Jvm.MethodName) prog_12_method_31_code (3 : Nat) (Option.some (Jvm.ClassFile.FieldType.object "VectorVersions$Node"))) ∈ lw_all := lw_g (lw_at lw_m9 162 rfl) rfl
theorem q2242 : (Jvm.Cond.instanceMethod ({ cls := "VectorVersions$Store", name := "references", desc := "(LVectorVersions$Node;)I" } : Jvm.MethodName)) ∈ lw_all := lw_g (lw_at lw_m9 188 rfl) rfl
theorem q2243 : (Jvm.Cond.selects "VectorVersions$Store" ({ cls := "VectorVersions$Store", name := "references", desc := "(LVectorVersions$Node;)I" } : Jvm.MethodName) ({ cls := "VectorVersions$Store", name := "references", desc := "(LVectorVersions$Node;)I" } : Jvm.MethodName)) ∈ lw_all := lw_g (lw_at lw_m9 189 rfl) rfl
theorem q2244 : (Jvm.Cond.code ({ cls := "VectorVersions$Store", name := "references", desc := "(LVectorVersions$Node;)I" } : Jvm.MethodName) prog_12_method_32_code (5 : Nat) (Option.some Jvm.ClassFile.FieldType.int)) ∈ lw_all := lw_g (lw_at lw_m9 190 rfl) rfl
theorem q2253 : (Jvm.Cond.instanceMethod ({ cls := "VectorVersions$Store", name := "differences", desc := "(LVectorVersions$Tree;LVectorVersions$Tree;)I" } : Jvm.MethodName)) ∈ lw_all := lw_g (lw_at lw_m9 199 rfl) rfl
theorem q2254 : (Jvm.Cond.selects "VectorVersions$Store" ({ cls := "VectorVersions$Store", name := "differences", desc := "(LVectorVersions$Tree;LVectorVersions$Tree;)I" } : Jvm.MethodName) ({ cls := "VectorVersions$Store", name := "differences", desc := "(LVectorVersions$Tree;LVectorVersions$Tree;)I" } : Jvm.MethodName)) ∈ lw_all := lw_g (lw_at lw_m9 200 rfl) rfl
theorem q2255 : (Jvm.Cond.code ({ cls := "VectorVersions$Store", name := "differences", desc := "(LVectorVersions$Tree;LVectorVersions$Tree;)I" } : Jvm.MethodName) prog_12_method_34_code (5 : Nat) (Option.some Jvm.ClassFile.FieldType.int)) ∈ lw_all := lw_g (lw_at lw_m9 201 rfl) rfl
theorem q2256 : (Jvm.Cond.methodLink "VectorVersions$Store" (242 : Nat) ({ cls := "java/lang/Math", name := "abs", desc := "(I)I" } : Jvm.MethodName)) ∈ lw_all := lw_g (lw_at lw_m9 202 rfl) rfl
theorem q2259 : (Jvm.Cond.methodLink "VectorVersions$Store" (238 : Nat) ({ cls := "VectorVersions$Tree", name := "hasSameAt", desc := "(LVectorVersions$Tree;I)Z" } : Jvm.MethodName)) ∈ lw_all := lw_g (lw_at lw_m9 205 rfl) rfl
theorem q2272 : (Jvm.Cond.instanceMethod ({ cls := "VectorVersions$Store", name := "firstDifference", desc := "(LVectorVersions$Tree;LVectorVersions$Tree;)I" } : Jvm.MethodName)) ∈ lw_all := lw_g (lw_at lw_m9 218 rfl) rfl
theorem q2273 : (Jvm.Cond.selects "VectorVersions$Store" ({ cls := "VectorVersions$Store", name := "firstDifference", desc := "(LVectorVersions$Tree;LVectorVersions$Tree;)I" } : Jvm.MethodName) ({ cls := "VectorVersions$Store", name := "firstDifference", desc := "(LVectorVersions$Tree;LVectorVersions$Tree;)I" } : Jvm.MethodName)) ∈ lw_all := lw_g (lw_at lw_m9 219 rfl) rfl
theorem q2274 : (Jvm.Cond.code ({ cls := "VectorVersions$Store", name := "firstDifference", desc := "(LVectorVersions$Tree;LVectorVersions$Tree;)I" } : Jvm.MethodName) prog_12_method_33_code (5 : Nat) (Option.some Jvm.ClassFile.FieldType.int)) ∈ lw_all := lw_g (lw_at lw_m9 220 rfl) rfl
theorem q2283 : (Jvm.Cond.instanceMethod ({ cls := "VectorVersions$Store", name := "visitedPairs", desc := "(LVectorVersions$Node;LVectorVersions$Node;)I" } : Jvm.MethodName)) ∈ lw_all := lw_g (lw_at lw_m9 229 rfl) rfl
theorem q2284 : (Jvm.Cond.selects "VectorVersions$Store" ({ cls := "VectorVersions$Store", name := "visitedPairs", desc := "(LVectorVersions$Node;LVectorVersions$Node;)I" } : Jvm.MethodName) ({ cls := "VectorVersions$Store", name := "visitedPairs", desc := "(LVectorVersions$Node;LVectorVersions$Node;)I" } : Jvm.MethodName)) ∈ lw_all := lw_g (lw_at lw_m9 230 rfl) rfl
theorem q2285 : (Jvm.Cond.code ({ cls := "VectorVersions$Store", name := "visitedPairs", desc := "(LVectorVersions$Node;LVectorVersions$Node;)I" } : Jvm.MethodName) prog_12_method_35_code (5 : Nat) (Option.some Jvm.ClassFile.FieldType.int)) ∈ lw_all := lw_g (lw_at lw_m9 231 rfl) rfl
theorem q2286 : (Jvm.Cond.methodLink "VectorVersions$Store" (245 : Nat) ({ cls := "VectorVersions$Store", name := "visitedPairs", desc := "(LVectorVersions$Node;LVectorVersions$Node;)I" } : Jvm.MethodName)) ∈ lw_all := lw_g (lw_at lw_m9 232 rfl) rfl
theorem q2322 : (Jvm.Cond.instanceMethod ({ cls := "VectorVersions$Store", name := "garbageIfReleased", desc := "(I)I" } : Jvm.MethodName)) ∈ lw_all := lw_g (lw_at lw_m10 28 rfl) rfl
theorem q2323 : (Jvm.Cond.selects "VectorVersions$Store" ({ cls := "VectorVersions$Store", name := "garbageIfReleased", desc := "(I)I" } : Jvm.MethodName) ({ cls := "VectorVersions$Store", name := "garbageIfReleased", desc := "(I)I" } : Jvm.MethodName)) ∈ lw_all := lw_g (lw_at lw_m10 29 rfl) rfl
theorem q2324 : (Jvm.Cond.code ({ cls := "VectorVersions$Store", name := "garbageIfReleased", desc := "(I)I" } : Jvm.MethodName) prog_12_method_30_code (2 : Nat) (Option.some Jvm.ClassFile.FieldType.int)) ∈ lw_all := lw_g (lw_at lw_m10 30 rfl) rfl
theorem q3137 : (Jvm.Cond.castable "VectorVersions$Store" "java/lang/Object") ∈ lw_tbl := lw_at lw_m13 123 rfl
theorem in_X2 : ∀ w ∈ wsX20, w ∈ lw_all := lw_in wsX20 [652, 654, 656] (by decide +kernel) (by decide +kernel)
/-! VectorVersions$Node -/
set_option maxRecDepth 100000
def RX3 : String := "VectorVersions$Node"
abbrev cX3_init : ByteArray := prog_10_method_1_code
def yX3_init : MethodName := ⟨RX3, "<init>", "(I)V"⟩
def dkwX3_init_0 : List UInt8 := [42, 183, 0, 1, 42, 27, 181, 0, 7, 177]
abbrev dktX3_init_0 : List UInt8 := dkwX3_init_0 ++ []
theorem dksX3_init_0 : cX3_init.data.toList.drop 0 = dktX3_init_0 := by decide +kernel
theorem dX3_init_0 : decode cX3_init 0 = .ok (.aload_n 0, 1) := dk_42 (dk_at dksX3_init_0 0 rfl rfl)
theorem dX3_init_1 : decode cX3_init 1 = .ok (.invokespecial 1, 3) := dk_183 0 1 (dk_at dksX3_init_0 1 rfl rfl)
theorem dX3_init_4 : decode cX3_init 4 = .ok (.aload_n 0, 1) := dk_42 (dk_at dksX3_init_0 4 rfl rfl)
theorem dX3_init_5 : decode cX3_init 5 = .ok (.iload_n 1, 1) := dk_27 (dk_at dksX3_init_0 5 rfl rfl)
theorem dX3_init_6 : decode cX3_init 6 = .ok (.putfield 7, 3) := dk_181 0 7 (dk_at dksX3_init_0 6 rfl rfl)
theorem dX3_init_9 : decode cX3_init 9 = .ok (.return_, 1) := dk_177 (dk_at dksX3_init_0 9 rfl rfl)
abbrev cX3_child : ByteArray := prog_10_method_4_code
def yX3_child : MethodName := ⟨RX3, "child", "(I)LVectorVersions$Node;"⟩
theorem dX3_child_0 : decode cX3_child 0 = .ok (.aconst_null, 1) := by decide +kernel
theorem dX3_child_1 : decode cX3_child 1 = .ok (.areturn, 1) := by decide +kernel
theorem q158 : (Jvm.Cond.initialized "VectorVersions$Node") ∈ lw_all := lw_g (lw_at lw_m1 24 rfl) rfl
theorem q709 : (Jvm.Cond.instanceMethod ({ cls := "VectorVersions$Node", name := "<init>", desc := "(I)V" } : Jvm.MethodName)) ∈ lw_all := lw_g (lw_at lw_m3 95 rfl) rfl
theorem q710 : (Jvm.Cond.code ({ cls := "VectorVersions$Node", name := "<init>", desc := "(I)V" } : Jvm.MethodName) prog_10_method_1_code (2 : Nat) (Option.none : Option Jvm.ClassFile.FieldType)) ∈ lw_all := lw_g (lw_at lw_m3 96 rfl) rfl
theorem q711 : (Jvm.Cond.methodLink "VectorVersions$Node" (1 : Nat) ({ cls := "java/lang/Object", name := "<init>", desc := "()V" } : Jvm.MethodName)) ∈ lw_all := lw_g (lw_at lw_m3 97 rfl) rfl
theorem q722 : (Jvm.Cond.fieldLink "VectorVersions$Node" (7 : Nat) "VectorVersions$Node" "number" "I") ∈ lw_all := lw_g (lw_at lw_m3 108 rfl) rfl
theorem q729 : (Jvm.Cond.soleField "VectorVersions$Node" "number") ∈ lw_all := lw_g (lw_at lw_m3 115 rfl) rfl
theorem q1390 : (Jvm.Cond.declares ({ cls := "VectorVersions$Node", name := "element", desc := "(II)Ljava/lang/Comparable;" } : Jvm.MethodName)) ∈ lw_tbl := lw_at lw_m6 56 rfl
theorem q1391 : (Jvm.Cond.sameMethod "VectorVersions$Node" "VectorVersions$Node" "element" "(II)Ljava/lang/Comparable;") ∈ lw_all := lw_g (lw_at lw_m6 57 rfl) rfl
theorem q1409 : (Jvm.Cond.declares ({ cls := "VectorVersions$Node", name := "count", desc := "()I" } : Jvm.MethodName)) ∈ lw_tbl := lw_at lw_m6 75 rfl
theorem q1410 : (Jvm.Cond.sameMethod "VectorVersions$Node" "VectorVersions$Node" "count" "()I") ∈ lw_all := lw_g (lw_at lw_m6 76 rfl) rfl
theorem q1476 : (Jvm.Cond.instanceMethod ({ cls := "VectorVersions$Node", name := "child", desc := "(I)LVectorVersions$Node;" } : Jvm.MethodName)) ∈ lw_all := lw_g (lw_at lw_m6 142 rfl) rfl
theorem q1477 : (Jvm.Cond.sameMethod "VectorVersions$Node" "VectorVersions$Node" "child" "(I)LVectorVersions$Node;") ∈ lw_all := lw_g (lw_at lw_m6 143 rfl) rfl
theorem q1483 : (Jvm.Cond.code ({ cls := "VectorVersions$Node", name := "child", desc := "(I)LVectorVersions$Node;" } : Jvm.MethodName) prog_10_method_4_code (2 : Nat) (Option.some (Jvm.ClassFile.FieldType.object "VectorVersions$Node"))) ∈ lw_all := lw_g (lw_at lw_m6 149 rfl) rfl
theorem q1532 : (Jvm.Cond.declares ({ cls := "VectorVersions$Node", name := "isLeaf", desc := "()Z" } : Jvm.MethodName)) ∈ lw_tbl := lw_at lw_m6 198 rfl
theorem q1533 : (Jvm.Cond.sameMethod "VectorVersions$Node" "VectorVersions$Node" "isLeaf" "()Z") ∈ lw_all := lw_g (lw_at lw_m6 199 rfl) rfl
/-! VectorVersions$Leaf -/
set_option maxRecDepth 100000
def RX4 : String := "VectorVersions$Leaf"
def TX4 : u_T := fun k => match k with
  | 0 => ("VectorVersions$Node", "number", "I", true)
  | _ => ("VectorVersions$Leaf", "elements", "Ljava/util/List;", true)
def tyX4 : Nat → FieldType := fun k => match k with
  | 0 => .int
  | _ => .object "java/util/List"
abbrev wsX40 : List Cond := u_ws RX4 TX4 2
theorem nmX4 : ∀ a, a < 2 → ∀ b, b < 2 → a ≠ b → (TX4 a).2.1 ≠ (TX4 b).2.1 := by decide +kernel
theorem tyX4_ok : ∀ k, k < 2 → parseFieldDescriptor (TX4 k).2.2.1 = some (tyX4 k) := by decide +kernel
abbrev cX4_init : ByteArray := prog_9_method_1_code
def yX4_init : MethodName := ⟨RX4, "<init>", "(ILjava/util/List;)V"⟩
def dkwX4_init_2 : List UInt8 := [185, 0, 30, 2, 0, 87, 132, 3, 1, 167, 255, 223, 177]
abbrev dktX4_init_2 : List UInt8 := dkwX4_init_2 ++ []
def dkwX4_init_1 : List UInt8 := [185, 0, 18, 1, 0, 162, 0, 29, 42, 180, 0, 12, 44, 29, 185, 0, 24, 2, 0, 192, 0, 28]
abbrev dktX4_init_1 : List UInt8 := dkwX4_init_1 ++ dktX4_init_2
def dkwX4_init_0 : List UInt8 := [42, 27, 183, 0, 3, 42, 187, 0, 9, 89, 7, 183, 0, 11, 181, 0, 12, 3, 62, 29, 44]
abbrev dktX4_init_0 : List UInt8 := dkwX4_init_0 ++ dktX4_init_1
theorem dksX4_init_0 : cX4_init.data.toList.drop 0 = dktX4_init_0 := by decide +kernel
theorem dksX4_init_1 : cX4_init.data.toList.drop 21 = dktX4_init_1 := dk_seg dksX4_init_0 21 rfl rfl
theorem dksX4_init_2 : cX4_init.data.toList.drop 43 = dktX4_init_2 := dk_seg dksX4_init_1 22 rfl rfl
theorem dX4_init_0 : decode cX4_init 0 = .ok (.aload_n 0, 1) := dk_42 (dk_at dksX4_init_0 0 rfl rfl)
theorem dX4_init_1 : decode cX4_init 1 = .ok (.iload_n 1, 1) := dk_27 (dk_at dksX4_init_0 1 rfl rfl)
theorem dX4_init_2 : decode cX4_init 2 = .ok (.invokespecial 3, 3) := dk_183 0 3 (dk_at dksX4_init_0 2 rfl rfl)
theorem dX4_init_5 : decode cX4_init 5 = .ok (.aload_n 0, 1) := dk_42 (dk_at dksX4_init_0 5 rfl rfl)
theorem dX4_init_6 : decode cX4_init 6 = .ok (.new 9, 3) := dk_187 0 9 (dk_at dksX4_init_0 6 rfl rfl)
theorem dX4_init_9 : decode cX4_init 9 = .ok (.dup, 1) := dk_89 (dk_at dksX4_init_0 9 rfl rfl)
theorem dX4_init_10 : decode cX4_init 10 = .ok (.iconst 4, 1) := dk_7 (dk_at dksX4_init_0 10 rfl rfl)
theorem dX4_init_11 : decode cX4_init 11 = .ok (.invokespecial 11, 3) := dk_183 0 11 (dk_at dksX4_init_0 11 rfl rfl)
theorem dX4_init_14 : decode cX4_init 14 = .ok (.putfield 12, 3) := dk_181 0 12 (dk_at dksX4_init_0 14 rfl rfl)
theorem dX4_init_17 : decode cX4_init 17 = .ok (.iconst 0, 1) := dk_3 (dk_at dksX4_init_0 17 rfl rfl)
theorem dX4_init_18 : decode cX4_init 18 = .ok (.istore_n 3, 1) := dk_62 (dk_at dksX4_init_0 18 rfl rfl)
theorem dX4_init_19 : decode cX4_init 19 = .ok (.iload_n 3, 1) := dk_29 (dk_at dksX4_init_0 19 rfl rfl)
theorem dX4_init_20 : decode cX4_init 20 = .ok (.aload_n 2, 1) := dk_44 (dk_at dksX4_init_0 20 rfl rfl)
theorem dX4_init_21 : decode cX4_init 21 = .ok (.invokeinterface 18 1, 5) := by decide +kernel
theorem dX4_init_26 : decode cX4_init 26 = .ok (.if_icmp .ge 29, 3) := dk_162 0 29 (dk_at dksX4_init_1 5 rfl rfl)
theorem dX4_init_29 : decode cX4_init 29 = .ok (.aload_n 0, 1) := dk_42 (dk_at dksX4_init_1 8 rfl rfl)
theorem dX4_init_30 : decode cX4_init 30 = .ok (.getfield 12, 3) := dk_180 0 12 (dk_at dksX4_init_1 9 rfl rfl)
theorem dX4_init_33 : decode cX4_init 33 = .ok (.aload_n 2, 1) := dk_44 (dk_at dksX4_init_1 12 rfl rfl)
theorem dX4_init_34 : decode cX4_init 34 = .ok (.iload_n 3, 1) := dk_29 (dk_at dksX4_init_1 13 rfl rfl)
theorem dX4_init_35 : decode cX4_init 35 = .ok (.invokeinterface 24 2, 5) := by decide +kernel
theorem dX4_init_40 : decode cX4_init 40 = .ok (.checkcast 28, 3) := dk_192 0 28 (dk_at dksX4_init_1 19 rfl rfl)
theorem dX4_init_43 : decode cX4_init 43 = .ok (.invokeinterface 30 2, 5) := by decide +kernel
theorem dX4_init_48 : decode cX4_init 48 = .ok (.pop, 1) := dk_87 (dk_at dksX4_init_2 5 rfl rfl)
theorem dX4_init_49 : decode cX4_init 49 = .ok (.iinc 3 1, 3) := dk_132 3 1 (dk_at dksX4_init_2 6 rfl rfl)
theorem dX4_init_52 : decode cX4_init 52 = .ok (.goto (-33), 3) := dk_167 255 223 (dk_at dksX4_init_2 9 rfl rfl)
theorem dX4_init_55 : decode cX4_init 55 = .ok (.return_, 1) := dk_177 (dk_at dksX4_init_2 12 rfl rfl)
abbrev cX4_element : ByteArray := prog_9_method_4_code
def yX4_element : MethodName := ⟨RX4, "element", "(II)Ljava/lang/Comparable;"⟩
def dkwX4_element_0 : List UInt8 := [42, 180, 0, 12, 27, 185, 0, 24, 2, 0, 192, 0, 28, 176]
abbrev dktX4_element_0 : List UInt8 := dkwX4_element_0 ++ []
theorem dksX4_element_0 : cX4_element.data.toList.drop 0 = dktX4_element_0 := by decide +kernel
theorem dX4_element_0 : decode cX4_element 0 = .ok (.aload_n 0, 1) := dk_42 (dk_at dksX4_element_0 0 rfl rfl)
theorem dX4_element_1 : decode cX4_element 1 = .ok (.getfield 12, 3) := dk_180 0 12 (dk_at dksX4_element_0 1 rfl rfl)
theorem dX4_element_4 : decode cX4_element 4 = .ok (.iload_n 1, 1) := dk_27 (dk_at dksX4_element_0 4 rfl rfl)
theorem dX4_element_5 : decode cX4_element 5 = .ok (.invokeinterface 24 2, 5) := by decide +kernel
theorem dX4_element_10 : decode cX4_element 10 = .ok (.checkcast 28, 3) := dk_192 0 28 (dk_at dksX4_element_0 10 rfl rfl)
theorem dX4_element_13 : decode cX4_element 13 = .ok (.areturn, 1) := dk_176 (dk_at dksX4_element_0 13 rfl rfl)
abbrev cX4_count : ByteArray := prog_9_method_2_code
def yX4_count : MethodName := ⟨RX4, "count", "()I"⟩
def dkwX4_count_0 : List UInt8 := [42, 180, 0, 12, 185, 0, 18, 1, 0, 172]
abbrev dktX4_count_0 : List UInt8 := dkwX4_count_0 ++ []
theorem dksX4_count_0 : cX4_count.data.toList.drop 0 = dktX4_count_0 := by decide +kernel
theorem dX4_count_0 : decode cX4_count 0 = .ok (.aload_n 0, 1) := dk_42 (dk_at dksX4_count_0 0 rfl rfl)
theorem dX4_count_1 : decode cX4_count 1 = .ok (.getfield 12, 3) := dk_180 0 12 (dk_at dksX4_count_0 1 rfl rfl)
theorem dX4_count_4 : decode cX4_count 4 = .ok (.invokeinterface 18 1, 5) := by decide +kernel
theorem dX4_count_9 : decode cX4_count 9 = .ok (.ireturn, 1) := dk_172 (dk_at dksX4_count_0 9 rfl rfl)
abbrev cX4_isLeaf : ByteArray := prog_9_method_3_code
def yX4_isLeaf : MethodName := ⟨RX4, "isLeaf", "()Z"⟩
theorem dX4_isLeaf_0 : decode cX4_isLeaf 0 = .ok (.iconst 1, 1) := by decide +kernel
theorem dX4_isLeaf_1 : decode cX4_isLeaf 1 = .ok (.ireturn, 1) := by decide +kernel
theorem q159 : (Jvm.Cond.initialized "VectorVersions$Leaf") ∈ lw_all := lw_g (lw_at lw_m1 25 rfl) rfl
theorem q291 : (Jvm.Cond.selects "VectorVersions$Leaf" ({ cls := "java/lang/Object", name := "getClass", desc := "()Ljava/lang/Class;" } : Jvm.MethodName) ({ cls := "java/lang/Object", name := "getClass", desc := "()Ljava/lang/Class;" } : Jvm.MethodName)) ∈ lw_all := lw_g (lw_at lw_m1 157 rfl) rfl
theorem q704 : (Jvm.Cond.instantiable "VectorVersions$Leaf" (2 : Nat)) ∈ lw_all := lw_g (lw_at lw_m3 90 rfl) rfl
theorem q706 : (Jvm.Cond.instanceMethod ({ cls := "VectorVersions$Leaf", name := "<init>", desc := "(ILjava/util/List;)V" } : Jvm.MethodName)) ∈ lw_all := lw_g (lw_at lw_m3 92 rfl) rfl
theorem q707 : (Jvm.Cond.code ({ cls := "VectorVersions$Leaf", name := "<init>", desc := "(ILjava/util/List;)V" } : Jvm.MethodName) prog_9_method_1_code (4 : Nat) (Option.none : Option Jvm.ClassFile.FieldType)) ∈ lw_all := lw_g (lw_at lw_m3 93 rfl) rfl
theorem q708 : (Jvm.Cond.methodLink "VectorVersions$Leaf" (3 : Nat) ({ cls := "VectorVersions$Node", name := "<init>", desc := "(I)V" } : Jvm.MethodName)) ∈ lw_all := lw_g (lw_at lw_m3 94 rfl) rfl
theorem q712 : (Jvm.Cond.classLink "VectorVersions$Leaf" (9 : Nat) "java/util/ArrayList") ∈ lw_all := lw_g (lw_at lw_m3 98 rfl) rfl
theorem q713 : (Jvm.Cond.methodLink "VectorVersions$Leaf" (11 : Nat) ({ cls := "java/util/ArrayList", name := "<init>", desc := "(I)V" } : Jvm.MethodName)) ∈ lw_all := lw_g (lw_at lw_m3 99 rfl) rfl
theorem q714 : (Jvm.Cond.interfaceEntry "VectorVersions$Leaf" (18 : Nat)) ∈ lw_tbl := lw_at lw_m3 100 rfl
theorem q715 : (Jvm.Cond.methodLink "VectorVersions$Leaf" (18 : Nat) ({ cls := "java/util/List", name := "size", desc := "()I" } : Jvm.MethodName)) ∈ lw_all := lw_g (lw_at lw_m3 101 rfl) rfl
theorem q716 : (Jvm.Cond.interfaceEntry "VectorVersions$Leaf" (24 : Nat)) ∈ lw_tbl := lw_at lw_m3 102 rfl
theorem q717 : (Jvm.Cond.methodLink "VectorVersions$Leaf" (24 : Nat) ({ cls := "java/util/List", name := "get", desc := "(I)Ljava/lang/Object;" } : Jvm.MethodName)) ∈ lw_all := lw_g (lw_at lw_m3 103 rfl) rfl
theorem q718 : (Jvm.Cond.classLink "VectorVersions$Leaf" (28 : Nat) "java/lang/Comparable") ∈ lw_all := lw_g (lw_at lw_m3 104 rfl) rfl
theorem q719 : (Jvm.Cond.interfaceEntry "VectorVersions$Leaf" (30 : Nat)) ∈ lw_tbl := lw_at lw_m3 105 rfl
theorem q720 : (Jvm.Cond.methodLink "VectorVersions$Leaf" (30 : Nat) ({ cls := "java/util/List", name := "add", desc := "(Ljava/lang/Object;)Z" } : Jvm.MethodName)) ∈ lw_all := lw_g (lw_at lw_m3 106 rfl) rfl
theorem q721 : (Jvm.Cond.fieldLink "VectorVersions$Leaf" (12 : Nat) "VectorVersions$Leaf" "elements" "Ljava/util/List;") ∈ lw_all := lw_g (lw_at lw_m3 107 rfl) rfl
theorem q726 : (Jvm.Cond.laysFinal "VectorVersions$Leaf" "VectorVersions$Leaf" "elements" "Ljava/util/List;") ∈ lw_all := lw_g (lw_at lw_m3 112 rfl) rfl
theorem q727 : (Jvm.Cond.soleField "VectorVersions$Leaf" "elements") ∈ lw_all := lw_g (lw_at lw_m3 113 rfl) rfl
theorem q728 : (Jvm.Cond.laysFinal "VectorVersions$Leaf" "VectorVersions$Node" "number" "I") ∈ lw_all := lw_g (lw_at lw_m3 114 rfl) rfl
theorem q730 : (Jvm.Cond.superclass "VectorVersions$Leaf" "VectorVersions$Node") ∈ lw_all := lw_g (lw_at lw_m3 116 rfl) rfl
theorem q1397 : (Jvm.Cond.instanceMethod ({ cls := "VectorVersions$Leaf", name := "element", desc := "(II)Ljava/lang/Comparable;" } : Jvm.MethodName)) ∈ lw_all := lw_g (lw_at lw_m6 63 rfl) rfl
theorem q1398 : (Jvm.Cond.code ({ cls := "VectorVersions$Leaf", name := "element", desc := "(II)Ljava/lang/Comparable;" } : Jvm.MethodName) prog_9_method_4_code (3 : Nat) (Option.some (Jvm.ClassFile.FieldType.object "java/lang/Comparable"))) ∈ lw_all := lw_g (lw_at lw_m6 64 rfl) rfl
theorem q1399 : (Jvm.Cond.selects "VectorVersions$Leaf" ({ cls := "VectorVersions$Node", name := "element", desc := "(II)Ljava/lang/Comparable;" } : Jvm.MethodName) ({ cls := "VectorVersions$Leaf", name := "element", desc := "(II)Ljava/lang/Comparable;" } : Jvm.MethodName)) ∈ lw_all := lw_g (lw_at lw_m6 65 rfl) rfl
theorem q1414 : (Jvm.Cond.selects "VectorVersions$Leaf" ({ cls := "VectorVersions$Node", name := "count", desc := "()I" } : Jvm.MethodName) ({ cls := "VectorVersions$Leaf", name := "count", desc := "()I" } : Jvm.MethodName)) ∈ lw_all := lw_g (lw_at lw_m6 80 rfl) rfl
theorem q1415 : (Jvm.Cond.instanceMethod ({ cls := "VectorVersions$Leaf", name := "count", desc := "()I" } : Jvm.MethodName)) ∈ lw_all := lw_g (lw_at lw_m6 81 rfl) rfl
theorem q1416 : (Jvm.Cond.code ({ cls := "VectorVersions$Leaf", name := "count", desc := "()I" } : Jvm.MethodName) prog_9_method_2_code (1 : Nat) (Option.some Jvm.ClassFile.FieldType.int)) ∈ lw_all := lw_g (lw_at lw_m6 82 rfl) rfl
theorem q1482 : (Jvm.Cond.selects "VectorVersions$Leaf" ({ cls := "VectorVersions$Node", name := "child", desc := "(I)LVectorVersions$Node;" } : Jvm.MethodName) ({ cls := "VectorVersions$Node", name := "child", desc := "(I)LVectorVersions$Node;" } : Jvm.MethodName)) ∈ lw_all := lw_g (lw_at lw_m6 148 rfl) rfl
theorem q1537 : (Jvm.Cond.selects "VectorVersions$Leaf" ({ cls := "VectorVersions$Node", name := "isLeaf", desc := "()Z" } : Jvm.MethodName) ({ cls := "VectorVersions$Leaf", name := "isLeaf", desc := "()Z" } : Jvm.MethodName)) ∈ lw_all := lw_g (lw_at lw_m6 203 rfl) rfl
theorem q1538 : (Jvm.Cond.instanceMethod ({ cls := "VectorVersions$Leaf", name := "isLeaf", desc := "()Z" } : Jvm.MethodName)) ∈ lw_all := lw_g (lw_at lw_m6 204 rfl) rfl
theorem q1539 : (Jvm.Cond.code ({ cls := "VectorVersions$Leaf", name := "isLeaf", desc := "()Z" } : Jvm.MethodName) prog_9_method_3_code (1 : Nat) (Option.some Jvm.ClassFile.FieldType.boolean)) ∈ lw_all := lw_g (lw_at lw_m6 205 rfl) rfl
theorem q3128 : (Jvm.Cond.castable "VectorVersions$Leaf" "VectorVersions$Node") ∈ lw_tbl := lw_at lw_m13 114 rfl
theorem q3141 : (Jvm.Cond.castable "VectorVersions$Leaf" "java/lang/Object") ∈ lw_tbl := lw_at lw_m13 127 rfl
theorem in_X4 : ∀ w ∈ wsX40, w ∈ lw_all := lw_in wsX40 [728, 726] (by decide +kernel) (by decide +kernel)
/-! VectorVersions$Inner -/
set_option maxRecDepth 100000
def RX5 : String := "VectorVersions$Inner"
def TX5 : u_T := fun k => match k with
  | 0 => ("VectorVersions$Node", "number", "I", true)
  | _ => ("VectorVersions$Inner", "children", "Ljava/util/List;", true)
def tyX5 : Nat → FieldType := fun k => match k with
  | 0 => .int
  | _ => .object "java/util/List"
abbrev wsX50 : List Cond := u_ws RX5 TX5 2
theorem nmX5 : ∀ a, a < 2 → ∀ b, b < 2 → a ≠ b → (TX5 a).2.1 ≠ (TX5 b).2.1 := by decide +kernel
theorem tyX5_ok : ∀ k, k < 2 → parseFieldDescriptor (TX5 k).2.2.1 = some (tyX5 k) := by decide +kernel
abbrev cX5_init : ByteArray := prog_8_method_1_code
def yX5_init : MethodName := ⟨RX5, "<init>", "(ILjava/util/List;)V"⟩
def dkwX5_init_2 : List UInt8 := [185, 0, 28, 2, 0, 87, 132, 3, 1, 167, 255, 223, 177]
abbrev dktX5_init_2 : List UInt8 := dkwX5_init_2 ++ []
def dkwX5_init_1 : List UInt8 := [185, 0, 18, 1, 0, 162, 0, 29, 42, 180, 0, 12, 44, 29, 185, 0, 24, 2, 0, 192, 0, 4]
abbrev dktX5_init_1 : List UInt8 := dkwX5_init_1 ++ dktX5_init_2
def dkwX5_init_0 : List UInt8 := [42, 27, 183, 0, 3, 42, 187, 0, 9, 89, 7, 183, 0, 11, 181, 0, 12, 3, 62, 29, 44]
abbrev dktX5_init_0 : List UInt8 := dkwX5_init_0 ++ dktX5_init_1
theorem dksX5_init_0 : cX5_init.data.toList.drop 0 = dktX5_init_0 := by decide +kernel
theorem dksX5_init_1 : cX5_init.data.toList.drop 21 = dktX5_init_1 := dk_seg dksX5_init_0 21 rfl rfl
theorem dksX5_init_2 : cX5_init.data.toList.drop 43 = dktX5_init_2 := dk_seg dksX5_init_1 22 rfl rfl
theorem dX5_init_0 : decode cX5_init 0 = .ok (.aload_n 0, 1) := dk_42 (dk_at dksX5_init_0 0 rfl rfl)
theorem dX5_init_1 : decode cX5_init 1 = .ok (.iload_n 1, 1) := dk_27 (dk_at dksX5_init_0 1 rfl rfl)
theorem dX5_init_2 : decode cX5_init 2 = .ok (.invokespecial 3, 3) := dk_183 0 3 (dk_at dksX5_init_0 2 rfl rfl)
theorem dX5_init_5 : decode cX5_init 5 = .ok (.aload_n 0, 1) := dk_42 (dk_at dksX5_init_0 5 rfl rfl)
theorem dX5_init_6 : decode cX5_init 6 = .ok (.new 9, 3) := dk_187 0 9 (dk_at dksX5_init_0 6 rfl rfl)
theorem dX5_init_9 : decode cX5_init 9 = .ok (.dup, 1) := dk_89 (dk_at dksX5_init_0 9 rfl rfl)
theorem dX5_init_10 : decode cX5_init 10 = .ok (.iconst 4, 1) := dk_7 (dk_at dksX5_init_0 10 rfl rfl)
theorem dX5_init_11 : decode cX5_init 11 = .ok (.invokespecial 11, 3) := dk_183 0 11 (dk_at dksX5_init_0 11 rfl rfl)
theorem dX5_init_14 : decode cX5_init 14 = .ok (.putfield 12, 3) := dk_181 0 12 (dk_at dksX5_init_0 14 rfl rfl)
theorem dX5_init_17 : decode cX5_init 17 = .ok (.iconst 0, 1) := dk_3 (dk_at dksX5_init_0 17 rfl rfl)
theorem dX5_init_18 : decode cX5_init 18 = .ok (.istore_n 3, 1) := dk_62 (dk_at dksX5_init_0 18 rfl rfl)
theorem dX5_init_19 : decode cX5_init 19 = .ok (.iload_n 3, 1) := dk_29 (dk_at dksX5_init_0 19 rfl rfl)
theorem dX5_init_20 : decode cX5_init 20 = .ok (.aload_n 2, 1) := dk_44 (dk_at dksX5_init_0 20 rfl rfl)
theorem dX5_init_21 : decode cX5_init 21 = .ok (.invokeinterface 18 1, 5) := by decide +kernel
theorem dX5_init_26 : decode cX5_init 26 = .ok (.if_icmp .ge 29, 3) := dk_162 0 29 (dk_at dksX5_init_1 5 rfl rfl)
theorem dX5_init_29 : decode cX5_init 29 = .ok (.aload_n 0, 1) := dk_42 (dk_at dksX5_init_1 8 rfl rfl)
theorem dX5_init_30 : decode cX5_init 30 = .ok (.getfield 12, 3) := dk_180 0 12 (dk_at dksX5_init_1 9 rfl rfl)
theorem dX5_init_33 : decode cX5_init 33 = .ok (.aload_n 2, 1) := dk_44 (dk_at dksX5_init_1 12 rfl rfl)
theorem dX5_init_34 : decode cX5_init 34 = .ok (.iload_n 3, 1) := dk_29 (dk_at dksX5_init_1 13 rfl rfl)
theorem dX5_init_35 : decode cX5_init 35 = .ok (.invokeinterface 24 2, 5) := by decide +kernel
theorem dX5_init_40 : decode cX5_init 40 = .ok (.checkcast 4, 3) := dk_192 0 4 (dk_at dksX5_init_1 19 rfl rfl)
theorem dX5_init_43 : decode cX5_init 43 = .ok (.invokeinterface 28 2, 5) := by decide +kernel
theorem dX5_init_48 : decode cX5_init 48 = .ok (.pop, 1) := dk_87 (dk_at dksX5_init_2 5 rfl rfl)
theorem dX5_init_49 : decode cX5_init 49 = .ok (.iinc 3 1, 3) := dk_132 3 1 (dk_at dksX5_init_2 6 rfl rfl)
theorem dX5_init_52 : decode cX5_init 52 = .ok (.goto (-33), 3) := dk_167 255 223 (dk_at dksX5_init_2 9 rfl rfl)
theorem dX5_init_55 : decode cX5_init 55 = .ok (.return_, 1) := dk_177 (dk_at dksX5_init_2 12 rfl rfl)
abbrev cX5_element : ByteArray := prog_8_method_5_code
def yX5_element : MethodName := ⟨RX5, "element", "(II)Ljava/lang/Comparable;"⟩
def dkwX5_element_1 : List UInt8 := [112, 28, 4, 100, 182, 0, 40, 176]
abbrev dktX5_element_1 : List UInt8 := dkwX5_element_1 ++ []
def dkwX5_element_0 : List UInt8 := [28, 4, 100, 184, 0, 36, 62, 42, 180, 0, 12, 27, 29, 108, 185, 0, 24, 2, 0, 192, 0, 4, 27, 29]
abbrev dktX5_element_0 : List UInt8 := dkwX5_element_0 ++ dktX5_element_1
theorem dksX5_element_0 : cX5_element.data.toList.drop 0 = dktX5_element_0 := by decide +kernel
theorem dksX5_element_1 : cX5_element.data.toList.drop 24 = dktX5_element_1 := dk_seg dksX5_element_0 24 rfl rfl
theorem dX5_element_0 : decode cX5_element 0 = .ok (.iload_n 2, 1) := dk_28 (dk_at dksX5_element_0 0 rfl rfl)
theorem dX5_element_1 : decode cX5_element 1 = .ok (.iconst 1, 1) := dk_4 (dk_at dksX5_element_0 1 rfl rfl)
theorem dX5_element_2 : decode cX5_element 2 = .ok (.isub, 1) := dk_100 (dk_at dksX5_element_0 2 rfl rfl)
theorem dX5_element_3 : decode cX5_element 3 = .ok (.invokestatic 36, 3) := dk_184 0 36 (dk_at dksX5_element_0 3 rfl rfl)
theorem dX5_element_6 : decode cX5_element 6 = .ok (.istore_n 3, 1) := dk_62 (dk_at dksX5_element_0 6 rfl rfl)
theorem dX5_element_7 : decode cX5_element 7 = .ok (.aload_n 0, 1) := dk_42 (dk_at dksX5_element_0 7 rfl rfl)
theorem dX5_element_8 : decode cX5_element 8 = .ok (.getfield 12, 3) := dk_180 0 12 (dk_at dksX5_element_0 8 rfl rfl)
theorem dX5_element_11 : decode cX5_element 11 = .ok (.iload_n 1, 1) := dk_27 (dk_at dksX5_element_0 11 rfl rfl)
theorem dX5_element_12 : decode cX5_element 12 = .ok (.iload_n 3, 1) := dk_29 (dk_at dksX5_element_0 12 rfl rfl)
theorem dX5_element_13 : decode cX5_element 13 = .ok (.idiv, 1) := dk_108 (dk_at dksX5_element_0 13 rfl rfl)
theorem dX5_element_14 : decode cX5_element 14 = .ok (.invokeinterface 24 2, 5) := by decide +kernel
theorem dX5_element_19 : decode cX5_element 19 = .ok (.checkcast 4, 3) := dk_192 0 4 (dk_at dksX5_element_0 19 rfl rfl)
theorem dX5_element_22 : decode cX5_element 22 = .ok (.iload_n 1, 1) := dk_27 (dk_at dksX5_element_0 22 rfl rfl)
theorem dX5_element_23 : decode cX5_element 23 = .ok (.iload_n 3, 1) := dk_29 (dk_at dksX5_element_0 23 rfl rfl)
theorem dX5_element_24 : decode cX5_element 24 = .ok (.irem, 1) := dk_112 (dk_at dksX5_element_1 0 rfl rfl)
theorem dX5_element_25 : decode cX5_element 25 = .ok (.iload_n 2, 1) := dk_28 (dk_at dksX5_element_1 1 rfl rfl)
theorem dX5_element_26 : decode cX5_element 26 = .ok (.iconst 1, 1) := dk_4 (dk_at dksX5_element_1 2 rfl rfl)
theorem dX5_element_27 : decode cX5_element 27 = .ok (.isub, 1) := dk_100 (dk_at dksX5_element_1 3 rfl rfl)
theorem dX5_element_28 : decode cX5_element 28 = .ok (.invokevirtual 40, 3) := dk_182 0 40 (dk_at dksX5_element_1 4 rfl rfl)
theorem dX5_element_31 : decode cX5_element 31 = .ok (.areturn, 1) := dk_176 (dk_at dksX5_element_1 7 rfl rfl)
abbrev cX5_count : ByteArray := prog_8_method_2_code
def yX5_count : MethodName := ⟨RX5, "count", "()I"⟩
def dkwX5_count_0 : List UInt8 := [42, 180, 0, 12, 185, 0, 18, 1, 0, 172]
abbrev dktX5_count_0 : List UInt8 := dkwX5_count_0 ++ []
theorem dksX5_count_0 : cX5_count.data.toList.drop 0 = dktX5_count_0 := by decide +kernel
theorem dX5_count_0 : decode cX5_count 0 = .ok (.aload_n 0, 1) := dk_42 (dk_at dksX5_count_0 0 rfl rfl)
theorem dX5_count_1 : decode cX5_count 1 = .ok (.getfield 12, 3) := dk_180 0 12 (dk_at dksX5_count_0 1 rfl rfl)
theorem dX5_count_4 : decode cX5_count 4 = .ok (.invokeinterface 18 1, 5) := by decide +kernel
theorem dX5_count_9 : decode cX5_count 9 = .ok (.ireturn, 1) := dk_172 (dk_at dksX5_count_0 9 rfl rfl)
abbrev cX5_child : ByteArray := prog_8_method_4_code
def yX5_child : MethodName := ⟨RX5, "child", "(I)LVectorVersions$Node;"⟩
def dkwX5_child_1 : List UInt8 := [185, 0, 24, 2, 0, 192, 0, 4, 167, 0, 4, 1, 176]
abbrev dktX5_child_1 : List UInt8 := dkwX5_child_1 ++ []
def dkwX5_child_0 : List UInt8 := [27, 3, 42, 180, 0, 12, 185, 0, 18, 1, 0, 4, 100, 184, 0, 32, 153, 0, 19, 42, 180, 0, 12, 27]
abbrev dktX5_child_0 : List UInt8 := dkwX5_child_0 ++ dktX5_child_1
theorem dksX5_child_0 : cX5_child.data.toList.drop 0 = dktX5_child_0 := by decide +kernel
theorem dksX5_child_1 : cX5_child.data.toList.drop 24 = dktX5_child_1 := dk_seg dksX5_child_0 24 rfl rfl
theorem dX5_child_0 : decode cX5_child 0 = .ok (.iload_n 1, 1) := dk_27 (dk_at dksX5_child_0 0 rfl rfl)
theorem dX5_child_1 : decode cX5_child 1 = .ok (.iconst 0, 1) := dk_3 (dk_at dksX5_child_0 1 rfl rfl)
theorem dX5_child_2 : decode cX5_child 2 = .ok (.aload_n 0, 1) := dk_42 (dk_at dksX5_child_0 2 rfl rfl)
theorem dX5_child_3 : decode cX5_child 3 = .ok (.getfield 12, 3) := dk_180 0 12 (dk_at dksX5_child_0 3 rfl rfl)
theorem dX5_child_6 : decode cX5_child 6 = .ok (.invokeinterface 18 1, 5) := by decide +kernel
theorem dX5_child_11 : decode cX5_child 11 = .ok (.iconst 1, 1) := dk_4 (dk_at dksX5_child_0 11 rfl rfl)
theorem dX5_child_12 : decode cX5_child 12 = .ok (.isub, 1) := dk_100 (dk_at dksX5_child_0 12 rfl rfl)
theorem dX5_child_13 : decode cX5_child 13 = .ok (.invokestatic 32, 3) := dk_184 0 32 (dk_at dksX5_child_0 13 rfl rfl)
theorem dX5_child_16 : decode cX5_child 16 = .ok (.ifCond .eq 19, 3) := dk_153 0 19 (dk_at dksX5_child_0 16 rfl rfl)
theorem dX5_child_19 : decode cX5_child 19 = .ok (.aload_n 0, 1) := dk_42 (dk_at dksX5_child_0 19 rfl rfl)
theorem dX5_child_20 : decode cX5_child 20 = .ok (.getfield 12, 3) := dk_180 0 12 (dk_at dksX5_child_0 20 rfl rfl)
theorem dX5_child_23 : decode cX5_child 23 = .ok (.iload_n 1, 1) := dk_27 (dk_at dksX5_child_0 23 rfl rfl)
theorem dX5_child_24 : decode cX5_child 24 = .ok (.invokeinterface 24 2, 5) := by decide +kernel
theorem dX5_child_29 : decode cX5_child 29 = .ok (.checkcast 4, 3) := dk_192 0 4 (dk_at dksX5_child_1 5 rfl rfl)
theorem dX5_child_32 : decode cX5_child 32 = .ok (.goto 4, 3) := dk_167 0 4 (dk_at dksX5_child_1 8 rfl rfl)
theorem dX5_child_35 : decode cX5_child 35 = .ok (.aconst_null, 1) := dk_1 (dk_at dksX5_child_1 11 rfl rfl)
theorem dX5_child_36 : decode cX5_child 36 = .ok (.areturn, 1) := dk_176 (dk_at dksX5_child_1 12 rfl rfl)
abbrev cX5_isLeaf : ByteArray := prog_8_method_3_code
def yX5_isLeaf : MethodName := ⟨RX5, "isLeaf", "()Z"⟩
theorem dX5_isLeaf_0 : decode cX5_isLeaf 0 = .ok (.iconst 0, 1) := by decide +kernel
theorem dX5_isLeaf_1 : decode cX5_isLeaf 1 = .ok (.ireturn, 1) := by decide +kernel
theorem q160 : (Jvm.Cond.initialized "VectorVersions$Inner") ∈ lw_all := lw_g (lw_at lw_m1 26 rfl) rfl
theorem q290 : (Jvm.Cond.selects "VectorVersions$Inner" ({ cls := "java/lang/Object", name := "getClass", desc := "()Ljava/lang/Class;" } : Jvm.MethodName) ({ cls := "java/lang/Object", name := "getClass", desc := "()Ljava/lang/Class;" } : Jvm.MethodName)) ∈ lw_all := lw_g (lw_at lw_m1 156 rfl) rfl
theorem q745 : (Jvm.Cond.instantiable "VectorVersions$Inner" (2 : Nat)) ∈ lw_all := lw_g (lw_at lw_m3 131 rfl) rfl
theorem q747 : (Jvm.Cond.instanceMethod ({ cls := "VectorVersions$Inner", name := "<init>", desc := "(ILjava/util/List;)V" } : Jvm.MethodName)) ∈ lw_all := lw_g (lw_at lw_m3 133 rfl) rfl
theorem q748 : (Jvm.Cond.code ({ cls := "VectorVersions$Inner", name := "<init>", desc := "(ILjava/util/List;)V" } : Jvm.MethodName) prog_8_method_1_code (4 : Nat) (Option.none : Option Jvm.ClassFile.FieldType)) ∈ lw_all := lw_g (lw_at lw_m3 134 rfl) rfl
theorem q749 : (Jvm.Cond.methodLink "VectorVersions$Inner" (3 : Nat) ({ cls := "VectorVersions$Node", name := "<init>", desc := "(I)V" } : Jvm.MethodName)) ∈ lw_all := lw_g (lw_at lw_m3 135 rfl) rfl
theorem q750 : (Jvm.Cond.classLink "VectorVersions$Inner" (9 : Nat) "java/util/ArrayList") ∈ lw_all := lw_g (lw_at lw_m3 136 rfl) rfl
theorem q751 : (Jvm.Cond.methodLink "VectorVersions$Inner" (11 : Nat) ({ cls := "java/util/ArrayList", name := "<init>", desc := "(I)V" } : Jvm.MethodName)) ∈ lw_all := lw_g (lw_at lw_m3 137 rfl) rfl
theorem q752 : (Jvm.Cond.interfaceEntry "VectorVersions$Inner" (18 : Nat)) ∈ lw_tbl := lw_at lw_m3 138 rfl
theorem q753 : (Jvm.Cond.methodLink "VectorVersions$Inner" (18 : Nat) ({ cls := "java/util/List", name := "size", desc := "()I" } : Jvm.MethodName)) ∈ lw_all := lw_g (lw_at lw_m3 139 rfl) rfl
theorem q754 : (Jvm.Cond.interfaceEntry "VectorVersions$Inner" (24 : Nat)) ∈ lw_tbl := lw_at lw_m3 140 rfl
theorem q755 : (Jvm.Cond.methodLink "VectorVersions$Inner" (24 : Nat) ({ cls := "java/util/List", name := "get", desc := "(I)Ljava/lang/Object;" } : Jvm.MethodName)) ∈ lw_all := lw_g (lw_at lw_m3 141 rfl) rfl
theorem q756 : (Jvm.Cond.classLink "VectorVersions$Inner" (4 : Nat) "VectorVersions$Node") ∈ lw_all := lw_g (lw_at lw_m3 142 rfl) rfl
theorem q757 : (Jvm.Cond.interfaceEntry "VectorVersions$Inner" (28 : Nat)) ∈ lw_tbl := lw_at lw_m3 143 rfl
theorem q758 : (Jvm.Cond.methodLink "VectorVersions$Inner" (28 : Nat) ({ cls := "java/util/List", name := "add", desc := "(Ljava/lang/Object;)Z" } : Jvm.MethodName)) ∈ lw_all := lw_g (lw_at lw_m3 144 rfl) rfl
theorem q759 : (Jvm.Cond.fieldLink "VectorVersions$Inner" (12 : Nat) "VectorVersions$Inner" "children" "Ljava/util/List;") ∈ lw_all := lw_g (lw_at lw_m3 145 rfl) rfl
theorem q760 : (Jvm.Cond.laysFinal "VectorVersions$Inner" "VectorVersions$Inner" "children" "Ljava/util/List;") ∈ lw_all := lw_g (lw_at lw_m3 146 rfl) rfl
theorem q761 : (Jvm.Cond.soleField "VectorVersions$Inner" "children") ∈ lw_all := lw_g (lw_at lw_m3 147 rfl) rfl
theorem q762 : (Jvm.Cond.laysFinal "VectorVersions$Inner" "VectorVersions$Node" "number" "I") ∈ lw_all := lw_g (lw_at lw_m3 148 rfl) rfl
theorem q763 : (Jvm.Cond.superclass "VectorVersions$Inner" "VectorVersions$Node") ∈ lw_all := lw_g (lw_at lw_m3 149 rfl) rfl
theorem q1392 : (Jvm.Cond.selects "VectorVersions$Inner" ({ cls := "VectorVersions$Node", name := "element", desc := "(II)Ljava/lang/Comparable;" } : Jvm.MethodName) ({ cls := "VectorVersions$Inner", name := "element", desc := "(II)Ljava/lang/Comparable;" } : Jvm.MethodName)) ∈ lw_all := lw_g (lw_at lw_m6 58 rfl) rfl
theorem q1393 : (Jvm.Cond.instanceMethod ({ cls := "VectorVersions$Inner", name := "element", desc := "(II)Ljava/lang/Comparable;" } : Jvm.MethodName)) ∈ lw_all := lw_g (lw_at lw_m6 59 rfl) rfl
theorem q1394 : (Jvm.Cond.code ({ cls := "VectorVersions$Inner", name := "element", desc := "(II)Ljava/lang/Comparable;" } : Jvm.MethodName) prog_8_method_5_code (4 : Nat) (Option.some (Jvm.ClassFile.FieldType.object "java/lang/Comparable"))) ∈ lw_all := lw_g (lw_at lw_m6 60 rfl) rfl
theorem q1395 : (Jvm.Cond.methodLinkNest "VectorVersions$Inner" (36 : Nat) ({ cls := "VectorVersions", name := "capacity", desc := "(I)I" } : Jvm.MethodName) "VectorVersions") ∈ lw_tbl := lw_at lw_m6 61 rfl
theorem q1396 : (Jvm.Cond.methodLink "VectorVersions$Inner" (40 : Nat) ({ cls := "VectorVersions$Node", name := "element", desc := "(II)Ljava/lang/Comparable;" } : Jvm.MethodName)) ∈ lw_all := lw_g (lw_at lw_m6 62 rfl) rfl
theorem q1411 : (Jvm.Cond.selects "VectorVersions$Inner" ({ cls := "VectorVersions$Node", name := "count", desc := "()I" } : Jvm.MethodName) ({ cls := "VectorVersions$Inner", name := "count", desc := "()I" } : Jvm.MethodName)) ∈ lw_all := lw_g (lw_at lw_m6 77 rfl) rfl
theorem q1412 : (Jvm.Cond.instanceMethod ({ cls := "VectorVersions$Inner", name := "count", desc := "()I" } : Jvm.MethodName)) ∈ lw_all := lw_g (lw_at lw_m6 78 rfl) rfl
theorem q1413 : (Jvm.Cond.code ({ cls := "VectorVersions$Inner", name := "count", desc := "()I" } : Jvm.MethodName) prog_8_method_2_code (1 : Nat) (Option.some Jvm.ClassFile.FieldType.int)) ∈ lw_all := lw_g (lw_at lw_m6 79 rfl) rfl
theorem q1478 : (Jvm.Cond.selects "VectorVersions$Inner" ({ cls := "VectorVersions$Node", name := "child", desc := "(I)LVectorVersions$Node;" } : Jvm.MethodName) ({ cls := "VectorVersions$Inner", name := "child", desc := "(I)LVectorVersions$Node;" } : Jvm.MethodName)) ∈ lw_all := lw_g (lw_at lw_m6 144 rfl) rfl
theorem q1479 : (Jvm.Cond.instanceMethod ({ cls := "VectorVersions$Inner", name := "child", desc := "(I)LVectorVersions$Node;" } : Jvm.MethodName)) ∈ lw_all := lw_g (lw_at lw_m6 145 rfl) rfl
theorem q1480 : (Jvm.Cond.code ({ cls := "VectorVersions$Inner", name := "child", desc := "(I)LVectorVersions$Node;" } : Jvm.MethodName) prog_8_method_4_code (2 : Nat) (Option.some (Jvm.ClassFile.FieldType.object "VectorVersions$Node"))) ∈ lw_all := lw_g (lw_at lw_m6 146 rfl) rfl
theorem q1481 : (Jvm.Cond.methodLinkNest "VectorVersions$Inner" (32 : Nat) ({ cls := "VectorVersions", name := "isBetween", desc := "(III)Z" } : Jvm.MethodName) "VectorVersions") ∈ lw_tbl := lw_at lw_m6 147 rfl
theorem q1534 : (Jvm.Cond.selects "VectorVersions$Inner" ({ cls := "VectorVersions$Node", name := "isLeaf", desc := "()Z" } : Jvm.MethodName) ({ cls := "VectorVersions$Inner", name := "isLeaf", desc := "()Z" } : Jvm.MethodName)) ∈ lw_all := lw_g (lw_at lw_m6 200 rfl) rfl
theorem q1535 : (Jvm.Cond.instanceMethod ({ cls := "VectorVersions$Inner", name := "isLeaf", desc := "()Z" } : Jvm.MethodName)) ∈ lw_all := lw_g (lw_at lw_m6 201 rfl) rfl
theorem q1536 : (Jvm.Cond.code ({ cls := "VectorVersions$Inner", name := "isLeaf", desc := "()Z" } : Jvm.MethodName) prog_8_method_3_code (1 : Nat) (Option.some Jvm.ClassFile.FieldType.boolean)) ∈ lw_all := lw_g (lw_at lw_m6 202 rfl) rfl
theorem q3127 : (Jvm.Cond.castable "VectorVersions$Inner" "VectorVersions$Node") ∈ lw_tbl := lw_at lw_m13 113 rfl
theorem q3142 : (Jvm.Cond.castable "VectorVersions$Inner" "java/lang/Object") ∈ lw_tbl := lw_at lw_m13 128 rfl
theorem in_X5 : ∀ w ∈ wsX50, w ∈ lw_all := lw_in wsX50 [762, 760] (by decide +kernel) (by decide +kernel)
/-! VectorVersions$Tree -/
set_option maxRecDepth 100000
def RX6 : String := "VectorVersions$Tree"
def TX6 : u_T := fun k => match k with
  | 0 => ("VectorVersions$Tree", "root", "LVectorVersions$Node;", true)
  | 1 => ("VectorVersions$Tree", "size", "I", true)
  | _ => ("VectorVersions$Tree", "height", "I", true)
def tyX6 : Nat → FieldType := fun k => match k with
  | 0 => .object "VectorVersions$Node"
  | 1 => .int
  | _ => .int
abbrev wsX60 : List Cond := u_ws RX6 TX6 3
theorem nmX6 : ∀ a, a < 3 → ∀ b, b < 3 → a ≠ b → (TX6 a).2.1 ≠ (TX6 b).2.1 := by decide +kernel
theorem tyX6_ok : ∀ k, k < 3 → parseFieldDescriptor (TX6 k).2.2.1 = some (tyX6 k) := by decide +kernel
abbrev cX6_init : ByteArray := prog_14_method_1_code
def yX6_init : MethodName := ⟨RX6, "<init>", "(LVectorVersions$Node;II)V"⟩
def dkwX6_init_0 : List UInt8 := [42, 183, 0, 3, 42, 43, 181, 0, 9, 42, 28, 181, 0, 15, 42, 29, 181, 0, 19, 177]
abbrev dktX6_init_0 : List UInt8 := dkwX6_init_0 ++ []
theorem dksX6_init_0 : cX6_init.data.toList.drop 0 = dktX6_init_0 := by decide +kernel
theorem dX6_init_0 : decode cX6_init 0 = .ok (.aload_n 0, 1) := dk_42 (dk_at dksX6_init_0 0 rfl rfl)
theorem dX6_init_1 : decode cX6_init 1 = .ok (.invokespecial 3, 3) := dk_183 0 3 (dk_at dksX6_init_0 1 rfl rfl)
theorem dX6_init_4 : decode cX6_init 4 = .ok (.aload_n 0, 1) := dk_42 (dk_at dksX6_init_0 4 rfl rfl)
theorem dX6_init_5 : decode cX6_init 5 = .ok (.aload_n 1, 1) := dk_43 (dk_at dksX6_init_0 5 rfl rfl)
theorem dX6_init_6 : decode cX6_init 6 = .ok (.putfield 9, 3) := dk_181 0 9 (dk_at dksX6_init_0 6 rfl rfl)
theorem dX6_init_9 : decode cX6_init 9 = .ok (.aload_n 0, 1) := dk_42 (dk_at dksX6_init_0 9 rfl rfl)
theorem dX6_init_10 : decode cX6_init 10 = .ok (.iload_n 2, 1) := dk_28 (dk_at dksX6_init_0 10 rfl rfl)
theorem dX6_init_11 : decode cX6_init 11 = .ok (.putfield 15, 3) := dk_181 0 15 (dk_at dksX6_init_0 11 rfl rfl)
theorem dX6_init_14 : decode cX6_init 14 = .ok (.aload_n 0, 1) := dk_42 (dk_at dksX6_init_0 14 rfl rfl)
theorem dX6_init_15 : decode cX6_init 15 = .ok (.iload_n 3, 1) := dk_29 (dk_at dksX6_init_0 15 rfl rfl)
theorem dX6_init_16 : decode cX6_init 16 = .ok (.putfield 19, 3) := dk_181 0 19 (dk_at dksX6_init_0 16 rfl rfl)
theorem dX6_init_19 : decode cX6_init 19 = .ok (.return_, 1) := dk_177 (dk_at dksX6_init_0 19 rfl rfl)
abbrev cX6_get : ByteArray := prog_14_method_3_code
def yX6_get : MethodName := ⟨RX6, "get", "(I)Ljava/lang/Comparable;"⟩
def dkwX6_get_0 : List UInt8 := [42, 180, 0, 9, 27, 42, 180, 0, 19, 182, 0, 27, 176]
abbrev dktX6_get_0 : List UInt8 := dkwX6_get_0 ++ []
theorem dksX6_get_0 : cX6_get.data.toList.drop 0 = dktX6_get_0 := by decide +kernel
theorem dX6_get_0 : decode cX6_get 0 = .ok (.aload_n 0, 1) := dk_42 (dk_at dksX6_get_0 0 rfl rfl)
theorem dX6_get_1 : decode cX6_get 1 = .ok (.getfield 9, 3) := dk_180 0 9 (dk_at dksX6_get_0 1 rfl rfl)
theorem dX6_get_4 : decode cX6_get 4 = .ok (.iload_n 1, 1) := dk_27 (dk_at dksX6_get_0 4 rfl rfl)
theorem dX6_get_5 : decode cX6_get 5 = .ok (.aload_n 0, 1) := dk_42 (dk_at dksX6_get_0 5 rfl rfl)
theorem dX6_get_6 : decode cX6_get 6 = .ok (.getfield 19, 3) := dk_180 0 19 (dk_at dksX6_get_0 6 rfl rfl)
theorem dX6_get_9 : decode cX6_get 9 = .ok (.invokevirtual 27, 3) := dk_182 0 27 (dk_at dksX6_get_0 9 rfl rfl)
theorem dX6_get_12 : decode cX6_get 12 = .ok (.areturn, 1) := dk_176 (dk_at dksX6_get_0 12 rfl rfl)
abbrev cX6_elements : ByteArray := prog_14_method_5_code
def yX6_elements : MethodName := ⟨RX6, "elements", "()Ljava/util/Iterator;"⟩
def dkwX6_elements_0 : List UInt8 := [187, 0, 39, 89, 42, 183, 0, 41, 176]
abbrev dktX6_elements_0 : List UInt8 := dkwX6_elements_0 ++ []
theorem dksX6_elements_0 : cX6_elements.data.toList.drop 0 = dktX6_elements_0 := by decide +kernel
theorem dX6_elements_0 : decode cX6_elements 0 = .ok (.new 39, 3) := dk_187 0 39 (dk_at dksX6_elements_0 0 rfl rfl)
theorem dX6_elements_3 : decode cX6_elements 3 = .ok (.dup, 1) := dk_89 (dk_at dksX6_elements_0 3 rfl rfl)
theorem dX6_elements_4 : decode cX6_elements 4 = .ok (.aload_n 0, 1) := dk_42 (dk_at dksX6_elements_0 4 rfl rfl)
theorem dX6_elements_5 : decode cX6_elements 5 = .ok (.invokespecial 41, 3) := dk_183 0 41 (dk_at dksX6_elements_0 5 rfl rfl)
theorem dX6_elements_8 : decode cX6_elements 8 = .ok (.areturn, 1) := dk_176 (dk_at dksX6_elements_0 8 rfl rfl)
abbrev cX6_isRegular : ByteArray := prog_14_method_8_code
def yX6_isRegular : MethodName := ⟨RX6, "isRegular", "()Z"⟩
def dkwX6_isRegular_2 : List UInt8 := [153, 0, 21, 42, 180, 0, 15, 184, 0, 72, 42, 180, 0, 19, 160, 0, 7, 4, 167, 0, 4, 3, 172]
abbrev dktX6_isRegular_2 : List UInt8 := dkwX6_isRegular_2 ++ []
def dkwX6_isRegular_1 : List UInt8 := [167, 0, 45, 3, 167, 0, 41, 42, 42, 180, 0, 9, 42, 180, 0, 19, 42, 180, 0, 15, 182, 0, 68]
abbrev dktX6_isRegular_1 : List UInt8 := dkwX6_isRegular_1 ++ dktX6_isRegular_2
def dkwX6_isRegular_0 : List UInt8 := [42, 180, 0, 9, 199, 0, 25, 42, 180, 0, 15, 154, 0, 14, 42, 180, 0, 19, 154, 0, 7, 4]
abbrev dktX6_isRegular_0 : List UInt8 := dkwX6_isRegular_0 ++ dktX6_isRegular_1
theorem dksX6_isRegular_0 : cX6_isRegular.data.toList.drop 0 = dktX6_isRegular_0 := by decide +kernel
theorem dksX6_isRegular_1 : cX6_isRegular.data.toList.drop 22 = dktX6_isRegular_1 := dk_seg dksX6_isRegular_0 22 rfl rfl
theorem dksX6_isRegular_2 : cX6_isRegular.data.toList.drop 45 = dktX6_isRegular_2 := dk_seg dksX6_isRegular_1 23 rfl rfl
theorem dX6_isRegular_0 : decode cX6_isRegular 0 = .ok (.aload_n 0, 1) := dk_42 (dk_at dksX6_isRegular_0 0 rfl rfl)
theorem dX6_isRegular_1 : decode cX6_isRegular 1 = .ok (.getfield 9, 3) := dk_180 0 9 (dk_at dksX6_isRegular_0 1 rfl rfl)
theorem dX6_isRegular_4 : decode cX6_isRegular 4 = .ok (.ifnonnull 25, 3) := dk_199 0 25 (dk_at dksX6_isRegular_0 4 rfl rfl)
theorem dX6_isRegular_7 : decode cX6_isRegular 7 = .ok (.aload_n 0, 1) := dk_42 (dk_at dksX6_isRegular_0 7 rfl rfl)
theorem dX6_isRegular_8 : decode cX6_isRegular 8 = .ok (.getfield 15, 3) := dk_180 0 15 (dk_at dksX6_isRegular_0 8 rfl rfl)
theorem dX6_isRegular_11 : decode cX6_isRegular 11 = .ok (.ifCond .ne 14, 3) := dk_154 0 14 (dk_at dksX6_isRegular_0 11 rfl rfl)
theorem dX6_isRegular_14 : decode cX6_isRegular 14 = .ok (.aload_n 0, 1) := dk_42 (dk_at dksX6_isRegular_0 14 rfl rfl)
theorem dX6_isRegular_15 : decode cX6_isRegular 15 = .ok (.getfield 19, 3) := dk_180 0 19 (dk_at dksX6_isRegular_0 15 rfl rfl)
theorem dX6_isRegular_18 : decode cX6_isRegular 18 = .ok (.ifCond .ne 7, 3) := dk_154 0 7 (dk_at dksX6_isRegular_0 18 rfl rfl)
theorem dX6_isRegular_21 : decode cX6_isRegular 21 = .ok (.iconst 1, 1) := dk_4 (dk_at dksX6_isRegular_0 21 rfl rfl)
theorem dX6_isRegular_22 : decode cX6_isRegular 22 = .ok (.goto 45, 3) := dk_167 0 45 (dk_at dksX6_isRegular_1 0 rfl rfl)
theorem dX6_isRegular_25 : decode cX6_isRegular 25 = .ok (.iconst 0, 1) := dk_3 (dk_at dksX6_isRegular_1 3 rfl rfl)
theorem dX6_isRegular_26 : decode cX6_isRegular 26 = .ok (.goto 41, 3) := dk_167 0 41 (dk_at dksX6_isRegular_1 4 rfl rfl)
theorem dX6_isRegular_29 : decode cX6_isRegular 29 = .ok (.aload_n 0, 1) := dk_42 (dk_at dksX6_isRegular_1 7 rfl rfl)
theorem dX6_isRegular_30 : decode cX6_isRegular 30 = .ok (.aload_n 0, 1) := dk_42 (dk_at dksX6_isRegular_1 8 rfl rfl)
theorem dX6_isRegular_31 : decode cX6_isRegular 31 = .ok (.getfield 9, 3) := dk_180 0 9 (dk_at dksX6_isRegular_1 9 rfl rfl)
theorem dX6_isRegular_34 : decode cX6_isRegular 34 = .ok (.aload_n 0, 1) := dk_42 (dk_at dksX6_isRegular_1 12 rfl rfl)
theorem dX6_isRegular_35 : decode cX6_isRegular 35 = .ok (.getfield 19, 3) := dk_180 0 19 (dk_at dksX6_isRegular_1 13 rfl rfl)
theorem dX6_isRegular_38 : decode cX6_isRegular 38 = .ok (.aload_n 0, 1) := dk_42 (dk_at dksX6_isRegular_1 16 rfl rfl)
theorem dX6_isRegular_39 : decode cX6_isRegular 39 = .ok (.getfield 15, 3) := dk_180 0 15 (dk_at dksX6_isRegular_1 17 rfl rfl)
theorem dX6_isRegular_42 : decode cX6_isRegular 42 = .ok (.invokevirtual 68, 3) := dk_182 0 68 (dk_at dksX6_isRegular_1 20 rfl rfl)
theorem dX6_isRegular_45 : decode cX6_isRegular 45 = .ok (.ifCond .eq 21, 3) := dk_153 0 21 (dk_at dksX6_isRegular_2 0 rfl rfl)
theorem dX6_isRegular_48 : decode cX6_isRegular 48 = .ok (.aload_n 0, 1) := dk_42 (dk_at dksX6_isRegular_2 3 rfl rfl)
theorem dX6_isRegular_49 : decode cX6_isRegular 49 = .ok (.getfield 15, 3) := dk_180 0 15 (dk_at dksX6_isRegular_2 4 rfl rfl)
theorem dX6_isRegular_52 : decode cX6_isRegular 52 = .ok (.invokestatic 72, 3) := dk_184 0 72 (dk_at dksX6_isRegular_2 7 rfl rfl)
theorem dX6_isRegular_55 : decode cX6_isRegular 55 = .ok (.aload_n 0, 1) := dk_42 (dk_at dksX6_isRegular_2 10 rfl rfl)
theorem dX6_isRegular_56 : decode cX6_isRegular 56 = .ok (.getfield 19, 3) := dk_180 0 19 (dk_at dksX6_isRegular_2 11 rfl rfl)
theorem dX6_isRegular_59 : decode cX6_isRegular 59 = .ok (.if_icmp .ne 7, 3) := dk_160 0 7 (dk_at dksX6_isRegular_2 14 rfl rfl)
theorem dX6_isRegular_62 : decode cX6_isRegular 62 = .ok (.iconst 1, 1) := dk_4 (dk_at dksX6_isRegular_2 17 rfl rfl)
theorem dX6_isRegular_63 : decode cX6_isRegular 63 = .ok (.goto 4, 3) := dk_167 0 4 (dk_at dksX6_isRegular_2 18 rfl rfl)
theorem dX6_isRegular_66 : decode cX6_isRegular 66 = .ok (.iconst 0, 1) := dk_3 (dk_at dksX6_isRegular_2 21 rfl rfl)
theorem dX6_isRegular_67 : decode cX6_isRegular 67 = .ok (.ireturn, 1) := dk_172 (dk_at dksX6_isRegular_2 22 rfl rfl)
abbrev cX6_isRegular_2 : ByteArray := prog_14_method_9_code
def yX6_isRegular_2 : MethodName := ⟨RX6, "isRegular", "(LVectorVersions$Node;II)Z"⟩
def dkwX6_isRegular_2_4 : List UInt8 := [154, 0, 5, 3, 172, 132, 5, 1, 167, 255, 214, 4, 172]
abbrev dktX6_isRegular_2_4 : List UInt8 := dkwX6_isRegular_2_4 ++ []
def dkwX6_isRegular_2_3 : List UInt8 := [43, 21, 5, 182, 0, 35, 28, 4, 100, 21, 4, 29, 21, 5, 21, 4, 104, 100, 184, 0, 82, 182, 0, 68]
abbrev dktX6_isRegular_2_3 : List UInt8 := dkwX6_isRegular_2_3 ++ dktX6_isRegular_2_4
def dkwX6_isRegular_2_2 : List UInt8 := [96, 4, 100, 21, 4, 108, 159, 0, 5, 3, 172, 3, 54, 5, 21, 5, 43, 182, 0, 78, 162, 0, 39, 42]
abbrev dktX6_isRegular_2_2 : List UInt8 := dkwX6_isRegular_2_2 ++ dktX6_isRegular_2_3
def dkwX6_isRegular_2_1 : List UInt8 := [3, 172, 28, 4, 100, 184, 0, 31, 54, 4, 43, 182, 0, 75, 154, 0, 19, 43, 182, 0, 78, 29, 21, 4]
abbrev dktX6_isRegular_2_1 : List UInt8 := dkwX6_isRegular_2_1 ++ dktX6_isRegular_2_2
def dkwX6_isRegular_2_0 : List UInt8 := [28, 4, 160, 0, 24, 43, 182, 0, 75, 153, 0, 15, 43, 182, 0, 78, 29, 160, 0, 7, 4, 167, 0, 4]
abbrev dktX6_isRegular_2_0 : List UInt8 := dkwX6_isRegular_2_0 ++ dktX6_isRegular_2_1
theorem dksX6_isRegular_2_0 : cX6_isRegular_2.data.toList.drop 0 = dktX6_isRegular_2_0 := by decide +kernel
theorem dksX6_isRegular_2_1 : cX6_isRegular_2.data.toList.drop 24 = dktX6_isRegular_2_1 := dk_seg dksX6_isRegular_2_0 24 rfl rfl
theorem dksX6_isRegular_2_2 : cX6_isRegular_2.data.toList.drop 48 = dktX6_isRegular_2_2 := dk_seg dksX6_isRegular_2_1 24 rfl rfl
theorem dksX6_isRegular_2_3 : cX6_isRegular_2.data.toList.drop 72 = dktX6_isRegular_2_3 := dk_seg dksX6_isRegular_2_2 24 rfl rfl
theorem dksX6_isRegular_2_4 : cX6_isRegular_2.data.toList.drop 96 = dktX6_isRegular_2_4 := dk_seg dksX6_isRegular_2_3 24 rfl rfl
theorem dX6_isRegular_2_0 : decode cX6_isRegular_2 0 = .ok (.iload_n 2, 1) := dk_28 (dk_at dksX6_isRegular_2_0 0 rfl rfl)
theorem dX6_isRegular_2_1 : decode cX6_isRegular_2 1 = .ok (.iconst 1, 1) := dk_4 (dk_at dksX6_isRegular_2_0 1 rfl rfl)
theorem dX6_isRegular_2_2 : decode cX6_isRegular_2 2 = .ok (.if_icmp .ne 24, 3) := dk_160 0 24 (dk_at dksX6_isRegular_2_0 2 rfl rfl)
theorem dX6_isRegular_2_5 : decode cX6_isRegular_2 5 = .ok (.aload_n 1, 1) := dk_43 (dk_at dksX6_isRegular_2_0 5 rfl rfl)
theorem dX6_isRegular_2_6 : decode cX6_isRegular_2 6 = .ok (.invokevirtual 75, 3) := dk_182 0 75 (dk_at dksX6_isRegular_2_0 6 rfl rfl)
theorem dX6_isRegular_2_9 : decode cX6_isRegular_2 9 = .ok (.ifCond .eq 15, 3) := dk_153 0 15 (dk_at dksX6_isRegular_2_0 9 rfl rfl)
theorem dX6_isRegular_2_12 : decode cX6_isRegular_2 12 = .ok (.aload_n 1, 1) := dk_43 (dk_at dksX6_isRegular_2_0 12 rfl rfl)
theorem dX6_isRegular_2_13 : decode cX6_isRegular_2 13 = .ok (.invokevirtual 78, 3) := dk_182 0 78 (dk_at dksX6_isRegular_2_0 13 rfl rfl)
theorem dX6_isRegular_2_16 : decode cX6_isRegular_2 16 = .ok (.iload_n 3, 1) := dk_29 (dk_at dksX6_isRegular_2_0 16 rfl rfl)
theorem dX6_isRegular_2_17 : decode cX6_isRegular_2 17 = .ok (.if_icmp .ne 7, 3) := dk_160 0 7 (dk_at dksX6_isRegular_2_0 17 rfl rfl)
theorem dX6_isRegular_2_20 : decode cX6_isRegular_2 20 = .ok (.iconst 1, 1) := dk_4 (dk_at dksX6_isRegular_2_0 20 rfl rfl)
theorem dX6_isRegular_2_21 : decode cX6_isRegular_2 21 = .ok (.goto 4, 3) := dk_167 0 4 (dk_at dksX6_isRegular_2_0 21 rfl rfl)
theorem dX6_isRegular_2_24 : decode cX6_isRegular_2 24 = .ok (.iconst 0, 1) := dk_3 (dk_at dksX6_isRegular_2_1 0 rfl rfl)
theorem dX6_isRegular_2_25 : decode cX6_isRegular_2 25 = .ok (.ireturn, 1) := dk_172 (dk_at dksX6_isRegular_2_1 1 rfl rfl)
theorem dX6_isRegular_2_26 : decode cX6_isRegular_2 26 = .ok (.iload_n 2, 1) := dk_28 (dk_at dksX6_isRegular_2_1 2 rfl rfl)
theorem dX6_isRegular_2_27 : decode cX6_isRegular_2 27 = .ok (.iconst 1, 1) := dk_4 (dk_at dksX6_isRegular_2_1 3 rfl rfl)
theorem dX6_isRegular_2_28 : decode cX6_isRegular_2 28 = .ok (.isub, 1) := dk_100 (dk_at dksX6_isRegular_2_1 4 rfl rfl)
theorem dX6_isRegular_2_29 : decode cX6_isRegular_2 29 = .ok (.invokestatic 31, 3) := dk_184 0 31 (dk_at dksX6_isRegular_2_1 5 rfl rfl)
theorem dX6_isRegular_2_32 : decode cX6_isRegular_2 32 = .ok (.istore 4, 2) := dk_54 4 (dk_at dksX6_isRegular_2_1 8 rfl rfl)
theorem dX6_isRegular_2_34 : decode cX6_isRegular_2 34 = .ok (.aload_n 1, 1) := dk_43 (dk_at dksX6_isRegular_2_1 10 rfl rfl)
theorem dX6_isRegular_2_35 : decode cX6_isRegular_2 35 = .ok (.invokevirtual 75, 3) := dk_182 0 75 (dk_at dksX6_isRegular_2_1 11 rfl rfl)
theorem dX6_isRegular_2_38 : decode cX6_isRegular_2 38 = .ok (.ifCond .ne 19, 3) := dk_154 0 19 (dk_at dksX6_isRegular_2_1 14 rfl rfl)
theorem dX6_isRegular_2_41 : decode cX6_isRegular_2 41 = .ok (.aload_n 1, 1) := dk_43 (dk_at dksX6_isRegular_2_1 17 rfl rfl)
theorem dX6_isRegular_2_42 : decode cX6_isRegular_2 42 = .ok (.invokevirtual 78, 3) := dk_182 0 78 (dk_at dksX6_isRegular_2_1 18 rfl rfl)
theorem dX6_isRegular_2_45 : decode cX6_isRegular_2 45 = .ok (.iload_n 3, 1) := dk_29 (dk_at dksX6_isRegular_2_1 21 rfl rfl)
theorem dX6_isRegular_2_46 : decode cX6_isRegular_2 46 = .ok (.iload 4, 2) := dk_21 4 (dk_at dksX6_isRegular_2_1 22 rfl rfl)
theorem dX6_isRegular_2_48 : decode cX6_isRegular_2 48 = .ok (.iadd, 1) := dk_96 (dk_at dksX6_isRegular_2_2 0 rfl rfl)
theorem dX6_isRegular_2_49 : decode cX6_isRegular_2 49 = .ok (.iconst 1, 1) := dk_4 (dk_at dksX6_isRegular_2_2 1 rfl rfl)
theorem dX6_isRegular_2_50 : decode cX6_isRegular_2 50 = .ok (.isub, 1) := dk_100 (dk_at dksX6_isRegular_2_2 2 rfl rfl)
theorem dX6_isRegular_2_51 : decode cX6_isRegular_2 51 = .ok (.iload 4, 2) := dk_21 4 (dk_at dksX6_isRegular_2_2 3 rfl rfl)
theorem dX6_isRegular_2_53 : decode cX6_isRegular_2 53 = .ok (.idiv, 1) := dk_108 (dk_at dksX6_isRegular_2_2 5 rfl rfl)
theorem dX6_isRegular_2_54 : decode cX6_isRegular_2 54 = .ok (.if_icmp .eq 5, 3) := dk_159 0 5 (dk_at dksX6_isRegular_2_2 6 rfl rfl)
theorem dX6_isRegular_2_57 : decode cX6_isRegular_2 57 = .ok (.iconst 0, 1) := dk_3 (dk_at dksX6_isRegular_2_2 9 rfl rfl)
theorem dX6_isRegular_2_58 : decode cX6_isRegular_2 58 = .ok (.ireturn, 1) := dk_172 (dk_at dksX6_isRegular_2_2 10 rfl rfl)
theorem dX6_isRegular_2_59 : decode cX6_isRegular_2 59 = .ok (.iconst 0, 1) := dk_3 (dk_at dksX6_isRegular_2_2 11 rfl rfl)
theorem dX6_isRegular_2_60 : decode cX6_isRegular_2 60 = .ok (.istore 5, 2) := dk_54 5 (dk_at dksX6_isRegular_2_2 12 rfl rfl)
theorem dX6_isRegular_2_62 : decode cX6_isRegular_2 62 = .ok (.iload 5, 2) := dk_21 5 (dk_at dksX6_isRegular_2_2 14 rfl rfl)
theorem dX6_isRegular_2_64 : decode cX6_isRegular_2 64 = .ok (.aload_n 1, 1) := dk_43 (dk_at dksX6_isRegular_2_2 16 rfl rfl)
theorem dX6_isRegular_2_65 : decode cX6_isRegular_2 65 = .ok (.invokevirtual 78, 3) := dk_182 0 78 (dk_at dksX6_isRegular_2_2 17 rfl rfl)
theorem dX6_isRegular_2_68 : decode cX6_isRegular_2 68 = .ok (.if_icmp .ge 39, 3) := dk_162 0 39 (dk_at dksX6_isRegular_2_2 20 rfl rfl)
theorem dX6_isRegular_2_71 : decode cX6_isRegular_2 71 = .ok (.aload_n 0, 1) := dk_42 (dk_at dksX6_isRegular_2_2 23 rfl rfl)
theorem dX6_isRegular_2_72 : decode cX6_isRegular_2 72 = .ok (.aload_n 1, 1) := dk_43 (dk_at dksX6_isRegular_2_3 0 rfl rfl)
theorem dX6_isRegular_2_73 : decode cX6_isRegular_2 73 = .ok (.iload 5, 2) := dk_21 5 (dk_at dksX6_isRegular_2_3 1 rfl rfl)
theorem dX6_isRegular_2_75 : decode cX6_isRegular_2 75 = .ok (.invokevirtual 35, 3) := dk_182 0 35 (dk_at dksX6_isRegular_2_3 3 rfl rfl)
theorem dX6_isRegular_2_78 : decode cX6_isRegular_2 78 = .ok (.iload_n 2, 1) := dk_28 (dk_at dksX6_isRegular_2_3 6 rfl rfl)
theorem dX6_isRegular_2_79 : decode cX6_isRegular_2 79 = .ok (.iconst 1, 1) := dk_4 (dk_at dksX6_isRegular_2_3 7 rfl rfl)
theorem dX6_isRegular_2_80 : decode cX6_isRegular_2 80 = .ok (.isub, 1) := dk_100 (dk_at dksX6_isRegular_2_3 8 rfl rfl)
theorem dX6_isRegular_2_81 : decode cX6_isRegular_2 81 = .ok (.iload 4, 2) := dk_21 4 (dk_at dksX6_isRegular_2_3 9 rfl rfl)
theorem dX6_isRegular_2_83 : decode cX6_isRegular_2 83 = .ok (.iload_n 3, 1) := dk_29 (dk_at dksX6_isRegular_2_3 11 rfl rfl)
theorem dX6_isRegular_2_84 : decode cX6_isRegular_2 84 = .ok (.iload 5, 2) := dk_21 5 (dk_at dksX6_isRegular_2_3 12 rfl rfl)
theorem dX6_isRegular_2_86 : decode cX6_isRegular_2 86 = .ok (.iload 4, 2) := dk_21 4 (dk_at dksX6_isRegular_2_3 14 rfl rfl)
theorem dX6_isRegular_2_88 : decode cX6_isRegular_2 88 = .ok (.imul, 1) := dk_104 (dk_at dksX6_isRegular_2_3 16 rfl rfl)
theorem dX6_isRegular_2_89 : decode cX6_isRegular_2 89 = .ok (.isub, 1) := dk_100 (dk_at dksX6_isRegular_2_3 17 rfl rfl)
theorem dX6_isRegular_2_90 : decode cX6_isRegular_2 90 = .ok (.invokestatic 82, 3) := dk_184 0 82 (dk_at dksX6_isRegular_2_3 18 rfl rfl)
theorem dX6_isRegular_2_93 : decode cX6_isRegular_2 93 = .ok (.invokevirtual 68, 3) := dk_182 0 68 (dk_at dksX6_isRegular_2_3 21 rfl rfl)
theorem dX6_isRegular_2_96 : decode cX6_isRegular_2 96 = .ok (.ifCond .ne 5, 3) := dk_154 0 5 (dk_at dksX6_isRegular_2_4 0 rfl rfl)
theorem dX6_isRegular_2_99 : decode cX6_isRegular_2 99 = .ok (.iconst 0, 1) := dk_3 (dk_at dksX6_isRegular_2_4 3 rfl rfl)
theorem dX6_isRegular_2_100 : decode cX6_isRegular_2 100 = .ok (.ireturn, 1) := dk_172 (dk_at dksX6_isRegular_2_4 4 rfl rfl)
theorem dX6_isRegular_2_101 : decode cX6_isRegular_2 101 = .ok (.iinc 5 1, 3) := dk_132 5 1 (dk_at dksX6_isRegular_2_4 5 rfl rfl)
theorem dX6_isRegular_2_104 : decode cX6_isRegular_2 104 = .ok (.goto (-42), 3) := dk_167 255 214 (dk_at dksX6_isRegular_2_4 8 rfl rfl)
theorem dX6_isRegular_2_107 : decode cX6_isRegular_2 107 = .ok (.iconst 1, 1) := dk_4 (dk_at dksX6_isRegular_2_4 11 rfl rfl)
theorem dX6_isRegular_2_108 : decode cX6_isRegular_2 108 = .ok (.ireturn, 1) := dk_172 (dk_at dksX6_isRegular_2_4 12 rfl rfl)
abbrev cX6_rootNumber : ByteArray := prog_14_method_2_code
def yX6_rootNumber : MethodName := ⟨RX6, "rootNumber", "()I"⟩
def dkwX6_rootNumber_0 : List UInt8 := [42, 180, 0, 9, 199, 0, 7, 2, 167, 0, 10, 42, 180, 0, 9, 180, 0, 22, 172]
abbrev dktX6_rootNumber_0 : List UInt8 := dkwX6_rootNumber_0 ++ []
theorem dksX6_rootNumber_0 : cX6_rootNumber.data.toList.drop 0 = dktX6_rootNumber_0 := by decide +kernel
theorem dX6_rootNumber_0 : decode cX6_rootNumber 0 = .ok (.aload_n 0, 1) := dk_42 (dk_at dksX6_rootNumber_0 0 rfl rfl)
theorem dX6_rootNumber_1 : decode cX6_rootNumber 1 = .ok (.getfield 9, 3) := dk_180 0 9 (dk_at dksX6_rootNumber_0 1 rfl rfl)
theorem dX6_rootNumber_4 : decode cX6_rootNumber 4 = .ok (.ifnonnull 7, 3) := dk_199 0 7 (dk_at dksX6_rootNumber_0 4 rfl rfl)
theorem dX6_rootNumber_7 : decode cX6_rootNumber 7 = .ok (.iconst (-1), 1) := dk_2 (dk_at dksX6_rootNumber_0 7 rfl rfl)
theorem dX6_rootNumber_8 : decode cX6_rootNumber 8 = .ok (.goto 10, 3) := dk_167 0 10 (dk_at dksX6_rootNumber_0 8 rfl rfl)
theorem dX6_rootNumber_11 : decode cX6_rootNumber 11 = .ok (.aload_n 0, 1) := dk_42 (dk_at dksX6_rootNumber_0 11 rfl rfl)
theorem dX6_rootNumber_12 : decode cX6_rootNumber 12 = .ok (.getfield 9, 3) := dk_180 0 9 (dk_at dksX6_rootNumber_0 12 rfl rfl)
theorem dX6_rootNumber_15 : decode cX6_rootNumber 15 = .ok (.getfield 22, 3) := dk_180 0 22 (dk_at dksX6_rootNumber_0 15 rfl rfl)
theorem dX6_rootNumber_18 : decode cX6_rootNumber 18 = .ok (.ireturn, 1) := dk_172 (dk_at dksX6_rootNumber_0 18 rfl rfl)
abbrev cX6_leaf : ByteArray := prog_14_method_4_code
def yX6_leaf : MethodName := ⟨RX6, "leaf", "(I)LVectorVersions$Node;"⟩
def dkwX6_leaf_2 : List UInt8 := [167, 255, 223, 44, 176]
abbrev dktX6_leaf_2 : List UInt8 := dkwX6_leaf_2 ++ []
def dkwX6_leaf_1 : List UInt8 := [100, 184, 0, 31, 108, 182, 0, 35, 77, 29, 21, 4, 4, 100, 184, 0, 31, 112, 62, 132, 4, 255]
abbrev dktX6_leaf_1 : List UInt8 := dkwX6_leaf_1 ++ dktX6_leaf_2
def dkwX6_leaf_0 : List UInt8 := [42, 180, 0, 9, 77, 27, 62, 42, 180, 0, 19, 54, 4, 21, 4, 4, 164, 0, 33, 44, 29, 21, 4, 4]
abbrev dktX6_leaf_0 : List UInt8 := dkwX6_leaf_0 ++ dktX6_leaf_1
theorem dksX6_leaf_0 : cX6_leaf.data.toList.drop 0 = dktX6_leaf_0 := by decide +kernel
theorem dksX6_leaf_1 : cX6_leaf.data.toList.drop 24 = dktX6_leaf_1 := dk_seg dksX6_leaf_0 24 rfl rfl
theorem dksX6_leaf_2 : cX6_leaf.data.toList.drop 46 = dktX6_leaf_2 := dk_seg dksX6_leaf_1 22 rfl rfl
theorem dX6_leaf_0 : decode cX6_leaf 0 = .ok (.aload_n 0, 1) := dk_42 (dk_at dksX6_leaf_0 0 rfl rfl)
theorem dX6_leaf_1 : decode cX6_leaf 1 = .ok (.getfield 9, 3) := dk_180 0 9 (dk_at dksX6_leaf_0 1 rfl rfl)
theorem dX6_leaf_4 : decode cX6_leaf 4 = .ok (.astore_n 2, 1) := dk_77 (dk_at dksX6_leaf_0 4 rfl rfl)
theorem dX6_leaf_5 : decode cX6_leaf 5 = .ok (.iload_n 1, 1) := dk_27 (dk_at dksX6_leaf_0 5 rfl rfl)
theorem dX6_leaf_6 : decode cX6_leaf 6 = .ok (.istore_n 3, 1) := dk_62 (dk_at dksX6_leaf_0 6 rfl rfl)
theorem dX6_leaf_7 : decode cX6_leaf 7 = .ok (.aload_n 0, 1) := dk_42 (dk_at dksX6_leaf_0 7 rfl rfl)
theorem dX6_leaf_8 : decode cX6_leaf 8 = .ok (.getfield 19, 3) := dk_180 0 19 (dk_at dksX6_leaf_0 8 rfl rfl)
theorem dX6_leaf_11 : decode cX6_leaf 11 = .ok (.istore 4, 2) := dk_54 4 (dk_at dksX6_leaf_0 11 rfl rfl)
theorem dX6_leaf_13 : decode cX6_leaf 13 = .ok (.iload 4, 2) := dk_21 4 (dk_at dksX6_leaf_0 13 rfl rfl)
theorem dX6_leaf_15 : decode cX6_leaf 15 = .ok (.iconst 1, 1) := dk_4 (dk_at dksX6_leaf_0 15 rfl rfl)
theorem dX6_leaf_16 : decode cX6_leaf 16 = .ok (.if_icmp .le 33, 3) := dk_164 0 33 (dk_at dksX6_leaf_0 16 rfl rfl)
theorem dX6_leaf_19 : decode cX6_leaf 19 = .ok (.aload_n 2, 1) := dk_44 (dk_at dksX6_leaf_0 19 rfl rfl)
theorem dX6_leaf_20 : decode cX6_leaf 20 = .ok (.iload_n 3, 1) := dk_29 (dk_at dksX6_leaf_0 20 rfl rfl)
theorem dX6_leaf_21 : decode cX6_leaf 21 = .ok (.iload 4, 2) := dk_21 4 (dk_at dksX6_leaf_0 21 rfl rfl)
theorem dX6_leaf_23 : decode cX6_leaf 23 = .ok (.iconst 1, 1) := dk_4 (dk_at dksX6_leaf_0 23 rfl rfl)
theorem dX6_leaf_24 : decode cX6_leaf 24 = .ok (.isub, 1) := dk_100 (dk_at dksX6_leaf_1 0 rfl rfl)
theorem dX6_leaf_25 : decode cX6_leaf 25 = .ok (.invokestatic 31, 3) := dk_184 0 31 (dk_at dksX6_leaf_1 1 rfl rfl)
theorem dX6_leaf_28 : decode cX6_leaf 28 = .ok (.idiv, 1) := dk_108 (dk_at dksX6_leaf_1 4 rfl rfl)
theorem dX6_leaf_29 : decode cX6_leaf 29 = .ok (.invokevirtual 35, 3) := dk_182 0 35 (dk_at dksX6_leaf_1 5 rfl rfl)
theorem dX6_leaf_32 : decode cX6_leaf 32 = .ok (.astore_n 2, 1) := dk_77 (dk_at dksX6_leaf_1 8 rfl rfl)
theorem dX6_leaf_33 : decode cX6_leaf 33 = .ok (.iload_n 3, 1) := dk_29 (dk_at dksX6_leaf_1 9 rfl rfl)
theorem dX6_leaf_34 : decode cX6_leaf 34 = .ok (.iload 4, 2) := dk_21 4 (dk_at dksX6_leaf_1 10 rfl rfl)
theorem dX6_leaf_36 : decode cX6_leaf 36 = .ok (.iconst 1, 1) := dk_4 (dk_at dksX6_leaf_1 12 rfl rfl)
theorem dX6_leaf_37 : decode cX6_leaf 37 = .ok (.isub, 1) := dk_100 (dk_at dksX6_leaf_1 13 rfl rfl)
theorem dX6_leaf_38 : decode cX6_leaf 38 = .ok (.invokestatic 31, 3) := dk_184 0 31 (dk_at dksX6_leaf_1 14 rfl rfl)
theorem dX6_leaf_41 : decode cX6_leaf 41 = .ok (.irem, 1) := dk_112 (dk_at dksX6_leaf_1 17 rfl rfl)
theorem dX6_leaf_42 : decode cX6_leaf 42 = .ok (.istore_n 3, 1) := dk_62 (dk_at dksX6_leaf_1 18 rfl rfl)
theorem dX6_leaf_43 : decode cX6_leaf 43 = .ok (.iinc 4 (-1), 3) := dk_132 4 255 (dk_at dksX6_leaf_1 19 rfl rfl)
theorem dX6_leaf_46 : decode cX6_leaf 46 = .ok (.goto (-33), 3) := dk_167 255 223 (dk_at dksX6_leaf_2 0 rfl rfl)
theorem dX6_leaf_49 : decode cX6_leaf 49 = .ok (.aload_n 2, 1) := dk_44 (dk_at dksX6_leaf_2 3 rfl rfl)
theorem dX6_leaf_50 : decode cX6_leaf 50 = .ok (.areturn, 1) := dk_176 (dk_at dksX6_leaf_2 4 rfl rfl)
abbrev cX6_indexOf : ByteArray := prog_14_method_6_code
def yX6_indexOf : MethodName := ⟨RX6, "indexOf", "(Ljava/lang/Comparable;)I"⟩
def dkwX6_indexOf_1 : List UInt8 := [192, 0, 58, 43, 185, 0, 60, 2, 0, 154, 0, 5, 28, 172, 132, 2, 1, 167, 255, 224, 2, 172]
abbrev dktX6_indexOf_1 : List UInt8 := dkwX6_indexOf_1 ++ []
def dkwX6_indexOf_0 : List UInt8 := [3, 61, 42, 182, 0, 44, 78, 45, 185, 0, 48, 1, 0, 153, 0, 29, 45, 185, 0, 54, 1, 0]
abbrev dktX6_indexOf_0 : List UInt8 := dkwX6_indexOf_0 ++ dktX6_indexOf_1
theorem dksX6_indexOf_0 : cX6_indexOf.data.toList.drop 0 = dktX6_indexOf_0 := by decide +kernel
theorem dksX6_indexOf_1 : cX6_indexOf.data.toList.drop 22 = dktX6_indexOf_1 := dk_seg dksX6_indexOf_0 22 rfl rfl
theorem dX6_indexOf_0 : decode cX6_indexOf 0 = .ok (.iconst 0, 1) := dk_3 (dk_at dksX6_indexOf_0 0 rfl rfl)
theorem dX6_indexOf_1 : decode cX6_indexOf 1 = .ok (.istore_n 2, 1) := dk_61 (dk_at dksX6_indexOf_0 1 rfl rfl)
theorem dX6_indexOf_2 : decode cX6_indexOf 2 = .ok (.aload_n 0, 1) := dk_42 (dk_at dksX6_indexOf_0 2 rfl rfl)
theorem dX6_indexOf_3 : decode cX6_indexOf 3 = .ok (.invokevirtual 44, 3) := dk_182 0 44 (dk_at dksX6_indexOf_0 3 rfl rfl)
theorem dX6_indexOf_6 : decode cX6_indexOf 6 = .ok (.astore_n 3, 1) := dk_78 (dk_at dksX6_indexOf_0 6 rfl rfl)
theorem dX6_indexOf_7 : decode cX6_indexOf 7 = .ok (.aload_n 3, 1) := dk_45 (dk_at dksX6_indexOf_0 7 rfl rfl)
theorem dX6_indexOf_8 : decode cX6_indexOf 8 = .ok (.invokeinterface 48 1, 5) := by decide +kernel
theorem dX6_indexOf_13 : decode cX6_indexOf 13 = .ok (.ifCond .eq 29, 3) := dk_153 0 29 (dk_at dksX6_indexOf_0 13 rfl rfl)
theorem dX6_indexOf_16 : decode cX6_indexOf 16 = .ok (.aload_n 3, 1) := dk_45 (dk_at dksX6_indexOf_0 16 rfl rfl)
theorem dX6_indexOf_17 : decode cX6_indexOf 17 = .ok (.invokeinterface 54 1, 5) := by decide +kernel
theorem dX6_indexOf_22 : decode cX6_indexOf 22 = .ok (.checkcast 58, 3) := dk_192 0 58 (dk_at dksX6_indexOf_1 0 rfl rfl)
theorem dX6_indexOf_25 : decode cX6_indexOf 25 = .ok (.aload_n 1, 1) := dk_43 (dk_at dksX6_indexOf_1 3 rfl rfl)
theorem dX6_indexOf_26 : decode cX6_indexOf 26 = .ok (.invokeinterface 60 2, 5) := by decide +kernel
theorem dX6_indexOf_31 : decode cX6_indexOf 31 = .ok (.ifCond .ne 5, 3) := dk_154 0 5 (dk_at dksX6_indexOf_1 9 rfl rfl)
theorem dX6_indexOf_34 : decode cX6_indexOf 34 = .ok (.iload_n 2, 1) := dk_28 (dk_at dksX6_indexOf_1 12 rfl rfl)
theorem dX6_indexOf_35 : decode cX6_indexOf 35 = .ok (.ireturn, 1) := dk_172 (dk_at dksX6_indexOf_1 13 rfl rfl)
theorem dX6_indexOf_36 : decode cX6_indexOf 36 = .ok (.iinc 2 1, 3) := dk_132 2 1 (dk_at dksX6_indexOf_1 14 rfl rfl)
theorem dX6_indexOf_39 : decode cX6_indexOf 39 = .ok (.goto (-32), 3) := dk_167 255 224 (dk_at dksX6_indexOf_1 17 rfl rfl)
theorem dX6_indexOf_42 : decode cX6_indexOf 42 = .ok (.iconst (-1), 1) := dk_2 (dk_at dksX6_indexOf_1 20 rfl rfl)
theorem dX6_indexOf_43 : decode cX6_indexOf 43 = .ok (.ireturn, 1) := dk_172 (dk_at dksX6_indexOf_1 21 rfl rfl)
abbrev cX6_hasSameAt : ByteArray := prog_14_method_7_code
def yX6_hasSameAt : MethodName := ⟨RX6, "hasSameAt", "(LVectorVersions$Tree;I)Z"⟩
def dkwX6_hasSameAt_0 : List UInt8 := [42, 28, 182, 0, 64, 43, 28, 182, 0, 64, 185, 0, 60, 2, 0, 154, 0, 7, 4, 167, 0, 4, 3, 172]
abbrev dktX6_hasSameAt_0 : List UInt8 := dkwX6_hasSameAt_0 ++ []
theorem dksX6_hasSameAt_0 : cX6_hasSameAt.data.toList.drop 0 = dktX6_hasSameAt_0 := by decide +kernel
theorem dX6_hasSameAt_0 : decode cX6_hasSameAt 0 = .ok (.aload_n 0, 1) := dk_42 (dk_at dksX6_hasSameAt_0 0 rfl rfl)
theorem dX6_hasSameAt_1 : decode cX6_hasSameAt 1 = .ok (.iload_n 2, 1) := dk_28 (dk_at dksX6_hasSameAt_0 1 rfl rfl)
theorem dX6_hasSameAt_2 : decode cX6_hasSameAt 2 = .ok (.invokevirtual 64, 3) := dk_182 0 64 (dk_at dksX6_hasSameAt_0 2 rfl rfl)
theorem dX6_hasSameAt_5 : decode cX6_hasSameAt 5 = .ok (.aload_n 1, 1) := dk_43 (dk_at dksX6_hasSameAt_0 5 rfl rfl)
theorem dX6_hasSameAt_6 : decode cX6_hasSameAt 6 = .ok (.iload_n 2, 1) := dk_28 (dk_at dksX6_hasSameAt_0 6 rfl rfl)
theorem dX6_hasSameAt_7 : decode cX6_hasSameAt 7 = .ok (.invokevirtual 64, 3) := dk_182 0 64 (dk_at dksX6_hasSameAt_0 7 rfl rfl)
theorem dX6_hasSameAt_10 : decode cX6_hasSameAt 10 = .ok (.invokeinterface 60 2, 5) := by decide +kernel
theorem dX6_hasSameAt_15 : decode cX6_hasSameAt 15 = .ok (.ifCond .ne 7, 3) := dk_154 0 7 (dk_at dksX6_hasSameAt_0 15 rfl rfl)
theorem dX6_hasSameAt_18 : decode cX6_hasSameAt 18 = .ok (.iconst 1, 1) := dk_4 (dk_at dksX6_hasSameAt_0 18 rfl rfl)
theorem dX6_hasSameAt_19 : decode cX6_hasSameAt 19 = .ok (.goto 4, 3) := dk_167 0 4 (dk_at dksX6_hasSameAt_0 19 rfl rfl)
theorem dX6_hasSameAt_22 : decode cX6_hasSameAt 22 = .ok (.iconst 0, 1) := dk_3 (dk_at dksX6_hasSameAt_0 22 rfl rfl)
theorem dX6_hasSameAt_23 : decode cX6_hasSameAt 23 = .ok (.ireturn, 1) := dk_172 (dk_at dksX6_hasSameAt_0 23 rfl rfl)
theorem q161 : (Jvm.Cond.initialized "VectorVersions$Tree") ∈ lw_all := lw_g (lw_at lw_m1 27 rfl) rfl
theorem q295 : (Jvm.Cond.selects "VectorVersions$Tree" ({ cls := "java/lang/Object", name := "getClass", desc := "()Ljava/lang/Class;" } : Jvm.MethodName) ({ cls := "java/lang/Object", name := "getClass", desc := "()Ljava/lang/Class;" } : Jvm.MethodName)) ∈ lw_all := lw_g (lw_at lw_m1 161 rfl) rfl
theorem q723 : (Jvm.Cond.fieldLinkNest "VectorVersions$Tree" (22 : Nat) "VectorVersions$Node" "number" "I" "VectorVersions") ∈ lw_tbl := lw_at lw_m3 109 rfl
theorem q765 : (Jvm.Cond.instantiable "VectorVersions$Tree" (3 : Nat)) ∈ lw_all := lw_g (lw_at lw_m3 151 rfl) rfl
theorem q782 : (Jvm.Cond.instanceMethod ({ cls := "VectorVersions$Tree", name := "<init>", desc := "(LVectorVersions$Node;II)V" } : Jvm.MethodName)) ∈ lw_all := lw_g (lw_at lw_m3 168 rfl) rfl
theorem q783 : (Jvm.Cond.code ({ cls := "VectorVersions$Tree", name := "<init>", desc := "(LVectorVersions$Node;II)V" } : Jvm.MethodName) prog_14_method_1_code (4 : Nat) (Option.none : Option Jvm.ClassFile.FieldType)) ∈ lw_all := lw_g (lw_at lw_m3 169 rfl) rfl
theorem q784 : (Jvm.Cond.methodLink "VectorVersions$Tree" (3 : Nat) ({ cls := "java/lang/Object", name := "<init>", desc := "()V" } : Jvm.MethodName)) ∈ lw_all := lw_g (lw_at lw_m3 170 rfl) rfl
theorem q785 : (Jvm.Cond.fieldLink "VectorVersions$Tree" (9 : Nat) "VectorVersions$Tree" "root" "LVectorVersions$Node;") ∈ lw_all := lw_g (lw_at lw_m3 171 rfl) rfl
theorem q789 : (Jvm.Cond.fieldLink "VectorVersions$Tree" (15 : Nat) "VectorVersions$Tree" "size" "I") ∈ lw_all := lw_g (lw_at lw_m3 175 rfl) rfl
theorem q793 : (Jvm.Cond.fieldLink "VectorVersions$Tree" (19 : Nat) "VectorVersions$Tree" "height" "I") ∈ lw_all := lw_g (lw_at lw_m3 179 rfl) rfl
theorem q796 : (Jvm.Cond.laysFinal "VectorVersions$Tree" "VectorVersions$Tree" "root" "LVectorVersions$Node;") ∈ lw_all := lw_g (lw_at lw_m3 182 rfl) rfl
theorem q797 : (Jvm.Cond.soleField "VectorVersions$Tree" "root") ∈ lw_all := lw_g (lw_at lw_m3 183 rfl) rfl
theorem q798 : (Jvm.Cond.laysFinal "VectorVersions$Tree" "VectorVersions$Tree" "size" "I") ∈ lw_all := lw_g (lw_at lw_m3 184 rfl) rfl
theorem q799 : (Jvm.Cond.soleField "VectorVersions$Tree" "size") ∈ lw_all := lw_g (lw_at lw_m3 185 rfl) rfl
theorem q800 : (Jvm.Cond.laysFinal "VectorVersions$Tree" "VectorVersions$Tree" "height" "I") ∈ lw_all := lw_g (lw_at lw_m3 186 rfl) rfl
theorem q801 : (Jvm.Cond.soleField "VectorVersions$Tree" "height") ∈ lw_all := lw_g (lw_at lw_m3 187 rfl) rfl
theorem q802 : (Jvm.Cond.superclass "VectorVersions$Tree" "java/lang/Object") ∈ lw_all := lw_g (lw_at lw_m3 188 rfl) rfl
theorem q1386 : (Jvm.Cond.instanceMethod ({ cls := "VectorVersions$Tree", name := "get", desc := "(I)Ljava/lang/Comparable;" } : Jvm.MethodName)) ∈ lw_all := lw_g (lw_at lw_m6 52 rfl) rfl
theorem q1387 : (Jvm.Cond.selects "VectorVersions$Tree" ({ cls := "VectorVersions$Tree", name := "get", desc := "(I)Ljava/lang/Comparable;" } : Jvm.MethodName) ({ cls := "VectorVersions$Tree", name := "get", desc := "(I)Ljava/lang/Comparable;" } : Jvm.MethodName)) ∈ lw_all := lw_g (lw_at lw_m6 53 rfl) rfl
theorem q1388 : (Jvm.Cond.code ({ cls := "VectorVersions$Tree", name := "get", desc := "(I)Ljava/lang/Comparable;" } : Jvm.MethodName) prog_14_method_3_code (2 : Nat) (Option.some (Jvm.ClassFile.FieldType.object "java/lang/Comparable"))) ∈ lw_all := lw_g (lw_at lw_m6 54 rfl) rfl
theorem q1389 : (Jvm.Cond.methodLink "VectorVersions$Tree" (27 : Nat) ({ cls := "VectorVersions$Node", name := "element", desc := "(II)Ljava/lang/Comparable;" } : Jvm.MethodName)) ∈ lw_all := lw_g (lw_at lw_m6 55 rfl) rfl
theorem q1739 : (Jvm.Cond.instanceMethod ({ cls := "VectorVersions$Tree", name := "elements", desc := "()Ljava/util/Iterator;" } : Jvm.MethodName)) ∈ lw_all := lw_g (lw_at lw_m7 165 rfl) rfl
theorem q1740 : (Jvm.Cond.selects "VectorVersions$Tree" ({ cls := "VectorVersions$Tree", name := "elements", desc := "()Ljava/util/Iterator;" } : Jvm.MethodName) ({ cls := "VectorVersions$Tree", name := "elements", desc := "()Ljava/util/Iterator;" } : Jvm.MethodName)) ∈ lw_all := lw_g (lw_at lw_m7 166 rfl) rfl
theorem q1741 : (Jvm.Cond.code ({ cls := "VectorVersions$Tree", name := "elements", desc := "()Ljava/util/Iterator;" } : Jvm.MethodName) prog_14_method_5_code (1 : Nat) (Option.some (Jvm.ClassFile.FieldType.object "java/util/Iterator"))) ∈ lw_all := lw_g (lw_at lw_m7 167 rfl) rfl
theorem q1742 : (Jvm.Cond.classLink "VectorVersions$Tree" (39 : Nat) "VectorVersions$Tree$Elements") ∈ lw_all := lw_g (lw_at lw_m7 168 rfl) rfl
theorem q1743 : (Jvm.Cond.methodLink "VectorVersions$Tree" (41 : Nat) ({ cls := "VectorVersions$Tree$Elements", name := "<init>", desc := "(LVectorVersions$Tree;)V" } : Jvm.MethodName)) ∈ lw_all := lw_g (lw_at lw_m7 169 rfl) rfl
theorem q1771 : (Jvm.Cond.instanceMethod ({ cls := "VectorVersions$Tree", name := "isRegular", desc := "()Z" } : Jvm.MethodName)) ∈ lw_all := lw_g (lw_at lw_m7 197 rfl) rfl
theorem q1772 : (Jvm.Cond.selects "VectorVersions$Tree" ({ cls := "VectorVersions$Tree", name := "isRegular", desc := "()Z" } : Jvm.MethodName) ({ cls := "VectorVersions$Tree", name := "isRegular", desc := "()Z" } : Jvm.MethodName)) ∈ lw_all := lw_g (lw_at lw_m7 198 rfl) rfl
theorem q1773 : (Jvm.Cond.code ({ cls := "VectorVersions$Tree", name := "isRegular", desc := "()Z" } : Jvm.MethodName) prog_14_method_8_code (1 : Nat) (Option.some Jvm.ClassFile.FieldType.boolean)) ∈ lw_all := lw_g (lw_at lw_m7 199 rfl) rfl
theorem q1774 : (Jvm.Cond.methodLink "VectorVersions$Tree" (68 : Nat) ({ cls := "VectorVersions$Tree", name := "isRegular", desc := "(LVectorVersions$Node;II)Z" } : Jvm.MethodName)) ∈ lw_all := lw_g (lw_at lw_m7 200 rfl) rfl
theorem q1775 : (Jvm.Cond.privateMethod ({ cls := "VectorVersions$Tree", name := "isRegular", desc := "(LVectorVersions$Node;II)Z" } : Jvm.MethodName)) ∈ lw_tbl := lw_at lw_m7 201 rfl
theorem q1776 : (Jvm.Cond.instanceMethod ({ cls := "VectorVersions$Tree", name := "isRegular", desc := "(LVectorVersions$Node;II)Z" } : Jvm.MethodName)) ∈ lw_all := lw_g (lw_at lw_m7 202 rfl) rfl
theorem q1777 : (Jvm.Cond.code ({ cls := "VectorVersions$Tree", name := "isRegular", desc := "(LVectorVersions$Node;II)Z" } : Jvm.MethodName) prog_14_method_9_code (6 : Nat) (Option.some Jvm.ClassFile.FieldType.boolean)) ∈ lw_all := lw_g (lw_at lw_m7 203 rfl) rfl
theorem q1778 : (Jvm.Cond.methodLink "VectorVersions$Tree" (75 : Nat) ({ cls := "VectorVersions$Node", name := "isLeaf", desc := "()Z" } : Jvm.MethodName)) ∈ lw_all := lw_g (lw_at lw_m7 204 rfl) rfl
theorem q1779 : (Jvm.Cond.methodLink "VectorVersions$Tree" (78 : Nat) ({ cls := "VectorVersions$Node", name := "count", desc := "()I" } : Jvm.MethodName)) ∈ lw_all := lw_g (lw_at lw_m7 205 rfl) rfl
theorem q1780 : (Jvm.Cond.methodLinkNest "VectorVersions$Tree" (31 : Nat) ({ cls := "VectorVersions", name := "capacity", desc := "(I)I" } : Jvm.MethodName) "VectorVersions") ∈ lw_tbl := lw_at lw_m7 206 rfl
theorem q1781 : (Jvm.Cond.methodLink "VectorVersions$Tree" (35 : Nat) ({ cls := "VectorVersions$Node", name := "child", desc := "(I)LVectorVersions$Node;" } : Jvm.MethodName)) ∈ lw_all := lw_g (lw_at lw_m7 207 rfl) rfl
theorem q1782 : (Jvm.Cond.methodLink "VectorVersions$Tree" (82 : Nat) ({ cls := "java/lang/Math", name := "min", desc := "(II)I" } : Jvm.MethodName)) ∈ lw_all := lw_g (lw_at lw_m7 208 rfl) rfl
theorem q1783 : (Jvm.Cond.methodLinkNest "VectorVersions$Tree" (72 : Nat) ({ cls := "VectorVersions", name := "heightFor", desc := "(I)I" } : Jvm.MethodName) "VectorVersions") ∈ lw_tbl := lw_at lw_m7 209 rfl
theorem q1915 : (Jvm.Cond.instanceMethod ({ cls := "VectorVersions$Tree", name := "rootNumber", desc := "()I" } : Jvm.MethodName)) ∈ lw_all := lw_g (lw_at lw_m8 101 rfl) rfl
theorem q1916 : (Jvm.Cond.selects "VectorVersions$Tree" ({ cls := "VectorVersions$Tree", name := "rootNumber", desc := "()I" } : Jvm.MethodName) ({ cls := "VectorVersions$Tree", name := "rootNumber", desc := "()I" } : Jvm.MethodName)) ∈ lw_all := lw_g (lw_at lw_m8 102 rfl) rfl
theorem q1917 : (Jvm.Cond.code ({ cls := "VectorVersions$Tree", name := "rootNumber", desc := "()I" } : Jvm.MethodName) prog_14_method_2_code (1 : Nat) (Option.some Jvm.ClassFile.FieldType.int)) ∈ lw_all := lw_g (lw_at lw_m8 103 rfl) rfl
theorem q1940 : (Jvm.Cond.instanceMethod ({ cls := "VectorVersions$Tree", name := "leaf", desc := "(I)LVectorVersions$Node;" } : Jvm.MethodName)) ∈ lw_all := lw_g (lw_at lw_m8 126 rfl) rfl
theorem q1941 : (Jvm.Cond.selects "VectorVersions$Tree" ({ cls := "VectorVersions$Tree", name := "leaf", desc := "(I)LVectorVersions$Node;" } : Jvm.MethodName) ({ cls := "VectorVersions$Tree", name := "leaf", desc := "(I)LVectorVersions$Node;" } : Jvm.MethodName)) ∈ lw_all := lw_g (lw_at lw_m8 127 rfl) rfl
theorem q1942 : (Jvm.Cond.code ({ cls := "VectorVersions$Tree", name := "leaf", desc := "(I)LVectorVersions$Node;" } : Jvm.MethodName) prog_14_method_4_code (5 : Nat) (Option.some (Jvm.ClassFile.FieldType.object "VectorVersions$Node"))) ∈ lw_all := lw_g (lw_at lw_m8 128 rfl) rfl
theorem q1963 : (Jvm.Cond.instanceMethod ({ cls := "VectorVersions$Tree", name := "indexOf", desc := "(Ljava/lang/Comparable;)I" } : Jvm.MethodName)) ∈ lw_all := lw_g (lw_at lw_m8 149 rfl) rfl
theorem q1964 : (Jvm.Cond.selects "VectorVersions$Tree" ({ cls := "VectorVersions$Tree", name := "indexOf", desc := "(Ljava/lang/Comparable;)I" } : Jvm.MethodName) ({ cls := "VectorVersions$Tree", name := "indexOf", desc := "(Ljava/lang/Comparable;)I" } : Jvm.MethodName)) ∈ lw_all := lw_g (lw_at lw_m8 150 rfl) rfl
theorem q1965 : (Jvm.Cond.code ({ cls := "VectorVersions$Tree", name := "indexOf", desc := "(Ljava/lang/Comparable;)I" } : Jvm.MethodName) prog_14_method_6_code (4 : Nat) (Option.some Jvm.ClassFile.FieldType.int)) ∈ lw_all := lw_g (lw_at lw_m8 151 rfl) rfl
theorem q1966 : (Jvm.Cond.methodLink "VectorVersions$Tree" (44 : Nat) ({ cls := "VectorVersions$Tree", name := "elements", desc := "()Ljava/util/Iterator;" } : Jvm.MethodName)) ∈ lw_all := lw_g (lw_at lw_m8 152 rfl) rfl
theorem q1967 : (Jvm.Cond.interfaceEntry "VectorVersions$Tree" (48 : Nat)) ∈ lw_tbl := lw_at lw_m8 153 rfl
theorem q1968 : (Jvm.Cond.methodLink "VectorVersions$Tree" (48 : Nat) ({ cls := "java/util/Iterator", name := "hasNext", desc := "()Z" } : Jvm.MethodName)) ∈ lw_all := lw_g (lw_at lw_m8 154 rfl) rfl
theorem q1969 : (Jvm.Cond.interfaceEntry "VectorVersions$Tree" (54 : Nat)) ∈ lw_tbl := lw_at lw_m8 155 rfl
theorem q1970 : (Jvm.Cond.methodLink "VectorVersions$Tree" (54 : Nat) ({ cls := "java/util/Iterator", name := "next", desc := "()Ljava/lang/Object;" } : Jvm.MethodName)) ∈ lw_all := lw_g (lw_at lw_m8 156 rfl) rfl
theorem q1971 : (Jvm.Cond.classLink "VectorVersions$Tree" (58 : Nat) "java/lang/Comparable") ∈ lw_all := lw_g (lw_at lw_m8 157 rfl) rfl
theorem q1972 : (Jvm.Cond.interfaceEntry "VectorVersions$Tree" (60 : Nat)) ∈ lw_tbl := lw_at lw_m8 158 rfl
theorem q1973 : (Jvm.Cond.methodLink "VectorVersions$Tree" (60 : Nat) ({ cls := "java/lang/Comparable", name := "compareTo", desc := "(Ljava/lang/Object;)I" } : Jvm.MethodName)) ∈ lw_all := lw_g (lw_at lw_m8 159 rfl) rfl
theorem q2260 : (Jvm.Cond.instanceMethod ({ cls := "VectorVersions$Tree", name := "hasSameAt", desc := "(LVectorVersions$Tree;I)Z" } : Jvm.MethodName)) ∈ lw_all := lw_g (lw_at lw_m9 206 rfl) rfl
theorem q2261 : (Jvm.Cond.selects "VectorVersions$Tree" ({ cls := "VectorVersions$Tree", name := "hasSameAt", desc := "(LVectorVersions$Tree;I)Z" } : Jvm.MethodName) ({ cls := "VectorVersions$Tree", name := "hasSameAt", desc := "(LVectorVersions$Tree;I)Z" } : Jvm.MethodName)) ∈ lw_all := lw_g (lw_at lw_m9 207 rfl) rfl
theorem q2262 : (Jvm.Cond.code ({ cls := "VectorVersions$Tree", name := "hasSameAt", desc := "(LVectorVersions$Tree;I)Z" } : Jvm.MethodName) prog_14_method_7_code (3 : Nat) (Option.some Jvm.ClassFile.FieldType.boolean)) ∈ lw_all := lw_g (lw_at lw_m9 208 rfl) rfl
theorem q2263 : (Jvm.Cond.methodLink "VectorVersions$Tree" (64 : Nat) ({ cls := "VectorVersions$Tree", name := "get", desc := "(I)Ljava/lang/Comparable;" } : Jvm.MethodName)) ∈ lw_all := lw_g (lw_at lw_m9 209 rfl) rfl
theorem q3143 : (Jvm.Cond.castable "VectorVersions$Tree" "java/lang/Object") ∈ lw_tbl := lw_at lw_m13 129 rfl
theorem in_X6 : ∀ w ∈ wsX60, w ∈ lw_all := lw_in wsX60 [796, 798, 800] (by decide +kernel) (by decide +kernel)
/-! VectorVersions$Version -/
set_option maxRecDepth 100000
def RX7 : String := "VectorVersions$Version"
def TX7 : u_T := fun k => match k with
  | 0 => ("VectorVersions$Version", "number", "I", true)
  | 1 => ("VectorVersions$Version", "parent", "I", true)
  | 2 => ("VectorVersions$Version", "created", "I", true)
  | 3 => ("VectorVersions$Version", "tree", "LVectorVersions$Tree;", true)
  | 4 => ("VectorVersions$Version", "original", "[I", true)
  | _ => ("VectorVersions$Version", "released", "Z", false)
def tyX7 : Nat → FieldType := fun k => match k with
  | 0 => .int
  | 1 => .int
  | 2 => .int
  | 3 => .object "VectorVersions$Tree"
  | 4 => .array .int
  | _ => .boolean
abbrev wsX70 : List Cond := u_ws RX7 TX7 6
theorem nmX7 : ∀ a, a < 6 → ∀ b, b < 6 → a ≠ b → (TX7 a).2.1 ≠ (TX7 b).2.1 := by decide +kernel
theorem tyX7_ok : ∀ k, k < 6 → parseFieldDescriptor (TX7 k).2.2.1 = some (tyX7 k) := by decide +kernel
abbrev cX7_init : ByteArray := prog_16_method_1_code
def yX7_init : MethodName := ⟨RX7, "<init>", "(IIILVectorVersions$Tree;[I)V"⟩
def dkwX7_init_1 : List UInt8 := [181, 0, 19, 42, 25, 5, 181, 0, 23, 177]
abbrev dktX7_init_1 : List UInt8 := dkwX7_init_1 ++ []
def dkwX7_init_0 : List UInt8 := [42, 183, 0, 1, 42, 27, 181, 0, 7, 42, 28, 181, 0, 13, 42, 29, 181, 0, 16, 42, 25, 4]
abbrev dktX7_init_0 : List UInt8 := dkwX7_init_0 ++ dktX7_init_1
theorem dksX7_init_0 : cX7_init.data.toList.drop 0 = dktX7_init_0 := by decide +kernel
theorem dksX7_init_1 : cX7_init.data.toList.drop 22 = dktX7_init_1 := dk_seg dksX7_init_0 22 rfl rfl
theorem dX7_init_0 : decode cX7_init 0 = .ok (.aload_n 0, 1) := dk_42 (dk_at dksX7_init_0 0 rfl rfl)
theorem dX7_init_1 : decode cX7_init 1 = .ok (.invokespecial 1, 3) := dk_183 0 1 (dk_at dksX7_init_0 1 rfl rfl)
theorem dX7_init_4 : decode cX7_init 4 = .ok (.aload_n 0, 1) := dk_42 (dk_at dksX7_init_0 4 rfl rfl)
theorem dX7_init_5 : decode cX7_init 5 = .ok (.iload_n 1, 1) := dk_27 (dk_at dksX7_init_0 5 rfl rfl)
theorem dX7_init_6 : decode cX7_init 6 = .ok (.putfield 7, 3) := dk_181 0 7 (dk_at dksX7_init_0 6 rfl rfl)
theorem dX7_init_9 : decode cX7_init 9 = .ok (.aload_n 0, 1) := dk_42 (dk_at dksX7_init_0 9 rfl rfl)
theorem dX7_init_10 : decode cX7_init 10 = .ok (.iload_n 2, 1) := dk_28 (dk_at dksX7_init_0 10 rfl rfl)
theorem dX7_init_11 : decode cX7_init 11 = .ok (.putfield 13, 3) := dk_181 0 13 (dk_at dksX7_init_0 11 rfl rfl)
theorem dX7_init_14 : decode cX7_init 14 = .ok (.aload_n 0, 1) := dk_42 (dk_at dksX7_init_0 14 rfl rfl)
theorem dX7_init_15 : decode cX7_init 15 = .ok (.iload_n 3, 1) := dk_29 (dk_at dksX7_init_0 15 rfl rfl)
theorem dX7_init_16 : decode cX7_init 16 = .ok (.putfield 16, 3) := dk_181 0 16 (dk_at dksX7_init_0 16 rfl rfl)
theorem dX7_init_19 : decode cX7_init 19 = .ok (.aload_n 0, 1) := dk_42 (dk_at dksX7_init_0 19 rfl rfl)
theorem dX7_init_20 : decode cX7_init 20 = .ok (.aload 4, 2) := dk_25 4 (dk_at dksX7_init_0 20 rfl rfl)
theorem dX7_init_22 : decode cX7_init 22 = .ok (.putfield 19, 3) := dk_181 0 19 (dk_at dksX7_init_1 0 rfl rfl)
theorem dX7_init_25 : decode cX7_init 25 = .ok (.aload_n 0, 1) := dk_42 (dk_at dksX7_init_1 3 rfl rfl)
theorem dX7_init_26 : decode cX7_init 26 = .ok (.aload 5, 2) := dk_25 5 (dk_at dksX7_init_1 4 rfl rfl)
theorem dX7_init_28 : decode cX7_init 28 = .ok (.putfield 23, 3) := dk_181 0 23 (dk_at dksX7_init_1 6 rfl rfl)
theorem dX7_init_31 : decode cX7_init 31 = .ok (.return_, 1) := dk_177 (dk_at dksX7_init_1 9 rfl rfl)
abbrev cX7_copy : ByteArray := prog_16_method_2_code
def yX7_copy : MethodName := ⟨RX7, "copy", "()LVectorVersions$Version;"⟩
def dkwX7_copy_1 : List UInt8 := [183, 0, 27, 76, 43, 42, 180, 0, 30, 181, 0, 30, 43, 176]
abbrev dktX7_copy_1 : List UInt8 := dkwX7_copy_1 ++ []
def dkwX7_copy_0 : List UInt8 := [187, 0, 8, 89, 42, 180, 0, 7, 42, 180, 0, 13, 42, 180, 0, 16, 42, 180, 0, 19, 42, 180, 0, 23]
abbrev dktX7_copy_0 : List UInt8 := dkwX7_copy_0 ++ dktX7_copy_1
theorem dksX7_copy_0 : cX7_copy.data.toList.drop 0 = dktX7_copy_0 := by decide +kernel
theorem dksX7_copy_1 : cX7_copy.data.toList.drop 24 = dktX7_copy_1 := dk_seg dksX7_copy_0 24 rfl rfl
theorem dX7_copy_0 : decode cX7_copy 0 = .ok (.new 8, 3) := dk_187 0 8 (dk_at dksX7_copy_0 0 rfl rfl)
theorem dX7_copy_3 : decode cX7_copy 3 = .ok (.dup, 1) := dk_89 (dk_at dksX7_copy_0 3 rfl rfl)
theorem dX7_copy_4 : decode cX7_copy 4 = .ok (.aload_n 0, 1) := dk_42 (dk_at dksX7_copy_0 4 rfl rfl)
theorem dX7_copy_5 : decode cX7_copy 5 = .ok (.getfield 7, 3) := dk_180 0 7 (dk_at dksX7_copy_0 5 rfl rfl)
theorem dX7_copy_8 : decode cX7_copy 8 = .ok (.aload_n 0, 1) := dk_42 (dk_at dksX7_copy_0 8 rfl rfl)
theorem dX7_copy_9 : decode cX7_copy 9 = .ok (.getfield 13, 3) := dk_180 0 13 (dk_at dksX7_copy_0 9 rfl rfl)
theorem dX7_copy_12 : decode cX7_copy 12 = .ok (.aload_n 0, 1) := dk_42 (dk_at dksX7_copy_0 12 rfl rfl)
theorem dX7_copy_13 : decode cX7_copy 13 = .ok (.getfield 16, 3) := dk_180 0 16 (dk_at dksX7_copy_0 13 rfl rfl)
theorem dX7_copy_16 : decode cX7_copy 16 = .ok (.aload_n 0, 1) := dk_42 (dk_at dksX7_copy_0 16 rfl rfl)
theorem dX7_copy_17 : decode cX7_copy 17 = .ok (.getfield 19, 3) := dk_180 0 19 (dk_at dksX7_copy_0 17 rfl rfl)
theorem dX7_copy_20 : decode cX7_copy 20 = .ok (.aload_n 0, 1) := dk_42 (dk_at dksX7_copy_0 20 rfl rfl)
theorem dX7_copy_21 : decode cX7_copy 21 = .ok (.getfield 23, 3) := dk_180 0 23 (dk_at dksX7_copy_0 21 rfl rfl)
theorem dX7_copy_24 : decode cX7_copy 24 = .ok (.invokespecial 27, 3) := dk_183 0 27 (dk_at dksX7_copy_1 0 rfl rfl)
theorem dX7_copy_27 : decode cX7_copy 27 = .ok (.astore_n 1, 1) := dk_76 (dk_at dksX7_copy_1 3 rfl rfl)
theorem dX7_copy_28 : decode cX7_copy 28 = .ok (.aload_n 1, 1) := dk_43 (dk_at dksX7_copy_1 4 rfl rfl)
theorem dX7_copy_29 : decode cX7_copy 29 = .ok (.aload_n 0, 1) := dk_42 (dk_at dksX7_copy_1 5 rfl rfl)
theorem dX7_copy_30 : decode cX7_copy 30 = .ok (.getfield 30, 3) := dk_180 0 30 (dk_at dksX7_copy_1 6 rfl rfl)
theorem dX7_copy_33 : decode cX7_copy 33 = .ok (.putfield 30, 3) := dk_181 0 30 (dk_at dksX7_copy_1 9 rfl rfl)
theorem dX7_copy_36 : decode cX7_copy 36 = .ok (.aload_n 1, 1) := dk_43 (dk_at dksX7_copy_1 12 rfl rfl)
theorem dX7_copy_37 : decode cX7_copy 37 = .ok (.areturn, 1) := dk_176 (dk_at dksX7_copy_1 13 rfl rfl)
abbrev cX7_isUnchanged : ByteArray := prog_16_method_3_code
def yX7_isUnchanged : MethodName := ⟨RX7, "isUnchanged", "()Z"⟩
def dkwX7_isUnchanged_3 : List UInt8 := [132, 1, 1, 167, 255, 212, 27, 42, 180, 0, 23, 190, 160, 0, 7, 4, 167, 0, 4, 3, 172]
abbrev dktX7_isUnchanged_3 : List UInt8 := dkwX7_isUnchanged_3 ++ []
def dkwX7_isUnchanged_2 : List UInt8 := [185, 0, 49, 1, 0, 192, 0, 53, 182, 0, 55, 42, 180, 0, 23, 27, 46, 159, 0, 5, 3, 172]
abbrev dktX7_isUnchanged_2 : List UInt8 := dkwX7_isUnchanged_2 ++ dktX7_isUnchanged_3
def dkwX7_isUnchanged_1 : List UInt8 := [182, 0, 39, 77, 44, 185, 0, 43, 1, 0, 153, 0, 41, 27, 42, 180, 0, 23, 190, 159, 0, 24, 44]
abbrev dktX7_isUnchanged_1 : List UInt8 := dkwX7_isUnchanged_1 ++ dktX7_isUnchanged_2
def dkwX7_isUnchanged_0 : List UInt8 := [42, 180, 0, 19, 180, 0, 34, 42, 180, 0, 23, 190, 159, 0, 5, 3, 172, 3, 60, 42, 180, 0, 19]
abbrev dktX7_isUnchanged_0 : List UInt8 := dkwX7_isUnchanged_0 ++ dktX7_isUnchanged_1
theorem dksX7_isUnchanged_0 : cX7_isUnchanged.data.toList.drop 0 = dktX7_isUnchanged_0 := by decide +kernel
theorem dksX7_isUnchanged_1 : cX7_isUnchanged.data.toList.drop 23 = dktX7_isUnchanged_1 := dk_seg dksX7_isUnchanged_0 23 rfl rfl
theorem dksX7_isUnchanged_2 : cX7_isUnchanged.data.toList.drop 46 = dktX7_isUnchanged_2 := dk_seg dksX7_isUnchanged_1 23 rfl rfl
theorem dksX7_isUnchanged_3 : cX7_isUnchanged.data.toList.drop 68 = dktX7_isUnchanged_3 := dk_seg dksX7_isUnchanged_2 22 rfl rfl
theorem dX7_isUnchanged_0 : decode cX7_isUnchanged 0 = .ok (.aload_n 0, 1) := dk_42 (dk_at dksX7_isUnchanged_0 0 rfl rfl)
theorem dX7_isUnchanged_1 : decode cX7_isUnchanged 1 = .ok (.getfield 19, 3) := dk_180 0 19 (dk_at dksX7_isUnchanged_0 1 rfl rfl)
theorem dX7_isUnchanged_4 : decode cX7_isUnchanged 4 = .ok (.getfield 34, 3) := dk_180 0 34 (dk_at dksX7_isUnchanged_0 4 rfl rfl)
theorem dX7_isUnchanged_7 : decode cX7_isUnchanged 7 = .ok (.aload_n 0, 1) := dk_42 (dk_at dksX7_isUnchanged_0 7 rfl rfl)
theorem dX7_isUnchanged_8 : decode cX7_isUnchanged 8 = .ok (.getfield 23, 3) := dk_180 0 23 (dk_at dksX7_isUnchanged_0 8 rfl rfl)
theorem dX7_isUnchanged_11 : decode cX7_isUnchanged 11 = .ok (.arraylength, 1) := dk_190 (dk_at dksX7_isUnchanged_0 11 rfl rfl)
theorem dX7_isUnchanged_12 : decode cX7_isUnchanged 12 = .ok (.if_icmp .eq 5, 3) := dk_159 0 5 (dk_at dksX7_isUnchanged_0 12 rfl rfl)
theorem dX7_isUnchanged_15 : decode cX7_isUnchanged 15 = .ok (.iconst 0, 1) := dk_3 (dk_at dksX7_isUnchanged_0 15 rfl rfl)
theorem dX7_isUnchanged_16 : decode cX7_isUnchanged 16 = .ok (.ireturn, 1) := dk_172 (dk_at dksX7_isUnchanged_0 16 rfl rfl)
theorem dX7_isUnchanged_17 : decode cX7_isUnchanged 17 = .ok (.iconst 0, 1) := dk_3 (dk_at dksX7_isUnchanged_0 17 rfl rfl)
theorem dX7_isUnchanged_18 : decode cX7_isUnchanged 18 = .ok (.istore_n 1, 1) := dk_60 (dk_at dksX7_isUnchanged_0 18 rfl rfl)
theorem dX7_isUnchanged_19 : decode cX7_isUnchanged 19 = .ok (.aload_n 0, 1) := dk_42 (dk_at dksX7_isUnchanged_0 19 rfl rfl)
theorem dX7_isUnchanged_20 : decode cX7_isUnchanged 20 = .ok (.getfield 19, 3) := dk_180 0 19 (dk_at dksX7_isUnchanged_0 20 rfl rfl)
theorem dX7_isUnchanged_23 : decode cX7_isUnchanged 23 = .ok (.invokevirtual 39, 3) := dk_182 0 39 (dk_at dksX7_isUnchanged_1 0 rfl rfl)
theorem dX7_isUnchanged_26 : decode cX7_isUnchanged 26 = .ok (.astore_n 2, 1) := dk_77 (dk_at dksX7_isUnchanged_1 3 rfl rfl)
theorem dX7_isUnchanged_27 : decode cX7_isUnchanged 27 = .ok (.aload_n 2, 1) := dk_44 (dk_at dksX7_isUnchanged_1 4 rfl rfl)
theorem dX7_isUnchanged_28 : decode cX7_isUnchanged 28 = .ok (.invokeinterface 43 1, 5) := by decide +kernel
theorem dX7_isUnchanged_33 : decode cX7_isUnchanged 33 = .ok (.ifCond .eq 41, 3) := dk_153 0 41 (dk_at dksX7_isUnchanged_1 10 rfl rfl)
theorem dX7_isUnchanged_36 : decode cX7_isUnchanged 36 = .ok (.iload_n 1, 1) := dk_27 (dk_at dksX7_isUnchanged_1 13 rfl rfl)
theorem dX7_isUnchanged_37 : decode cX7_isUnchanged 37 = .ok (.aload_n 0, 1) := dk_42 (dk_at dksX7_isUnchanged_1 14 rfl rfl)
theorem dX7_isUnchanged_38 : decode cX7_isUnchanged 38 = .ok (.getfield 23, 3) := dk_180 0 23 (dk_at dksX7_isUnchanged_1 15 rfl rfl)
theorem dX7_isUnchanged_41 : decode cX7_isUnchanged 41 = .ok (.arraylength, 1) := dk_190 (dk_at dksX7_isUnchanged_1 18 rfl rfl)
theorem dX7_isUnchanged_42 : decode cX7_isUnchanged 42 = .ok (.if_icmp .eq 24, 3) := dk_159 0 24 (dk_at dksX7_isUnchanged_1 19 rfl rfl)
theorem dX7_isUnchanged_45 : decode cX7_isUnchanged 45 = .ok (.aload_n 2, 1) := dk_44 (dk_at dksX7_isUnchanged_1 22 rfl rfl)
theorem dX7_isUnchanged_46 : decode cX7_isUnchanged 46 = .ok (.invokeinterface 49 1, 5) := by decide +kernel
theorem dX7_isUnchanged_51 : decode cX7_isUnchanged 51 = .ok (.checkcast 53, 3) := dk_192 0 53 (dk_at dksX7_isUnchanged_2 5 rfl rfl)
theorem dX7_isUnchanged_54 : decode cX7_isUnchanged 54 = .ok (.invokevirtual 55, 3) := dk_182 0 55 (dk_at dksX7_isUnchanged_2 8 rfl rfl)
theorem dX7_isUnchanged_57 : decode cX7_isUnchanged 57 = .ok (.aload_n 0, 1) := dk_42 (dk_at dksX7_isUnchanged_2 11 rfl rfl)
theorem dX7_isUnchanged_58 : decode cX7_isUnchanged 58 = .ok (.getfield 23, 3) := dk_180 0 23 (dk_at dksX7_isUnchanged_2 12 rfl rfl)
theorem dX7_isUnchanged_61 : decode cX7_isUnchanged 61 = .ok (.iload_n 1, 1) := dk_27 (dk_at dksX7_isUnchanged_2 15 rfl rfl)
theorem dX7_isUnchanged_62 : decode cX7_isUnchanged 62 = .ok (.iaload, 1) := dk_46 (dk_at dksX7_isUnchanged_2 16 rfl rfl)
theorem dX7_isUnchanged_63 : decode cX7_isUnchanged 63 = .ok (.if_icmp .eq 5, 3) := dk_159 0 5 (dk_at dksX7_isUnchanged_2 17 rfl rfl)
theorem dX7_isUnchanged_66 : decode cX7_isUnchanged 66 = .ok (.iconst 0, 1) := dk_3 (dk_at dksX7_isUnchanged_2 20 rfl rfl)
theorem dX7_isUnchanged_67 : decode cX7_isUnchanged 67 = .ok (.ireturn, 1) := dk_172 (dk_at dksX7_isUnchanged_2 21 rfl rfl)
theorem dX7_isUnchanged_68 : decode cX7_isUnchanged 68 = .ok (.iinc 1 1, 3) := dk_132 1 1 (dk_at dksX7_isUnchanged_3 0 rfl rfl)
theorem dX7_isUnchanged_71 : decode cX7_isUnchanged 71 = .ok (.goto (-44), 3) := dk_167 255 212 (dk_at dksX7_isUnchanged_3 3 rfl rfl)
theorem dX7_isUnchanged_74 : decode cX7_isUnchanged 74 = .ok (.iload_n 1, 1) := dk_27 (dk_at dksX7_isUnchanged_3 6 rfl rfl)
theorem dX7_isUnchanged_75 : decode cX7_isUnchanged 75 = .ok (.aload_n 0, 1) := dk_42 (dk_at dksX7_isUnchanged_3 7 rfl rfl)
theorem dX7_isUnchanged_76 : decode cX7_isUnchanged 76 = .ok (.getfield 23, 3) := dk_180 0 23 (dk_at dksX7_isUnchanged_3 8 rfl rfl)
theorem dX7_isUnchanged_79 : decode cX7_isUnchanged 79 = .ok (.arraylength, 1) := dk_190 (dk_at dksX7_isUnchanged_3 11 rfl rfl)
theorem dX7_isUnchanged_80 : decode cX7_isUnchanged 80 = .ok (.if_icmp .ne 7, 3) := dk_160 0 7 (dk_at dksX7_isUnchanged_3 12 rfl rfl)
theorem dX7_isUnchanged_83 : decode cX7_isUnchanged 83 = .ok (.iconst 1, 1) := dk_4 (dk_at dksX7_isUnchanged_3 15 rfl rfl)
theorem dX7_isUnchanged_84 : decode cX7_isUnchanged 84 = .ok (.goto 4, 3) := dk_167 0 4 (dk_at dksX7_isUnchanged_3 16 rfl rfl)
theorem dX7_isUnchanged_87 : decode cX7_isUnchanged 87 = .ok (.iconst 0, 1) := dk_3 (dk_at dksX7_isUnchanged_3 19 rfl rfl)
theorem dX7_isUnchanged_88 : decode cX7_isUnchanged 88 = .ok (.ireturn, 1) := dk_172 (dk_at dksX7_isUnchanged_3 20 rfl rfl)
theorem q162 : (Jvm.Cond.initialized "VectorVersions$Version") ∈ lw_all := lw_g (lw_at lw_m1 28 rfl) rfl
theorem q297 : (Jvm.Cond.selects "VectorVersions$Version" ({ cls := "java/lang/Object", name := "getClass", desc := "()Ljava/lang/Class;" } : Jvm.MethodName) ({ cls := "java/lang/Object", name := "getClass", desc := "()Ljava/lang/Class;" } : Jvm.MethodName)) ∈ lw_all := lw_g (lw_at lw_m1 163 rfl) rfl
theorem q790 : (Jvm.Cond.fieldLinkNest "VectorVersions$Version" (34 : Nat) "VectorVersions$Tree" "size" "I" "VectorVersions") ∈ lw_tbl := lw_at lw_m3 176 rfl
theorem q808 : (Jvm.Cond.instantiable "VectorVersions$Version" (6 : Nat)) ∈ lw_all := lw_g (lw_at lw_m3 194 rfl) rfl
theorem q810 : (Jvm.Cond.instanceMethod ({ cls := "VectorVersions$Version", name := "<init>", desc := "(IIILVectorVersions$Tree;[I)V" } : Jvm.MethodName)) ∈ lw_all := lw_g (lw_at lw_m3 196 rfl) rfl
theorem q811 : (Jvm.Cond.code ({ cls := "VectorVersions$Version", name := "<init>", desc := "(IIILVectorVersions$Tree;[I)V" } : Jvm.MethodName) prog_16_method_1_code (6 : Nat) (Option.none : Option Jvm.ClassFile.FieldType)) ∈ lw_all := lw_g (lw_at lw_m3 197 rfl) rfl
theorem q812 : (Jvm.Cond.methodLink "VectorVersions$Version" (1 : Nat) ({ cls := "java/lang/Object", name := "<init>", desc := "()V" } : Jvm.MethodName)) ∈ lw_all := lw_g (lw_at lw_m3 198 rfl) rfl
theorem q813 : (Jvm.Cond.fieldLink "VectorVersions$Version" (7 : Nat) "VectorVersions$Version" "number" "I") ∈ lw_all := lw_g (lw_at lw_m3 199 rfl) rfl
theorem q815 : (Jvm.Cond.fieldLink "VectorVersions$Version" (13 : Nat) "VectorVersions$Version" "parent" "I") ∈ lw_all := lw_g (lw_at lw_m3 201 rfl) rfl
theorem q818 : (Jvm.Cond.fieldLink "VectorVersions$Version" (16 : Nat) "VectorVersions$Version" "created" "I") ∈ lw_all := lw_g (lw_at lw_m3 204 rfl) rfl
theorem q821 : (Jvm.Cond.fieldLink "VectorVersions$Version" (19 : Nat) "VectorVersions$Version" "tree" "LVectorVersions$Tree;") ∈ lw_all := lw_g (lw_at lw_m3 207 rfl) rfl
theorem q824 : (Jvm.Cond.fieldLink "VectorVersions$Version" (23 : Nat) "VectorVersions$Version" "original" "[I") ∈ lw_all := lw_g (lw_at lw_m3 210 rfl) rfl
theorem q826 : (Jvm.Cond.fieldLink "VectorVersions$Version" (30 : Nat) "VectorVersions$Version" "released" "Z") ∈ lw_all := lw_g (lw_at lw_m3 212 rfl) rfl
theorem q829 : (Jvm.Cond.laysFinal "VectorVersions$Version" "VectorVersions$Version" "number" "I") ∈ lw_all := lw_g (lw_at lw_m3 215 rfl) rfl
theorem q830 : (Jvm.Cond.soleField "VectorVersions$Version" "number") ∈ lw_all := lw_g (lw_at lw_m3 216 rfl) rfl
theorem q831 : (Jvm.Cond.laysFinal "VectorVersions$Version" "VectorVersions$Version" "parent" "I") ∈ lw_all := lw_g (lw_at lw_m3 217 rfl) rfl
theorem q832 : (Jvm.Cond.soleField "VectorVersions$Version" "parent") ∈ lw_all := lw_g (lw_at lw_m3 218 rfl) rfl
theorem q833 : (Jvm.Cond.laysFinal "VectorVersions$Version" "VectorVersions$Version" "created" "I") ∈ lw_all := lw_g (lw_at lw_m3 219 rfl) rfl
theorem q834 : (Jvm.Cond.soleField "VectorVersions$Version" "created") ∈ lw_all := lw_g (lw_at lw_m3 220 rfl) rfl
theorem q835 : (Jvm.Cond.laysFinal "VectorVersions$Version" "VectorVersions$Version" "tree" "LVectorVersions$Tree;") ∈ lw_all := lw_g (lw_at lw_m3 221 rfl) rfl
theorem q836 : (Jvm.Cond.soleField "VectorVersions$Version" "tree") ∈ lw_all := lw_g (lw_at lw_m3 222 rfl) rfl
theorem q837 : (Jvm.Cond.laysFinal "VectorVersions$Version" "VectorVersions$Version" "original" "[I") ∈ lw_all := lw_g (lw_at lw_m3 223 rfl) rfl
theorem q838 : (Jvm.Cond.soleField "VectorVersions$Version" "original") ∈ lw_all := lw_g (lw_at lw_m3 224 rfl) rfl
theorem q839 : (Jvm.Cond.lays "VectorVersions$Version" "VectorVersions$Version" "released" "Z") ∈ lw_all := lw_g (lw_at lw_m3 225 rfl) rfl
theorem q840 : (Jvm.Cond.soleField "VectorVersions$Version" "released") ∈ lw_all := lw_g (lw_at lw_m3 226 rfl) rfl
theorem q841 : (Jvm.Cond.superclass "VectorVersions$Version" "java/lang/Object") ∈ lw_all := lw_g (lw_at lw_m3 227 rfl) rfl
theorem q1272 : (Jvm.Cond.instanceMethod ({ cls := "VectorVersions$Version", name := "copy", desc := "()LVectorVersions$Version;" } : Jvm.MethodName)) ∈ lw_all := lw_g (lw_at lw_m5 178 rfl) rfl
theorem q1273 : (Jvm.Cond.selects "VectorVersions$Version" ({ cls := "VectorVersions$Version", name := "copy", desc := "()LVectorVersions$Version;" } : Jvm.MethodName) ({ cls := "VectorVersions$Version", name := "copy", desc := "()LVectorVersions$Version;" } : Jvm.MethodName)) ∈ lw_all := lw_g (lw_at lw_m5 179 rfl) rfl
theorem q1274 : (Jvm.Cond.code ({ cls := "VectorVersions$Version", name := "copy", desc := "()LVectorVersions$Version;" } : Jvm.MethodName) prog_16_method_2_code (2 : Nat) (Option.some (Jvm.ClassFile.FieldType.object "VectorVersions$Version"))) ∈ lw_all := lw_g (lw_at lw_m5 180 rfl) rfl
theorem q1275 : (Jvm.Cond.classLink "VectorVersions$Version" (8 : Nat) "VectorVersions$Version") ∈ lw_all := lw_g (lw_at lw_m5 181 rfl) rfl
theorem q1276 : (Jvm.Cond.methodLink "VectorVersions$Version" (27 : Nat) ({ cls := "VectorVersions$Version", name := "<init>", desc := "(IIILVectorVersions$Tree;[I)V" } : Jvm.MethodName)) ∈ lw_all := lw_g (lw_at lw_m5 182 rfl) rfl
theorem q1735 : (Jvm.Cond.instanceMethod ({ cls := "VectorVersions$Version", name := "isUnchanged", desc := "()Z" } : Jvm.MethodName)) ∈ lw_all := lw_g (lw_at lw_m7 161 rfl) rfl
theorem q1736 : (Jvm.Cond.selects "VectorVersions$Version" ({ cls := "VectorVersions$Version", name := "isUnchanged", desc := "()Z" } : Jvm.MethodName) ({ cls := "VectorVersions$Version", name := "isUnchanged", desc := "()Z" } : Jvm.MethodName)) ∈ lw_all := lw_g (lw_at lw_m7 162 rfl) rfl
theorem q1737 : (Jvm.Cond.code ({ cls := "VectorVersions$Version", name := "isUnchanged", desc := "()Z" } : Jvm.MethodName) prog_16_method_3_code (3 : Nat) (Option.some Jvm.ClassFile.FieldType.boolean)) ∈ lw_all := lw_g (lw_at lw_m7 163 rfl) rfl
theorem q1738 : (Jvm.Cond.methodLink "VectorVersions$Version" (39 : Nat) ({ cls := "VectorVersions$Tree", name := "elements", desc := "()Ljava/util/Iterator;" } : Jvm.MethodName)) ∈ lw_all := lw_g (lw_at lw_m7 164 rfl) rfl
theorem q1764 : (Jvm.Cond.interfaceEntry "VectorVersions$Version" (43 : Nat)) ∈ lw_tbl := lw_at lw_m7 190 rfl
theorem q1765 : (Jvm.Cond.methodLink "VectorVersions$Version" (43 : Nat) ({ cls := "java/util/Iterator", name := "hasNext", desc := "()Z" } : Jvm.MethodName)) ∈ lw_all := lw_g (lw_at lw_m7 191 rfl) rfl
theorem q1766 : (Jvm.Cond.interfaceEntry "VectorVersions$Version" (49 : Nat)) ∈ lw_tbl := lw_at lw_m7 192 rfl
theorem q1767 : (Jvm.Cond.methodLink "VectorVersions$Version" (49 : Nat) ({ cls := "java/util/Iterator", name := "next", desc := "()Ljava/lang/Object;" } : Jvm.MethodName)) ∈ lw_all := lw_g (lw_at lw_m7 193 rfl) rfl
theorem q1768 : (Jvm.Cond.classLink "VectorVersions$Version" (53 : Nat) "java/lang/Integer") ∈ lw_all := lw_g (lw_at lw_m7 194 rfl) rfl
theorem q1769 : (Jvm.Cond.methodLink "VectorVersions$Version" (55 : Nat) ({ cls := "java/lang/Integer", name := "intValue", desc := "()I" } : Jvm.MethodName)) ∈ lw_all := lw_g (lw_at lw_m7 195 rfl) rfl
theorem q3144 : (Jvm.Cond.castable "VectorVersions$Version" "java/lang/Object") ∈ lw_tbl := lw_at lw_m13 130 rfl
theorem in_X7 : ∀ w ∈ wsX70, w ∈ lw_all := lw_in wsX70 [829, 831, 833, 835, 837, 839] (by decide +kernel) (by decide +kernel)
/-! VectorVersions$Parser -/
set_option maxRecDepth 100000
def RX9 : String := "VectorVersions$Parser"
def TX9 : u_T := fun k => match k with
  | 0 => ("VectorVersions$Parser", "length", "I", true)
  | 1 => ("VectorVersions$Parser", "store", "LVectorVersions$Store;", true)
  | 2 => ("VectorVersions$Parser", "start", "I", false)
  | 3 => ("VectorVersions$Parser", "next", "I", false)
  | 4 => ("VectorVersions$Parser", "value", "I", false)
  | 5 => ("VectorVersions$Parser", "token", "I", false)
  | 6 => ("VectorVersions$Parser", "word", "Ljava/lang/String;", false)
  | _ => ("VectorVersions$Parser", "this$0", "LVectorVersions;", true)
def tyX9 : Nat → FieldType := fun k => match k with
  | 0 => .int
  | 1 => .object "VectorVersions$Store"
  | 2 => .int
  | 3 => .int
  | 4 => .int
  | 5 => .int
  | 6 => .object "java/lang/String"
  | _ => .object "VectorVersions"
abbrev wsX90 : List Cond := u_ws RX9 TX9 8
theorem nmX9 : ∀ a, a < 8 → ∀ b, b < 8 → a ≠ b → (TX9 a).2.1 ≠ (TX9 b).2.1 := by decide +kernel
theorem tyX9_ok : ∀ k, k < 8 → parseFieldDescriptor (TX9 k).2.2.1 = some (tyX9 k) := by decide +kernel
abbrev cX9_init : ByteArray := prog_11_method_1_code
def yX9_init : MethodName := ⟨RX9, "<init>", "(LVectorVersions;LVectorVersions$Store;)V"⟩
def dkwX9_init_1 : List UInt8 := [181, 0, 24, 42, 44, 181, 0, 28, 42, 182, 0, 32, 177]
abbrev dktX9_init_1 : List UInt8 := dkwX9_init_1 ++ []
def dkwX9_init_0 : List UInt8 := [42, 43, 181, 0, 3, 42, 183, 0, 9, 42, 42, 180, 0, 3, 180, 0, 15, 181, 0, 19, 42, 18, 22]
abbrev dktX9_init_0 : List UInt8 := dkwX9_init_0 ++ dktX9_init_1
theorem dksX9_init_0 : cX9_init.data.toList.drop 0 = dktX9_init_0 := by decide +kernel
theorem dksX9_init_1 : cX9_init.data.toList.drop 23 = dktX9_init_1 := dk_seg dksX9_init_0 23 rfl rfl
theorem dX9_init_0 : decode cX9_init 0 = .ok (.aload_n 0, 1) := dk_42 (dk_at dksX9_init_0 0 rfl rfl)
theorem dX9_init_1 : decode cX9_init 1 = .ok (.aload_n 1, 1) := dk_43 (dk_at dksX9_init_0 1 rfl rfl)
theorem dX9_init_2 : decode cX9_init 2 = .ok (.putfield 3, 3) := dk_181 0 3 (dk_at dksX9_init_0 2 rfl rfl)
theorem dX9_init_5 : decode cX9_init 5 = .ok (.aload_n 0, 1) := dk_42 (dk_at dksX9_init_0 5 rfl rfl)
theorem dX9_init_6 : decode cX9_init 6 = .ok (.invokespecial 9, 3) := dk_183 0 9 (dk_at dksX9_init_0 6 rfl rfl)
theorem dX9_init_9 : decode cX9_init 9 = .ok (.aload_n 0, 1) := dk_42 (dk_at dksX9_init_0 9 rfl rfl)
theorem dX9_init_10 : decode cX9_init 10 = .ok (.aload_n 0, 1) := dk_42 (dk_at dksX9_init_0 10 rfl rfl)
theorem dX9_init_11 : decode cX9_init 11 = .ok (.getfield 3, 3) := dk_180 0 3 (dk_at dksX9_init_0 11 rfl rfl)
theorem dX9_init_14 : decode cX9_init 14 = .ok (.getfield 15, 3) := dk_180 0 15 (dk_at dksX9_init_0 14 rfl rfl)
theorem dX9_init_17 : decode cX9_init 17 = .ok (.putfield 19, 3) := dk_181 0 19 (dk_at dksX9_init_0 17 rfl rfl)
theorem dX9_init_20 : decode cX9_init 20 = .ok (.aload_n 0, 1) := dk_42 (dk_at dksX9_init_0 20 rfl rfl)
theorem dX9_init_21 : decode cX9_init 21 = .ok (.ldc 22, 2) := dk_18 22 (dk_at dksX9_init_0 21 rfl rfl)
theorem dX9_init_23 : decode cX9_init 23 = .ok (.putfield 24, 3) := dk_181 0 24 (dk_at dksX9_init_1 0 rfl rfl)
theorem dX9_init_26 : decode cX9_init 26 = .ok (.aload_n 0, 1) := dk_42 (dk_at dksX9_init_1 3 rfl rfl)
theorem dX9_init_27 : decode cX9_init 27 = .ok (.aload_n 2, 1) := dk_44 (dk_at dksX9_init_1 4 rfl rfl)
theorem dX9_init_28 : decode cX9_init 28 = .ok (.putfield 28, 3) := dk_181 0 28 (dk_at dksX9_init_1 5 rfl rfl)
theorem dX9_init_31 : decode cX9_init 31 = .ok (.aload_n 0, 1) := dk_42 (dk_at dksX9_init_1 8 rfl rfl)
theorem dX9_init_32 : decode cX9_init 32 = .ok (.invokevirtual 32, 3) := dk_182 0 32 (dk_at dksX9_init_1 9 rfl rfl)
theorem dX9_init_35 : decode cX9_init 35 = .ok (.return_, 1) := dk_177 (dk_at dksX9_init_1 12 rfl rfl)
abbrev cX9_advance : ByteArray := prog_11_method_5_code
def yX9_advance : MethodName := ⟨RX9, "advance", "()V"⟩
def dkwX9_advance_4 : List UInt8 := [42, 42, 180, 0, 47, 182, 0, 66, 153, 0, 10, 42, 182, 0, 69, 167, 0, 7, 42, 182, 0, 72, 177]
abbrev dktX9_advance_4 : List UInt8 := dkwX9_advance_4 ++ []
def dkwX9_advance_3 : List UInt8 := [181, 0, 56, 167, 0, 43, 42, 42, 180, 0, 47, 182, 0, 59, 153, 0, 10, 42, 182, 0, 63, 167, 0, 25]
abbrev dktX9_advance_3 : List UInt8 := dkwX9_advance_3 ++ dktX9_advance_4
def dkwX9_advance_2 : List UInt8 := [42, 18, 22, 181, 0, 24, 42, 3, 181, 0, 53, 42, 180, 0, 47, 42, 180, 0, 19, 161, 0, 11, 42, 3]
abbrev dktX9_advance_2 : List UInt8 := dkwX9_advance_2 ++ dktX9_advance_3
def dkwX9_advance_1 : List UInt8 := [160, 0, 16, 42, 89, 180, 0, 47, 4, 96, 181, 0, 47, 167, 255, 220, 42, 42, 180, 0, 47, 181, 0, 50]
abbrev dktX9_advance_1 : List UInt8 := dkwX9_advance_1 ++ dktX9_advance_2
def dkwX9_advance_0 : List UInt8 := [42, 42, 180, 0, 47, 182, 0, 39, 16, 32, 159, 0, 16, 42, 42, 180, 0, 47, 182, 0, 39, 16, 10]
abbrev dktX9_advance_0 : List UInt8 := dkwX9_advance_0 ++ dktX9_advance_1
theorem dksX9_advance_0 : cX9_advance.data.toList.drop 0 = dktX9_advance_0 := by decide +kernel
theorem dksX9_advance_1 : cX9_advance.data.toList.drop 23 = dktX9_advance_1 := dk_seg dksX9_advance_0 23 rfl rfl
theorem dksX9_advance_2 : cX9_advance.data.toList.drop 47 = dktX9_advance_2 := dk_seg dksX9_advance_1 24 rfl rfl
theorem dksX9_advance_3 : cX9_advance.data.toList.drop 71 = dktX9_advance_3 := dk_seg dksX9_advance_2 24 rfl rfl
theorem dksX9_advance_4 : cX9_advance.data.toList.drop 95 = dktX9_advance_4 := dk_seg dksX9_advance_3 24 rfl rfl
theorem dX9_advance_0 : decode cX9_advance 0 = .ok (.aload_n 0, 1) := dk_42 (dk_at dksX9_advance_0 0 rfl rfl)
theorem dX9_advance_1 : decode cX9_advance 1 = .ok (.aload_n 0, 1) := dk_42 (dk_at dksX9_advance_0 1 rfl rfl)
theorem dX9_advance_2 : decode cX9_advance 2 = .ok (.getfield 47, 3) := dk_180 0 47 (dk_at dksX9_advance_0 2 rfl rfl)
theorem dX9_advance_5 : decode cX9_advance 5 = .ok (.invokevirtual 39, 3) := dk_182 0 39 (dk_at dksX9_advance_0 5 rfl rfl)
theorem dX9_advance_8 : decode cX9_advance 8 = .ok (.bipush 32, 2) := dk_16 32 (dk_at dksX9_advance_0 8 rfl rfl)
theorem dX9_advance_10 : decode cX9_advance 10 = .ok (.if_icmp .eq 16, 3) := dk_159 0 16 (dk_at dksX9_advance_0 10 rfl rfl)
theorem dX9_advance_13 : decode cX9_advance 13 = .ok (.aload_n 0, 1) := dk_42 (dk_at dksX9_advance_0 13 rfl rfl)
theorem dX9_advance_14 : decode cX9_advance 14 = .ok (.aload_n 0, 1) := dk_42 (dk_at dksX9_advance_0 14 rfl rfl)
theorem dX9_advance_15 : decode cX9_advance 15 = .ok (.getfield 47, 3) := dk_180 0 47 (dk_at dksX9_advance_0 15 rfl rfl)
theorem dX9_advance_18 : decode cX9_advance 18 = .ok (.invokevirtual 39, 3) := dk_182 0 39 (dk_at dksX9_advance_0 18 rfl rfl)
theorem dX9_advance_21 : decode cX9_advance 21 = .ok (.bipush 10, 2) := dk_16 10 (dk_at dksX9_advance_0 21 rfl rfl)
theorem dX9_advance_23 : decode cX9_advance 23 = .ok (.if_icmp .ne 16, 3) := dk_160 0 16 (dk_at dksX9_advance_1 0 rfl rfl)
theorem dX9_advance_26 : decode cX9_advance 26 = .ok (.aload_n 0, 1) := dk_42 (dk_at dksX9_advance_1 3 rfl rfl)
theorem dX9_advance_27 : decode cX9_advance 27 = .ok (.dup, 1) := dk_89 (dk_at dksX9_advance_1 4 rfl rfl)
theorem dX9_advance_28 : decode cX9_advance 28 = .ok (.getfield 47, 3) := dk_180 0 47 (dk_at dksX9_advance_1 5 rfl rfl)
theorem dX9_advance_31 : decode cX9_advance 31 = .ok (.iconst 1, 1) := dk_4 (dk_at dksX9_advance_1 8 rfl rfl)
theorem dX9_advance_32 : decode cX9_advance 32 = .ok (.iadd, 1) := dk_96 (dk_at dksX9_advance_1 9 rfl rfl)
theorem dX9_advance_33 : decode cX9_advance 33 = .ok (.putfield 47, 3) := dk_181 0 47 (dk_at dksX9_advance_1 10 rfl rfl)
theorem dX9_advance_36 : decode cX9_advance 36 = .ok (.goto (-36), 3) := dk_167 255 220 (dk_at dksX9_advance_1 13 rfl rfl)
theorem dX9_advance_39 : decode cX9_advance 39 = .ok (.aload_n 0, 1) := dk_42 (dk_at dksX9_advance_1 16 rfl rfl)
theorem dX9_advance_40 : decode cX9_advance 40 = .ok (.aload_n 0, 1) := dk_42 (dk_at dksX9_advance_1 17 rfl rfl)
theorem dX9_advance_41 : decode cX9_advance 41 = .ok (.getfield 47, 3) := dk_180 0 47 (dk_at dksX9_advance_1 18 rfl rfl)
theorem dX9_advance_44 : decode cX9_advance 44 = .ok (.putfield 50, 3) := dk_181 0 50 (dk_at dksX9_advance_1 21 rfl rfl)
theorem dX9_advance_47 : decode cX9_advance 47 = .ok (.aload_n 0, 1) := dk_42 (dk_at dksX9_advance_2 0 rfl rfl)
theorem dX9_advance_48 : decode cX9_advance 48 = .ok (.ldc 22, 2) := dk_18 22 (dk_at dksX9_advance_2 1 rfl rfl)
theorem dX9_advance_50 : decode cX9_advance 50 = .ok (.putfield 24, 3) := dk_181 0 24 (dk_at dksX9_advance_2 3 rfl rfl)
theorem dX9_advance_53 : decode cX9_advance 53 = .ok (.aload_n 0, 1) := dk_42 (dk_at dksX9_advance_2 6 rfl rfl)
theorem dX9_advance_54 : decode cX9_advance 54 = .ok (.iconst 0, 1) := dk_3 (dk_at dksX9_advance_2 7 rfl rfl)
theorem dX9_advance_55 : decode cX9_advance 55 = .ok (.putfield 53, 3) := dk_181 0 53 (dk_at dksX9_advance_2 8 rfl rfl)
theorem dX9_advance_58 : decode cX9_advance 58 = .ok (.aload_n 0, 1) := dk_42 (dk_at dksX9_advance_2 11 rfl rfl)
theorem dX9_advance_59 : decode cX9_advance 59 = .ok (.getfield 47, 3) := dk_180 0 47 (dk_at dksX9_advance_2 12 rfl rfl)
theorem dX9_advance_62 : decode cX9_advance 62 = .ok (.aload_n 0, 1) := dk_42 (dk_at dksX9_advance_2 15 rfl rfl)
theorem dX9_advance_63 : decode cX9_advance 63 = .ok (.getfield 19, 3) := dk_180 0 19 (dk_at dksX9_advance_2 16 rfl rfl)
theorem dX9_advance_66 : decode cX9_advance 66 = .ok (.if_icmp .lt 11, 3) := dk_161 0 11 (dk_at dksX9_advance_2 19 rfl rfl)
theorem dX9_advance_69 : decode cX9_advance 69 = .ok (.aload_n 0, 1) := dk_42 (dk_at dksX9_advance_2 22 rfl rfl)
theorem dX9_advance_70 : decode cX9_advance 70 = .ok (.iconst 0, 1) := dk_3 (dk_at dksX9_advance_2 23 rfl rfl)
theorem dX9_advance_71 : decode cX9_advance 71 = .ok (.putfield 56, 3) := dk_181 0 56 (dk_at dksX9_advance_3 0 rfl rfl)
theorem dX9_advance_74 : decode cX9_advance 74 = .ok (.goto 43, 3) := dk_167 0 43 (dk_at dksX9_advance_3 3 rfl rfl)
theorem dX9_advance_77 : decode cX9_advance 77 = .ok (.aload_n 0, 1) := dk_42 (dk_at dksX9_advance_3 6 rfl rfl)
theorem dX9_advance_78 : decode cX9_advance 78 = .ok (.aload_n 0, 1) := dk_42 (dk_at dksX9_advance_3 7 rfl rfl)
theorem dX9_advance_79 : decode cX9_advance 79 = .ok (.getfield 47, 3) := dk_180 0 47 (dk_at dksX9_advance_3 8 rfl rfl)
theorem dX9_advance_82 : decode cX9_advance 82 = .ok (.invokevirtual 59, 3) := dk_182 0 59 (dk_at dksX9_advance_3 11 rfl rfl)
theorem dX9_advance_85 : decode cX9_advance 85 = .ok (.ifCond .eq 10, 3) := dk_153 0 10 (dk_at dksX9_advance_3 14 rfl rfl)
theorem dX9_advance_88 : decode cX9_advance 88 = .ok (.aload_n 0, 1) := dk_42 (dk_at dksX9_advance_3 17 rfl rfl)
theorem dX9_advance_89 : decode cX9_advance 89 = .ok (.invokevirtual 63, 3) := dk_182 0 63 (dk_at dksX9_advance_3 18 rfl rfl)
theorem dX9_advance_92 : decode cX9_advance 92 = .ok (.goto 25, 3) := dk_167 0 25 (dk_at dksX9_advance_3 21 rfl rfl)
theorem dX9_advance_95 : decode cX9_advance 95 = .ok (.aload_n 0, 1) := dk_42 (dk_at dksX9_advance_4 0 rfl rfl)
theorem dX9_advance_96 : decode cX9_advance 96 = .ok (.aload_n 0, 1) := dk_42 (dk_at dksX9_advance_4 1 rfl rfl)
theorem dX9_advance_97 : decode cX9_advance 97 = .ok (.getfield 47, 3) := dk_180 0 47 (dk_at dksX9_advance_4 2 rfl rfl)
theorem dX9_advance_100 : decode cX9_advance 100 = .ok (.invokevirtual 66, 3) := dk_182 0 66 (dk_at dksX9_advance_4 5 rfl rfl)
theorem dX9_advance_103 : decode cX9_advance 103 = .ok (.ifCond .eq 10, 3) := dk_153 0 10 (dk_at dksX9_advance_4 8 rfl rfl)
theorem dX9_advance_106 : decode cX9_advance 106 = .ok (.aload_n 0, 1) := dk_42 (dk_at dksX9_advance_4 11 rfl rfl)
theorem dX9_advance_107 : decode cX9_advance 107 = .ok (.invokevirtual 69, 3) := dk_182 0 69 (dk_at dksX9_advance_4 12 rfl rfl)
theorem dX9_advance_110 : decode cX9_advance 110 = .ok (.goto 7, 3) := dk_167 0 7 (dk_at dksX9_advance_4 15 rfl rfl)
theorem dX9_advance_113 : decode cX9_advance 113 = .ok (.aload_n 0, 1) := dk_42 (dk_at dksX9_advance_4 18 rfl rfl)
theorem dX9_advance_114 : decode cX9_advance 114 = .ok (.invokevirtual 72, 3) := dk_182 0 72 (dk_at dksX9_advance_4 19 rfl rfl)
theorem dX9_advance_117 : decode cX9_advance 117 = .ok (.return_, 1) := dk_177 (dk_at dksX9_advance_4 22 rfl rfl)
abbrev cX9_byteAt : ByteArray := prog_11_method_2_code
def yX9_byteAt : MethodName := ⟨RX9, "byteAt", "(I)I"⟩
def dkwX9_byteAt_1 : List UInt8 := [2, 172]
abbrev dktX9_byteAt_1 : List UInt8 := dkwX9_byteAt_1 ++ []
def dkwX9_byteAt_0 : List UInt8 := [27, 42, 180, 0, 19, 162, 0, 19, 42, 180, 0, 3, 180, 0, 35, 27, 51, 17, 0, 255, 126, 167, 0, 4]
abbrev dktX9_byteAt_0 : List UInt8 := dkwX9_byteAt_0 ++ dktX9_byteAt_1
theorem dksX9_byteAt_0 : cX9_byteAt.data.toList.drop 0 = dktX9_byteAt_0 := by decide +kernel
theorem dksX9_byteAt_1 : cX9_byteAt.data.toList.drop 24 = dktX9_byteAt_1 := dk_seg dksX9_byteAt_0 24 rfl rfl
theorem dX9_byteAt_0 : decode cX9_byteAt 0 = .ok (.iload_n 1, 1) := dk_27 (dk_at dksX9_byteAt_0 0 rfl rfl)
theorem dX9_byteAt_1 : decode cX9_byteAt 1 = .ok (.aload_n 0, 1) := dk_42 (dk_at dksX9_byteAt_0 1 rfl rfl)
theorem dX9_byteAt_2 : decode cX9_byteAt 2 = .ok (.getfield 19, 3) := dk_180 0 19 (dk_at dksX9_byteAt_0 2 rfl rfl)
theorem dX9_byteAt_5 : decode cX9_byteAt 5 = .ok (.if_icmp .ge 19, 3) := dk_162 0 19 (dk_at dksX9_byteAt_0 5 rfl rfl)
theorem dX9_byteAt_8 : decode cX9_byteAt 8 = .ok (.aload_n 0, 1) := dk_42 (dk_at dksX9_byteAt_0 8 rfl rfl)
theorem dX9_byteAt_9 : decode cX9_byteAt 9 = .ok (.getfield 3, 3) := dk_180 0 3 (dk_at dksX9_byteAt_0 9 rfl rfl)
theorem dX9_byteAt_12 : decode cX9_byteAt 12 = .ok (.getfield 35, 3) := dk_180 0 35 (dk_at dksX9_byteAt_0 12 rfl rfl)
theorem dX9_byteAt_15 : decode cX9_byteAt 15 = .ok (.iload_n 1, 1) := dk_27 (dk_at dksX9_byteAt_0 15 rfl rfl)
theorem dX9_byteAt_16 : decode cX9_byteAt 16 = .ok (.baload, 1) := dk_51 (dk_at dksX9_byteAt_0 16 rfl rfl)
theorem dX9_byteAt_17 : decode cX9_byteAt 17 = .ok (.sipush 255, 3) := dk_17 0 255 (dk_at dksX9_byteAt_0 17 rfl rfl)
theorem dX9_byteAt_20 : decode cX9_byteAt 20 = .ok (.iand, 1) := dk_126 (dk_at dksX9_byteAt_0 20 rfl rfl)
theorem dX9_byteAt_21 : decode cX9_byteAt 21 = .ok (.goto 4, 3) := dk_167 0 4 (dk_at dksX9_byteAt_0 21 rfl rfl)
theorem dX9_byteAt_24 : decode cX9_byteAt 24 = .ok (.iconst (-1), 1) := dk_2 (dk_at dksX9_byteAt_1 0 rfl rfl)
theorem dX9_byteAt_25 : decode cX9_byteAt 25 = .ok (.ireturn, 1) := dk_172 (dk_at dksX9_byteAt_1 1 rfl rfl)
abbrev cX9_isLetter : ByteArray := prog_11_method_3_code
def yX9_isLetter : MethodName := ⟨RX9, "isLetter", "(I)Z"⟩
def dkwX9_isLetter_0 : List UInt8 := [42, 27, 182, 0, 39, 16, 97, 16, 122, 184, 0, 43, 172]
abbrev dktX9_isLetter_0 : List UInt8 := dkwX9_isLetter_0 ++ []
theorem dksX9_isLetter_0 : cX9_isLetter.data.toList.drop 0 = dktX9_isLetter_0 := by decide +kernel
theorem dX9_isLetter_0 : decode cX9_isLetter 0 = .ok (.aload_n 0, 1) := dk_42 (dk_at dksX9_isLetter_0 0 rfl rfl)
theorem dX9_isLetter_1 : decode cX9_isLetter 1 = .ok (.iload_n 1, 1) := dk_27 (dk_at dksX9_isLetter_0 1 rfl rfl)
theorem dX9_isLetter_2 : decode cX9_isLetter 2 = .ok (.invokevirtual 39, 3) := dk_182 0 39 (dk_at dksX9_isLetter_0 2 rfl rfl)
theorem dX9_isLetter_5 : decode cX9_isLetter 5 = .ok (.bipush 97, 2) := dk_16 97 (dk_at dksX9_isLetter_0 5 rfl rfl)
theorem dX9_isLetter_7 : decode cX9_isLetter 7 = .ok (.bipush 122, 2) := dk_16 122 (dk_at dksX9_isLetter_0 7 rfl rfl)
theorem dX9_isLetter_9 : decode cX9_isLetter 9 = .ok (.invokestatic 43, 3) := dk_184 0 43 (dk_at dksX9_isLetter_0 9 rfl rfl)
theorem dX9_isLetter_12 : decode cX9_isLetter 12 = .ok (.ireturn, 1) := dk_172 (dk_at dksX9_isLetter_0 12 rfl rfl)
abbrev cX9_readWord : ByteArray := prog_11_method_6_code
def yX9_readWord : MethodName := ⟨RX9, "readWord", "()V"⟩
def dkwX9_readWord_3 : List UInt8 := [180, 0, 56, 4, 160, 0, 11, 42, 43, 182, 0, 82, 181, 0, 24, 177]
abbrev dktX9_readWord_3 : List UInt8 := dkwX9_readWord_3 ++ []
def dkwX9_readWord_2 : List UInt8 := [42, 42, 180, 0, 47, 42, 180, 0, 50, 100, 16, 8, 164, 0, 7, 7, 167, 0, 4, 4, 181, 0, 56, 42]
abbrev dktX9_readWord_2 : List UInt8 := dkwX9_readWord_2 ++ dktX9_readWord_3
def dkwX9_readWord_1 : List UInt8 := [180, 0, 47, 182, 0, 39, 146, 182, 0, 78, 87, 42, 89, 180, 0, 47, 4, 96, 181, 0, 47, 167, 255, 221]
abbrev dktX9_readWord_1 : List UInt8 := dkwX9_readWord_1 ++ dktX9_readWord_2
def dkwX9_readWord_0 : List UInt8 := [187, 0, 75, 89, 183, 0, 77, 76, 42, 42, 180, 0, 47, 182, 0, 59, 153, 0, 30, 43, 42, 42]
abbrev dktX9_readWord_0 : List UInt8 := dkwX9_readWord_0 ++ dktX9_readWord_1
theorem dksX9_readWord_0 : cX9_readWord.data.toList.drop 0 = dktX9_readWord_0 := by decide +kernel
theorem dksX9_readWord_1 : cX9_readWord.data.toList.drop 22 = dktX9_readWord_1 := dk_seg dksX9_readWord_0 22 rfl rfl
theorem dksX9_readWord_2 : cX9_readWord.data.toList.drop 46 = dktX9_readWord_2 := dk_seg dksX9_readWord_1 24 rfl rfl
theorem dksX9_readWord_3 : cX9_readWord.data.toList.drop 70 = dktX9_readWord_3 := dk_seg dksX9_readWord_2 24 rfl rfl
theorem dX9_readWord_0 : decode cX9_readWord 0 = .ok (.new 75, 3) := dk_187 0 75 (dk_at dksX9_readWord_0 0 rfl rfl)
theorem dX9_readWord_3 : decode cX9_readWord 3 = .ok (.dup, 1) := dk_89 (dk_at dksX9_readWord_0 3 rfl rfl)
theorem dX9_readWord_4 : decode cX9_readWord 4 = .ok (.invokespecial 77, 3) := dk_183 0 77 (dk_at dksX9_readWord_0 4 rfl rfl)
theorem dX9_readWord_7 : decode cX9_readWord 7 = .ok (.astore_n 1, 1) := dk_76 (dk_at dksX9_readWord_0 7 rfl rfl)
theorem dX9_readWord_8 : decode cX9_readWord 8 = .ok (.aload_n 0, 1) := dk_42 (dk_at dksX9_readWord_0 8 rfl rfl)
theorem dX9_readWord_9 : decode cX9_readWord 9 = .ok (.aload_n 0, 1) := dk_42 (dk_at dksX9_readWord_0 9 rfl rfl)
theorem dX9_readWord_10 : decode cX9_readWord 10 = .ok (.getfield 47, 3) := dk_180 0 47 (dk_at dksX9_readWord_0 10 rfl rfl)
theorem dX9_readWord_13 : decode cX9_readWord 13 = .ok (.invokevirtual 59, 3) := dk_182 0 59 (dk_at dksX9_readWord_0 13 rfl rfl)
theorem dX9_readWord_16 : decode cX9_readWord 16 = .ok (.ifCond .eq 30, 3) := dk_153 0 30 (dk_at dksX9_readWord_0 16 rfl rfl)
theorem dX9_readWord_19 : decode cX9_readWord 19 = .ok (.aload_n 1, 1) := dk_43 (dk_at dksX9_readWord_0 19 rfl rfl)
theorem dX9_readWord_20 : decode cX9_readWord 20 = .ok (.aload_n 0, 1) := dk_42 (dk_at dksX9_readWord_0 20 rfl rfl)
theorem dX9_readWord_21 : decode cX9_readWord 21 = .ok (.aload_n 0, 1) := dk_42 (dk_at dksX9_readWord_0 21 rfl rfl)
theorem dX9_readWord_22 : decode cX9_readWord 22 = .ok (.getfield 47, 3) := dk_180 0 47 (dk_at dksX9_readWord_1 0 rfl rfl)
theorem dX9_readWord_25 : decode cX9_readWord 25 = .ok (.invokevirtual 39, 3) := dk_182 0 39 (dk_at dksX9_readWord_1 3 rfl rfl)
theorem dX9_readWord_28 : decode cX9_readWord 28 = .ok (.i2c, 1) := dk_146 (dk_at dksX9_readWord_1 6 rfl rfl)
theorem dX9_readWord_29 : decode cX9_readWord 29 = .ok (.invokevirtual 78, 3) := dk_182 0 78 (dk_at dksX9_readWord_1 7 rfl rfl)
theorem dX9_readWord_32 : decode cX9_readWord 32 = .ok (.pop, 1) := dk_87 (dk_at dksX9_readWord_1 10 rfl rfl)
theorem dX9_readWord_33 : decode cX9_readWord 33 = .ok (.aload_n 0, 1) := dk_42 (dk_at dksX9_readWord_1 11 rfl rfl)
theorem dX9_readWord_34 : decode cX9_readWord 34 = .ok (.dup, 1) := dk_89 (dk_at dksX9_readWord_1 12 rfl rfl)
theorem dX9_readWord_35 : decode cX9_readWord 35 = .ok (.getfield 47, 3) := dk_180 0 47 (dk_at dksX9_readWord_1 13 rfl rfl)
theorem dX9_readWord_38 : decode cX9_readWord 38 = .ok (.iconst 1, 1) := dk_4 (dk_at dksX9_readWord_1 16 rfl rfl)
theorem dX9_readWord_39 : decode cX9_readWord 39 = .ok (.iadd, 1) := dk_96 (dk_at dksX9_readWord_1 17 rfl rfl)
theorem dX9_readWord_40 : decode cX9_readWord 40 = .ok (.putfield 47, 3) := dk_181 0 47 (dk_at dksX9_readWord_1 18 rfl rfl)
theorem dX9_readWord_43 : decode cX9_readWord 43 = .ok (.goto (-35), 3) := dk_167 255 221 (dk_at dksX9_readWord_1 21 rfl rfl)
theorem dX9_readWord_46 : decode cX9_readWord 46 = .ok (.aload_n 0, 1) := dk_42 (dk_at dksX9_readWord_2 0 rfl rfl)
theorem dX9_readWord_47 : decode cX9_readWord 47 = .ok (.aload_n 0, 1) := dk_42 (dk_at dksX9_readWord_2 1 rfl rfl)
theorem dX9_readWord_48 : decode cX9_readWord 48 = .ok (.getfield 47, 3) := dk_180 0 47 (dk_at dksX9_readWord_2 2 rfl rfl)
theorem dX9_readWord_51 : decode cX9_readWord 51 = .ok (.aload_n 0, 1) := dk_42 (dk_at dksX9_readWord_2 5 rfl rfl)
theorem dX9_readWord_52 : decode cX9_readWord 52 = .ok (.getfield 50, 3) := dk_180 0 50 (dk_at dksX9_readWord_2 6 rfl rfl)
theorem dX9_readWord_55 : decode cX9_readWord 55 = .ok (.isub, 1) := dk_100 (dk_at dksX9_readWord_2 9 rfl rfl)
theorem dX9_readWord_56 : decode cX9_readWord 56 = .ok (.bipush 8, 2) := dk_16 8 (dk_at dksX9_readWord_2 10 rfl rfl)
theorem dX9_readWord_58 : decode cX9_readWord 58 = .ok (.if_icmp .le 7, 3) := dk_164 0 7 (dk_at dksX9_readWord_2 12 rfl rfl)
theorem dX9_readWord_61 : decode cX9_readWord 61 = .ok (.iconst 4, 1) := dk_7 (dk_at dksX9_readWord_2 15 rfl rfl)
theorem dX9_readWord_62 : decode cX9_readWord 62 = .ok (.goto 4, 3) := dk_167 0 4 (dk_at dksX9_readWord_2 16 rfl rfl)
theorem dX9_readWord_65 : decode cX9_readWord 65 = .ok (.iconst 1, 1) := dk_4 (dk_at dksX9_readWord_2 19 rfl rfl)
theorem dX9_readWord_66 : decode cX9_readWord 66 = .ok (.putfield 56, 3) := dk_181 0 56 (dk_at dksX9_readWord_2 20 rfl rfl)
theorem dX9_readWord_69 : decode cX9_readWord 69 = .ok (.aload_n 0, 1) := dk_42 (dk_at dksX9_readWord_2 23 rfl rfl)
theorem dX9_readWord_70 : decode cX9_readWord 70 = .ok (.getfield 56, 3) := dk_180 0 56 (dk_at dksX9_readWord_3 0 rfl rfl)
theorem dX9_readWord_73 : decode cX9_readWord 73 = .ok (.iconst 1, 1) := dk_4 (dk_at dksX9_readWord_3 3 rfl rfl)
theorem dX9_readWord_74 : decode cX9_readWord 74 = .ok (.if_icmp .ne 11, 3) := dk_160 0 11 (dk_at dksX9_readWord_3 4 rfl rfl)
theorem dX9_readWord_77 : decode cX9_readWord 77 = .ok (.aload_n 0, 1) := dk_42 (dk_at dksX9_readWord_3 7 rfl rfl)
theorem dX9_readWord_78 : decode cX9_readWord 78 = .ok (.aload_n 1, 1) := dk_43 (dk_at dksX9_readWord_3 8 rfl rfl)
theorem dX9_readWord_79 : decode cX9_readWord 79 = .ok (.invokevirtual 82, 3) := dk_182 0 82 (dk_at dksX9_readWord_3 9 rfl rfl)
theorem dX9_readWord_82 : decode cX9_readWord 82 = .ok (.putfield 24, 3) := dk_181 0 24 (dk_at dksX9_readWord_3 12 rfl rfl)
theorem dX9_readWord_85 : decode cX9_readWord 85 = .ok (.return_, 1) := dk_177 (dk_at dksX9_readWord_3 15 rfl rfl)
abbrev cX9_isDigit : ByteArray := prog_11_method_4_code
def yX9_isDigit : MethodName := ⟨RX9, "isDigit", "(I)Z"⟩
def dkwX9_isDigit_0 : List UInt8 := [42, 27, 182, 0, 39, 16, 48, 16, 57, 184, 0, 43, 172]
abbrev dktX9_isDigit_0 : List UInt8 := dkwX9_isDigit_0 ++ []
theorem dksX9_isDigit_0 : cX9_isDigit.data.toList.drop 0 = dktX9_isDigit_0 := by decide +kernel
theorem dX9_isDigit_0 : decode cX9_isDigit 0 = .ok (.aload_n 0, 1) := dk_42 (dk_at dksX9_isDigit_0 0 rfl rfl)
theorem dX9_isDigit_1 : decode cX9_isDigit 1 = .ok (.iload_n 1, 1) := dk_27 (dk_at dksX9_isDigit_0 1 rfl rfl)
theorem dX9_isDigit_2 : decode cX9_isDigit 2 = .ok (.invokevirtual 39, 3) := dk_182 0 39 (dk_at dksX9_isDigit_0 2 rfl rfl)
theorem dX9_isDigit_5 : decode cX9_isDigit 5 = .ok (.bipush 48, 2) := dk_16 48 (dk_at dksX9_isDigit_0 5 rfl rfl)
theorem dX9_isDigit_7 : decode cX9_isDigit 7 = .ok (.bipush 57, 2) := dk_16 57 (dk_at dksX9_isDigit_0 7 rfl rfl)
theorem dX9_isDigit_9 : decode cX9_isDigit 9 = .ok (.invokestatic 43, 3) := dk_184 0 43 (dk_at dksX9_isDigit_0 9 rfl rfl)
theorem dX9_isDigit_12 : decode cX9_isDigit 12 = .ok (.ireturn, 1) := dk_172 (dk_at dksX9_isDigit_0 12 rfl rfl)
abbrev cX9_readNumber : ByteArray := prog_11_method_7_code
def yX9_readNumber : MethodName := ⟨RX9, "readNumber", "()V"⟩
def dkwX9_readNumber_3 : List UInt8 := [164, 0, 7, 7, 167, 0, 4, 5, 181, 0, 56, 177]
abbrev dktX9_readNumber_3 : List UInt8 := dkwX9_readNumber_3 ++ []
def dkwX9_readNumber_2 : List UInt8 := [89, 180, 0, 47, 4, 96, 181, 0, 47, 167, 255, 199, 42, 42, 180, 0, 47, 42, 180, 0, 50, 100, 6]
abbrev dktX9_readNumber_2 : List UInt8 := dkwX9_readNumber_2 ++ dktX9_readNumber_3
def dkwX9_readNumber_1 : List UInt8 := [42, 16, 10, 42, 180, 0, 53, 104, 42, 42, 180, 0, 47, 182, 0, 39, 96, 16, 48, 100, 181, 0, 53, 42]
abbrev dktX9_readNumber_1 : List UInt8 := dkwX9_readNumber_1 ++ dktX9_readNumber_2
def dkwX9_readNumber_0 : List UInt8 := [42, 42, 180, 0, 47, 182, 0, 66, 153, 0, 52, 42, 180, 0, 47, 42, 180, 0, 50, 100, 6, 162, 0, 26]
abbrev dktX9_readNumber_0 : List UInt8 := dkwX9_readNumber_0 ++ dktX9_readNumber_1
theorem dksX9_readNumber_0 : cX9_readNumber.data.toList.drop 0 = dktX9_readNumber_0 := by decide +kernel
theorem dksX9_readNumber_1 : cX9_readNumber.data.toList.drop 24 = dktX9_readNumber_1 := dk_seg dksX9_readNumber_0 24 rfl rfl
theorem dksX9_readNumber_2 : cX9_readNumber.data.toList.drop 48 = dktX9_readNumber_2 := dk_seg dksX9_readNumber_1 24 rfl rfl
theorem dksX9_readNumber_3 : cX9_readNumber.data.toList.drop 71 = dktX9_readNumber_3 := dk_seg dksX9_readNumber_2 23 rfl rfl
theorem dX9_readNumber_0 : decode cX9_readNumber 0 = .ok (.aload_n 0, 1) := dk_42 (dk_at dksX9_readNumber_0 0 rfl rfl)
theorem dX9_readNumber_1 : decode cX9_readNumber 1 = .ok (.aload_n 0, 1) := dk_42 (dk_at dksX9_readNumber_0 1 rfl rfl)
theorem dX9_readNumber_2 : decode cX9_readNumber 2 = .ok (.getfield 47, 3) := dk_180 0 47 (dk_at dksX9_readNumber_0 2 rfl rfl)
theorem dX9_readNumber_5 : decode cX9_readNumber 5 = .ok (.invokevirtual 66, 3) := dk_182 0 66 (dk_at dksX9_readNumber_0 5 rfl rfl)
theorem dX9_readNumber_8 : decode cX9_readNumber 8 = .ok (.ifCond .eq 52, 3) := dk_153 0 52 (dk_at dksX9_readNumber_0 8 rfl rfl)
theorem dX9_readNumber_11 : decode cX9_readNumber 11 = .ok (.aload_n 0, 1) := dk_42 (dk_at dksX9_readNumber_0 11 rfl rfl)
theorem dX9_readNumber_12 : decode cX9_readNumber 12 = .ok (.getfield 47, 3) := dk_180 0 47 (dk_at dksX9_readNumber_0 12 rfl rfl)
theorem dX9_readNumber_15 : decode cX9_readNumber 15 = .ok (.aload_n 0, 1) := dk_42 (dk_at dksX9_readNumber_0 15 rfl rfl)
theorem dX9_readNumber_16 : decode cX9_readNumber 16 = .ok (.getfield 50, 3) := dk_180 0 50 (dk_at dksX9_readNumber_0 16 rfl rfl)
theorem dX9_readNumber_19 : decode cX9_readNumber 19 = .ok (.isub, 1) := dk_100 (dk_at dksX9_readNumber_0 19 rfl rfl)
theorem dX9_readNumber_20 : decode cX9_readNumber 20 = .ok (.iconst 3, 1) := dk_6 (dk_at dksX9_readNumber_0 20 rfl rfl)
theorem dX9_readNumber_21 : decode cX9_readNumber 21 = .ok (.if_icmp .ge 26, 3) := dk_162 0 26 (dk_at dksX9_readNumber_0 21 rfl rfl)
theorem dX9_readNumber_24 : decode cX9_readNumber 24 = .ok (.aload_n 0, 1) := dk_42 (dk_at dksX9_readNumber_1 0 rfl rfl)
theorem dX9_readNumber_25 : decode cX9_readNumber 25 = .ok (.bipush 10, 2) := dk_16 10 (dk_at dksX9_readNumber_1 1 rfl rfl)
theorem dX9_readNumber_27 : decode cX9_readNumber 27 = .ok (.aload_n 0, 1) := dk_42 (dk_at dksX9_readNumber_1 3 rfl rfl)
theorem dX9_readNumber_28 : decode cX9_readNumber 28 = .ok (.getfield 53, 3) := dk_180 0 53 (dk_at dksX9_readNumber_1 4 rfl rfl)
theorem dX9_readNumber_31 : decode cX9_readNumber 31 = .ok (.imul, 1) := dk_104 (dk_at dksX9_readNumber_1 7 rfl rfl)
theorem dX9_readNumber_32 : decode cX9_readNumber 32 = .ok (.aload_n 0, 1) := dk_42 (dk_at dksX9_readNumber_1 8 rfl rfl)
theorem dX9_readNumber_33 : decode cX9_readNumber 33 = .ok (.aload_n 0, 1) := dk_42 (dk_at dksX9_readNumber_1 9 rfl rfl)
theorem dX9_readNumber_34 : decode cX9_readNumber 34 = .ok (.getfield 47, 3) := dk_180 0 47 (dk_at dksX9_readNumber_1 10 rfl rfl)
theorem dX9_readNumber_37 : decode cX9_readNumber 37 = .ok (.invokevirtual 39, 3) := dk_182 0 39 (dk_at dksX9_readNumber_1 13 rfl rfl)
theorem dX9_readNumber_40 : decode cX9_readNumber 40 = .ok (.iadd, 1) := dk_96 (dk_at dksX9_readNumber_1 16 rfl rfl)
theorem dX9_readNumber_41 : decode cX9_readNumber 41 = .ok (.bipush 48, 2) := dk_16 48 (dk_at dksX9_readNumber_1 17 rfl rfl)
theorem dX9_readNumber_43 : decode cX9_readNumber 43 = .ok (.isub, 1) := dk_100 (dk_at dksX9_readNumber_1 19 rfl rfl)
theorem dX9_readNumber_44 : decode cX9_readNumber 44 = .ok (.putfield 53, 3) := dk_181 0 53 (dk_at dksX9_readNumber_1 20 rfl rfl)
theorem dX9_readNumber_47 : decode cX9_readNumber 47 = .ok (.aload_n 0, 1) := dk_42 (dk_at dksX9_readNumber_1 23 rfl rfl)
theorem dX9_readNumber_48 : decode cX9_readNumber 48 = .ok (.dup, 1) := dk_89 (dk_at dksX9_readNumber_2 0 rfl rfl)
theorem dX9_readNumber_49 : decode cX9_readNumber 49 = .ok (.getfield 47, 3) := dk_180 0 47 (dk_at dksX9_readNumber_2 1 rfl rfl)
theorem dX9_readNumber_52 : decode cX9_readNumber 52 = .ok (.iconst 1, 1) := dk_4 (dk_at dksX9_readNumber_2 4 rfl rfl)
theorem dX9_readNumber_53 : decode cX9_readNumber 53 = .ok (.iadd, 1) := dk_96 (dk_at dksX9_readNumber_2 5 rfl rfl)
theorem dX9_readNumber_54 : decode cX9_readNumber 54 = .ok (.putfield 47, 3) := dk_181 0 47 (dk_at dksX9_readNumber_2 6 rfl rfl)
theorem dX9_readNumber_57 : decode cX9_readNumber 57 = .ok (.goto (-57), 3) := dk_167 255 199 (dk_at dksX9_readNumber_2 9 rfl rfl)
theorem dX9_readNumber_60 : decode cX9_readNumber 60 = .ok (.aload_n 0, 1) := dk_42 (dk_at dksX9_readNumber_2 12 rfl rfl)
theorem dX9_readNumber_61 : decode cX9_readNumber 61 = .ok (.aload_n 0, 1) := dk_42 (dk_at dksX9_readNumber_2 13 rfl rfl)
theorem dX9_readNumber_62 : decode cX9_readNumber 62 = .ok (.getfield 47, 3) := dk_180 0 47 (dk_at dksX9_readNumber_2 14 rfl rfl)
theorem dX9_readNumber_65 : decode cX9_readNumber 65 = .ok (.aload_n 0, 1) := dk_42 (dk_at dksX9_readNumber_2 17 rfl rfl)
theorem dX9_readNumber_66 : decode cX9_readNumber 66 = .ok (.getfield 50, 3) := dk_180 0 50 (dk_at dksX9_readNumber_2 18 rfl rfl)
theorem dX9_readNumber_69 : decode cX9_readNumber 69 = .ok (.isub, 1) := dk_100 (dk_at dksX9_readNumber_2 21 rfl rfl)
theorem dX9_readNumber_70 : decode cX9_readNumber 70 = .ok (.iconst 3, 1) := dk_6 (dk_at dksX9_readNumber_2 22 rfl rfl)
theorem dX9_readNumber_71 : decode cX9_readNumber 71 = .ok (.if_icmp .le 7, 3) := dk_164 0 7 (dk_at dksX9_readNumber_3 0 rfl rfl)
theorem dX9_readNumber_74 : decode cX9_readNumber 74 = .ok (.iconst 4, 1) := dk_7 (dk_at dksX9_readNumber_3 3 rfl rfl)
theorem dX9_readNumber_75 : decode cX9_readNumber 75 = .ok (.goto 4, 3) := dk_167 0 4 (dk_at dksX9_readNumber_3 4 rfl rfl)
theorem dX9_readNumber_78 : decode cX9_readNumber 78 = .ok (.iconst 2, 1) := dk_5 (dk_at dksX9_readNumber_3 7 rfl rfl)
theorem dX9_readNumber_79 : decode cX9_readNumber 79 = .ok (.putfield 56, 3) := dk_181 0 56 (dk_at dksX9_readNumber_3 8 rfl rfl)
theorem dX9_readNumber_82 : decode cX9_readNumber 82 = .ok (.return_, 1) := dk_177 (dk_at dksX9_readNumber_3 11 rfl rfl)
abbrev cX9_readOther : ByteArray := prog_11_method_8_code
def yX9_readOther : MethodName := ⟨RX9, "readOther", "()V"⟩
def dkwX9_readOther_1 : List UInt8 := [180, 0, 47, 4, 96, 181, 0, 47, 177]
abbrev dktX9_readOther_1 : List UInt8 := dkwX9_readOther_1 ++ []
def dkwX9_readOther_0 : List UInt8 := [42, 42, 42, 180, 0, 47, 182, 0, 39, 16, 59, 160, 0, 7, 6, 167, 0, 4, 7, 181, 0, 56, 42, 89]
abbrev dktX9_readOther_0 : List UInt8 := dkwX9_readOther_0 ++ dktX9_readOther_1
theorem dksX9_readOther_0 : cX9_readOther.data.toList.drop 0 = dktX9_readOther_0 := by decide +kernel
theorem dksX9_readOther_1 : cX9_readOther.data.toList.drop 24 = dktX9_readOther_1 := dk_seg dksX9_readOther_0 24 rfl rfl
theorem dX9_readOther_0 : decode cX9_readOther 0 = .ok (.aload_n 0, 1) := dk_42 (dk_at dksX9_readOther_0 0 rfl rfl)
theorem dX9_readOther_1 : decode cX9_readOther 1 = .ok (.aload_n 0, 1) := dk_42 (dk_at dksX9_readOther_0 1 rfl rfl)
theorem dX9_readOther_2 : decode cX9_readOther 2 = .ok (.aload_n 0, 1) := dk_42 (dk_at dksX9_readOther_0 2 rfl rfl)
theorem dX9_readOther_3 : decode cX9_readOther 3 = .ok (.getfield 47, 3) := dk_180 0 47 (dk_at dksX9_readOther_0 3 rfl rfl)
theorem dX9_readOther_6 : decode cX9_readOther 6 = .ok (.invokevirtual 39, 3) := dk_182 0 39 (dk_at dksX9_readOther_0 6 rfl rfl)
theorem dX9_readOther_9 : decode cX9_readOther 9 = .ok (.bipush 59, 2) := dk_16 59 (dk_at dksX9_readOther_0 9 rfl rfl)
theorem dX9_readOther_11 : decode cX9_readOther 11 = .ok (.if_icmp .ne 7, 3) := dk_160 0 7 (dk_at dksX9_readOther_0 11 rfl rfl)
theorem dX9_readOther_14 : decode cX9_readOther 14 = .ok (.iconst 3, 1) := dk_6 (dk_at dksX9_readOther_0 14 rfl rfl)
theorem dX9_readOther_15 : decode cX9_readOther 15 = .ok (.goto 4, 3) := dk_167 0 4 (dk_at dksX9_readOther_0 15 rfl rfl)
theorem dX9_readOther_18 : decode cX9_readOther 18 = .ok (.iconst 4, 1) := dk_7 (dk_at dksX9_readOther_0 18 rfl rfl)
theorem dX9_readOther_19 : decode cX9_readOther 19 = .ok (.putfield 56, 3) := dk_181 0 56 (dk_at dksX9_readOther_0 19 rfl rfl)
theorem dX9_readOther_22 : decode cX9_readOther 22 = .ok (.aload_n 0, 1) := dk_42 (dk_at dksX9_readOther_0 22 rfl rfl)
theorem dX9_readOther_23 : decode cX9_readOther 23 = .ok (.dup, 1) := dk_89 (dk_at dksX9_readOther_0 23 rfl rfl)
theorem dX9_readOther_24 : decode cX9_readOther 24 = .ok (.getfield 47, 3) := dk_180 0 47 (dk_at dksX9_readOther_1 0 rfl rfl)
theorem dX9_readOther_27 : decode cX9_readOther 27 = .ok (.iconst 1, 1) := dk_4 (dk_at dksX9_readOther_1 3 rfl rfl)
theorem dX9_readOther_28 : decode cX9_readOther 28 = .ok (.iadd, 1) := dk_96 (dk_at dksX9_readOther_1 4 rfl rfl)
theorem dX9_readOther_29 : decode cX9_readOther 29 = .ok (.putfield 47, 3) := dk_181 0 47 (dk_at dksX9_readOther_1 5 rfl rfl)
theorem dX9_readOther_32 : decode cX9_readOther 32 = .ok (.return_, 1) := dk_177 (dk_at dksX9_readOther_1 8 rfl rfl)
abbrev cX9_setup : ByteArray := prog_11_method_15_code
def yX9_setup : MethodName := ⟨RX9, "setup", "()LVectorVersions$Store;"⟩
def dkwX9_setup_2 : List UInt8 := [180, 0, 3, 3, 181, 0, 15, 45, 191]
abbrev dktX9_setup_2 : List UInt8 := dkwX9_setup_2 ++ []
def dkwX9_setup_1 : List UInt8 := [167, 255, 240, 42, 180, 0, 28, 43, 182, 0, 139, 77, 42, 180, 0, 3, 3, 181, 0, 15, 44, 176, 78, 42]
abbrev dktX9_setup_1 : List UInt8 := dkwX9_setup_1 ++ dktX9_setup_2
def dkwX9_setup_0 : List UInt8 := [187, 0, 130, 89, 183, 0, 132, 76, 42, 180, 0, 56, 153, 0, 15, 42, 43, 182, 0, 133, 42, 182, 0, 136]
abbrev dktX9_setup_0 : List UInt8 := dkwX9_setup_0 ++ dktX9_setup_1
theorem dksX9_setup_0 : cX9_setup.data.toList.drop 0 = dktX9_setup_0 := by decide +kernel
theorem dksX9_setup_1 : cX9_setup.data.toList.drop 24 = dktX9_setup_1 := dk_seg dksX9_setup_0 24 rfl rfl
theorem dksX9_setup_2 : cX9_setup.data.toList.drop 48 = dktX9_setup_2 := dk_seg dksX9_setup_1 24 rfl rfl
theorem dX9_setup_0 : decode cX9_setup 0 = .ok (.new 130, 3) := dk_187 0 130 (dk_at dksX9_setup_0 0 rfl rfl)
theorem dX9_setup_3 : decode cX9_setup 3 = .ok (.dup, 1) := dk_89 (dk_at dksX9_setup_0 3 rfl rfl)
theorem dX9_setup_4 : decode cX9_setup 4 = .ok (.invokespecial 132, 3) := dk_183 0 132 (dk_at dksX9_setup_0 4 rfl rfl)
theorem dX9_setup_7 : decode cX9_setup 7 = .ok (.astore_n 1, 1) := dk_76 (dk_at dksX9_setup_0 7 rfl rfl)
theorem dX9_setup_8 : decode cX9_setup 8 = .ok (.aload_n 0, 1) := dk_42 (dk_at dksX9_setup_0 8 rfl rfl)
theorem dX9_setup_9 : decode cX9_setup 9 = .ok (.getfield 56, 3) := dk_180 0 56 (dk_at dksX9_setup_0 9 rfl rfl)
theorem dX9_setup_12 : decode cX9_setup 12 = .ok (.ifCond .eq 15, 3) := dk_153 0 15 (dk_at dksX9_setup_0 12 rfl rfl)
theorem dX9_setup_15 : decode cX9_setup 15 = .ok (.aload_n 0, 1) := dk_42 (dk_at dksX9_setup_0 15 rfl rfl)
theorem dX9_setup_16 : decode cX9_setup 16 = .ok (.aload_n 1, 1) := dk_43 (dk_at dksX9_setup_0 16 rfl rfl)
theorem dX9_setup_17 : decode cX9_setup 17 = .ok (.invokevirtual 133, 3) := dk_182 0 133 (dk_at dksX9_setup_0 17 rfl rfl)
theorem dX9_setup_20 : decode cX9_setup 20 = .ok (.aload_n 0, 1) := dk_42 (dk_at dksX9_setup_0 20 rfl rfl)
theorem dX9_setup_21 : decode cX9_setup 21 = .ok (.invokevirtual 136, 3) := dk_182 0 136 (dk_at dksX9_setup_0 21 rfl rfl)
theorem dX9_setup_24 : decode cX9_setup 24 = .ok (.goto (-16), 3) := dk_167 255 240 (dk_at dksX9_setup_1 0 rfl rfl)
theorem dX9_setup_27 : decode cX9_setup 27 = .ok (.aload_n 0, 1) := dk_42 (dk_at dksX9_setup_1 3 rfl rfl)
theorem dX9_setup_28 : decode cX9_setup 28 = .ok (.getfield 28, 3) := dk_180 0 28 (dk_at dksX9_setup_1 4 rfl rfl)
theorem dX9_setup_31 : decode cX9_setup 31 = .ok (.aload_n 1, 1) := dk_43 (dk_at dksX9_setup_1 7 rfl rfl)
theorem dX9_setup_32 : decode cX9_setup 32 = .ok (.invokevirtual 139, 3) := dk_182 0 139 (dk_at dksX9_setup_1 8 rfl rfl)
theorem dX9_setup_35 : decode cX9_setup 35 = .ok (.astore_n 2, 1) := dk_77 (dk_at dksX9_setup_1 11 rfl rfl)
theorem dX9_setup_36 : decode cX9_setup 36 = .ok (.aload_n 0, 1) := dk_42 (dk_at dksX9_setup_1 12 rfl rfl)
theorem dX9_setup_37 : decode cX9_setup 37 = .ok (.getfield 3, 3) := dk_180 0 3 (dk_at dksX9_setup_1 13 rfl rfl)
theorem dX9_setup_40 : decode cX9_setup 40 = .ok (.iconst 0, 1) := dk_3 (dk_at dksX9_setup_1 16 rfl rfl)
theorem dX9_setup_41 : decode cX9_setup 41 = .ok (.putfield 15, 3) := dk_181 0 15 (dk_at dksX9_setup_1 17 rfl rfl)
theorem dX9_setup_44 : decode cX9_setup 44 = .ok (.aload_n 2, 1) := dk_44 (dk_at dksX9_setup_1 20 rfl rfl)
theorem dX9_setup_45 : decode cX9_setup 45 = .ok (.areturn, 1) := dk_176 (dk_at dksX9_setup_1 21 rfl rfl)
theorem dX9_setup_46 : decode cX9_setup 46 = .ok (.astore_n 3, 1) := dk_78 (dk_at dksX9_setup_1 22 rfl rfl)
theorem dX9_setup_47 : decode cX9_setup 47 = .ok (.aload_n 0, 1) := dk_42 (dk_at dksX9_setup_1 23 rfl rfl)
theorem dX9_setup_48 : decode cX9_setup 48 = .ok (.getfield 3, 3) := dk_180 0 3 (dk_at dksX9_setup_2 0 rfl rfl)
theorem dX9_setup_51 : decode cX9_setup 51 = .ok (.iconst 0, 1) := dk_3 (dk_at dksX9_setup_2 3 rfl rfl)
theorem dX9_setup_52 : decode cX9_setup 52 = .ok (.putfield 15, 3) := dk_181 0 15 (dk_at dksX9_setup_2 4 rfl rfl)
theorem dX9_setup_55 : decode cX9_setup 55 = .ok (.aload_n 3, 1) := dk_45 (dk_at dksX9_setup_2 7 rfl rfl)
theorem dX9_setup_56 : decode cX9_setup 56 = .ok (.athrow, 1) := dk_191 (dk_at dksX9_setup_2 8 rfl rfl)
abbrev cX9_list : ByteArray := prog_11_method_14_code
def yX9_list : MethodName := ⟨RX9, "list", "(Ljava/util/List;)V"⟩
def dkwX9_list_4 : List UInt8 := [167, 255, 182, 177]
abbrev dktX9_list_4 : List UInt8 := dkwX9_list_4 ++ []
def dkwX9_list_3 : List UInt8 := [4, 167, 0, 4, 3, 6, 182, 0, 91, 43, 42, 182, 0, 119, 184, 0, 121, 185, 0, 127, 2, 0, 87]
abbrev dktX9_list_3 : List UInt8 := dkwX9_list_3 ++ dktX9_list_4
def dkwX9_list_2 : List UInt8 := [153, 0, 7, 4, 167, 0, 4, 3, 5, 182, 0, 91, 42, 43, 185, 0, 113, 1, 0, 16, 64, 162, 0, 7]
abbrev dktX9_list_2 : List UInt8 := dkwX9_list_2 ++ dktX9_list_3
def dkwX9_list_1 : List UInt8 := [153, 0, 73, 42, 42, 180, 0, 56, 5, 160, 0, 17, 42, 180, 0, 53, 3, 17, 3, 231, 184, 0, 43]
abbrev dktX9_list_1 : List UInt8 := dkwX9_list_1 ++ dktX9_list_2
def dkwX9_list_0 : List UInt8 := [42, 42, 180, 0, 24, 18, 107, 182, 0, 97, 4, 182, 0, 91, 42, 182, 0, 32, 42, 182, 0, 109]
abbrev dktX9_list_0 : List UInt8 := dkwX9_list_0 ++ dktX9_list_1
theorem dksX9_list_0 : cX9_list.data.toList.drop 0 = dktX9_list_0 := by decide +kernel
theorem dksX9_list_1 : cX9_list.data.toList.drop 22 = dktX9_list_1 := dk_seg dksX9_list_0 22 rfl rfl
theorem dksX9_list_2 : cX9_list.data.toList.drop 45 = dktX9_list_2 := dk_seg dksX9_list_1 23 rfl rfl
theorem dksX9_list_3 : cX9_list.data.toList.drop 69 = dktX9_list_3 := dk_seg dksX9_list_2 24 rfl rfl
theorem dksX9_list_4 : cX9_list.data.toList.drop 92 = dktX9_list_4 := dk_seg dksX9_list_3 23 rfl rfl
theorem dX9_list_0 : decode cX9_list 0 = .ok (.aload_n 0, 1) := dk_42 (dk_at dksX9_list_0 0 rfl rfl)
theorem dX9_list_1 : decode cX9_list 1 = .ok (.aload_n 0, 1) := dk_42 (dk_at dksX9_list_0 1 rfl rfl)
theorem dX9_list_2 : decode cX9_list 2 = .ok (.getfield 24, 3) := dk_180 0 24 (dk_at dksX9_list_0 2 rfl rfl)
theorem dX9_list_5 : decode cX9_list 5 = .ok (.ldc 107, 2) := dk_18 107 (dk_at dksX9_list_0 5 rfl rfl)
theorem dX9_list_7 : decode cX9_list 7 = .ok (.invokevirtual 97, 3) := dk_182 0 97 (dk_at dksX9_list_0 7 rfl rfl)
theorem dX9_list_10 : decode cX9_list 10 = .ok (.iconst 1, 1) := dk_4 (dk_at dksX9_list_0 10 rfl rfl)
theorem dX9_list_11 : decode cX9_list 11 = .ok (.invokevirtual 91, 3) := dk_182 0 91 (dk_at dksX9_list_0 11 rfl rfl)
theorem dX9_list_14 : decode cX9_list 14 = .ok (.aload_n 0, 1) := dk_42 (dk_at dksX9_list_0 14 rfl rfl)
theorem dX9_list_15 : decode cX9_list 15 = .ok (.invokevirtual 32, 3) := dk_182 0 32 (dk_at dksX9_list_0 15 rfl rfl)
theorem dX9_list_18 : decode cX9_list 18 = .ok (.aload_n 0, 1) := dk_42 (dk_at dksX9_list_0 18 rfl rfl)
theorem dX9_list_19 : decode cX9_list 19 = .ok (.invokevirtual 109, 3) := dk_182 0 109 (dk_at dksX9_list_0 19 rfl rfl)
theorem dX9_list_22 : decode cX9_list 22 = .ok (.ifCond .eq 73, 3) := dk_153 0 73 (dk_at dksX9_list_1 0 rfl rfl)
theorem dX9_list_25 : decode cX9_list 25 = .ok (.aload_n 0, 1) := dk_42 (dk_at dksX9_list_1 3 rfl rfl)
theorem dX9_list_26 : decode cX9_list 26 = .ok (.aload_n 0, 1) := dk_42 (dk_at dksX9_list_1 4 rfl rfl)
theorem dX9_list_27 : decode cX9_list 27 = .ok (.getfield 56, 3) := dk_180 0 56 (dk_at dksX9_list_1 5 rfl rfl)
theorem dX9_list_30 : decode cX9_list 30 = .ok (.iconst 2, 1) := dk_5 (dk_at dksX9_list_1 8 rfl rfl)
theorem dX9_list_31 : decode cX9_list 31 = .ok (.if_icmp .ne 17, 3) := dk_160 0 17 (dk_at dksX9_list_1 9 rfl rfl)
theorem dX9_list_34 : decode cX9_list 34 = .ok (.aload_n 0, 1) := dk_42 (dk_at dksX9_list_1 12 rfl rfl)
theorem dX9_list_35 : decode cX9_list 35 = .ok (.getfield 53, 3) := dk_180 0 53 (dk_at dksX9_list_1 13 rfl rfl)
theorem dX9_list_38 : decode cX9_list 38 = .ok (.iconst 0, 1) := dk_3 (dk_at dksX9_list_1 16 rfl rfl)
theorem dX9_list_39 : decode cX9_list 39 = .ok (.sipush 999, 3) := dk_17 3 231 (dk_at dksX9_list_1 17 rfl rfl)
theorem dX9_list_42 : decode cX9_list 42 = .ok (.invokestatic 43, 3) := dk_184 0 43 (dk_at dksX9_list_1 20 rfl rfl)
theorem dX9_list_45 : decode cX9_list 45 = .ok (.ifCond .eq 7, 3) := dk_153 0 7 (dk_at dksX9_list_2 0 rfl rfl)
theorem dX9_list_48 : decode cX9_list 48 = .ok (.iconst 1, 1) := dk_4 (dk_at dksX9_list_2 3 rfl rfl)
theorem dX9_list_49 : decode cX9_list 49 = .ok (.goto 4, 3) := dk_167 0 4 (dk_at dksX9_list_2 4 rfl rfl)
theorem dX9_list_52 : decode cX9_list 52 = .ok (.iconst 0, 1) := dk_3 (dk_at dksX9_list_2 7 rfl rfl)
theorem dX9_list_53 : decode cX9_list 53 = .ok (.iconst 2, 1) := dk_5 (dk_at dksX9_list_2 8 rfl rfl)
theorem dX9_list_54 : decode cX9_list 54 = .ok (.invokevirtual 91, 3) := dk_182 0 91 (dk_at dksX9_list_2 9 rfl rfl)
theorem dX9_list_57 : decode cX9_list 57 = .ok (.aload_n 0, 1) := dk_42 (dk_at dksX9_list_2 12 rfl rfl)
theorem dX9_list_58 : decode cX9_list 58 = .ok (.aload_n 1, 1) := dk_43 (dk_at dksX9_list_2 13 rfl rfl)
theorem dX9_list_59 : decode cX9_list 59 = .ok (.invokeinterface 113 1, 5) := by decide +kernel
theorem dX9_list_64 : decode cX9_list 64 = .ok (.bipush 64, 2) := dk_16 64 (dk_at dksX9_list_2 19 rfl rfl)
theorem dX9_list_66 : decode cX9_list 66 = .ok (.if_icmp .ge 7, 3) := dk_162 0 7 (dk_at dksX9_list_2 21 rfl rfl)
theorem dX9_list_69 : decode cX9_list 69 = .ok (.iconst 1, 1) := dk_4 (dk_at dksX9_list_3 0 rfl rfl)
theorem dX9_list_70 : decode cX9_list 70 = .ok (.goto 4, 3) := dk_167 0 4 (dk_at dksX9_list_3 1 rfl rfl)
theorem dX9_list_73 : decode cX9_list 73 = .ok (.iconst 0, 1) := dk_3 (dk_at dksX9_list_3 4 rfl rfl)
theorem dX9_list_74 : decode cX9_list 74 = .ok (.iconst 3, 1) := dk_6 (dk_at dksX9_list_3 5 rfl rfl)
theorem dX9_list_75 : decode cX9_list 75 = .ok (.invokevirtual 91, 3) := dk_182 0 91 (dk_at dksX9_list_3 6 rfl rfl)
theorem dX9_list_78 : decode cX9_list 78 = .ok (.aload_n 1, 1) := dk_43 (dk_at dksX9_list_3 9 rfl rfl)
theorem dX9_list_79 : decode cX9_list 79 = .ok (.aload_n 0, 1) := dk_42 (dk_at dksX9_list_3 10 rfl rfl)
theorem dX9_list_80 : decode cX9_list 80 = .ok (.invokevirtual 119, 3) := dk_182 0 119 (dk_at dksX9_list_3 11 rfl rfl)
theorem dX9_list_83 : decode cX9_list 83 = .ok (.invokestatic 121, 3) := dk_184 0 121 (dk_at dksX9_list_3 14 rfl rfl)
theorem dX9_list_86 : decode cX9_list 86 = .ok (.invokeinterface 127 2, 5) := by decide +kernel
theorem dX9_list_91 : decode cX9_list 91 = .ok (.pop, 1) := dk_87 (dk_at dksX9_list_3 22 rfl rfl)
theorem dX9_list_92 : decode cX9_list 92 = .ok (.goto (-74), 3) := dk_167 255 182 (dk_at dksX9_list_4 0 rfl rfl)
theorem dX9_list_95 : decode cX9_list 95 = .ok (.return_, 1) := dk_177 (dk_at dksX9_list_4 3 rfl rfl)
abbrev cX9_check : ByteArray := prog_11_method_9_code
def yX9_check : MethodName := ⟨RX9, "check", "(ZI)V"⟩
def dkwX9_check_0 : List UInt8 := [27, 154, 0, 16, 187, 0, 86, 89, 28, 42, 180, 0, 50, 183, 0, 88, 191, 177]
abbrev dktX9_check_0 : List UInt8 := dkwX9_check_0 ++ []
theorem dksX9_check_0 : cX9_check.data.toList.drop 0 = dktX9_check_0 := by decide +kernel
theorem dX9_check_0 : decode cX9_check 0 = .ok (.iload_n 1, 1) := dk_27 (dk_at dksX9_check_0 0 rfl rfl)
theorem dX9_check_1 : decode cX9_check 1 = .ok (.ifCond .ne 16, 3) := dk_154 0 16 (dk_at dksX9_check_0 1 rfl rfl)
theorem dX9_check_4 : decode cX9_check 4 = .ok (.new 86, 3) := dk_187 0 86 (dk_at dksX9_check_0 4 rfl rfl)
theorem dX9_check_7 : decode cX9_check 7 = .ok (.dup, 1) := dk_89 (dk_at dksX9_check_0 7 rfl rfl)
theorem dX9_check_8 : decode cX9_check 8 = .ok (.iload_n 2, 1) := dk_28 (dk_at dksX9_check_0 8 rfl rfl)
theorem dX9_check_9 : decode cX9_check 9 = .ok (.aload_n 0, 1) := dk_42 (dk_at dksX9_check_0 9 rfl rfl)
theorem dX9_check_10 : decode cX9_check 10 = .ok (.getfield 50, 3) := dk_180 0 50 (dk_at dksX9_check_0 10 rfl rfl)
theorem dX9_check_13 : decode cX9_check 13 = .ok (.invokespecial 88, 3) := dk_183 0 88 (dk_at dksX9_check_0 13 rfl rfl)
theorem dX9_check_16 : decode cX9_check 16 = .ok (.athrow, 1) := dk_191 (dk_at dksX9_check_0 16 rfl rfl)
theorem dX9_check_17 : decode cX9_check 17 = .ok (.return_, 1) := dk_177 (dk_at dksX9_check_0 17 rfl rfl)
abbrev cX9_startsValue : ByteArray := prog_11_method_13_code
def yX9_startsValue : MethodName := ⟨RX9, "startsValue", "()Z"⟩
def dkwX9_startsValue_1 : List UInt8 := [3, 172]
abbrev dktX9_startsValue_1 : List UInt8 := dkwX9_startsValue_1 ++ []
def dkwX9_startsValue_0 : List UInt8 := [42, 180, 0, 56, 5, 159, 0, 15, 42, 180, 0, 24, 18, 95, 182, 0, 97, 153, 0, 7, 4, 167, 0, 4]
abbrev dktX9_startsValue_0 : List UInt8 := dkwX9_startsValue_0 ++ dktX9_startsValue_1
theorem dksX9_startsValue_0 : cX9_startsValue.data.toList.drop 0 = dktX9_startsValue_0 := by decide +kernel
theorem dksX9_startsValue_1 : cX9_startsValue.data.toList.drop 24 = dktX9_startsValue_1 := dk_seg dksX9_startsValue_0 24 rfl rfl
theorem dX9_startsValue_0 : decode cX9_startsValue 0 = .ok (.aload_n 0, 1) := dk_42 (dk_at dksX9_startsValue_0 0 rfl rfl)
theorem dX9_startsValue_1 : decode cX9_startsValue 1 = .ok (.getfield 56, 3) := dk_180 0 56 (dk_at dksX9_startsValue_0 1 rfl rfl)
theorem dX9_startsValue_4 : decode cX9_startsValue 4 = .ok (.iconst 2, 1) := dk_5 (dk_at dksX9_startsValue_0 4 rfl rfl)
theorem dX9_startsValue_5 : decode cX9_startsValue 5 = .ok (.if_icmp .eq 15, 3) := dk_159 0 15 (dk_at dksX9_startsValue_0 5 rfl rfl)
theorem dX9_startsValue_8 : decode cX9_startsValue 8 = .ok (.aload_n 0, 1) := dk_42 (dk_at dksX9_startsValue_0 8 rfl rfl)
theorem dX9_startsValue_9 : decode cX9_startsValue 9 = .ok (.getfield 24, 3) := dk_180 0 24 (dk_at dksX9_startsValue_0 9 rfl rfl)
theorem dX9_startsValue_12 : decode cX9_startsValue 12 = .ok (.ldc 95, 2) := dk_18 95 (dk_at dksX9_startsValue_0 12 rfl rfl)
theorem dX9_startsValue_14 : decode cX9_startsValue 14 = .ok (.invokevirtual 97, 3) := dk_182 0 97 (dk_at dksX9_startsValue_0 14 rfl rfl)
theorem dX9_startsValue_17 : decode cX9_startsValue 17 = .ok (.ifCond .eq 7, 3) := dk_153 0 7 (dk_at dksX9_startsValue_0 17 rfl rfl)
theorem dX9_startsValue_20 : decode cX9_startsValue 20 = .ok (.iconst 1, 1) := dk_4 (dk_at dksX9_startsValue_0 20 rfl rfl)
theorem dX9_startsValue_21 : decode cX9_startsValue 21 = .ok (.goto 4, 3) := dk_167 0 4 (dk_at dksX9_startsValue_0 21 rfl rfl)
theorem dX9_startsValue_24 : decode cX9_startsValue 24 = .ok (.iconst 0, 1) := dk_3 (dk_at dksX9_startsValue_1 0 rfl rfl)
theorem dX9_startsValue_25 : decode cX9_startsValue 25 = .ok (.ireturn, 1) := dk_172 (dk_at dksX9_startsValue_1 1 rfl rfl)
abbrev cX9_value : ByteArray := prog_11_method_12_code
def yX9_value : MethodName := ⟨RX9, "value", "()I"⟩
def dkwX9_value_1 : List UInt8 := [182, 0, 103, 61, 27, 153, 0, 8, 28, 116, 167, 0, 4, 28, 172]
abbrev dktX9_value_1 : List UInt8 := dkwX9_value_1 ++ []
def dkwX9_value_0 : List UInt8 := [42, 180, 0, 24, 18, 95, 182, 0, 97, 60, 27, 153, 0, 7, 42, 182, 0, 32, 42, 3, 17, 3, 231]
abbrev dktX9_value_0 : List UInt8 := dkwX9_value_0 ++ dktX9_value_1
theorem dksX9_value_0 : cX9_value.data.toList.drop 0 = dktX9_value_0 := by decide +kernel
theorem dksX9_value_1 : cX9_value.data.toList.drop 23 = dktX9_value_1 := dk_seg dksX9_value_0 23 rfl rfl
theorem dX9_value_0 : decode cX9_value 0 = .ok (.aload_n 0, 1) := dk_42 (dk_at dksX9_value_0 0 rfl rfl)
theorem dX9_value_1 : decode cX9_value 1 = .ok (.getfield 24, 3) := dk_180 0 24 (dk_at dksX9_value_0 1 rfl rfl)
theorem dX9_value_4 : decode cX9_value 4 = .ok (.ldc 95, 2) := dk_18 95 (dk_at dksX9_value_0 4 rfl rfl)
theorem dX9_value_6 : decode cX9_value 6 = .ok (.invokevirtual 97, 3) := dk_182 0 97 (dk_at dksX9_value_0 6 rfl rfl)
theorem dX9_value_9 : decode cX9_value 9 = .ok (.istore_n 1, 1) := dk_60 (dk_at dksX9_value_0 9 rfl rfl)
theorem dX9_value_10 : decode cX9_value 10 = .ok (.iload_n 1, 1) := dk_27 (dk_at dksX9_value_0 10 rfl rfl)
theorem dX9_value_11 : decode cX9_value 11 = .ok (.ifCond .eq 7, 3) := dk_153 0 7 (dk_at dksX9_value_0 11 rfl rfl)
theorem dX9_value_14 : decode cX9_value 14 = .ok (.aload_n 0, 1) := dk_42 (dk_at dksX9_value_0 14 rfl rfl)
theorem dX9_value_15 : decode cX9_value 15 = .ok (.invokevirtual 32, 3) := dk_182 0 32 (dk_at dksX9_value_0 15 rfl rfl)
theorem dX9_value_18 : decode cX9_value 18 = .ok (.aload_n 0, 1) := dk_42 (dk_at dksX9_value_0 18 rfl rfl)
theorem dX9_value_19 : decode cX9_value 19 = .ok (.iconst 0, 1) := dk_3 (dk_at dksX9_value_0 19 rfl rfl)
theorem dX9_value_20 : decode cX9_value 20 = .ok (.sipush 999, 3) := dk_17 3 231 (dk_at dksX9_value_0 20 rfl rfl)
theorem dX9_value_23 : decode cX9_value 23 = .ok (.invokevirtual 103, 3) := dk_182 0 103 (dk_at dksX9_value_1 0 rfl rfl)
theorem dX9_value_26 : decode cX9_value 26 = .ok (.istore_n 2, 1) := dk_61 (dk_at dksX9_value_1 3 rfl rfl)
theorem dX9_value_27 : decode cX9_value 27 = .ok (.iload_n 1, 1) := dk_27 (dk_at dksX9_value_1 4 rfl rfl)
theorem dX9_value_28 : decode cX9_value 28 = .ok (.ifCond .eq 8, 3) := dk_153 0 8 (dk_at dksX9_value_1 5 rfl rfl)
theorem dX9_value_31 : decode cX9_value 31 = .ok (.iload_n 2, 1) := dk_28 (dk_at dksX9_value_1 8 rfl rfl)
theorem dX9_value_32 : decode cX9_value 32 = .ok (.ineg, 1) := dk_116 (dk_at dksX9_value_1 9 rfl rfl)
theorem dX9_value_33 : decode cX9_value 33 = .ok (.goto 4, 3) := dk_167 0 4 (dk_at dksX9_value_1 10 rfl rfl)
theorem dX9_value_36 : decode cX9_value 36 = .ok (.iload_n 2, 1) := dk_28 (dk_at dksX9_value_1 13 rfl rfl)
theorem dX9_value_37 : decode cX9_value 37 = .ok (.ireturn, 1) := dk_172 (dk_at dksX9_value_1 14 rfl rfl)
abbrev cX9_number : ByteArray := prog_11_method_10_code
def yX9_number : MethodName := ⟨RX9, "number", "(II)I"⟩
def dkwX9_number_1 : List UInt8 := [28, 184, 0, 43, 5, 182, 0, 91, 42, 180, 0, 53, 62, 42, 182, 0, 32, 29, 172]
abbrev dktX9_number_1 : List UInt8 := dkwX9_number_1 ++ []
def dkwX9_number_0 : List UInt8 := [42, 42, 180, 0, 56, 5, 160, 0, 7, 4, 167, 0, 4, 3, 4, 182, 0, 91, 42, 42, 180, 0, 53, 27]
abbrev dktX9_number_0 : List UInt8 := dkwX9_number_0 ++ dktX9_number_1
theorem dksX9_number_0 : cX9_number.data.toList.drop 0 = dktX9_number_0 := by decide +kernel
theorem dksX9_number_1 : cX9_number.data.toList.drop 24 = dktX9_number_1 := dk_seg dksX9_number_0 24 rfl rfl
theorem dX9_number_0 : decode cX9_number 0 = .ok (.aload_n 0, 1) := dk_42 (dk_at dksX9_number_0 0 rfl rfl)
theorem dX9_number_1 : decode cX9_number 1 = .ok (.aload_n 0, 1) := dk_42 (dk_at dksX9_number_0 1 rfl rfl)
theorem dX9_number_2 : decode cX9_number 2 = .ok (.getfield 56, 3) := dk_180 0 56 (dk_at dksX9_number_0 2 rfl rfl)
theorem dX9_number_5 : decode cX9_number 5 = .ok (.iconst 2, 1) := dk_5 (dk_at dksX9_number_0 5 rfl rfl)
theorem dX9_number_6 : decode cX9_number 6 = .ok (.if_icmp .ne 7, 3) := dk_160 0 7 (dk_at dksX9_number_0 6 rfl rfl)
theorem dX9_number_9 : decode cX9_number 9 = .ok (.iconst 1, 1) := dk_4 (dk_at dksX9_number_0 9 rfl rfl)
theorem dX9_number_10 : decode cX9_number 10 = .ok (.goto 4, 3) := dk_167 0 4 (dk_at dksX9_number_0 10 rfl rfl)
theorem dX9_number_13 : decode cX9_number 13 = .ok (.iconst 0, 1) := dk_3 (dk_at dksX9_number_0 13 rfl rfl)
theorem dX9_number_14 : decode cX9_number 14 = .ok (.iconst 1, 1) := dk_4 (dk_at dksX9_number_0 14 rfl rfl)
theorem dX9_number_15 : decode cX9_number 15 = .ok (.invokevirtual 91, 3) := dk_182 0 91 (dk_at dksX9_number_0 15 rfl rfl)
theorem dX9_number_18 : decode cX9_number 18 = .ok (.aload_n 0, 1) := dk_42 (dk_at dksX9_number_0 18 rfl rfl)
theorem dX9_number_19 : decode cX9_number 19 = .ok (.aload_n 0, 1) := dk_42 (dk_at dksX9_number_0 19 rfl rfl)
theorem dX9_number_20 : decode cX9_number 20 = .ok (.getfield 53, 3) := dk_180 0 53 (dk_at dksX9_number_0 20 rfl rfl)
theorem dX9_number_23 : decode cX9_number 23 = .ok (.iload_n 1, 1) := dk_27 (dk_at dksX9_number_0 23 rfl rfl)
theorem dX9_number_24 : decode cX9_number 24 = .ok (.iload_n 2, 1) := dk_28 (dk_at dksX9_number_1 0 rfl rfl)
theorem dX9_number_25 : decode cX9_number 25 = .ok (.invokestatic 43, 3) := dk_184 0 43 (dk_at dksX9_number_1 1 rfl rfl)
theorem dX9_number_28 : decode cX9_number 28 = .ok (.iconst 2, 1) := dk_5 (dk_at dksX9_number_1 4 rfl rfl)
theorem dX9_number_29 : decode cX9_number 29 = .ok (.invokevirtual 91, 3) := dk_182 0 91 (dk_at dksX9_number_1 5 rfl rfl)
theorem dX9_number_32 : decode cX9_number 32 = .ok (.aload_n 0, 1) := dk_42 (dk_at dksX9_number_1 8 rfl rfl)
theorem dX9_number_33 : decode cX9_number 33 = .ok (.getfield 53, 3) := dk_180 0 53 (dk_at dksX9_number_1 9 rfl rfl)
theorem dX9_number_36 : decode cX9_number 36 = .ok (.istore_n 3, 1) := dk_62 (dk_at dksX9_number_1 12 rfl rfl)
theorem dX9_number_37 : decode cX9_number 37 = .ok (.aload_n 0, 1) := dk_42 (dk_at dksX9_number_1 13 rfl rfl)
theorem dX9_number_38 : decode cX9_number 38 = .ok (.invokevirtual 32, 3) := dk_182 0 32 (dk_at dksX9_number_1 14 rfl rfl)
theorem dX9_number_41 : decode cX9_number 41 = .ok (.iload_n 3, 1) := dk_29 (dk_at dksX9_number_1 17 rfl rfl)
theorem dX9_number_42 : decode cX9_number 42 = .ok (.ireturn, 1) := dk_172 (dk_at dksX9_number_1 18 rfl rfl)
abbrev cX9_semicolon : ByteArray := prog_11_method_11_code
def yX9_semicolon : MethodName := ⟨RX9, "semicolon", "()V"⟩
def dkwX9_semicolon_0 : List UInt8 := [42, 42, 180, 0, 56, 6, 160, 0, 7, 4, 167, 0, 4, 3, 4, 182, 0, 91, 42, 182, 0, 32, 177]
abbrev dktX9_semicolon_0 : List UInt8 := dkwX9_semicolon_0 ++ []
theorem dksX9_semicolon_0 : cX9_semicolon.data.toList.drop 0 = dktX9_semicolon_0 := by decide +kernel
theorem dX9_semicolon_0 : decode cX9_semicolon 0 = .ok (.aload_n 0, 1) := dk_42 (dk_at dksX9_semicolon_0 0 rfl rfl)
theorem dX9_semicolon_1 : decode cX9_semicolon 1 = .ok (.aload_n 0, 1) := dk_42 (dk_at dksX9_semicolon_0 1 rfl rfl)
theorem dX9_semicolon_2 : decode cX9_semicolon 2 = .ok (.getfield 56, 3) := dk_180 0 56 (dk_at dksX9_semicolon_0 2 rfl rfl)
theorem dX9_semicolon_5 : decode cX9_semicolon 5 = .ok (.iconst 3, 1) := dk_6 (dk_at dksX9_semicolon_0 5 rfl rfl)
theorem dX9_semicolon_6 : decode cX9_semicolon 6 = .ok (.if_icmp .ne 7, 3) := dk_160 0 7 (dk_at dksX9_semicolon_0 6 rfl rfl)
theorem dX9_semicolon_9 : decode cX9_semicolon 9 = .ok (.iconst 1, 1) := dk_4 (dk_at dksX9_semicolon_0 9 rfl rfl)
theorem dX9_semicolon_10 : decode cX9_semicolon 10 = .ok (.goto 4, 3) := dk_167 0 4 (dk_at dksX9_semicolon_0 10 rfl rfl)
theorem dX9_semicolon_13 : decode cX9_semicolon 13 = .ok (.iconst 0, 1) := dk_3 (dk_at dksX9_semicolon_0 13 rfl rfl)
theorem dX9_semicolon_14 : decode cX9_semicolon 14 = .ok (.iconst 1, 1) := dk_4 (dk_at dksX9_semicolon_0 14 rfl rfl)
theorem dX9_semicolon_15 : decode cX9_semicolon 15 = .ok (.invokevirtual 91, 3) := dk_182 0 91 (dk_at dksX9_semicolon_0 15 rfl rfl)
theorem dX9_semicolon_18 : decode cX9_semicolon 18 = .ok (.aload_n 0, 1) := dk_42 (dk_at dksX9_semicolon_0 18 rfl rfl)
theorem dX9_semicolon_19 : decode cX9_semicolon 19 = .ok (.invokevirtual 32, 3) := dk_182 0 32 (dk_at dksX9_semicolon_0 19 rfl rfl)
theorem dX9_semicolon_22 : decode cX9_semicolon 22 = .ok (.return_, 1) := dk_177 (dk_at dksX9_semicolon_0 22 rfl rfl)
abbrev cX9_script : ByteArray := prog_11_method_22_code
def yX9_script : MethodName := ⟨RX9, "script", "()Ljava/util/List;"⟩
def dkwX9_script_2 : List UInt8 := [181, 0, 15, 44, 176, 78, 42, 180, 0, 3, 3, 181, 0, 15, 45, 191]
abbrev dktX9_script_2 : List UInt8 := dkwX9_script_2 ++ []
def dkwX9_script_1 : List UInt8 := [182, 0, 187, 185, 0, 127, 2, 0, 87, 42, 182, 0, 136, 167, 255, 228, 43, 77, 42, 180, 0, 3, 3]
abbrev dktX9_script_1 : List UInt8 := dkwX9_script_1 ++ dktX9_script_2
def dkwX9_script_0 : List UInt8 := [187, 0, 130, 89, 183, 0, 132, 76, 42, 180, 0, 56, 153, 0, 27, 43, 42, 43, 185, 0, 113, 1, 0]
abbrev dktX9_script_0 : List UInt8 := dkwX9_script_0 ++ dktX9_script_1
theorem dksX9_script_0 : cX9_script.data.toList.drop 0 = dktX9_script_0 := by decide +kernel
theorem dksX9_script_1 : cX9_script.data.toList.drop 23 = dktX9_script_1 := dk_seg dksX9_script_0 23 rfl rfl
theorem dksX9_script_2 : cX9_script.data.toList.drop 46 = dktX9_script_2 := dk_seg dksX9_script_1 23 rfl rfl
theorem dX9_script_0 : decode cX9_script 0 = .ok (.new 130, 3) := dk_187 0 130 (dk_at dksX9_script_0 0 rfl rfl)
theorem dX9_script_3 : decode cX9_script 3 = .ok (.dup, 1) := dk_89 (dk_at dksX9_script_0 3 rfl rfl)
theorem dX9_script_4 : decode cX9_script 4 = .ok (.invokespecial 132, 3) := dk_183 0 132 (dk_at dksX9_script_0 4 rfl rfl)
theorem dX9_script_7 : decode cX9_script 7 = .ok (.astore_n 1, 1) := dk_76 (dk_at dksX9_script_0 7 rfl rfl)
theorem dX9_script_8 : decode cX9_script 8 = .ok (.aload_n 0, 1) := dk_42 (dk_at dksX9_script_0 8 rfl rfl)
theorem dX9_script_9 : decode cX9_script 9 = .ok (.getfield 56, 3) := dk_180 0 56 (dk_at dksX9_script_0 9 rfl rfl)
theorem dX9_script_12 : decode cX9_script 12 = .ok (.ifCond .eq 27, 3) := dk_153 0 27 (dk_at dksX9_script_0 12 rfl rfl)
theorem dX9_script_15 : decode cX9_script 15 = .ok (.aload_n 1, 1) := dk_43 (dk_at dksX9_script_0 15 rfl rfl)
theorem dX9_script_16 : decode cX9_script 16 = .ok (.aload_n 0, 1) := dk_42 (dk_at dksX9_script_0 16 rfl rfl)
theorem dX9_script_17 : decode cX9_script 17 = .ok (.aload_n 1, 1) := dk_43 (dk_at dksX9_script_0 17 rfl rfl)
theorem dX9_script_18 : decode cX9_script 18 = .ok (.invokeinterface 113 1, 5) := by decide +kernel
theorem dX9_script_23 : decode cX9_script 23 = .ok (.invokevirtual 187, 3) := dk_182 0 187 (dk_at dksX9_script_1 0 rfl rfl)
theorem dX9_script_26 : decode cX9_script 26 = .ok (.invokeinterface 127 2, 5) := by decide +kernel
theorem dX9_script_31 : decode cX9_script 31 = .ok (.pop, 1) := dk_87 (dk_at dksX9_script_1 8 rfl rfl)
theorem dX9_script_32 : decode cX9_script 32 = .ok (.aload_n 0, 1) := dk_42 (dk_at dksX9_script_1 9 rfl rfl)
theorem dX9_script_33 : decode cX9_script 33 = .ok (.invokevirtual 136, 3) := dk_182 0 136 (dk_at dksX9_script_1 10 rfl rfl)
theorem dX9_script_36 : decode cX9_script 36 = .ok (.goto (-28), 3) := dk_167 255 228 (dk_at dksX9_script_1 13 rfl rfl)
theorem dX9_script_39 : decode cX9_script 39 = .ok (.aload_n 1, 1) := dk_43 (dk_at dksX9_script_1 16 rfl rfl)
theorem dX9_script_40 : decode cX9_script 40 = .ok (.astore_n 2, 1) := dk_77 (dk_at dksX9_script_1 17 rfl rfl)
theorem dX9_script_41 : decode cX9_script 41 = .ok (.aload_n 0, 1) := dk_42 (dk_at dksX9_script_1 18 rfl rfl)
theorem dX9_script_42 : decode cX9_script 42 = .ok (.getfield 3, 3) := dk_180 0 3 (dk_at dksX9_script_1 19 rfl rfl)
theorem dX9_script_45 : decode cX9_script 45 = .ok (.iconst 0, 1) := dk_3 (dk_at dksX9_script_1 22 rfl rfl)
theorem dX9_script_46 : decode cX9_script 46 = .ok (.putfield 15, 3) := dk_181 0 15 (dk_at dksX9_script_2 0 rfl rfl)
theorem dX9_script_49 : decode cX9_script 49 = .ok (.aload_n 2, 1) := dk_44 (dk_at dksX9_script_2 3 rfl rfl)
theorem dX9_script_50 : decode cX9_script 50 = .ok (.areturn, 1) := dk_176 (dk_at dksX9_script_2 4 rfl rfl)
theorem dX9_script_51 : decode cX9_script 51 = .ok (.astore_n 3, 1) := dk_78 (dk_at dksX9_script_2 5 rfl rfl)
theorem dX9_script_52 : decode cX9_script 52 = .ok (.aload_n 0, 1) := dk_42 (dk_at dksX9_script_2 6 rfl rfl)
theorem dX9_script_53 : decode cX9_script 53 = .ok (.getfield 3, 3) := dk_180 0 3 (dk_at dksX9_script_2 7 rfl rfl)
theorem dX9_script_56 : decode cX9_script 56 = .ok (.iconst 0, 1) := dk_3 (dk_at dksX9_script_2 10 rfl rfl)
theorem dX9_script_57 : decode cX9_script 57 = .ok (.putfield 15, 3) := dk_181 0 15 (dk_at dksX9_script_2 11 rfl rfl)
theorem dX9_script_60 : decode cX9_script 60 = .ok (.aload_n 3, 1) := dk_45 (dk_at dksX9_script_2 14 rfl rfl)
theorem dX9_script_61 : decode cX9_script 61 = .ok (.athrow, 1) := dk_191 (dk_at dksX9_script_2 15 rfl rfl)
abbrev cX9_statement : ByteArray := prog_11_method_21_code
def yX9_statement : MethodName := ⟨RX9, "statement", "(I)LVectorVersions$Action;"⟩
def dkwX9_statement_8 : List UInt8 := [182, 0, 156, 184, 0, 180, 167, 0, 6, 184, 0, 184, 176]
abbrev dktX9_statement_8 : List UInt8 := dkwX9_statement_8 ++ []
def dkwX9_statement_7 : List UInt8 := [42, 182, 0, 173, 167, 0, 30, 42, 182, 0, 176, 167, 0, 23, 42, 182, 0, 178, 167, 0, 16, 42]
abbrev dktX9_statement_7 : List UInt8 := dkwX9_statement_7 ++ dktX9_statement_8
def dkwX9_statement_6 : List UInt8 := [170, 0, 0, 0, 60, 0, 0, 0, 0, 0, 0, 0, 3, 0, 0, 0, 29, 0, 0, 0, 36, 0, 0, 0, 43, 0, 0, 0, 50]
abbrev dktX9_statement_6 : List UInt8 := dkwX9_statement_6 ++ dktX9_statement_7
def dkwX9_statement_5 : List UInt8 := [182, 0, 97, 153, 0, 6, 6, 54, 4, 21, 4]
abbrev dktX9_statement_5 : List UInt8 := dkwX9_statement_5 ++ dktX9_statement_6
def dkwX9_statement_4 : List UInt8 := [4, 54, 4, 167, 0, 30, 45, 18, 150, 182, 0, 97, 153, 0, 21, 5, 54, 4, 167, 0, 15, 45, 18, 152]
abbrev dktX9_statement_4 : List UInt8 := dkwX9_statement_4 ++ dktX9_statement_5
def dkwX9_statement_3 : List UInt8 := [45, 18, 147, 182, 0, 97, 153, 0, 51, 3, 54, 4, 167, 0, 45, 45, 18, 149, 182, 0, 97, 153, 0, 36]
abbrev dktX9_statement_3 : List UInt8 := dkwX9_statement_3 ++ dktX9_statement_4
def dkwX9_statement_2 : List UInt8 := [171, 0, 0, 0, 98, 0, 0, 0, 4, 171, 228, 207, 26, 0, 0, 0, 56, 0, 1, 188, 98, 0, 0, 0, 41, 65, 1, 40, 7, 0, 0, 0, 86, 110, 114, 77, 102, 0, 0, 0, 71]
abbrev dktX9_statement_2 : List UInt8 := dkwX9_statement_2 ++ dktX9_statement_3
def dkwX9_statement_1 : List UInt8 := [167, 0, 4, 3, 6, 182, 0, 91, 42, 182, 0, 32, 44, 78, 2, 54, 4, 45, 182, 0, 144]
abbrev dktX9_statement_1 : List UInt8 := dkwX9_statement_1 ++ dktX9_statement_2
def dkwX9_statement_0 : List UInt8 := [42, 180, 0, 24, 77, 42, 42, 182, 0, 170, 4, 182, 0, 91, 42, 27, 16, 30, 162, 0, 7, 4]
abbrev dktX9_statement_0 : List UInt8 := dkwX9_statement_0 ++ dktX9_statement_1
theorem dksX9_statement_0 : cX9_statement.data.toList.drop 0 = dktX9_statement_0 := by decide +kernel
theorem dksX9_statement_1 : cX9_statement.data.toList.drop 22 = dktX9_statement_1 := dk_seg dksX9_statement_0 22 rfl rfl
theorem dksX9_statement_2 : cX9_statement.data.toList.drop 43 = dktX9_statement_2 := dk_seg dksX9_statement_1 21 rfl rfl
theorem dksX9_statement_3 : cX9_statement.data.toList.drop 84 = dktX9_statement_3 := dk_seg dksX9_statement_2 41 rfl rfl
theorem dksX9_statement_4 : cX9_statement.data.toList.drop 108 = dktX9_statement_4 := dk_seg dksX9_statement_3 24 rfl rfl
theorem dksX9_statement_5 : cX9_statement.data.toList.drop 132 = dktX9_statement_5 := dk_seg dksX9_statement_4 24 rfl rfl
theorem dksX9_statement_6 : cX9_statement.data.toList.drop 143 = dktX9_statement_6 := dk_seg dksX9_statement_5 11 rfl rfl
theorem dksX9_statement_7 : cX9_statement.data.toList.drop 172 = dktX9_statement_7 := dk_seg dksX9_statement_6 29 rfl rfl
theorem dksX9_statement_8 : cX9_statement.data.toList.drop 194 = dktX9_statement_8 := dk_seg dksX9_statement_7 22 rfl rfl
theorem dX9_statement_0 : decode cX9_statement 0 = .ok (.aload_n 0, 1) := dk_42 (dk_at dksX9_statement_0 0 rfl rfl)
theorem dX9_statement_1 : decode cX9_statement 1 = .ok (.getfield 24, 3) := dk_180 0 24 (dk_at dksX9_statement_0 1 rfl rfl)
theorem dX9_statement_4 : decode cX9_statement 4 = .ok (.astore_n 2, 1) := dk_77 (dk_at dksX9_statement_0 4 rfl rfl)
theorem dX9_statement_5 : decode cX9_statement 5 = .ok (.aload_n 0, 1) := dk_42 (dk_at dksX9_statement_0 5 rfl rfl)
theorem dX9_statement_6 : decode cX9_statement 6 = .ok (.aload_n 0, 1) := dk_42 (dk_at dksX9_statement_0 6 rfl rfl)
theorem dX9_statement_7 : decode cX9_statement 7 = .ok (.invokevirtual 170, 3) := dk_182 0 170 (dk_at dksX9_statement_0 7 rfl rfl)
theorem dX9_statement_10 : decode cX9_statement 10 = .ok (.iconst 1, 1) := dk_4 (dk_at dksX9_statement_0 10 rfl rfl)
theorem dX9_statement_11 : decode cX9_statement 11 = .ok (.invokevirtual 91, 3) := dk_182 0 91 (dk_at dksX9_statement_0 11 rfl rfl)
theorem dX9_statement_14 : decode cX9_statement 14 = .ok (.aload_n 0, 1) := dk_42 (dk_at dksX9_statement_0 14 rfl rfl)
theorem dX9_statement_15 : decode cX9_statement 15 = .ok (.iload_n 1, 1) := dk_27 (dk_at dksX9_statement_0 15 rfl rfl)
theorem dX9_statement_16 : decode cX9_statement 16 = .ok (.bipush 30, 2) := dk_16 30 (dk_at dksX9_statement_0 16 rfl rfl)
theorem dX9_statement_18 : decode cX9_statement 18 = .ok (.if_icmp .ge 7, 3) := dk_162 0 7 (dk_at dksX9_statement_0 18 rfl rfl)
theorem dX9_statement_21 : decode cX9_statement 21 = .ok (.iconst 1, 1) := dk_4 (dk_at dksX9_statement_0 21 rfl rfl)
theorem dX9_statement_22 : decode cX9_statement 22 = .ok (.goto 4, 3) := dk_167 0 4 (dk_at dksX9_statement_1 0 rfl rfl)
theorem dX9_statement_25 : decode cX9_statement 25 = .ok (.iconst 0, 1) := dk_3 (dk_at dksX9_statement_1 3 rfl rfl)
theorem dX9_statement_26 : decode cX9_statement 26 = .ok (.iconst 3, 1) := dk_6 (dk_at dksX9_statement_1 4 rfl rfl)
theorem dX9_statement_27 : decode cX9_statement 27 = .ok (.invokevirtual 91, 3) := dk_182 0 91 (dk_at dksX9_statement_1 5 rfl rfl)
theorem dX9_statement_30 : decode cX9_statement 30 = .ok (.aload_n 0, 1) := dk_42 (dk_at dksX9_statement_1 8 rfl rfl)
theorem dX9_statement_31 : decode cX9_statement 31 = .ok (.invokevirtual 32, 3) := dk_182 0 32 (dk_at dksX9_statement_1 9 rfl rfl)
theorem dX9_statement_34 : decode cX9_statement 34 = .ok (.aload_n 2, 1) := dk_44 (dk_at dksX9_statement_1 12 rfl rfl)
theorem dX9_statement_35 : decode cX9_statement 35 = .ok (.astore_n 3, 1) := dk_78 (dk_at dksX9_statement_1 13 rfl rfl)
theorem dX9_statement_36 : decode cX9_statement 36 = .ok (.iconst (-1), 1) := dk_2 (dk_at dksX9_statement_1 14 rfl rfl)
theorem dX9_statement_37 : decode cX9_statement 37 = .ok (.istore 4, 2) := dk_54 4 (dk_at dksX9_statement_1 15 rfl rfl)
theorem dX9_statement_39 : decode cX9_statement 39 = .ok (.aload_n 3, 1) := dk_45 (dk_at dksX9_statement_1 17 rfl rfl)
theorem dX9_statement_40 : decode cX9_statement 40 = .ok (.invokevirtual 144, 3) := dk_182 0 144 (dk_at dksX9_statement_1 18 rfl rfl)
theorem dX9_statement_43 : decode cX9_statement 43 = .ok (.lookupswitch 98 #[(-1411068134, 56), (113762, 41), (1090594823, 86), (1852984678, 71)], 41) := by decide +kernel
theorem dX9_statement_84 : decode cX9_statement 84 = .ok (.aload_n 3, 1) := dk_45 (dk_at dksX9_statement_3 0 rfl rfl)
theorem dX9_statement_85 : decode cX9_statement 85 = .ok (.ldc 147, 2) := dk_18 147 (dk_at dksX9_statement_3 1 rfl rfl)
theorem dX9_statement_87 : decode cX9_statement 87 = .ok (.invokevirtual 97, 3) := dk_182 0 97 (dk_at dksX9_statement_3 3 rfl rfl)
theorem dX9_statement_90 : decode cX9_statement 90 = .ok (.ifCond .eq 51, 3) := dk_153 0 51 (dk_at dksX9_statement_3 6 rfl rfl)
theorem dX9_statement_93 : decode cX9_statement 93 = .ok (.iconst 0, 1) := dk_3 (dk_at dksX9_statement_3 9 rfl rfl)
theorem dX9_statement_94 : decode cX9_statement 94 = .ok (.istore 4, 2) := dk_54 4 (dk_at dksX9_statement_3 10 rfl rfl)
theorem dX9_statement_96 : decode cX9_statement 96 = .ok (.goto 45, 3) := dk_167 0 45 (dk_at dksX9_statement_3 12 rfl rfl)
theorem dX9_statement_99 : decode cX9_statement 99 = .ok (.aload_n 3, 1) := dk_45 (dk_at dksX9_statement_3 15 rfl rfl)
theorem dX9_statement_100 : decode cX9_statement 100 = .ok (.ldc 149, 2) := dk_18 149 (dk_at dksX9_statement_3 16 rfl rfl)
theorem dX9_statement_102 : decode cX9_statement 102 = .ok (.invokevirtual 97, 3) := dk_182 0 97 (dk_at dksX9_statement_3 18 rfl rfl)
theorem dX9_statement_105 : decode cX9_statement 105 = .ok (.ifCond .eq 36, 3) := dk_153 0 36 (dk_at dksX9_statement_3 21 rfl rfl)
theorem dX9_statement_108 : decode cX9_statement 108 = .ok (.iconst 1, 1) := dk_4 (dk_at dksX9_statement_4 0 rfl rfl)
theorem dX9_statement_109 : decode cX9_statement 109 = .ok (.istore 4, 2) := dk_54 4 (dk_at dksX9_statement_4 1 rfl rfl)
theorem dX9_statement_111 : decode cX9_statement 111 = .ok (.goto 30, 3) := dk_167 0 30 (dk_at dksX9_statement_4 3 rfl rfl)
theorem dX9_statement_114 : decode cX9_statement 114 = .ok (.aload_n 3, 1) := dk_45 (dk_at dksX9_statement_4 6 rfl rfl)
theorem dX9_statement_115 : decode cX9_statement 115 = .ok (.ldc 150, 2) := dk_18 150 (dk_at dksX9_statement_4 7 rfl rfl)
theorem dX9_statement_117 : decode cX9_statement 117 = .ok (.invokevirtual 97, 3) := dk_182 0 97 (dk_at dksX9_statement_4 9 rfl rfl)
theorem dX9_statement_120 : decode cX9_statement 120 = .ok (.ifCond .eq 21, 3) := dk_153 0 21 (dk_at dksX9_statement_4 12 rfl rfl)
theorem dX9_statement_123 : decode cX9_statement 123 = .ok (.iconst 2, 1) := dk_5 (dk_at dksX9_statement_4 15 rfl rfl)
theorem dX9_statement_124 : decode cX9_statement 124 = .ok (.istore 4, 2) := dk_54 4 (dk_at dksX9_statement_4 16 rfl rfl)
theorem dX9_statement_126 : decode cX9_statement 126 = .ok (.goto 15, 3) := dk_167 0 15 (dk_at dksX9_statement_4 18 rfl rfl)
theorem dX9_statement_129 : decode cX9_statement 129 = .ok (.aload_n 3, 1) := dk_45 (dk_at dksX9_statement_4 21 rfl rfl)
theorem dX9_statement_130 : decode cX9_statement 130 = .ok (.ldc 152, 2) := dk_18 152 (dk_at dksX9_statement_4 22 rfl rfl)
theorem dX9_statement_132 : decode cX9_statement 132 = .ok (.invokevirtual 97, 3) := dk_182 0 97 (dk_at dksX9_statement_5 0 rfl rfl)
theorem dX9_statement_135 : decode cX9_statement 135 = .ok (.ifCond .eq 6, 3) := dk_153 0 6 (dk_at dksX9_statement_5 3 rfl rfl)
theorem dX9_statement_138 : decode cX9_statement 138 = .ok (.iconst 3, 1) := dk_6 (dk_at dksX9_statement_5 6 rfl rfl)
theorem dX9_statement_139 : decode cX9_statement 139 = .ok (.istore 4, 2) := dk_54 4 (dk_at dksX9_statement_5 7 rfl rfl)
theorem dX9_statement_141 : decode cX9_statement 141 = .ok (.iload 4, 2) := dk_21 4 (dk_at dksX9_statement_5 9 rfl rfl)
theorem dX9_statement_143 : decode cX9_statement 143 = .ok (.tableswitch 60 0 3 #[29, 36, 43, 50], 29) := by decide +kernel
theorem dX9_statement_172 : decode cX9_statement 172 = .ok (.aload_n 0, 1) := dk_42 (dk_at dksX9_statement_7 0 rfl rfl)
theorem dX9_statement_173 : decode cX9_statement 173 = .ok (.invokevirtual 173, 3) := dk_182 0 173 (dk_at dksX9_statement_7 1 rfl rfl)
theorem dX9_statement_176 : decode cX9_statement 176 = .ok (.goto 30, 3) := dk_167 0 30 (dk_at dksX9_statement_7 4 rfl rfl)
theorem dX9_statement_179 : decode cX9_statement 179 = .ok (.aload_n 0, 1) := dk_42 (dk_at dksX9_statement_7 7 rfl rfl)
theorem dX9_statement_180 : decode cX9_statement 180 = .ok (.invokevirtual 176, 3) := dk_182 0 176 (dk_at dksX9_statement_7 8 rfl rfl)
theorem dX9_statement_183 : decode cX9_statement 183 = .ok (.goto 23, 3) := dk_167 0 23 (dk_at dksX9_statement_7 11 rfl rfl)
theorem dX9_statement_186 : decode cX9_statement 186 = .ok (.aload_n 0, 1) := dk_42 (dk_at dksX9_statement_7 14 rfl rfl)
theorem dX9_statement_187 : decode cX9_statement 187 = .ok (.invokevirtual 178, 3) := dk_182 0 178 (dk_at dksX9_statement_7 15 rfl rfl)
theorem dX9_statement_190 : decode cX9_statement 190 = .ok (.goto 16, 3) := dk_167 0 16 (dk_at dksX9_statement_7 18 rfl rfl)
theorem dX9_statement_193 : decode cX9_statement 193 = .ok (.aload_n 0, 1) := dk_42 (dk_at dksX9_statement_7 21 rfl rfl)
theorem dX9_statement_194 : decode cX9_statement 194 = .ok (.invokevirtual 156, 3) := dk_182 0 156 (dk_at dksX9_statement_8 0 rfl rfl)
theorem dX9_statement_197 : decode cX9_statement 197 = .ok (.invokestatic 180, 3) := dk_184 0 180 (dk_at dksX9_statement_8 3 rfl rfl)
theorem dX9_statement_200 : decode cX9_statement 200 = .ok (.goto 6, 3) := dk_167 0 6 (dk_at dksX9_statement_8 6 rfl rfl)
theorem dX9_statement_203 : decode cX9_statement 203 = .ok (.invokestatic 184, 3) := dk_184 0 184 (dk_at dksX9_statement_8 9 rfl rfl)
theorem dX9_statement_206 : decode cX9_statement 206 = .ok (.areturn, 1) := dk_176 (dk_at dksX9_statement_8 12 rfl rfl)
abbrev cX9_startsStatement : ByteArray := prog_11_method_16_code
def yX9_startsStatement : MethodName := ⟨RX9, "startsStatement", "()Z"⟩
def dkwX9_startsStatement_6 : List UInt8 := [4, 167, 0, 4, 3, 172]
abbrev dktX9_startsStatement_6 : List UInt8 := dkwX9_startsStatement_6 ++ []
def dkwX9_startsStatement_5 : List UInt8 := [170, 0, 0, 0, 0, 0, 0, 40, 0, 0, 0, 0, 0, 0, 0, 4, 0, 0, 0, 36, 0, 0, 0, 36, 0, 0, 0, 36, 0, 0, 0, 36, 0, 0, 0, 36]
abbrev dktX9_startsStatement_5 : List UInt8 := dkwX9_startsStatement_5 ++ dktX9_startsStatement_6
def dkwX9_startsStatement_4 : List UInt8 := [153, 0, 19, 6, 61, 167, 0, 14, 43, 18, 154, 182, 0, 97, 153, 0, 5, 7, 61, 28]
abbrev dktX9_startsStatement_4 : List UInt8 := dkwX9_startsStatement_4 ++ dktX9_startsStatement_5
def dkwX9_startsStatement_3 : List UInt8 := [61, 167, 0, 42, 43, 18, 150, 182, 0, 97, 153, 0, 33, 5, 61, 167, 0, 28, 43, 18, 152, 182, 0, 97]
abbrev dktX9_startsStatement_3 : List UInt8 := dkwX9_startsStatement_3 ++ dktX9_startsStatement_4
def dkwX9_startsStatement_2 : List UInt8 := [43, 18, 147, 182, 0, 97, 153, 0, 61, 3, 61, 167, 0, 56, 43, 18, 149, 182, 0, 97, 153, 0, 47, 4]
abbrev dktX9_startsStatement_2 : List UInt8 := dkwX9_startsStatement_2 ++ dktX9_startsStatement_3
def dkwX9_startsStatement_1 : List UInt8 := [171, 0, 0, 0, 116, 0, 0, 0, 5, 171, 228, 207, 26, 0, 0, 0, 63, 0, 1, 188, 98, 0, 0, 0, 49, 56, 151, 97, 42, 0, 0, 0, 105, 65, 1, 40, 7, 0, 0, 0, 91, 110, 114, 77, 102, 0, 0, 0, 77]
abbrev dktX9_startsStatement_1 : List UInt8 := dkwX9_startsStatement_1 ++ dktX9_startsStatement_2
def dkwX9_startsStatement_0 : List UInt8 := [42, 180, 0, 24, 76, 2, 61, 43, 182, 0, 144]
abbrev dktX9_startsStatement_0 : List UInt8 := dkwX9_startsStatement_0 ++ dktX9_startsStatement_1
theorem dksX9_startsStatement_0 : cX9_startsStatement.data.toList.drop 0 = dktX9_startsStatement_0 := by decide +kernel
theorem dksX9_startsStatement_1 : cX9_startsStatement.data.toList.drop 11 = dktX9_startsStatement_1 := dk_seg dksX9_startsStatement_0 11 rfl rfl
theorem dksX9_startsStatement_2 : cX9_startsStatement.data.toList.drop 60 = dktX9_startsStatement_2 := dk_seg dksX9_startsStatement_1 49 rfl rfl
theorem dksX9_startsStatement_3 : cX9_startsStatement.data.toList.drop 84 = dktX9_startsStatement_3 := dk_seg dksX9_startsStatement_2 24 rfl rfl
theorem dksX9_startsStatement_4 : cX9_startsStatement.data.toList.drop 108 = dktX9_startsStatement_4 := dk_seg dksX9_startsStatement_3 24 rfl rfl
theorem dksX9_startsStatement_5 : cX9_startsStatement.data.toList.drop 128 = dktX9_startsStatement_5 := dk_seg dksX9_startsStatement_4 20 rfl rfl
theorem dksX9_startsStatement_6 : cX9_startsStatement.data.toList.drop 164 = dktX9_startsStatement_6 := dk_seg dksX9_startsStatement_5 36 rfl rfl
theorem dX9_startsStatement_0 : decode cX9_startsStatement 0 = .ok (.aload_n 0, 1) := dk_42 (dk_at dksX9_startsStatement_0 0 rfl rfl)
theorem dX9_startsStatement_1 : decode cX9_startsStatement 1 = .ok (.getfield 24, 3) := dk_180 0 24 (dk_at dksX9_startsStatement_0 1 rfl rfl)
theorem dX9_startsStatement_4 : decode cX9_startsStatement 4 = .ok (.astore_n 1, 1) := dk_76 (dk_at dksX9_startsStatement_0 4 rfl rfl)
theorem dX9_startsStatement_5 : decode cX9_startsStatement 5 = .ok (.iconst (-1), 1) := dk_2 (dk_at dksX9_startsStatement_0 5 rfl rfl)
theorem dX9_startsStatement_6 : decode cX9_startsStatement 6 = .ok (.istore_n 2, 1) := dk_61 (dk_at dksX9_startsStatement_0 6 rfl rfl)
theorem dX9_startsStatement_7 : decode cX9_startsStatement 7 = .ok (.aload_n 1, 1) := dk_43 (dk_at dksX9_startsStatement_0 7 rfl rfl)
theorem dX9_startsStatement_8 : decode cX9_startsStatement 8 = .ok (.invokevirtual 144, 3) := dk_182 0 144 (dk_at dksX9_startsStatement_0 8 rfl rfl)
theorem dX9_startsStatement_11 : decode cX9_startsStatement 11 = .ok (.lookupswitch 116 #[(-1411068134, 63), (113762, 49), (949444906, 105), (1090594823, 91), (1852984678, 77)], 49) := by decide +kernel
theorem dX9_startsStatement_60 : decode cX9_startsStatement 60 = .ok (.aload_n 1, 1) := dk_43 (dk_at dksX9_startsStatement_2 0 rfl rfl)
theorem dX9_startsStatement_61 : decode cX9_startsStatement 61 = .ok (.ldc 147, 2) := dk_18 147 (dk_at dksX9_startsStatement_2 1 rfl rfl)
theorem dX9_startsStatement_63 : decode cX9_startsStatement 63 = .ok (.invokevirtual 97, 3) := dk_182 0 97 (dk_at dksX9_startsStatement_2 3 rfl rfl)
theorem dX9_startsStatement_66 : decode cX9_startsStatement 66 = .ok (.ifCond .eq 61, 3) := dk_153 0 61 (dk_at dksX9_startsStatement_2 6 rfl rfl)
theorem dX9_startsStatement_69 : decode cX9_startsStatement 69 = .ok (.iconst 0, 1) := dk_3 (dk_at dksX9_startsStatement_2 9 rfl rfl)
theorem dX9_startsStatement_70 : decode cX9_startsStatement 70 = .ok (.istore_n 2, 1) := dk_61 (dk_at dksX9_startsStatement_2 10 rfl rfl)
theorem dX9_startsStatement_71 : decode cX9_startsStatement 71 = .ok (.goto 56, 3) := dk_167 0 56 (dk_at dksX9_startsStatement_2 11 rfl rfl)
theorem dX9_startsStatement_74 : decode cX9_startsStatement 74 = .ok (.aload_n 1, 1) := dk_43 (dk_at dksX9_startsStatement_2 14 rfl rfl)
theorem dX9_startsStatement_75 : decode cX9_startsStatement 75 = .ok (.ldc 149, 2) := dk_18 149 (dk_at dksX9_startsStatement_2 15 rfl rfl)
theorem dX9_startsStatement_77 : decode cX9_startsStatement 77 = .ok (.invokevirtual 97, 3) := dk_182 0 97 (dk_at dksX9_startsStatement_2 17 rfl rfl)
theorem dX9_startsStatement_80 : decode cX9_startsStatement 80 = .ok (.ifCond .eq 47, 3) := dk_153 0 47 (dk_at dksX9_startsStatement_2 20 rfl rfl)
theorem dX9_startsStatement_83 : decode cX9_startsStatement 83 = .ok (.iconst 1, 1) := dk_4 (dk_at dksX9_startsStatement_2 23 rfl rfl)
theorem dX9_startsStatement_84 : decode cX9_startsStatement 84 = .ok (.istore_n 2, 1) := dk_61 (dk_at dksX9_startsStatement_3 0 rfl rfl)
theorem dX9_startsStatement_85 : decode cX9_startsStatement 85 = .ok (.goto 42, 3) := dk_167 0 42 (dk_at dksX9_startsStatement_3 1 rfl rfl)
theorem dX9_startsStatement_88 : decode cX9_startsStatement 88 = .ok (.aload_n 1, 1) := dk_43 (dk_at dksX9_startsStatement_3 4 rfl rfl)
theorem dX9_startsStatement_89 : decode cX9_startsStatement 89 = .ok (.ldc 150, 2) := dk_18 150 (dk_at dksX9_startsStatement_3 5 rfl rfl)
theorem dX9_startsStatement_91 : decode cX9_startsStatement 91 = .ok (.invokevirtual 97, 3) := dk_182 0 97 (dk_at dksX9_startsStatement_3 7 rfl rfl)
theorem dX9_startsStatement_94 : decode cX9_startsStatement 94 = .ok (.ifCond .eq 33, 3) := dk_153 0 33 (dk_at dksX9_startsStatement_3 10 rfl rfl)
theorem dX9_startsStatement_97 : decode cX9_startsStatement 97 = .ok (.iconst 2, 1) := dk_5 (dk_at dksX9_startsStatement_3 13 rfl rfl)
theorem dX9_startsStatement_98 : decode cX9_startsStatement 98 = .ok (.istore_n 2, 1) := dk_61 (dk_at dksX9_startsStatement_3 14 rfl rfl)
theorem dX9_startsStatement_99 : decode cX9_startsStatement 99 = .ok (.goto 28, 3) := dk_167 0 28 (dk_at dksX9_startsStatement_3 15 rfl rfl)
theorem dX9_startsStatement_102 : decode cX9_startsStatement 102 = .ok (.aload_n 1, 1) := dk_43 (dk_at dksX9_startsStatement_3 18 rfl rfl)
theorem dX9_startsStatement_103 : decode cX9_startsStatement 103 = .ok (.ldc 152, 2) := dk_18 152 (dk_at dksX9_startsStatement_3 19 rfl rfl)
theorem dX9_startsStatement_105 : decode cX9_startsStatement 105 = .ok (.invokevirtual 97, 3) := dk_182 0 97 (dk_at dksX9_startsStatement_3 21 rfl rfl)
theorem dX9_startsStatement_108 : decode cX9_startsStatement 108 = .ok (.ifCond .eq 19, 3) := dk_153 0 19 (dk_at dksX9_startsStatement_4 0 rfl rfl)
theorem dX9_startsStatement_111 : decode cX9_startsStatement 111 = .ok (.iconst 3, 1) := dk_6 (dk_at dksX9_startsStatement_4 3 rfl rfl)
theorem dX9_startsStatement_112 : decode cX9_startsStatement 112 = .ok (.istore_n 2, 1) := dk_61 (dk_at dksX9_startsStatement_4 4 rfl rfl)
theorem dX9_startsStatement_113 : decode cX9_startsStatement 113 = .ok (.goto 14, 3) := dk_167 0 14 (dk_at dksX9_startsStatement_4 5 rfl rfl)
theorem dX9_startsStatement_116 : decode cX9_startsStatement 116 = .ok (.aload_n 1, 1) := dk_43 (dk_at dksX9_startsStatement_4 8 rfl rfl)
theorem dX9_startsStatement_117 : decode cX9_startsStatement 117 = .ok (.ldc 154, 2) := dk_18 154 (dk_at dksX9_startsStatement_4 9 rfl rfl)
theorem dX9_startsStatement_119 : decode cX9_startsStatement 119 = .ok (.invokevirtual 97, 3) := dk_182 0 97 (dk_at dksX9_startsStatement_4 11 rfl rfl)
theorem dX9_startsStatement_122 : decode cX9_startsStatement 122 = .ok (.ifCond .eq 5, 3) := dk_153 0 5 (dk_at dksX9_startsStatement_4 14 rfl rfl)
theorem dX9_startsStatement_125 : decode cX9_startsStatement 125 = .ok (.iconst 4, 1) := dk_7 (dk_at dksX9_startsStatement_4 17 rfl rfl)
theorem dX9_startsStatement_126 : decode cX9_startsStatement 126 = .ok (.istore_n 2, 1) := dk_61 (dk_at dksX9_startsStatement_4 18 rfl rfl)
theorem dX9_startsStatement_127 : decode cX9_startsStatement 127 = .ok (.iload_n 2, 1) := dk_28 (dk_at dksX9_startsStatement_4 19 rfl rfl)
theorem dX9_startsStatement_128 : decode cX9_startsStatement 128 = .ok (.tableswitch 40 0 4 #[36, 36, 36, 36, 36], 36) := by decide +kernel
theorem dX9_startsStatement_164 : decode cX9_startsStatement 164 = .ok (.iconst 1, 1) := dk_4 (dk_at dksX9_startsStatement_6 0 rfl rfl)
theorem dX9_startsStatement_165 : decode cX9_startsStatement 165 = .ok (.goto 4, 3) := dk_167 0 4 (dk_at dksX9_startsStatement_6 1 rfl rfl)
theorem dX9_startsStatement_168 : decode cX9_startsStatement 168 = .ok (.iconst 0, 1) := dk_3 (dk_at dksX9_startsStatement_6 4 rfl rfl)
theorem dX9_startsStatement_169 : decode cX9_startsStatement 169 = .ok (.ireturn, 1) := dk_172 (dk_at dksX9_startsStatement_6 5 rfl rfl)
abbrev cX9_set : ByteArray := prog_11_method_18_code
def yX9_set : MethodName := ⟨RX9, "set", "()LVectorVersions$Action;"⟩
def dkwX9_set_0 : List UInt8 := [42, 182, 0, 156, 60, 42, 3, 16, 63, 182, 0, 103, 61, 27, 28, 42, 182, 0, 119, 184, 0, 159, 176]
abbrev dktX9_set_0 : List UInt8 := dkwX9_set_0 ++ []
theorem dksX9_set_0 : cX9_set.data.toList.drop 0 = dktX9_set_0 := by decide +kernel
theorem dX9_set_0 : decode cX9_set 0 = .ok (.aload_n 0, 1) := dk_42 (dk_at dksX9_set_0 0 rfl rfl)
theorem dX9_set_1 : decode cX9_set 1 = .ok (.invokevirtual 156, 3) := dk_182 0 156 (dk_at dksX9_set_0 1 rfl rfl)
theorem dX9_set_4 : decode cX9_set 4 = .ok (.istore_n 1, 1) := dk_60 (dk_at dksX9_set_0 4 rfl rfl)
theorem dX9_set_5 : decode cX9_set 5 = .ok (.aload_n 0, 1) := dk_42 (dk_at dksX9_set_0 5 rfl rfl)
theorem dX9_set_6 : decode cX9_set 6 = .ok (.iconst 0, 1) := dk_3 (dk_at dksX9_set_0 6 rfl rfl)
theorem dX9_set_7 : decode cX9_set 7 = .ok (.bipush 63, 2) := dk_16 63 (dk_at dksX9_set_0 7 rfl rfl)
theorem dX9_set_9 : decode cX9_set 9 = .ok (.invokevirtual 103, 3) := dk_182 0 103 (dk_at dksX9_set_0 9 rfl rfl)
theorem dX9_set_12 : decode cX9_set 12 = .ok (.istore_n 2, 1) := dk_61 (dk_at dksX9_set_0 12 rfl rfl)
theorem dX9_set_13 : decode cX9_set 13 = .ok (.iload_n 1, 1) := dk_27 (dk_at dksX9_set_0 13 rfl rfl)
theorem dX9_set_14 : decode cX9_set 14 = .ok (.iload_n 2, 1) := dk_28 (dk_at dksX9_set_0 14 rfl rfl)
theorem dX9_set_15 : decode cX9_set 15 = .ok (.aload_n 0, 1) := dk_42 (dk_at dksX9_set_0 15 rfl rfl)
theorem dX9_set_16 : decode cX9_set 16 = .ok (.invokevirtual 119, 3) := dk_182 0 119 (dk_at dksX9_set_0 16 rfl rfl)
theorem dX9_set_19 : decode cX9_set 19 = .ok (.invokestatic 159, 3) := dk_184 0 159 (dk_at dksX9_set_0 19 rfl rfl)
theorem dX9_set_22 : decode cX9_set 22 = .ok (.areturn, 1) := dk_176 (dk_at dksX9_set_0 22 rfl rfl)
abbrev cX9_versionNumber : ByteArray := prog_11_method_17_code
def yX9_versionNumber : MethodName := ⟨RX9, "versionNumber", "()I"⟩
def dkwX9_versionNumber_0 : List UInt8 := [42, 3, 16, 39, 182, 0, 103, 172]
abbrev dktX9_versionNumber_0 : List UInt8 := dkwX9_versionNumber_0 ++ []
theorem dksX9_versionNumber_0 : cX9_versionNumber.data.toList.drop 0 = dktX9_versionNumber_0 := by decide +kernel
theorem dX9_versionNumber_0 : decode cX9_versionNumber 0 = .ok (.aload_n 0, 1) := dk_42 (dk_at dksX9_versionNumber_0 0 rfl rfl)
theorem dX9_versionNumber_1 : decode cX9_versionNumber 1 = .ok (.iconst 0, 1) := dk_3 (dk_at dksX9_versionNumber_0 1 rfl rfl)
theorem dX9_versionNumber_2 : decode cX9_versionNumber 2 = .ok (.bipush 39, 2) := dk_16 39 (dk_at dksX9_versionNumber_0 2 rfl rfl)
theorem dX9_versionNumber_4 : decode cX9_versionNumber 4 = .ok (.invokevirtual 103, 3) := dk_182 0 103 (dk_at dksX9_versionNumber_0 4 rfl rfl)
theorem dX9_versionNumber_7 : decode cX9_versionNumber 7 = .ok (.ireturn, 1) := dk_172 (dk_at dksX9_versionNumber_0 7 rfl rfl)
abbrev cX9_append : ByteArray := prog_11_method_19_code
def yX9_append : MethodName := ⟨RX9, "append", "()LVectorVersions$Action;"⟩
def dkwX9_append_0 : List UInt8 := [42, 182, 0, 156, 60, 27, 42, 182, 0, 119, 184, 0, 163, 176]
abbrev dktX9_append_0 : List UInt8 := dkwX9_append_0 ++ []
theorem dksX9_append_0 : cX9_append.data.toList.drop 0 = dktX9_append_0 := by decide +kernel
theorem dX9_append_0 : decode cX9_append 0 = .ok (.aload_n 0, 1) := dk_42 (dk_at dksX9_append_0 0 rfl rfl)
theorem dX9_append_1 : decode cX9_append 1 = .ok (.invokevirtual 156, 3) := dk_182 0 156 (dk_at dksX9_append_0 1 rfl rfl)
theorem dX9_append_4 : decode cX9_append 4 = .ok (.istore_n 1, 1) := dk_60 (dk_at dksX9_append_0 4 rfl rfl)
theorem dX9_append_5 : decode cX9_append 5 = .ok (.iload_n 1, 1) := dk_27 (dk_at dksX9_append_0 5 rfl rfl)
theorem dX9_append_6 : decode cX9_append 6 = .ok (.aload_n 0, 1) := dk_42 (dk_at dksX9_append_0 6 rfl rfl)
theorem dX9_append_7 : decode cX9_append 7 = .ok (.invokevirtual 119, 3) := dk_182 0 119 (dk_at dksX9_append_0 7 rfl rfl)
theorem dX9_append_10 : decode cX9_append 10 = .ok (.invokestatic 163, 3) := dk_184 0 163 (dk_at dksX9_append_0 10 rfl rfl)
theorem dX9_append_13 : decode cX9_append 13 = .ok (.areturn, 1) := dk_176 (dk_at dksX9_append_0 13 rfl rfl)
abbrev cX9_truncate : ByteArray := prog_11_method_20_code
def yX9_truncate : MethodName := ⟨RX9, "truncate", "()LVectorVersions$Action;"⟩
def dkwX9_truncate_0 : List UInt8 := [42, 182, 0, 156, 60, 27, 42, 3, 16, 64, 182, 0, 103, 184, 0, 167, 176]
abbrev dktX9_truncate_0 : List UInt8 := dkwX9_truncate_0 ++ []
theorem dksX9_truncate_0 : cX9_truncate.data.toList.drop 0 = dktX9_truncate_0 := by decide +kernel
theorem dX9_truncate_0 : decode cX9_truncate 0 = .ok (.aload_n 0, 1) := dk_42 (dk_at dksX9_truncate_0 0 rfl rfl)
theorem dX9_truncate_1 : decode cX9_truncate 1 = .ok (.invokevirtual 156, 3) := dk_182 0 156 (dk_at dksX9_truncate_0 1 rfl rfl)
theorem dX9_truncate_4 : decode cX9_truncate 4 = .ok (.istore_n 1, 1) := dk_60 (dk_at dksX9_truncate_0 4 rfl rfl)
theorem dX9_truncate_5 : decode cX9_truncate 5 = .ok (.iload_n 1, 1) := dk_27 (dk_at dksX9_truncate_0 5 rfl rfl)
theorem dX9_truncate_6 : decode cX9_truncate 6 = .ok (.aload_n 0, 1) := dk_42 (dk_at dksX9_truncate_0 6 rfl rfl)
theorem dX9_truncate_7 : decode cX9_truncate 7 = .ok (.iconst 0, 1) := dk_3 (dk_at dksX9_truncate_0 7 rfl rfl)
theorem dX9_truncate_8 : decode cX9_truncate 8 = .ok (.bipush 64, 2) := dk_16 64 (dk_at dksX9_truncate_0 8 rfl rfl)
theorem dX9_truncate_10 : decode cX9_truncate 10 = .ok (.invokevirtual 103, 3) := dk_182 0 103 (dk_at dksX9_truncate_0 10 rfl rfl)
theorem dX9_truncate_13 : decode cX9_truncate 13 = .ok (.invokestatic 167, 3) := dk_184 0 167 (dk_at dksX9_truncate_0 13 rfl rfl)
theorem dX9_truncate_16 : decode cX9_truncate 16 = .ok (.areturn, 1) := dk_176 (dk_at dksX9_truncate_0 16 rfl rfl)
theorem q165 : (Jvm.Cond.initialized "VectorVersions$Parser") ∈ lw_all := lw_g (lw_at lw_m1 31 rfl) rfl
theorem q292 : (Jvm.Cond.selects "VectorVersions$Parser" ({ cls := "java/lang/Object", name := "getClass", desc := "()Ljava/lang/Class;" } : Jvm.MethodName) ({ cls := "java/lang/Object", name := "getClass", desc := "()Ljava/lang/Class;" } : Jvm.MethodName)) ∈ lw_all := lw_g (lw_at lw_m1 158 rfl) rfl
theorem q862 : (Jvm.Cond.fieldLinkNest "VectorVersions$Parser" (35 : Nat) "VectorVersions" "buffer" "[B" "VectorVersions") ∈ lw_tbl := lw_at lw_m4 8 rfl
theorem q864 : (Jvm.Cond.fieldLinkNest "VectorVersions$Parser" (15 : Nat) "VectorVersions" "bufferLength" "I" "VectorVersions") ∈ lw_tbl := lw_at lw_m4 10 rfl
theorem q914 : (Jvm.Cond.instantiable "VectorVersions$Parser" (8 : Nat)) ∈ lw_all := lw_g (lw_at lw_m4 60 rfl) rfl
theorem q916 : (Jvm.Cond.instanceMethod ({ cls := "VectorVersions$Parser", name := "<init>", desc := "(LVectorVersions;LVectorVersions$Store;)V" } : Jvm.MethodName)) ∈ lw_all := lw_g (lw_at lw_m4 62 rfl) rfl
theorem q917 : (Jvm.Cond.code ({ cls := "VectorVersions$Parser", name := "<init>", desc := "(LVectorVersions;LVectorVersions$Store;)V" } : Jvm.MethodName) prog_11_method_1_code (3 : Nat) (Option.none : Option Jvm.ClassFile.FieldType)) ∈ lw_all := lw_g (lw_at lw_m4 63 rfl) rfl
theorem q918 : (Jvm.Cond.methodLink "VectorVersions$Parser" (9 : Nat) ({ cls := "java/lang/Object", name := "<init>", desc := "()V" } : Jvm.MethodName)) ∈ lw_all := lw_g (lw_at lw_m4 64 rfl) rfl
theorem q919 : (Jvm.Cond.stringRef "VectorVersions$Parser" (22 : Nat) "") ∈ lw_tbl := lw_at lw_m4 65 rfl
theorem q920 : (Jvm.Cond.methodLink "VectorVersions$Parser" (32 : Nat) ({ cls := "VectorVersions$Parser", name := "advance", desc := "()V" } : Jvm.MethodName)) ∈ lw_all := lw_g (lw_at lw_m4 66 rfl) rfl
theorem q921 : (Jvm.Cond.privateMethod ({ cls := "VectorVersions$Parser", name := "advance", desc := "()V" } : Jvm.MethodName)) ∈ lw_tbl := lw_at lw_m4 67 rfl
theorem q922 : (Jvm.Cond.instanceMethod ({ cls := "VectorVersions$Parser", name := "advance", desc := "()V" } : Jvm.MethodName)) ∈ lw_all := lw_g (lw_at lw_m4 68 rfl) rfl
theorem q923 : (Jvm.Cond.code ({ cls := "VectorVersions$Parser", name := "advance", desc := "()V" } : Jvm.MethodName) prog_11_method_5_code (1 : Nat) (Option.none : Option Jvm.ClassFile.FieldType)) ∈ lw_all := lw_g (lw_at lw_m4 69 rfl) rfl
theorem q924 : (Jvm.Cond.methodLink "VectorVersions$Parser" (39 : Nat) ({ cls := "VectorVersions$Parser", name := "byteAt", desc := "(I)I" } : Jvm.MethodName)) ∈ lw_all := lw_g (lw_at lw_m4 70 rfl) rfl
theorem q925 : (Jvm.Cond.privateMethod ({ cls := "VectorVersions$Parser", name := "byteAt", desc := "(I)I" } : Jvm.MethodName)) ∈ lw_tbl := lw_at lw_m4 71 rfl
theorem q926 : (Jvm.Cond.instanceMethod ({ cls := "VectorVersions$Parser", name := "byteAt", desc := "(I)I" } : Jvm.MethodName)) ∈ lw_all := lw_g (lw_at lw_m4 72 rfl) rfl
theorem q927 : (Jvm.Cond.code ({ cls := "VectorVersions$Parser", name := "byteAt", desc := "(I)I" } : Jvm.MethodName) prog_11_method_2_code (2 : Nat) (Option.some Jvm.ClassFile.FieldType.int)) ∈ lw_all := lw_g (lw_at lw_m4 73 rfl) rfl
theorem q928 : (Jvm.Cond.methodLink "VectorVersions$Parser" (59 : Nat) ({ cls := "VectorVersions$Parser", name := "isLetter", desc := "(I)Z" } : Jvm.MethodName)) ∈ lw_all := lw_g (lw_at lw_m4 74 rfl) rfl
theorem q929 : (Jvm.Cond.privateMethod ({ cls := "VectorVersions$Parser", name := "isLetter", desc := "(I)Z" } : Jvm.MethodName)) ∈ lw_tbl := lw_at lw_m4 75 rfl
theorem q930 : (Jvm.Cond.instanceMethod ({ cls := "VectorVersions$Parser", name := "isLetter", desc := "(I)Z" } : Jvm.MethodName)) ∈ lw_all := lw_g (lw_at lw_m4 76 rfl) rfl
theorem q931 : (Jvm.Cond.code ({ cls := "VectorVersions$Parser", name := "isLetter", desc := "(I)Z" } : Jvm.MethodName) prog_11_method_3_code (2 : Nat) (Option.some Jvm.ClassFile.FieldType.boolean)) ∈ lw_all := lw_g (lw_at lw_m4 77 rfl) rfl
theorem q932 : (Jvm.Cond.methodLinkNest "VectorVersions$Parser" (43 : Nat) ({ cls := "VectorVersions", name := "isBetween", desc := "(III)Z" } : Jvm.MethodName) "VectorVersions") ∈ lw_tbl := lw_at lw_m4 78 rfl
theorem q933 : (Jvm.Cond.methodLink "VectorVersions$Parser" (63 : Nat) ({ cls := "VectorVersions$Parser", name := "readWord", desc := "()V" } : Jvm.MethodName)) ∈ lw_all := lw_g (lw_at lw_m4 79 rfl) rfl
theorem q934 : (Jvm.Cond.privateMethod ({ cls := "VectorVersions$Parser", name := "readWord", desc := "()V" } : Jvm.MethodName)) ∈ lw_tbl := lw_at lw_m4 80 rfl
theorem q935 : (Jvm.Cond.instanceMethod ({ cls := "VectorVersions$Parser", name := "readWord", desc := "()V" } : Jvm.MethodName)) ∈ lw_all := lw_g (lw_at lw_m4 81 rfl) rfl
theorem q936 : (Jvm.Cond.code ({ cls := "VectorVersions$Parser", name := "readWord", desc := "()V" } : Jvm.MethodName) prog_11_method_6_code (2 : Nat) (Option.none : Option Jvm.ClassFile.FieldType)) ∈ lw_all := lw_g (lw_at lw_m4 82 rfl) rfl
theorem q937 : (Jvm.Cond.classLink "VectorVersions$Parser" (75 : Nat) "java/lang/StringBuilder") ∈ lw_all := lw_g (lw_at lw_m4 83 rfl) rfl
theorem q938 : (Jvm.Cond.methodLink "VectorVersions$Parser" (77 : Nat) ({ cls := "java/lang/StringBuilder", name := "<init>", desc := "()V" } : Jvm.MethodName)) ∈ lw_all := lw_g (lw_at lw_m4 84 rfl) rfl
theorem q939 : (Jvm.Cond.methodLink "VectorVersions$Parser" (78 : Nat) ({ cls := "java/lang/StringBuilder", name := "append", desc := "(C)Ljava/lang/StringBuilder;" } : Jvm.MethodName)) ∈ lw_all := lw_g (lw_at lw_m4 85 rfl) rfl
theorem q959 : (Jvm.Cond.methodLink "VectorVersions$Parser" (82 : Nat) ({ cls := "java/lang/StringBuilder", name := "toString", desc := "()Ljava/lang/String;" } : Jvm.MethodName)) ∈ lw_all := lw_g (lw_at lw_m4 105 rfl) rfl
theorem q960 : (Jvm.Cond.methodLink "VectorVersions$Parser" (66 : Nat) ({ cls := "VectorVersions$Parser", name := "isDigit", desc := "(I)Z" } : Jvm.MethodName)) ∈ lw_all := lw_g (lw_at lw_m4 106 rfl) rfl
theorem q961 : (Jvm.Cond.privateMethod ({ cls := "VectorVersions$Parser", name := "isDigit", desc := "(I)Z" } : Jvm.MethodName)) ∈ lw_tbl := lw_at lw_m4 107 rfl
theorem q962 : (Jvm.Cond.instanceMethod ({ cls := "VectorVersions$Parser", name := "isDigit", desc := "(I)Z" } : Jvm.MethodName)) ∈ lw_all := lw_g (lw_at lw_m4 108 rfl) rfl
theorem q963 : (Jvm.Cond.code ({ cls := "VectorVersions$Parser", name := "isDigit", desc := "(I)Z" } : Jvm.MethodName) prog_11_method_4_code (2 : Nat) (Option.some Jvm.ClassFile.FieldType.boolean)) ∈ lw_all := lw_g (lw_at lw_m4 109 rfl) rfl
theorem q964 : (Jvm.Cond.methodLink "VectorVersions$Parser" (69 : Nat) ({ cls := "VectorVersions$Parser", name := "readNumber", desc := "()V" } : Jvm.MethodName)) ∈ lw_all := lw_g (lw_at lw_m4 110 rfl) rfl
theorem q965 : (Jvm.Cond.privateMethod ({ cls := "VectorVersions$Parser", name := "readNumber", desc := "()V" } : Jvm.MethodName)) ∈ lw_tbl := lw_at lw_m4 111 rfl
theorem q966 : (Jvm.Cond.instanceMethod ({ cls := "VectorVersions$Parser", name := "readNumber", desc := "()V" } : Jvm.MethodName)) ∈ lw_all := lw_g (lw_at lw_m4 112 rfl) rfl
theorem q967 : (Jvm.Cond.code ({ cls := "VectorVersions$Parser", name := "readNumber", desc := "()V" } : Jvm.MethodName) prog_11_method_7_code (1 : Nat) (Option.none : Option Jvm.ClassFile.FieldType)) ∈ lw_all := lw_g (lw_at lw_m4 113 rfl) rfl
theorem q968 : (Jvm.Cond.methodLink "VectorVersions$Parser" (72 : Nat) ({ cls := "VectorVersions$Parser", name := "readOther", desc := "()V" } : Jvm.MethodName)) ∈ lw_all := lw_g (lw_at lw_m4 114 rfl) rfl
theorem q969 : (Jvm.Cond.privateMethod ({ cls := "VectorVersions$Parser", name := "readOther", desc := "()V" } : Jvm.MethodName)) ∈ lw_tbl := lw_at lw_m4 115 rfl
theorem q970 : (Jvm.Cond.instanceMethod ({ cls := "VectorVersions$Parser", name := "readOther", desc := "()V" } : Jvm.MethodName)) ∈ lw_all := lw_g (lw_at lw_m4 116 rfl) rfl
theorem q971 : (Jvm.Cond.code ({ cls := "VectorVersions$Parser", name := "readOther", desc := "()V" } : Jvm.MethodName) prog_11_method_8_code (1 : Nat) (Option.none : Option Jvm.ClassFile.FieldType)) ∈ lw_all := lw_g (lw_at lw_m4 117 rfl) rfl
theorem q972 : (Jvm.Cond.fieldLink "VectorVersions$Parser" (19 : Nat) "VectorVersions$Parser" "length" "I") ∈ lw_all := lw_g (lw_at lw_m4 118 rfl) rfl
theorem q973 : (Jvm.Cond.fieldLink "VectorVersions$Parser" (28 : Nat) "VectorVersions$Parser" "store" "LVectorVersions$Store;") ∈ lw_all := lw_g (lw_at lw_m4 119 rfl) rfl
theorem q974 : (Jvm.Cond.fieldLink "VectorVersions$Parser" (50 : Nat) "VectorVersions$Parser" "start" "I") ∈ lw_all := lw_g (lw_at lw_m4 120 rfl) rfl
theorem q975 : (Jvm.Cond.fieldLink "VectorVersions$Parser" (47 : Nat) "VectorVersions$Parser" "next" "I") ∈ lw_all := lw_g (lw_at lw_m4 121 rfl) rfl
theorem q976 : (Jvm.Cond.fieldLink "VectorVersions$Parser" (53 : Nat) "VectorVersions$Parser" "value" "I") ∈ lw_all := lw_g (lw_at lw_m4 122 rfl) rfl
theorem q977 : (Jvm.Cond.fieldLink "VectorVersions$Parser" (56 : Nat) "VectorVersions$Parser" "token" "I") ∈ lw_all := lw_g (lw_at lw_m4 123 rfl) rfl
theorem q978 : (Jvm.Cond.fieldLink "VectorVersions$Parser" (24 : Nat) "VectorVersions$Parser" "word" "Ljava/lang/String;") ∈ lw_all := lw_g (lw_at lw_m4 124 rfl) rfl
theorem q979 : (Jvm.Cond.fieldLink "VectorVersions$Parser" (3 : Nat) "VectorVersions$Parser" "this$0" "LVectorVersions;") ∈ lw_all := lw_g (lw_at lw_m4 125 rfl) rfl
theorem q980 : (Jvm.Cond.laysFinal "VectorVersions$Parser" "VectorVersions$Parser" "length" "I") ∈ lw_all := lw_g (lw_at lw_m4 126 rfl) rfl
theorem q981 : (Jvm.Cond.soleField "VectorVersions$Parser" "length") ∈ lw_all := lw_g (lw_at lw_m4 127 rfl) rfl
theorem q982 : (Jvm.Cond.laysFinal "VectorVersions$Parser" "VectorVersions$Parser" "store" "LVectorVersions$Store;") ∈ lw_all := lw_g (lw_at lw_m4 128 rfl) rfl
theorem q983 : (Jvm.Cond.soleField "VectorVersions$Parser" "store") ∈ lw_all := lw_g (lw_at lw_m4 129 rfl) rfl
theorem q984 : (Jvm.Cond.lays "VectorVersions$Parser" "VectorVersions$Parser" "start" "I") ∈ lw_all := lw_g (lw_at lw_m4 130 rfl) rfl
theorem q985 : (Jvm.Cond.soleField "VectorVersions$Parser" "start") ∈ lw_all := lw_g (lw_at lw_m4 131 rfl) rfl
theorem q986 : (Jvm.Cond.lays "VectorVersions$Parser" "VectorVersions$Parser" "next" "I") ∈ lw_all := lw_g (lw_at lw_m4 132 rfl) rfl
theorem q987 : (Jvm.Cond.soleField "VectorVersions$Parser" "next") ∈ lw_all := lw_g (lw_at lw_m4 133 rfl) rfl
theorem q988 : (Jvm.Cond.lays "VectorVersions$Parser" "VectorVersions$Parser" "value" "I") ∈ lw_all := lw_g (lw_at lw_m4 134 rfl) rfl
theorem q989 : (Jvm.Cond.soleField "VectorVersions$Parser" "value") ∈ lw_all := lw_g (lw_at lw_m4 135 rfl) rfl
theorem q990 : (Jvm.Cond.lays "VectorVersions$Parser" "VectorVersions$Parser" "token" "I") ∈ lw_all := lw_g (lw_at lw_m4 136 rfl) rfl
theorem q991 : (Jvm.Cond.soleField "VectorVersions$Parser" "token") ∈ lw_all := lw_g (lw_at lw_m4 137 rfl) rfl
theorem q992 : (Jvm.Cond.lays "VectorVersions$Parser" "VectorVersions$Parser" "word" "Ljava/lang/String;") ∈ lw_all := lw_g (lw_at lw_m4 138 rfl) rfl
theorem q993 : (Jvm.Cond.soleField "VectorVersions$Parser" "word") ∈ lw_all := lw_g (lw_at lw_m4 139 rfl) rfl
theorem q994 : (Jvm.Cond.laysFinal "VectorVersions$Parser" "VectorVersions$Parser" "this$0" "LVectorVersions;") ∈ lw_all := lw_g (lw_at lw_m4 140 rfl) rfl
theorem q995 : (Jvm.Cond.soleField "VectorVersions$Parser" "this$0") ∈ lw_all := lw_g (lw_at lw_m4 141 rfl) rfl
theorem q996 : (Jvm.Cond.superclass "VectorVersions$Parser" "java/lang/Object") ∈ lw_all := lw_g (lw_at lw_m4 142 rfl) rfl
theorem q998 : (Jvm.Cond.instanceMethod ({ cls := "VectorVersions$Parser", name := "setup", desc := "()LVectorVersions$Store;" } : Jvm.MethodName)) ∈ lw_all := lw_g (lw_at lw_m4 144 rfl) rfl
theorem q999 : (Jvm.Cond.selects "VectorVersions$Parser" ({ cls := "VectorVersions$Parser", name := "setup", desc := "()LVectorVersions$Store;" } : Jvm.MethodName) ({ cls := "VectorVersions$Parser", name := "setup", desc := "()LVectorVersions$Store;" } : Jvm.MethodName)) ∈ lw_all := lw_g (lw_at lw_m4 145 rfl) rfl
theorem q1000 : (Jvm.Cond.codeWith ({ cls := "VectorVersions$Parser", name := "setup", desc := "()LVectorVersions$Store;" } : Jvm.MethodName) prog_11_method_15_code (4 : Nat) (Option.some (Jvm.ClassFile.FieldType.object "VectorVersions$Store")) [((0 : Nat), (36 : Nat), (46 : Nat), (0 : Nat))]) ∈ lw_all := lw_g (lw_at lw_m4 146 rfl) rfl
theorem q1001 : (Jvm.Cond.classLink "VectorVersions$Parser" (130 : Nat) "java/util/ArrayList") ∈ lw_all := lw_g (lw_at lw_m4 147 rfl) rfl
theorem q1002 : (Jvm.Cond.methodLink "VectorVersions$Parser" (132 : Nat) ({ cls := "java/util/ArrayList", name := "<init>", desc := "()V" } : Jvm.MethodName)) ∈ lw_all := lw_g (lw_at lw_m4 148 rfl) rfl
theorem q1003 : (Jvm.Cond.methodLink "VectorVersions$Parser" (133 : Nat) ({ cls := "VectorVersions$Parser", name := "list", desc := "(Ljava/util/List;)V" } : Jvm.MethodName)) ∈ lw_all := lw_g (lw_at lw_m4 149 rfl) rfl
theorem q1004 : (Jvm.Cond.privateMethod ({ cls := "VectorVersions$Parser", name := "list", desc := "(Ljava/util/List;)V" } : Jvm.MethodName)) ∈ lw_tbl := lw_at lw_m4 150 rfl
theorem q1005 : (Jvm.Cond.instanceMethod ({ cls := "VectorVersions$Parser", name := "list", desc := "(Ljava/util/List;)V" } : Jvm.MethodName)) ∈ lw_all := lw_g (lw_at lw_m4 151 rfl) rfl
theorem q1006 : (Jvm.Cond.code ({ cls := "VectorVersions$Parser", name := "list", desc := "(Ljava/util/List;)V" } : Jvm.MethodName) prog_11_method_14_code (2 : Nat) (Option.none : Option Jvm.ClassFile.FieldType)) ∈ lw_all := lw_g (lw_at lw_m4 152 rfl) rfl
theorem q1007 : (Jvm.Cond.stringRef "VectorVersions$Parser" (107 : Nat) "list") ∈ lw_tbl := lw_at lw_m4 153 rfl
theorem q1008 : (Jvm.Cond.methodLink "VectorVersions$Parser" (97 : Nat) ({ cls := "java/lang/String", name := "equals", desc := "(Ljava/lang/Object;)Z" } : Jvm.MethodName)) ∈ lw_all := lw_g (lw_at lw_m4 154 rfl) rfl
theorem q1016 : (Jvm.Cond.methodLink "VectorVersions$Parser" (91 : Nat) ({ cls := "VectorVersions$Parser", name := "check", desc := "(ZI)V" } : Jvm.MethodName)) ∈ lw_all := lw_g (lw_at lw_m4 162 rfl) rfl
theorem q1017 : (Jvm.Cond.privateMethod ({ cls := "VectorVersions$Parser", name := "check", desc := "(ZI)V" } : Jvm.MethodName)) ∈ lw_tbl := lw_at lw_m4 163 rfl
theorem q1018 : (Jvm.Cond.instanceMethod ({ cls := "VectorVersions$Parser", name := "check", desc := "(ZI)V" } : Jvm.MethodName)) ∈ lw_all := lw_g (lw_at lw_m4 164 rfl) rfl
theorem q1019 : (Jvm.Cond.code ({ cls := "VectorVersions$Parser", name := "check", desc := "(ZI)V" } : Jvm.MethodName) prog_11_method_9_code (3 : Nat) (Option.none : Option Jvm.ClassFile.FieldType)) ∈ lw_all := lw_g (lw_at lw_m4 165 rfl) rfl
theorem q1020 : (Jvm.Cond.classLink "VectorVersions$Parser" (86 : Nat) "VectorVersions$TextError") ∈ lw_all := lw_g (lw_at lw_m4 166 rfl) rfl
theorem q1029 : (Jvm.Cond.methodLink "VectorVersions$Parser" (88 : Nat) ({ cls := "VectorVersions$TextError", name := "<init>", desc := "(II)V" } : Jvm.MethodName)) ∈ lw_all := lw_g (lw_at lw_m4 175 rfl) rfl
theorem q1048 : (Jvm.Cond.methodLink "VectorVersions$Parser" (109 : Nat) ({ cls := "VectorVersions$Parser", name := "startsValue", desc := "()Z" } : Jvm.MethodName)) ∈ lw_all := lw_g (lw_at lw_m4 194 rfl) rfl
theorem q1049 : (Jvm.Cond.privateMethod ({ cls := "VectorVersions$Parser", name := "startsValue", desc := "()Z" } : Jvm.MethodName)) ∈ lw_tbl := lw_at lw_m4 195 rfl
theorem q1050 : (Jvm.Cond.instanceMethod ({ cls := "VectorVersions$Parser", name := "startsValue", desc := "()Z" } : Jvm.MethodName)) ∈ lw_all := lw_g (lw_at lw_m4 196 rfl) rfl
theorem q1051 : (Jvm.Cond.code ({ cls := "VectorVersions$Parser", name := "startsValue", desc := "()Z" } : Jvm.MethodName) prog_11_method_13_code (1 : Nat) (Option.some Jvm.ClassFile.FieldType.boolean)) ∈ lw_all := lw_g (lw_at lw_m4 197 rfl) rfl
theorem q1052 : (Jvm.Cond.stringRef "VectorVersions$Parser" (95 : Nat) "minus") ∈ lw_tbl := lw_at lw_m4 198 rfl
theorem q1053 : (Jvm.Cond.interfaceEntry "VectorVersions$Parser" (113 : Nat)) ∈ lw_tbl := lw_at lw_m4 199 rfl
theorem q1054 : (Jvm.Cond.methodLink "VectorVersions$Parser" (113 : Nat) ({ cls := "java/util/List", name := "size", desc := "()I" } : Jvm.MethodName)) ∈ lw_all := lw_g (lw_at lw_m4 200 rfl) rfl
theorem q1055 : (Jvm.Cond.methodLink "VectorVersions$Parser" (119 : Nat) ({ cls := "VectorVersions$Parser", name := "value", desc := "()I" } : Jvm.MethodName)) ∈ lw_all := lw_g (lw_at lw_m4 201 rfl) rfl
theorem q1056 : (Jvm.Cond.privateMethod ({ cls := "VectorVersions$Parser", name := "value", desc := "()I" } : Jvm.MethodName)) ∈ lw_tbl := lw_at lw_m4 202 rfl
theorem q1057 : (Jvm.Cond.instanceMethod ({ cls := "VectorVersions$Parser", name := "value", desc := "()I" } : Jvm.MethodName)) ∈ lw_all := lw_g (lw_at lw_m4 203 rfl) rfl
theorem q1058 : (Jvm.Cond.code ({ cls := "VectorVersions$Parser", name := "value", desc := "()I" } : Jvm.MethodName) prog_11_method_12_code (3 : Nat) (Option.some Jvm.ClassFile.FieldType.int)) ∈ lw_all := lw_g (lw_at lw_m4 204 rfl) rfl
theorem q1059 : (Jvm.Cond.methodLink "VectorVersions$Parser" (103 : Nat) ({ cls := "VectorVersions$Parser", name := "number", desc := "(II)I" } : Jvm.MethodName)) ∈ lw_all := lw_g (lw_at lw_m4 205 rfl) rfl
theorem q1060 : (Jvm.Cond.privateMethod ({ cls := "VectorVersions$Parser", name := "number", desc := "(II)I" } : Jvm.MethodName)) ∈ lw_tbl := lw_at lw_m4 206 rfl
theorem q1061 : (Jvm.Cond.instanceMethod ({ cls := "VectorVersions$Parser", name := "number", desc := "(II)I" } : Jvm.MethodName)) ∈ lw_all := lw_g (lw_at lw_m4 207 rfl) rfl
theorem q1062 : (Jvm.Cond.code ({ cls := "VectorVersions$Parser", name := "number", desc := "(II)I" } : Jvm.MethodName) prog_11_method_10_code (4 : Nat) (Option.some Jvm.ClassFile.FieldType.int)) ∈ lw_all := lw_g (lw_at lw_m4 208 rfl) rfl
theorem q1063 : (Jvm.Cond.methodLink "VectorVersions$Parser" (121 : Nat) ({ cls := "java/lang/Integer", name := "valueOf", desc := "(I)Ljava/lang/Integer;" } : Jvm.MethodName)) ∈ lw_all := lw_g (lw_at lw_m4 209 rfl) rfl
theorem q1064 : (Jvm.Cond.interfaceEntry "VectorVersions$Parser" (127 : Nat)) ∈ lw_tbl := lw_at lw_m4 210 rfl
theorem q1065 : (Jvm.Cond.methodLink "VectorVersions$Parser" (127 : Nat) ({ cls := "java/util/List", name := "add", desc := "(Ljava/lang/Object;)Z" } : Jvm.MethodName)) ∈ lw_all := lw_g (lw_at lw_m4 211 rfl) rfl
theorem q1066 : (Jvm.Cond.methodLink "VectorVersions$Parser" (136 : Nat) ({ cls := "VectorVersions$Parser", name := "semicolon", desc := "()V" } : Jvm.MethodName)) ∈ lw_all := lw_g (lw_at lw_m4 212 rfl) rfl
theorem q1067 : (Jvm.Cond.privateMethod ({ cls := "VectorVersions$Parser", name := "semicolon", desc := "()V" } : Jvm.MethodName)) ∈ lw_tbl := lw_at lw_m4 213 rfl
theorem q1068 : (Jvm.Cond.instanceMethod ({ cls := "VectorVersions$Parser", name := "semicolon", desc := "()V" } : Jvm.MethodName)) ∈ lw_all := lw_g (lw_at lw_m4 214 rfl) rfl
theorem q1069 : (Jvm.Cond.code ({ cls := "VectorVersions$Parser", name := "semicolon", desc := "()V" } : Jvm.MethodName) prog_11_method_11_code (1 : Nat) (Option.none : Option Jvm.ClassFile.FieldType)) ∈ lw_all := lw_g (lw_at lw_m4 215 rfl) rfl
theorem q1070 : (Jvm.Cond.methodLink "VectorVersions$Parser" (139 : Nat) ({ cls := "VectorVersions$Store", name := "start", desc := "(Ljava/util/List;)LVectorVersions$Store;" } : Jvm.MethodName)) ∈ lw_all := lw_g (lw_at lw_m4 216 rfl) rfl
theorem q1095 : (Jvm.Cond.instanceMethod ({ cls := "VectorVersions$Parser", name := "script", desc := "()Ljava/util/List;" } : Jvm.MethodName)) ∈ lw_all := lw_g (lw_at lw_m5 1 rfl) rfl
theorem q1096 : (Jvm.Cond.selects "VectorVersions$Parser" ({ cls := "VectorVersions$Parser", name := "script", desc := "()Ljava/util/List;" } : Jvm.MethodName) ({ cls := "VectorVersions$Parser", name := "script", desc := "()Ljava/util/List;" } : Jvm.MethodName)) ∈ lw_all := lw_g (lw_at lw_m5 2 rfl) rfl
theorem q1097 : (Jvm.Cond.codeWith ({ cls := "VectorVersions$Parser", name := "script", desc := "()Ljava/util/List;" } : Jvm.MethodName) prog_11_method_22_code (4 : Nat) (Option.some (Jvm.ClassFile.FieldType.object "java/util/List")) [((0 : Nat), (41 : Nat), (51 : Nat), (0 : Nat))]) ∈ lw_all := lw_g (lw_at lw_m5 3 rfl) rfl
theorem q1098 : (Jvm.Cond.methodLink "VectorVersions$Parser" (187 : Nat) ({ cls := "VectorVersions$Parser", name := "statement", desc := "(I)LVectorVersions$Action;" } : Jvm.MethodName)) ∈ lw_all := lw_g (lw_at lw_m5 4 rfl) rfl
theorem q1099 : (Jvm.Cond.privateMethod ({ cls := "VectorVersions$Parser", name := "statement", desc := "(I)LVectorVersions$Action;" } : Jvm.MethodName)) ∈ lw_tbl := lw_at lw_m5 5 rfl
theorem q1100 : (Jvm.Cond.instanceMethod ({ cls := "VectorVersions$Parser", name := "statement", desc := "(I)LVectorVersions$Action;" } : Jvm.MethodName)) ∈ lw_all := lw_g (lw_at lw_m5 6 rfl) rfl
theorem q1101 : (Jvm.Cond.code ({ cls := "VectorVersions$Parser", name := "statement", desc := "(I)LVectorVersions$Action;" } : Jvm.MethodName) prog_11_method_21_code (5 : Nat) (Option.some (Jvm.ClassFile.FieldType.object "VectorVersions$Action"))) ∈ lw_all := lw_g (lw_at lw_m5 7 rfl) rfl
theorem q1102 : (Jvm.Cond.methodLink "VectorVersions$Parser" (170 : Nat) ({ cls := "VectorVersions$Parser", name := "startsStatement", desc := "()Z" } : Jvm.MethodName)) ∈ lw_all := lw_g (lw_at lw_m5 8 rfl) rfl
theorem q1103 : (Jvm.Cond.privateMethod ({ cls := "VectorVersions$Parser", name := "startsStatement", desc := "()Z" } : Jvm.MethodName)) ∈ lw_tbl := lw_at lw_m5 9 rfl
theorem q1104 : (Jvm.Cond.instanceMethod ({ cls := "VectorVersions$Parser", name := "startsStatement", desc := "()Z" } : Jvm.MethodName)) ∈ lw_all := lw_g (lw_at lw_m5 10 rfl) rfl
theorem q1105 : (Jvm.Cond.code ({ cls := "VectorVersions$Parser", name := "startsStatement", desc := "()Z" } : Jvm.MethodName) prog_11_method_16_code (3 : Nat) (Option.some Jvm.ClassFile.FieldType.boolean)) ∈ lw_all := lw_g (lw_at lw_m5 11 rfl) rfl
theorem q1106 : (Jvm.Cond.methodLink "VectorVersions$Parser" (144 : Nat) ({ cls := "java/lang/String", name := "hashCode", desc := "()I" } : Jvm.MethodName)) ∈ lw_all := lw_g (lw_at lw_m5 12 rfl) rfl
theorem q1167 : (Jvm.Cond.stringRef "VectorVersions$Parser" (147 : Nat) "set") ∈ lw_tbl := lw_at lw_m5 73 rfl
theorem q1168 : (Jvm.Cond.stringRef "VectorVersions$Parser" (149 : Nat) "append") ∈ lw_tbl := lw_at lw_m5 74 rfl
theorem q1169 : (Jvm.Cond.stringRef "VectorVersions$Parser" (150 : Nat) "truncate") ∈ lw_tbl := lw_at lw_m5 75 rfl
theorem q1170 : (Jvm.Cond.stringRef "VectorVersions$Parser" (152 : Nat) "release") ∈ lw_tbl := lw_at lw_m5 76 rfl
theorem q1171 : (Jvm.Cond.stringRef "VectorVersions$Parser" (154 : Nat) "collect") ∈ lw_tbl := lw_at lw_m5 77 rfl
theorem q1172 : (Jvm.Cond.methodLink "VectorVersions$Parser" (173 : Nat) ({ cls := "VectorVersions$Parser", name := "set", desc := "()LVectorVersions$Action;" } : Jvm.MethodName)) ∈ lw_all := lw_g (lw_at lw_m5 78 rfl) rfl
theorem q1173 : (Jvm.Cond.privateMethod ({ cls := "VectorVersions$Parser", name := "set", desc := "()LVectorVersions$Action;" } : Jvm.MethodName)) ∈ lw_tbl := lw_at lw_m5 79 rfl
theorem q1174 : (Jvm.Cond.instanceMethod ({ cls := "VectorVersions$Parser", name := "set", desc := "()LVectorVersions$Action;" } : Jvm.MethodName)) ∈ lw_all := lw_g (lw_at lw_m5 80 rfl) rfl
theorem q1175 : (Jvm.Cond.code ({ cls := "VectorVersions$Parser", name := "set", desc := "()LVectorVersions$Action;" } : Jvm.MethodName) prog_11_method_18_code (3 : Nat) (Option.some (Jvm.ClassFile.FieldType.object "VectorVersions$Action"))) ∈ lw_all := lw_g (lw_at lw_m5 81 rfl) rfl
theorem q1176 : (Jvm.Cond.methodLink "VectorVersions$Parser" (156 : Nat) ({ cls := "VectorVersions$Parser", name := "versionNumber", desc := "()I" } : Jvm.MethodName)) ∈ lw_all := lw_g (lw_at lw_m5 82 rfl) rfl
theorem q1177 : (Jvm.Cond.privateMethod ({ cls := "VectorVersions$Parser", name := "versionNumber", desc := "()I" } : Jvm.MethodName)) ∈ lw_tbl := lw_at lw_m5 83 rfl
theorem q1178 : (Jvm.Cond.instanceMethod ({ cls := "VectorVersions$Parser", name := "versionNumber", desc := "()I" } : Jvm.MethodName)) ∈ lw_all := lw_g (lw_at lw_m5 84 rfl) rfl
theorem q1179 : (Jvm.Cond.code ({ cls := "VectorVersions$Parser", name := "versionNumber", desc := "()I" } : Jvm.MethodName) prog_11_method_17_code (1 : Nat) (Option.some Jvm.ClassFile.FieldType.int)) ∈ lw_all := lw_g (lw_at lw_m5 85 rfl) rfl
theorem q1180 : (Jvm.Cond.methodLinkNest "VectorVersions$Parser" (159 : Nat) ({ cls := "VectorVersions", name := "setting", desc := "(III)LVectorVersions$Action;" } : Jvm.MethodName) "VectorVersions") ∈ lw_tbl := lw_at lw_m5 86 rfl
theorem q1202 : (Jvm.Cond.methodLink "VectorVersions$Parser" (176 : Nat) ({ cls := "VectorVersions$Parser", name := "append", desc := "()LVectorVersions$Action;" } : Jvm.MethodName)) ∈ lw_all := lw_g (lw_at lw_m5 108 rfl) rfl
theorem q1203 : (Jvm.Cond.privateMethod ({ cls := "VectorVersions$Parser", name := "append", desc := "()LVectorVersions$Action;" } : Jvm.MethodName)) ∈ lw_tbl := lw_at lw_m5 109 rfl
theorem q1204 : (Jvm.Cond.instanceMethod ({ cls := "VectorVersions$Parser", name := "append", desc := "()LVectorVersions$Action;" } : Jvm.MethodName)) ∈ lw_all := lw_g (lw_at lw_m5 110 rfl) rfl
theorem q1205 : (Jvm.Cond.code ({ cls := "VectorVersions$Parser", name := "append", desc := "()LVectorVersions$Action;" } : Jvm.MethodName) prog_11_method_19_code (2 : Nat) (Option.some (Jvm.ClassFile.FieldType.object "VectorVersions$Action"))) ∈ lw_all := lw_g (lw_at lw_m5 111 rfl) rfl
theorem q1206 : (Jvm.Cond.methodLinkNest "VectorVersions$Parser" (163 : Nat) ({ cls := "VectorVersions", name := "appending", desc := "(II)LVectorVersions$Action;" } : Jvm.MethodName) "VectorVersions") ∈ lw_tbl := lw_at lw_m5 112 rfl
theorem q1222 : (Jvm.Cond.methodLink "VectorVersions$Parser" (178 : Nat) ({ cls := "VectorVersions$Parser", name := "truncate", desc := "()LVectorVersions$Action;" } : Jvm.MethodName)) ∈ lw_all := lw_g (lw_at lw_m5 128 rfl) rfl
theorem q1223 : (Jvm.Cond.privateMethod ({ cls := "VectorVersions$Parser", name := "truncate", desc := "()LVectorVersions$Action;" } : Jvm.MethodName)) ∈ lw_tbl := lw_at lw_m5 129 rfl
theorem q1224 : (Jvm.Cond.instanceMethod ({ cls := "VectorVersions$Parser", name := "truncate", desc := "()LVectorVersions$Action;" } : Jvm.MethodName)) ∈ lw_all := lw_g (lw_at lw_m5 130 rfl) rfl
theorem q1225 : (Jvm.Cond.code ({ cls := "VectorVersions$Parser", name := "truncate", desc := "()LVectorVersions$Action;" } : Jvm.MethodName) prog_11_method_20_code (2 : Nat) (Option.some (Jvm.ClassFile.FieldType.object "VectorVersions$Action"))) ∈ lw_all := lw_g (lw_at lw_m5 131 rfl) rfl
theorem q1226 : (Jvm.Cond.methodLinkNest "VectorVersions$Parser" (167 : Nat) ({ cls := "VectorVersions", name := "truncating", desc := "(II)LVectorVersions$Action;" } : Jvm.MethodName) "VectorVersions") ∈ lw_tbl := lw_at lw_m5 132 rfl
theorem q1242 : (Jvm.Cond.methodLinkNest "VectorVersions$Parser" (180 : Nat) ({ cls := "VectorVersions", name := "releasing", desc := "(I)LVectorVersions$Action;" } : Jvm.MethodName) "VectorVersions") ∈ lw_tbl := lw_at lw_m5 148 rfl
theorem q1255 : (Jvm.Cond.methodLinkNest "VectorVersions$Parser" (184 : Nat) ({ cls := "VectorVersions", name := "collecting", desc := "()LVectorVersions$Action;" } : Jvm.MethodName) "VectorVersions") ∈ lw_tbl := lw_at lw_m5 161 rfl
theorem q3147 : (Jvm.Cond.castable "VectorVersions$Parser" "java/lang/Object") ∈ lw_tbl := lw_at lw_m13 133 rfl
theorem in_X9 : ∀ w ∈ wsX90, w ∈ lw_all := lw_in wsX90 [980, 982, 984, 986, 988, 990, 992, 994] (by decide +kernel) (by decide +kernel)
/-! VectorVersions$TextError -/
set_option maxRecDepth 100000
def RX10 : String := "VectorVersions$TextError"
def TX10 : u_T := fun k => match k with
  | 0 => ("java/lang/Throwable", "cause", "Ljava/lang/Throwable;", false)
  | 1 => ("java/lang/Throwable", "stackTrace", "[Ljava/lang/StackTraceElement;", false)
  | 2 => ("java/lang/Throwable", "suppressedExceptions", "Ljava/util/List;", false)
  | 3 => ("java/lang/Throwable", "detailMessage", "Ljava/lang/String;", false)
  | 4 => ("java/lang/Throwable", "backtrace", "Ljava/lang/Object;", false)
  | 5 => ("java/lang/Throwable", "depth", "I", false)
  | 6 => ("VectorVersions$TextError", "code", "I", true)
  | _ => ("VectorVersions$TextError", "offset", "I", true)
def tyX10 : Nat → FieldType := fun k => match k with
  | 0 => .object "java/lang/Throwable"
  | 1 => .array (.object "java/lang/StackTraceElement")
  | 2 => .object "java/util/List"
  | 3 => .object "java/lang/String"
  | 4 => .object "java/lang/Object"
  | 5 => .int
  | 6 => .int
  | _ => .int
abbrev wsX100 : List Cond := u_ws RX10 TX10 8
theorem nmX10 : ∀ a, a < 8 → ∀ b, b < 8 → a ≠ b → (TX10 a).2.1 ≠ (TX10 b).2.1 := by decide +kernel
theorem tyX10_ok : ∀ k, k < 8 → parseFieldDescriptor (TX10 k).2.2.1 = some (tyX10 k) := by decide +kernel
abbrev cX10_init : ByteArray := prog_13_method_1_code
def yX10_init : MethodName := ⟨RX10, "<init>", "(II)V"⟩
def dkwX10_init_0 : List UInt8 := [42, 1, 1, 3, 3, 183, 0, 1, 42, 27, 181, 0, 7, 42, 28, 181, 0, 13, 177]
abbrev dktX10_init_0 : List UInt8 := dkwX10_init_0 ++ []
theorem dksX10_init_0 : cX10_init.data.toList.drop 0 = dktX10_init_0 := by decide +kernel
theorem dX10_init_0 : decode cX10_init 0 = .ok (.aload_n 0, 1) := dk_42 (dk_at dksX10_init_0 0 rfl rfl)
theorem dX10_init_1 : decode cX10_init 1 = .ok (.aconst_null, 1) := dk_1 (dk_at dksX10_init_0 1 rfl rfl)
theorem dX10_init_2 : decode cX10_init 2 = .ok (.aconst_null, 1) := dk_1 (dk_at dksX10_init_0 2 rfl rfl)
theorem dX10_init_3 : decode cX10_init 3 = .ok (.iconst 0, 1) := dk_3 (dk_at dksX10_init_0 3 rfl rfl)
theorem dX10_init_4 : decode cX10_init 4 = .ok (.iconst 0, 1) := dk_3 (dk_at dksX10_init_0 4 rfl rfl)
theorem dX10_init_5 : decode cX10_init 5 = .ok (.invokespecial 1, 3) := dk_183 0 1 (dk_at dksX10_init_0 5 rfl rfl)
theorem dX10_init_8 : decode cX10_init 8 = .ok (.aload_n 0, 1) := dk_42 (dk_at dksX10_init_0 8 rfl rfl)
theorem dX10_init_9 : decode cX10_init 9 = .ok (.iload_n 1, 1) := dk_27 (dk_at dksX10_init_0 9 rfl rfl)
theorem dX10_init_10 : decode cX10_init 10 = .ok (.putfield 7, 3) := dk_181 0 7 (dk_at dksX10_init_0 10 rfl rfl)
theorem dX10_init_13 : decode cX10_init 13 = .ok (.aload_n 0, 1) := dk_42 (dk_at dksX10_init_0 13 rfl rfl)
theorem dX10_init_14 : decode cX10_init 14 = .ok (.iload_n 2, 1) := dk_28 (dk_at dksX10_init_0 14 rfl rfl)
theorem dX10_init_15 : decode cX10_init 15 = .ok (.putfield 13, 3) := dk_181 0 13 (dk_at dksX10_init_0 15 rfl rfl)
theorem dX10_init_18 : decode cX10_init 18 = .ok (.return_, 1) := dk_177 (dk_at dksX10_init_0 18 rfl rfl)
theorem q166 : (Jvm.Cond.initialized "VectorVersions$TextError") ∈ lw_all := lw_g (lw_at lw_m1 32 rfl) rfl
theorem q294 : (Jvm.Cond.selects "VectorVersions$TextError" ({ cls := "java/lang/Object", name := "getClass", desc := "()Ljava/lang/Class;" } : Jvm.MethodName) ({ cls := "java/lang/Object", name := "getClass", desc := "()Ljava/lang/Class;" } : Jvm.MethodName)) ∈ lw_all := lw_g (lw_at lw_m1 160 rfl) rfl
theorem q374 : (Jvm.Cond.selects "VectorVersions$TextError" ({ cls := "java/lang/Throwable", name := "fillInStackTrace", desc := "()Ljava/lang/Throwable;" } : Jvm.MethodName) ({ cls := "java/lang/Throwable", name := "fillInStackTrace", desc := "()Ljava/lang/Throwable;" } : Jvm.MethodName)) ∈ lw_all := lw_g (lw_at lw_m2 0 rfl) rfl
theorem q1021 : (Jvm.Cond.instantiable "VectorVersions$TextError" (8 : Nat)) ∈ lw_all := lw_g (lw_at lw_m4 167 rfl) rfl
theorem q1022 : (Jvm.Cond.castable "VectorVersions$TextError" "VectorVersions$TextError") ∈ lw_tbl := lw_at lw_m4 168 rfl
theorem q1023 : (Jvm.Cond.selects "VectorVersions$TextError" ({ cls := "java/lang/Throwable", name := "fillInStackTrace", desc := "(I)Ljava/lang/Throwable;" } : Jvm.MethodName) ({ cls := "java/lang/Throwable", name := "fillInStackTrace", desc := "(I)Ljava/lang/Throwable;" } : Jvm.MethodName)) ∈ lw_all := lw_g (lw_at lw_m4 169 rfl) rfl
theorem q1024 : (Jvm.Cond.lays "VectorVersions$TextError" "java/lang/Throwable" "cause" "Ljava/lang/Throwable;") ∈ lw_all := lw_g (lw_at lw_m4 170 rfl) rfl
theorem q1025 : (Jvm.Cond.lays "VectorVersions$TextError" "java/lang/Throwable" "stackTrace" "[Ljava/lang/StackTraceElement;") ∈ lw_all := lw_g (lw_at lw_m4 171 rfl) rfl
theorem q1026 : (Jvm.Cond.lays "VectorVersions$TextError" "java/lang/Throwable" "suppressedExceptions" "Ljava/util/List;") ∈ lw_all := lw_g (lw_at lw_m4 172 rfl) rfl
theorem q1027 : (Jvm.Cond.lays "VectorVersions$TextError" "java/lang/Throwable" "detailMessage" "Ljava/lang/String;") ∈ lw_all := lw_g (lw_at lw_m4 173 rfl) rfl
theorem q1028 : (Jvm.Cond.lays "VectorVersions$TextError" "java/lang/Throwable" "backtrace" "Ljava/lang/Object;") ∈ lw_all := lw_g (lw_at lw_m4 174 rfl) rfl
theorem q1030 : (Jvm.Cond.instanceMethod ({ cls := "VectorVersions$TextError", name := "<init>", desc := "(II)V" } : Jvm.MethodName)) ∈ lw_all := lw_g (lw_at lw_m4 176 rfl) rfl
theorem q1031 : (Jvm.Cond.code ({ cls := "VectorVersions$TextError", name := "<init>", desc := "(II)V" } : Jvm.MethodName) prog_13_method_1_code (3 : Nat) (Option.none : Option Jvm.ClassFile.FieldType)) ∈ lw_all := lw_g (lw_at lw_m4 177 rfl) rfl
theorem q1032 : (Jvm.Cond.methodLink "VectorVersions$TextError" (1 : Nat) ({ cls := "java/lang/Exception", name := "<init>", desc := "(Ljava/lang/String;Ljava/lang/Throwable;ZZ)V" } : Jvm.MethodName)) ∈ lw_all := lw_g (lw_at lw_m4 178 rfl) rfl
theorem q1038 : (Jvm.Cond.fieldLink "VectorVersions$TextError" (7 : Nat) "VectorVersions$TextError" "code" "I") ∈ lw_all := lw_g (lw_at lw_m4 184 rfl) rfl
theorem q1040 : (Jvm.Cond.fieldLink "VectorVersions$TextError" (13 : Nat) "VectorVersions$TextError" "offset" "I") ∈ lw_all := lw_g (lw_at lw_m4 186 rfl) rfl
theorem q1042 : (Jvm.Cond.laysFinal "VectorVersions$TextError" "VectorVersions$TextError" "code" "I") ∈ lw_all := lw_g (lw_at lw_m4 188 rfl) rfl
theorem q1043 : (Jvm.Cond.soleField "VectorVersions$TextError" "code") ∈ lw_all := lw_g (lw_at lw_m4 189 rfl) rfl
theorem q1044 : (Jvm.Cond.laysFinal "VectorVersions$TextError" "VectorVersions$TextError" "offset" "I") ∈ lw_all := lw_g (lw_at lw_m4 190 rfl) rfl
theorem q1045 : (Jvm.Cond.soleField "VectorVersions$TextError" "offset") ∈ lw_all := lw_g (lw_at lw_m4 191 rfl) rfl
theorem q1046 : (Jvm.Cond.lays "VectorVersions$TextError" "java/lang/Throwable" "depth" "I") ∈ lw_all := lw_g (lw_at lw_m4 192 rfl) rfl
theorem q1047 : (Jvm.Cond.superclass "VectorVersions$TextError" "java/lang/Exception") ∈ lw_all := lw_g (lw_at lw_m4 193 rfl) rfl
theorem q3148 : (Jvm.Cond.castable "VectorVersions$TextError" "java/lang/Object") ∈ lw_tbl := lw_at lw_m13 134 rfl
theorem in_X10 : ∀ w ∈ wsX100, w ∈ lw_all := lw_in wsX100 [1024, 1025, 1026, 1027, 1028, 1046, 1042, 1044] (by decide +kernel) (by decide +kernel)
/-! VectorVersions$Action -/
set_option maxRecDepth 100000
def RX11 : String := "VectorVersions$Action"
abbrev cX11_init : ByteArray := prog_7_method_1_code
def yX11_init : MethodName := ⟨RX11, "<init>", "()V"⟩
theorem dX11_init_0 : decode cX11_init 0 = .ok (.aload_n 0, 1) := by decide +kernel
theorem dX11_init_1 : decode cX11_init 1 = .ok (.invokespecial 1, 3) := by decide +kernel
theorem dX11_init_4 : decode cX11_init 4 = .ok (.return_, 1) := by decide +kernel
theorem q167 : (Jvm.Cond.initialized "VectorVersions$Action") ∈ lw_all := lw_g (lw_at lw_m1 33 rfl) rfl
theorem q1189 : (Jvm.Cond.instanceMethod ({ cls := "VectorVersions$Action", name := "<init>", desc := "()V" } : Jvm.MethodName)) ∈ lw_all := lw_g (lw_at lw_m5 95 rfl) rfl
theorem q1190 : (Jvm.Cond.code ({ cls := "VectorVersions$Action", name := "<init>", desc := "()V" } : Jvm.MethodName) prog_7_method_1_code (1 : Nat) (Option.none : Option Jvm.ClassFile.FieldType)) ∈ lw_all := lw_g (lw_at lw_m5 96 rfl) rfl
theorem q1191 : (Jvm.Cond.methodLink "VectorVersions$Action" (1 : Nat) ({ cls := "java/lang/Object", name := "<init>", desc := "()V" } : Jvm.MethodName)) ∈ lw_all := lw_g (lw_at lw_m5 97 rfl) rfl
theorem q1365 : (Jvm.Cond.declares ({ cls := "VectorVersions$Action", name := "run", desc := "(LVectorVersions$Store;)I" } : Jvm.MethodName)) ∈ lw_tbl := lw_at lw_m6 31 rfl
theorem q1366 : (Jvm.Cond.sameMethod "VectorVersions$Action" "VectorVersions$Action" "run" "(LVectorVersions$Store;)I") ∈ lw_all := lw_g (lw_at lw_m6 32 rfl) rfl
/-! VectorVersions$1 -/
set_option maxRecDepth 100000
def RX12 : String := "VectorVersions$1"
def TX12 : u_T := fun k => match k with
  | 0 => ("VectorVersions$1", "val$version", "I", true)
  | 1 => ("VectorVersions$1", "val$index", "I", true)
  | _ => ("VectorVersions$1", "val$value", "I", true)
def tyX12 : Nat → FieldType := fun k => match k with
  | 0 => .int
  | 1 => .int
  | _ => .int
abbrev wsX120 : List Cond := u_ws RX12 TX12 3
theorem nmX12 : ∀ a, a < 3 → ∀ b, b < 3 → a ≠ b → (TX12 a).2.1 ≠ (TX12 b).2.1 := by decide +kernel
theorem tyX12_ok : ∀ k, k < 3 → parseFieldDescriptor (TX12 k).2.2.1 = some (tyX12 k) := by decide +kernel
abbrev cX12_init : ByteArray := prog_2_method_1_code
def yX12_init : MethodName := ⟨RX12, "<init>", "(III)V"⟩
def dkwX12_init_0 : List UInt8 := [42, 27, 181, 0, 1, 42, 28, 181, 0, 7, 42, 29, 181, 0, 10, 42, 183, 0, 13, 177]
abbrev dktX12_init_0 : List UInt8 := dkwX12_init_0 ++ []
theorem dksX12_init_0 : cX12_init.data.toList.drop 0 = dktX12_init_0 := by decide +kernel
theorem dX12_init_0 : decode cX12_init 0 = .ok (.aload_n 0, 1) := dk_42 (dk_at dksX12_init_0 0 rfl rfl)
theorem dX12_init_1 : decode cX12_init 1 = .ok (.iload_n 1, 1) := dk_27 (dk_at dksX12_init_0 1 rfl rfl)
theorem dX12_init_2 : decode cX12_init 2 = .ok (.putfield 1, 3) := dk_181 0 1 (dk_at dksX12_init_0 2 rfl rfl)
theorem dX12_init_5 : decode cX12_init 5 = .ok (.aload_n 0, 1) := dk_42 (dk_at dksX12_init_0 5 rfl rfl)
theorem dX12_init_6 : decode cX12_init 6 = .ok (.iload_n 2, 1) := dk_28 (dk_at dksX12_init_0 6 rfl rfl)
theorem dX12_init_7 : decode cX12_init 7 = .ok (.putfield 7, 3) := dk_181 0 7 (dk_at dksX12_init_0 7 rfl rfl)
theorem dX12_init_10 : decode cX12_init 10 = .ok (.aload_n 0, 1) := dk_42 (dk_at dksX12_init_0 10 rfl rfl)
theorem dX12_init_11 : decode cX12_init 11 = .ok (.iload_n 3, 1) := dk_29 (dk_at dksX12_init_0 11 rfl rfl)
theorem dX12_init_12 : decode cX12_init 12 = .ok (.putfield 10, 3) := dk_181 0 10 (dk_at dksX12_init_0 12 rfl rfl)
theorem dX12_init_15 : decode cX12_init 15 = .ok (.aload_n 0, 1) := dk_42 (dk_at dksX12_init_0 15 rfl rfl)
theorem dX12_init_16 : decode cX12_init 16 = .ok (.invokespecial 13, 3) := dk_183 0 13 (dk_at dksX12_init_0 16 rfl rfl)
theorem dX12_init_19 : decode cX12_init 19 = .ok (.return_, 1) := dk_177 (dk_at dksX12_init_0 19 rfl rfl)
abbrev cX12_run : ByteArray := prog_2_method_2_code
def yX12_run : MethodName := ⟨RX12, "run", "(LVectorVersions$Store;)I"⟩
def dkwX12_run_0 : List UInt8 := [43, 42, 180, 0, 1, 42, 180, 0, 7, 42, 180, 0, 10, 182, 0, 19, 172]
abbrev dktX12_run_0 : List UInt8 := dkwX12_run_0 ++ []
theorem dksX12_run_0 : cX12_run.data.toList.drop 0 = dktX12_run_0 := by decide +kernel
theorem dX12_run_0 : decode cX12_run 0 = .ok (.aload_n 1, 1) := dk_43 (dk_at dksX12_run_0 0 rfl rfl)
theorem dX12_run_1 : decode cX12_run 1 = .ok (.aload_n 0, 1) := dk_42 (dk_at dksX12_run_0 1 rfl rfl)
theorem dX12_run_2 : decode cX12_run 2 = .ok (.getfield 1, 3) := dk_180 0 1 (dk_at dksX12_run_0 2 rfl rfl)
theorem dX12_run_5 : decode cX12_run 5 = .ok (.aload_n 0, 1) := dk_42 (dk_at dksX12_run_0 5 rfl rfl)
theorem dX12_run_6 : decode cX12_run 6 = .ok (.getfield 7, 3) := dk_180 0 7 (dk_at dksX12_run_0 6 rfl rfl)
theorem dX12_run_9 : decode cX12_run 9 = .ok (.aload_n 0, 1) := dk_42 (dk_at dksX12_run_0 9 rfl rfl)
theorem dX12_run_10 : decode cX12_run 10 = .ok (.getfield 10, 3) := dk_180 0 10 (dk_at dksX12_run_0 10 rfl rfl)
theorem dX12_run_13 : decode cX12_run 13 = .ok (.invokevirtual 19, 3) := dk_182 0 19 (dk_at dksX12_run_0 13 rfl rfl)
theorem dX12_run_16 : decode cX12_run 16 = .ok (.ireturn, 1) := dk_172 (dk_at dksX12_run_0 16 rfl rfl)
theorem q168 : (Jvm.Cond.initialized "VectorVersions$1") ∈ lw_all := lw_g (lw_at lw_m1 34 rfl) rfl
theorem q285 : (Jvm.Cond.selects "VectorVersions$1" ({ cls := "java/lang/Object", name := "getClass", desc := "()Ljava/lang/Class;" } : Jvm.MethodName) ({ cls := "java/lang/Object", name := "getClass", desc := "()Ljava/lang/Class;" } : Jvm.MethodName)) ∈ lw_all := lw_g (lw_at lw_m1 151 rfl) rfl
theorem q1184 : (Jvm.Cond.instantiable "VectorVersions$1" (3 : Nat)) ∈ lw_all := lw_g (lw_at lw_m5 90 rfl) rfl
theorem q1186 : (Jvm.Cond.instanceMethod ({ cls := "VectorVersions$1", name := "<init>", desc := "(III)V" } : Jvm.MethodName)) ∈ lw_all := lw_g (lw_at lw_m5 92 rfl) rfl
theorem q1187 : (Jvm.Cond.code ({ cls := "VectorVersions$1", name := "<init>", desc := "(III)V" } : Jvm.MethodName) prog_2_method_1_code (4 : Nat) (Option.none : Option Jvm.ClassFile.FieldType)) ∈ lw_all := lw_g (lw_at lw_m5 93 rfl) rfl
theorem q1188 : (Jvm.Cond.methodLinkNest "VectorVersions$1" (13 : Nat) ({ cls := "VectorVersions$Action", name := "<init>", desc := "()V" } : Jvm.MethodName) "VectorVersions") ∈ lw_tbl := lw_at lw_m5 94 rfl
theorem q1192 : (Jvm.Cond.fieldLink "VectorVersions$1" (1 : Nat) "VectorVersions$1" "val$version" "I") ∈ lw_all := lw_g (lw_at lw_m5 98 rfl) rfl
theorem q1193 : (Jvm.Cond.fieldLink "VectorVersions$1" (7 : Nat) "VectorVersions$1" "val$index" "I") ∈ lw_all := lw_g (lw_at lw_m5 99 rfl) rfl
theorem q1194 : (Jvm.Cond.fieldLink "VectorVersions$1" (10 : Nat) "VectorVersions$1" "val$value" "I") ∈ lw_all := lw_g (lw_at lw_m5 100 rfl) rfl
theorem q1195 : (Jvm.Cond.laysFinal "VectorVersions$1" "VectorVersions$1" "val$version" "I") ∈ lw_all := lw_g (lw_at lw_m5 101 rfl) rfl
theorem q1196 : (Jvm.Cond.soleField "VectorVersions$1" "val$version") ∈ lw_all := lw_g (lw_at lw_m5 102 rfl) rfl
theorem q1197 : (Jvm.Cond.laysFinal "VectorVersions$1" "VectorVersions$1" "val$index" "I") ∈ lw_all := lw_g (lw_at lw_m5 103 rfl) rfl
theorem q1198 : (Jvm.Cond.soleField "VectorVersions$1" "val$index") ∈ lw_all := lw_g (lw_at lw_m5 104 rfl) rfl
theorem q1199 : (Jvm.Cond.laysFinal "VectorVersions$1" "VectorVersions$1" "val$value" "I") ∈ lw_all := lw_g (lw_at lw_m5 105 rfl) rfl
theorem q1200 : (Jvm.Cond.soleField "VectorVersions$1" "val$value") ∈ lw_all := lw_g (lw_at lw_m5 106 rfl) rfl
theorem q1201 : (Jvm.Cond.superclass "VectorVersions$1" "VectorVersions$Action") ∈ lw_all := lw_g (lw_at lw_m5 107 rfl) rfl
theorem q1367 : (Jvm.Cond.selects "VectorVersions$1" ({ cls := "VectorVersions$Action", name := "run", desc := "(LVectorVersions$Store;)I" } : Jvm.MethodName) ({ cls := "VectorVersions$1", name := "run", desc := "(LVectorVersions$Store;)I" } : Jvm.MethodName)) ∈ lw_all := lw_g (lw_at lw_m6 33 rfl) rfl
theorem q1368 : (Jvm.Cond.instanceMethod ({ cls := "VectorVersions$1", name := "run", desc := "(LVectorVersions$Store;)I" } : Jvm.MethodName)) ∈ lw_all := lw_g (lw_at lw_m6 34 rfl) rfl
theorem q1369 : (Jvm.Cond.code ({ cls := "VectorVersions$1", name := "run", desc := "(LVectorVersions$Store;)I" } : Jvm.MethodName) prog_2_method_2_code (2 : Nat) (Option.some Jvm.ClassFile.FieldType.int)) ∈ lw_all := lw_g (lw_at lw_m6 35 rfl) rfl
theorem q1370 : (Jvm.Cond.methodLink "VectorVersions$1" (19 : Nat) ({ cls := "VectorVersions$Store", name := "set", desc := "(III)I" } : Jvm.MethodName)) ∈ lw_all := lw_g (lw_at lw_m6 36 rfl) rfl
theorem q3129 : (Jvm.Cond.castable "VectorVersions$1" "VectorVersions$Action") ∈ lw_tbl := lw_at lw_m13 115 rfl
theorem q3150 : (Jvm.Cond.castable "VectorVersions$1" "java/lang/Object") ∈ lw_tbl := lw_at lw_m13 136 rfl
theorem in_X12 : ∀ w ∈ wsX120, w ∈ lw_all := lw_in wsX120 [1195, 1197, 1199] (by decide +kernel) (by decide +kernel)
/-! VectorVersions$2 -/
set_option maxRecDepth 100000
def RX13 : String := "VectorVersions$2"
def TX13 : u_T := fun k => match k with
  | 0 => ("VectorVersions$2", "val$version", "I", true)
  | _ => ("VectorVersions$2", "val$value", "I", true)
def tyX13 : Nat → FieldType := fun k => match k with
  | 0 => .int
  | _ => .int
abbrev wsX130 : List Cond := u_ws RX13 TX13 2
theorem nmX13 : ∀ a, a < 2 → ∀ b, b < 2 → a ≠ b → (TX13 a).2.1 ≠ (TX13 b).2.1 := by decide +kernel
theorem tyX13_ok : ∀ k, k < 2 → parseFieldDescriptor (TX13 k).2.2.1 = some (tyX13 k) := by decide +kernel
abbrev cX13_init : ByteArray := prog_3_method_1_code
def yX13_init : MethodName := ⟨RX13, "<init>", "(II)V"⟩
def dkwX13_init_0 : List UInt8 := [42, 27, 181, 0, 1, 42, 28, 181, 0, 7, 42, 183, 0, 10, 177]
abbrev dktX13_init_0 : List UInt8 := dkwX13_init_0 ++ []
theorem dksX13_init_0 : cX13_init.data.toList.drop 0 = dktX13_init_0 := by decide +kernel
theorem dX13_init_0 : decode cX13_init 0 = .ok (.aload_n 0, 1) := dk_42 (dk_at dksX13_init_0 0 rfl rfl)
theorem dX13_init_1 : decode cX13_init 1 = .ok (.iload_n 1, 1) := dk_27 (dk_at dksX13_init_0 1 rfl rfl)
theorem dX13_init_2 : decode cX13_init 2 = .ok (.putfield 1, 3) := dk_181 0 1 (dk_at dksX13_init_0 2 rfl rfl)
theorem dX13_init_5 : decode cX13_init 5 = .ok (.aload_n 0, 1) := dk_42 (dk_at dksX13_init_0 5 rfl rfl)
theorem dX13_init_6 : decode cX13_init 6 = .ok (.iload_n 2, 1) := dk_28 (dk_at dksX13_init_0 6 rfl rfl)
theorem dX13_init_7 : decode cX13_init 7 = .ok (.putfield 7, 3) := dk_181 0 7 (dk_at dksX13_init_0 7 rfl rfl)
theorem dX13_init_10 : decode cX13_init 10 = .ok (.aload_n 0, 1) := dk_42 (dk_at dksX13_init_0 10 rfl rfl)
theorem dX13_init_11 : decode cX13_init 11 = .ok (.invokespecial 10, 3) := dk_183 0 10 (dk_at dksX13_init_0 11 rfl rfl)
theorem dX13_init_14 : decode cX13_init 14 = .ok (.return_, 1) := dk_177 (dk_at dksX13_init_0 14 rfl rfl)
abbrev cX13_run : ByteArray := prog_3_method_2_code
def yX13_run : MethodName := ⟨RX13, "run", "(LVectorVersions$Store;)I"⟩
def dkwX13_run_0 : List UInt8 := [43, 42, 180, 0, 1, 42, 180, 0, 7, 182, 0, 16, 172]
abbrev dktX13_run_0 : List UInt8 := dkwX13_run_0 ++ []
theorem dksX13_run_0 : cX13_run.data.toList.drop 0 = dktX13_run_0 := by decide +kernel
theorem dX13_run_0 : decode cX13_run 0 = .ok (.aload_n 1, 1) := dk_43 (dk_at dksX13_run_0 0 rfl rfl)
theorem dX13_run_1 : decode cX13_run 1 = .ok (.aload_n 0, 1) := dk_42 (dk_at dksX13_run_0 1 rfl rfl)
theorem dX13_run_2 : decode cX13_run 2 = .ok (.getfield 1, 3) := dk_180 0 1 (dk_at dksX13_run_0 2 rfl rfl)
theorem dX13_run_5 : decode cX13_run 5 = .ok (.aload_n 0, 1) := dk_42 (dk_at dksX13_run_0 5 rfl rfl)
theorem dX13_run_6 : decode cX13_run 6 = .ok (.getfield 7, 3) := dk_180 0 7 (dk_at dksX13_run_0 6 rfl rfl)
theorem dX13_run_9 : decode cX13_run 9 = .ok (.invokevirtual 16, 3) := dk_182 0 16 (dk_at dksX13_run_0 9 rfl rfl)
theorem dX13_run_12 : decode cX13_run 12 = .ok (.ireturn, 1) := dk_172 (dk_at dksX13_run_0 12 rfl rfl)
theorem q169 : (Jvm.Cond.initialized "VectorVersions$2") ∈ lw_all := lw_g (lw_at lw_m1 35 rfl) rfl
theorem q286 : (Jvm.Cond.selects "VectorVersions$2" ({ cls := "java/lang/Object", name := "getClass", desc := "()Ljava/lang/Class;" } : Jvm.MethodName) ({ cls := "java/lang/Object", name := "getClass", desc := "()Ljava/lang/Class;" } : Jvm.MethodName)) ∈ lw_all := lw_g (lw_at lw_m1 152 rfl) rfl
theorem q1210 : (Jvm.Cond.instantiable "VectorVersions$2" (2 : Nat)) ∈ lw_all := lw_g (lw_at lw_m5 116 rfl) rfl
theorem q1212 : (Jvm.Cond.instanceMethod ({ cls := "VectorVersions$2", name := "<init>", desc := "(II)V" } : Jvm.MethodName)) ∈ lw_all := lw_g (lw_at lw_m5 118 rfl) rfl
theorem q1213 : (Jvm.Cond.code ({ cls := "VectorVersions$2", name := "<init>", desc := "(II)V" } : Jvm.MethodName) prog_3_method_1_code (3 : Nat) (Option.none : Option Jvm.ClassFile.FieldType)) ∈ lw_all := lw_g (lw_at lw_m5 119 rfl) rfl
theorem q1214 : (Jvm.Cond.methodLinkNest "VectorVersions$2" (10 : Nat) ({ cls := "VectorVersions$Action", name := "<init>", desc := "()V" } : Jvm.MethodName) "VectorVersions") ∈ lw_tbl := lw_at lw_m5 120 rfl
theorem q1215 : (Jvm.Cond.fieldLink "VectorVersions$2" (1 : Nat) "VectorVersions$2" "val$version" "I") ∈ lw_all := lw_g (lw_at lw_m5 121 rfl) rfl
theorem q1216 : (Jvm.Cond.fieldLink "VectorVersions$2" (7 : Nat) "VectorVersions$2" "val$value" "I") ∈ lw_all := lw_g (lw_at lw_m5 122 rfl) rfl
theorem q1217 : (Jvm.Cond.laysFinal "VectorVersions$2" "VectorVersions$2" "val$version" "I") ∈ lw_all := lw_g (lw_at lw_m5 123 rfl) rfl
theorem q1218 : (Jvm.Cond.soleField "VectorVersions$2" "val$version") ∈ lw_all := lw_g (lw_at lw_m5 124 rfl) rfl
theorem q1219 : (Jvm.Cond.laysFinal "VectorVersions$2" "VectorVersions$2" "val$value" "I") ∈ lw_all := lw_g (lw_at lw_m5 125 rfl) rfl
theorem q1220 : (Jvm.Cond.soleField "VectorVersions$2" "val$value") ∈ lw_all := lw_g (lw_at lw_m5 126 rfl) rfl
theorem q1221 : (Jvm.Cond.superclass "VectorVersions$2" "VectorVersions$Action") ∈ lw_all := lw_g (lw_at lw_m5 127 rfl) rfl
theorem q1489 : (Jvm.Cond.selects "VectorVersions$2" ({ cls := "VectorVersions$Action", name := "run", desc := "(LVectorVersions$Store;)I" } : Jvm.MethodName) ({ cls := "VectorVersions$2", name := "run", desc := "(LVectorVersions$Store;)I" } : Jvm.MethodName)) ∈ lw_all := lw_g (lw_at lw_m6 155 rfl) rfl
theorem q1490 : (Jvm.Cond.instanceMethod ({ cls := "VectorVersions$2", name := "run", desc := "(LVectorVersions$Store;)I" } : Jvm.MethodName)) ∈ lw_all := lw_g (lw_at lw_m6 156 rfl) rfl
theorem q1491 : (Jvm.Cond.code ({ cls := "VectorVersions$2", name := "run", desc := "(LVectorVersions$Store;)I" } : Jvm.MethodName) prog_3_method_2_code (2 : Nat) (Option.some Jvm.ClassFile.FieldType.int)) ∈ lw_all := lw_g (lw_at lw_m6 157 rfl) rfl
theorem q1492 : (Jvm.Cond.methodLink "VectorVersions$2" (16 : Nat) ({ cls := "VectorVersions$Store", name := "append", desc := "(II)I" } : Jvm.MethodName)) ∈ lw_all := lw_g (lw_at lw_m6 158 rfl) rfl
theorem q3130 : (Jvm.Cond.castable "VectorVersions$2" "VectorVersions$Action") ∈ lw_tbl := lw_at lw_m13 116 rfl
theorem q3151 : (Jvm.Cond.castable "VectorVersions$2" "java/lang/Object") ∈ lw_tbl := lw_at lw_m13 137 rfl
theorem in_X13 : ∀ w ∈ wsX130, w ∈ lw_all := lw_in wsX130 [1217, 1219] (by decide +kernel) (by decide +kernel)
/-! VectorVersions$3 -/
set_option maxRecDepth 100000
def RX14 : String := "VectorVersions$3"
def TX14 : u_T := fun k => match k with
  | 0 => ("VectorVersions$3", "val$version", "I", true)
  | _ => ("VectorVersions$3", "val$size", "I", true)
def tyX14 : Nat → FieldType := fun k => match k with
  | 0 => .int
  | _ => .int
abbrev wsX140 : List Cond := u_ws RX14 TX14 2
theorem nmX14 : ∀ a, a < 2 → ∀ b, b < 2 → a ≠ b → (TX14 a).2.1 ≠ (TX14 b).2.1 := by decide +kernel
theorem tyX14_ok : ∀ k, k < 2 → parseFieldDescriptor (TX14 k).2.2.1 = some (tyX14 k) := by decide +kernel
abbrev cX14_init : ByteArray := prog_4_method_1_code
def yX14_init : MethodName := ⟨RX14, "<init>", "(II)V"⟩
def dkwX14_init_0 : List UInt8 := [42, 27, 181, 0, 1, 42, 28, 181, 0, 7, 42, 183, 0, 10, 177]
abbrev dktX14_init_0 : List UInt8 := dkwX14_init_0 ++ []
theorem dksX14_init_0 : cX14_init.data.toList.drop 0 = dktX14_init_0 := by decide +kernel
theorem dX14_init_0 : decode cX14_init 0 = .ok (.aload_n 0, 1) := dk_42 (dk_at dksX14_init_0 0 rfl rfl)
theorem dX14_init_1 : decode cX14_init 1 = .ok (.iload_n 1, 1) := dk_27 (dk_at dksX14_init_0 1 rfl rfl)
theorem dX14_init_2 : decode cX14_init 2 = .ok (.putfield 1, 3) := dk_181 0 1 (dk_at dksX14_init_0 2 rfl rfl)
theorem dX14_init_5 : decode cX14_init 5 = .ok (.aload_n 0, 1) := dk_42 (dk_at dksX14_init_0 5 rfl rfl)
theorem dX14_init_6 : decode cX14_init 6 = .ok (.iload_n 2, 1) := dk_28 (dk_at dksX14_init_0 6 rfl rfl)
theorem dX14_init_7 : decode cX14_init 7 = .ok (.putfield 7, 3) := dk_181 0 7 (dk_at dksX14_init_0 7 rfl rfl)
theorem dX14_init_10 : decode cX14_init 10 = .ok (.aload_n 0, 1) := dk_42 (dk_at dksX14_init_0 10 rfl rfl)
theorem dX14_init_11 : decode cX14_init 11 = .ok (.invokespecial 10, 3) := dk_183 0 10 (dk_at dksX14_init_0 11 rfl rfl)
theorem dX14_init_14 : decode cX14_init 14 = .ok (.return_, 1) := dk_177 (dk_at dksX14_init_0 14 rfl rfl)
abbrev cX14_run : ByteArray := prog_4_method_2_code
def yX14_run : MethodName := ⟨RX14, "run", "(LVectorVersions$Store;)I"⟩
def dkwX14_run_0 : List UInt8 := [43, 42, 180, 0, 1, 42, 180, 0, 7, 182, 0, 16, 172]
abbrev dktX14_run_0 : List UInt8 := dkwX14_run_0 ++ []
theorem dksX14_run_0 : cX14_run.data.toList.drop 0 = dktX14_run_0 := by decide +kernel
theorem dX14_run_0 : decode cX14_run 0 = .ok (.aload_n 1, 1) := dk_43 (dk_at dksX14_run_0 0 rfl rfl)
theorem dX14_run_1 : decode cX14_run 1 = .ok (.aload_n 0, 1) := dk_42 (dk_at dksX14_run_0 1 rfl rfl)
theorem dX14_run_2 : decode cX14_run 2 = .ok (.getfield 1, 3) := dk_180 0 1 (dk_at dksX14_run_0 2 rfl rfl)
theorem dX14_run_5 : decode cX14_run 5 = .ok (.aload_n 0, 1) := dk_42 (dk_at dksX14_run_0 5 rfl rfl)
theorem dX14_run_6 : decode cX14_run 6 = .ok (.getfield 7, 3) := dk_180 0 7 (dk_at dksX14_run_0 6 rfl rfl)
theorem dX14_run_9 : decode cX14_run 9 = .ok (.invokevirtual 16, 3) := dk_182 0 16 (dk_at dksX14_run_0 9 rfl rfl)
theorem dX14_run_12 : decode cX14_run 12 = .ok (.ireturn, 1) := dk_172 (dk_at dksX14_run_0 12 rfl rfl)
theorem q170 : (Jvm.Cond.initialized "VectorVersions$3") ∈ lw_all := lw_g (lw_at lw_m1 36 rfl) rfl
theorem q287 : (Jvm.Cond.selects "VectorVersions$3" ({ cls := "java/lang/Object", name := "getClass", desc := "()Ljava/lang/Class;" } : Jvm.MethodName) ({ cls := "java/lang/Object", name := "getClass", desc := "()Ljava/lang/Class;" } : Jvm.MethodName)) ∈ lw_all := lw_g (lw_at lw_m1 153 rfl) rfl
theorem q1230 : (Jvm.Cond.instantiable "VectorVersions$3" (2 : Nat)) ∈ lw_all := lw_g (lw_at lw_m5 136 rfl) rfl
theorem q1232 : (Jvm.Cond.instanceMethod ({ cls := "VectorVersions$3", name := "<init>", desc := "(II)V" } : Jvm.MethodName)) ∈ lw_all := lw_g (lw_at lw_m5 138 rfl) rfl
theorem q1233 : (Jvm.Cond.code ({ cls := "VectorVersions$3", name := "<init>", desc := "(II)V" } : Jvm.MethodName) prog_4_method_1_code (3 : Nat) (Option.none : Option Jvm.ClassFile.FieldType)) ∈ lw_all := lw_g (lw_at lw_m5 139 rfl) rfl
theorem q1234 : (Jvm.Cond.methodLinkNest "VectorVersions$3" (10 : Nat) ({ cls := "VectorVersions$Action", name := "<init>", desc := "()V" } : Jvm.MethodName) "VectorVersions") ∈ lw_tbl := lw_at lw_m5 140 rfl
theorem q1235 : (Jvm.Cond.fieldLink "VectorVersions$3" (1 : Nat) "VectorVersions$3" "val$version" "I") ∈ lw_all := lw_g (lw_at lw_m5 141 rfl) rfl
theorem q1236 : (Jvm.Cond.fieldLink "VectorVersions$3" (7 : Nat) "VectorVersions$3" "val$size" "I") ∈ lw_all := lw_g (lw_at lw_m5 142 rfl) rfl
theorem q1237 : (Jvm.Cond.laysFinal "VectorVersions$3" "VectorVersions$3" "val$version" "I") ∈ lw_all := lw_g (lw_at lw_m5 143 rfl) rfl
theorem q1238 : (Jvm.Cond.soleField "VectorVersions$3" "val$version") ∈ lw_all := lw_g (lw_at lw_m5 144 rfl) rfl
theorem q1239 : (Jvm.Cond.laysFinal "VectorVersions$3" "VectorVersions$3" "val$size" "I") ∈ lw_all := lw_g (lw_at lw_m5 145 rfl) rfl
theorem q1240 : (Jvm.Cond.soleField "VectorVersions$3" "val$size") ∈ lw_all := lw_g (lw_at lw_m5 146 rfl) rfl
theorem q1241 : (Jvm.Cond.superclass "VectorVersions$3" "VectorVersions$Action") ∈ lw_all := lw_g (lw_at lw_m5 147 rfl) rfl
theorem q1500 : (Jvm.Cond.selects "VectorVersions$3" ({ cls := "VectorVersions$Action", name := "run", desc := "(LVectorVersions$Store;)I" } : Jvm.MethodName) ({ cls := "VectorVersions$3", name := "run", desc := "(LVectorVersions$Store;)I" } : Jvm.MethodName)) ∈ lw_all := lw_g (lw_at lw_m6 166 rfl) rfl
theorem q1501 : (Jvm.Cond.instanceMethod ({ cls := "VectorVersions$3", name := "run", desc := "(LVectorVersions$Store;)I" } : Jvm.MethodName)) ∈ lw_all := lw_g (lw_at lw_m6 167 rfl) rfl
theorem q1502 : (Jvm.Cond.code ({ cls := "VectorVersions$3", name := "run", desc := "(LVectorVersions$Store;)I" } : Jvm.MethodName) prog_4_method_2_code (2 : Nat) (Option.some Jvm.ClassFile.FieldType.int)) ∈ lw_all := lw_g (lw_at lw_m6 168 rfl) rfl
theorem q1503 : (Jvm.Cond.methodLink "VectorVersions$3" (16 : Nat) ({ cls := "VectorVersions$Store", name := "truncate", desc := "(II)I" } : Jvm.MethodName)) ∈ lw_all := lw_g (lw_at lw_m6 169 rfl) rfl
theorem q3131 : (Jvm.Cond.castable "VectorVersions$3" "VectorVersions$Action") ∈ lw_tbl := lw_at lw_m13 117 rfl
theorem q3152 : (Jvm.Cond.castable "VectorVersions$3" "java/lang/Object") ∈ lw_tbl := lw_at lw_m13 138 rfl
theorem in_X14 : ∀ w ∈ wsX140, w ∈ lw_all := lw_in wsX140 [1237, 1239] (by decide +kernel) (by decide +kernel)
/-! VectorVersions$4 -/
set_option maxRecDepth 100000
def RX15 : String := "VectorVersions$4"
def TX15 : u_T := fun k => match k with
  | _ => ("VectorVersions$4", "val$version", "I", true)
def tyX15 : Nat → FieldType := fun k => match k with
  | _ => .int
abbrev wsX150 : List Cond := u_ws RX15 TX15 1
theorem nmX15 : ∀ a, a < 1 → ∀ b, b < 1 → a ≠ b → (TX15 a).2.1 ≠ (TX15 b).2.1 := by decide +kernel
theorem tyX15_ok : ∀ k, k < 1 → parseFieldDescriptor (TX15 k).2.2.1 = some (tyX15 k) := by decide +kernel
abbrev cX15_init : ByteArray := prog_5_method_1_code
def yX15_init : MethodName := ⟨RX15, "<init>", "(I)V"⟩
def dkwX15_init_0 : List UInt8 := [42, 27, 181, 0, 1, 42, 183, 0, 7, 177]
abbrev dktX15_init_0 : List UInt8 := dkwX15_init_0 ++ []
theorem dksX15_init_0 : cX15_init.data.toList.drop 0 = dktX15_init_0 := by decide +kernel
theorem dX15_init_0 : decode cX15_init 0 = .ok (.aload_n 0, 1) := dk_42 (dk_at dksX15_init_0 0 rfl rfl)
theorem dX15_init_1 : decode cX15_init 1 = .ok (.iload_n 1, 1) := dk_27 (dk_at dksX15_init_0 1 rfl rfl)
theorem dX15_init_2 : decode cX15_init 2 = .ok (.putfield 1, 3) := dk_181 0 1 (dk_at dksX15_init_0 2 rfl rfl)
theorem dX15_init_5 : decode cX15_init 5 = .ok (.aload_n 0, 1) := dk_42 (dk_at dksX15_init_0 5 rfl rfl)
theorem dX15_init_6 : decode cX15_init 6 = .ok (.invokespecial 7, 3) := dk_183 0 7 (dk_at dksX15_init_0 6 rfl rfl)
theorem dX15_init_9 : decode cX15_init 9 = .ok (.return_, 1) := dk_177 (dk_at dksX15_init_0 9 rfl rfl)
abbrev cX15_run : ByteArray := prog_5_method_2_code
def yX15_run : MethodName := ⟨RX15, "run", "(LVectorVersions$Store;)I"⟩
def dkwX15_run_0 : List UInt8 := [43, 42, 180, 0, 1, 182, 0, 13, 172]
abbrev dktX15_run_0 : List UInt8 := dkwX15_run_0 ++ []
theorem dksX15_run_0 : cX15_run.data.toList.drop 0 = dktX15_run_0 := by decide +kernel
theorem dX15_run_0 : decode cX15_run 0 = .ok (.aload_n 1, 1) := dk_43 (dk_at dksX15_run_0 0 rfl rfl)
theorem dX15_run_1 : decode cX15_run 1 = .ok (.aload_n 0, 1) := dk_42 (dk_at dksX15_run_0 1 rfl rfl)
theorem dX15_run_2 : decode cX15_run 2 = .ok (.getfield 1, 3) := dk_180 0 1 (dk_at dksX15_run_0 2 rfl rfl)
theorem dX15_run_5 : decode cX15_run 5 = .ok (.invokevirtual 13, 3) := dk_182 0 13 (dk_at dksX15_run_0 5 rfl rfl)
theorem dX15_run_8 : decode cX15_run 8 = .ok (.ireturn, 1) := dk_172 (dk_at dksX15_run_0 8 rfl rfl)
theorem q171 : (Jvm.Cond.initialized "VectorVersions$4") ∈ lw_all := lw_g (lw_at lw_m1 37 rfl) rfl
theorem q288 : (Jvm.Cond.selects "VectorVersions$4" ({ cls := "java/lang/Object", name := "getClass", desc := "()Ljava/lang/Class;" } : Jvm.MethodName) ({ cls := "java/lang/Object", name := "getClass", desc := "()Ljava/lang/Class;" } : Jvm.MethodName)) ∈ lw_all := lw_g (lw_at lw_m1 154 rfl) rfl
theorem q1246 : (Jvm.Cond.instantiable "VectorVersions$4" (1 : Nat)) ∈ lw_all := lw_g (lw_at lw_m5 152 rfl) rfl
theorem q1248 : (Jvm.Cond.instanceMethod ({ cls := "VectorVersions$4", name := "<init>", desc := "(I)V" } : Jvm.MethodName)) ∈ lw_all := lw_g (lw_at lw_m5 154 rfl) rfl
theorem q1249 : (Jvm.Cond.code ({ cls := "VectorVersions$4", name := "<init>", desc := "(I)V" } : Jvm.MethodName) prog_5_method_1_code (2 : Nat) (Option.none : Option Jvm.ClassFile.FieldType)) ∈ lw_all := lw_g (lw_at lw_m5 155 rfl) rfl
theorem q1250 : (Jvm.Cond.methodLinkNest "VectorVersions$4" (7 : Nat) ({ cls := "VectorVersions$Action", name := "<init>", desc := "()V" } : Jvm.MethodName) "VectorVersions") ∈ lw_tbl := lw_at lw_m5 156 rfl
theorem q1251 : (Jvm.Cond.fieldLink "VectorVersions$4" (1 : Nat) "VectorVersions$4" "val$version" "I") ∈ lw_all := lw_g (lw_at lw_m5 157 rfl) rfl
theorem q1252 : (Jvm.Cond.laysFinal "VectorVersions$4" "VectorVersions$4" "val$version" "I") ∈ lw_all := lw_g (lw_at lw_m5 158 rfl) rfl
theorem q1253 : (Jvm.Cond.soleField "VectorVersions$4" "val$version") ∈ lw_all := lw_g (lw_at lw_m5 159 rfl) rfl
theorem q1254 : (Jvm.Cond.superclass "VectorVersions$4" "VectorVersions$Action") ∈ lw_all := lw_g (lw_at lw_m5 160 rfl) rfl
theorem q1511 : (Jvm.Cond.selects "VectorVersions$4" ({ cls := "VectorVersions$Action", name := "run", desc := "(LVectorVersions$Store;)I" } : Jvm.MethodName) ({ cls := "VectorVersions$4", name := "run", desc := "(LVectorVersions$Store;)I" } : Jvm.MethodName)) ∈ lw_all := lw_g (lw_at lw_m6 177 rfl) rfl
theorem q1512 : (Jvm.Cond.instanceMethod ({ cls := "VectorVersions$4", name := "run", desc := "(LVectorVersions$Store;)I" } : Jvm.MethodName)) ∈ lw_all := lw_g (lw_at lw_m6 178 rfl) rfl
theorem q1513 : (Jvm.Cond.code ({ cls := "VectorVersions$4", name := "run", desc := "(LVectorVersions$Store;)I" } : Jvm.MethodName) prog_5_method_2_code (2 : Nat) (Option.some Jvm.ClassFile.FieldType.int)) ∈ lw_all := lw_g (lw_at lw_m6 179 rfl) rfl
theorem q1514 : (Jvm.Cond.methodLink "VectorVersions$4" (13 : Nat) ({ cls := "VectorVersions$Store", name := "release", desc := "(I)I" } : Jvm.MethodName)) ∈ lw_all := lw_g (lw_at lw_m6 180 rfl) rfl
theorem q3132 : (Jvm.Cond.castable "VectorVersions$4" "VectorVersions$Action") ∈ lw_tbl := lw_at lw_m13 118 rfl
theorem q3153 : (Jvm.Cond.castable "VectorVersions$4" "java/lang/Object") ∈ lw_tbl := lw_at lw_m13 139 rfl
theorem in_X15 : ∀ w ∈ wsX150, w ∈ lw_all := lw_in wsX150 [1252] (by decide +kernel) (by decide +kernel)
/-! VectorVersions$5 -/
set_option maxRecDepth 100000
def RX16 : String := "VectorVersions$5"
abbrev cX16_init : ByteArray := prog_6_method_1_code
def yX16_init : MethodName := ⟨RX16, "<init>", "()V"⟩
theorem dX16_init_0 : decode cX16_init 0 = .ok (.aload_n 0, 1) := by decide +kernel
theorem dX16_init_1 : decode cX16_init 1 = .ok (.invokespecial 1, 3) := by decide +kernel
theorem dX16_init_4 : decode cX16_init 4 = .ok (.return_, 1) := by decide +kernel
abbrev cX16_run : ByteArray := prog_6_method_2_code
def yX16_run : MethodName := ⟨RX16, "run", "(LVectorVersions$Store;)I"⟩
theorem dX16_run_0 : decode cX16_run 0 = .ok (.aload_n 1, 1) := by decide +kernel
theorem dX16_run_1 : decode cX16_run 1 = .ok (.invokevirtual 7, 3) := by decide +kernel
theorem dX16_run_4 : decode cX16_run 4 = .ok (.ireturn, 1) := by decide +kernel
theorem q172 : (Jvm.Cond.initialized "VectorVersions$5") ∈ lw_all := lw_g (lw_at lw_m1 38 rfl) rfl
theorem q289 : (Jvm.Cond.selects "VectorVersions$5" ({ cls := "java/lang/Object", name := "getClass", desc := "()Ljava/lang/Class;" } : Jvm.MethodName) ({ cls := "java/lang/Object", name := "getClass", desc := "()Ljava/lang/Class;" } : Jvm.MethodName)) ∈ lw_all := lw_g (lw_at lw_m1 155 rfl) rfl
theorem q1259 : (Jvm.Cond.instantiable "VectorVersions$5" (0 : Nat)) ∈ lw_all := lw_g (lw_at lw_m5 165 rfl) rfl
theorem q1261 : (Jvm.Cond.instanceMethod ({ cls := "VectorVersions$5", name := "<init>", desc := "()V" } : Jvm.MethodName)) ∈ lw_all := lw_g (lw_at lw_m5 167 rfl) rfl
theorem q1262 : (Jvm.Cond.code ({ cls := "VectorVersions$5", name := "<init>", desc := "()V" } : Jvm.MethodName) prog_6_method_1_code (1 : Nat) (Option.none : Option Jvm.ClassFile.FieldType)) ∈ lw_all := lw_g (lw_at lw_m5 168 rfl) rfl
theorem q1263 : (Jvm.Cond.methodLinkNest "VectorVersions$5" (1 : Nat) ({ cls := "VectorVersions$Action", name := "<init>", desc := "()V" } : Jvm.MethodName) "VectorVersions") ∈ lw_tbl := lw_at lw_m5 169 rfl
theorem q1264 : (Jvm.Cond.superclass "VectorVersions$5" "VectorVersions$Action") ∈ lw_all := lw_g (lw_at lw_m5 170 rfl) rfl
theorem q1543 : (Jvm.Cond.selects "VectorVersions$5" ({ cls := "VectorVersions$Action", name := "run", desc := "(LVectorVersions$Store;)I" } : Jvm.MethodName) ({ cls := "VectorVersions$5", name := "run", desc := "(LVectorVersions$Store;)I" } : Jvm.MethodName)) ∈ lw_all := lw_g (lw_at lw_m6 209 rfl) rfl
theorem q1544 : (Jvm.Cond.instanceMethod ({ cls := "VectorVersions$5", name := "run", desc := "(LVectorVersions$Store;)I" } : Jvm.MethodName)) ∈ lw_all := lw_g (lw_at lw_m6 210 rfl) rfl
theorem q1545 : (Jvm.Cond.code ({ cls := "VectorVersions$5", name := "run", desc := "(LVectorVersions$Store;)I" } : Jvm.MethodName) prog_6_method_2_code (2 : Nat) (Option.some Jvm.ClassFile.FieldType.int)) ∈ lw_all := lw_g (lw_at lw_m6 211 rfl) rfl
theorem q1546 : (Jvm.Cond.methodLink "VectorVersions$5" (7 : Nat) ({ cls := "VectorVersions$Store", name := "collect", desc := "()I" } : Jvm.MethodName)) ∈ lw_all := lw_g (lw_at lw_m6 212 rfl) rfl
theorem q3133 : (Jvm.Cond.castable "VectorVersions$5" "VectorVersions$Action") ∈ lw_tbl := lw_at lw_m13 119 rfl
theorem q3154 : (Jvm.Cond.castable "VectorVersions$5" "java/lang/Object") ∈ lw_tbl := lw_at lw_m13 140 rfl
/-! VectorVersions$Tree$Elements -/
set_option maxRecDepth 100000
def RX17 : String := "VectorVersions$Tree$Elements"
def TX17 : u_T := fun k => match k with
  | 0 => ("VectorVersions$Tree$Elements", "open", "Ljava/util/ArrayDeque;", true)
  | 1 => ("VectorVersions$Tree$Elements", "current", "LVectorVersions$Node;", false)
  | 2 => ("VectorVersions$Tree$Elements", "next", "I", false)
  | _ => ("VectorVersions$Tree$Elements", "this$0", "LVectorVersions$Tree;", true)
def tyX17 : Nat → FieldType := fun k => match k with
  | 0 => .object "java/util/ArrayDeque"
  | 1 => .object "VectorVersions$Node"
  | 2 => .int
  | _ => .object "VectorVersions$Tree"
abbrev wsX170 : List Cond := u_ws RX17 TX17 4
theorem nmX17 : ∀ a, a < 4 → ∀ b, b < 4 → a ≠ b → (TX17 a).2.1 ≠ (TX17 b).2.1 := by decide +kernel
theorem tyX17_ok : ∀ k, k < 4 → parseFieldDescriptor (TX17 k).2.2.1 = some (tyX17 k) := by decide +kernel
abbrev cX17_hasNext : ByteArray := prog_15_method_3_code
def yX17_hasNext : MethodName := ⟨RX17, "hasNext", "()Z"⟩
def dkwX17_hasNext_0 : List UInt8 := [42, 180, 0, 33, 198, 0, 7, 4, 167, 0, 4, 3, 172]
abbrev dktX17_hasNext_0 : List UInt8 := dkwX17_hasNext_0 ++ []
theorem dksX17_hasNext_0 : cX17_hasNext.data.toList.drop 0 = dktX17_hasNext_0 := by decide +kernel
theorem dX17_hasNext_0 : decode cX17_hasNext 0 = .ok (.aload_n 0, 1) := dk_42 (dk_at dksX17_hasNext_0 0 rfl rfl)
theorem dX17_hasNext_1 : decode cX17_hasNext 1 = .ok (.getfield 33, 3) := dk_180 0 33 (dk_at dksX17_hasNext_0 1 rfl rfl)
theorem dX17_hasNext_4 : decode cX17_hasNext 4 = .ok (.ifnull 7, 3) := dk_198 0 7 (dk_at dksX17_hasNext_0 4 rfl rfl)
theorem dX17_hasNext_7 : decode cX17_hasNext 7 = .ok (.iconst 1, 1) := dk_4 (dk_at dksX17_hasNext_0 7 rfl rfl)
theorem dX17_hasNext_8 : decode cX17_hasNext 8 = .ok (.goto 4, 3) := dk_167 0 4 (dk_at dksX17_hasNext_0 8 rfl rfl)
theorem dX17_hasNext_11 : decode cX17_hasNext 11 = .ok (.iconst 0, 1) := dk_3 (dk_at dksX17_hasNext_0 11 rfl rfl)
theorem dX17_hasNext_12 : decode cX17_hasNext 12 = .ok (.ireturn, 1) := dk_172 (dk_at dksX17_hasNext_0 12 rfl rfl)
abbrev cX17_next : ByteArray := prog_15_method_5_code
def yX17_next : MethodName := ⟨RX17, "next", "()Ljava/lang/Object;"⟩
theorem dX17_next_0 : decode cX17_next 0 = .ok (.aload_n 0, 1) := by decide +kernel
theorem dX17_next_1 : decode cX17_next 1 = .ok (.invokevirtual 65, 3) := by decide +kernel
theorem dX17_next_4 : decode cX17_next 4 = .ok (.areturn, 1) := by decide +kernel
abbrev cX17_next_2 : ByteArray := prog_15_method_4_code
def yX17_next_2 : MethodName := ⟨RX17, "next", "()Ljava/lang/Comparable;"⟩
def dkwX17_next_2_1 : List UInt8 := [180, 0, 36, 42, 180, 0, 33, 182, 0, 53, 160, 0, 7, 42, 182, 0, 30, 43, 176]
abbrev dktX17_next_2_1 : List UInt8 := dkwX17_next_2_1 ++ []
def dkwX17_next_2_0 : List UInt8 := [42, 180, 0, 33, 42, 180, 0, 36, 4, 182, 0, 61, 76, 42, 89, 180, 0, 36, 4, 96, 181, 0, 36, 42]
abbrev dktX17_next_2_0 : List UInt8 := dkwX17_next_2_0 ++ dktX17_next_2_1
theorem dksX17_next_2_0 : cX17_next_2.data.toList.drop 0 = dktX17_next_2_0 := by decide +kernel
theorem dksX17_next_2_1 : cX17_next_2.data.toList.drop 24 = dktX17_next_2_1 := dk_seg dksX17_next_2_0 24 rfl rfl
theorem dX17_next_2_0 : decode cX17_next_2 0 = .ok (.aload_n 0, 1) := dk_42 (dk_at dksX17_next_2_0 0 rfl rfl)
theorem dX17_next_2_1 : decode cX17_next_2 1 = .ok (.getfield 33, 3) := dk_180 0 33 (dk_at dksX17_next_2_0 1 rfl rfl)
theorem dX17_next_2_4 : decode cX17_next_2 4 = .ok (.aload_n 0, 1) := dk_42 (dk_at dksX17_next_2_0 4 rfl rfl)
theorem dX17_next_2_5 : decode cX17_next_2 5 = .ok (.getfield 36, 3) := dk_180 0 36 (dk_at dksX17_next_2_0 5 rfl rfl)
theorem dX17_next_2_8 : decode cX17_next_2 8 = .ok (.iconst 1, 1) := dk_4 (dk_at dksX17_next_2_0 8 rfl rfl)
theorem dX17_next_2_9 : decode cX17_next_2 9 = .ok (.invokevirtual 61, 3) := dk_182 0 61 (dk_at dksX17_next_2_0 9 rfl rfl)
theorem dX17_next_2_12 : decode cX17_next_2 12 = .ok (.astore_n 1, 1) := dk_76 (dk_at dksX17_next_2_0 12 rfl rfl)
theorem dX17_next_2_13 : decode cX17_next_2 13 = .ok (.aload_n 0, 1) := dk_42 (dk_at dksX17_next_2_0 13 rfl rfl)
theorem dX17_next_2_14 : decode cX17_next_2 14 = .ok (.dup, 1) := dk_89 (dk_at dksX17_next_2_0 14 rfl rfl)
theorem dX17_next_2_15 : decode cX17_next_2 15 = .ok (.getfield 36, 3) := dk_180 0 36 (dk_at dksX17_next_2_0 15 rfl rfl)
theorem dX17_next_2_18 : decode cX17_next_2 18 = .ok (.iconst 1, 1) := dk_4 (dk_at dksX17_next_2_0 18 rfl rfl)
theorem dX17_next_2_19 : decode cX17_next_2 19 = .ok (.iadd, 1) := dk_96 (dk_at dksX17_next_2_0 19 rfl rfl)
theorem dX17_next_2_20 : decode cX17_next_2 20 = .ok (.putfield 36, 3) := dk_181 0 36 (dk_at dksX17_next_2_0 20 rfl rfl)
theorem dX17_next_2_23 : decode cX17_next_2 23 = .ok (.aload_n 0, 1) := dk_42 (dk_at dksX17_next_2_0 23 rfl rfl)
theorem dX17_next_2_24 : decode cX17_next_2 24 = .ok (.getfield 36, 3) := dk_180 0 36 (dk_at dksX17_next_2_1 0 rfl rfl)
theorem dX17_next_2_27 : decode cX17_next_2 27 = .ok (.aload_n 0, 1) := dk_42 (dk_at dksX17_next_2_1 3 rfl rfl)
theorem dX17_next_2_28 : decode cX17_next_2 28 = .ok (.getfield 33, 3) := dk_180 0 33 (dk_at dksX17_next_2_1 4 rfl rfl)
theorem dX17_next_2_31 : decode cX17_next_2 31 = .ok (.invokevirtual 53, 3) := dk_182 0 53 (dk_at dksX17_next_2_1 7 rfl rfl)
theorem dX17_next_2_34 : decode cX17_next_2 34 = .ok (.if_icmp .ne 7, 3) := dk_160 0 7 (dk_at dksX17_next_2_1 10 rfl rfl)
theorem dX17_next_2_37 : decode cX17_next_2 37 = .ok (.aload_n 0, 1) := dk_42 (dk_at dksX17_next_2_1 13 rfl rfl)
theorem dX17_next_2_38 : decode cX17_next_2 38 = .ok (.invokevirtual 30, 3) := dk_182 0 30 (dk_at dksX17_next_2_1 14 rfl rfl)
theorem dX17_next_2_41 : decode cX17_next_2 41 = .ok (.aload_n 1, 1) := dk_43 (dk_at dksX17_next_2_1 17 rfl rfl)
theorem dX17_next_2_42 : decode cX17_next_2 42 = .ok (.areturn, 1) := dk_176 (dk_at dksX17_next_2_1 18 rfl rfl)
abbrev cX17_findLeaf : ByteArray := prog_15_method_2_code
def yX17_findLeaf : MethodName := ⟨RX17, "findLeaf", "()V"⟩
def dkwX17_findLeaf_3 : List UInt8 := [182, 0, 57, 182, 0, 26, 132, 2, 255, 167, 255, 237, 167, 255, 184, 177]
abbrev dktX17_findLeaf_3 : List UInt8 := dkwX17_findLeaf_3 ++ []
def dkwX17_findLeaf_2 : List UInt8 := [181, 0, 33, 167, 0, 32, 43, 182, 0, 53, 4, 100, 61, 28, 155, 0, 21, 42, 180, 0, 16, 43, 28]
abbrev dktX17_findLeaf_2 : List UInt8 := dkwX17_findLeaf_2 ++ dktX17_findLeaf_3
def dkwX17_findLeaf_1 : List UInt8 := [154, 0, 61, 42, 180, 0, 16, 182, 0, 44, 192, 0, 48, 76, 43, 182, 0, 50, 153, 0, 11, 42, 43]
abbrev dktX17_findLeaf_1 : List UInt8 := dkwX17_findLeaf_1 ++ dktX17_findLeaf_2
def dkwX17_findLeaf_0 : List UInt8 := [42, 1, 181, 0, 33, 42, 3, 181, 0, 36, 42, 180, 0, 33, 199, 0, 71, 42, 180, 0, 16, 182, 0, 40]
abbrev dktX17_findLeaf_0 : List UInt8 := dkwX17_findLeaf_0 ++ dktX17_findLeaf_1
theorem dksX17_findLeaf_0 : cX17_findLeaf.data.toList.drop 0 = dktX17_findLeaf_0 := by decide +kernel
theorem dksX17_findLeaf_1 : cX17_findLeaf.data.toList.drop 24 = dktX17_findLeaf_1 := dk_seg dksX17_findLeaf_0 24 rfl rfl
theorem dksX17_findLeaf_2 : cX17_findLeaf.data.toList.drop 47 = dktX17_findLeaf_2 := dk_seg dksX17_findLeaf_1 23 rfl rfl
theorem dksX17_findLeaf_3 : cX17_findLeaf.data.toList.drop 70 = dktX17_findLeaf_3 := dk_seg dksX17_findLeaf_2 23 rfl rfl
theorem dX17_findLeaf_0 : decode cX17_findLeaf 0 = .ok (.aload_n 0, 1) := dk_42 (dk_at dksX17_findLeaf_0 0 rfl rfl)
theorem dX17_findLeaf_1 : decode cX17_findLeaf 1 = .ok (.aconst_null, 1) := dk_1 (dk_at dksX17_findLeaf_0 1 rfl rfl)
theorem dX17_findLeaf_2 : decode cX17_findLeaf 2 = .ok (.putfield 33, 3) := dk_181 0 33 (dk_at dksX17_findLeaf_0 2 rfl rfl)
theorem dX17_findLeaf_5 : decode cX17_findLeaf 5 = .ok (.aload_n 0, 1) := dk_42 (dk_at dksX17_findLeaf_0 5 rfl rfl)
theorem dX17_findLeaf_6 : decode cX17_findLeaf 6 = .ok (.iconst 0, 1) := dk_3 (dk_at dksX17_findLeaf_0 6 rfl rfl)
theorem dX17_findLeaf_7 : decode cX17_findLeaf 7 = .ok (.putfield 36, 3) := dk_181 0 36 (dk_at dksX17_findLeaf_0 7 rfl rfl)
theorem dX17_findLeaf_10 : decode cX17_findLeaf 10 = .ok (.aload_n 0, 1) := dk_42 (dk_at dksX17_findLeaf_0 10 rfl rfl)
theorem dX17_findLeaf_11 : decode cX17_findLeaf 11 = .ok (.getfield 33, 3) := dk_180 0 33 (dk_at dksX17_findLeaf_0 11 rfl rfl)
theorem dX17_findLeaf_14 : decode cX17_findLeaf 14 = .ok (.ifnonnull 71, 3) := dk_199 0 71 (dk_at dksX17_findLeaf_0 14 rfl rfl)
theorem dX17_findLeaf_17 : decode cX17_findLeaf 17 = .ok (.aload_n 0, 1) := dk_42 (dk_at dksX17_findLeaf_0 17 rfl rfl)
theorem dX17_findLeaf_18 : decode cX17_findLeaf 18 = .ok (.getfield 16, 3) := dk_180 0 16 (dk_at dksX17_findLeaf_0 18 rfl rfl)
theorem dX17_findLeaf_21 : decode cX17_findLeaf 21 = .ok (.invokevirtual 40, 3) := dk_182 0 40 (dk_at dksX17_findLeaf_0 21 rfl rfl)
theorem dX17_findLeaf_24 : decode cX17_findLeaf 24 = .ok (.ifCond .ne 61, 3) := dk_154 0 61 (dk_at dksX17_findLeaf_1 0 rfl rfl)
theorem dX17_findLeaf_27 : decode cX17_findLeaf 27 = .ok (.aload_n 0, 1) := dk_42 (dk_at dksX17_findLeaf_1 3 rfl rfl)
theorem dX17_findLeaf_28 : decode cX17_findLeaf 28 = .ok (.getfield 16, 3) := dk_180 0 16 (dk_at dksX17_findLeaf_1 4 rfl rfl)
theorem dX17_findLeaf_31 : decode cX17_findLeaf 31 = .ok (.invokevirtual 44, 3) := dk_182 0 44 (dk_at dksX17_findLeaf_1 7 rfl rfl)
theorem dX17_findLeaf_34 : decode cX17_findLeaf 34 = .ok (.checkcast 48, 3) := dk_192 0 48 (dk_at dksX17_findLeaf_1 10 rfl rfl)
theorem dX17_findLeaf_37 : decode cX17_findLeaf 37 = .ok (.astore_n 1, 1) := dk_76 (dk_at dksX17_findLeaf_1 13 rfl rfl)
theorem dX17_findLeaf_38 : decode cX17_findLeaf 38 = .ok (.aload_n 1, 1) := dk_43 (dk_at dksX17_findLeaf_1 14 rfl rfl)
theorem dX17_findLeaf_39 : decode cX17_findLeaf 39 = .ok (.invokevirtual 50, 3) := dk_182 0 50 (dk_at dksX17_findLeaf_1 15 rfl rfl)
theorem dX17_findLeaf_42 : decode cX17_findLeaf 42 = .ok (.ifCond .eq 11, 3) := dk_153 0 11 (dk_at dksX17_findLeaf_1 18 rfl rfl)
theorem dX17_findLeaf_45 : decode cX17_findLeaf 45 = .ok (.aload_n 0, 1) := dk_42 (dk_at dksX17_findLeaf_1 21 rfl rfl)
theorem dX17_findLeaf_46 : decode cX17_findLeaf 46 = .ok (.aload_n 1, 1) := dk_43 (dk_at dksX17_findLeaf_1 22 rfl rfl)
theorem dX17_findLeaf_47 : decode cX17_findLeaf 47 = .ok (.putfield 33, 3) := dk_181 0 33 (dk_at dksX17_findLeaf_2 0 rfl rfl)
theorem dX17_findLeaf_50 : decode cX17_findLeaf 50 = .ok (.goto 32, 3) := dk_167 0 32 (dk_at dksX17_findLeaf_2 3 rfl rfl)
theorem dX17_findLeaf_53 : decode cX17_findLeaf 53 = .ok (.aload_n 1, 1) := dk_43 (dk_at dksX17_findLeaf_2 6 rfl rfl)
theorem dX17_findLeaf_54 : decode cX17_findLeaf 54 = .ok (.invokevirtual 53, 3) := dk_182 0 53 (dk_at dksX17_findLeaf_2 7 rfl rfl)
theorem dX17_findLeaf_57 : decode cX17_findLeaf 57 = .ok (.iconst 1, 1) := dk_4 (dk_at dksX17_findLeaf_2 10 rfl rfl)
theorem dX17_findLeaf_58 : decode cX17_findLeaf 58 = .ok (.isub, 1) := dk_100 (dk_at dksX17_findLeaf_2 11 rfl rfl)
theorem dX17_findLeaf_59 : decode cX17_findLeaf 59 = .ok (.istore_n 2, 1) := dk_61 (dk_at dksX17_findLeaf_2 12 rfl rfl)
theorem dX17_findLeaf_60 : decode cX17_findLeaf 60 = .ok (.iload_n 2, 1) := dk_28 (dk_at dksX17_findLeaf_2 13 rfl rfl)
theorem dX17_findLeaf_61 : decode cX17_findLeaf 61 = .ok (.ifCond .lt 21, 3) := dk_155 0 21 (dk_at dksX17_findLeaf_2 14 rfl rfl)
theorem dX17_findLeaf_64 : decode cX17_findLeaf 64 = .ok (.aload_n 0, 1) := dk_42 (dk_at dksX17_findLeaf_2 17 rfl rfl)
theorem dX17_findLeaf_65 : decode cX17_findLeaf 65 = .ok (.getfield 16, 3) := dk_180 0 16 (dk_at dksX17_findLeaf_2 18 rfl rfl)
theorem dX17_findLeaf_68 : decode cX17_findLeaf 68 = .ok (.aload_n 1, 1) := dk_43 (dk_at dksX17_findLeaf_2 21 rfl rfl)
theorem dX17_findLeaf_69 : decode cX17_findLeaf 69 = .ok (.iload_n 2, 1) := dk_28 (dk_at dksX17_findLeaf_2 22 rfl rfl)
theorem dX17_findLeaf_70 : decode cX17_findLeaf 70 = .ok (.invokevirtual 57, 3) := dk_182 0 57 (dk_at dksX17_findLeaf_3 0 rfl rfl)
theorem dX17_findLeaf_73 : decode cX17_findLeaf 73 = .ok (.invokevirtual 26, 3) := dk_182 0 26 (dk_at dksX17_findLeaf_3 3 rfl rfl)
theorem dX17_findLeaf_76 : decode cX17_findLeaf 76 = .ok (.iinc 2 (-1), 3) := dk_132 2 255 (dk_at dksX17_findLeaf_3 6 rfl rfl)
theorem dX17_findLeaf_79 : decode cX17_findLeaf 79 = .ok (.goto (-19), 3) := dk_167 255 237 (dk_at dksX17_findLeaf_3 9 rfl rfl)
theorem dX17_findLeaf_82 : decode cX17_findLeaf 82 = .ok (.goto (-72), 3) := dk_167 255 184 (dk_at dksX17_findLeaf_3 12 rfl rfl)
theorem dX17_findLeaf_85 : decode cX17_findLeaf 85 = .ok (.return_, 1) := dk_177 (dk_at dksX17_findLeaf_3 15 rfl rfl)
abbrev cX17_init : ByteArray := prog_15_method_1_code
def yX17_init : MethodName := ⟨RX17, "<init>", "(LVectorVersions$Tree;)V"⟩
def dkwX17_init_1 : List UInt8 := [198, 0, 14, 42, 180, 0, 16, 43, 180, 0, 20, 182, 0, 26, 42, 182, 0, 30, 177]
abbrev dktX17_init_1 : List UInt8 := dkwX17_init_1 ++ []
def dkwX17_init_0 : List UInt8 := [42, 43, 181, 0, 1, 42, 183, 0, 7, 42, 187, 0, 13, 89, 183, 0, 15, 181, 0, 16, 43, 180, 0, 20]
abbrev dktX17_init_0 : List UInt8 := dkwX17_init_0 ++ dktX17_init_1
theorem dksX17_init_0 : cX17_init.data.toList.drop 0 = dktX17_init_0 := by decide +kernel
theorem dksX17_init_1 : cX17_init.data.toList.drop 24 = dktX17_init_1 := dk_seg dksX17_init_0 24 rfl rfl
theorem dX17_init_0 : decode cX17_init 0 = .ok (.aload_n 0, 1) := dk_42 (dk_at dksX17_init_0 0 rfl rfl)
theorem dX17_init_1 : decode cX17_init 1 = .ok (.aload_n 1, 1) := dk_43 (dk_at dksX17_init_0 1 rfl rfl)
theorem dX17_init_2 : decode cX17_init 2 = .ok (.putfield 1, 3) := dk_181 0 1 (dk_at dksX17_init_0 2 rfl rfl)
theorem dX17_init_5 : decode cX17_init 5 = .ok (.aload_n 0, 1) := dk_42 (dk_at dksX17_init_0 5 rfl rfl)
theorem dX17_init_6 : decode cX17_init 6 = .ok (.invokespecial 7, 3) := dk_183 0 7 (dk_at dksX17_init_0 6 rfl rfl)
theorem dX17_init_9 : decode cX17_init 9 = .ok (.aload_n 0, 1) := dk_42 (dk_at dksX17_init_0 9 rfl rfl)
theorem dX17_init_10 : decode cX17_init 10 = .ok (.new 13, 3) := dk_187 0 13 (dk_at dksX17_init_0 10 rfl rfl)
theorem dX17_init_13 : decode cX17_init 13 = .ok (.dup, 1) := dk_89 (dk_at dksX17_init_0 13 rfl rfl)
theorem dX17_init_14 : decode cX17_init 14 = .ok (.invokespecial 15, 3) := dk_183 0 15 (dk_at dksX17_init_0 14 rfl rfl)
theorem dX17_init_17 : decode cX17_init 17 = .ok (.putfield 16, 3) := dk_181 0 16 (dk_at dksX17_init_0 17 rfl rfl)
theorem dX17_init_20 : decode cX17_init 20 = .ok (.aload_n 1, 1) := dk_43 (dk_at dksX17_init_0 20 rfl rfl)
theorem dX17_init_21 : decode cX17_init 21 = .ok (.getfield 20, 3) := dk_180 0 20 (dk_at dksX17_init_0 21 rfl rfl)
theorem dX17_init_24 : decode cX17_init 24 = .ok (.ifnull 14, 3) := dk_198 0 14 (dk_at dksX17_init_1 0 rfl rfl)
theorem dX17_init_27 : decode cX17_init 27 = .ok (.aload_n 0, 1) := dk_42 (dk_at dksX17_init_1 3 rfl rfl)
theorem dX17_init_28 : decode cX17_init 28 = .ok (.getfield 16, 3) := dk_180 0 16 (dk_at dksX17_init_1 4 rfl rfl)
theorem dX17_init_31 : decode cX17_init 31 = .ok (.aload_n 1, 1) := dk_43 (dk_at dksX17_init_1 7 rfl rfl)
theorem dX17_init_32 : decode cX17_init 32 = .ok (.getfield 20, 3) := dk_180 0 20 (dk_at dksX17_init_1 8 rfl rfl)
theorem dX17_init_35 : decode cX17_init 35 = .ok (.invokevirtual 26, 3) := dk_182 0 26 (dk_at dksX17_init_1 11 rfl rfl)
theorem dX17_init_38 : decode cX17_init 38 = .ok (.aload_n 0, 1) := dk_42 (dk_at dksX17_init_1 14 rfl rfl)
theorem dX17_init_39 : decode cX17_init 39 = .ok (.invokevirtual 30, 3) := dk_182 0 30 (dk_at dksX17_init_1 15 rfl rfl)
theorem dX17_init_42 : decode cX17_init 42 = .ok (.return_, 1) := dk_177 (dk_at dksX17_init_1 18 rfl rfl)
theorem q179 : (Jvm.Cond.initialized "VectorVersions$Tree$Elements") ∈ lw_all := lw_g (lw_at lw_m1 45 rfl) rfl
theorem q296 : (Jvm.Cond.selects "VectorVersions$Tree$Elements" ({ cls := "java/lang/Object", name := "getClass", desc := "()Ljava/lang/Class;" } : Jvm.MethodName) ({ cls := "java/lang/Object", name := "getClass", desc := "()Ljava/lang/Class;" } : Jvm.MethodName)) ∈ lw_all := lw_g (lw_at lw_m1 162 rfl) rfl
theorem q786 : (Jvm.Cond.fieldLinkNest "VectorVersions$Tree$Elements" (20 : Nat) "VectorVersions$Tree" "root" "LVectorVersions$Node;" "VectorVersions") ∈ lw_tbl := lw_at lw_m3 172 rfl
theorem q1583 : (Jvm.Cond.castable "VectorVersions$Tree$Elements" "java/util/Iterator") ∈ lw_tbl := lw_at lw_m7 9 rfl
theorem q1584 : (Jvm.Cond.selects "VectorVersions$Tree$Elements" ({ cls := "java/util/Iterator", name := "hasNext", desc := "()Z" } : Jvm.MethodName) ({ cls := "VectorVersions$Tree$Elements", name := "hasNext", desc := "()Z" } : Jvm.MethodName)) ∈ lw_all := lw_g (lw_at lw_m7 10 rfl) rfl
theorem q1585 : (Jvm.Cond.unhidden "VectorVersions$Tree$Elements" "hasNext" "()Z") ∈ lw_tbl := lw_at lw_m7 11 rfl
theorem q1586 : (Jvm.Cond.instanceMethod ({ cls := "VectorVersions$Tree$Elements", name := "hasNext", desc := "()Z" } : Jvm.MethodName)) ∈ lw_all := lw_g (lw_at lw_m7 12 rfl) rfl
theorem q1587 : (Jvm.Cond.publicMethod ({ cls := "VectorVersions$Tree$Elements", name := "hasNext", desc := "()Z" } : Jvm.MethodName)) ∈ lw_tbl := lw_at lw_m7 13 rfl
theorem q1588 : (Jvm.Cond.code ({ cls := "VectorVersions$Tree$Elements", name := "hasNext", desc := "()Z" } : Jvm.MethodName) prog_15_method_3_code (1 : Nat) (Option.some Jvm.ClassFile.FieldType.boolean)) ∈ lw_all := lw_g (lw_at lw_m7 14 rfl) rfl
theorem q1599 : (Jvm.Cond.selects "VectorVersions$Tree$Elements" ({ cls := "java/util/Iterator", name := "next", desc := "()Ljava/lang/Object;" } : Jvm.MethodName) ({ cls := "VectorVersions$Tree$Elements", name := "next", desc := "()Ljava/lang/Object;" } : Jvm.MethodName)) ∈ lw_all := lw_g (lw_at lw_m7 25 rfl) rfl
theorem q1600 : (Jvm.Cond.unhidden "VectorVersions$Tree$Elements" "next" "()Ljava/lang/Object;") ∈ lw_tbl := lw_at lw_m7 26 rfl
theorem q1601 : (Jvm.Cond.instanceMethod ({ cls := "VectorVersions$Tree$Elements", name := "next", desc := "()Ljava/lang/Object;" } : Jvm.MethodName)) ∈ lw_all := lw_g (lw_at lw_m7 27 rfl) rfl
theorem q1602 : (Jvm.Cond.publicMethod ({ cls := "VectorVersions$Tree$Elements", name := "next", desc := "()Ljava/lang/Object;" } : Jvm.MethodName)) ∈ lw_tbl := lw_at lw_m7 28 rfl
theorem q1603 : (Jvm.Cond.code ({ cls := "VectorVersions$Tree$Elements", name := "next", desc := "()Ljava/lang/Object;" } : Jvm.MethodName) prog_15_method_5_code (1 : Nat) (Option.some (Jvm.ClassFile.FieldType.object "java/lang/Object"))) ∈ lw_all := lw_g (lw_at lw_m7 29 rfl) rfl
theorem q1604 : (Jvm.Cond.methodLink "VectorVersions$Tree$Elements" (65 : Nat) ({ cls := "VectorVersions$Tree$Elements", name := "next", desc := "()Ljava/lang/Comparable;" } : Jvm.MethodName)) ∈ lw_all := lw_g (lw_at lw_m7 30 rfl) rfl
theorem q1605 : (Jvm.Cond.instanceMethod ({ cls := "VectorVersions$Tree$Elements", name := "next", desc := "()Ljava/lang/Comparable;" } : Jvm.MethodName)) ∈ lw_all := lw_g (lw_at lw_m7 31 rfl) rfl
theorem q1606 : (Jvm.Cond.selects "VectorVersions$Tree$Elements" ({ cls := "VectorVersions$Tree$Elements", name := "next", desc := "()Ljava/lang/Comparable;" } : Jvm.MethodName) ({ cls := "VectorVersions$Tree$Elements", name := "next", desc := "()Ljava/lang/Comparable;" } : Jvm.MethodName)) ∈ lw_all := lw_g (lw_at lw_m7 32 rfl) rfl
theorem q1607 : (Jvm.Cond.code ({ cls := "VectorVersions$Tree$Elements", name := "next", desc := "()Ljava/lang/Comparable;" } : Jvm.MethodName) prog_15_method_4_code (2 : Nat) (Option.some (Jvm.ClassFile.FieldType.object "java/lang/Comparable"))) ∈ lw_all := lw_g (lw_at lw_m7 33 rfl) rfl
theorem q1608 : (Jvm.Cond.methodLink "VectorVersions$Tree$Elements" (61 : Nat) ({ cls := "VectorVersions$Node", name := "element", desc := "(II)Ljava/lang/Comparable;" } : Jvm.MethodName)) ∈ lw_all := lw_g (lw_at lw_m7 34 rfl) rfl
theorem q1609 : (Jvm.Cond.methodLink "VectorVersions$Tree$Elements" (53 : Nat) ({ cls := "VectorVersions$Node", name := "count", desc := "()I" } : Jvm.MethodName)) ∈ lw_all := lw_g (lw_at lw_m7 35 rfl) rfl
theorem q1610 : (Jvm.Cond.methodLink "VectorVersions$Tree$Elements" (30 : Nat) ({ cls := "VectorVersions$Tree$Elements", name := "findLeaf", desc := "()V" } : Jvm.MethodName)) ∈ lw_all := lw_g (lw_at lw_m7 36 rfl) rfl
theorem q1611 : (Jvm.Cond.privateMethod ({ cls := "VectorVersions$Tree$Elements", name := "findLeaf", desc := "()V" } : Jvm.MethodName)) ∈ lw_tbl := lw_at lw_m7 37 rfl
theorem q1612 : (Jvm.Cond.instanceMethod ({ cls := "VectorVersions$Tree$Elements", name := "findLeaf", desc := "()V" } : Jvm.MethodName)) ∈ lw_all := lw_g (lw_at lw_m7 38 rfl) rfl
theorem q1613 : (Jvm.Cond.instantiable "VectorVersions$Tree$Elements" (4 : Nat)) ∈ lw_all := lw_g (lw_at lw_m7 39 rfl) rfl
theorem q1614 : (Jvm.Cond.code ({ cls := "VectorVersions$Tree$Elements", name := "findLeaf", desc := "()V" } : Jvm.MethodName) prog_15_method_2_code (3 : Nat) (Option.none : Option Jvm.ClassFile.FieldType)) ∈ lw_all := lw_g (lw_at lw_m7 40 rfl) rfl
theorem q1615 : (Jvm.Cond.methodLink "VectorVersions$Tree$Elements" (40 : Nat) ({ cls := "java/util/ArrayDeque", name := "isEmpty", desc := "()Z" } : Jvm.MethodName)) ∈ lw_all := lw_g (lw_at lw_m7 41 rfl) rfl
theorem q1619 : (Jvm.Cond.methodLink "VectorVersions$Tree$Elements" (44 : Nat) ({ cls := "java/util/ArrayDeque", name := "removeLast", desc := "()Ljava/lang/Object;" } : Jvm.MethodName)) ∈ lw_all := lw_g (lw_at lw_m7 45 rfl) rfl
theorem q1630 : (Jvm.Cond.classLink "VectorVersions$Tree$Elements" (48 : Nat) "VectorVersions$Node") ∈ lw_all := lw_g (lw_at lw_m7 56 rfl) rfl
theorem q1631 : (Jvm.Cond.methodLink "VectorVersions$Tree$Elements" (50 : Nat) ({ cls := "VectorVersions$Node", name := "isLeaf", desc := "()Z" } : Jvm.MethodName)) ∈ lw_all := lw_g (lw_at lw_m7 57 rfl) rfl
theorem q1632 : (Jvm.Cond.methodLink "VectorVersions$Tree$Elements" (57 : Nat) ({ cls := "VectorVersions$Node", name := "child", desc := "(I)LVectorVersions$Node;" } : Jvm.MethodName)) ∈ lw_all := lw_g (lw_at lw_m7 58 rfl) rfl
theorem q1633 : (Jvm.Cond.methodLink "VectorVersions$Tree$Elements" (26 : Nat) ({ cls := "java/util/ArrayDeque", name := "addLast", desc := "(Ljava/lang/Object;)V" } : Jvm.MethodName)) ∈ lw_all := lw_g (lw_at lw_m7 59 rfl) rfl
theorem q1649 : (Jvm.Cond.unhidden "VectorVersions$Tree$Elements" "remove" "()V") ∈ lw_tbl := lw_at lw_m7 75 rfl
theorem q1744 : (Jvm.Cond.instanceMethod ({ cls := "VectorVersions$Tree$Elements", name := "<init>", desc := "(LVectorVersions$Tree;)V" } : Jvm.MethodName)) ∈ lw_all := lw_g (lw_at lw_m7 170 rfl) rfl
theorem q1745 : (Jvm.Cond.code ({ cls := "VectorVersions$Tree$Elements", name := "<init>", desc := "(LVectorVersions$Tree;)V" } : Jvm.MethodName) prog_15_method_1_code (2 : Nat) (Option.none : Option Jvm.ClassFile.FieldType)) ∈ lw_all := lw_g (lw_at lw_m7 171 rfl) rfl
theorem q1746 : (Jvm.Cond.methodLink "VectorVersions$Tree$Elements" (7 : Nat) ({ cls := "java/lang/Object", name := "<init>", desc := "()V" } : Jvm.MethodName)) ∈ lw_all := lw_g (lw_at lw_m7 172 rfl) rfl
theorem q1747 : (Jvm.Cond.classLink "VectorVersions$Tree$Elements" (13 : Nat) "java/util/ArrayDeque") ∈ lw_all := lw_g (lw_at lw_m7 173 rfl) rfl
theorem q1748 : (Jvm.Cond.methodLink "VectorVersions$Tree$Elements" (15 : Nat) ({ cls := "java/util/ArrayDeque", name := "<init>", desc := "()V" } : Jvm.MethodName)) ∈ lw_all := lw_g (lw_at lw_m7 174 rfl) rfl
theorem q1751 : (Jvm.Cond.fieldLink "VectorVersions$Tree$Elements" (16 : Nat) "VectorVersions$Tree$Elements" "open" "Ljava/util/ArrayDeque;") ∈ lw_all := lw_g (lw_at lw_m7 177 rfl) rfl
theorem q1752 : (Jvm.Cond.fieldLink "VectorVersions$Tree$Elements" (33 : Nat) "VectorVersions$Tree$Elements" "current" "LVectorVersions$Node;") ∈ lw_all := lw_g (lw_at lw_m7 178 rfl) rfl
theorem q1753 : (Jvm.Cond.fieldLink "VectorVersions$Tree$Elements" (36 : Nat) "VectorVersions$Tree$Elements" "next" "I") ∈ lw_all := lw_g (lw_at lw_m7 179 rfl) rfl
theorem q1754 : (Jvm.Cond.fieldLink "VectorVersions$Tree$Elements" (1 : Nat) "VectorVersions$Tree$Elements" "this$0" "LVectorVersions$Tree;") ∈ lw_all := lw_g (lw_at lw_m7 180 rfl) rfl
theorem q1755 : (Jvm.Cond.laysFinal "VectorVersions$Tree$Elements" "VectorVersions$Tree$Elements" "open" "Ljava/util/ArrayDeque;") ∈ lw_all := lw_g (lw_at lw_m7 181 rfl) rfl
theorem q1756 : (Jvm.Cond.soleField "VectorVersions$Tree$Elements" "open") ∈ lw_all := lw_g (lw_at lw_m7 182 rfl) rfl
theorem q1757 : (Jvm.Cond.lays "VectorVersions$Tree$Elements" "VectorVersions$Tree$Elements" "current" "LVectorVersions$Node;") ∈ lw_all := lw_g (lw_at lw_m7 183 rfl) rfl
theorem q1758 : (Jvm.Cond.soleField "VectorVersions$Tree$Elements" "current") ∈ lw_all := lw_g (lw_at lw_m7 184 rfl) rfl
theorem q1759 : (Jvm.Cond.lays "VectorVersions$Tree$Elements" "VectorVersions$Tree$Elements" "next" "I") ∈ lw_all := lw_g (lw_at lw_m7 185 rfl) rfl
theorem q1760 : (Jvm.Cond.soleField "VectorVersions$Tree$Elements" "next") ∈ lw_all := lw_g (lw_at lw_m7 186 rfl) rfl
theorem q1761 : (Jvm.Cond.laysFinal "VectorVersions$Tree$Elements" "VectorVersions$Tree$Elements" "this$0" "LVectorVersions$Tree;") ∈ lw_all := lw_g (lw_at lw_m7 187 rfl) rfl
theorem q1762 : (Jvm.Cond.soleField "VectorVersions$Tree$Elements" "this$0") ∈ lw_all := lw_g (lw_at lw_m7 188 rfl) rfl
theorem q1763 : (Jvm.Cond.superclass "VectorVersions$Tree$Elements" "java/lang/Object") ∈ lw_all := lw_g (lw_at lw_m7 189 rfl) rfl
theorem q3161 : (Jvm.Cond.castable "VectorVersions$Tree$Elements" "java/lang/Object") ∈ lw_tbl := lw_at lw_m13 147 rfl
theorem in_X17 : ∀ w ∈ wsX170, w ∈ lw_all := lw_in wsX170 [1755, 1757, 1759, 1761] (by decide +kernel) (by decide +kernel)
