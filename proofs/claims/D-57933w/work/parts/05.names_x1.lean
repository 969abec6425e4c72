/-! VectorVersions -/
set_option maxRecDepth 100000
def RX1 : String := "VectorVersions"
def TX1 : u_T := fun k => match k with
  | 0 => ("VectorVersions", "buffer", "[B", true)
  | 1 => ("VectorVersions", "bufferLength", "I", false)
  | 2 => ("VectorVersions", "errorCode", "I", false)
  | 3 => ("VectorVersions", "errorOffset", "I", false)
  | 4 => ("VectorVersions", "store", "LVectorVersions$Store;", false)
  | 5 => ("VectorVersions", "savedStore", "LVectorVersions$Store;", false)
  | 6 => ("VectorVersions", "history", "Ljava/util/ArrayDeque;", true)
  | _ => ("VectorVersions", "output", "Ljava/lang/StringBuilder;", true)
def tyX1 : Nat → FieldType := fun k => match k with
  | 0 => .array .byte
  | 1 => .int
  | 2 => .int
  | 3 => .int
  | 4 => .object "VectorVersions$Store"
  | 5 => .object "VectorVersions$Store"
  | 6 => .object "java/util/ArrayDeque"
  | _ => .object "java/lang/StringBuilder"
abbrev wsX10 : List Cond := u_ws RX1 TX1 8
theorem nmX1 : ∀ a, a < 8 → ∀ b, b < 8 → a ≠ b → (TX1 a).2.1 ≠ (TX1 b).2.1 := by decide +kernel
theorem tyX1_ok : ∀ k, k < 8 → parseFieldDescriptor (TX1 k).2.2.1 = some (tyX1 k) := by decide +kernel
abbrev cX1_init : ByteArray := prog_1_method_13_code
def yX1_init : MethodName := ⟨RX1, "<init>", "()V"⟩
def dkwX1_init_4 : List UInt8 := [183, 0, 71, 181, 0, 72, 177]
abbrev dktX1_init_4 : List UInt8 := dkwX1_init_4 ++ []
def dkwX1_init_3 : List UInt8 := [184, 0, 54, 181, 0, 58, 42, 187, 0, 62, 89, 16, 9, 183, 0, 64, 181, 0, 65, 42, 187, 0, 69, 89]
abbrev dktX1_init_3 : List UInt8 := dkwX1_init_3 ++ dktX1_init_4
def dkwX1_init_2 : List UInt8 := [16, 12, 79, 89, 16, 6, 6, 79, 89, 16, 7, 4, 79, 89, 16, 8, 16, 9, 79, 89, 16, 9, 7, 79]
abbrev dktX1_init_2 : List UInt8 := dkwX1_init_2 ++ dktX1_init_3
def dkwX1_init_1 : List UInt8 := [3, 8, 79, 89, 4, 16, 254, 79, 89, 5, 16, 7, 79, 89, 6, 16, 7, 79, 89, 7, 3, 79, 89, 8]
abbrev dktX1_init_1 : List UInt8 := dkwX1_init_1 ++ dktX1_init_2
def dkwX1_init_0 : List UInt8 := [42, 183, 0, 43, 42, 17, 2, 88, 188, 8, 181, 0, 46, 42, 2, 181, 0, 50, 42, 16, 10, 188, 10, 89]
abbrev dktX1_init_0 : List UInt8 := dkwX1_init_0 ++ dktX1_init_1
theorem dksX1_init_0 : cX1_init.data.toList.drop 0 = dktX1_init_0 := by decide +kernel
theorem dksX1_init_1 : cX1_init.data.toList.drop 24 = dktX1_init_1 := dk_seg dksX1_init_0 24 rfl rfl
theorem dksX1_init_2 : cX1_init.data.toList.drop 48 = dktX1_init_2 := dk_seg dksX1_init_1 24 rfl rfl
theorem dksX1_init_3 : cX1_init.data.toList.drop 72 = dktX1_init_3 := dk_seg dksX1_init_2 24 rfl rfl
theorem dksX1_init_4 : cX1_init.data.toList.drop 96 = dktX1_init_4 := dk_seg dksX1_init_3 24 rfl rfl
theorem dX1_init_0 : decode cX1_init 0 = .ok (.aload_n 0, 1) := dk_42 (dk_at dksX1_init_0 0 rfl rfl)
theorem dX1_init_1 : decode cX1_init 1 = .ok (.invokespecial 43, 3) := dk_183 0 43 (dk_at dksX1_init_0 1 rfl rfl)
theorem dX1_init_4 : decode cX1_init 4 = .ok (.aload_n 0, 1) := dk_42 (dk_at dksX1_init_0 4 rfl rfl)
theorem dX1_init_5 : decode cX1_init 5 = .ok (.sipush 600, 3) := dk_17 2 88 (dk_at dksX1_init_0 5 rfl rfl)
theorem dX1_init_8 : decode cX1_init 8 = .ok (.newarray .byte, 2) := dk_188_8 (dk_at dksX1_init_0 8 rfl rfl)
theorem dX1_init_10 : decode cX1_init 10 = .ok (.putfield 46, 3) := dk_181 0 46 (dk_at dksX1_init_0 10 rfl rfl)
theorem dX1_init_13 : decode cX1_init 13 = .ok (.aload_n 0, 1) := dk_42 (dk_at dksX1_init_0 13 rfl rfl)
theorem dX1_init_14 : decode cX1_init 14 = .ok (.iconst (-1), 1) := dk_2 (dk_at dksX1_init_0 14 rfl rfl)
theorem dX1_init_15 : decode cX1_init 15 = .ok (.putfield 50, 3) := dk_181 0 50 (dk_at dksX1_init_0 15 rfl rfl)
theorem dX1_init_18 : decode cX1_init 18 = .ok (.aload_n 0, 1) := dk_42 (dk_at dksX1_init_0 18 rfl rfl)
theorem dX1_init_19 : decode cX1_init 19 = .ok (.bipush 10, 2) := dk_16 10 (dk_at dksX1_init_0 19 rfl rfl)
theorem dX1_init_21 : decode cX1_init 21 = .ok (.newarray .int, 2) := dk_188_10 (dk_at dksX1_init_0 21 rfl rfl)
theorem dX1_init_23 : decode cX1_init 23 = .ok (.dup, 1) := dk_89 (dk_at dksX1_init_0 23 rfl rfl)
theorem dX1_init_24 : decode cX1_init 24 = .ok (.iconst 0, 1) := dk_3 (dk_at dksX1_init_1 0 rfl rfl)
theorem dX1_init_25 : decode cX1_init 25 = .ok (.iconst 5, 1) := dk_8 (dk_at dksX1_init_1 1 rfl rfl)
theorem dX1_init_26 : decode cX1_init 26 = .ok (.iastore, 1) := dk_79 (dk_at dksX1_init_1 2 rfl rfl)
theorem dX1_init_27 : decode cX1_init 27 = .ok (.dup, 1) := dk_89 (dk_at dksX1_init_1 3 rfl rfl)
theorem dX1_init_28 : decode cX1_init 28 = .ok (.iconst 1, 1) := dk_4 (dk_at dksX1_init_1 4 rfl rfl)
theorem dX1_init_29 : decode cX1_init 29 = .ok (.bipush (-2), 2) := dk_16 254 (dk_at dksX1_init_1 5 rfl rfl)
theorem dX1_init_31 : decode cX1_init 31 = .ok (.iastore, 1) := dk_79 (dk_at dksX1_init_1 7 rfl rfl)
theorem dX1_init_32 : decode cX1_init 32 = .ok (.dup, 1) := dk_89 (dk_at dksX1_init_1 8 rfl rfl)
theorem dX1_init_33 : decode cX1_init 33 = .ok (.iconst 2, 1) := dk_5 (dk_at dksX1_init_1 9 rfl rfl)
theorem dX1_init_34 : decode cX1_init 34 = .ok (.bipush 7, 2) := dk_16 7 (dk_at dksX1_init_1 10 rfl rfl)
theorem dX1_init_36 : decode cX1_init 36 = .ok (.iastore, 1) := dk_79 (dk_at dksX1_init_1 12 rfl rfl)
theorem dX1_init_37 : decode cX1_init 37 = .ok (.dup, 1) := dk_89 (dk_at dksX1_init_1 13 rfl rfl)
theorem dX1_init_38 : decode cX1_init 38 = .ok (.iconst 3, 1) := dk_6 (dk_at dksX1_init_1 14 rfl rfl)
theorem dX1_init_39 : decode cX1_init 39 = .ok (.bipush 7, 2) := dk_16 7 (dk_at dksX1_init_1 15 rfl rfl)
theorem dX1_init_41 : decode cX1_init 41 = .ok (.iastore, 1) := dk_79 (dk_at dksX1_init_1 17 rfl rfl)
theorem dX1_init_42 : decode cX1_init 42 = .ok (.dup, 1) := dk_89 (dk_at dksX1_init_1 18 rfl rfl)
theorem dX1_init_43 : decode cX1_init 43 = .ok (.iconst 4, 1) := dk_7 (dk_at dksX1_init_1 19 rfl rfl)
theorem dX1_init_44 : decode cX1_init 44 = .ok (.iconst 0, 1) := dk_3 (dk_at dksX1_init_1 20 rfl rfl)
theorem dX1_init_45 : decode cX1_init 45 = .ok (.iastore, 1) := dk_79 (dk_at dksX1_init_1 21 rfl rfl)
theorem dX1_init_46 : decode cX1_init 46 = .ok (.dup, 1) := dk_89 (dk_at dksX1_init_1 22 rfl rfl)
theorem dX1_init_47 : decode cX1_init 47 = .ok (.iconst 5, 1) := dk_8 (dk_at dksX1_init_1 23 rfl rfl)
theorem dX1_init_48 : decode cX1_init 48 = .ok (.bipush 12, 2) := dk_16 12 (dk_at dksX1_init_2 0 rfl rfl)
theorem dX1_init_50 : decode cX1_init 50 = .ok (.iastore, 1) := dk_79 (dk_at dksX1_init_2 2 rfl rfl)
theorem dX1_init_51 : decode cX1_init 51 = .ok (.dup, 1) := dk_89 (dk_at dksX1_init_2 3 rfl rfl)
theorem dX1_init_52 : decode cX1_init 52 = .ok (.bipush 6, 2) := dk_16 6 (dk_at dksX1_init_2 4 rfl rfl)
theorem dX1_init_54 : decode cX1_init 54 = .ok (.iconst 3, 1) := dk_6 (dk_at dksX1_init_2 6 rfl rfl)
theorem dX1_init_55 : decode cX1_init 55 = .ok (.iastore, 1) := dk_79 (dk_at dksX1_init_2 7 rfl rfl)
theorem dX1_init_56 : decode cX1_init 56 = .ok (.dup, 1) := dk_89 (dk_at dksX1_init_2 8 rfl rfl)
theorem dX1_init_57 : decode cX1_init 57 = .ok (.bipush 7, 2) := dk_16 7 (dk_at dksX1_init_2 9 rfl rfl)
theorem dX1_init_59 : decode cX1_init 59 = .ok (.iconst 1, 1) := dk_4 (dk_at dksX1_init_2 11 rfl rfl)
theorem dX1_init_60 : decode cX1_init 60 = .ok (.iastore, 1) := dk_79 (dk_at dksX1_init_2 12 rfl rfl)
theorem dX1_init_61 : decode cX1_init 61 = .ok (.dup, 1) := dk_89 (dk_at dksX1_init_2 13 rfl rfl)
theorem dX1_init_62 : decode cX1_init 62 = .ok (.bipush 8, 2) := dk_16 8 (dk_at dksX1_init_2 14 rfl rfl)
theorem dX1_init_64 : decode cX1_init 64 = .ok (.bipush 9, 2) := dk_16 9 (dk_at dksX1_init_2 16 rfl rfl)
theorem dX1_init_66 : decode cX1_init 66 = .ok (.iastore, 1) := dk_79 (dk_at dksX1_init_2 18 rfl rfl)
theorem dX1_init_67 : decode cX1_init 67 = .ok (.dup, 1) := dk_89 (dk_at dksX1_init_2 19 rfl rfl)
theorem dX1_init_68 : decode cX1_init 68 = .ok (.bipush 9, 2) := dk_16 9 (dk_at dksX1_init_2 20 rfl rfl)
theorem dX1_init_70 : decode cX1_init 70 = .ok (.iconst 4, 1) := dk_7 (dk_at dksX1_init_2 22 rfl rfl)
theorem dX1_init_71 : decode cX1_init 71 = .ok (.iastore, 1) := dk_79 (dk_at dksX1_init_2 23 rfl rfl)
theorem dX1_init_72 : decode cX1_init 72 = .ok (.invokestatic 54, 3) := dk_184 0 54 (dk_at dksX1_init_3 0 rfl rfl)
theorem dX1_init_75 : decode cX1_init 75 = .ok (.putfield 58, 3) := dk_181 0 58 (dk_at dksX1_init_3 3 rfl rfl)
theorem dX1_init_78 : decode cX1_init 78 = .ok (.aload_n 0, 1) := dk_42 (dk_at dksX1_init_3 6 rfl rfl)
theorem dX1_init_79 : decode cX1_init 79 = .ok (.new 62, 3) := dk_187 0 62 (dk_at dksX1_init_3 7 rfl rfl)
theorem dX1_init_82 : decode cX1_init 82 = .ok (.dup, 1) := dk_89 (dk_at dksX1_init_3 10 rfl rfl)
theorem dX1_init_83 : decode cX1_init 83 = .ok (.bipush 9, 2) := dk_16 9 (dk_at dksX1_init_3 11 rfl rfl)
theorem dX1_init_85 : decode cX1_init 85 = .ok (.invokespecial 64, 3) := dk_183 0 64 (dk_at dksX1_init_3 13 rfl rfl)
theorem dX1_init_88 : decode cX1_init 88 = .ok (.putfield 65, 3) := dk_181 0 65 (dk_at dksX1_init_3 16 rfl rfl)
theorem dX1_init_91 : decode cX1_init 91 = .ok (.aload_n 0, 1) := dk_42 (dk_at dksX1_init_3 19 rfl rfl)
theorem dX1_init_92 : decode cX1_init 92 = .ok (.new 69, 3) := dk_187 0 69 (dk_at dksX1_init_3 20 rfl rfl)
theorem dX1_init_95 : decode cX1_init 95 = .ok (.dup, 1) := dk_89 (dk_at dksX1_init_3 23 rfl rfl)
theorem dX1_init_96 : decode cX1_init 96 = .ok (.invokespecial 71, 3) := dk_183 0 71 (dk_at dksX1_init_4 0 rfl rfl)
theorem dX1_init_99 : decode cX1_init 99 = .ok (.putfield 72, 3) := dk_181 0 72 (dk_at dksX1_init_4 3 rfl rfl)
theorem dX1_init_102 : decode cX1_init 102 = .ok (.return_, 1) := dk_177 (dk_at dksX1_init_4 6 rfl rfl)
abbrev cX1_initialStore : ByteArray := prog_1_method_14_code
def yX1_initialStore : MethodName := ⟨RX1, "initialStore", "([I)LVectorVersions$Store;"⟩
def dkwX1_initialStore_2 : List UInt8 := [187, 0, 91, 89, 183, 0, 93, 43, 182, 0, 94, 176]
abbrev dktX1_initialStore_2 : List UInt8 := dkwX1_initialStore_2 ++ []
def dkwX1_initialStore_1 : List UInt8 := [21, 4, 46, 54, 5, 43, 21, 5, 184, 0, 79, 185, 0, 85, 2, 0, 87, 132, 4, 1, 167, 255, 229]
abbrev dktX1_initialStore_1 : List UInt8 := dkwX1_initialStore_1 ++ dktX1_initialStore_2
def dkwX1_initialStore_0 : List UInt8 := [187, 0, 76, 89, 183, 0, 78, 76, 42, 77, 44, 190, 62, 3, 54, 4, 21, 4, 29, 162, 0, 27, 44]
abbrev dktX1_initialStore_0 : List UInt8 := dkwX1_initialStore_0 ++ dktX1_initialStore_1
theorem dksX1_initialStore_0 : cX1_initialStore.data.toList.drop 0 = dktX1_initialStore_0 := by decide +kernel
theorem dksX1_initialStore_1 : cX1_initialStore.data.toList.drop 23 = dktX1_initialStore_1 := dk_seg dksX1_initialStore_0 23 rfl rfl
theorem dksX1_initialStore_2 : cX1_initialStore.data.toList.drop 46 = dktX1_initialStore_2 := dk_seg dksX1_initialStore_1 23 rfl rfl
theorem dX1_initialStore_0 : decode cX1_initialStore 0 = .ok (.new 76, 3) := dk_187 0 76 (dk_at dksX1_initialStore_0 0 rfl rfl)
theorem dX1_initialStore_3 : decode cX1_initialStore 3 = .ok (.dup, 1) := dk_89 (dk_at dksX1_initialStore_0 3 rfl rfl)
theorem dX1_initialStore_4 : decode cX1_initialStore 4 = .ok (.invokespecial 78, 3) := dk_183 0 78 (dk_at dksX1_initialStore_0 4 rfl rfl)
theorem dX1_initialStore_7 : decode cX1_initialStore 7 = .ok (.astore_n 1, 1) := dk_76 (dk_at dksX1_initialStore_0 7 rfl rfl)
theorem dX1_initialStore_8 : decode cX1_initialStore 8 = .ok (.aload_n 0, 1) := dk_42 (dk_at dksX1_initialStore_0 8 rfl rfl)
theorem dX1_initialStore_9 : decode cX1_initialStore 9 = .ok (.astore_n 2, 1) := dk_77 (dk_at dksX1_initialStore_0 9 rfl rfl)
theorem dX1_initialStore_10 : decode cX1_initialStore 10 = .ok (.aload_n 2, 1) := dk_44 (dk_at dksX1_initialStore_0 10 rfl rfl)
theorem dX1_initialStore_11 : decode cX1_initialStore 11 = .ok (.arraylength, 1) := dk_190 (dk_at dksX1_initialStore_0 11 rfl rfl)
theorem dX1_initialStore_12 : decode cX1_initialStore 12 = .ok (.istore_n 3, 1) := dk_62 (dk_at dksX1_initialStore_0 12 rfl rfl)
theorem dX1_initialStore_13 : decode cX1_initialStore 13 = .ok (.iconst 0, 1) := dk_3 (dk_at dksX1_initialStore_0 13 rfl rfl)
theorem dX1_initialStore_14 : decode cX1_initialStore 14 = .ok (.istore 4, 2) := dk_54 4 (dk_at dksX1_initialStore_0 14 rfl rfl)
theorem dX1_initialStore_16 : decode cX1_initialStore 16 = .ok (.iload 4, 2) := dk_21 4 (dk_at dksX1_initialStore_0 16 rfl rfl)
theorem dX1_initialStore_18 : decode cX1_initialStore 18 = .ok (.iload_n 3, 1) := dk_29 (dk_at dksX1_initialStore_0 18 rfl rfl)
theorem dX1_initialStore_19 : decode cX1_initialStore 19 = .ok (.if_icmp .ge 27, 3) := dk_162 0 27 (dk_at dksX1_initialStore_0 19 rfl rfl)
theorem dX1_initialStore_22 : decode cX1_initialStore 22 = .ok (.aload_n 2, 1) := dk_44 (dk_at dksX1_initialStore_0 22 rfl rfl)
theorem dX1_initialStore_23 : decode cX1_initialStore 23 = .ok (.iload 4, 2) := dk_21 4 (dk_at dksX1_initialStore_1 0 rfl rfl)
theorem dX1_initialStore_25 : decode cX1_initialStore 25 = .ok (.iaload, 1) := dk_46 (dk_at dksX1_initialStore_1 2 rfl rfl)
theorem dX1_initialStore_26 : decode cX1_initialStore 26 = .ok (.istore 5, 2) := dk_54 5 (dk_at dksX1_initialStore_1 3 rfl rfl)
theorem dX1_initialStore_28 : decode cX1_initialStore 28 = .ok (.aload_n 1, 1) := dk_43 (dk_at dksX1_initialStore_1 5 rfl rfl)
theorem dX1_initialStore_29 : decode cX1_initialStore 29 = .ok (.iload 5, 2) := dk_21 5 (dk_at dksX1_initialStore_1 6 rfl rfl)
theorem dX1_initialStore_31 : decode cX1_initialStore 31 = .ok (.invokestatic 79, 3) := dk_184 0 79 (dk_at dksX1_initialStore_1 8 rfl rfl)
theorem dX1_initialStore_34 : decode cX1_initialStore 34 = .ok (.invokeinterface 85 2, 5) := by decide +kernel
theorem dX1_initialStore_39 : decode cX1_initialStore 39 = .ok (.pop, 1) := dk_87 (dk_at dksX1_initialStore_1 16 rfl rfl)
theorem dX1_initialStore_40 : decode cX1_initialStore 40 = .ok (.iinc 4 1, 3) := dk_132 4 1 (dk_at dksX1_initialStore_1 17 rfl rfl)
theorem dX1_initialStore_43 : decode cX1_initialStore 43 = .ok (.goto (-27), 3) := dk_167 255 229 (dk_at dksX1_initialStore_1 20 rfl rfl)
theorem dX1_initialStore_46 : decode cX1_initialStore 46 = .ok (.new 91, 3) := dk_187 0 91 (dk_at dksX1_initialStore_2 0 rfl rfl)
theorem dX1_initialStore_49 : decode cX1_initialStore 49 = .ok (.dup, 1) := dk_89 (dk_at dksX1_initialStore_2 3 rfl rfl)
theorem dX1_initialStore_50 : decode cX1_initialStore 50 = .ok (.invokespecial 93, 3) := dk_183 0 93 (dk_at dksX1_initialStore_2 4 rfl rfl)
theorem dX1_initialStore_53 : decode cX1_initialStore 53 = .ok (.aload_n 1, 1) := dk_43 (dk_at dksX1_initialStore_2 7 rfl rfl)
theorem dX1_initialStore_54 : decode cX1_initialStore 54 = .ok (.invokevirtual 94, 3) := dk_182 0 94 (dk_at dksX1_initialStore_2 8 rfl rfl)
theorem dX1_initialStore_57 : decode cX1_initialStore 57 = .ok (.areturn, 1) := dk_176 (dk_at dksX1_initialStore_2 11 rfl rfl)
abbrev cX1_heightFor : ByteArray := prog_1_method_7_code
def yX1_heightFor : MethodName := ⟨RX1, "heightFor", "(I)I"⟩
def dkwX1_heightFor_0 : List UInt8 := [26, 154, 0, 5, 3, 172, 4, 60, 27, 184, 0, 18, 26, 162, 0, 9, 132, 1, 1, 167, 255, 245, 27, 172]
abbrev dktX1_heightFor_0 : List UInt8 := dkwX1_heightFor_0 ++ []
theorem dksX1_heightFor_0 : cX1_heightFor.data.toList.drop 0 = dktX1_heightFor_0 := by decide +kernel
theorem dX1_heightFor_0 : decode cX1_heightFor 0 = .ok (.iload_n 0, 1) := dk_26 (dk_at dksX1_heightFor_0 0 rfl rfl)
theorem dX1_heightFor_1 : decode cX1_heightFor 1 = .ok (.ifCond .ne 5, 3) := dk_154 0 5 (dk_at dksX1_heightFor_0 1 rfl rfl)
theorem dX1_heightFor_4 : decode cX1_heightFor 4 = .ok (.iconst 0, 1) := dk_3 (dk_at dksX1_heightFor_0 4 rfl rfl)
theorem dX1_heightFor_5 : decode cX1_heightFor 5 = .ok (.ireturn, 1) := dk_172 (dk_at dksX1_heightFor_0 5 rfl rfl)
theorem dX1_heightFor_6 : decode cX1_heightFor 6 = .ok (.iconst 1, 1) := dk_4 (dk_at dksX1_heightFor_0 6 rfl rfl)
theorem dX1_heightFor_7 : decode cX1_heightFor 7 = .ok (.istore_n 1, 1) := dk_60 (dk_at dksX1_heightFor_0 7 rfl rfl)
theorem dX1_heightFor_8 : decode cX1_heightFor 8 = .ok (.iload_n 1, 1) := dk_27 (dk_at dksX1_heightFor_0 8 rfl rfl)
theorem dX1_heightFor_9 : decode cX1_heightFor 9 = .ok (.invokestatic 18, 3) := dk_184 0 18 (dk_at dksX1_heightFor_0 9 rfl rfl)
theorem dX1_heightFor_12 : decode cX1_heightFor 12 = .ok (.iload_n 0, 1) := dk_26 (dk_at dksX1_heightFor_0 12 rfl rfl)
theorem dX1_heightFor_13 : decode cX1_heightFor 13 = .ok (.if_icmp .ge 9, 3) := dk_162 0 9 (dk_at dksX1_heightFor_0 13 rfl rfl)
theorem dX1_heightFor_16 : decode cX1_heightFor 16 = .ok (.iinc 1 1, 3) := dk_132 1 1 (dk_at dksX1_heightFor_0 16 rfl rfl)
theorem dX1_heightFor_19 : decode cX1_heightFor 19 = .ok (.goto (-11), 3) := dk_167 255 245 (dk_at dksX1_heightFor_0 19 rfl rfl)
theorem dX1_heightFor_22 : decode cX1_heightFor 22 = .ok (.iload_n 1, 1) := dk_27 (dk_at dksX1_heightFor_0 22 rfl rfl)
theorem dX1_heightFor_23 : decode cX1_heightFor 23 = .ok (.ireturn, 1) := dk_172 (dk_at dksX1_heightFor_0 23 rfl rfl)
abbrev cX1_capacity : ByteArray := prog_1_method_6_code
def yX1_capacity : MethodName := ⟨RX1, "capacity", "(I)I"⟩
def dkwX1_capacity_0 : List UInt8 := [4, 60, 3, 61, 28, 26, 162, 0, 13, 27, 7, 104, 60, 132, 2, 1, 167, 255, 244, 27, 172]
abbrev dktX1_capacity_0 : List UInt8 := dkwX1_capacity_0 ++ []
theorem dksX1_capacity_0 : cX1_capacity.data.toList.drop 0 = dktX1_capacity_0 := by decide +kernel
theorem dX1_capacity_0 : decode cX1_capacity 0 = .ok (.iconst 1, 1) := dk_4 (dk_at dksX1_capacity_0 0 rfl rfl)
theorem dX1_capacity_1 : decode cX1_capacity 1 = .ok (.istore_n 1, 1) := dk_60 (dk_at dksX1_capacity_0 1 rfl rfl)
theorem dX1_capacity_2 : decode cX1_capacity 2 = .ok (.iconst 0, 1) := dk_3 (dk_at dksX1_capacity_0 2 rfl rfl)
theorem dX1_capacity_3 : decode cX1_capacity 3 = .ok (.istore_n 2, 1) := dk_61 (dk_at dksX1_capacity_0 3 rfl rfl)
theorem dX1_capacity_4 : decode cX1_capacity 4 = .ok (.iload_n 2, 1) := dk_28 (dk_at dksX1_capacity_0 4 rfl rfl)
theorem dX1_capacity_5 : decode cX1_capacity 5 = .ok (.iload_n 0, 1) := dk_26 (dk_at dksX1_capacity_0 5 rfl rfl)
theorem dX1_capacity_6 : decode cX1_capacity 6 = .ok (.if_icmp .ge 13, 3) := dk_162 0 13 (dk_at dksX1_capacity_0 6 rfl rfl)
theorem dX1_capacity_9 : decode cX1_capacity 9 = .ok (.iload_n 1, 1) := dk_27 (dk_at dksX1_capacity_0 9 rfl rfl)
theorem dX1_capacity_10 : decode cX1_capacity 10 = .ok (.iconst 4, 1) := dk_7 (dk_at dksX1_capacity_0 10 rfl rfl)
theorem dX1_capacity_11 : decode cX1_capacity 11 = .ok (.imul, 1) := dk_104 (dk_at dksX1_capacity_0 11 rfl rfl)
theorem dX1_capacity_12 : decode cX1_capacity 12 = .ok (.istore_n 1, 1) := dk_60 (dk_at dksX1_capacity_0 12 rfl rfl)
theorem dX1_capacity_13 : decode cX1_capacity 13 = .ok (.iinc 2 1, 3) := dk_132 2 1 (dk_at dksX1_capacity_0 13 rfl rfl)
theorem dX1_capacity_16 : decode cX1_capacity 16 = .ok (.goto (-12), 3) := dk_167 255 244 (dk_at dksX1_capacity_0 16 rfl rfl)
theorem dX1_capacity_19 : decode cX1_capacity 19 = .ok (.iload_n 1, 1) := dk_27 (dk_at dksX1_capacity_0 19 rfl rfl)
theorem dX1_capacity_20 : decode cX1_capacity 20 = .ok (.ireturn, 1) := dk_172 (dk_at dksX1_capacity_0 20 rfl rfl)
abbrev cX1_appendInput : ByteArray := prog_1_method_16_code
def yX1_appendInput : MethodName := ⟨RX1, "appendInput", "(IIIII)I"⟩
def dkwX1_appendInput_2 : List UInt8 := [172]
abbrev dktX1_appendInput_2 : List UInt8 := dkwX1_appendInput_2 ++ []
def dkwX1_appendInput_1 : List UInt8 := [4, 28, 79, 89, 5, 29, 79, 89, 6, 21, 4, 79, 89, 7, 21, 5, 79, 182, 0, 101, 42, 180, 0, 98]
abbrev dktX1_appendInput_1 : List UInt8 := dkwX1_appendInput_1 ++ dktX1_appendInput_2
def dkwX1_appendInput_0 : List UInt8 := [42, 180, 0, 98, 16, 20, 96, 17, 2, 88, 164, 0, 5, 2, 172, 42, 8, 188, 10, 89, 3, 27, 79, 89]
abbrev dktX1_appendInput_0 : List UInt8 := dkwX1_appendInput_0 ++ dktX1_appendInput_1
theorem dksX1_appendInput_0 : cX1_appendInput.data.toList.drop 0 = dktX1_appendInput_0 := by decide +kernel
theorem dksX1_appendInput_1 : cX1_appendInput.data.toList.drop 24 = dktX1_appendInput_1 := dk_seg dksX1_appendInput_0 24 rfl rfl
theorem dksX1_appendInput_2 : cX1_appendInput.data.toList.drop 48 = dktX1_appendInput_2 := dk_seg dksX1_appendInput_1 24 rfl rfl
theorem dX1_appendInput_0 : decode cX1_appendInput 0 = .ok (.aload_n 0, 1) := dk_42 (dk_at dksX1_appendInput_0 0 rfl rfl)
theorem dX1_appendInput_1 : decode cX1_appendInput 1 = .ok (.getfield 98, 3) := dk_180 0 98 (dk_at dksX1_appendInput_0 1 rfl rfl)
theorem dX1_appendInput_4 : decode cX1_appendInput 4 = .ok (.bipush 20, 2) := dk_16 20 (dk_at dksX1_appendInput_0 4 rfl rfl)
theorem dX1_appendInput_6 : decode cX1_appendInput 6 = .ok (.iadd, 1) := dk_96 (dk_at dksX1_appendInput_0 6 rfl rfl)
theorem dX1_appendInput_7 : decode cX1_appendInput 7 = .ok (.sipush 600, 3) := dk_17 2 88 (dk_at dksX1_appendInput_0 7 rfl rfl)
theorem dX1_appendInput_10 : decode cX1_appendInput 10 = .ok (.if_icmp .le 5, 3) := dk_164 0 5 (dk_at dksX1_appendInput_0 10 rfl rfl)
theorem dX1_appendInput_13 : decode cX1_appendInput 13 = .ok (.iconst (-1), 1) := dk_2 (dk_at dksX1_appendInput_0 13 rfl rfl)
theorem dX1_appendInput_14 : decode cX1_appendInput 14 = .ok (.ireturn, 1) := dk_172 (dk_at dksX1_appendInput_0 14 rfl rfl)
theorem dX1_appendInput_15 : decode cX1_appendInput 15 = .ok (.aload_n 0, 1) := dk_42 (dk_at dksX1_appendInput_0 15 rfl rfl)
theorem dX1_appendInput_16 : decode cX1_appendInput 16 = .ok (.iconst 5, 1) := dk_8 (dk_at dksX1_appendInput_0 16 rfl rfl)
theorem dX1_appendInput_17 : decode cX1_appendInput 17 = .ok (.newarray .int, 2) := dk_188_10 (dk_at dksX1_appendInput_0 17 rfl rfl)
theorem dX1_appendInput_19 : decode cX1_appendInput 19 = .ok (.dup, 1) := dk_89 (dk_at dksX1_appendInput_0 19 rfl rfl)
theorem dX1_appendInput_20 : decode cX1_appendInput 20 = .ok (.iconst 0, 1) := dk_3 (dk_at dksX1_appendInput_0 20 rfl rfl)
theorem dX1_appendInput_21 : decode cX1_appendInput 21 = .ok (.iload_n 1, 1) := dk_27 (dk_at dksX1_appendInput_0 21 rfl rfl)
theorem dX1_appendInput_22 : decode cX1_appendInput 22 = .ok (.iastore, 1) := dk_79 (dk_at dksX1_appendInput_0 22 rfl rfl)
theorem dX1_appendInput_23 : decode cX1_appendInput 23 = .ok (.dup, 1) := dk_89 (dk_at dksX1_appendInput_0 23 rfl rfl)
theorem dX1_appendInput_24 : decode cX1_appendInput 24 = .ok (.iconst 1, 1) := dk_4 (dk_at dksX1_appendInput_1 0 rfl rfl)
theorem dX1_appendInput_25 : decode cX1_appendInput 25 = .ok (.iload_n 2, 1) := dk_28 (dk_at dksX1_appendInput_1 1 rfl rfl)
theorem dX1_appendInput_26 : decode cX1_appendInput 26 = .ok (.iastore, 1) := dk_79 (dk_at dksX1_appendInput_1 2 rfl rfl)
theorem dX1_appendInput_27 : decode cX1_appendInput 27 = .ok (.dup, 1) := dk_89 (dk_at dksX1_appendInput_1 3 rfl rfl)
theorem dX1_appendInput_28 : decode cX1_appendInput 28 = .ok (.iconst 2, 1) := dk_5 (dk_at dksX1_appendInput_1 4 rfl rfl)
theorem dX1_appendInput_29 : decode cX1_appendInput 29 = .ok (.iload_n 3, 1) := dk_29 (dk_at dksX1_appendInput_1 5 rfl rfl)
theorem dX1_appendInput_30 : decode cX1_appendInput 30 = .ok (.iastore, 1) := dk_79 (dk_at dksX1_appendInput_1 6 rfl rfl)
theorem dX1_appendInput_31 : decode cX1_appendInput 31 = .ok (.dup, 1) := dk_89 (dk_at dksX1_appendInput_1 7 rfl rfl)
theorem dX1_appendInput_32 : decode cX1_appendInput 32 = .ok (.iconst 3, 1) := dk_6 (dk_at dksX1_appendInput_1 8 rfl rfl)
theorem dX1_appendInput_33 : decode cX1_appendInput 33 = .ok (.iload 4, 2) := dk_21 4 (dk_at dksX1_appendInput_1 9 rfl rfl)
theorem dX1_appendInput_35 : decode cX1_appendInput 35 = .ok (.iastore, 1) := dk_79 (dk_at dksX1_appendInput_1 11 rfl rfl)
theorem dX1_appendInput_36 : decode cX1_appendInput 36 = .ok (.dup, 1) := dk_89 (dk_at dksX1_appendInput_1 12 rfl rfl)
theorem dX1_appendInput_37 : decode cX1_appendInput 37 = .ok (.iconst 4, 1) := dk_7 (dk_at dksX1_appendInput_1 13 rfl rfl)
theorem dX1_appendInput_38 : decode cX1_appendInput 38 = .ok (.iload 5, 2) := dk_21 5 (dk_at dksX1_appendInput_1 14 rfl rfl)
theorem dX1_appendInput_40 : decode cX1_appendInput 40 = .ok (.iastore, 1) := dk_79 (dk_at dksX1_appendInput_1 16 rfl rfl)
theorem dX1_appendInput_41 : decode cX1_appendInput 41 = .ok (.invokevirtual 101, 3) := dk_182 0 101 (dk_at dksX1_appendInput_1 17 rfl rfl)
theorem dX1_appendInput_44 : decode cX1_appendInput 44 = .ok (.aload_n 0, 1) := dk_42 (dk_at dksX1_appendInput_1 20 rfl rfl)
theorem dX1_appendInput_45 : decode cX1_appendInput 45 = .ok (.getfield 98, 3) := dk_180 0 98 (dk_at dksX1_appendInput_1 21 rfl rfl)
theorem dX1_appendInput_48 : decode cX1_appendInput 48 = .ok (.ireturn, 1) := dk_172 (dk_at dksX1_appendInput_2 0 rfl rfl)
abbrev cX1_append : ByteArray := prog_1_method_15_code
def yX1_append : MethodName := ⟨RX1, "append", "([I)V"⟩
def dkwX1_append_2 : List UInt8 := [180, 0, 98, 4, 96, 181, 0, 98, 132, 6, 248, 167, 255, 223, 132, 4, 1, 167, 255, 201, 177]
abbrev dktX1_append_2 : List UInt8 := dkwX1_append_2 ++ []
def dkwX1_append_1 : List UInt8 := [21, 6, 155, 0, 34, 42, 180, 0, 46, 42, 180, 0, 98, 21, 5, 21, 6, 122, 145, 84, 42, 89]
abbrev dktX1_append_1 : List UInt8 := dkwX1_append_1 ++ dktX1_append_2
def dkwX1_append_0 : List UInt8 := [43, 77, 44, 190, 62, 3, 54, 4, 21, 4, 29, 162, 0, 55, 44, 21, 4, 46, 54, 5, 16, 24, 54, 6]
abbrev dktX1_append_0 : List UInt8 := dkwX1_append_0 ++ dktX1_append_1
theorem dksX1_append_0 : cX1_append.data.toList.drop 0 = dktX1_append_0 := by decide +kernel
theorem dksX1_append_1 : cX1_append.data.toList.drop 24 = dktX1_append_1 := dk_seg dksX1_append_0 24 rfl rfl
theorem dksX1_append_2 : cX1_append.data.toList.drop 46 = dktX1_append_2 := dk_seg dksX1_append_1 22 rfl rfl
theorem dX1_append_0 : decode cX1_append 0 = .ok (.aload_n 1, 1) := dk_43 (dk_at dksX1_append_0 0 rfl rfl)
theorem dX1_append_1 : decode cX1_append 1 = .ok (.astore_n 2, 1) := dk_77 (dk_at dksX1_append_0 1 rfl rfl)
theorem dX1_append_2 : decode cX1_append 2 = .ok (.aload_n 2, 1) := dk_44 (dk_at dksX1_append_0 2 rfl rfl)
theorem dX1_append_3 : decode cX1_append 3 = .ok (.arraylength, 1) := dk_190 (dk_at dksX1_append_0 3 rfl rfl)
theorem dX1_append_4 : decode cX1_append 4 = .ok (.istore_n 3, 1) := dk_62 (dk_at dksX1_append_0 4 rfl rfl)
theorem dX1_append_5 : decode cX1_append 5 = .ok (.iconst 0, 1) := dk_3 (dk_at dksX1_append_0 5 rfl rfl)
theorem dX1_append_6 : decode cX1_append 6 = .ok (.istore 4, 2) := dk_54 4 (dk_at dksX1_append_0 6 rfl rfl)
theorem dX1_append_8 : decode cX1_append 8 = .ok (.iload 4, 2) := dk_21 4 (dk_at dksX1_append_0 8 rfl rfl)
theorem dX1_append_10 : decode cX1_append 10 = .ok (.iload_n 3, 1) := dk_29 (dk_at dksX1_append_0 10 rfl rfl)
theorem dX1_append_11 : decode cX1_append 11 = .ok (.if_icmp .ge 55, 3) := dk_162 0 55 (dk_at dksX1_append_0 11 rfl rfl)
theorem dX1_append_14 : decode cX1_append 14 = .ok (.aload_n 2, 1) := dk_44 (dk_at dksX1_append_0 14 rfl rfl)
theorem dX1_append_15 : decode cX1_append 15 = .ok (.iload 4, 2) := dk_21 4 (dk_at dksX1_append_0 15 rfl rfl)
theorem dX1_append_17 : decode cX1_append 17 = .ok (.iaload, 1) := dk_46 (dk_at dksX1_append_0 17 rfl rfl)
theorem dX1_append_18 : decode cX1_append 18 = .ok (.istore 5, 2) := dk_54 5 (dk_at dksX1_append_0 18 rfl rfl)
theorem dX1_append_20 : decode cX1_append 20 = .ok (.bipush 24, 2) := dk_16 24 (dk_at dksX1_append_0 20 rfl rfl)
theorem dX1_append_22 : decode cX1_append 22 = .ok (.istore 6, 2) := dk_54 6 (dk_at dksX1_append_0 22 rfl rfl)
theorem dX1_append_24 : decode cX1_append 24 = .ok (.iload 6, 2) := dk_21 6 (dk_at dksX1_append_1 0 rfl rfl)
theorem dX1_append_26 : decode cX1_append 26 = .ok (.ifCond .lt 34, 3) := dk_155 0 34 (dk_at dksX1_append_1 2 rfl rfl)
theorem dX1_append_29 : decode cX1_append 29 = .ok (.aload_n 0, 1) := dk_42 (dk_at dksX1_append_1 5 rfl rfl)
theorem dX1_append_30 : decode cX1_append 30 = .ok (.getfield 46, 3) := dk_180 0 46 (dk_at dksX1_append_1 6 rfl rfl)
theorem dX1_append_33 : decode cX1_append 33 = .ok (.aload_n 0, 1) := dk_42 (dk_at dksX1_append_1 9 rfl rfl)
theorem dX1_append_34 : decode cX1_append 34 = .ok (.getfield 98, 3) := dk_180 0 98 (dk_at dksX1_append_1 10 rfl rfl)
theorem dX1_append_37 : decode cX1_append 37 = .ok (.iload 5, 2) := dk_21 5 (dk_at dksX1_append_1 13 rfl rfl)
theorem dX1_append_39 : decode cX1_append 39 = .ok (.iload 6, 2) := dk_21 6 (dk_at dksX1_append_1 15 rfl rfl)
theorem dX1_append_41 : decode cX1_append 41 = .ok (.ishr, 1) := dk_122 (dk_at dksX1_append_1 17 rfl rfl)
theorem dX1_append_42 : decode cX1_append 42 = .ok (.i2b, 1) := dk_145 (dk_at dksX1_append_1 18 rfl rfl)
theorem dX1_append_43 : decode cX1_append 43 = .ok (.bastore, 1) := dk_84 (dk_at dksX1_append_1 19 rfl rfl)
theorem dX1_append_44 : decode cX1_append 44 = .ok (.aload_n 0, 1) := dk_42 (dk_at dksX1_append_1 20 rfl rfl)
theorem dX1_append_45 : decode cX1_append 45 = .ok (.dup, 1) := dk_89 (dk_at dksX1_append_1 21 rfl rfl)
theorem dX1_append_46 : decode cX1_append 46 = .ok (.getfield 98, 3) := dk_180 0 98 (dk_at dksX1_append_2 0 rfl rfl)
theorem dX1_append_49 : decode cX1_append 49 = .ok (.iconst 1, 1) := dk_4 (dk_at dksX1_append_2 3 rfl rfl)
theorem dX1_append_50 : decode cX1_append 50 = .ok (.iadd, 1) := dk_96 (dk_at dksX1_append_2 4 rfl rfl)
theorem dX1_append_51 : decode cX1_append 51 = .ok (.putfield 98, 3) := dk_181 0 98 (dk_at dksX1_append_2 5 rfl rfl)
theorem dX1_append_54 : decode cX1_append 54 = .ok (.iinc 6 (-8), 3) := dk_132 6 248 (dk_at dksX1_append_2 8 rfl rfl)
theorem dX1_append_57 : decode cX1_append 57 = .ok (.goto (-33), 3) := dk_167 255 223 (dk_at dksX1_append_2 11 rfl rfl)
theorem dX1_append_60 : decode cX1_append 60 = .ok (.iinc 4 1, 3) := dk_132 4 1 (dk_at dksX1_append_2 14 rfl rfl)
theorem dX1_append_63 : decode cX1_append 63 = .ok (.goto (-55), 3) := dk_167 255 201 (dk_at dksX1_append_2 17 rfl rfl)
theorem dX1_append_66 : decode cX1_append 66 = .ok (.return_, 1) := dk_177 (dk_at dksX1_append_2 20 rfl rfl)
abbrev cX1_truncateInput : ByteArray := prog_1_method_17_code
def yX1_truncateInput : MethodName := ⟨RX1, "truncateInput", "(I)Z"⟩
def dkwX1_truncateInput_0 : List UInt8 := [27, 3, 42, 180, 0, 98, 184, 0, 105, 154, 0, 5, 3, 172, 42, 27, 181, 0, 98, 4, 172]
abbrev dktX1_truncateInput_0 : List UInt8 := dkwX1_truncateInput_0 ++ []
theorem dksX1_truncateInput_0 : cX1_truncateInput.data.toList.drop 0 = dktX1_truncateInput_0 := by decide +kernel
theorem dX1_truncateInput_0 : decode cX1_truncateInput 0 = .ok (.iload_n 1, 1) := dk_27 (dk_at dksX1_truncateInput_0 0 rfl rfl)
theorem dX1_truncateInput_1 : decode cX1_truncateInput 1 = .ok (.iconst 0, 1) := dk_3 (dk_at dksX1_truncateInput_0 1 rfl rfl)
theorem dX1_truncateInput_2 : decode cX1_truncateInput 2 = .ok (.aload_n 0, 1) := dk_42 (dk_at dksX1_truncateInput_0 2 rfl rfl)
theorem dX1_truncateInput_3 : decode cX1_truncateInput 3 = .ok (.getfield 98, 3) := dk_180 0 98 (dk_at dksX1_truncateInput_0 3 rfl rfl)
theorem dX1_truncateInput_6 : decode cX1_truncateInput 6 = .ok (.invokestatic 105, 3) := dk_184 0 105 (dk_at dksX1_truncateInput_0 6 rfl rfl)
theorem dX1_truncateInput_9 : decode cX1_truncateInput 9 = .ok (.ifCond .ne 5, 3) := dk_154 0 5 (dk_at dksX1_truncateInput_0 9 rfl rfl)
theorem dX1_truncateInput_12 : decode cX1_truncateInput 12 = .ok (.iconst 0, 1) := dk_3 (dk_at dksX1_truncateInput_0 12 rfl rfl)
theorem dX1_truncateInput_13 : decode cX1_truncateInput 13 = .ok (.ireturn, 1) := dk_172 (dk_at dksX1_truncateInput_0 13 rfl rfl)
theorem dX1_truncateInput_14 : decode cX1_truncateInput 14 = .ok (.aload_n 0, 1) := dk_42 (dk_at dksX1_truncateInput_0 14 rfl rfl)
theorem dX1_truncateInput_15 : decode cX1_truncateInput 15 = .ok (.iload_n 1, 1) := dk_27 (dk_at dksX1_truncateInput_0 15 rfl rfl)
theorem dX1_truncateInput_16 : decode cX1_truncateInput 16 = .ok (.putfield 98, 3) := dk_181 0 98 (dk_at dksX1_truncateInput_0 16 rfl rfl)
theorem dX1_truncateInput_19 : decode cX1_truncateInput 19 = .ok (.iconst 1, 1) := dk_4 (dk_at dksX1_truncateInput_0 19 rfl rfl)
theorem dX1_truncateInput_20 : decode cX1_truncateInput 20 = .ok (.ireturn, 1) := dk_172 (dk_at dksX1_truncateInput_0 20 rfl rfl)
abbrev cX1_isBetween : ByteArray := prog_1_method_1_code
def yX1_isBetween : MethodName := ⟨RX1, "isBetween", "(III)Z"⟩
def dkwX1_isBetween_0 : List UInt8 := [26, 27, 161, 0, 12, 26, 28, 163, 0, 7, 4, 167, 0, 4, 3, 172]
abbrev dktX1_isBetween_0 : List UInt8 := dkwX1_isBetween_0 ++ []
theorem dksX1_isBetween_0 : cX1_isBetween.data.toList.drop 0 = dktX1_isBetween_0 := by decide +kernel
theorem dX1_isBetween_0 : decode cX1_isBetween 0 = .ok (.iload_n 0, 1) := dk_26 (dk_at dksX1_isBetween_0 0 rfl rfl)
theorem dX1_isBetween_1 : decode cX1_isBetween 1 = .ok (.iload_n 1, 1) := dk_27 (dk_at dksX1_isBetween_0 1 rfl rfl)
theorem dX1_isBetween_2 : decode cX1_isBetween 2 = .ok (.if_icmp .lt 12, 3) := dk_161 0 12 (dk_at dksX1_isBetween_0 2 rfl rfl)
theorem dX1_isBetween_5 : decode cX1_isBetween 5 = .ok (.iload_n 0, 1) := dk_26 (dk_at dksX1_isBetween_0 5 rfl rfl)
theorem dX1_isBetween_6 : decode cX1_isBetween 6 = .ok (.iload_n 2, 1) := dk_28 (dk_at dksX1_isBetween_0 6 rfl rfl)
theorem dX1_isBetween_7 : decode cX1_isBetween 7 = .ok (.if_icmp .gt 7, 3) := dk_163 0 7 (dk_at dksX1_isBetween_0 7 rfl rfl)
theorem dX1_isBetween_10 : decode cX1_isBetween 10 = .ok (.iconst 1, 1) := dk_4 (dk_at dksX1_isBetween_0 10 rfl rfl)
theorem dX1_isBetween_11 : decode cX1_isBetween 11 = .ok (.goto 4, 3) := dk_167 0 4 (dk_at dksX1_isBetween_0 11 rfl rfl)
theorem dX1_isBetween_14 : decode cX1_isBetween 14 = .ok (.iconst 0, 1) := dk_3 (dk_at dksX1_isBetween_0 14 rfl rfl)
theorem dX1_isBetween_15 : decode cX1_isBetween 15 = .ok (.ireturn, 1) := dk_172 (dk_at dksX1_isBetween_0 15 rfl rfl)
abbrev cX1_loadSetup : ByteArray := prog_1_method_20_code
def yX1_loadSetup : MethodName := ⟨RX1, "loadSetup", "()I"⟩
def dkwX1_loadSetup_2 : List UInt8 := [181, 0, 139, 42, 180, 0, 58, 3, 182, 0, 142, 180, 0, 146, 172]
abbrev dktX1_loadSetup_2 : List UInt8 := dkwX1_loadSetup_2 ++ []
def dkwX1_loadSetup_1 : List UInt8 := [181, 0, 58, 167, 0, 10, 76, 42, 43, 182, 0, 132, 172, 42, 180, 0, 65, 182, 0, 136, 42, 1]
abbrev dktX1_loadSetup_1 : List UInt8 := dkwX1_loadSetup_1 ++ dktX1_loadSetup_2
def dkwX1_loadSetup_0 : List UInt8 := [42, 182, 0, 120, 42, 187, 0, 123, 89, 42, 187, 0, 91, 89, 183, 0, 93, 183, 0, 125, 182, 0, 128]
abbrev dktX1_loadSetup_0 : List UInt8 := dkwX1_loadSetup_0 ++ dktX1_loadSetup_1
theorem dksX1_loadSetup_0 : cX1_loadSetup.data.toList.drop 0 = dktX1_loadSetup_0 := by decide +kernel
theorem dksX1_loadSetup_1 : cX1_loadSetup.data.toList.drop 23 = dktX1_loadSetup_1 := dk_seg dksX1_loadSetup_0 23 rfl rfl
theorem dksX1_loadSetup_2 : cX1_loadSetup.data.toList.drop 45 = dktX1_loadSetup_2 := dk_seg dksX1_loadSetup_1 22 rfl rfl
theorem dX1_loadSetup_0 : decode cX1_loadSetup 0 = .ok (.aload_n 0, 1) := dk_42 (dk_at dksX1_loadSetup_0 0 rfl rfl)
theorem dX1_loadSetup_1 : decode cX1_loadSetup 1 = .ok (.invokevirtual 120, 3) := dk_182 0 120 (dk_at dksX1_loadSetup_0 1 rfl rfl)
theorem dX1_loadSetup_4 : decode cX1_loadSetup 4 = .ok (.aload_n 0, 1) := dk_42 (dk_at dksX1_loadSetup_0 4 rfl rfl)
theorem dX1_loadSetup_5 : decode cX1_loadSetup 5 = .ok (.new 123, 3) := dk_187 0 123 (dk_at dksX1_loadSetup_0 5 rfl rfl)
theorem dX1_loadSetup_8 : decode cX1_loadSetup 8 = .ok (.dup, 1) := dk_89 (dk_at dksX1_loadSetup_0 8 rfl rfl)
theorem dX1_loadSetup_9 : decode cX1_loadSetup 9 = .ok (.aload_n 0, 1) := dk_42 (dk_at dksX1_loadSetup_0 9 rfl rfl)
theorem dX1_loadSetup_10 : decode cX1_loadSetup 10 = .ok (.new 91, 3) := dk_187 0 91 (dk_at dksX1_loadSetup_0 10 rfl rfl)
theorem dX1_loadSetup_13 : decode cX1_loadSetup 13 = .ok (.dup, 1) := dk_89 (dk_at dksX1_loadSetup_0 13 rfl rfl)
theorem dX1_loadSetup_14 : decode cX1_loadSetup 14 = .ok (.invokespecial 93, 3) := dk_183 0 93 (dk_at dksX1_loadSetup_0 14 rfl rfl)
theorem dX1_loadSetup_17 : decode cX1_loadSetup 17 = .ok (.invokespecial 125, 3) := dk_183 0 125 (dk_at dksX1_loadSetup_0 17 rfl rfl)
theorem dX1_loadSetup_20 : decode cX1_loadSetup 20 = .ok (.invokevirtual 128, 3) := dk_182 0 128 (dk_at dksX1_loadSetup_0 20 rfl rfl)
theorem dX1_loadSetup_23 : decode cX1_loadSetup 23 = .ok (.putfield 58, 3) := dk_181 0 58 (dk_at dksX1_loadSetup_1 0 rfl rfl)
theorem dX1_loadSetup_26 : decode cX1_loadSetup 26 = .ok (.goto 10, 3) := dk_167 0 10 (dk_at dksX1_loadSetup_1 3 rfl rfl)
theorem dX1_loadSetup_29 : decode cX1_loadSetup 29 = .ok (.astore_n 1, 1) := dk_76 (dk_at dksX1_loadSetup_1 6 rfl rfl)
theorem dX1_loadSetup_30 : decode cX1_loadSetup 30 = .ok (.aload_n 0, 1) := dk_42 (dk_at dksX1_loadSetup_1 7 rfl rfl)
theorem dX1_loadSetup_31 : decode cX1_loadSetup 31 = .ok (.aload_n 1, 1) := dk_43 (dk_at dksX1_loadSetup_1 8 rfl rfl)
theorem dX1_loadSetup_32 : decode cX1_loadSetup 32 = .ok (.invokevirtual 132, 3) := dk_182 0 132 (dk_at dksX1_loadSetup_1 9 rfl rfl)
theorem dX1_loadSetup_35 : decode cX1_loadSetup 35 = .ok (.ireturn, 1) := dk_172 (dk_at dksX1_loadSetup_1 12 rfl rfl)
theorem dX1_loadSetup_36 : decode cX1_loadSetup 36 = .ok (.aload_n 0, 1) := dk_42 (dk_at dksX1_loadSetup_1 13 rfl rfl)
theorem dX1_loadSetup_37 : decode cX1_loadSetup 37 = .ok (.getfield 65, 3) := dk_180 0 65 (dk_at dksX1_loadSetup_1 14 rfl rfl)
theorem dX1_loadSetup_40 : decode cX1_loadSetup 40 = .ok (.invokevirtual 136, 3) := dk_182 0 136 (dk_at dksX1_loadSetup_1 17 rfl rfl)
theorem dX1_loadSetup_43 : decode cX1_loadSetup 43 = .ok (.aload_n 0, 1) := dk_42 (dk_at dksX1_loadSetup_1 20 rfl rfl)
theorem dX1_loadSetup_44 : decode cX1_loadSetup 44 = .ok (.aconst_null, 1) := dk_1 (dk_at dksX1_loadSetup_1 21 rfl rfl)
theorem dX1_loadSetup_45 : decode cX1_loadSetup 45 = .ok (.putfield 139, 3) := dk_181 0 139 (dk_at dksX1_loadSetup_2 0 rfl rfl)
theorem dX1_loadSetup_48 : decode cX1_loadSetup 48 = .ok (.aload_n 0, 1) := dk_42 (dk_at dksX1_loadSetup_2 3 rfl rfl)
theorem dX1_loadSetup_49 : decode cX1_loadSetup 49 = .ok (.getfield 58, 3) := dk_180 0 58 (dk_at dksX1_loadSetup_2 4 rfl rfl)
theorem dX1_loadSetup_52 : decode cX1_loadSetup 52 = .ok (.iconst 0, 1) := dk_3 (dk_at dksX1_loadSetup_2 7 rfl rfl)
theorem dX1_loadSetup_53 : decode cX1_loadSetup 53 = .ok (.invokevirtual 142, 3) := dk_182 0 142 (dk_at dksX1_loadSetup_2 8 rfl rfl)
theorem dX1_loadSetup_56 : decode cX1_loadSetup 56 = .ok (.getfield 146, 3) := dk_180 0 146 (dk_at dksX1_loadSetup_2 11 rfl rfl)
theorem dX1_loadSetup_59 : decode cX1_loadSetup 59 = .ok (.ireturn, 1) := dk_172 (dk_at dksX1_loadSetup_2 14 rfl rfl)
abbrev cX1_clearError : ByteArray := prog_1_method_18_code
def yX1_clearError : MethodName := ⟨RX1, "clearError", "()V"⟩
def dkwX1_clearError_0 : List UInt8 := [42, 3, 181, 0, 109, 42, 2, 181, 0, 50, 177]
abbrev dktX1_clearError_0 : List UInt8 := dkwX1_clearError_0 ++ []
theorem dksX1_clearError_0 : cX1_clearError.data.toList.drop 0 = dktX1_clearError_0 := by decide +kernel
theorem dX1_clearError_0 : decode cX1_clearError 0 = .ok (.aload_n 0, 1) := dk_42 (dk_at dksX1_clearError_0 0 rfl rfl)
theorem dX1_clearError_1 : decode cX1_clearError 1 = .ok (.iconst 0, 1) := dk_3 (dk_at dksX1_clearError_0 1 rfl rfl)
theorem dX1_clearError_2 : decode cX1_clearError 2 = .ok (.putfield 109, 3) := dk_181 0 109 (dk_at dksX1_clearError_0 2 rfl rfl)
theorem dX1_clearError_5 : decode cX1_clearError 5 = .ok (.aload_n 0, 1) := dk_42 (dk_at dksX1_clearError_0 5 rfl rfl)
theorem dX1_clearError_6 : decode cX1_clearError 6 = .ok (.iconst (-1), 1) := dk_2 (dk_at dksX1_clearError_0 6 rfl rfl)
theorem dX1_clearError_7 : decode cX1_clearError 7 = .ok (.putfield 50, 3) := dk_181 0 50 (dk_at dksX1_clearError_0 7 rfl rfl)
theorem dX1_clearError_10 : decode cX1_clearError 10 = .ok (.return_, 1) := dk_177 (dk_at dksX1_clearError_0 10 rfl rfl)
abbrev cX1_report : ByteArray := prog_1_method_19_code
def yX1_report : MethodName := ⟨RX1, "report", "(LVectorVersions$TextError;)I"⟩
def dkwX1_report_0 : List UInt8 := [42, 43, 180, 0, 112, 181, 0, 109, 42, 43, 180, 0, 117, 181, 0, 50, 2, 172]
abbrev dktX1_report_0 : List UInt8 := dkwX1_report_0 ++ []
theorem dksX1_report_0 : cX1_report.data.toList.drop 0 = dktX1_report_0 := by decide +kernel
theorem dX1_report_0 : decode cX1_report 0 = .ok (.aload_n 0, 1) := dk_42 (dk_at dksX1_report_0 0 rfl rfl)
theorem dX1_report_1 : decode cX1_report 1 = .ok (.aload_n 1, 1) := dk_43 (dk_at dksX1_report_0 1 rfl rfl)
theorem dX1_report_2 : decode cX1_report 2 = .ok (.getfield 112, 3) := dk_180 0 112 (dk_at dksX1_report_0 2 rfl rfl)
theorem dX1_report_5 : decode cX1_report 5 = .ok (.putfield 109, 3) := dk_181 0 109 (dk_at dksX1_report_0 5 rfl rfl)
theorem dX1_report_8 : decode cX1_report 8 = .ok (.aload_n 0, 1) := dk_42 (dk_at dksX1_report_0 8 rfl rfl)
theorem dX1_report_9 : decode cX1_report 9 = .ok (.aload_n 1, 1) := dk_43 (dk_at dksX1_report_0 9 rfl rfl)
theorem dX1_report_10 : decode cX1_report 10 = .ok (.getfield 117, 3) := dk_180 0 117 (dk_at dksX1_report_0 10 rfl rfl)
theorem dX1_report_13 : decode cX1_report 13 = .ok (.putfield 50, 3) := dk_181 0 50 (dk_at dksX1_report_0 13 rfl rfl)
theorem dX1_report_16 : decode cX1_report 16 = .ok (.iconst (-1), 1) := dk_2 (dk_at dksX1_report_0 16 rfl rfl)
theorem dX1_report_17 : decode cX1_report 17 = .ok (.ireturn, 1) := dk_172 (dk_at dksX1_report_0 17 rfl rfl)
abbrev cX1_runScript : ByteArray := prog_1_method_23_code
def yX1_runScript : MethodName := ⟨RX1, "runScript", "()I"⟩
def dkwX1_runScript_1 : List UInt8 := [42, 44, 182, 0, 132, 172, 42, 42, 180, 0, 58, 182, 0, 177, 182, 0, 180, 42, 43, 182, 0, 184, 172]
abbrev dktX1_runScript_1 : List UInt8 := dkwX1_runScript_1 ++ []
def dkwX1_runScript_0 : List UInt8 := [42, 182, 0, 120, 187, 0, 123, 89, 42, 42, 180, 0, 58, 183, 0, 125, 182, 0, 173, 76, 167, 0, 10, 77]
abbrev dktX1_runScript_0 : List UInt8 := dkwX1_runScript_0 ++ dktX1_runScript_1
theorem dksX1_runScript_0 : cX1_runScript.data.toList.drop 0 = dktX1_runScript_0 := by decide +kernel
theorem dksX1_runScript_1 : cX1_runScript.data.toList.drop 24 = dktX1_runScript_1 := dk_seg dksX1_runScript_0 24 rfl rfl
theorem dX1_runScript_0 : decode cX1_runScript 0 = .ok (.aload_n 0, 1) := dk_42 (dk_at dksX1_runScript_0 0 rfl rfl)
theorem dX1_runScript_1 : decode cX1_runScript 1 = .ok (.invokevirtual 120, 3) := dk_182 0 120 (dk_at dksX1_runScript_0 1 rfl rfl)
theorem dX1_runScript_4 : decode cX1_runScript 4 = .ok (.new 123, 3) := dk_187 0 123 (dk_at dksX1_runScript_0 4 rfl rfl)
theorem dX1_runScript_7 : decode cX1_runScript 7 = .ok (.dup, 1) := dk_89 (dk_at dksX1_runScript_0 7 rfl rfl)
theorem dX1_runScript_8 : decode cX1_runScript 8 = .ok (.aload_n 0, 1) := dk_42 (dk_at dksX1_runScript_0 8 rfl rfl)
theorem dX1_runScript_9 : decode cX1_runScript 9 = .ok (.aload_n 0, 1) := dk_42 (dk_at dksX1_runScript_0 9 rfl rfl)
theorem dX1_runScript_10 : decode cX1_runScript 10 = .ok (.getfield 58, 3) := dk_180 0 58 (dk_at dksX1_runScript_0 10 rfl rfl)
theorem dX1_runScript_13 : decode cX1_runScript 13 = .ok (.invokespecial 125, 3) := dk_183 0 125 (dk_at dksX1_runScript_0 13 rfl rfl)
theorem dX1_runScript_16 : decode cX1_runScript 16 = .ok (.invokevirtual 173, 3) := dk_182 0 173 (dk_at dksX1_runScript_0 16 rfl rfl)
theorem dX1_runScript_19 : decode cX1_runScript 19 = .ok (.astore_n 1, 1) := dk_76 (dk_at dksX1_runScript_0 19 rfl rfl)
theorem dX1_runScript_20 : decode cX1_runScript 20 = .ok (.goto 10, 3) := dk_167 0 10 (dk_at dksX1_runScript_0 20 rfl rfl)
theorem dX1_runScript_23 : decode cX1_runScript 23 = .ok (.astore_n 2, 1) := dk_77 (dk_at dksX1_runScript_0 23 rfl rfl)
theorem dX1_runScript_24 : decode cX1_runScript 24 = .ok (.aload_n 0, 1) := dk_42 (dk_at dksX1_runScript_1 0 rfl rfl)
theorem dX1_runScript_25 : decode cX1_runScript 25 = .ok (.aload_n 2, 1) := dk_44 (dk_at dksX1_runScript_1 1 rfl rfl)
theorem dX1_runScript_26 : decode cX1_runScript 26 = .ok (.invokevirtual 132, 3) := dk_182 0 132 (dk_at dksX1_runScript_1 2 rfl rfl)
theorem dX1_runScript_29 : decode cX1_runScript 29 = .ok (.ireturn, 1) := dk_172 (dk_at dksX1_runScript_1 5 rfl rfl)
theorem dX1_runScript_30 : decode cX1_runScript 30 = .ok (.aload_n 0, 1) := dk_42 (dk_at dksX1_runScript_1 6 rfl rfl)
theorem dX1_runScript_31 : decode cX1_runScript 31 = .ok (.aload_n 0, 1) := dk_42 (dk_at dksX1_runScript_1 7 rfl rfl)
theorem dX1_runScript_32 : decode cX1_runScript 32 = .ok (.getfield 58, 3) := dk_180 0 58 (dk_at dksX1_runScript_1 8 rfl rfl)
theorem dX1_runScript_35 : decode cX1_runScript 35 = .ok (.invokevirtual 177, 3) := dk_182 0 177 (dk_at dksX1_runScript_1 11 rfl rfl)
theorem dX1_runScript_38 : decode cX1_runScript 38 = .ok (.invokevirtual 180, 3) := dk_182 0 180 (dk_at dksX1_runScript_1 14 rfl rfl)
theorem dX1_runScript_41 : decode cX1_runScript 41 = .ok (.aload_n 0, 1) := dk_42 (dk_at dksX1_runScript_1 17 rfl rfl)
theorem dX1_runScript_42 : decode cX1_runScript 42 = .ok (.aload_n 1, 1) := dk_43 (dk_at dksX1_runScript_1 18 rfl rfl)
theorem dX1_runScript_43 : decode cX1_runScript 43 = .ok (.invokevirtual 184, 3) := dk_182 0 184 (dk_at dksX1_runScript_1 19 rfl rfl)
theorem dX1_runScript_46 : decode cX1_runScript 46 = .ok (.ireturn, 1) := dk_172 (dk_at dksX1_runScript_1 22 rfl rfl)
abbrev cX1_setting : ByteArray := prog_1_method_8_code
def yX1_setting : MethodName := ⟨RX1, "setting", "(III)LVectorVersions$Action;"⟩
def dkwX1_setting_0 : List UInt8 := [187, 0, 22, 89, 26, 27, 28, 183, 0, 24, 176]
abbrev dktX1_setting_0 : List UInt8 := dkwX1_setting_0 ++ []
theorem dksX1_setting_0 : cX1_setting.data.toList.drop 0 = dktX1_setting_0 := by decide +kernel
theorem dX1_setting_0 : decode cX1_setting 0 = .ok (.new 22, 3) := dk_187 0 22 (dk_at dksX1_setting_0 0 rfl rfl)
theorem dX1_setting_3 : decode cX1_setting 3 = .ok (.dup, 1) := dk_89 (dk_at dksX1_setting_0 3 rfl rfl)
theorem dX1_setting_4 : decode cX1_setting 4 = .ok (.iload_n 0, 1) := dk_26 (dk_at dksX1_setting_0 4 rfl rfl)
theorem dX1_setting_5 : decode cX1_setting 5 = .ok (.iload_n 1, 1) := dk_27 (dk_at dksX1_setting_0 5 rfl rfl)
theorem dX1_setting_6 : decode cX1_setting 6 = .ok (.iload_n 2, 1) := dk_28 (dk_at dksX1_setting_0 6 rfl rfl)
theorem dX1_setting_7 : decode cX1_setting 7 = .ok (.invokespecial 24, 3) := dk_183 0 24 (dk_at dksX1_setting_0 7 rfl rfl)
theorem dX1_setting_10 : decode cX1_setting 10 = .ok (.areturn, 1) := dk_176 (dk_at dksX1_setting_0 10 rfl rfl)
abbrev cX1_appending : ByteArray := prog_1_method_9_code
def yX1_appending : MethodName := ⟨RX1, "appending", "(II)LVectorVersions$Action;"⟩
def dkwX1_appending_0 : List UInt8 := [187, 0, 27, 89, 26, 27, 183, 0, 29, 176]
abbrev dktX1_appending_0 : List UInt8 := dkwX1_appending_0 ++ []
theorem dksX1_appending_0 : cX1_appending.data.toList.drop 0 = dktX1_appending_0 := by decide +kernel
theorem dX1_appending_0 : decode cX1_appending 0 = .ok (.new 27, 3) := dk_187 0 27 (dk_at dksX1_appending_0 0 rfl rfl)
theorem dX1_appending_3 : decode cX1_appending 3 = .ok (.dup, 1) := dk_89 (dk_at dksX1_appending_0 3 rfl rfl)
theorem dX1_appending_4 : decode cX1_appending 4 = .ok (.iload_n 0, 1) := dk_26 (dk_at dksX1_appending_0 4 rfl rfl)
theorem dX1_appending_5 : decode cX1_appending 5 = .ok (.iload_n 1, 1) := dk_27 (dk_at dksX1_appending_0 5 rfl rfl)
theorem dX1_appending_6 : decode cX1_appending 6 = .ok (.invokespecial 29, 3) := dk_183 0 29 (dk_at dksX1_appending_0 6 rfl rfl)
theorem dX1_appending_9 : decode cX1_appending 9 = .ok (.areturn, 1) := dk_176 (dk_at dksX1_appending_0 9 rfl rfl)
abbrev cX1_truncating : ByteArray := prog_1_method_10_code
def yX1_truncating : MethodName := ⟨RX1, "truncating", "(II)LVectorVersions$Action;"⟩
def dkwX1_truncating_0 : List UInt8 := [187, 0, 32, 89, 26, 27, 183, 0, 34, 176]
abbrev dktX1_truncating_0 : List UInt8 := dkwX1_truncating_0 ++ []
theorem dksX1_truncating_0 : cX1_truncating.data.toList.drop 0 = dktX1_truncating_0 := by decide +kernel
theorem dX1_truncating_0 : decode cX1_truncating 0 = .ok (.new 32, 3) := dk_187 0 32 (dk_at dksX1_truncating_0 0 rfl rfl)
theorem dX1_truncating_3 : decode cX1_truncating 3 = .ok (.dup, 1) := dk_89 (dk_at dksX1_truncating_0 3 rfl rfl)
theorem dX1_truncating_4 : decode cX1_truncating 4 = .ok (.iload_n 0, 1) := dk_26 (dk_at dksX1_truncating_0 4 rfl rfl)
theorem dX1_truncating_5 : decode cX1_truncating 5 = .ok (.iload_n 1, 1) := dk_27 (dk_at dksX1_truncating_0 5 rfl rfl)
theorem dX1_truncating_6 : decode cX1_truncating 6 = .ok (.invokespecial 34, 3) := dk_183 0 34 (dk_at dksX1_truncating_0 6 rfl rfl)
theorem dX1_truncating_9 : decode cX1_truncating 9 = .ok (.areturn, 1) := dk_176 (dk_at dksX1_truncating_0 9 rfl rfl)
abbrev cX1_releasing : ByteArray := prog_1_method_11_code
def yX1_releasing : MethodName := ⟨RX1, "releasing", "(I)LVectorVersions$Action;"⟩
def dkwX1_releasing_0 : List UInt8 := [187, 0, 35, 89, 26, 183, 0, 37, 176]
abbrev dktX1_releasing_0 : List UInt8 := dkwX1_releasing_0 ++ []
theorem dksX1_releasing_0 : cX1_releasing.data.toList.drop 0 = dktX1_releasing_0 := by decide +kernel
theorem dX1_releasing_0 : decode cX1_releasing 0 = .ok (.new 35, 3) := dk_187 0 35 (dk_at dksX1_releasing_0 0 rfl rfl)
theorem dX1_releasing_3 : decode cX1_releasing 3 = .ok (.dup, 1) := dk_89 (dk_at dksX1_releasing_0 3 rfl rfl)
theorem dX1_releasing_4 : decode cX1_releasing 4 = .ok (.iload_n 0, 1) := dk_26 (dk_at dksX1_releasing_0 4 rfl rfl)
theorem dX1_releasing_5 : decode cX1_releasing 5 = .ok (.invokespecial 37, 3) := dk_183 0 37 (dk_at dksX1_releasing_0 5 rfl rfl)
theorem dX1_releasing_8 : decode cX1_releasing 8 = .ok (.areturn, 1) := dk_176 (dk_at dksX1_releasing_0 8 rfl rfl)
abbrev cX1_collecting : ByteArray := prog_1_method_12_code
def yX1_collecting : MethodName := ⟨RX1, "collecting", "()LVectorVersions$Action;"⟩
def dkwX1_collecting_0 : List UInt8 := [187, 0, 40, 89, 183, 0, 42, 176]
abbrev dktX1_collecting_0 : List UInt8 := dkwX1_collecting_0 ++ []
theorem dksX1_collecting_0 : cX1_collecting.data.toList.drop 0 = dktX1_collecting_0 := by decide +kernel
theorem dX1_collecting_0 : decode cX1_collecting 0 = .ok (.new 40, 3) := dk_187 0 40 (dk_at dksX1_collecting_0 0 rfl rfl)
theorem dX1_collecting_3 : decode cX1_collecting 3 = .ok (.dup, 1) := dk_89 (dk_at dksX1_collecting_0 3 rfl rfl)
theorem dX1_collecting_4 : decode cX1_collecting 4 = .ok (.invokespecial 42, 3) := dk_183 0 42 (dk_at dksX1_collecting_0 4 rfl rfl)
theorem dX1_collecting_7 : decode cX1_collecting 7 = .ok (.areturn, 1) := dk_176 (dk_at dksX1_collecting_0 7 rfl rfl)
abbrev cX1_remember : ByteArray := prog_1_method_21_code
def yX1_remember : MethodName := ⟨RX1, "remember", "(LVectorVersions$Store;)V"⟩
def dkwX1_remember_1 : List UInt8 := [180, 0, 65, 42, 180, 0, 58, 182, 0, 158, 42, 43, 181, 0, 58, 177]
abbrev dktX1_remember_1 : List UInt8 := dkwX1_remember_1 ++ []
def dkwX1_remember_0 : List UInt8 := [42, 180, 0, 65, 182, 0, 151, 16, 8, 160, 0, 14, 42, 180, 0, 65, 182, 0, 154, 192, 0, 91, 77, 42]
abbrev dktX1_remember_0 : List UInt8 := dkwX1_remember_0 ++ dktX1_remember_1
theorem dksX1_remember_0 : cX1_remember.data.toList.drop 0 = dktX1_remember_0 := by decide +kernel
theorem dksX1_remember_1 : cX1_remember.data.toList.drop 24 = dktX1_remember_1 := dk_seg dksX1_remember_0 24 rfl rfl
theorem dX1_remember_0 : decode cX1_remember 0 = .ok (.aload_n 0, 1) := dk_42 (dk_at dksX1_remember_0 0 rfl rfl)
theorem dX1_remember_1 : decode cX1_remember 1 = .ok (.getfield 65, 3) := dk_180 0 65 (dk_at dksX1_remember_0 1 rfl rfl)
theorem dX1_remember_4 : decode cX1_remember 4 = .ok (.invokevirtual 151, 3) := dk_182 0 151 (dk_at dksX1_remember_0 4 rfl rfl)
theorem dX1_remember_7 : decode cX1_remember 7 = .ok (.bipush 8, 2) := dk_16 8 (dk_at dksX1_remember_0 7 rfl rfl)
theorem dX1_remember_9 : decode cX1_remember 9 = .ok (.if_icmp .ne 14, 3) := dk_160 0 14 (dk_at dksX1_remember_0 9 rfl rfl)
theorem dX1_remember_12 : decode cX1_remember 12 = .ok (.aload_n 0, 1) := dk_42 (dk_at dksX1_remember_0 12 rfl rfl)
theorem dX1_remember_13 : decode cX1_remember 13 = .ok (.getfield 65, 3) := dk_180 0 65 (dk_at dksX1_remember_0 13 rfl rfl)
theorem dX1_remember_16 : decode cX1_remember 16 = .ok (.invokevirtual 154, 3) := dk_182 0 154 (dk_at dksX1_remember_0 16 rfl rfl)
theorem dX1_remember_19 : decode cX1_remember 19 = .ok (.checkcast 91, 3) := dk_192 0 91 (dk_at dksX1_remember_0 19 rfl rfl)
theorem dX1_remember_22 : decode cX1_remember 22 = .ok (.astore_n 2, 1) := dk_77 (dk_at dksX1_remember_0 22 rfl rfl)
theorem dX1_remember_23 : decode cX1_remember 23 = .ok (.aload_n 0, 1) := dk_42 (dk_at dksX1_remember_0 23 rfl rfl)
theorem dX1_remember_24 : decode cX1_remember 24 = .ok (.getfield 65, 3) := dk_180 0 65 (dk_at dksX1_remember_1 0 rfl rfl)
theorem dX1_remember_27 : decode cX1_remember 27 = .ok (.aload_n 0, 1) := dk_42 (dk_at dksX1_remember_1 3 rfl rfl)
theorem dX1_remember_28 : decode cX1_remember 28 = .ok (.getfield 58, 3) := dk_180 0 58 (dk_at dksX1_remember_1 4 rfl rfl)
theorem dX1_remember_31 : decode cX1_remember 31 = .ok (.invokevirtual 158, 3) := dk_182 0 158 (dk_at dksX1_remember_1 7 rfl rfl)
theorem dX1_remember_34 : decode cX1_remember 34 = .ok (.aload_n 0, 1) := dk_42 (dk_at dksX1_remember_1 10 rfl rfl)
theorem dX1_remember_35 : decode cX1_remember 35 = .ok (.aload_n 1, 1) := dk_43 (dk_at dksX1_remember_1 11 rfl rfl)
theorem dX1_remember_36 : decode cX1_remember 36 = .ok (.putfield 58, 3) := dk_181 0 58 (dk_at dksX1_remember_1 12 rfl rfl)
theorem dX1_remember_39 : decode cX1_remember 39 = .ok (.return_, 1) := dk_177 (dk_at dksX1_remember_1 15 rfl rfl)
abbrev cX1_execute : ByteArray := prog_1_method_22_code
def yX1_execute : MethodName := ⟨RX1, "execute", "(Ljava/util/List;)I"⟩
def dkwX1_execute_1 : List UInt8 := [180, 0, 58, 182, 0, 169, 62, 132, 2, 1, 167, 255, 225, 167, 0, 6, 78, 28, 172, 28, 172]
abbrev dktX1_execute_1 : List UInt8 := dkwX1_execute_1 ++ []
def dkwX1_execute_0 : List UInt8 := [3, 61, 28, 43, 185, 0, 162, 1, 0, 162, 0, 27, 43, 28, 185, 0, 163, 2, 0, 192, 0, 167, 42]
abbrev dktX1_execute_0 : List UInt8 := dkwX1_execute_0 ++ dktX1_execute_1
theorem dksX1_execute_0 : cX1_execute.data.toList.drop 0 = dktX1_execute_0 := by decide +kernel
theorem dksX1_execute_1 : cX1_execute.data.toList.drop 23 = dktX1_execute_1 := dk_seg dksX1_execute_0 23 rfl rfl
theorem dX1_execute_0 : decode cX1_execute 0 = .ok (.iconst 0, 1) := dk_3 (dk_at dksX1_execute_0 0 rfl rfl)
theorem dX1_execute_1 : decode cX1_execute 1 = .ok (.istore_n 2, 1) := dk_61 (dk_at dksX1_execute_0 1 rfl rfl)
theorem dX1_execute_2 : decode cX1_execute 2 = .ok (.iload_n 2, 1) := dk_28 (dk_at dksX1_execute_0 2 rfl rfl)
theorem dX1_execute_3 : decode cX1_execute 3 = .ok (.aload_n 1, 1) := dk_43 (dk_at dksX1_execute_0 3 rfl rfl)
theorem dX1_execute_4 : decode cX1_execute 4 = .ok (.invokeinterface 162 1, 5) := by decide +kernel
theorem dX1_execute_9 : decode cX1_execute 9 = .ok (.if_icmp .ge 27, 3) := dk_162 0 27 (dk_at dksX1_execute_0 9 rfl rfl)
theorem dX1_execute_12 : decode cX1_execute 12 = .ok (.aload_n 1, 1) := dk_43 (dk_at dksX1_execute_0 12 rfl rfl)
theorem dX1_execute_13 : decode cX1_execute 13 = .ok (.iload_n 2, 1) := dk_28 (dk_at dksX1_execute_0 13 rfl rfl)
theorem dX1_execute_14 : decode cX1_execute 14 = .ok (.invokeinterface 163 2, 5) := by decide +kernel
theorem dX1_execute_19 : decode cX1_execute 19 = .ok (.checkcast 167, 3) := dk_192 0 167 (dk_at dksX1_execute_0 19 rfl rfl)
theorem dX1_execute_22 : decode cX1_execute 22 = .ok (.aload_n 0, 1) := dk_42 (dk_at dksX1_execute_0 22 rfl rfl)
theorem dX1_execute_23 : decode cX1_execute 23 = .ok (.getfield 58, 3) := dk_180 0 58 (dk_at dksX1_execute_1 0 rfl rfl)
theorem dX1_execute_26 : decode cX1_execute 26 = .ok (.invokevirtual 169, 3) := dk_182 0 169 (dk_at dksX1_execute_1 3 rfl rfl)
theorem dX1_execute_29 : decode cX1_execute 29 = .ok (.istore_n 3, 1) := dk_62 (dk_at dksX1_execute_1 6 rfl rfl)
theorem dX1_execute_30 : decode cX1_execute 30 = .ok (.iinc 2 1, 3) := dk_132 2 1 (dk_at dksX1_execute_1 7 rfl rfl)
theorem dX1_execute_33 : decode cX1_execute 33 = .ok (.goto (-31), 3) := dk_167 255 225 (dk_at dksX1_execute_1 10 rfl rfl)
theorem dX1_execute_36 : decode cX1_execute 36 = .ok (.goto 6, 3) := dk_167 0 6 (dk_at dksX1_execute_1 13 rfl rfl)
theorem dX1_execute_39 : decode cX1_execute 39 = .ok (.astore_n 3, 1) := dk_78 (dk_at dksX1_execute_1 16 rfl rfl)
theorem dX1_execute_40 : decode cX1_execute 40 = .ok (.iload_n 2, 1) := dk_28 (dk_at dksX1_execute_1 17 rfl rfl)
theorem dX1_execute_41 : decode cX1_execute 41 = .ok (.ireturn, 1) := dk_172 (dk_at dksX1_execute_1 18 rfl rfl)
theorem dX1_execute_42 : decode cX1_execute 42 = .ok (.iload_n 2, 1) := dk_28 (dk_at dksX1_execute_1 19 rfl rfl)
theorem dX1_execute_43 : decode cX1_execute 43 = .ok (.ireturn, 1) := dk_172 (dk_at dksX1_execute_1 20 rfl rfl)
abbrev cX1_checkState : ByteArray := prog_1_method_4_code
def yX1_checkState : MethodName := ⟨RX1, "checkState", "(Z)V"⟩
def dkwX1_checkState_0 : List UInt8 := [26, 154, 0, 11, 187, 0, 10, 89, 183, 0, 12, 191, 177]
abbrev dktX1_checkState_0 : List UInt8 := dkwX1_checkState_0 ++ []
theorem dksX1_checkState_0 : cX1_checkState.data.toList.drop 0 = dktX1_checkState_0 := by decide +kernel
theorem dX1_checkState_0 : decode cX1_checkState 0 = .ok (.iload_n 0, 1) := dk_26 (dk_at dksX1_checkState_0 0 rfl rfl)
theorem dX1_checkState_1 : decode cX1_checkState 1 = .ok (.ifCond .ne 11, 3) := dk_154 0 11 (dk_at dksX1_checkState_0 1 rfl rfl)
theorem dX1_checkState_4 : decode cX1_checkState 4 = .ok (.new 10, 3) := dk_187 0 10 (dk_at dksX1_checkState_0 4 rfl rfl)
theorem dX1_checkState_7 : decode cX1_checkState 7 = .ok (.dup, 1) := dk_89 (dk_at dksX1_checkState_0 7 rfl rfl)
theorem dX1_checkState_8 : decode cX1_checkState 8 = .ok (.invokespecial 12, 3) := dk_183 0 12 (dk_at dksX1_checkState_0 8 rfl rfl)
theorem dX1_checkState_11 : decode cX1_checkState 11 = .ok (.athrow, 1) := dk_191 (dk_at dksX1_checkState_0 11 rfl rfl)
theorem dX1_checkState_12 : decode cX1_checkState 12 = .ok (.return_, 1) := dk_177 (dk_at dksX1_checkState_0 12 rfl rfl)
abbrev cX1_errorCode : ByteArray := prog_1_method_24_code
def yX1_errorCode : MethodName := ⟨RX1, "errorCode", "()I"⟩
theorem dX1_errorCode_0 : decode cX1_errorCode 0 = .ok (.aload_n 0, 1) := by decide +kernel
theorem dX1_errorCode_1 : decode cX1_errorCode 1 = .ok (.getfield 109, 3) := by decide +kernel
theorem dX1_errorCode_4 : decode cX1_errorCode 4 = .ok (.ireturn, 1) := by decide +kernel
abbrev cX1_errorOffset : ByteArray := prog_1_method_25_code
def yX1_errorOffset : MethodName := ⟨RX1, "errorOffset", "()I"⟩
theorem dX1_errorOffset_0 : decode cX1_errorOffset 0 = .ok (.aload_n 0, 1) := by decide +kernel
theorem dX1_errorOffset_1 : decode cX1_errorOffset 1 = .ok (.getfield 50, 3) := by decide +kernel
theorem dX1_errorOffset_4 : decode cX1_errorOffset 4 = .ok (.ireturn, 1) := by decide +kernel
abbrev cX1_versionCount : ByteArray := prog_1_method_31_code
def yX1_versionCount : MethodName := ⟨RX1, "versionCount", "()I"⟩
def dkwX1_versionCount_0 : List UInt8 := [42, 180, 0, 58, 180, 0, 188, 185, 0, 162, 1, 0, 172]
abbrev dktX1_versionCount_0 : List UInt8 := dkwX1_versionCount_0 ++ []
theorem dksX1_versionCount_0 : cX1_versionCount.data.toList.drop 0 = dktX1_versionCount_0 := by decide +kernel
theorem dX1_versionCount_0 : decode cX1_versionCount 0 = .ok (.aload_n 0, 1) := dk_42 (dk_at dksX1_versionCount_0 0 rfl rfl)
theorem dX1_versionCount_1 : decode cX1_versionCount 1 = .ok (.getfield 58, 3) := dk_180 0 58 (dk_at dksX1_versionCount_0 1 rfl rfl)
theorem dX1_versionCount_4 : decode cX1_versionCount 4 = .ok (.getfield 188, 3) := dk_180 0 188 (dk_at dksX1_versionCount_0 4 rfl rfl)
theorem dX1_versionCount_7 : decode cX1_versionCount 7 = .ok (.invokeinterface 162 1, 5) := by decide +kernel
theorem dX1_versionCount_12 : decode cX1_versionCount 12 = .ok (.ireturn, 1) := dk_172 (dk_at dksX1_versionCount_0 12 rfl rfl)
abbrev cX1_liveCount : ByteArray := prog_1_method_32_code
def yX1_liveCount : MethodName := ⟨RX1, "liveCount", "()I"⟩
def dkwX1_liveCount_1 : List UInt8 := [28, 182, 0, 196, 180, 0, 201, 154, 0, 6, 132, 1, 1, 132, 2, 1, 167, 255, 220, 27, 172]
abbrev dktX1_liveCount_1 : List UInt8 := dkwX1_liveCount_1 ++ []
def dkwX1_liveCount_0 : List UInt8 := [3, 60, 3, 61, 28, 42, 180, 0, 58, 180, 0, 188, 185, 0, 162, 1, 0, 162, 0, 26, 42, 180, 0, 58]
abbrev dktX1_liveCount_0 : List UInt8 := dkwX1_liveCount_0 ++ dktX1_liveCount_1
theorem dksX1_liveCount_0 : cX1_liveCount.data.toList.drop 0 = dktX1_liveCount_0 := by decide +kernel
theorem dksX1_liveCount_1 : cX1_liveCount.data.toList.drop 24 = dktX1_liveCount_1 := dk_seg dksX1_liveCount_0 24 rfl rfl
theorem dX1_liveCount_0 : decode cX1_liveCount 0 = .ok (.iconst 0, 1) := dk_3 (dk_at dksX1_liveCount_0 0 rfl rfl)
theorem dX1_liveCount_1 : decode cX1_liveCount 1 = .ok (.istore_n 1, 1) := dk_60 (dk_at dksX1_liveCount_0 1 rfl rfl)
theorem dX1_liveCount_2 : decode cX1_liveCount 2 = .ok (.iconst 0, 1) := dk_3 (dk_at dksX1_liveCount_0 2 rfl rfl)
theorem dX1_liveCount_3 : decode cX1_liveCount 3 = .ok (.istore_n 2, 1) := dk_61 (dk_at dksX1_liveCount_0 3 rfl rfl)
theorem dX1_liveCount_4 : decode cX1_liveCount 4 = .ok (.iload_n 2, 1) := dk_28 (dk_at dksX1_liveCount_0 4 rfl rfl)
theorem dX1_liveCount_5 : decode cX1_liveCount 5 = .ok (.aload_n 0, 1) := dk_42 (dk_at dksX1_liveCount_0 5 rfl rfl)
theorem dX1_liveCount_6 : decode cX1_liveCount 6 = .ok (.getfield 58, 3) := dk_180 0 58 (dk_at dksX1_liveCount_0 6 rfl rfl)
theorem dX1_liveCount_9 : decode cX1_liveCount 9 = .ok (.getfield 188, 3) := dk_180 0 188 (dk_at dksX1_liveCount_0 9 rfl rfl)
theorem dX1_liveCount_12 : decode cX1_liveCount 12 = .ok (.invokeinterface 162 1, 5) := by decide +kernel
theorem dX1_liveCount_17 : decode cX1_liveCount 17 = .ok (.if_icmp .ge 26, 3) := dk_162 0 26 (dk_at dksX1_liveCount_0 17 rfl rfl)
theorem dX1_liveCount_20 : decode cX1_liveCount 20 = .ok (.aload_n 0, 1) := dk_42 (dk_at dksX1_liveCount_0 20 rfl rfl)
theorem dX1_liveCount_21 : decode cX1_liveCount 21 = .ok (.getfield 58, 3) := dk_180 0 58 (dk_at dksX1_liveCount_0 21 rfl rfl)
theorem dX1_liveCount_24 : decode cX1_liveCount 24 = .ok (.iload_n 2, 1) := dk_28 (dk_at dksX1_liveCount_1 0 rfl rfl)
theorem dX1_liveCount_25 : decode cX1_liveCount 25 = .ok (.invokevirtual 196, 3) := dk_182 0 196 (dk_at dksX1_liveCount_1 1 rfl rfl)
theorem dX1_liveCount_28 : decode cX1_liveCount 28 = .ok (.getfield 201, 3) := dk_180 0 201 (dk_at dksX1_liveCount_1 4 rfl rfl)
theorem dX1_liveCount_31 : decode cX1_liveCount 31 = .ok (.ifCond .ne 6, 3) := dk_154 0 6 (dk_at dksX1_liveCount_1 7 rfl rfl)
theorem dX1_liveCount_34 : decode cX1_liveCount 34 = .ok (.iinc 1 1, 3) := dk_132 1 1 (dk_at dksX1_liveCount_1 10 rfl rfl)
theorem dX1_liveCount_37 : decode cX1_liveCount 37 = .ok (.iinc 2 1, 3) := dk_132 2 1 (dk_at dksX1_liveCount_1 13 rfl rfl)
theorem dX1_liveCount_40 : decode cX1_liveCount 40 = .ok (.goto (-36), 3) := dk_167 255 220 (dk_at dksX1_liveCount_1 16 rfl rfl)
theorem dX1_liveCount_43 : decode cX1_liveCount 43 = .ok (.iload_n 1, 1) := dk_27 (dk_at dksX1_liveCount_1 19 rfl rfl)
theorem dX1_liveCount_44 : decode cX1_liveCount 44 = .ok (.ireturn, 1) := dk_172 (dk_at dksX1_liveCount_1 20 rfl rfl)
abbrev cX1_createdNodes : ByteArray := prog_1_method_45_code
def yX1_createdNodes : MethodName := ⟨RX1, "createdNodes", "()I"⟩
def dkwX1_createdNodes_0 : List UInt8 := [42, 180, 0, 58, 180, 1, 14, 172]
abbrev dktX1_createdNodes_0 : List UInt8 := dkwX1_createdNodes_0 ++ []
theorem dksX1_createdNodes_0 : cX1_createdNodes.data.toList.drop 0 = dktX1_createdNodes_0 := by decide +kernel
theorem dX1_createdNodes_0 : decode cX1_createdNodes 0 = .ok (.aload_n 0, 1) := dk_42 (dk_at dksX1_createdNodes_0 0 rfl rfl)
theorem dX1_createdNodes_1 : decode cX1_createdNodes 1 = .ok (.getfield 58, 3) := dk_180 0 58 (dk_at dksX1_createdNodes_0 1 rfl rfl)
theorem dX1_createdNodes_4 : decode cX1_createdNodes 4 = .ok (.getfield 270, 3) := dk_180 1 14 (dk_at dksX1_createdNodes_0 4 rfl rfl)
theorem dX1_createdNodes_7 : decode cX1_createdNodes 7 = .ok (.ireturn, 1) := dk_172 (dk_at dksX1_createdNodes_0 7 rfl rfl)
abbrev cX1_storedNodes : ByteArray := prog_1_method_46_code
def yX1_storedNodes : MethodName := ⟨RX1, "storedNodes", "()I"⟩
def dkwX1_storedNodes_0 : List UInt8 := [42, 180, 0, 58, 180, 1, 17, 185, 0, 162, 1, 0, 172]
abbrev dktX1_storedNodes_0 : List UInt8 := dkwX1_storedNodes_0 ++ []
theorem dksX1_storedNodes_0 : cX1_storedNodes.data.toList.drop 0 = dktX1_storedNodes_0 := by decide +kernel
theorem dX1_storedNodes_0 : decode cX1_storedNodes 0 = .ok (.aload_n 0, 1) := dk_42 (dk_at dksX1_storedNodes_0 0 rfl rfl)
theorem dX1_storedNodes_1 : decode cX1_storedNodes 1 = .ok (.getfield 58, 3) := dk_180 0 58 (dk_at dksX1_storedNodes_0 1 rfl rfl)
theorem dX1_storedNodes_4 : decode cX1_storedNodes 4 = .ok (.getfield 273, 3) := dk_180 1 17 (dk_at dksX1_storedNodes_0 4 rfl rfl)
theorem dX1_storedNodes_7 : decode cX1_storedNodes 7 = .ok (.invokeinterface 162 1, 5) := by decide +kernel
theorem dX1_storedNodes_12 : decode cX1_storedNodes 12 = .ok (.ireturn, 1) := dk_172 (dk_at dksX1_storedNodes_0 12 rfl rfl)
abbrev cX1_garbageNodes : ByteArray := prog_1_method_47_code
def yX1_garbageNodes : MethodName := ⟨RX1, "garbageNodes", "()I"⟩
def dkwX1_garbageNodes_0 : List UInt8 := [42, 180, 0, 58, 182, 1, 20, 172]
abbrev dktX1_garbageNodes_0 : List UInt8 := dkwX1_garbageNodes_0 ++ []
theorem dksX1_garbageNodes_0 : cX1_garbageNodes.data.toList.drop 0 = dktX1_garbageNodes_0 := by decide +kernel
theorem dX1_garbageNodes_0 : decode cX1_garbageNodes 0 = .ok (.aload_n 0, 1) := dk_42 (dk_at dksX1_garbageNodes_0 0 rfl rfl)
theorem dX1_garbageNodes_1 : decode cX1_garbageNodes 1 = .ok (.getfield 58, 3) := dk_180 0 58 (dk_at dksX1_garbageNodes_0 1 rfl rfl)
theorem dX1_garbageNodes_4 : decode cX1_garbageNodes 4 = .ok (.invokevirtual 276, 3) := dk_182 1 20 (dk_at dksX1_garbageNodes_0 4 rfl rfl)
theorem dX1_garbageNodes_7 : decode cX1_garbageNodes 7 = .ok (.ireturn, 1) := dk_172 (dk_at dksX1_garbageNodes_0 7 rfl rfl)
abbrev cX1_largestVersion : ByteArray := prog_1_method_63_code
def yX1_largestVersion : MethodName := ⟨RX1, "largestVersion", "()I"⟩
def dkwX1_largestVersion_3 : List UInt8 := [132, 2, 1, 167, 255, 188, 27, 172]
abbrev dktX1_largestVersion_3 : List UInt8 := dkwX1_largestVersion_3 ++ []
def dkwX1_largestVersion_2 : List UInt8 := [182, 0, 142, 180, 0, 146, 42, 180, 0, 58, 27, 182, 0, 142, 180, 0, 146, 164, 0, 5, 28, 60]
abbrev dktX1_largestVersion_2 : List UInt8 := dkwX1_largestVersion_2 ++ dktX1_largestVersion_3
def dkwX1_largestVersion_1 : List UInt8 := [28, 182, 0, 196, 180, 0, 201, 153, 0, 6, 167, 0, 35, 27, 2, 159, 0, 28, 42, 180, 0, 58, 28]
abbrev dktX1_largestVersion_1 : List UInt8 := dkwX1_largestVersion_1 ++ dktX1_largestVersion_2
def dkwX1_largestVersion_0 : List UInt8 := [2, 60, 3, 61, 28, 42, 180, 0, 58, 180, 0, 188, 185, 0, 162, 1, 0, 162, 0, 58, 42, 180, 0, 58]
abbrev dktX1_largestVersion_0 : List UInt8 := dkwX1_largestVersion_0 ++ dktX1_largestVersion_1
theorem dksX1_largestVersion_0 : cX1_largestVersion.data.toList.drop 0 = dktX1_largestVersion_0 := by decide +kernel
theorem dksX1_largestVersion_1 : cX1_largestVersion.data.toList.drop 24 = dktX1_largestVersion_1 := dk_seg dksX1_largestVersion_0 24 rfl rfl
theorem dksX1_largestVersion_2 : cX1_largestVersion.data.toList.drop 47 = dktX1_largestVersion_2 := dk_seg dksX1_largestVersion_1 23 rfl rfl
theorem dksX1_largestVersion_3 : cX1_largestVersion.data.toList.drop 69 = dktX1_largestVersion_3 := dk_seg dksX1_largestVersion_2 22 rfl rfl
theorem dX1_largestVersion_0 : decode cX1_largestVersion 0 = .ok (.iconst (-1), 1) := dk_2 (dk_at dksX1_largestVersion_0 0 rfl rfl)
theorem dX1_largestVersion_1 : decode cX1_largestVersion 1 = .ok (.istore_n 1, 1) := dk_60 (dk_at dksX1_largestVersion_0 1 rfl rfl)
theorem dX1_largestVersion_2 : decode cX1_largestVersion 2 = .ok (.iconst 0, 1) := dk_3 (dk_at dksX1_largestVersion_0 2 rfl rfl)
theorem dX1_largestVersion_3 : decode cX1_largestVersion 3 = .ok (.istore_n 2, 1) := dk_61 (dk_at dksX1_largestVersion_0 3 rfl rfl)
theorem dX1_largestVersion_4 : decode cX1_largestVersion 4 = .ok (.iload_n 2, 1) := dk_28 (dk_at dksX1_largestVersion_0 4 rfl rfl)
theorem dX1_largestVersion_5 : decode cX1_largestVersion 5 = .ok (.aload_n 0, 1) := dk_42 (dk_at dksX1_largestVersion_0 5 rfl rfl)
theorem dX1_largestVersion_6 : decode cX1_largestVersion 6 = .ok (.getfield 58, 3) := dk_180 0 58 (dk_at dksX1_largestVersion_0 6 rfl rfl)
theorem dX1_largestVersion_9 : decode cX1_largestVersion 9 = .ok (.getfield 188, 3) := dk_180 0 188 (dk_at dksX1_largestVersion_0 9 rfl rfl)
theorem dX1_largestVersion_12 : decode cX1_largestVersion 12 = .ok (.invokeinterface 162 1, 5) := by decide +kernel
theorem dX1_largestVersion_17 : decode cX1_largestVersion 17 = .ok (.if_icmp .ge 58, 3) := dk_162 0 58 (dk_at dksX1_largestVersion_0 17 rfl rfl)
theorem dX1_largestVersion_20 : decode cX1_largestVersion 20 = .ok (.aload_n 0, 1) := dk_42 (dk_at dksX1_largestVersion_0 20 rfl rfl)
theorem dX1_largestVersion_21 : decode cX1_largestVersion 21 = .ok (.getfield 58, 3) := dk_180 0 58 (dk_at dksX1_largestVersion_0 21 rfl rfl)
theorem dX1_largestVersion_24 : decode cX1_largestVersion 24 = .ok (.iload_n 2, 1) := dk_28 (dk_at dksX1_largestVersion_1 0 rfl rfl)
theorem dX1_largestVersion_25 : decode cX1_largestVersion 25 = .ok (.invokevirtual 196, 3) := dk_182 0 196 (dk_at dksX1_largestVersion_1 1 rfl rfl)
theorem dX1_largestVersion_28 : decode cX1_largestVersion 28 = .ok (.getfield 201, 3) := dk_180 0 201 (dk_at dksX1_largestVersion_1 4 rfl rfl)
theorem dX1_largestVersion_31 : decode cX1_largestVersion 31 = .ok (.ifCond .eq 6, 3) := dk_153 0 6 (dk_at dksX1_largestVersion_1 7 rfl rfl)
theorem dX1_largestVersion_34 : decode cX1_largestVersion 34 = .ok (.goto 35, 3) := dk_167 0 35 (dk_at dksX1_largestVersion_1 10 rfl rfl)
theorem dX1_largestVersion_37 : decode cX1_largestVersion 37 = .ok (.iload_n 1, 1) := dk_27 (dk_at dksX1_largestVersion_1 13 rfl rfl)
theorem dX1_largestVersion_38 : decode cX1_largestVersion 38 = .ok (.iconst (-1), 1) := dk_2 (dk_at dksX1_largestVersion_1 14 rfl rfl)
theorem dX1_largestVersion_39 : decode cX1_largestVersion 39 = .ok (.if_icmp .eq 28, 3) := dk_159 0 28 (dk_at dksX1_largestVersion_1 15 rfl rfl)
theorem dX1_largestVersion_42 : decode cX1_largestVersion 42 = .ok (.aload_n 0, 1) := dk_42 (dk_at dksX1_largestVersion_1 18 rfl rfl)
theorem dX1_largestVersion_43 : decode cX1_largestVersion 43 = .ok (.getfield 58, 3) := dk_180 0 58 (dk_at dksX1_largestVersion_1 19 rfl rfl)
theorem dX1_largestVersion_46 : decode cX1_largestVersion 46 = .ok (.iload_n 2, 1) := dk_28 (dk_at dksX1_largestVersion_1 22 rfl rfl)
theorem dX1_largestVersion_47 : decode cX1_largestVersion 47 = .ok (.invokevirtual 142, 3) := dk_182 0 142 (dk_at dksX1_largestVersion_2 0 rfl rfl)
theorem dX1_largestVersion_50 : decode cX1_largestVersion 50 = .ok (.getfield 146, 3) := dk_180 0 146 (dk_at dksX1_largestVersion_2 3 rfl rfl)
theorem dX1_largestVersion_53 : decode cX1_largestVersion 53 = .ok (.aload_n 0, 1) := dk_42 (dk_at dksX1_largestVersion_2 6 rfl rfl)
theorem dX1_largestVersion_54 : decode cX1_largestVersion 54 = .ok (.getfield 58, 3) := dk_180 0 58 (dk_at dksX1_largestVersion_2 7 rfl rfl)
theorem dX1_largestVersion_57 : decode cX1_largestVersion 57 = .ok (.iload_n 1, 1) := dk_27 (dk_at dksX1_largestVersion_2 10 rfl rfl)
theorem dX1_largestVersion_58 : decode cX1_largestVersion 58 = .ok (.invokevirtual 142, 3) := dk_182 0 142 (dk_at dksX1_largestVersion_2 11 rfl rfl)
theorem dX1_largestVersion_61 : decode cX1_largestVersion 61 = .ok (.getfield 146, 3) := dk_180 0 146 (dk_at dksX1_largestVersion_2 14 rfl rfl)
theorem dX1_largestVersion_64 : decode cX1_largestVersion 64 = .ok (.if_icmp .le 5, 3) := dk_164 0 5 (dk_at dksX1_largestVersion_2 17 rfl rfl)
theorem dX1_largestVersion_67 : decode cX1_largestVersion 67 = .ok (.iload_n 2, 1) := dk_28 (dk_at dksX1_largestVersion_2 20 rfl rfl)
theorem dX1_largestVersion_68 : decode cX1_largestVersion 68 = .ok (.istore_n 1, 1) := dk_60 (dk_at dksX1_largestVersion_2 21 rfl rfl)
theorem dX1_largestVersion_69 : decode cX1_largestVersion 69 = .ok (.iinc 2 1, 3) := dk_132 2 1 (dk_at dksX1_largestVersion_3 0 rfl rfl)
theorem dX1_largestVersion_72 : decode cX1_largestVersion 72 = .ok (.goto (-68), 3) := dk_167 255 188 (dk_at dksX1_largestVersion_3 3 rfl rfl)
theorem dX1_largestVersion_75 : decode cX1_largestVersion 75 = .ok (.iload_n 1, 1) := dk_27 (dk_at dksX1_largestVersion_3 6 rfl rfl)
theorem dX1_largestVersion_76 : decode cX1_largestVersion 76 = .ok (.ireturn, 1) := dk_172 (dk_at dksX1_largestVersion_3 7 rfl rfl)
abbrev cX1_sharing : ByteArray := prog_1_method_64_code
def yX1_sharing : MethodName := ⟨RX1, "sharing", "()D"⟩
def dkwX1_sharing_3 : List UInt8 := [167, 0, 8, 27, 135, 28, 135, 111, 175]
abbrev dktX1_sharing_3 : List UInt8 := dkwX1_sharing_3 ++ []
def dkwX1_sharing_2 : List UInt8 := [132, 2, 1, 167, 255, 209, 42, 180, 0, 58, 2, 182, 1, 39, 184, 1, 28, 61, 28, 154, 0, 7, 14]
abbrev dktX1_sharing_2 : List UInt8 := dkwX1_sharing_2 ++ dktX1_sharing_3
def dkwX1_sharing_1 : List UInt8 := [28, 182, 0, 196, 180, 0, 201, 154, 0, 17, 27, 42, 180, 0, 58, 28, 182, 1, 24, 184, 1, 28, 96, 60]
abbrev dktX1_sharing_1 : List UInt8 := dkwX1_sharing_1 ++ dktX1_sharing_2
def dkwX1_sharing_0 : List UInt8 := [3, 60, 3, 61, 28, 42, 180, 0, 58, 180, 0, 188, 185, 0, 162, 1, 0, 162, 0, 37, 42, 180, 0, 58]
abbrev dktX1_sharing_0 : List UInt8 := dkwX1_sharing_0 ++ dktX1_sharing_1
theorem dksX1_sharing_0 : cX1_sharing.data.toList.drop 0 = dktX1_sharing_0 := by decide +kernel
theorem dksX1_sharing_1 : cX1_sharing.data.toList.drop 24 = dktX1_sharing_1 := dk_seg dksX1_sharing_0 24 rfl rfl
theorem dksX1_sharing_2 : cX1_sharing.data.toList.drop 48 = dktX1_sharing_2 := dk_seg dksX1_sharing_1 24 rfl rfl
theorem dksX1_sharing_3 : cX1_sharing.data.toList.drop 71 = dktX1_sharing_3 := dk_seg dksX1_sharing_2 23 rfl rfl
theorem dX1_sharing_0 : decode cX1_sharing 0 = .ok (.iconst 0, 1) := dk_3 (dk_at dksX1_sharing_0 0 rfl rfl)
theorem dX1_sharing_1 : decode cX1_sharing 1 = .ok (.istore_n 1, 1) := dk_60 (dk_at dksX1_sharing_0 1 rfl rfl)
theorem dX1_sharing_2 : decode cX1_sharing 2 = .ok (.iconst 0, 1) := dk_3 (dk_at dksX1_sharing_0 2 rfl rfl)
theorem dX1_sharing_3 : decode cX1_sharing 3 = .ok (.istore_n 2, 1) := dk_61 (dk_at dksX1_sharing_0 3 rfl rfl)
theorem dX1_sharing_4 : decode cX1_sharing 4 = .ok (.iload_n 2, 1) := dk_28 (dk_at dksX1_sharing_0 4 rfl rfl)
theorem dX1_sharing_5 : decode cX1_sharing 5 = .ok (.aload_n 0, 1) := dk_42 (dk_at dksX1_sharing_0 5 rfl rfl)
theorem dX1_sharing_6 : decode cX1_sharing 6 = .ok (.getfield 58, 3) := dk_180 0 58 (dk_at dksX1_sharing_0 6 rfl rfl)
theorem dX1_sharing_9 : decode cX1_sharing 9 = .ok (.getfield 188, 3) := dk_180 0 188 (dk_at dksX1_sharing_0 9 rfl rfl)
theorem dX1_sharing_12 : decode cX1_sharing 12 = .ok (.invokeinterface 162 1, 5) := by decide +kernel
theorem dX1_sharing_17 : decode cX1_sharing 17 = .ok (.if_icmp .ge 37, 3) := dk_162 0 37 (dk_at dksX1_sharing_0 17 rfl rfl)
theorem dX1_sharing_20 : decode cX1_sharing 20 = .ok (.aload_n 0, 1) := dk_42 (dk_at dksX1_sharing_0 20 rfl rfl)
theorem dX1_sharing_21 : decode cX1_sharing 21 = .ok (.getfield 58, 3) := dk_180 0 58 (dk_at dksX1_sharing_0 21 rfl rfl)
theorem dX1_sharing_24 : decode cX1_sharing 24 = .ok (.iload_n 2, 1) := dk_28 (dk_at dksX1_sharing_1 0 rfl rfl)
theorem dX1_sharing_25 : decode cX1_sharing 25 = .ok (.invokevirtual 196, 3) := dk_182 0 196 (dk_at dksX1_sharing_1 1 rfl rfl)
theorem dX1_sharing_28 : decode cX1_sharing 28 = .ok (.getfield 201, 3) := dk_180 0 201 (dk_at dksX1_sharing_1 4 rfl rfl)
theorem dX1_sharing_31 : decode cX1_sharing 31 = .ok (.ifCond .ne 17, 3) := dk_154 0 17 (dk_at dksX1_sharing_1 7 rfl rfl)
theorem dX1_sharing_34 : decode cX1_sharing 34 = .ok (.iload_n 1, 1) := dk_27 (dk_at dksX1_sharing_1 10 rfl rfl)
theorem dX1_sharing_35 : decode cX1_sharing 35 = .ok (.aload_n 0, 1) := dk_42 (dk_at dksX1_sharing_1 11 rfl rfl)
theorem dX1_sharing_36 : decode cX1_sharing 36 = .ok (.getfield 58, 3) := dk_180 0 58 (dk_at dksX1_sharing_1 12 rfl rfl)
theorem dX1_sharing_39 : decode cX1_sharing 39 = .ok (.iload_n 2, 1) := dk_28 (dk_at dksX1_sharing_1 15 rfl rfl)
theorem dX1_sharing_40 : decode cX1_sharing 40 = .ok (.invokevirtual 280, 3) := dk_182 1 24 (dk_at dksX1_sharing_1 16 rfl rfl)
theorem dX1_sharing_43 : decode cX1_sharing 43 = .ok (.invokestatic 284, 3) := dk_184 1 28 (dk_at dksX1_sharing_1 19 rfl rfl)
theorem dX1_sharing_46 : decode cX1_sharing 46 = .ok (.iadd, 1) := dk_96 (dk_at dksX1_sharing_1 22 rfl rfl)
theorem dX1_sharing_47 : decode cX1_sharing 47 = .ok (.istore_n 1, 1) := dk_60 (dk_at dksX1_sharing_1 23 rfl rfl)
theorem dX1_sharing_48 : decode cX1_sharing 48 = .ok (.iinc 2 1, 3) := dk_132 2 1 (dk_at dksX1_sharing_2 0 rfl rfl)
theorem dX1_sharing_51 : decode cX1_sharing 51 = .ok (.goto (-47), 3) := dk_167 255 209 (dk_at dksX1_sharing_2 3 rfl rfl)
theorem dX1_sharing_54 : decode cX1_sharing 54 = .ok (.aload_n 0, 1) := dk_42 (dk_at dksX1_sharing_2 6 rfl rfl)
theorem dX1_sharing_55 : decode cX1_sharing 55 = .ok (.getfield 58, 3) := dk_180 0 58 (dk_at dksX1_sharing_2 7 rfl rfl)
theorem dX1_sharing_58 : decode cX1_sharing 58 = .ok (.iconst (-1), 1) := dk_2 (dk_at dksX1_sharing_2 10 rfl rfl)
theorem dX1_sharing_59 : decode cX1_sharing 59 = .ok (.invokevirtual 295, 3) := dk_182 1 39 (dk_at dksX1_sharing_2 11 rfl rfl)
theorem dX1_sharing_62 : decode cX1_sharing 62 = .ok (.invokestatic 284, 3) := dk_184 1 28 (dk_at dksX1_sharing_2 14 rfl rfl)
theorem dX1_sharing_65 : decode cX1_sharing 65 = .ok (.istore_n 2, 1) := dk_61 (dk_at dksX1_sharing_2 17 rfl rfl)
theorem dX1_sharing_66 : decode cX1_sharing 66 = .ok (.iload_n 2, 1) := dk_28 (dk_at dksX1_sharing_2 18 rfl rfl)
theorem dX1_sharing_67 : decode cX1_sharing 67 = .ok (.ifCond .ne 7, 3) := dk_154 0 7 (dk_at dksX1_sharing_2 19 rfl rfl)
theorem dX1_sharing_70 : decode cX1_sharing 70 = .ok (.dconst 0, 1) := dk_14 (dk_at dksX1_sharing_2 22 rfl rfl)
theorem dX1_sharing_71 : decode cX1_sharing 71 = .ok (.goto 8, 3) := dk_167 0 8 (dk_at dksX1_sharing_3 0 rfl rfl)
theorem dX1_sharing_74 : decode cX1_sharing 74 = .ok (.iload_n 1, 1) := dk_27 (dk_at dksX1_sharing_3 3 rfl rfl)
theorem dX1_sharing_75 : decode cX1_sharing 75 = .ok (.i2d, 1) := dk_135 (dk_at dksX1_sharing_3 4 rfl rfl)
theorem dX1_sharing_76 : decode cX1_sharing 76 = .ok (.iload_n 2, 1) := dk_28 (dk_at dksX1_sharing_3 5 rfl rfl)
theorem dX1_sharing_77 : decode cX1_sharing 77 = .ok (.i2d, 1) := dk_135 (dk_at dksX1_sharing_3 6 rfl rfl)
theorem dX1_sharing_78 : decode cX1_sharing 78 = .ok (.ddiv, 1) := dk_111 (dk_at dksX1_sharing_3 7 rfl rfl)
theorem dX1_sharing_79 : decode cX1_sharing 79 = .ok (.dreturn, 1) := dk_175 (dk_at dksX1_sharing_3 8 rfl rfl)
abbrev cX1_garbagePart : ByteArray := prog_1_method_65_code
def yX1_garbagePart : MethodName := ⟨RX1, "garbagePart", "()F"⟩
def dkwX1_garbagePart_1 : List UInt8 := [182, 1, 20, 134, 42, 180, 0, 58, 180, 1, 17, 185, 0, 162, 1, 0, 134, 110, 174]
abbrev dktX1_garbagePart_1 : List UInt8 := dkwX1_garbagePart_1 ++ []
def dkwX1_garbagePart_0 : List UInt8 := [42, 180, 0, 58, 180, 1, 17, 185, 1, 82, 1, 0, 153, 0, 7, 11, 167, 0, 25, 42, 180, 0, 58]
abbrev dktX1_garbagePart_0 : List UInt8 := dkwX1_garbagePart_0 ++ dktX1_garbagePart_1
theorem dksX1_garbagePart_0 : cX1_garbagePart.data.toList.drop 0 = dktX1_garbagePart_0 := by decide +kernel
theorem dksX1_garbagePart_1 : cX1_garbagePart.data.toList.drop 23 = dktX1_garbagePart_1 := dk_seg dksX1_garbagePart_0 23 rfl rfl
theorem dX1_garbagePart_0 : decode cX1_garbagePart 0 = .ok (.aload_n 0, 1) := dk_42 (dk_at dksX1_garbagePart_0 0 rfl rfl)
theorem dX1_garbagePart_1 : decode cX1_garbagePart 1 = .ok (.getfield 58, 3) := dk_180 0 58 (dk_at dksX1_garbagePart_0 1 rfl rfl)
theorem dX1_garbagePart_4 : decode cX1_garbagePart 4 = .ok (.getfield 273, 3) := dk_180 1 17 (dk_at dksX1_garbagePart_0 4 rfl rfl)
theorem dX1_garbagePart_7 : decode cX1_garbagePart 7 = .ok (.invokeinterface 338 1, 5) := by decide +kernel
theorem dX1_garbagePart_12 : decode cX1_garbagePart 12 = .ok (.ifCond .eq 7, 3) := dk_153 0 7 (dk_at dksX1_garbagePart_0 12 rfl rfl)
theorem dX1_garbagePart_15 : decode cX1_garbagePart 15 = .ok (.fconst 0, 1) := dk_11 (dk_at dksX1_garbagePart_0 15 rfl rfl)
theorem dX1_garbagePart_16 : decode cX1_garbagePart 16 = .ok (.goto 25, 3) := dk_167 0 25 (dk_at dksX1_garbagePart_0 16 rfl rfl)
theorem dX1_garbagePart_19 : decode cX1_garbagePart 19 = .ok (.aload_n 0, 1) := dk_42 (dk_at dksX1_garbagePart_0 19 rfl rfl)
theorem dX1_garbagePart_20 : decode cX1_garbagePart 20 = .ok (.getfield 58, 3) := dk_180 0 58 (dk_at dksX1_garbagePart_0 20 rfl rfl)
theorem dX1_garbagePart_23 : decode cX1_garbagePart 23 = .ok (.invokevirtual 276, 3) := dk_182 1 20 (dk_at dksX1_garbagePart_1 0 rfl rfl)
theorem dX1_garbagePart_26 : decode cX1_garbagePart 26 = .ok (.i2f, 1) := dk_134 (dk_at dksX1_garbagePart_1 3 rfl rfl)
theorem dX1_garbagePart_27 : decode cX1_garbagePart 27 = .ok (.aload_n 0, 1) := dk_42 (dk_at dksX1_garbagePart_1 4 rfl rfl)
theorem dX1_garbagePart_28 : decode cX1_garbagePart 28 = .ok (.getfield 58, 3) := dk_180 0 58 (dk_at dksX1_garbagePart_1 5 rfl rfl)
theorem dX1_garbagePart_31 : decode cX1_garbagePart 31 = .ok (.getfield 273, 3) := dk_180 1 17 (dk_at dksX1_garbagePart_1 8 rfl rfl)
theorem dX1_garbagePart_34 : decode cX1_garbagePart 34 = .ok (.invokeinterface 162 1, 5) := by decide +kernel
theorem dX1_garbagePart_39 : decode cX1_garbagePart 39 = .ok (.i2f, 1) := dk_134 (dk_at dksX1_garbagePart_1 16 rfl rfl)
theorem dX1_garbagePart_40 : decode cX1_garbagePart 40 = .ok (.fdiv, 1) := dk_110 (dk_at dksX1_garbagePart_1 17 rfl rfl)
theorem dX1_garbagePart_41 : decode cX1_garbagePart 41 = .ok (.freturn, 1) := dk_174 (dk_at dksX1_garbagePart_1 18 rfl rfl)
abbrev cX1_isConsistent : ByteArray := prog_1_method_66_code
def yX1_isConsistent : MethodName := ⟨RX1, "isConsistent", "()Z"⟩
def dkwX1_isConsistent_0 : List UInt8 := [42, 180, 0, 58, 182, 1, 85, 172]
abbrev dktX1_isConsistent_0 : List UInt8 := dkwX1_isConsistent_0 ++ []
theorem dksX1_isConsistent_0 : cX1_isConsistent.data.toList.drop 0 = dktX1_isConsistent_0 := by decide +kernel
theorem dX1_isConsistent_0 : decode cX1_isConsistent 0 = .ok (.aload_n 0, 1) := dk_42 (dk_at dksX1_isConsistent_0 0 rfl rfl)
theorem dX1_isConsistent_1 : decode cX1_isConsistent 1 = .ok (.getfield 58, 3) := dk_180 0 58 (dk_at dksX1_isConsistent_0 1 rfl rfl)
theorem dX1_isConsistent_4 : decode cX1_isConsistent 4 = .ok (.invokevirtual 341, 3) := dk_182 1 85 (dk_at dksX1_isConsistent_0 4 rfl rfl)
theorem dX1_isConsistent_7 : decode cX1_isConsistent 7 = .ok (.ireturn, 1) := dk_172 (dk_at dksX1_isConsistent_0 7 rfl rfl)
abbrev cX1_collect : ByteArray := prog_1_method_72_code
def yX1_collect : MethodName := ⟨RX1, "collect", "()I"⟩
def dkwX1_collect_0 : List UInt8 := [42, 184, 1, 107, 182, 1, 92, 172]
abbrev dktX1_collect_0 : List UInt8 := dkwX1_collect_0 ++ []
theorem dksX1_collect_0 : cX1_collect.data.toList.drop 0 = dktX1_collect_0 := by decide +kernel
theorem dX1_collect_0 : decode cX1_collect 0 = .ok (.aload_n 0, 1) := dk_42 (dk_at dksX1_collect_0 0 rfl rfl)
theorem dX1_collect_1 : decode cX1_collect 1 = .ok (.invokestatic 363, 3) := dk_184 1 107 (dk_at dksX1_collect_0 1 rfl rfl)
theorem dX1_collect_4 : decode cX1_collect 4 = .ok (.invokevirtual 348, 3) := dk_182 1 92 (dk_at dksX1_collect_0 4 rfl rfl)
theorem dX1_collect_7 : decode cX1_collect 7 = .ok (.ireturn, 1) := dk_172 (dk_at dksX1_collect_0 7 rfl rfl)
abbrev cX1_change : ByteArray := prog_1_method_67_code
def yX1_change : MethodName := ⟨RX1, "change", "(LVectorVersions$Action;)I"⟩
def dkwX1_change_0 : List UInt8 := [42, 180, 0, 58, 182, 0, 177, 77, 43, 44, 182, 0, 169, 62, 42, 44, 182, 0, 180, 29, 172]
abbrev dktX1_change_0 : List UInt8 := dkwX1_change_0 ++ []
theorem dksX1_change_0 : cX1_change.data.toList.drop 0 = dktX1_change_0 := by decide +kernel
theorem dX1_change_0 : decode cX1_change 0 = .ok (.aload_n 0, 1) := dk_42 (dk_at dksX1_change_0 0 rfl rfl)
theorem dX1_change_1 : decode cX1_change 1 = .ok (.getfield 58, 3) := dk_180 0 58 (dk_at dksX1_change_0 1 rfl rfl)
theorem dX1_change_4 : decode cX1_change 4 = .ok (.invokevirtual 177, 3) := dk_182 0 177 (dk_at dksX1_change_0 4 rfl rfl)
theorem dX1_change_7 : decode cX1_change 7 = .ok (.astore_n 2, 1) := dk_77 (dk_at dksX1_change_0 7 rfl rfl)
theorem dX1_change_8 : decode cX1_change 8 = .ok (.aload_n 1, 1) := dk_43 (dk_at dksX1_change_0 8 rfl rfl)
theorem dX1_change_9 : decode cX1_change 9 = .ok (.aload_n 2, 1) := dk_44 (dk_at dksX1_change_0 9 rfl rfl)
theorem dX1_change_10 : decode cX1_change 10 = .ok (.invokevirtual 169, 3) := dk_182 0 169 (dk_at dksX1_change_0 10 rfl rfl)
theorem dX1_change_13 : decode cX1_change 13 = .ok (.istore_n 3, 1) := dk_62 (dk_at dksX1_change_0 13 rfl rfl)
theorem dX1_change_14 : decode cX1_change 14 = .ok (.aload_n 0, 1) := dk_42 (dk_at dksX1_change_0 14 rfl rfl)
theorem dX1_change_15 : decode cX1_change 15 = .ok (.aload_n 2, 1) := dk_44 (dk_at dksX1_change_0 15 rfl rfl)
theorem dX1_change_16 : decode cX1_change 16 = .ok (.invokevirtual 180, 3) := dk_182 0 180 (dk_at dksX1_change_0 16 rfl rfl)
theorem dX1_change_19 : decode cX1_change 19 = .ok (.iload_n 3, 1) := dk_29 (dk_at dksX1_change_0 19 rfl rfl)
theorem dX1_change_20 : decode cX1_change 20 = .ok (.ireturn, 1) := dk_172 (dk_at dksX1_change_0 20 rfl rfl)
abbrev cX1_outputByte : ByteArray := prog_1_method_75_code
def yX1_outputByte : MethodName := ⟨RX1, "outputByte", "(I)I"⟩
def dkwX1_outputByte_1 : List UInt8 := [182, 1, 130, 167, 0, 4, 2, 172]
abbrev dktX1_outputByte_1 : List UInt8 := dkwX1_outputByte_1 ++ []
def dkwX1_outputByte_0 : List UInt8 := [27, 3, 42, 180, 0, 72, 182, 1, 127, 4, 100, 184, 0, 105, 153, 0, 14, 42, 180, 0, 72, 27]
abbrev dktX1_outputByte_0 : List UInt8 := dkwX1_outputByte_0 ++ dktX1_outputByte_1
theorem dksX1_outputByte_0 : cX1_outputByte.data.toList.drop 0 = dktX1_outputByte_0 := by decide +kernel
theorem dksX1_outputByte_1 : cX1_outputByte.data.toList.drop 22 = dktX1_outputByte_1 := dk_seg dksX1_outputByte_0 22 rfl rfl
theorem dX1_outputByte_0 : decode cX1_outputByte 0 = .ok (.iload_n 1, 1) := dk_27 (dk_at dksX1_outputByte_0 0 rfl rfl)
theorem dX1_outputByte_1 : decode cX1_outputByte 1 = .ok (.iconst 0, 1) := dk_3 (dk_at dksX1_outputByte_0 1 rfl rfl)
theorem dX1_outputByte_2 : decode cX1_outputByte 2 = .ok (.aload_n 0, 1) := dk_42 (dk_at dksX1_outputByte_0 2 rfl rfl)
theorem dX1_outputByte_3 : decode cX1_outputByte 3 = .ok (.getfield 72, 3) := dk_180 0 72 (dk_at dksX1_outputByte_0 3 rfl rfl)
theorem dX1_outputByte_6 : decode cX1_outputByte 6 = .ok (.invokevirtual 383, 3) := dk_182 1 127 (dk_at dksX1_outputByte_0 6 rfl rfl)
theorem dX1_outputByte_9 : decode cX1_outputByte 9 = .ok (.iconst 1, 1) := dk_4 (dk_at dksX1_outputByte_0 9 rfl rfl)
theorem dX1_outputByte_10 : decode cX1_outputByte 10 = .ok (.isub, 1) := dk_100 (dk_at dksX1_outputByte_0 10 rfl rfl)
theorem dX1_outputByte_11 : decode cX1_outputByte 11 = .ok (.invokestatic 105, 3) := dk_184 0 105 (dk_at dksX1_outputByte_0 11 rfl rfl)
theorem dX1_outputByte_14 : decode cX1_outputByte 14 = .ok (.ifCond .eq 14, 3) := dk_153 0 14 (dk_at dksX1_outputByte_0 14 rfl rfl)
theorem dX1_outputByte_17 : decode cX1_outputByte 17 = .ok (.aload_n 0, 1) := dk_42 (dk_at dksX1_outputByte_0 17 rfl rfl)
theorem dX1_outputByte_18 : decode cX1_outputByte 18 = .ok (.getfield 72, 3) := dk_180 0 72 (dk_at dksX1_outputByte_0 18 rfl rfl)
theorem dX1_outputByte_21 : decode cX1_outputByte 21 = .ok (.iload_n 1, 1) := dk_27 (dk_at dksX1_outputByte_0 21 rfl rfl)
theorem dX1_outputByte_22 : decode cX1_outputByte 22 = .ok (.invokevirtual 386, 3) := dk_182 1 130 (dk_at dksX1_outputByte_1 0 rfl rfl)
theorem dX1_outputByte_25 : decode cX1_outputByte 25 = .ok (.goto 4, 3) := dk_167 0 4 (dk_at dksX1_outputByte_1 3 rfl rfl)
theorem dX1_outputByte_28 : decode cX1_outputByte 28 = .ok (.iconst (-1), 1) := dk_2 (dk_at dksX1_outputByte_1 6 rfl rfl)
theorem dX1_outputByte_29 : decode cX1_outputByte 29 = .ok (.ireturn, 1) := dk_172 (dk_at dksX1_outputByte_1 7 rfl rfl)
abbrev cX1_saveState : ByteArray := prog_1_method_76_code
def yX1_saveState : MethodName := ⟨RX1, "saveState", "()I"⟩
def dkwX1_saveState_0 : List UInt8 := [42, 42, 180, 0, 58, 182, 0, 177, 181, 0, 139, 42, 180, 0, 58, 180, 0, 188, 185, 0, 162, 1, 0, 172]
abbrev dktX1_saveState_0 : List UInt8 := dkwX1_saveState_0 ++ []
theorem dksX1_saveState_0 : cX1_saveState.data.toList.drop 0 = dktX1_saveState_0 := by decide +kernel
theorem dX1_saveState_0 : decode cX1_saveState 0 = .ok (.aload_n 0, 1) := dk_42 (dk_at dksX1_saveState_0 0 rfl rfl)
theorem dX1_saveState_1 : decode cX1_saveState 1 = .ok (.aload_n 0, 1) := dk_42 (dk_at dksX1_saveState_0 1 rfl rfl)
theorem dX1_saveState_2 : decode cX1_saveState 2 = .ok (.getfield 58, 3) := dk_180 0 58 (dk_at dksX1_saveState_0 2 rfl rfl)
theorem dX1_saveState_5 : decode cX1_saveState 5 = .ok (.invokevirtual 177, 3) := dk_182 0 177 (dk_at dksX1_saveState_0 5 rfl rfl)
theorem dX1_saveState_8 : decode cX1_saveState 8 = .ok (.putfield 139, 3) := dk_181 0 139 (dk_at dksX1_saveState_0 8 rfl rfl)
theorem dX1_saveState_11 : decode cX1_saveState 11 = .ok (.aload_n 0, 1) := dk_42 (dk_at dksX1_saveState_0 11 rfl rfl)
theorem dX1_saveState_12 : decode cX1_saveState 12 = .ok (.getfield 58, 3) := dk_180 0 58 (dk_at dksX1_saveState_0 12 rfl rfl)
theorem dX1_saveState_15 : decode cX1_saveState 15 = .ok (.getfield 188, 3) := dk_180 0 188 (dk_at dksX1_saveState_0 15 rfl rfl)
theorem dX1_saveState_18 : decode cX1_saveState 18 = .ok (.invokeinterface 162 1, 5) := by decide +kernel
theorem dX1_saveState_23 : decode cX1_saveState 23 = .ok (.ireturn, 1) := dk_172 (dk_at dksX1_saveState_0 23 rfl rfl)
abbrev cX1_isReleased : ByteArray := prog_1_method_33_code
def yX1_isReleased : MethodName := ⟨RX1, "isReleased", "(I)Z"⟩
def dkwX1_isReleased_0 : List UInt8 := [42, 27, 182, 0, 200, 180, 0, 201, 172]
abbrev dktX1_isReleased_0 : List UInt8 := dkwX1_isReleased_0 ++ []
theorem dksX1_isReleased_0 : cX1_isReleased.data.toList.drop 0 = dktX1_isReleased_0 := by decide +kernel
theorem dX1_isReleased_0 : decode cX1_isReleased 0 = .ok (.aload_n 0, 1) := dk_42 (dk_at dksX1_isReleased_0 0 rfl rfl)
theorem dX1_isReleased_1 : decode cX1_isReleased 1 = .ok (.iload_n 1, 1) := dk_27 (dk_at dksX1_isReleased_0 1 rfl rfl)
theorem dX1_isReleased_2 : decode cX1_isReleased 2 = .ok (.invokevirtual 200, 3) := dk_182 0 200 (dk_at dksX1_isReleased_0 2 rfl rfl)
theorem dX1_isReleased_5 : decode cX1_isReleased 5 = .ok (.getfield 201, 3) := dk_180 0 201 (dk_at dksX1_isReleased_0 5 rfl rfl)
theorem dX1_isReleased_8 : decode cX1_isReleased 8 = .ok (.ireturn, 1) := dk_172 (dk_at dksX1_isReleased_0 8 rfl rfl)
abbrev cX1_version : ByteArray := prog_1_method_26_code
def yX1_version : MethodName := ⟨RX1, "version", "(I)LVectorVersions$Version;"⟩
def dkwX1_version_1 : List UInt8 := [180, 0, 58, 27, 182, 0, 196, 176]
abbrev dktX1_version_1 : List UInt8 := dkwX1_version_1 ++ []
def dkwX1_version_0 : List UInt8 := [27, 3, 42, 180, 0, 58, 180, 0, 188, 185, 0, 162, 1, 0, 4, 100, 184, 0, 105, 184, 0, 192, 42]
abbrev dktX1_version_0 : List UInt8 := dkwX1_version_0 ++ dktX1_version_1
theorem dksX1_version_0 : cX1_version.data.toList.drop 0 = dktX1_version_0 := by decide +kernel
theorem dksX1_version_1 : cX1_version.data.toList.drop 23 = dktX1_version_1 := dk_seg dksX1_version_0 23 rfl rfl
theorem dX1_version_0 : decode cX1_version 0 = .ok (.iload_n 1, 1) := dk_27 (dk_at dksX1_version_0 0 rfl rfl)
theorem dX1_version_1 : decode cX1_version 1 = .ok (.iconst 0, 1) := dk_3 (dk_at dksX1_version_0 1 rfl rfl)
theorem dX1_version_2 : decode cX1_version 2 = .ok (.aload_n 0, 1) := dk_42 (dk_at dksX1_version_0 2 rfl rfl)
theorem dX1_version_3 : decode cX1_version 3 = .ok (.getfield 58, 3) := dk_180 0 58 (dk_at dksX1_version_0 3 rfl rfl)
theorem dX1_version_6 : decode cX1_version 6 = .ok (.getfield 188, 3) := dk_180 0 188 (dk_at dksX1_version_0 6 rfl rfl)
theorem dX1_version_9 : decode cX1_version 9 = .ok (.invokeinterface 162 1, 5) := by decide +kernel
theorem dX1_version_14 : decode cX1_version 14 = .ok (.iconst 1, 1) := dk_4 (dk_at dksX1_version_0 14 rfl rfl)
theorem dX1_version_15 : decode cX1_version 15 = .ok (.isub, 1) := dk_100 (dk_at dksX1_version_0 15 rfl rfl)
theorem dX1_version_16 : decode cX1_version 16 = .ok (.invokestatic 105, 3) := dk_184 0 105 (dk_at dksX1_version_0 16 rfl rfl)
theorem dX1_version_19 : decode cX1_version 19 = .ok (.invokestatic 192, 3) := dk_184 0 192 (dk_at dksX1_version_0 19 rfl rfl)
theorem dX1_version_22 : decode cX1_version 22 = .ok (.aload_n 0, 1) := dk_42 (dk_at dksX1_version_0 22 rfl rfl)
theorem dX1_version_23 : decode cX1_version 23 = .ok (.getfield 58, 3) := dk_180 0 58 (dk_at dksX1_version_1 0 rfl rfl)
theorem dX1_version_26 : decode cX1_version 26 = .ok (.iload_n 1, 1) := dk_27 (dk_at dksX1_version_1 3 rfl rfl)
theorem dX1_version_27 : decode cX1_version 27 = .ok (.invokevirtual 196, 3) := dk_182 0 196 (dk_at dksX1_version_1 4 rfl rfl)
theorem dX1_version_30 : decode cX1_version 30 = .ok (.areturn, 1) := dk_176 (dk_at dksX1_version_1 7 rfl rfl)
abbrev cX1_checkIndex : ByteArray := prog_1_method_3_code
def yX1_checkIndex : MethodName := ⟨RX1, "checkIndex", "(Z)V"⟩
def dkwX1_checkIndex_0 : List UInt8 := [26, 154, 0, 11, 187, 0, 7, 89, 183, 0, 9, 191, 177]
abbrev dktX1_checkIndex_0 : List UInt8 := dkwX1_checkIndex_0 ++ []
theorem dksX1_checkIndex_0 : cX1_checkIndex.data.toList.drop 0 = dktX1_checkIndex_0 := by decide +kernel
theorem dX1_checkIndex_0 : decode cX1_checkIndex 0 = .ok (.iload_n 0, 1) := dk_26 (dk_at dksX1_checkIndex_0 0 rfl rfl)
theorem dX1_checkIndex_1 : decode cX1_checkIndex 1 = .ok (.ifCond .ne 11, 3) := dk_154 0 11 (dk_at dksX1_checkIndex_0 1 rfl rfl)
theorem dX1_checkIndex_4 : decode cX1_checkIndex 4 = .ok (.new 7, 3) := dk_187 0 7 (dk_at dksX1_checkIndex_0 4 rfl rfl)
theorem dX1_checkIndex_7 : decode cX1_checkIndex 7 = .ok (.dup, 1) := dk_89 (dk_at dksX1_checkIndex_0 7 rfl rfl)
theorem dX1_checkIndex_8 : decode cX1_checkIndex 8 = .ok (.invokespecial 9, 3) := dk_183 0 9 (dk_at dksX1_checkIndex_0 8 rfl rfl)
theorem dX1_checkIndex_11 : decode cX1_checkIndex 11 = .ok (.athrow, 1) := dk_191 (dk_at dksX1_checkIndex_0 11 rfl rfl)
theorem dX1_checkIndex_12 : decode cX1_checkIndex 12 = .ok (.return_, 1) := dk_177 (dk_at dksX1_checkIndex_0 12 rfl rfl)
abbrev cX1_parentOf : ByteArray := prog_1_method_34_code
def yX1_parentOf : MethodName := ⟨RX1, "parentOf", "(I)I"⟩
def dkwX1_parentOf_0 : List UInt8 := [42, 27, 182, 0, 200, 180, 0, 217, 172]
abbrev dktX1_parentOf_0 : List UInt8 := dkwX1_parentOf_0 ++ []
theorem dksX1_parentOf_0 : cX1_parentOf.data.toList.drop 0 = dktX1_parentOf_0 := by decide +kernel
theorem dX1_parentOf_0 : decode cX1_parentOf 0 = .ok (.aload_n 0, 1) := dk_42 (dk_at dksX1_parentOf_0 0 rfl rfl)
theorem dX1_parentOf_1 : decode cX1_parentOf 1 = .ok (.iload_n 1, 1) := dk_27 (dk_at dksX1_parentOf_0 1 rfl rfl)
theorem dX1_parentOf_2 : decode cX1_parentOf 2 = .ok (.invokevirtual 200, 3) := dk_182 0 200 (dk_at dksX1_parentOf_0 2 rfl rfl)
theorem dX1_parentOf_5 : decode cX1_parentOf 5 = .ok (.getfield 217, 3) := dk_180 0 217 (dk_at dksX1_parentOf_0 5 rfl rfl)
theorem dX1_parentOf_8 : decode cX1_parentOf 8 = .ok (.ireturn, 1) := dk_172 (dk_at dksX1_parentOf_0 8 rfl rfl)
abbrev cX1_depthOf : ByteArray := prog_1_method_35_code
def yX1_depthOf : MethodName := ⟨RX1, "depthOf", "(I)I"⟩
def dkwX1_depthOf_0 : List UInt8 := [42, 180, 0, 58, 42, 27, 182, 0, 200, 180, 0, 220, 182, 0, 223, 172]
abbrev dktX1_depthOf_0 : List UInt8 := dkwX1_depthOf_0 ++ []
theorem dksX1_depthOf_0 : cX1_depthOf.data.toList.drop 0 = dktX1_depthOf_0 := by decide +kernel
theorem dX1_depthOf_0 : decode cX1_depthOf 0 = .ok (.aload_n 0, 1) := dk_42 (dk_at dksX1_depthOf_0 0 rfl rfl)
theorem dX1_depthOf_1 : decode cX1_depthOf 1 = .ok (.getfield 58, 3) := dk_180 0 58 (dk_at dksX1_depthOf_0 1 rfl rfl)
theorem dX1_depthOf_4 : decode cX1_depthOf 4 = .ok (.aload_n 0, 1) := dk_42 (dk_at dksX1_depthOf_0 4 rfl rfl)
theorem dX1_depthOf_5 : decode cX1_depthOf 5 = .ok (.iload_n 1, 1) := dk_27 (dk_at dksX1_depthOf_0 5 rfl rfl)
theorem dX1_depthOf_6 : decode cX1_depthOf 6 = .ok (.invokevirtual 200, 3) := dk_182 0 200 (dk_at dksX1_depthOf_0 6 rfl rfl)
theorem dX1_depthOf_9 : decode cX1_depthOf 9 = .ok (.getfield 220, 3) := dk_180 0 220 (dk_at dksX1_depthOf_0 9 rfl rfl)
theorem dX1_depthOf_12 : decode cX1_depthOf 12 = .ok (.invokevirtual 223, 3) := dk_182 0 223 (dk_at dksX1_depthOf_0 12 rfl rfl)
theorem dX1_depthOf_15 : decode cX1_depthOf 15 = .ok (.ireturn, 1) := dk_172 (dk_at dksX1_depthOf_0 15 rfl rfl)
abbrev cX1_childCount : ByteArray := prog_1_method_36_code
def yX1_childCount : MethodName := ⟨RX1, "childCount", "(I)I"⟩
def dkwX1_childCount_2 : List UInt8 := [132, 3, 1, 132, 4, 1, 167, 255, 217, 29, 172]
abbrev dktX1_childCount_2 : List UInt8 := dkwX1_childCount_2 ++ []
def dkwX1_childCount_1 : List UInt8 := [185, 0, 162, 1, 0, 162, 0, 28, 42, 180, 0, 58, 21, 4, 182, 0, 196, 180, 0, 217, 27, 160, 0, 6]
abbrev dktX1_childCount_1 : List UInt8 := dkwX1_childCount_1 ++ dktX1_childCount_2
def dkwX1_childCount_0 : List UInt8 := [42, 27, 182, 0, 200, 77, 3, 62, 3, 54, 4, 21, 4, 42, 180, 0, 58, 180, 0, 188]
abbrev dktX1_childCount_0 : List UInt8 := dkwX1_childCount_0 ++ dktX1_childCount_1
theorem dksX1_childCount_0 : cX1_childCount.data.toList.drop 0 = dktX1_childCount_0 := by decide +kernel
theorem dksX1_childCount_1 : cX1_childCount.data.toList.drop 20 = dktX1_childCount_1 := dk_seg dksX1_childCount_0 20 rfl rfl
theorem dksX1_childCount_2 : cX1_childCount.data.toList.drop 44 = dktX1_childCount_2 := dk_seg dksX1_childCount_1 24 rfl rfl
theorem dX1_childCount_0 : decode cX1_childCount 0 = .ok (.aload_n 0, 1) := dk_42 (dk_at dksX1_childCount_0 0 rfl rfl)
theorem dX1_childCount_1 : decode cX1_childCount 1 = .ok (.iload_n 1, 1) := dk_27 (dk_at dksX1_childCount_0 1 rfl rfl)
theorem dX1_childCount_2 : decode cX1_childCount 2 = .ok (.invokevirtual 200, 3) := dk_182 0 200 (dk_at dksX1_childCount_0 2 rfl rfl)
theorem dX1_childCount_5 : decode cX1_childCount 5 = .ok (.astore_n 2, 1) := dk_77 (dk_at dksX1_childCount_0 5 rfl rfl)
theorem dX1_childCount_6 : decode cX1_childCount 6 = .ok (.iconst 0, 1) := dk_3 (dk_at dksX1_childCount_0 6 rfl rfl)
theorem dX1_childCount_7 : decode cX1_childCount 7 = .ok (.istore_n 3, 1) := dk_62 (dk_at dksX1_childCount_0 7 rfl rfl)
theorem dX1_childCount_8 : decode cX1_childCount 8 = .ok (.iconst 0, 1) := dk_3 (dk_at dksX1_childCount_0 8 rfl rfl)
theorem dX1_childCount_9 : decode cX1_childCount 9 = .ok (.istore 4, 2) := dk_54 4 (dk_at dksX1_childCount_0 9 rfl rfl)
theorem dX1_childCount_11 : decode cX1_childCount 11 = .ok (.iload 4, 2) := dk_21 4 (dk_at dksX1_childCount_0 11 rfl rfl)
theorem dX1_childCount_13 : decode cX1_childCount 13 = .ok (.aload_n 0, 1) := dk_42 (dk_at dksX1_childCount_0 13 rfl rfl)
theorem dX1_childCount_14 : decode cX1_childCount 14 = .ok (.getfield 58, 3) := dk_180 0 58 (dk_at dksX1_childCount_0 14 rfl rfl)
theorem dX1_childCount_17 : decode cX1_childCount 17 = .ok (.getfield 188, 3) := dk_180 0 188 (dk_at dksX1_childCount_0 17 rfl rfl)
theorem dX1_childCount_20 : decode cX1_childCount 20 = .ok (.invokeinterface 162 1, 5) := by decide +kernel
theorem dX1_childCount_25 : decode cX1_childCount 25 = .ok (.if_icmp .ge 28, 3) := dk_162 0 28 (dk_at dksX1_childCount_1 5 rfl rfl)
theorem dX1_childCount_28 : decode cX1_childCount 28 = .ok (.aload_n 0, 1) := dk_42 (dk_at dksX1_childCount_1 8 rfl rfl)
theorem dX1_childCount_29 : decode cX1_childCount 29 = .ok (.getfield 58, 3) := dk_180 0 58 (dk_at dksX1_childCount_1 9 rfl rfl)
theorem dX1_childCount_32 : decode cX1_childCount 32 = .ok (.iload 4, 2) := dk_21 4 (dk_at dksX1_childCount_1 12 rfl rfl)
theorem dX1_childCount_34 : decode cX1_childCount 34 = .ok (.invokevirtual 196, 3) := dk_182 0 196 (dk_at dksX1_childCount_1 14 rfl rfl)
theorem dX1_childCount_37 : decode cX1_childCount 37 = .ok (.getfield 217, 3) := dk_180 0 217 (dk_at dksX1_childCount_1 17 rfl rfl)
theorem dX1_childCount_40 : decode cX1_childCount 40 = .ok (.iload_n 1, 1) := dk_27 (dk_at dksX1_childCount_1 20 rfl rfl)
theorem dX1_childCount_41 : decode cX1_childCount 41 = .ok (.if_icmp .ne 6, 3) := dk_160 0 6 (dk_at dksX1_childCount_1 21 rfl rfl)
theorem dX1_childCount_44 : decode cX1_childCount 44 = .ok (.iinc 3 1, 3) := dk_132 3 1 (dk_at dksX1_childCount_2 0 rfl rfl)
theorem dX1_childCount_47 : decode cX1_childCount 47 = .ok (.iinc 4 1, 3) := dk_132 4 1 (dk_at dksX1_childCount_2 3 rfl rfl)
theorem dX1_childCount_50 : decode cX1_childCount 50 = .ok (.goto (-39), 3) := dk_167 255 217 (dk_at dksX1_childCount_2 6 rfl rfl)
theorem dX1_childCount_53 : decode cX1_childCount 53 = .ok (.iload_n 3, 1) := dk_29 (dk_at dksX1_childCount_2 9 rfl rfl)
theorem dX1_childCount_54 : decode cX1_childCount 54 = .ok (.ireturn, 1) := dk_172 (dk_at dksX1_childCount_2 10 rfl rfl)
abbrev cX1_commonAncestor : ByteArray := prog_1_method_37_code
def yX1_commonAncestor : MethodName := ⟨RX1, "commonAncestor", "(II)I"⟩
def dkwX1_commonAncestor_0 : List UInt8 := [42, 180, 0, 58, 42, 27, 182, 0, 200, 180, 0, 220, 42, 28, 182, 0, 200, 180, 0, 220, 182, 0, 226, 172]
abbrev dktX1_commonAncestor_0 : List UInt8 := dkwX1_commonAncestor_0 ++ []
theorem dksX1_commonAncestor_0 : cX1_commonAncestor.data.toList.drop 0 = dktX1_commonAncestor_0 := by decide +kernel
theorem dX1_commonAncestor_0 : decode cX1_commonAncestor 0 = .ok (.aload_n 0, 1) := dk_42 (dk_at dksX1_commonAncestor_0 0 rfl rfl)
theorem dX1_commonAncestor_1 : decode cX1_commonAncestor 1 = .ok (.getfield 58, 3) := dk_180 0 58 (dk_at dksX1_commonAncestor_0 1 rfl rfl)
theorem dX1_commonAncestor_4 : decode cX1_commonAncestor 4 = .ok (.aload_n 0, 1) := dk_42 (dk_at dksX1_commonAncestor_0 4 rfl rfl)
theorem dX1_commonAncestor_5 : decode cX1_commonAncestor 5 = .ok (.iload_n 1, 1) := dk_27 (dk_at dksX1_commonAncestor_0 5 rfl rfl)
theorem dX1_commonAncestor_6 : decode cX1_commonAncestor 6 = .ok (.invokevirtual 200, 3) := dk_182 0 200 (dk_at dksX1_commonAncestor_0 6 rfl rfl)
theorem dX1_commonAncestor_9 : decode cX1_commonAncestor 9 = .ok (.getfield 220, 3) := dk_180 0 220 (dk_at dksX1_commonAncestor_0 9 rfl rfl)
theorem dX1_commonAncestor_12 : decode cX1_commonAncestor 12 = .ok (.aload_n 0, 1) := dk_42 (dk_at dksX1_commonAncestor_0 12 rfl rfl)
theorem dX1_commonAncestor_13 : decode cX1_commonAncestor 13 = .ok (.iload_n 2, 1) := dk_28 (dk_at dksX1_commonAncestor_0 13 rfl rfl)
theorem dX1_commonAncestor_14 : decode cX1_commonAncestor 14 = .ok (.invokevirtual 200, 3) := dk_182 0 200 (dk_at dksX1_commonAncestor_0 14 rfl rfl)
theorem dX1_commonAncestor_17 : decode cX1_commonAncestor 17 = .ok (.getfield 220, 3) := dk_180 0 220 (dk_at dksX1_commonAncestor_0 17 rfl rfl)
theorem dX1_commonAncestor_20 : decode cX1_commonAncestor 20 = .ok (.invokevirtual 226, 3) := dk_182 0 226 (dk_at dksX1_commonAncestor_0 20 rfl rfl)
theorem dX1_commonAncestor_23 : decode cX1_commonAncestor 23 = .ok (.ireturn, 1) := dk_172 (dk_at dksX1_commonAncestor_0 23 rfl rfl)
abbrev cX1_size : ByteArray := prog_1_method_38_code
def yX1_size : MethodName := ⟨RX1, "size", "(I)I"⟩
def dkwX1_size_0 : List UInt8 := [42, 27, 182, 0, 230, 180, 0, 146, 172]
abbrev dktX1_size_0 : List UInt8 := dkwX1_size_0 ++ []
theorem dksX1_size_0 : cX1_size.data.toList.drop 0 = dktX1_size_0 := by decide +kernel
theorem dX1_size_0 : decode cX1_size 0 = .ok (.aload_n 0, 1) := dk_42 (dk_at dksX1_size_0 0 rfl rfl)
theorem dX1_size_1 : decode cX1_size 1 = .ok (.iload_n 1, 1) := dk_27 (dk_at dksX1_size_0 1 rfl rfl)
theorem dX1_size_2 : decode cX1_size 2 = .ok (.invokevirtual 230, 3) := dk_182 0 230 (dk_at dksX1_size_0 2 rfl rfl)
theorem dX1_size_5 : decode cX1_size 5 = .ok (.getfield 146, 3) := dk_180 0 146 (dk_at dksX1_size_0 5 rfl rfl)
theorem dX1_size_8 : decode cX1_size 8 = .ok (.ireturn, 1) := dk_172 (dk_at dksX1_size_0 8 rfl rfl)
abbrev cX1_tree : ByteArray := prog_1_method_27_code
def yX1_tree : MethodName := ⟨RX1, "tree", "(I)LVectorVersions$Tree;"⟩
def dkwX1_tree_1 : List UInt8 := [180, 0, 210, 176]
abbrev dktX1_tree_1 : List UInt8 := dkwX1_tree_1 ++ []
def dkwX1_tree_0 : List UInt8 := [42, 27, 182, 0, 200, 77, 44, 180, 0, 201, 154, 0, 7, 4, 167, 0, 4, 3, 184, 0, 207, 44]
abbrev dktX1_tree_0 : List UInt8 := dkwX1_tree_0 ++ dktX1_tree_1
theorem dksX1_tree_0 : cX1_tree.data.toList.drop 0 = dktX1_tree_0 := by decide +kernel
theorem dksX1_tree_1 : cX1_tree.data.toList.drop 22 = dktX1_tree_1 := dk_seg dksX1_tree_0 22 rfl rfl
theorem dX1_tree_0 : decode cX1_tree 0 = .ok (.aload_n 0, 1) := dk_42 (dk_at dksX1_tree_0 0 rfl rfl)
theorem dX1_tree_1 : decode cX1_tree 1 = .ok (.iload_n 1, 1) := dk_27 (dk_at dksX1_tree_0 1 rfl rfl)
theorem dX1_tree_2 : decode cX1_tree 2 = .ok (.invokevirtual 200, 3) := dk_182 0 200 (dk_at dksX1_tree_0 2 rfl rfl)
theorem dX1_tree_5 : decode cX1_tree 5 = .ok (.astore_n 2, 1) := dk_77 (dk_at dksX1_tree_0 5 rfl rfl)
theorem dX1_tree_6 : decode cX1_tree 6 = .ok (.aload_n 2, 1) := dk_44 (dk_at dksX1_tree_0 6 rfl rfl)
theorem dX1_tree_7 : decode cX1_tree 7 = .ok (.getfield 201, 3) := dk_180 0 201 (dk_at dksX1_tree_0 7 rfl rfl)
theorem dX1_tree_10 : decode cX1_tree 10 = .ok (.ifCond .ne 7, 3) := dk_154 0 7 (dk_at dksX1_tree_0 10 rfl rfl)
theorem dX1_tree_13 : decode cX1_tree 13 = .ok (.iconst 1, 1) := dk_4 (dk_at dksX1_tree_0 13 rfl rfl)
theorem dX1_tree_14 : decode cX1_tree 14 = .ok (.goto 4, 3) := dk_167 0 4 (dk_at dksX1_tree_0 14 rfl rfl)
theorem dX1_tree_17 : decode cX1_tree 17 = .ok (.iconst 0, 1) := dk_3 (dk_at dksX1_tree_0 17 rfl rfl)
theorem dX1_tree_18 : decode cX1_tree 18 = .ok (.invokestatic 207, 3) := dk_184 0 207 (dk_at dksX1_tree_0 18 rfl rfl)
theorem dX1_tree_21 : decode cX1_tree 21 = .ok (.aload_n 2, 1) := dk_44 (dk_at dksX1_tree_0 21 rfl rfl)
theorem dX1_tree_22 : decode cX1_tree 22 = .ok (.getfield 210, 3) := dk_180 0 210 (dk_at dksX1_tree_1 0 rfl rfl)
theorem dX1_tree_25 : decode cX1_tree 25 = .ok (.areturn, 1) := dk_176 (dk_at dksX1_tree_1 3 rfl rfl)
abbrev cX1_height : ByteArray := prog_1_method_39_code
def yX1_height : MethodName := ⟨RX1, "height", "(I)I"⟩
def dkwX1_height_0 : List UInt8 := [42, 27, 182, 0, 230, 180, 0, 231, 172]
abbrev dktX1_height_0 : List UInt8 := dkwX1_height_0 ++ []
theorem dksX1_height_0 : cX1_height.data.toList.drop 0 = dktX1_height_0 := by decide +kernel
theorem dX1_height_0 : decode cX1_height 0 = .ok (.aload_n 0, 1) := dk_42 (dk_at dksX1_height_0 0 rfl rfl)
theorem dX1_height_1 : decode cX1_height 1 = .ok (.iload_n 1, 1) := dk_27 (dk_at dksX1_height_0 1 rfl rfl)
theorem dX1_height_2 : decode cX1_height 2 = .ok (.invokevirtual 230, 3) := dk_182 0 230 (dk_at dksX1_height_0 2 rfl rfl)
theorem dX1_height_5 : decode cX1_height 5 = .ok (.getfield 231, 3) := dk_180 0 231 (dk_at dksX1_height_0 5 rfl rfl)
theorem dX1_height_8 : decode cX1_height 8 = .ok (.ireturn, 1) := dk_172 (dk_at dksX1_height_0 8 rfl rfl)
abbrev cX1_rootOf : ByteArray := prog_1_method_40_code
def yX1_rootOf : MethodName := ⟨RX1, "rootOf", "(I)I"⟩
def dkwX1_rootOf_0 : List UInt8 := [42, 27, 182, 0, 230, 182, 0, 234, 172]
abbrev dktX1_rootOf_0 : List UInt8 := dkwX1_rootOf_0 ++ []
theorem dksX1_rootOf_0 : cX1_rootOf.data.toList.drop 0 = dktX1_rootOf_0 := by decide +kernel
theorem dX1_rootOf_0 : decode cX1_rootOf 0 = .ok (.aload_n 0, 1) := dk_42 (dk_at dksX1_rootOf_0 0 rfl rfl)
theorem dX1_rootOf_1 : decode cX1_rootOf 1 = .ok (.iload_n 1, 1) := dk_27 (dk_at dksX1_rootOf_0 1 rfl rfl)
theorem dX1_rootOf_2 : decode cX1_rootOf 2 = .ok (.invokevirtual 230, 3) := dk_182 0 230 (dk_at dksX1_rootOf_0 2 rfl rfl)
theorem dX1_rootOf_5 : decode cX1_rootOf 5 = .ok (.invokevirtual 234, 3) := dk_182 0 234 (dk_at dksX1_rootOf_0 5 rfl rfl)
theorem dX1_rootOf_8 : decode cX1_rootOf 8 = .ok (.ireturn, 1) := dk_172 (dk_at dksX1_rootOf_0 8 rfl rfl)
abbrev cX1_get : ByteArray := prog_1_method_41_code
def yX1_get : MethodName := ⟨RX1, "get", "(II)I"⟩
def dkwX1_get_0 : List UInt8 := [42, 27, 28, 182, 0, 237, 78, 42, 27, 182, 0, 230, 28, 182, 0, 241, 192, 0, 80, 182, 0, 244, 172]
abbrev dktX1_get_0 : List UInt8 := dkwX1_get_0 ++ []
theorem dksX1_get_0 : cX1_get.data.toList.drop 0 = dktX1_get_0 := by decide +kernel
theorem dX1_get_0 : decode cX1_get 0 = .ok (.aload_n 0, 1) := dk_42 (dk_at dksX1_get_0 0 rfl rfl)
theorem dX1_get_1 : decode cX1_get 1 = .ok (.iload_n 1, 1) := dk_27 (dk_at dksX1_get_0 1 rfl rfl)
theorem dX1_get_2 : decode cX1_get 2 = .ok (.iload_n 2, 1) := dk_28 (dk_at dksX1_get_0 2 rfl rfl)
theorem dX1_get_3 : decode cX1_get 3 = .ok (.invokevirtual 237, 3) := dk_182 0 237 (dk_at dksX1_get_0 3 rfl rfl)
theorem dX1_get_6 : decode cX1_get 6 = .ok (.astore_n 3, 1) := dk_78 (dk_at dksX1_get_0 6 rfl rfl)
theorem dX1_get_7 : decode cX1_get 7 = .ok (.aload_n 0, 1) := dk_42 (dk_at dksX1_get_0 7 rfl rfl)
theorem dX1_get_8 : decode cX1_get 8 = .ok (.iload_n 1, 1) := dk_27 (dk_at dksX1_get_0 8 rfl rfl)
theorem dX1_get_9 : decode cX1_get 9 = .ok (.invokevirtual 230, 3) := dk_182 0 230 (dk_at dksX1_get_0 9 rfl rfl)
theorem dX1_get_12 : decode cX1_get 12 = .ok (.iload_n 2, 1) := dk_28 (dk_at dksX1_get_0 12 rfl rfl)
theorem dX1_get_13 : decode cX1_get 13 = .ok (.invokevirtual 241, 3) := dk_182 0 241 (dk_at dksX1_get_0 13 rfl rfl)
theorem dX1_get_16 : decode cX1_get 16 = .ok (.checkcast 80, 3) := dk_192 0 80 (dk_at dksX1_get_0 16 rfl rfl)
theorem dX1_get_19 : decode cX1_get 19 = .ok (.invokevirtual 244, 3) := dk_182 0 244 (dk_at dksX1_get_0 19 rfl rfl)
theorem dX1_get_22 : decode cX1_get 22 = .ok (.ireturn, 1) := dk_172 (dk_at dksX1_get_0 22 rfl rfl)
abbrev cX1_versionWith : ByteArray := prog_1_method_29_code
def yX1_versionWith : MethodName := ⟨RX1, "versionWith", "(II)LVectorVersions$Version;"⟩
def dkwX1_versionWith_1 : List UInt8 := [184, 0, 105, 153, 0, 7, 4, 167, 0, 4, 3, 184, 0, 192, 45, 176]
abbrev dktX1_versionWith_1 : List UInt8 := dkwX1_versionWith_1 ++ []
def dkwX1_versionWith_0 : List UInt8 := [42, 27, 182, 0, 200, 78, 45, 180, 0, 201, 154, 0, 20, 28, 3, 45, 180, 0, 210, 180, 0, 146, 4, 100]
abbrev dktX1_versionWith_0 : List UInt8 := dkwX1_versionWith_0 ++ dktX1_versionWith_1
theorem dksX1_versionWith_0 : cX1_versionWith.data.toList.drop 0 = dktX1_versionWith_0 := by decide +kernel
theorem dksX1_versionWith_1 : cX1_versionWith.data.toList.drop 24 = dktX1_versionWith_1 := dk_seg dksX1_versionWith_0 24 rfl rfl
theorem dX1_versionWith_0 : decode cX1_versionWith 0 = .ok (.aload_n 0, 1) := dk_42 (dk_at dksX1_versionWith_0 0 rfl rfl)
theorem dX1_versionWith_1 : decode cX1_versionWith 1 = .ok (.iload_n 1, 1) := dk_27 (dk_at dksX1_versionWith_0 1 rfl rfl)
theorem dX1_versionWith_2 : decode cX1_versionWith 2 = .ok (.invokevirtual 200, 3) := dk_182 0 200 (dk_at dksX1_versionWith_0 2 rfl rfl)
theorem dX1_versionWith_5 : decode cX1_versionWith 5 = .ok (.astore_n 3, 1) := dk_78 (dk_at dksX1_versionWith_0 5 rfl rfl)
theorem dX1_versionWith_6 : decode cX1_versionWith 6 = .ok (.aload_n 3, 1) := dk_45 (dk_at dksX1_versionWith_0 6 rfl rfl)
theorem dX1_versionWith_7 : decode cX1_versionWith 7 = .ok (.getfield 201, 3) := dk_180 0 201 (dk_at dksX1_versionWith_0 7 rfl rfl)
theorem dX1_versionWith_10 : decode cX1_versionWith 10 = .ok (.ifCond .ne 20, 3) := dk_154 0 20 (dk_at dksX1_versionWith_0 10 rfl rfl)
theorem dX1_versionWith_13 : decode cX1_versionWith 13 = .ok (.iload_n 2, 1) := dk_28 (dk_at dksX1_versionWith_0 13 rfl rfl)
theorem dX1_versionWith_14 : decode cX1_versionWith 14 = .ok (.iconst 0, 1) := dk_3 (dk_at dksX1_versionWith_0 14 rfl rfl)
theorem dX1_versionWith_15 : decode cX1_versionWith 15 = .ok (.aload_n 3, 1) := dk_45 (dk_at dksX1_versionWith_0 15 rfl rfl)
theorem dX1_versionWith_16 : decode cX1_versionWith 16 = .ok (.getfield 210, 3) := dk_180 0 210 (dk_at dksX1_versionWith_0 16 rfl rfl)
theorem dX1_versionWith_19 : decode cX1_versionWith 19 = .ok (.getfield 146, 3) := dk_180 0 146 (dk_at dksX1_versionWith_0 19 rfl rfl)
theorem dX1_versionWith_22 : decode cX1_versionWith 22 = .ok (.iconst 1, 1) := dk_4 (dk_at dksX1_versionWith_0 22 rfl rfl)
theorem dX1_versionWith_23 : decode cX1_versionWith 23 = .ok (.isub, 1) := dk_100 (dk_at dksX1_versionWith_0 23 rfl rfl)
theorem dX1_versionWith_24 : decode cX1_versionWith 24 = .ok (.invokestatic 105, 3) := dk_184 0 105 (dk_at dksX1_versionWith_1 0 rfl rfl)
theorem dX1_versionWith_27 : decode cX1_versionWith 27 = .ok (.ifCond .eq 7, 3) := dk_153 0 7 (dk_at dksX1_versionWith_1 3 rfl rfl)
theorem dX1_versionWith_30 : decode cX1_versionWith 30 = .ok (.iconst 1, 1) := dk_4 (dk_at dksX1_versionWith_1 6 rfl rfl)
theorem dX1_versionWith_31 : decode cX1_versionWith 31 = .ok (.goto 4, 3) := dk_167 0 4 (dk_at dksX1_versionWith_1 7 rfl rfl)
theorem dX1_versionWith_34 : decode cX1_versionWith 34 = .ok (.iconst 0, 1) := dk_3 (dk_at dksX1_versionWith_1 10 rfl rfl)
theorem dX1_versionWith_35 : decode cX1_versionWith 35 = .ok (.invokestatic 192, 3) := dk_184 0 192 (dk_at dksX1_versionWith_1 11 rfl rfl)
theorem dX1_versionWith_38 : decode cX1_versionWith 38 = .ok (.aload_n 3, 1) := dk_45 (dk_at dksX1_versionWith_1 14 rfl rfl)
theorem dX1_versionWith_39 : decode cX1_versionWith 39 = .ok (.areturn, 1) := dk_176 (dk_at dksX1_versionWith_1 15 rfl rfl)
abbrev cX1_leafOf : ByteArray := prog_1_method_42_code
def yX1_leafOf : MethodName := ⟨RX1, "leafOf", "(II)I"⟩
def dkwX1_leafOf_0 : List UInt8 := [42, 27, 28, 182, 0, 237, 78, 42, 27, 182, 0, 230, 28, 182, 0, 247, 180, 0, 250, 172]
abbrev dktX1_leafOf_0 : List UInt8 := dkwX1_leafOf_0 ++ []
theorem dksX1_leafOf_0 : cX1_leafOf.data.toList.drop 0 = dktX1_leafOf_0 := by decide +kernel
theorem dX1_leafOf_0 : decode cX1_leafOf 0 = .ok (.aload_n 0, 1) := dk_42 (dk_at dksX1_leafOf_0 0 rfl rfl)
theorem dX1_leafOf_1 : decode cX1_leafOf 1 = .ok (.iload_n 1, 1) := dk_27 (dk_at dksX1_leafOf_0 1 rfl rfl)
theorem dX1_leafOf_2 : decode cX1_leafOf 2 = .ok (.iload_n 2, 1) := dk_28 (dk_at dksX1_leafOf_0 2 rfl rfl)
theorem dX1_leafOf_3 : decode cX1_leafOf 3 = .ok (.invokevirtual 237, 3) := dk_182 0 237 (dk_at dksX1_leafOf_0 3 rfl rfl)
theorem dX1_leafOf_6 : decode cX1_leafOf 6 = .ok (.astore_n 3, 1) := dk_78 (dk_at dksX1_leafOf_0 6 rfl rfl)
theorem dX1_leafOf_7 : decode cX1_leafOf 7 = .ok (.aload_n 0, 1) := dk_42 (dk_at dksX1_leafOf_0 7 rfl rfl)
theorem dX1_leafOf_8 : decode cX1_leafOf 8 = .ok (.iload_n 1, 1) := dk_27 (dk_at dksX1_leafOf_0 8 rfl rfl)
theorem dX1_leafOf_9 : decode cX1_leafOf 9 = .ok (.invokevirtual 230, 3) := dk_182 0 230 (dk_at dksX1_leafOf_0 9 rfl rfl)
theorem dX1_leafOf_12 : decode cX1_leafOf 12 = .ok (.iload_n 2, 1) := dk_28 (dk_at dksX1_leafOf_0 12 rfl rfl)
theorem dX1_leafOf_13 : decode cX1_leafOf 13 = .ok (.invokevirtual 247, 3) := dk_182 0 247 (dk_at dksX1_leafOf_0 13 rfl rfl)
theorem dX1_leafOf_16 : decode cX1_leafOf 16 = .ok (.getfield 250, 3) := dk_180 0 250 (dk_at dksX1_leafOf_0 16 rfl rfl)
theorem dX1_leafOf_19 : decode cX1_leafOf 19 = .ok (.ireturn, 1) := dk_172 (dk_at dksX1_leafOf_0 19 rfl rfl)
abbrev cX1_sum : ByteArray := prog_1_method_43_code
def yX1_sum : MethodName := ⟨RX1, "sum", "(I)I"⟩
def dkwX1_sum_1 : List UInt8 := [185, 1, 7, 1, 0, 192, 0, 80, 182, 0, 244, 96, 61, 167, 255, 232, 28, 172]
abbrev dktX1_sum_1 : List UInt8 := dkwX1_sum_1 ++ []
def dkwX1_sum_0 : List UInt8 := [3, 61, 42, 27, 182, 0, 230, 182, 0, 253, 78, 45, 185, 1, 1, 1, 0, 153, 0, 21, 28, 45]
abbrev dktX1_sum_0 : List UInt8 := dkwX1_sum_0 ++ dktX1_sum_1
theorem dksX1_sum_0 : cX1_sum.data.toList.drop 0 = dktX1_sum_0 := by decide +kernel
theorem dksX1_sum_1 : cX1_sum.data.toList.drop 22 = dktX1_sum_1 := dk_seg dksX1_sum_0 22 rfl rfl
theorem dX1_sum_0 : decode cX1_sum 0 = .ok (.iconst 0, 1) := dk_3 (dk_at dksX1_sum_0 0 rfl rfl)
theorem dX1_sum_1 : decode cX1_sum 1 = .ok (.istore_n 2, 1) := dk_61 (dk_at dksX1_sum_0 1 rfl rfl)
theorem dX1_sum_2 : decode cX1_sum 2 = .ok (.aload_n 0, 1) := dk_42 (dk_at dksX1_sum_0 2 rfl rfl)
theorem dX1_sum_3 : decode cX1_sum 3 = .ok (.iload_n 1, 1) := dk_27 (dk_at dksX1_sum_0 3 rfl rfl)
theorem dX1_sum_4 : decode cX1_sum 4 = .ok (.invokevirtual 230, 3) := dk_182 0 230 (dk_at dksX1_sum_0 4 rfl rfl)
theorem dX1_sum_7 : decode cX1_sum 7 = .ok (.invokevirtual 253, 3) := dk_182 0 253 (dk_at dksX1_sum_0 7 rfl rfl)
theorem dX1_sum_10 : decode cX1_sum 10 = .ok (.astore_n 3, 1) := dk_78 (dk_at dksX1_sum_0 10 rfl rfl)
theorem dX1_sum_11 : decode cX1_sum 11 = .ok (.aload_n 3, 1) := dk_45 (dk_at dksX1_sum_0 11 rfl rfl)
theorem dX1_sum_12 : decode cX1_sum 12 = .ok (.invokeinterface 257 1, 5) := by decide +kernel
theorem dX1_sum_17 : decode cX1_sum 17 = .ok (.ifCond .eq 21, 3) := dk_153 0 21 (dk_at dksX1_sum_0 17 rfl rfl)
theorem dX1_sum_20 : decode cX1_sum 20 = .ok (.iload_n 2, 1) := dk_28 (dk_at dksX1_sum_0 20 rfl rfl)
theorem dX1_sum_21 : decode cX1_sum 21 = .ok (.aload_n 3, 1) := dk_45 (dk_at dksX1_sum_0 21 rfl rfl)
theorem dX1_sum_22 : decode cX1_sum 22 = .ok (.invokeinterface 263 1, 5) := by decide +kernel
theorem dX1_sum_27 : decode cX1_sum 27 = .ok (.checkcast 80, 3) := dk_192 0 80 (dk_at dksX1_sum_1 5 rfl rfl)
theorem dX1_sum_30 : decode cX1_sum 30 = .ok (.invokevirtual 244, 3) := dk_182 0 244 (dk_at dksX1_sum_1 8 rfl rfl)
theorem dX1_sum_33 : decode cX1_sum 33 = .ok (.iadd, 1) := dk_96 (dk_at dksX1_sum_1 11 rfl rfl)
theorem dX1_sum_34 : decode cX1_sum 34 = .ok (.istore_n 2, 1) := dk_61 (dk_at dksX1_sum_1 12 rfl rfl)
theorem dX1_sum_35 : decode cX1_sum 35 = .ok (.goto (-24), 3) := dk_167 255 232 (dk_at dksX1_sum_1 13 rfl rfl)
theorem dX1_sum_38 : decode cX1_sum 38 = .ok (.iload_n 2, 1) := dk_28 (dk_at dksX1_sum_1 16 rfl rfl)
theorem dX1_sum_39 : decode cX1_sum 39 = .ok (.ireturn, 1) := dk_172 (dk_at dksX1_sum_1 17 rfl rfl)
abbrev cX1_indexOf : ByteArray := prog_1_method_44_code
def yX1_indexOf : MethodName := ⟨RX1, "indexOf", "(II)I"⟩
def dkwX1_indexOf_0 : List UInt8 := [42, 27, 182, 0, 230, 28, 184, 0, 79, 182, 1, 10, 172]
abbrev dktX1_indexOf_0 : List UInt8 := dkwX1_indexOf_0 ++ []
theorem dksX1_indexOf_0 : cX1_indexOf.data.toList.drop 0 = dktX1_indexOf_0 := by decide +kernel
theorem dX1_indexOf_0 : decode cX1_indexOf 0 = .ok (.aload_n 0, 1) := dk_42 (dk_at dksX1_indexOf_0 0 rfl rfl)
theorem dX1_indexOf_1 : decode cX1_indexOf 1 = .ok (.iload_n 1, 1) := dk_27 (dk_at dksX1_indexOf_0 1 rfl rfl)
theorem dX1_indexOf_2 : decode cX1_indexOf 2 = .ok (.invokevirtual 230, 3) := dk_182 0 230 (dk_at dksX1_indexOf_0 2 rfl rfl)
theorem dX1_indexOf_5 : decode cX1_indexOf 5 = .ok (.iload_n 2, 1) := dk_28 (dk_at dksX1_indexOf_0 5 rfl rfl)
theorem dX1_indexOf_6 : decode cX1_indexOf 6 = .ok (.invokestatic 79, 3) := dk_184 0 79 (dk_at dksX1_indexOf_0 6 rfl rfl)
theorem dX1_indexOf_9 : decode cX1_indexOf 9 = .ok (.invokevirtual 266, 3) := dk_182 1 10 (dk_at dksX1_indexOf_0 9 rfl rfl)
theorem dX1_indexOf_12 : decode cX1_indexOf 12 = .ok (.ireturn, 1) := dk_172 (dk_at dksX1_indexOf_0 12 rfl rfl)
abbrev cX1_nodesCreatedFor : ByteArray := prog_1_method_48_code
def yX1_nodesCreatedFor : MethodName := ⟨RX1, "nodesCreatedFor", "(I)I"⟩
def dkwX1_nodesCreatedFor_0 : List UInt8 := [42, 27, 182, 0, 200, 180, 1, 23, 172]
abbrev dktX1_nodesCreatedFor_0 : List UInt8 := dkwX1_nodesCreatedFor_0 ++ []
theorem dksX1_nodesCreatedFor_0 : cX1_nodesCreatedFor.data.toList.drop 0 = dktX1_nodesCreatedFor_0 := by decide +kernel
theorem dX1_nodesCreatedFor_0 : decode cX1_nodesCreatedFor 0 = .ok (.aload_n 0, 1) := dk_42 (dk_at dksX1_nodesCreatedFor_0 0 rfl rfl)
theorem dX1_nodesCreatedFor_1 : decode cX1_nodesCreatedFor 1 = .ok (.iload_n 1, 1) := dk_27 (dk_at dksX1_nodesCreatedFor_0 1 rfl rfl)
theorem dX1_nodesCreatedFor_2 : decode cX1_nodesCreatedFor 2 = .ok (.invokevirtual 200, 3) := dk_182 0 200 (dk_at dksX1_nodesCreatedFor_0 2 rfl rfl)
theorem dX1_nodesCreatedFor_5 : decode cX1_nodesCreatedFor 5 = .ok (.getfield 279, 3) := dk_180 1 23 (dk_at dksX1_nodesCreatedFor_0 5 rfl rfl)
theorem dX1_nodesCreatedFor_8 : decode cX1_nodesCreatedFor 8 = .ok (.ireturn, 1) := dk_172 (dk_at dksX1_nodesCreatedFor_0 8 rfl rfl)
abbrev cX1_nodesOf : ByteArray := prog_1_method_49_code
def yX1_nodesOf : MethodName := ⟨RX1, "nodesOf", "(I)I"⟩
def dkwX1_nodesOf_0 : List UInt8 := [42, 27, 182, 0, 230, 77, 42, 180, 0, 58, 27, 182, 1, 24, 184, 1, 28, 172]
abbrev dktX1_nodesOf_0 : List UInt8 := dkwX1_nodesOf_0 ++ []
theorem dksX1_nodesOf_0 : cX1_nodesOf.data.toList.drop 0 = dktX1_nodesOf_0 := by decide +kernel
theorem dX1_nodesOf_0 : decode cX1_nodesOf 0 = .ok (.aload_n 0, 1) := dk_42 (dk_at dksX1_nodesOf_0 0 rfl rfl)
theorem dX1_nodesOf_1 : decode cX1_nodesOf 1 = .ok (.iload_n 1, 1) := dk_27 (dk_at dksX1_nodesOf_0 1 rfl rfl)
theorem dX1_nodesOf_2 : decode cX1_nodesOf 2 = .ok (.invokevirtual 230, 3) := dk_182 0 230 (dk_at dksX1_nodesOf_0 2 rfl rfl)
theorem dX1_nodesOf_5 : decode cX1_nodesOf 5 = .ok (.astore_n 2, 1) := dk_77 (dk_at dksX1_nodesOf_0 5 rfl rfl)
theorem dX1_nodesOf_6 : decode cX1_nodesOf 6 = .ok (.aload_n 0, 1) := dk_42 (dk_at dksX1_nodesOf_0 6 rfl rfl)
theorem dX1_nodesOf_7 : decode cX1_nodesOf 7 = .ok (.getfield 58, 3) := dk_180 0 58 (dk_at dksX1_nodesOf_0 7 rfl rfl)
theorem dX1_nodesOf_10 : decode cX1_nodesOf 10 = .ok (.iload_n 1, 1) := dk_27 (dk_at dksX1_nodesOf_0 10 rfl rfl)
theorem dX1_nodesOf_11 : decode cX1_nodesOf 11 = .ok (.invokevirtual 280, 3) := dk_182 1 24 (dk_at dksX1_nodesOf_0 11 rfl rfl)
theorem dX1_nodesOf_14 : decode cX1_nodesOf 14 = .ok (.invokestatic 284, 3) := dk_184 1 28 (dk_at dksX1_nodesOf_0 14 rfl rfl)
theorem dX1_nodesOf_17 : decode cX1_nodesOf 17 = .ok (.ireturn, 1) := dk_172 (dk_at dksX1_nodesOf_0 17 rfl rfl)
abbrev cX1_sharedNodes : ByteArray := prog_1_method_50_code
def yX1_sharedNodes : MethodName := ⟨RX1, "sharedNodes", "(II)I"⟩
def dkwX1_sharedNodes_1 : List UInt8 := [184, 1, 35, 172]
abbrev dktX1_sharedNodes_1 : List UInt8 := dkwX1_sharedNodes_1 ++ []
def dkwX1_sharedNodes_0 : List UInt8 := [42, 27, 28, 182, 1, 32, 42, 180, 0, 58, 27, 182, 1, 24, 42, 180, 0, 58, 28, 182, 1, 24, 4]
abbrev dktX1_sharedNodes_0 : List UInt8 := dkwX1_sharedNodes_0 ++ dktX1_sharedNodes_1
theorem dksX1_sharedNodes_0 : cX1_sharedNodes.data.toList.drop 0 = dktX1_sharedNodes_0 := by decide +kernel
theorem dksX1_sharedNodes_1 : cX1_sharedNodes.data.toList.drop 23 = dktX1_sharedNodes_1 := dk_seg dksX1_sharedNodes_0 23 rfl rfl
theorem dX1_sharedNodes_0 : decode cX1_sharedNodes 0 = .ok (.aload_n 0, 1) := dk_42 (dk_at dksX1_sharedNodes_0 0 rfl rfl)
theorem dX1_sharedNodes_1 : decode cX1_sharedNodes 1 = .ok (.iload_n 1, 1) := dk_27 (dk_at dksX1_sharedNodes_0 1 rfl rfl)
theorem dX1_sharedNodes_2 : decode cX1_sharedNodes 2 = .ok (.iload_n 2, 1) := dk_28 (dk_at dksX1_sharedNodes_0 2 rfl rfl)
theorem dX1_sharedNodes_3 : decode cX1_sharedNodes 3 = .ok (.invokevirtual 288, 3) := dk_182 1 32 (dk_at dksX1_sharedNodes_0 3 rfl rfl)
theorem dX1_sharedNodes_6 : decode cX1_sharedNodes 6 = .ok (.aload_n 0, 1) := dk_42 (dk_at dksX1_sharedNodes_0 6 rfl rfl)
theorem dX1_sharedNodes_7 : decode cX1_sharedNodes 7 = .ok (.getfield 58, 3) := dk_180 0 58 (dk_at dksX1_sharedNodes_0 7 rfl rfl)
theorem dX1_sharedNodes_10 : decode cX1_sharedNodes 10 = .ok (.iload_n 1, 1) := dk_27 (dk_at dksX1_sharedNodes_0 10 rfl rfl)
theorem dX1_sharedNodes_11 : decode cX1_sharedNodes 11 = .ok (.invokevirtual 280, 3) := dk_182 1 24 (dk_at dksX1_sharedNodes_0 11 rfl rfl)
theorem dX1_sharedNodes_14 : decode cX1_sharedNodes 14 = .ok (.aload_n 0, 1) := dk_42 (dk_at dksX1_sharedNodes_0 14 rfl rfl)
theorem dX1_sharedNodes_15 : decode cX1_sharedNodes 15 = .ok (.getfield 58, 3) := dk_180 0 58 (dk_at dksX1_sharedNodes_0 15 rfl rfl)
theorem dX1_sharedNodes_18 : decode cX1_sharedNodes 18 = .ok (.iload_n 2, 1) := dk_28 (dk_at dksX1_sharedNodes_0 18 rfl rfl)
theorem dX1_sharedNodes_19 : decode cX1_sharedNodes 19 = .ok (.invokevirtual 280, 3) := dk_182 1 24 (dk_at dksX1_sharedNodes_0 19 rfl rfl)
theorem dX1_sharedNodes_22 : decode cX1_sharedNodes 22 = .ok (.iconst 1, 1) := dk_4 (dk_at dksX1_sharedNodes_0 22 rfl rfl)
theorem dX1_sharedNodes_23 : decode cX1_sharedNodes 23 = .ok (.invokestatic 291, 3) := dk_184 1 35 (dk_at dksX1_sharedNodes_1 0 rfl rfl)
theorem dX1_sharedNodes_26 : decode cX1_sharedNodes 26 = .ok (.ireturn, 1) := dk_172 (dk_at dksX1_sharedNodes_1 3 rfl rfl)
abbrev cX1_checkBoth : ByteArray := prog_1_method_28_code
def yX1_checkBoth : MethodName := ⟨RX1, "checkBoth", "(II)V"⟩
def dkwX1_checkBoth_1 : List UInt8 := [180, 0, 201, 154, 0, 7, 4, 167, 0, 4, 3, 184, 0, 207, 177]
abbrev dktX1_checkBoth_1 : List UInt8 := dkwX1_checkBoth_1 ++ []
def dkwX1_checkBoth_0 : List UInt8 := [42, 27, 182, 0, 200, 78, 42, 28, 182, 0, 200, 58, 4, 45, 180, 0, 201, 154, 0, 15, 25, 4]
abbrev dktX1_checkBoth_0 : List UInt8 := dkwX1_checkBoth_0 ++ dktX1_checkBoth_1
theorem dksX1_checkBoth_0 : cX1_checkBoth.data.toList.drop 0 = dktX1_checkBoth_0 := by decide +kernel
theorem dksX1_checkBoth_1 : cX1_checkBoth.data.toList.drop 22 = dktX1_checkBoth_1 := dk_seg dksX1_checkBoth_0 22 rfl rfl
theorem dX1_checkBoth_0 : decode cX1_checkBoth 0 = .ok (.aload_n 0, 1) := dk_42 (dk_at dksX1_checkBoth_0 0 rfl rfl)
theorem dX1_checkBoth_1 : decode cX1_checkBoth 1 = .ok (.iload_n 1, 1) := dk_27 (dk_at dksX1_checkBoth_0 1 rfl rfl)
theorem dX1_checkBoth_2 : decode cX1_checkBoth 2 = .ok (.invokevirtual 200, 3) := dk_182 0 200 (dk_at dksX1_checkBoth_0 2 rfl rfl)
theorem dX1_checkBoth_5 : decode cX1_checkBoth 5 = .ok (.astore_n 3, 1) := dk_78 (dk_at dksX1_checkBoth_0 5 rfl rfl)
theorem dX1_checkBoth_6 : decode cX1_checkBoth 6 = .ok (.aload_n 0, 1) := dk_42 (dk_at dksX1_checkBoth_0 6 rfl rfl)
theorem dX1_checkBoth_7 : decode cX1_checkBoth 7 = .ok (.iload_n 2, 1) := dk_28 (dk_at dksX1_checkBoth_0 7 rfl rfl)
theorem dX1_checkBoth_8 : decode cX1_checkBoth 8 = .ok (.invokevirtual 200, 3) := dk_182 0 200 (dk_at dksX1_checkBoth_0 8 rfl rfl)
theorem dX1_checkBoth_11 : decode cX1_checkBoth 11 = .ok (.astore 4, 2) := dk_58 4 (dk_at dksX1_checkBoth_0 11 rfl rfl)
theorem dX1_checkBoth_13 : decode cX1_checkBoth 13 = .ok (.aload_n 3, 1) := dk_45 (dk_at dksX1_checkBoth_0 13 rfl rfl)
theorem dX1_checkBoth_14 : decode cX1_checkBoth 14 = .ok (.getfield 201, 3) := dk_180 0 201 (dk_at dksX1_checkBoth_0 14 rfl rfl)
theorem dX1_checkBoth_17 : decode cX1_checkBoth 17 = .ok (.ifCond .ne 15, 3) := dk_154 0 15 (dk_at dksX1_checkBoth_0 17 rfl rfl)
theorem dX1_checkBoth_20 : decode cX1_checkBoth 20 = .ok (.aload 4, 2) := dk_25 4 (dk_at dksX1_checkBoth_0 20 rfl rfl)
theorem dX1_checkBoth_22 : decode cX1_checkBoth 22 = .ok (.getfield 201, 3) := dk_180 0 201 (dk_at dksX1_checkBoth_1 0 rfl rfl)
theorem dX1_checkBoth_25 : decode cX1_checkBoth 25 = .ok (.ifCond .ne 7, 3) := dk_154 0 7 (dk_at dksX1_checkBoth_1 3 rfl rfl)
theorem dX1_checkBoth_28 : decode cX1_checkBoth 28 = .ok (.iconst 1, 1) := dk_4 (dk_at dksX1_checkBoth_1 6 rfl rfl)
theorem dX1_checkBoth_29 : decode cX1_checkBoth 29 = .ok (.goto 4, 3) := dk_167 0 4 (dk_at dksX1_checkBoth_1 7 rfl rfl)
theorem dX1_checkBoth_32 : decode cX1_checkBoth 32 = .ok (.iconst 0, 1) := dk_3 (dk_at dksX1_checkBoth_1 10 rfl rfl)
theorem dX1_checkBoth_33 : decode cX1_checkBoth 33 = .ok (.invokestatic 207, 3) := dk_184 0 207 (dk_at dksX1_checkBoth_1 11 rfl rfl)
theorem dX1_checkBoth_36 : decode cX1_checkBoth 36 = .ok (.return_, 1) := dk_177 (dk_at dksX1_checkBoth_1 14 rfl rfl)
abbrev cX1_exclusiveNodes : ByteArray := prog_1_method_51_code
def yX1_exclusiveNodes : MethodName := ⟨RX1, "exclusiveNodes", "(I)I"⟩
def dkwX1_exclusiveNodes_1 : List UInt8 := [184, 1, 35, 172]
abbrev dktX1_exclusiveNodes_1 : List UInt8 := dkwX1_exclusiveNodes_1 ++ []
def dkwX1_exclusiveNodes_0 : List UInt8 := [42, 27, 182, 0, 230, 77, 42, 180, 0, 58, 27, 182, 1, 24, 42, 180, 0, 58, 27, 182, 1, 39, 3]
abbrev dktX1_exclusiveNodes_0 : List UInt8 := dkwX1_exclusiveNodes_0 ++ dktX1_exclusiveNodes_1
theorem dksX1_exclusiveNodes_0 : cX1_exclusiveNodes.data.toList.drop 0 = dktX1_exclusiveNodes_0 := by decide +kernel
theorem dksX1_exclusiveNodes_1 : cX1_exclusiveNodes.data.toList.drop 23 = dktX1_exclusiveNodes_1 := dk_seg dksX1_exclusiveNodes_0 23 rfl rfl
theorem dX1_exclusiveNodes_0 : decode cX1_exclusiveNodes 0 = .ok (.aload_n 0, 1) := dk_42 (dk_at dksX1_exclusiveNodes_0 0 rfl rfl)
theorem dX1_exclusiveNodes_1 : decode cX1_exclusiveNodes 1 = .ok (.iload_n 1, 1) := dk_27 (dk_at dksX1_exclusiveNodes_0 1 rfl rfl)
theorem dX1_exclusiveNodes_2 : decode cX1_exclusiveNodes 2 = .ok (.invokevirtual 230, 3) := dk_182 0 230 (dk_at dksX1_exclusiveNodes_0 2 rfl rfl)
theorem dX1_exclusiveNodes_5 : decode cX1_exclusiveNodes 5 = .ok (.astore_n 2, 1) := dk_77 (dk_at dksX1_exclusiveNodes_0 5 rfl rfl)
theorem dX1_exclusiveNodes_6 : decode cX1_exclusiveNodes 6 = .ok (.aload_n 0, 1) := dk_42 (dk_at dksX1_exclusiveNodes_0 6 rfl rfl)
theorem dX1_exclusiveNodes_7 : decode cX1_exclusiveNodes 7 = .ok (.getfield 58, 3) := dk_180 0 58 (dk_at dksX1_exclusiveNodes_0 7 rfl rfl)
theorem dX1_exclusiveNodes_10 : decode cX1_exclusiveNodes 10 = .ok (.iload_n 1, 1) := dk_27 (dk_at dksX1_exclusiveNodes_0 10 rfl rfl)
theorem dX1_exclusiveNodes_11 : decode cX1_exclusiveNodes 11 = .ok (.invokevirtual 280, 3) := dk_182 1 24 (dk_at dksX1_exclusiveNodes_0 11 rfl rfl)
theorem dX1_exclusiveNodes_14 : decode cX1_exclusiveNodes 14 = .ok (.aload_n 0, 1) := dk_42 (dk_at dksX1_exclusiveNodes_0 14 rfl rfl)
theorem dX1_exclusiveNodes_15 : decode cX1_exclusiveNodes 15 = .ok (.getfield 58, 3) := dk_180 0 58 (dk_at dksX1_exclusiveNodes_0 15 rfl rfl)
theorem dX1_exclusiveNodes_18 : decode cX1_exclusiveNodes 18 = .ok (.iload_n 1, 1) := dk_27 (dk_at dksX1_exclusiveNodes_0 18 rfl rfl)
theorem dX1_exclusiveNodes_19 : decode cX1_exclusiveNodes 19 = .ok (.invokevirtual 295, 3) := dk_182 1 39 (dk_at dksX1_exclusiveNodes_0 19 rfl rfl)
theorem dX1_exclusiveNodes_22 : decode cX1_exclusiveNodes 22 = .ok (.iconst 0, 1) := dk_3 (dk_at dksX1_exclusiveNodes_0 22 rfl rfl)
theorem dX1_exclusiveNodes_23 : decode cX1_exclusiveNodes 23 = .ok (.invokestatic 291, 3) := dk_184 1 35 (dk_at dksX1_exclusiveNodes_1 0 rfl rfl)
theorem dX1_exclusiveNodes_26 : decode cX1_exclusiveNodes 26 = .ok (.ireturn, 1) := dk_172 (dk_at dksX1_exclusiveNodes_1 3 rfl rfl)
abbrev cX1_isLeaf : ByteArray := prog_1_method_52_code
def yX1_isLeaf : MethodName := ⟨RX1, "isLeaf", "(I)Z"⟩
def dkwX1_isLeaf_0 : List UInt8 := [42, 27, 182, 1, 42, 182, 1, 43, 172]
abbrev dktX1_isLeaf_0 : List UInt8 := dkwX1_isLeaf_0 ++ []
theorem dksX1_isLeaf_0 : cX1_isLeaf.data.toList.drop 0 = dktX1_isLeaf_0 := by decide +kernel
theorem dX1_isLeaf_0 : decode cX1_isLeaf 0 = .ok (.aload_n 0, 1) := dk_42 (dk_at dksX1_isLeaf_0 0 rfl rfl)
theorem dX1_isLeaf_1 : decode cX1_isLeaf 1 = .ok (.iload_n 1, 1) := dk_27 (dk_at dksX1_isLeaf_0 1 rfl rfl)
theorem dX1_isLeaf_2 : decode cX1_isLeaf 2 = .ok (.invokevirtual 298, 3) := dk_182 1 42 (dk_at dksX1_isLeaf_0 2 rfl rfl)
theorem dX1_isLeaf_5 : decode cX1_isLeaf 5 = .ok (.invokevirtual 299, 3) := dk_182 1 43 (dk_at dksX1_isLeaf_0 5 rfl rfl)
theorem dX1_isLeaf_8 : decode cX1_isLeaf 8 = .ok (.ireturn, 1) := dk_172 (dk_at dksX1_isLeaf_0 8 rfl rfl)
abbrev cX1_node : ByteArray := prog_1_method_30_code
def yX1_node : MethodName := ⟨RX1, "node", "(I)LVectorVersions$Node;"⟩
def dkwX1_node_0 : List UInt8 := [42, 180, 0, 58, 27, 182, 0, 213, 77, 44, 198, 0, 7, 4, 167, 0, 4, 3, 184, 0, 192, 44, 176]
abbrev dktX1_node_0 : List UInt8 := dkwX1_node_0 ++ []
theorem dksX1_node_0 : cX1_node.data.toList.drop 0 = dktX1_node_0 := by decide +kernel
theorem dX1_node_0 : decode cX1_node 0 = .ok (.aload_n 0, 1) := dk_42 (dk_at dksX1_node_0 0 rfl rfl)
theorem dX1_node_1 : decode cX1_node 1 = .ok (.getfield 58, 3) := dk_180 0 58 (dk_at dksX1_node_0 1 rfl rfl)
theorem dX1_node_4 : decode cX1_node 4 = .ok (.iload_n 1, 1) := dk_27 (dk_at dksX1_node_0 4 rfl rfl)
theorem dX1_node_5 : decode cX1_node 5 = .ok (.invokevirtual 213, 3) := dk_182 0 213 (dk_at dksX1_node_0 5 rfl rfl)
theorem dX1_node_8 : decode cX1_node 8 = .ok (.astore_n 2, 1) := dk_77 (dk_at dksX1_node_0 8 rfl rfl)
theorem dX1_node_9 : decode cX1_node 9 = .ok (.aload_n 2, 1) := dk_44 (dk_at dksX1_node_0 9 rfl rfl)
theorem dX1_node_10 : decode cX1_node 10 = .ok (.ifnull 7, 3) := dk_198 0 7 (dk_at dksX1_node_0 10 rfl rfl)
theorem dX1_node_13 : decode cX1_node 13 = .ok (.iconst 1, 1) := dk_4 (dk_at dksX1_node_0 13 rfl rfl)
theorem dX1_node_14 : decode cX1_node 14 = .ok (.goto 4, 3) := dk_167 0 4 (dk_at dksX1_node_0 14 rfl rfl)
theorem dX1_node_17 : decode cX1_node 17 = .ok (.iconst 0, 1) := dk_3 (dk_at dksX1_node_0 17 rfl rfl)
theorem dX1_node_18 : decode cX1_node 18 = .ok (.invokestatic 192, 3) := dk_184 0 192 (dk_at dksX1_node_0 18 rfl rfl)
theorem dX1_node_21 : decode cX1_node 21 = .ok (.aload_n 2, 1) := dk_44 (dk_at dksX1_node_0 21 rfl rfl)
theorem dX1_node_22 : decode cX1_node 22 = .ok (.areturn, 1) := dk_176 (dk_at dksX1_node_0 22 rfl rfl)
abbrev cX1_entryCount : ByteArray := prog_1_method_53_code
def yX1_entryCount : MethodName := ⟨RX1, "entryCount", "(I)I"⟩
def dkwX1_entryCount_0 : List UInt8 := [42, 27, 182, 1, 42, 182, 1, 46, 172]
abbrev dktX1_entryCount_0 : List UInt8 := dkwX1_entryCount_0 ++ []
theorem dksX1_entryCount_0 : cX1_entryCount.data.toList.drop 0 = dktX1_entryCount_0 := by decide +kernel
theorem dX1_entryCount_0 : decode cX1_entryCount 0 = .ok (.aload_n 0, 1) := dk_42 (dk_at dksX1_entryCount_0 0 rfl rfl)
theorem dX1_entryCount_1 : decode cX1_entryCount 1 = .ok (.iload_n 1, 1) := dk_27 (dk_at dksX1_entryCount_0 1 rfl rfl)
theorem dX1_entryCount_2 : decode cX1_entryCount 2 = .ok (.invokevirtual 298, 3) := dk_182 1 42 (dk_at dksX1_entryCount_0 2 rfl rfl)
theorem dX1_entryCount_5 : decode cX1_entryCount 5 = .ok (.invokevirtual 302, 3) := dk_182 1 46 (dk_at dksX1_entryCount_0 5 rfl rfl)
theorem dX1_entryCount_8 : decode cX1_entryCount 8 = .ok (.ireturn, 1) := dk_172 (dk_at dksX1_entryCount_0 8 rfl rfl)
abbrev cX1_childOf : ByteArray := prog_1_method_54_code
def yX1_childOf : MethodName := ⟨RX1, "childOf", "(II)I"⟩
def dkwX1_childOf_0 : List UInt8 := [42, 27, 182, 1, 42, 28, 182, 1, 48, 78, 45, 199, 0, 7, 2, 167, 0, 7, 45, 180, 0, 250, 172]
abbrev dktX1_childOf_0 : List UInt8 := dkwX1_childOf_0 ++ []
theorem dksX1_childOf_0 : cX1_childOf.data.toList.drop 0 = dktX1_childOf_0 := by decide +kernel
theorem dX1_childOf_0 : decode cX1_childOf 0 = .ok (.aload_n 0, 1) := dk_42 (dk_at dksX1_childOf_0 0 rfl rfl)
theorem dX1_childOf_1 : decode cX1_childOf 1 = .ok (.iload_n 1, 1) := dk_27 (dk_at dksX1_childOf_0 1 rfl rfl)
theorem dX1_childOf_2 : decode cX1_childOf 2 = .ok (.invokevirtual 298, 3) := dk_182 1 42 (dk_at dksX1_childOf_0 2 rfl rfl)
theorem dX1_childOf_5 : decode cX1_childOf 5 = .ok (.iload_n 2, 1) := dk_28 (dk_at dksX1_childOf_0 5 rfl rfl)
theorem dX1_childOf_6 : decode cX1_childOf 6 = .ok (.invokevirtual 304, 3) := dk_182 1 48 (dk_at dksX1_childOf_0 6 rfl rfl)
theorem dX1_childOf_9 : decode cX1_childOf 9 = .ok (.astore_n 3, 1) := dk_78 (dk_at dksX1_childOf_0 9 rfl rfl)
theorem dX1_childOf_10 : decode cX1_childOf 10 = .ok (.aload_n 3, 1) := dk_45 (dk_at dksX1_childOf_0 10 rfl rfl)
theorem dX1_childOf_11 : decode cX1_childOf 11 = .ok (.ifnonnull 7, 3) := dk_199 0 7 (dk_at dksX1_childOf_0 11 rfl rfl)
theorem dX1_childOf_14 : decode cX1_childOf 14 = .ok (.iconst (-1), 1) := dk_2 (dk_at dksX1_childOf_0 14 rfl rfl)
theorem dX1_childOf_15 : decode cX1_childOf 15 = .ok (.goto 7, 3) := dk_167 0 7 (dk_at dksX1_childOf_0 15 rfl rfl)
theorem dX1_childOf_18 : decode cX1_childOf 18 = .ok (.aload_n 3, 1) := dk_45 (dk_at dksX1_childOf_0 18 rfl rfl)
theorem dX1_childOf_19 : decode cX1_childOf 19 = .ok (.getfield 250, 3) := dk_180 0 250 (dk_at dksX1_childOf_0 19 rfl rfl)
theorem dX1_childOf_22 : decode cX1_childOf 22 = .ok (.ireturn, 1) := dk_172 (dk_at dksX1_childOf_0 22 rfl rfl)
abbrev cX1_referencesTo : ByteArray := prog_1_method_55_code
def yX1_referencesTo : MethodName := ⟨RX1, "referencesTo", "(I)I"⟩
def dkwX1_referencesTo_0 : List UInt8 := [42, 180, 0, 58, 42, 27, 182, 1, 42, 182, 1, 51, 172]
abbrev dktX1_referencesTo_0 : List UInt8 := dkwX1_referencesTo_0 ++ []
theorem dksX1_referencesTo_0 : cX1_referencesTo.data.toList.drop 0 = dktX1_referencesTo_0 := by decide +kernel
theorem dX1_referencesTo_0 : decode cX1_referencesTo 0 = .ok (.aload_n 0, 1) := dk_42 (dk_at dksX1_referencesTo_0 0 rfl rfl)
theorem dX1_referencesTo_1 : decode cX1_referencesTo 1 = .ok (.getfield 58, 3) := dk_180 0 58 (dk_at dksX1_referencesTo_0 1 rfl rfl)
theorem dX1_referencesTo_4 : decode cX1_referencesTo 4 = .ok (.aload_n 0, 1) := dk_42 (dk_at dksX1_referencesTo_0 4 rfl rfl)
theorem dX1_referencesTo_5 : decode cX1_referencesTo 5 = .ok (.iload_n 1, 1) := dk_27 (dk_at dksX1_referencesTo_0 5 rfl rfl)
theorem dX1_referencesTo_6 : decode cX1_referencesTo 6 = .ok (.invokevirtual 298, 3) := dk_182 1 42 (dk_at dksX1_referencesTo_0 6 rfl rfl)
theorem dX1_referencesTo_9 : decode cX1_referencesTo 9 = .ok (.invokevirtual 307, 3) := dk_182 1 51 (dk_at dksX1_referencesTo_0 9 rfl rfl)
theorem dX1_referencesTo_12 : decode cX1_referencesTo 12 = .ok (.ireturn, 1) := dk_172 (dk_at dksX1_referencesTo_0 12 rfl rfl)
abbrev cX1_differences : ByteArray := prog_1_method_56_code
def yX1_differences : MethodName := ⟨RX1, "differences", "(II)I"⟩
def dkwX1_differences_1 : List UInt8 := [182, 0, 142, 182, 1, 55, 172]
abbrev dktX1_differences_1 : List UInt8 := dkwX1_differences_1 ++ []
def dkwX1_differences_0 : List UInt8 := [42, 27, 28, 182, 1, 32, 42, 180, 0, 58, 42, 180, 0, 58, 27, 182, 0, 142, 42, 180, 0, 58, 28]
abbrev dktX1_differences_0 : List UInt8 := dkwX1_differences_0 ++ dktX1_differences_1
theorem dksX1_differences_0 : cX1_differences.data.toList.drop 0 = dktX1_differences_0 := by decide +kernel
theorem dksX1_differences_1 : cX1_differences.data.toList.drop 23 = dktX1_differences_1 := dk_seg dksX1_differences_0 23 rfl rfl
theorem dX1_differences_0 : decode cX1_differences 0 = .ok (.aload_n 0, 1) := dk_42 (dk_at dksX1_differences_0 0 rfl rfl)
theorem dX1_differences_1 : decode cX1_differences 1 = .ok (.iload_n 1, 1) := dk_27 (dk_at dksX1_differences_0 1 rfl rfl)
theorem dX1_differences_2 : decode cX1_differences 2 = .ok (.iload_n 2, 1) := dk_28 (dk_at dksX1_differences_0 2 rfl rfl)
theorem dX1_differences_3 : decode cX1_differences 3 = .ok (.invokevirtual 288, 3) := dk_182 1 32 (dk_at dksX1_differences_0 3 rfl rfl)
theorem dX1_differences_6 : decode cX1_differences 6 = .ok (.aload_n 0, 1) := dk_42 (dk_at dksX1_differences_0 6 rfl rfl)
theorem dX1_differences_7 : decode cX1_differences 7 = .ok (.getfield 58, 3) := dk_180 0 58 (dk_at dksX1_differences_0 7 rfl rfl)
theorem dX1_differences_10 : decode cX1_differences 10 = .ok (.aload_n 0, 1) := dk_42 (dk_at dksX1_differences_0 10 rfl rfl)
theorem dX1_differences_11 : decode cX1_differences 11 = .ok (.getfield 58, 3) := dk_180 0 58 (dk_at dksX1_differences_0 11 rfl rfl)
theorem dX1_differences_14 : decode cX1_differences 14 = .ok (.iload_n 1, 1) := dk_27 (dk_at dksX1_differences_0 14 rfl rfl)
theorem dX1_differences_15 : decode cX1_differences 15 = .ok (.invokevirtual 142, 3) := dk_182 0 142 (dk_at dksX1_differences_0 15 rfl rfl)
theorem dX1_differences_18 : decode cX1_differences 18 = .ok (.aload_n 0, 1) := dk_42 (dk_at dksX1_differences_0 18 rfl rfl)
theorem dX1_differences_19 : decode cX1_differences 19 = .ok (.getfield 58, 3) := dk_180 0 58 (dk_at dksX1_differences_0 19 rfl rfl)
theorem dX1_differences_22 : decode cX1_differences 22 = .ok (.iload_n 2, 1) := dk_28 (dk_at dksX1_differences_0 22 rfl rfl)
theorem dX1_differences_23 : decode cX1_differences 23 = .ok (.invokevirtual 142, 3) := dk_182 0 142 (dk_at dksX1_differences_1 0 rfl rfl)
theorem dX1_differences_26 : decode cX1_differences 26 = .ok (.invokevirtual 311, 3) := dk_182 1 55 (dk_at dksX1_differences_1 3 rfl rfl)
theorem dX1_differences_29 : decode cX1_differences 29 = .ok (.ireturn, 1) := dk_172 (dk_at dksX1_differences_1 6 rfl rfl)
abbrev cX1_firstDifference : ByteArray := prog_1_method_57_code
def yX1_firstDifference : MethodName := ⟨RX1, "firstDifference", "(II)I"⟩
def dkwX1_firstDifference_1 : List UInt8 := [182, 0, 142, 182, 1, 59, 172]
abbrev dktX1_firstDifference_1 : List UInt8 := dkwX1_firstDifference_1 ++ []
def dkwX1_firstDifference_0 : List UInt8 := [42, 27, 28, 182, 1, 32, 42, 180, 0, 58, 42, 180, 0, 58, 27, 182, 0, 142, 42, 180, 0, 58, 28]
abbrev dktX1_firstDifference_0 : List UInt8 := dkwX1_firstDifference_0 ++ dktX1_firstDifference_1
theorem dksX1_firstDifference_0 : cX1_firstDifference.data.toList.drop 0 = dktX1_firstDifference_0 := by decide +kernel
theorem dksX1_firstDifference_1 : cX1_firstDifference.data.toList.drop 23 = dktX1_firstDifference_1 := dk_seg dksX1_firstDifference_0 23 rfl rfl
theorem dX1_firstDifference_0 : decode cX1_firstDifference 0 = .ok (.aload_n 0, 1) := dk_42 (dk_at dksX1_firstDifference_0 0 rfl rfl)
theorem dX1_firstDifference_1 : decode cX1_firstDifference 1 = .ok (.iload_n 1, 1) := dk_27 (dk_at dksX1_firstDifference_0 1 rfl rfl)
theorem dX1_firstDifference_2 : decode cX1_firstDifference 2 = .ok (.iload_n 2, 1) := dk_28 (dk_at dksX1_firstDifference_0 2 rfl rfl)
theorem dX1_firstDifference_3 : decode cX1_firstDifference 3 = .ok (.invokevirtual 288, 3) := dk_182 1 32 (dk_at dksX1_firstDifference_0 3 rfl rfl)
theorem dX1_firstDifference_6 : decode cX1_firstDifference 6 = .ok (.aload_n 0, 1) := dk_42 (dk_at dksX1_firstDifference_0 6 rfl rfl)
theorem dX1_firstDifference_7 : decode cX1_firstDifference 7 = .ok (.getfield 58, 3) := dk_180 0 58 (dk_at dksX1_firstDifference_0 7 rfl rfl)
theorem dX1_firstDifference_10 : decode cX1_firstDifference 10 = .ok (.aload_n 0, 1) := dk_42 (dk_at dksX1_firstDifference_0 10 rfl rfl)
theorem dX1_firstDifference_11 : decode cX1_firstDifference 11 = .ok (.getfield 58, 3) := dk_180 0 58 (dk_at dksX1_firstDifference_0 11 rfl rfl)
theorem dX1_firstDifference_14 : decode cX1_firstDifference 14 = .ok (.iload_n 1, 1) := dk_27 (dk_at dksX1_firstDifference_0 14 rfl rfl)
theorem dX1_firstDifference_15 : decode cX1_firstDifference 15 = .ok (.invokevirtual 142, 3) := dk_182 0 142 (dk_at dksX1_firstDifference_0 15 rfl rfl)
theorem dX1_firstDifference_18 : decode cX1_firstDifference 18 = .ok (.aload_n 0, 1) := dk_42 (dk_at dksX1_firstDifference_0 18 rfl rfl)
theorem dX1_firstDifference_19 : decode cX1_firstDifference 19 = .ok (.getfield 58, 3) := dk_180 0 58 (dk_at dksX1_firstDifference_0 19 rfl rfl)
theorem dX1_firstDifference_22 : decode cX1_firstDifference 22 = .ok (.iload_n 2, 1) := dk_28 (dk_at dksX1_firstDifference_0 22 rfl rfl)
theorem dX1_firstDifference_23 : decode cX1_firstDifference 23 = .ok (.invokevirtual 142, 3) := dk_182 0 142 (dk_at dksX1_firstDifference_1 0 rfl rfl)
theorem dX1_firstDifference_26 : decode cX1_firstDifference 26 = .ok (.invokevirtual 315, 3) := dk_182 1 59 (dk_at dksX1_firstDifference_1 3 rfl rfl)
theorem dX1_firstDifference_29 : decode cX1_firstDifference 29 = .ok (.ireturn, 1) := dk_172 (dk_at dksX1_firstDifference_1 6 rfl rfl)
abbrev cX1_comparisonCost : ByteArray := prog_1_method_58_code
def yX1_comparisonCost : MethodName := ⟨RX1, "comparisonCost", "(II)I"⟩
def dkwX1_comparisonCost_2 : List UInt8 := [180, 1, 62, 182, 1, 66, 167, 0, 4, 2, 172]
abbrev dktX1_comparisonCost_2 : List UInt8 := dkwX1_comparisonCost_2 ++ []
def dkwX1_comparisonCost_1 : List UInt8 := [58, 4, 45, 180, 0, 231, 25, 4, 180, 0, 231, 160, 0, 22, 42, 180, 0, 58, 45, 180, 1, 62, 25, 4]
abbrev dktX1_comparisonCost_1 : List UInt8 := dkwX1_comparisonCost_1 ++ dktX1_comparisonCost_2
def dkwX1_comparisonCost_0 : List UInt8 := [42, 27, 28, 182, 1, 32, 42, 180, 0, 58, 27, 182, 0, 142, 78, 42, 180, 0, 58, 28, 182, 0, 142]
abbrev dktX1_comparisonCost_0 : List UInt8 := dkwX1_comparisonCost_0 ++ dktX1_comparisonCost_1
theorem dksX1_comparisonCost_0 : cX1_comparisonCost.data.toList.drop 0 = dktX1_comparisonCost_0 := by decide +kernel
theorem dksX1_comparisonCost_1 : cX1_comparisonCost.data.toList.drop 23 = dktX1_comparisonCost_1 := dk_seg dksX1_comparisonCost_0 23 rfl rfl
theorem dksX1_comparisonCost_2 : cX1_comparisonCost.data.toList.drop 47 = dktX1_comparisonCost_2 := dk_seg dksX1_comparisonCost_1 24 rfl rfl
theorem dX1_comparisonCost_0 : decode cX1_comparisonCost 0 = .ok (.aload_n 0, 1) := dk_42 (dk_at dksX1_comparisonCost_0 0 rfl rfl)
theorem dX1_comparisonCost_1 : decode cX1_comparisonCost 1 = .ok (.iload_n 1, 1) := dk_27 (dk_at dksX1_comparisonCost_0 1 rfl rfl)
theorem dX1_comparisonCost_2 : decode cX1_comparisonCost 2 = .ok (.iload_n 2, 1) := dk_28 (dk_at dksX1_comparisonCost_0 2 rfl rfl)
theorem dX1_comparisonCost_3 : decode cX1_comparisonCost 3 = .ok (.invokevirtual 288, 3) := dk_182 1 32 (dk_at dksX1_comparisonCost_0 3 rfl rfl)
theorem dX1_comparisonCost_6 : decode cX1_comparisonCost 6 = .ok (.aload_n 0, 1) := dk_42 (dk_at dksX1_comparisonCost_0 6 rfl rfl)
theorem dX1_comparisonCost_7 : decode cX1_comparisonCost 7 = .ok (.getfield 58, 3) := dk_180 0 58 (dk_at dksX1_comparisonCost_0 7 rfl rfl)
theorem dX1_comparisonCost_10 : decode cX1_comparisonCost 10 = .ok (.iload_n 1, 1) := dk_27 (dk_at dksX1_comparisonCost_0 10 rfl rfl)
theorem dX1_comparisonCost_11 : decode cX1_comparisonCost 11 = .ok (.invokevirtual 142, 3) := dk_182 0 142 (dk_at dksX1_comparisonCost_0 11 rfl rfl)
theorem dX1_comparisonCost_14 : decode cX1_comparisonCost 14 = .ok (.astore_n 3, 1) := dk_78 (dk_at dksX1_comparisonCost_0 14 rfl rfl)
theorem dX1_comparisonCost_15 : decode cX1_comparisonCost 15 = .ok (.aload_n 0, 1) := dk_42 (dk_at dksX1_comparisonCost_0 15 rfl rfl)
theorem dX1_comparisonCost_16 : decode cX1_comparisonCost 16 = .ok (.getfield 58, 3) := dk_180 0 58 (dk_at dksX1_comparisonCost_0 16 rfl rfl)
theorem dX1_comparisonCost_19 : decode cX1_comparisonCost 19 = .ok (.iload_n 2, 1) := dk_28 (dk_at dksX1_comparisonCost_0 19 rfl rfl)
theorem dX1_comparisonCost_20 : decode cX1_comparisonCost 20 = .ok (.invokevirtual 142, 3) := dk_182 0 142 (dk_at dksX1_comparisonCost_0 20 rfl rfl)
theorem dX1_comparisonCost_23 : decode cX1_comparisonCost 23 = .ok (.astore 4, 2) := dk_58 4 (dk_at dksX1_comparisonCost_1 0 rfl rfl)
theorem dX1_comparisonCost_25 : decode cX1_comparisonCost 25 = .ok (.aload_n 3, 1) := dk_45 (dk_at dksX1_comparisonCost_1 2 rfl rfl)
theorem dX1_comparisonCost_26 : decode cX1_comparisonCost 26 = .ok (.getfield 231, 3) := dk_180 0 231 (dk_at dksX1_comparisonCost_1 3 rfl rfl)
theorem dX1_comparisonCost_29 : decode cX1_comparisonCost 29 = .ok (.aload 4, 2) := dk_25 4 (dk_at dksX1_comparisonCost_1 6 rfl rfl)
theorem dX1_comparisonCost_31 : decode cX1_comparisonCost 31 = .ok (.getfield 231, 3) := dk_180 0 231 (dk_at dksX1_comparisonCost_1 8 rfl rfl)
theorem dX1_comparisonCost_34 : decode cX1_comparisonCost 34 = .ok (.if_icmp .ne 22, 3) := dk_160 0 22 (dk_at dksX1_comparisonCost_1 11 rfl rfl)
theorem dX1_comparisonCost_37 : decode cX1_comparisonCost 37 = .ok (.aload_n 0, 1) := dk_42 (dk_at dksX1_comparisonCost_1 14 rfl rfl)
theorem dX1_comparisonCost_38 : decode cX1_comparisonCost 38 = .ok (.getfield 58, 3) := dk_180 0 58 (dk_at dksX1_comparisonCost_1 15 rfl rfl)
theorem dX1_comparisonCost_41 : decode cX1_comparisonCost 41 = .ok (.aload_n 3, 1) := dk_45 (dk_at dksX1_comparisonCost_1 18 rfl rfl)
theorem dX1_comparisonCost_42 : decode cX1_comparisonCost 42 = .ok (.getfield 318, 3) := dk_180 1 62 (dk_at dksX1_comparisonCost_1 19 rfl rfl)
theorem dX1_comparisonCost_45 : decode cX1_comparisonCost 45 = .ok (.aload 4, 2) := dk_25 4 (dk_at dksX1_comparisonCost_1 22 rfl rfl)
theorem dX1_comparisonCost_47 : decode cX1_comparisonCost 47 = .ok (.getfield 318, 3) := dk_180 1 62 (dk_at dksX1_comparisonCost_2 0 rfl rfl)
theorem dX1_comparisonCost_50 : decode cX1_comparisonCost 50 = .ok (.invokevirtual 322, 3) := dk_182 1 66 (dk_at dksX1_comparisonCost_2 3 rfl rfl)
theorem dX1_comparisonCost_53 : decode cX1_comparisonCost 53 = .ok (.goto 4, 3) := dk_167 0 4 (dk_at dksX1_comparisonCost_2 6 rfl rfl)
theorem dX1_comparisonCost_56 : decode cX1_comparisonCost 56 = .ok (.iconst (-1), 1) := dk_2 (dk_at dksX1_comparisonCost_2 9 rfl rfl)
theorem dX1_comparisonCost_57 : decode cX1_comparisonCost 57 = .ok (.ireturn, 1) := dk_172 (dk_at dksX1_comparisonCost_2 10 rfl rfl)
abbrev cX1_nodesForSet : ByteArray := prog_1_method_60_code
def yX1_nodesForSet : MethodName := ⟨RX1, "nodesForSet", "(III)I"⟩
def dkwX1_nodesForSet_1 : List UInt8 := [182, 0, 241, 192, 0, 80, 182, 0, 244, 29, 160, 0, 7, 3, 167, 0, 8, 25, 5, 180, 0, 231, 172]
abbrev dktX1_nodesForSet_1 : List UInt8 := dkwX1_nodesForSet_1 ++ []
def dkwX1_nodesForSet_0 : List UInt8 := [42, 27, 28, 182, 0, 237, 58, 4, 29, 184, 1, 73, 42, 27, 182, 0, 230, 58, 5, 25, 5, 28]
abbrev dktX1_nodesForSet_0 : List UInt8 := dkwX1_nodesForSet_0 ++ dktX1_nodesForSet_1
theorem dksX1_nodesForSet_0 : cX1_nodesForSet.data.toList.drop 0 = dktX1_nodesForSet_0 := by decide +kernel
theorem dksX1_nodesForSet_1 : cX1_nodesForSet.data.toList.drop 22 = dktX1_nodesForSet_1 := dk_seg dksX1_nodesForSet_0 22 rfl rfl
theorem dX1_nodesForSet_0 : decode cX1_nodesForSet 0 = .ok (.aload_n 0, 1) := dk_42 (dk_at dksX1_nodesForSet_0 0 rfl rfl)
theorem dX1_nodesForSet_1 : decode cX1_nodesForSet 1 = .ok (.iload_n 1, 1) := dk_27 (dk_at dksX1_nodesForSet_0 1 rfl rfl)
theorem dX1_nodesForSet_2 : decode cX1_nodesForSet 2 = .ok (.iload_n 2, 1) := dk_28 (dk_at dksX1_nodesForSet_0 2 rfl rfl)
theorem dX1_nodesForSet_3 : decode cX1_nodesForSet 3 = .ok (.invokevirtual 237, 3) := dk_182 0 237 (dk_at dksX1_nodesForSet_0 3 rfl rfl)
theorem dX1_nodesForSet_6 : decode cX1_nodesForSet 6 = .ok (.astore 4, 2) := dk_58 4 (dk_at dksX1_nodesForSet_0 6 rfl rfl)
theorem dX1_nodesForSet_8 : decode cX1_nodesForSet 8 = .ok (.iload_n 3, 1) := dk_29 (dk_at dksX1_nodesForSet_0 8 rfl rfl)
theorem dX1_nodesForSet_9 : decode cX1_nodesForSet 9 = .ok (.invokestatic 329, 3) := dk_184 1 73 (dk_at dksX1_nodesForSet_0 9 rfl rfl)
theorem dX1_nodesForSet_12 : decode cX1_nodesForSet 12 = .ok (.aload_n 0, 1) := dk_42 (dk_at dksX1_nodesForSet_0 12 rfl rfl)
theorem dX1_nodesForSet_13 : decode cX1_nodesForSet 13 = .ok (.iload_n 1, 1) := dk_27 (dk_at dksX1_nodesForSet_0 13 rfl rfl)
theorem dX1_nodesForSet_14 : decode cX1_nodesForSet 14 = .ok (.invokevirtual 230, 3) := dk_182 0 230 (dk_at dksX1_nodesForSet_0 14 rfl rfl)
theorem dX1_nodesForSet_17 : decode cX1_nodesForSet 17 = .ok (.astore 5, 2) := dk_58 5 (dk_at dksX1_nodesForSet_0 17 rfl rfl)
theorem dX1_nodesForSet_19 : decode cX1_nodesForSet 19 = .ok (.aload 5, 2) := dk_25 5 (dk_at dksX1_nodesForSet_0 19 rfl rfl)
theorem dX1_nodesForSet_21 : decode cX1_nodesForSet 21 = .ok (.iload_n 2, 1) := dk_28 (dk_at dksX1_nodesForSet_0 21 rfl rfl)
theorem dX1_nodesForSet_22 : decode cX1_nodesForSet 22 = .ok (.invokevirtual 241, 3) := dk_182 0 241 (dk_at dksX1_nodesForSet_1 0 rfl rfl)
theorem dX1_nodesForSet_25 : decode cX1_nodesForSet 25 = .ok (.checkcast 80, 3) := dk_192 0 80 (dk_at dksX1_nodesForSet_1 3 rfl rfl)
theorem dX1_nodesForSet_28 : decode cX1_nodesForSet 28 = .ok (.invokevirtual 244, 3) := dk_182 0 244 (dk_at dksX1_nodesForSet_1 6 rfl rfl)
theorem dX1_nodesForSet_31 : decode cX1_nodesForSet 31 = .ok (.iload_n 3, 1) := dk_29 (dk_at dksX1_nodesForSet_1 9 rfl rfl)
theorem dX1_nodesForSet_32 : decode cX1_nodesForSet 32 = .ok (.if_icmp .ne 7, 3) := dk_160 0 7 (dk_at dksX1_nodesForSet_1 10 rfl rfl)
theorem dX1_nodesForSet_35 : decode cX1_nodesForSet 35 = .ok (.iconst 0, 1) := dk_3 (dk_at dksX1_nodesForSet_1 13 rfl rfl)
theorem dX1_nodesForSet_36 : decode cX1_nodesForSet 36 = .ok (.goto 8, 3) := dk_167 0 8 (dk_at dksX1_nodesForSet_1 14 rfl rfl)
theorem dX1_nodesForSet_39 : decode cX1_nodesForSet 39 = .ok (.aload 5, 2) := dk_25 5 (dk_at dksX1_nodesForSet_1 17 rfl rfl)
theorem dX1_nodesForSet_41 : decode cX1_nodesForSet 41 = .ok (.getfield 231, 3) := dk_180 0 231 (dk_at dksX1_nodesForSet_1 19 rfl rfl)
theorem dX1_nodesForSet_44 : decode cX1_nodesForSet 44 = .ok (.ireturn, 1) := dk_172 (dk_at dksX1_nodesForSet_1 22 rfl rfl)
abbrev cX1_checkValue : ByteArray := prog_1_method_59_code
def yX1_checkValue : MethodName := ⟨RX1, "checkValue", "(I)V"⟩
def dkwX1_checkValue_0 : List UInt8 := [26, 17, 252, 25, 17, 3, 231, 184, 0, 105, 184, 1, 70, 177]
abbrev dktX1_checkValue_0 : List UInt8 := dkwX1_checkValue_0 ++ []
theorem dksX1_checkValue_0 : cX1_checkValue.data.toList.drop 0 = dktX1_checkValue_0 := by decide +kernel
theorem dX1_checkValue_0 : decode cX1_checkValue 0 = .ok (.iload_n 0, 1) := dk_26 (dk_at dksX1_checkValue_0 0 rfl rfl)
theorem dX1_checkValue_1 : decode cX1_checkValue 1 = .ok (.sipush (-999), 3) := dk_17 252 25 (dk_at dksX1_checkValue_0 1 rfl rfl)
theorem dX1_checkValue_4 : decode cX1_checkValue 4 = .ok (.sipush 999, 3) := dk_17 3 231 (dk_at dksX1_checkValue_0 4 rfl rfl)
theorem dX1_checkValue_7 : decode cX1_checkValue 7 = .ok (.invokestatic 105, 3) := dk_184 0 105 (dk_at dksX1_checkValue_0 7 rfl rfl)
theorem dX1_checkValue_10 : decode cX1_checkValue 10 = .ok (.invokestatic 326, 3) := dk_184 1 70 (dk_at dksX1_checkValue_0 10 rfl rfl)
theorem dX1_checkValue_13 : decode cX1_checkValue 13 = .ok (.return_, 1) := dk_177 (dk_at dksX1_checkValue_0 13 rfl rfl)
abbrev cX1_checkArgument : ByteArray := prog_1_method_2_code
def yX1_checkArgument : MethodName := ⟨RX1, "checkArgument", "(Z)V"⟩
def dkwX1_checkArgument_0 : List UInt8 := [26, 154, 0, 11, 187, 0, 1, 89, 183, 0, 3, 191, 177]
abbrev dktX1_checkArgument_0 : List UInt8 := dkwX1_checkArgument_0 ++ []
theorem dksX1_checkArgument_0 : cX1_checkArgument.data.toList.drop 0 = dktX1_checkArgument_0 := by decide +kernel
theorem dX1_checkArgument_0 : decode cX1_checkArgument 0 = .ok (.iload_n 0, 1) := dk_26 (dk_at dksX1_checkArgument_0 0 rfl rfl)
theorem dX1_checkArgument_1 : decode cX1_checkArgument 1 = .ok (.ifCond .ne 11, 3) := dk_154 0 11 (dk_at dksX1_checkArgument_0 1 rfl rfl)
theorem dX1_checkArgument_4 : decode cX1_checkArgument 4 = .ok (.new 1, 3) := dk_187 0 1 (dk_at dksX1_checkArgument_0 4 rfl rfl)
theorem dX1_checkArgument_7 : decode cX1_checkArgument 7 = .ok (.dup, 1) := dk_89 (dk_at dksX1_checkArgument_0 7 rfl rfl)
theorem dX1_checkArgument_8 : decode cX1_checkArgument 8 = .ok (.invokespecial 3, 3) := dk_183 0 3 (dk_at dksX1_checkArgument_0 8 rfl rfl)
theorem dX1_checkArgument_11 : decode cX1_checkArgument 11 = .ok (.athrow, 1) := dk_191 (dk_at dksX1_checkArgument_0 11 rfl rfl)
theorem dX1_checkArgument_12 : decode cX1_checkArgument 12 = .ok (.return_, 1) := dk_177 (dk_at dksX1_checkArgument_0 12 rfl rfl)
abbrev cX1_nodesForAppend : ByteArray := prog_1_method_61_code
def yX1_nodesForAppend : MethodName := ⟨RX1, "nodesForAppend", "(I)I"⟩
def dkwX1_nodesForAppend_1 : List UInt8 := [96, 184, 1, 76, 172]
abbrev dktX1_nodesForAppend_1 : List UInt8 := dkwX1_nodesForAppend_1 ++ []
def dkwX1_nodesForAppend_0 : List UInt8 := [42, 27, 182, 0, 230, 77, 44, 180, 0, 146, 16, 64, 160, 0, 7, 2, 167, 0, 12, 44, 180, 0, 146, 4]
abbrev dktX1_nodesForAppend_0 : List UInt8 := dkwX1_nodesForAppend_0 ++ dktX1_nodesForAppend_1
theorem dksX1_nodesForAppend_0 : cX1_nodesForAppend.data.toList.drop 0 = dktX1_nodesForAppend_0 := by decide +kernel
theorem dksX1_nodesForAppend_1 : cX1_nodesForAppend.data.toList.drop 24 = dktX1_nodesForAppend_1 := dk_seg dksX1_nodesForAppend_0 24 rfl rfl
theorem dX1_nodesForAppend_0 : decode cX1_nodesForAppend 0 = .ok (.aload_n 0, 1) := dk_42 (dk_at dksX1_nodesForAppend_0 0 rfl rfl)
theorem dX1_nodesForAppend_1 : decode cX1_nodesForAppend 1 = .ok (.iload_n 1, 1) := dk_27 (dk_at dksX1_nodesForAppend_0 1 rfl rfl)
theorem dX1_nodesForAppend_2 : decode cX1_nodesForAppend 2 = .ok (.invokevirtual 230, 3) := dk_182 0 230 (dk_at dksX1_nodesForAppend_0 2 rfl rfl)
theorem dX1_nodesForAppend_5 : decode cX1_nodesForAppend 5 = .ok (.astore_n 2, 1) := dk_77 (dk_at dksX1_nodesForAppend_0 5 rfl rfl)
theorem dX1_nodesForAppend_6 : decode cX1_nodesForAppend 6 = .ok (.aload_n 2, 1) := dk_44 (dk_at dksX1_nodesForAppend_0 6 rfl rfl)
theorem dX1_nodesForAppend_7 : decode cX1_nodesForAppend 7 = .ok (.getfield 146, 3) := dk_180 0 146 (dk_at dksX1_nodesForAppend_0 7 rfl rfl)
theorem dX1_nodesForAppend_10 : decode cX1_nodesForAppend 10 = .ok (.bipush 64, 2) := dk_16 64 (dk_at dksX1_nodesForAppend_0 10 rfl rfl)
theorem dX1_nodesForAppend_12 : decode cX1_nodesForAppend 12 = .ok (.if_icmp .ne 7, 3) := dk_160 0 7 (dk_at dksX1_nodesForAppend_0 12 rfl rfl)
theorem dX1_nodesForAppend_15 : decode cX1_nodesForAppend 15 = .ok (.iconst (-1), 1) := dk_2 (dk_at dksX1_nodesForAppend_0 15 rfl rfl)
theorem dX1_nodesForAppend_16 : decode cX1_nodesForAppend 16 = .ok (.goto 12, 3) := dk_167 0 12 (dk_at dksX1_nodesForAppend_0 16 rfl rfl)
theorem dX1_nodesForAppend_19 : decode cX1_nodesForAppend 19 = .ok (.aload_n 2, 1) := dk_44 (dk_at dksX1_nodesForAppend_0 19 rfl rfl)
theorem dX1_nodesForAppend_20 : decode cX1_nodesForAppend 20 = .ok (.getfield 146, 3) := dk_180 0 146 (dk_at dksX1_nodesForAppend_0 20 rfl rfl)
theorem dX1_nodesForAppend_23 : decode cX1_nodesForAppend 23 = .ok (.iconst 1, 1) := dk_4 (dk_at dksX1_nodesForAppend_0 23 rfl rfl)
theorem dX1_nodesForAppend_24 : decode cX1_nodesForAppend 24 = .ok (.iadd, 1) := dk_96 (dk_at dksX1_nodesForAppend_1 0 rfl rfl)
theorem dX1_nodesForAppend_25 : decode cX1_nodesForAppend 25 = .ok (.invokestatic 332, 3) := dk_184 1 76 (dk_at dksX1_nodesForAppend_1 1 rfl rfl)
theorem dX1_nodesForAppend_28 : decode cX1_nodesForAppend 28 = .ok (.ireturn, 1) := dk_172 (dk_at dksX1_nodesForAppend_1 4 rfl rfl)
abbrev cX1_garbageIfReleased : ByteArray := prog_1_method_62_code
def yX1_garbageIfReleased : MethodName := ⟨RX1, "garbageIfReleased", "(I)I"⟩
def dkwX1_garbageIfReleased_0 : List UInt8 := [42, 27, 182, 0, 230, 77, 42, 180, 0, 58, 27, 182, 1, 79, 172]
abbrev dktX1_garbageIfReleased_0 : List UInt8 := dkwX1_garbageIfReleased_0 ++ []
theorem dksX1_garbageIfReleased_0 : cX1_garbageIfReleased.data.toList.drop 0 = dktX1_garbageIfReleased_0 := by decide +kernel
theorem dX1_garbageIfReleased_0 : decode cX1_garbageIfReleased 0 = .ok (.aload_n 0, 1) := dk_42 (dk_at dksX1_garbageIfReleased_0 0 rfl rfl)
theorem dX1_garbageIfReleased_1 : decode cX1_garbageIfReleased 1 = .ok (.iload_n 1, 1) := dk_27 (dk_at dksX1_garbageIfReleased_0 1 rfl rfl)
theorem dX1_garbageIfReleased_2 : decode cX1_garbageIfReleased 2 = .ok (.invokevirtual 230, 3) := dk_182 0 230 (dk_at dksX1_garbageIfReleased_0 2 rfl rfl)
theorem dX1_garbageIfReleased_5 : decode cX1_garbageIfReleased 5 = .ok (.astore_n 2, 1) := dk_77 (dk_at dksX1_garbageIfReleased_0 5 rfl rfl)
theorem dX1_garbageIfReleased_6 : decode cX1_garbageIfReleased 6 = .ok (.aload_n 0, 1) := dk_42 (dk_at dksX1_garbageIfReleased_0 6 rfl rfl)
theorem dX1_garbageIfReleased_7 : decode cX1_garbageIfReleased 7 = .ok (.getfield 58, 3) := dk_180 0 58 (dk_at dksX1_garbageIfReleased_0 7 rfl rfl)
theorem dX1_garbageIfReleased_10 : decode cX1_garbageIfReleased 10 = .ok (.iload_n 1, 1) := dk_27 (dk_at dksX1_garbageIfReleased_0 10 rfl rfl)
theorem dX1_garbageIfReleased_11 : decode cX1_garbageIfReleased 11 = .ok (.invokevirtual 335, 3) := dk_182 1 79 (dk_at dksX1_garbageIfReleased_0 11 rfl rfl)
theorem dX1_garbageIfReleased_14 : decode cX1_garbageIfReleased 14 = .ok (.ireturn, 1) := dk_172 (dk_at dksX1_garbageIfReleased_0 14 rfl rfl)
abbrev cX1_set : ByteArray := prog_1_method_68_code
def yX1_set : MethodName := ⟨RX1, "set", "(III)I"⟩
def dkwX1_set_0 : List UInt8 := [42, 27, 28, 182, 0, 237, 58, 4, 29, 184, 1, 73, 42, 27, 28, 29, 184, 1, 88, 182, 1, 92, 172]
abbrev dktX1_set_0 : List UInt8 := dkwX1_set_0 ++ []
theorem dksX1_set_0 : cX1_set.data.toList.drop 0 = dktX1_set_0 := by decide +kernel
theorem dX1_set_0 : decode cX1_set 0 = .ok (.aload_n 0, 1) := dk_42 (dk_at dksX1_set_0 0 rfl rfl)
theorem dX1_set_1 : decode cX1_set 1 = .ok (.iload_n 1, 1) := dk_27 (dk_at dksX1_set_0 1 rfl rfl)
theorem dX1_set_2 : decode cX1_set 2 = .ok (.iload_n 2, 1) := dk_28 (dk_at dksX1_set_0 2 rfl rfl)
theorem dX1_set_3 : decode cX1_set 3 = .ok (.invokevirtual 237, 3) := dk_182 0 237 (dk_at dksX1_set_0 3 rfl rfl)
theorem dX1_set_6 : decode cX1_set 6 = .ok (.astore 4, 2) := dk_58 4 (dk_at dksX1_set_0 6 rfl rfl)
theorem dX1_set_8 : decode cX1_set 8 = .ok (.iload_n 3, 1) := dk_29 (dk_at dksX1_set_0 8 rfl rfl)
theorem dX1_set_9 : decode cX1_set 9 = .ok (.invokestatic 329, 3) := dk_184 1 73 (dk_at dksX1_set_0 9 rfl rfl)
theorem dX1_set_12 : decode cX1_set 12 = .ok (.aload_n 0, 1) := dk_42 (dk_at dksX1_set_0 12 rfl rfl)
theorem dX1_set_13 : decode cX1_set 13 = .ok (.iload_n 1, 1) := dk_27 (dk_at dksX1_set_0 13 rfl rfl)
theorem dX1_set_14 : decode cX1_set 14 = .ok (.iload_n 2, 1) := dk_28 (dk_at dksX1_set_0 14 rfl rfl)
theorem dX1_set_15 : decode cX1_set 15 = .ok (.iload_n 3, 1) := dk_29 (dk_at dksX1_set_0 15 rfl rfl)
theorem dX1_set_16 : decode cX1_set 16 = .ok (.invokestatic 344, 3) := dk_184 1 88 (dk_at dksX1_set_0 16 rfl rfl)
theorem dX1_set_19 : decode cX1_set 19 = .ok (.invokevirtual 348, 3) := dk_182 1 92 (dk_at dksX1_set_0 19 rfl rfl)
theorem dX1_set_22 : decode cX1_set 22 = .ok (.ireturn, 1) := dk_172 (dk_at dksX1_set_0 22 rfl rfl)
abbrev cX1_append_2 : ByteArray := prog_1_method_69_code
def yX1_append_2 : MethodName := ⟨RX1, "append", "(II)I"⟩
def dkwX1_append_2_0 : List UInt8 := [42, 27, 182, 0, 200, 78, 28, 184, 1, 73, 42, 27, 28, 184, 1, 96, 182, 1, 92, 172]
abbrev dktX1_append_2_0 : List UInt8 := dkwX1_append_2_0 ++ []
theorem dksX1_append_2_0 : cX1_append_2.data.toList.drop 0 = dktX1_append_2_0 := by decide +kernel
theorem dX1_append_2_0 : decode cX1_append_2 0 = .ok (.aload_n 0, 1) := dk_42 (dk_at dksX1_append_2_0 0 rfl rfl)
theorem dX1_append_2_1 : decode cX1_append_2 1 = .ok (.iload_n 1, 1) := dk_27 (dk_at dksX1_append_2_0 1 rfl rfl)
theorem dX1_append_2_2 : decode cX1_append_2 2 = .ok (.invokevirtual 200, 3) := dk_182 0 200 (dk_at dksX1_append_2_0 2 rfl rfl)
theorem dX1_append_2_5 : decode cX1_append_2 5 = .ok (.astore_n 3, 1) := dk_78 (dk_at dksX1_append_2_0 5 rfl rfl)
theorem dX1_append_2_6 : decode cX1_append_2 6 = .ok (.iload_n 2, 1) := dk_28 (dk_at dksX1_append_2_0 6 rfl rfl)
theorem dX1_append_2_7 : decode cX1_append_2 7 = .ok (.invokestatic 329, 3) := dk_184 1 73 (dk_at dksX1_append_2_0 7 rfl rfl)
theorem dX1_append_2_10 : decode cX1_append_2 10 = .ok (.aload_n 0, 1) := dk_42 (dk_at dksX1_append_2_0 10 rfl rfl)
theorem dX1_append_2_11 : decode cX1_append_2 11 = .ok (.iload_n 1, 1) := dk_27 (dk_at dksX1_append_2_0 11 rfl rfl)
theorem dX1_append_2_12 : decode cX1_append_2 12 = .ok (.iload_n 2, 1) := dk_28 (dk_at dksX1_append_2_0 12 rfl rfl)
theorem dX1_append_2_13 : decode cX1_append_2 13 = .ok (.invokestatic 352, 3) := dk_184 1 96 (dk_at dksX1_append_2_0 13 rfl rfl)
theorem dX1_append_2_16 : decode cX1_append_2 16 = .ok (.invokevirtual 348, 3) := dk_182 1 92 (dk_at dksX1_append_2_0 16 rfl rfl)
theorem dX1_append_2_19 : decode cX1_append_2 19 = .ok (.ireturn, 1) := dk_172 (dk_at dksX1_append_2_0 19 rfl rfl)
abbrev cX1_truncate : ByteArray := prog_1_method_70_code
def yX1_truncate : MethodName := ⟨RX1, "truncate", "(II)I"⟩
def dkwX1_truncate_1 : List UInt8 := [180, 0, 146, 163, 0, 7, 4, 167, 0, 4, 3, 184, 1, 70, 42, 27, 28, 184, 1, 100, 182, 1, 92, 172]
abbrev dktX1_truncate_1 : List UInt8 := dkwX1_truncate_1 ++ []
def dkwX1_truncate_0 : List UInt8 := [42, 27, 182, 0, 200, 78, 28, 155, 0, 25, 45, 180, 0, 201, 154, 0, 14, 28, 45, 180, 0, 210]
abbrev dktX1_truncate_0 : List UInt8 := dkwX1_truncate_0 ++ dktX1_truncate_1
theorem dksX1_truncate_0 : cX1_truncate.data.toList.drop 0 = dktX1_truncate_0 := by decide +kernel
theorem dksX1_truncate_1 : cX1_truncate.data.toList.drop 22 = dktX1_truncate_1 := dk_seg dksX1_truncate_0 22 rfl rfl
theorem dX1_truncate_0 : decode cX1_truncate 0 = .ok (.aload_n 0, 1) := dk_42 (dk_at dksX1_truncate_0 0 rfl rfl)
theorem dX1_truncate_1 : decode cX1_truncate 1 = .ok (.iload_n 1, 1) := dk_27 (dk_at dksX1_truncate_0 1 rfl rfl)
theorem dX1_truncate_2 : decode cX1_truncate 2 = .ok (.invokevirtual 200, 3) := dk_182 0 200 (dk_at dksX1_truncate_0 2 rfl rfl)
theorem dX1_truncate_5 : decode cX1_truncate 5 = .ok (.astore_n 3, 1) := dk_78 (dk_at dksX1_truncate_0 5 rfl rfl)
theorem dX1_truncate_6 : decode cX1_truncate 6 = .ok (.iload_n 2, 1) := dk_28 (dk_at dksX1_truncate_0 6 rfl rfl)
theorem dX1_truncate_7 : decode cX1_truncate 7 = .ok (.ifCond .lt 25, 3) := dk_155 0 25 (dk_at dksX1_truncate_0 7 rfl rfl)
theorem dX1_truncate_10 : decode cX1_truncate 10 = .ok (.aload_n 3, 1) := dk_45 (dk_at dksX1_truncate_0 10 rfl rfl)
theorem dX1_truncate_11 : decode cX1_truncate 11 = .ok (.getfield 201, 3) := dk_180 0 201 (dk_at dksX1_truncate_0 11 rfl rfl)
theorem dX1_truncate_14 : decode cX1_truncate 14 = .ok (.ifCond .ne 14, 3) := dk_154 0 14 (dk_at dksX1_truncate_0 14 rfl rfl)
theorem dX1_truncate_17 : decode cX1_truncate 17 = .ok (.iload_n 2, 1) := dk_28 (dk_at dksX1_truncate_0 17 rfl rfl)
theorem dX1_truncate_18 : decode cX1_truncate 18 = .ok (.aload_n 3, 1) := dk_45 (dk_at dksX1_truncate_0 18 rfl rfl)
theorem dX1_truncate_19 : decode cX1_truncate 19 = .ok (.getfield 210, 3) := dk_180 0 210 (dk_at dksX1_truncate_0 19 rfl rfl)
theorem dX1_truncate_22 : decode cX1_truncate 22 = .ok (.getfield 146, 3) := dk_180 0 146 (dk_at dksX1_truncate_1 0 rfl rfl)
theorem dX1_truncate_25 : decode cX1_truncate 25 = .ok (.if_icmp .gt 7, 3) := dk_163 0 7 (dk_at dksX1_truncate_1 3 rfl rfl)
theorem dX1_truncate_28 : decode cX1_truncate 28 = .ok (.iconst 1, 1) := dk_4 (dk_at dksX1_truncate_1 6 rfl rfl)
theorem dX1_truncate_29 : decode cX1_truncate 29 = .ok (.goto 4, 3) := dk_167 0 4 (dk_at dksX1_truncate_1 7 rfl rfl)
theorem dX1_truncate_32 : decode cX1_truncate 32 = .ok (.iconst 0, 1) := dk_3 (dk_at dksX1_truncate_1 10 rfl rfl)
theorem dX1_truncate_33 : decode cX1_truncate 33 = .ok (.invokestatic 326, 3) := dk_184 1 70 (dk_at dksX1_truncate_1 11 rfl rfl)
theorem dX1_truncate_36 : decode cX1_truncate 36 = .ok (.aload_n 0, 1) := dk_42 (dk_at dksX1_truncate_1 14 rfl rfl)
theorem dX1_truncate_37 : decode cX1_truncate 37 = .ok (.iload_n 1, 1) := dk_27 (dk_at dksX1_truncate_1 15 rfl rfl)
theorem dX1_truncate_38 : decode cX1_truncate 38 = .ok (.iload_n 2, 1) := dk_28 (dk_at dksX1_truncate_1 16 rfl rfl)
theorem dX1_truncate_39 : decode cX1_truncate 39 = .ok (.invokestatic 356, 3) := dk_184 1 100 (dk_at dksX1_truncate_1 17 rfl rfl)
theorem dX1_truncate_42 : decode cX1_truncate 42 = .ok (.invokevirtual 348, 3) := dk_182 1 92 (dk_at dksX1_truncate_1 20 rfl rfl)
theorem dX1_truncate_45 : decode cX1_truncate 45 = .ok (.ireturn, 1) := dk_172 (dk_at dksX1_truncate_1 23 rfl rfl)
abbrev cX1_release : ByteArray := prog_1_method_71_code
def yX1_release : MethodName := ⟨RX1, "release", "(I)I"⟩
def dkwX1_release_0 : List UInt8 := [42, 27, 182, 0, 200, 77, 42, 27, 184, 1, 103, 182, 1, 92, 172]
abbrev dktX1_release_0 : List UInt8 := dkwX1_release_0 ++ []
theorem dksX1_release_0 : cX1_release.data.toList.drop 0 = dktX1_release_0 := by decide +kernel
theorem dX1_release_0 : decode cX1_release 0 = .ok (.aload_n 0, 1) := dk_42 (dk_at dksX1_release_0 0 rfl rfl)
theorem dX1_release_1 : decode cX1_release 1 = .ok (.iload_n 1, 1) := dk_27 (dk_at dksX1_release_0 1 rfl rfl)
theorem dX1_release_2 : decode cX1_release 2 = .ok (.invokevirtual 200, 3) := dk_182 0 200 (dk_at dksX1_release_0 2 rfl rfl)
theorem dX1_release_5 : decode cX1_release 5 = .ok (.astore_n 2, 1) := dk_77 (dk_at dksX1_release_0 5 rfl rfl)
theorem dX1_release_6 : decode cX1_release 6 = .ok (.aload_n 0, 1) := dk_42 (dk_at dksX1_release_0 6 rfl rfl)
theorem dX1_release_7 : decode cX1_release 7 = .ok (.iload_n 1, 1) := dk_27 (dk_at dksX1_release_0 7 rfl rfl)
theorem dX1_release_8 : decode cX1_release 8 = .ok (.invokestatic 359, 3) := dk_184 1 103 (dk_at dksX1_release_0 8 rfl rfl)
theorem dX1_release_11 : decode cX1_release 11 = .ok (.invokevirtual 348, 3) := dk_182 1 92 (dk_at dksX1_release_0 11 rfl rfl)
theorem dX1_release_14 : decode cX1_release 14 = .ok (.ireturn, 1) := dk_172 (dk_at dksX1_release_0 14 rfl rfl)
abbrev cX1_undo : ByteArray := prog_1_method_73_code
def yX1_undo : MethodName := ⟨RX1, "undo", "()I"⟩
def dkwX1_undo_1 : List UInt8 := [182, 1, 115, 192, 0, 91, 181, 0, 58, 42, 180, 0, 65, 182, 0, 151, 172]
abbrev dktX1_undo_1 : List UInt8 := dkwX1_undo_1 ++ []
def dkwX1_undo_0 : List UInt8 := [42, 180, 0, 65, 182, 1, 111, 154, 0, 7, 4, 167, 0, 4, 3, 184, 1, 112, 42, 42, 180, 0, 65]
abbrev dktX1_undo_0 : List UInt8 := dkwX1_undo_0 ++ dktX1_undo_1
theorem dksX1_undo_0 : cX1_undo.data.toList.drop 0 = dktX1_undo_0 := by decide +kernel
theorem dksX1_undo_1 : cX1_undo.data.toList.drop 23 = dktX1_undo_1 := dk_seg dksX1_undo_0 23 rfl rfl
theorem dX1_undo_0 : decode cX1_undo 0 = .ok (.aload_n 0, 1) := dk_42 (dk_at dksX1_undo_0 0 rfl rfl)
theorem dX1_undo_1 : decode cX1_undo 1 = .ok (.getfield 65, 3) := dk_180 0 65 (dk_at dksX1_undo_0 1 rfl rfl)
theorem dX1_undo_4 : decode cX1_undo 4 = .ok (.invokevirtual 367, 3) := dk_182 1 111 (dk_at dksX1_undo_0 4 rfl rfl)
theorem dX1_undo_7 : decode cX1_undo 7 = .ok (.ifCond .ne 7, 3) := dk_154 0 7 (dk_at dksX1_undo_0 7 rfl rfl)
theorem dX1_undo_10 : decode cX1_undo 10 = .ok (.iconst 1, 1) := dk_4 (dk_at dksX1_undo_0 10 rfl rfl)
theorem dX1_undo_11 : decode cX1_undo 11 = .ok (.goto 4, 3) := dk_167 0 4 (dk_at dksX1_undo_0 11 rfl rfl)
theorem dX1_undo_14 : decode cX1_undo 14 = .ok (.iconst 0, 1) := dk_3 (dk_at dksX1_undo_0 14 rfl rfl)
theorem dX1_undo_15 : decode cX1_undo 15 = .ok (.invokestatic 368, 3) := dk_184 1 112 (dk_at dksX1_undo_0 15 rfl rfl)
theorem dX1_undo_18 : decode cX1_undo 18 = .ok (.aload_n 0, 1) := dk_42 (dk_at dksX1_undo_0 18 rfl rfl)
theorem dX1_undo_19 : decode cX1_undo 19 = .ok (.aload_n 0, 1) := dk_42 (dk_at dksX1_undo_0 19 rfl rfl)
theorem dX1_undo_20 : decode cX1_undo 20 = .ok (.getfield 65, 3) := dk_180 0 65 (dk_at dksX1_undo_0 20 rfl rfl)
theorem dX1_undo_23 : decode cX1_undo 23 = .ok (.invokevirtual 371, 3) := dk_182 1 115 (dk_at dksX1_undo_1 0 rfl rfl)
theorem dX1_undo_26 : decode cX1_undo 26 = .ok (.checkcast 91, 3) := dk_192 0 91 (dk_at dksX1_undo_1 3 rfl rfl)
theorem dX1_undo_29 : decode cX1_undo 29 = .ok (.putfield 58, 3) := dk_181 0 58 (dk_at dksX1_undo_1 6 rfl rfl)
theorem dX1_undo_32 : decode cX1_undo 32 = .ok (.aload_n 0, 1) := dk_42 (dk_at dksX1_undo_1 9 rfl rfl)
theorem dX1_undo_33 : decode cX1_undo 33 = .ok (.getfield 65, 3) := dk_180 0 65 (dk_at dksX1_undo_1 10 rfl rfl)
theorem dX1_undo_36 : decode cX1_undo 36 = .ok (.invokevirtual 151, 3) := dk_182 0 151 (dk_at dksX1_undo_1 13 rfl rfl)
theorem dX1_undo_39 : decode cX1_undo 39 = .ok (.ireturn, 1) := dk_172 (dk_at dksX1_undo_1 16 rfl rfl)
abbrev cX1_checkElement : ByteArray := prog_1_method_5_code
def yX1_checkElement : MethodName := ⟨RX1, "checkElement", "(Z)V"⟩
def dkwX1_checkElement_0 : List UInt8 := [26, 154, 0, 11, 187, 0, 13, 89, 183, 0, 15, 191, 177]
abbrev dktX1_checkElement_0 : List UInt8 := dkwX1_checkElement_0 ++ []
theorem dksX1_checkElement_0 : cX1_checkElement.data.toList.drop 0 = dktX1_checkElement_0 := by decide +kernel
theorem dX1_checkElement_0 : decode cX1_checkElement 0 = .ok (.iload_n 0, 1) := dk_26 (dk_at dksX1_checkElement_0 0 rfl rfl)
theorem dX1_checkElement_1 : decode cX1_checkElement 1 = .ok (.ifCond .ne 11, 3) := dk_154 0 11 (dk_at dksX1_checkElement_0 1 rfl rfl)
theorem dX1_checkElement_4 : decode cX1_checkElement 4 = .ok (.new 13, 3) := dk_187 0 13 (dk_at dksX1_checkElement_0 4 rfl rfl)
theorem dX1_checkElement_7 : decode cX1_checkElement 7 = .ok (.dup, 1) := dk_89 (dk_at dksX1_checkElement_0 7 rfl rfl)
theorem dX1_checkElement_8 : decode cX1_checkElement 8 = .ok (.invokespecial 15, 3) := dk_183 0 15 (dk_at dksX1_checkElement_0 8 rfl rfl)
theorem dX1_checkElement_11 : decode cX1_checkElement 11 = .ok (.athrow, 1) := dk_191 (dk_at dksX1_checkElement_0 11 rfl rfl)
theorem dX1_checkElement_12 : decode cX1_checkElement 12 = .ok (.return_, 1) := dk_177 (dk_at dksX1_checkElement_0 12 rfl rfl)
abbrev cX1_writeVersion : ByteArray := prog_1_method_74_code
def yX1_writeVersion : MethodName := ⟨RX1, "writeVersion", "(I)I"⟩
def dkwX1_writeVersion_4 : List UInt8 := [180, 0, 72, 16, 93, 182, 1, 121, 87, 42, 180, 0, 72, 182, 1, 127, 172]
abbrev dktX1_writeVersion_4 : List UInt8 := dkwX1_writeVersion_4 ++ []
def dkwX1_writeVersion_3 : List UInt8 := [25, 4, 185, 1, 7, 1, 0, 192, 0, 80, 182, 0, 244, 182, 1, 124, 87, 132, 3, 1, 167, 255, 197, 42]
abbrev dktX1_writeVersion_3 : List UInt8 := dkwX1_writeVersion_3 ++ dktX1_writeVersion_4
def dkwX1_writeVersion_2 : List UInt8 := [180, 0, 72, 29, 7, 112, 154, 0, 8, 16, 124, 167, 0, 5, 16, 44, 182, 1, 121, 87, 42, 180, 0, 72]
abbrev dktX1_writeVersion_2 : List UInt8 := dkwX1_writeVersion_2 ++ dktX1_writeVersion_3
def dkwX1_writeVersion_1 : List UInt8 := [3, 62, 44, 182, 0, 253, 58, 4, 25, 4, 185, 1, 1, 1, 0, 153, 0, 55, 29, 158, 0, 24, 42]
abbrev dktX1_writeVersion_1 : List UInt8 := dkwX1_writeVersion_1 ++ dktX1_writeVersion_2
def dkwX1_writeVersion_0 : List UInt8 := [42, 27, 182, 0, 230, 77, 42, 180, 0, 72, 3, 182, 1, 118, 42, 180, 0, 72, 16, 91, 182, 1, 121, 87]
abbrev dktX1_writeVersion_0 : List UInt8 := dkwX1_writeVersion_0 ++ dktX1_writeVersion_1
theorem dksX1_writeVersion_0 : cX1_writeVersion.data.toList.drop 0 = dktX1_writeVersion_0 := by decide +kernel
theorem dksX1_writeVersion_1 : cX1_writeVersion.data.toList.drop 24 = dktX1_writeVersion_1 := dk_seg dksX1_writeVersion_0 24 rfl rfl
theorem dksX1_writeVersion_2 : cX1_writeVersion.data.toList.drop 47 = dktX1_writeVersion_2 := dk_seg dksX1_writeVersion_1 23 rfl rfl
theorem dksX1_writeVersion_3 : cX1_writeVersion.data.toList.drop 71 = dktX1_writeVersion_3 := dk_seg dksX1_writeVersion_2 24 rfl rfl
theorem dksX1_writeVersion_4 : cX1_writeVersion.data.toList.drop 95 = dktX1_writeVersion_4 := dk_seg dksX1_writeVersion_3 24 rfl rfl
theorem dX1_writeVersion_0 : decode cX1_writeVersion 0 = .ok (.aload_n 0, 1) := dk_42 (dk_at dksX1_writeVersion_0 0 rfl rfl)
theorem dX1_writeVersion_1 : decode cX1_writeVersion 1 = .ok (.iload_n 1, 1) := dk_27 (dk_at dksX1_writeVersion_0 1 rfl rfl)
theorem dX1_writeVersion_2 : decode cX1_writeVersion 2 = .ok (.invokevirtual 230, 3) := dk_182 0 230 (dk_at dksX1_writeVersion_0 2 rfl rfl)
theorem dX1_writeVersion_5 : decode cX1_writeVersion 5 = .ok (.astore_n 2, 1) := dk_77 (dk_at dksX1_writeVersion_0 5 rfl rfl)
theorem dX1_writeVersion_6 : decode cX1_writeVersion 6 = .ok (.aload_n 0, 1) := dk_42 (dk_at dksX1_writeVersion_0 6 rfl rfl)
theorem dX1_writeVersion_7 : decode cX1_writeVersion 7 = .ok (.getfield 72, 3) := dk_180 0 72 (dk_at dksX1_writeVersion_0 7 rfl rfl)
theorem dX1_writeVersion_10 : decode cX1_writeVersion 10 = .ok (.iconst 0, 1) := dk_3 (dk_at dksX1_writeVersion_0 10 rfl rfl)
theorem dX1_writeVersion_11 : decode cX1_writeVersion 11 = .ok (.invokevirtual 374, 3) := dk_182 1 118 (dk_at dksX1_writeVersion_0 11 rfl rfl)
theorem dX1_writeVersion_14 : decode cX1_writeVersion 14 = .ok (.aload_n 0, 1) := dk_42 (dk_at dksX1_writeVersion_0 14 rfl rfl)
theorem dX1_writeVersion_15 : decode cX1_writeVersion 15 = .ok (.getfield 72, 3) := dk_180 0 72 (dk_at dksX1_writeVersion_0 15 rfl rfl)
theorem dX1_writeVersion_18 : decode cX1_writeVersion 18 = .ok (.bipush 91, 2) := dk_16 91 (dk_at dksX1_writeVersion_0 18 rfl rfl)
theorem dX1_writeVersion_20 : decode cX1_writeVersion 20 = .ok (.invokevirtual 377, 3) := dk_182 1 121 (dk_at dksX1_writeVersion_0 20 rfl rfl)
theorem dX1_writeVersion_23 : decode cX1_writeVersion 23 = .ok (.pop, 1) := dk_87 (dk_at dksX1_writeVersion_0 23 rfl rfl)
theorem dX1_writeVersion_24 : decode cX1_writeVersion 24 = .ok (.iconst 0, 1) := dk_3 (dk_at dksX1_writeVersion_1 0 rfl rfl)
theorem dX1_writeVersion_25 : decode cX1_writeVersion 25 = .ok (.istore_n 3, 1) := dk_62 (dk_at dksX1_writeVersion_1 1 rfl rfl)
theorem dX1_writeVersion_26 : decode cX1_writeVersion 26 = .ok (.aload_n 2, 1) := dk_44 (dk_at dksX1_writeVersion_1 2 rfl rfl)
theorem dX1_writeVersion_27 : decode cX1_writeVersion 27 = .ok (.invokevirtual 253, 3) := dk_182 0 253 (dk_at dksX1_writeVersion_1 3 rfl rfl)
theorem dX1_writeVersion_30 : decode cX1_writeVersion 30 = .ok (.astore 4, 2) := dk_58 4 (dk_at dksX1_writeVersion_1 6 rfl rfl)
theorem dX1_writeVersion_32 : decode cX1_writeVersion 32 = .ok (.aload 4, 2) := dk_25 4 (dk_at dksX1_writeVersion_1 8 rfl rfl)
theorem dX1_writeVersion_34 : decode cX1_writeVersion 34 = .ok (.invokeinterface 257 1, 5) := by decide +kernel
theorem dX1_writeVersion_39 : decode cX1_writeVersion 39 = .ok (.ifCond .eq 55, 3) := dk_153 0 55 (dk_at dksX1_writeVersion_1 15 rfl rfl)
theorem dX1_writeVersion_42 : decode cX1_writeVersion 42 = .ok (.iload_n 3, 1) := dk_29 (dk_at dksX1_writeVersion_1 18 rfl rfl)
theorem dX1_writeVersion_43 : decode cX1_writeVersion 43 = .ok (.ifCond .le 24, 3) := dk_158 0 24 (dk_at dksX1_writeVersion_1 19 rfl rfl)
theorem dX1_writeVersion_46 : decode cX1_writeVersion 46 = .ok (.aload_n 0, 1) := dk_42 (dk_at dksX1_writeVersion_1 22 rfl rfl)
theorem dX1_writeVersion_47 : decode cX1_writeVersion 47 = .ok (.getfield 72, 3) := dk_180 0 72 (dk_at dksX1_writeVersion_2 0 rfl rfl)
theorem dX1_writeVersion_50 : decode cX1_writeVersion 50 = .ok (.iload_n 3, 1) := dk_29 (dk_at dksX1_writeVersion_2 3 rfl rfl)
theorem dX1_writeVersion_51 : decode cX1_writeVersion 51 = .ok (.iconst 4, 1) := dk_7 (dk_at dksX1_writeVersion_2 4 rfl rfl)
theorem dX1_writeVersion_52 : decode cX1_writeVersion 52 = .ok (.irem, 1) := dk_112 (dk_at dksX1_writeVersion_2 5 rfl rfl)
theorem dX1_writeVersion_53 : decode cX1_writeVersion 53 = .ok (.ifCond .ne 8, 3) := dk_154 0 8 (dk_at dksX1_writeVersion_2 6 rfl rfl)
theorem dX1_writeVersion_56 : decode cX1_writeVersion 56 = .ok (.bipush 124, 2) := dk_16 124 (dk_at dksX1_writeVersion_2 9 rfl rfl)
theorem dX1_writeVersion_58 : decode cX1_writeVersion 58 = .ok (.goto 5, 3) := dk_167 0 5 (dk_at dksX1_writeVersion_2 11 rfl rfl)
theorem dX1_writeVersion_61 : decode cX1_writeVersion 61 = .ok (.bipush 44, 2) := dk_16 44 (dk_at dksX1_writeVersion_2 14 rfl rfl)
theorem dX1_writeVersion_63 : decode cX1_writeVersion 63 = .ok (.invokevirtual 377, 3) := dk_182 1 121 (dk_at dksX1_writeVersion_2 16 rfl rfl)
theorem dX1_writeVersion_66 : decode cX1_writeVersion 66 = .ok (.pop, 1) := dk_87 (dk_at dksX1_writeVersion_2 19 rfl rfl)
theorem dX1_writeVersion_67 : decode cX1_writeVersion 67 = .ok (.aload_n 0, 1) := dk_42 (dk_at dksX1_writeVersion_2 20 rfl rfl)
theorem dX1_writeVersion_68 : decode cX1_writeVersion 68 = .ok (.getfield 72, 3) := dk_180 0 72 (dk_at dksX1_writeVersion_2 21 rfl rfl)
theorem dX1_writeVersion_71 : decode cX1_writeVersion 71 = .ok (.aload 4, 2) := dk_25 4 (dk_at dksX1_writeVersion_3 0 rfl rfl)
theorem dX1_writeVersion_73 : decode cX1_writeVersion 73 = .ok (.invokeinterface 263 1, 5) := by decide +kernel
theorem dX1_writeVersion_78 : decode cX1_writeVersion 78 = .ok (.checkcast 80, 3) := dk_192 0 80 (dk_at dksX1_writeVersion_3 7 rfl rfl)
theorem dX1_writeVersion_81 : decode cX1_writeVersion 81 = .ok (.invokevirtual 244, 3) := dk_182 0 244 (dk_at dksX1_writeVersion_3 10 rfl rfl)
theorem dX1_writeVersion_84 : decode cX1_writeVersion 84 = .ok (.invokevirtual 380, 3) := dk_182 1 124 (dk_at dksX1_writeVersion_3 13 rfl rfl)
theorem dX1_writeVersion_87 : decode cX1_writeVersion 87 = .ok (.pop, 1) := dk_87 (dk_at dksX1_writeVersion_3 16 rfl rfl)
theorem dX1_writeVersion_88 : decode cX1_writeVersion 88 = .ok (.iinc 3 1, 3) := dk_132 3 1 (dk_at dksX1_writeVersion_3 17 rfl rfl)
theorem dX1_writeVersion_91 : decode cX1_writeVersion 91 = .ok (.goto (-59), 3) := dk_167 255 197 (dk_at dksX1_writeVersion_3 20 rfl rfl)
theorem dX1_writeVersion_94 : decode cX1_writeVersion 94 = .ok (.aload_n 0, 1) := dk_42 (dk_at dksX1_writeVersion_3 23 rfl rfl)
theorem dX1_writeVersion_95 : decode cX1_writeVersion 95 = .ok (.getfield 72, 3) := dk_180 0 72 (dk_at dksX1_writeVersion_4 0 rfl rfl)
theorem dX1_writeVersion_98 : decode cX1_writeVersion 98 = .ok (.bipush 93, 2) := dk_16 93 (dk_at dksX1_writeVersion_4 3 rfl rfl)
theorem dX1_writeVersion_100 : decode cX1_writeVersion 100 = .ok (.invokevirtual 377, 3) := dk_182 1 121 (dk_at dksX1_writeVersion_4 5 rfl rfl)
theorem dX1_writeVersion_103 : decode cX1_writeVersion 103 = .ok (.pop, 1) := dk_87 (dk_at dksX1_writeVersion_4 8 rfl rfl)
theorem dX1_writeVersion_104 : decode cX1_writeVersion 104 = .ok (.aload_n 0, 1) := dk_42 (dk_at dksX1_writeVersion_4 9 rfl rfl)
theorem dX1_writeVersion_105 : decode cX1_writeVersion 105 = .ok (.getfield 72, 3) := dk_180 0 72 (dk_at dksX1_writeVersion_4 10 rfl rfl)
theorem dX1_writeVersion_108 : decode cX1_writeVersion 108 = .ok (.invokevirtual 383, 3) := dk_182 1 127 (dk_at dksX1_writeVersion_4 13 rfl rfl)
theorem dX1_writeVersion_111 : decode cX1_writeVersion 111 = .ok (.ireturn, 1) := dk_172 (dk_at dksX1_writeVersion_4 16 rfl rfl)
abbrev cX1_restoreState : ByteArray := prog_1_method_77_code
def yX1_restoreState : MethodName := ⟨RX1, "restoreState", "()I"⟩
def dkwX1_restoreState_1 : List UInt8 := [181, 0, 58, 42, 180, 0, 65, 182, 0, 136, 42, 180, 0, 58, 180, 0, 188, 185, 0, 162, 1, 0, 172]
abbrev dktX1_restoreState_1 : List UInt8 := dkwX1_restoreState_1 ++ []
def dkwX1_restoreState_0 : List UInt8 := [42, 180, 0, 139, 198, 0, 7, 4, 167, 0, 4, 3, 184, 1, 112, 42, 42, 180, 0, 139, 182, 0, 177]
abbrev dktX1_restoreState_0 : List UInt8 := dkwX1_restoreState_0 ++ dktX1_restoreState_1
theorem dksX1_restoreState_0 : cX1_restoreState.data.toList.drop 0 = dktX1_restoreState_0 := by decide +kernel
theorem dksX1_restoreState_1 : cX1_restoreState.data.toList.drop 23 = dktX1_restoreState_1 := dk_seg dksX1_restoreState_0 23 rfl rfl
theorem dX1_restoreState_0 : decode cX1_restoreState 0 = .ok (.aload_n 0, 1) := dk_42 (dk_at dksX1_restoreState_0 0 rfl rfl)
theorem dX1_restoreState_1 : decode cX1_restoreState 1 = .ok (.getfield 139, 3) := dk_180 0 139 (dk_at dksX1_restoreState_0 1 rfl rfl)
theorem dX1_restoreState_4 : decode cX1_restoreState 4 = .ok (.ifnull 7, 3) := dk_198 0 7 (dk_at dksX1_restoreState_0 4 rfl rfl)
theorem dX1_restoreState_7 : decode cX1_restoreState 7 = .ok (.iconst 1, 1) := dk_4 (dk_at dksX1_restoreState_0 7 rfl rfl)
theorem dX1_restoreState_8 : decode cX1_restoreState 8 = .ok (.goto 4, 3) := dk_167 0 4 (dk_at dksX1_restoreState_0 8 rfl rfl)
theorem dX1_restoreState_11 : decode cX1_restoreState 11 = .ok (.iconst 0, 1) := dk_3 (dk_at dksX1_restoreState_0 11 rfl rfl)
theorem dX1_restoreState_12 : decode cX1_restoreState 12 = .ok (.invokestatic 368, 3) := dk_184 1 112 (dk_at dksX1_restoreState_0 12 rfl rfl)
theorem dX1_restoreState_15 : decode cX1_restoreState 15 = .ok (.aload_n 0, 1) := dk_42 (dk_at dksX1_restoreState_0 15 rfl rfl)
theorem dX1_restoreState_16 : decode cX1_restoreState 16 = .ok (.aload_n 0, 1) := dk_42 (dk_at dksX1_restoreState_0 16 rfl rfl)
theorem dX1_restoreState_17 : decode cX1_restoreState 17 = .ok (.getfield 139, 3) := dk_180 0 139 (dk_at dksX1_restoreState_0 17 rfl rfl)
theorem dX1_restoreState_20 : decode cX1_restoreState 20 = .ok (.invokevirtual 177, 3) := dk_182 0 177 (dk_at dksX1_restoreState_0 20 rfl rfl)
theorem dX1_restoreState_23 : decode cX1_restoreState 23 = .ok (.putfield 58, 3) := dk_181 0 58 (dk_at dksX1_restoreState_1 0 rfl rfl)
theorem dX1_restoreState_26 : decode cX1_restoreState 26 = .ok (.aload_n 0, 1) := dk_42 (dk_at dksX1_restoreState_1 3 rfl rfl)
theorem dX1_restoreState_27 : decode cX1_restoreState 27 = .ok (.getfield 65, 3) := dk_180 0 65 (dk_at dksX1_restoreState_1 4 rfl rfl)
theorem dX1_restoreState_30 : decode cX1_restoreState 30 = .ok (.invokevirtual 136, 3) := dk_182 0 136 (dk_at dksX1_restoreState_1 7 rfl rfl)
theorem dX1_restoreState_33 : decode cX1_restoreState 33 = .ok (.aload_n 0, 1) := dk_42 (dk_at dksX1_restoreState_1 10 rfl rfl)
theorem dX1_restoreState_34 : decode cX1_restoreState 34 = .ok (.getfield 58, 3) := dk_180 0 58 (dk_at dksX1_restoreState_1 11 rfl rfl)
theorem dX1_restoreState_37 : decode cX1_restoreState 37 = .ok (.getfield 188, 3) := dk_180 0 188 (dk_at dksX1_restoreState_1 14 rfl rfl)
theorem dX1_restoreState_40 : decode cX1_restoreState 40 = .ok (.invokeinterface 162 1, 5) := by decide +kernel
theorem dX1_restoreState_45 : decode cX1_restoreState 45 = .ok (.ireturn, 1) := dk_172 (dk_at dksX1_restoreState_1 22 rfl rfl)
theorem q135 : (Jvm.Cond.initialized "VectorVersions") ∈ lw_all := lw_g (lw_at lw_m1 1 rfl) rfl
theorem q185 : (Jvm.Cond.instantiable "VectorVersions" (8 : Nat)) ∈ lw_all := lw_g (lw_at lw_m1 51 rfl) rfl
theorem q187 : (Jvm.Cond.instanceMethod ({ cls := "VectorVersions", name := "<init>", desc := "()V" } : Jvm.MethodName)) ∈ lw_all := lw_g (lw_at lw_m1 53 rfl) rfl
theorem q188 : (Jvm.Cond.code ({ cls := "VectorVersions", name := "<init>", desc := "()V" } : Jvm.MethodName) prog_1_method_13_code (1 : Nat) (Option.none : Option Jvm.ClassFile.FieldType)) ∈ lw_all := lw_g (lw_at lw_m1 54 rfl) rfl
theorem q189 : (Jvm.Cond.methodLink "VectorVersions" (43 : Nat) ({ cls := "java/lang/Object", name := "<init>", desc := "()V" } : Jvm.MethodName)) ∈ lw_all := lw_g (lw_at lw_m1 55 rfl) rfl
theorem q192 : (Jvm.Cond.methodLink "VectorVersions" (54 : Nat) ({ cls := "VectorVersions", name := "initialStore", desc := "([I)LVectorVersions$Store;" } : Jvm.MethodName)) ∈ lw_all := lw_g (lw_at lw_m1 58 rfl) rfl
theorem q193 : (Jvm.Cond.static ({ cls := "VectorVersions", name := "initialStore", desc := "([I)LVectorVersions$Store;" } : Jvm.MethodName)) ∈ lw_all := lw_g (lw_at lw_m1 59 rfl) rfl
theorem q194 : (Jvm.Cond.code ({ cls := "VectorVersions", name := "initialStore", desc := "([I)LVectorVersions$Store;" } : Jvm.MethodName) prog_1_method_14_code (6 : Nat) (Option.some (Jvm.ClassFile.FieldType.object "VectorVersions$Store"))) ∈ lw_all := lw_g (lw_at lw_m1 60 rfl) rfl
theorem q195 : (Jvm.Cond.classLink "VectorVersions" (76 : Nat) "java/util/ArrayList") ∈ lw_all := lw_g (lw_at lw_m1 61 rfl) rfl
theorem q197 : (Jvm.Cond.methodLink "VectorVersions" (78 : Nat) ({ cls := "java/util/ArrayList", name := "<init>", desc := "()V" } : Jvm.MethodName)) ∈ lw_all := lw_g (lw_at lw_m1 63 rfl) rfl
theorem q226 : (Jvm.Cond.methodLink "VectorVersions" (79 : Nat) ({ cls := "java/lang/Integer", name := "valueOf", desc := "(I)Ljava/lang/Integer;" } : Jvm.MethodName)) ∈ lw_all := lw_g (lw_at lw_m1 92 rfl) rfl
theorem q246 : (Jvm.Cond.interfaceEntry "VectorVersions" (85 : Nat)) ∈ lw_tbl := lw_at lw_m1 112 rfl
theorem q247 : (Jvm.Cond.methodLink "VectorVersions" (85 : Nat) ({ cls := "java/util/List", name := "add", desc := "(Ljava/lang/Object;)Z" } : Jvm.MethodName)) ∈ lw_all := lw_g (lw_at lw_m1 113 rfl) rfl
theorem q284 : (Jvm.Cond.selects "VectorVersions" ({ cls := "java/lang/Object", name := "getClass", desc := "()Ljava/lang/Class;" } : Jvm.MethodName) ({ cls := "java/lang/Object", name := "getClass", desc := "()Ljava/lang/Class;" } : Jvm.MethodName)) ∈ lw_all := lw_g (lw_at lw_m1 150 rfl) rfl
theorem q329 : (Jvm.Cond.classLink "VectorVersions" (91 : Nat) "VectorVersions$Store") ∈ lw_all := lw_g (lw_at lw_m1 195 rfl) rfl
theorem q331 : (Jvm.Cond.methodLinkNest "VectorVersions" (93 : Nat) ({ cls := "VectorVersions$Store", name := "<init>", desc := "()V" } : Jvm.MethodName) "VectorVersions") ∈ lw_tbl := lw_at lw_m1 197 rfl
theorem q647 : (Jvm.Cond.fieldLinkNest "VectorVersions" (188 : Nat) "VectorVersions$Store" "versions" "Ljava/util/List;" "VectorVersions") ∈ lw_tbl := lw_at lw_m3 33 rfl
theorem q649 : (Jvm.Cond.fieldLinkNest "VectorVersions" (273 : Nat) "VectorVersions$Store" "nodes" "Ljava/util/List;" "VectorVersions") ∈ lw_tbl := lw_at lw_m3 35 rfl
theorem q651 : (Jvm.Cond.fieldLinkNest "VectorVersions" (270 : Nat) "VectorVersions$Store" "created" "I" "VectorVersions") ∈ lw_tbl := lw_at lw_m3 37 rfl
theorem q659 : (Jvm.Cond.methodLink "VectorVersions" (94 : Nat) ({ cls := "VectorVersions$Store", name := "start", desc := "(Ljava/util/List;)LVectorVersions$Store;" } : Jvm.MethodName)) ∈ lw_all := lw_g (lw_at lw_m3 45 rfl) rfl
theorem q725 : (Jvm.Cond.fieldLinkNest "VectorVersions" (250 : Nat) "VectorVersions$Node" "number" "I" "VectorVersions") ∈ lw_tbl := lw_at lw_m3 111 rfl
theorem q776 : (Jvm.Cond.static ({ cls := "VectorVersions", name := "heightFor", desc := "(I)I" } : Jvm.MethodName)) ∈ lw_all := lw_g (lw_at lw_m3 162 rfl) rfl
theorem q777 : (Jvm.Cond.code ({ cls := "VectorVersions", name := "heightFor", desc := "(I)I" } : Jvm.MethodName) prog_1_method_7_code (2 : Nat) (Option.some Jvm.ClassFile.FieldType.int)) ∈ lw_all := lw_g (lw_at lw_m3 163 rfl) rfl
theorem q778 : (Jvm.Cond.methodLink "VectorVersions" (18 : Nat) ({ cls := "VectorVersions", name := "capacity", desc := "(I)I" } : Jvm.MethodName)) ∈ lw_all := lw_g (lw_at lw_m3 164 rfl) rfl
theorem q779 : (Jvm.Cond.static ({ cls := "VectorVersions", name := "capacity", desc := "(I)I" } : Jvm.MethodName)) ∈ lw_all := lw_g (lw_at lw_m3 165 rfl) rfl
theorem q780 : (Jvm.Cond.code ({ cls := "VectorVersions", name := "capacity", desc := "(I)I" } : Jvm.MethodName) prog_1_method_6_code (3 : Nat) (Option.some Jvm.ClassFile.FieldType.int)) ∈ lw_all := lw_g (lw_at lw_m3 166 rfl) rfl
theorem q788 : (Jvm.Cond.fieldLinkNest "VectorVersions" (318 : Nat) "VectorVersions$Tree" "root" "LVectorVersions$Node;" "VectorVersions") ∈ lw_tbl := lw_at lw_m3 174 rfl
theorem q792 : (Jvm.Cond.fieldLinkNest "VectorVersions" (146 : Nat) "VectorVersions$Tree" "size" "I" "VectorVersions") ∈ lw_tbl := lw_at lw_m3 178 rfl
theorem q795 : (Jvm.Cond.fieldLinkNest "VectorVersions" (231 : Nat) "VectorVersions$Tree" "height" "I" "VectorVersions") ∈ lw_tbl := lw_at lw_m3 181 rfl
theorem q814 : (Jvm.Cond.fieldLinkNest "VectorVersions" (220 : Nat) "VectorVersions$Version" "number" "I" "VectorVersions") ∈ lw_tbl := lw_at lw_m3 200 rfl
theorem q816 : (Jvm.Cond.fieldLinkNest "VectorVersions" (217 : Nat) "VectorVersions$Version" "parent" "I" "VectorVersions") ∈ lw_tbl := lw_at lw_m3 202 rfl
theorem q820 : (Jvm.Cond.fieldLinkNest "VectorVersions" (279 : Nat) "VectorVersions$Version" "created" "I" "VectorVersions") ∈ lw_tbl := lw_at lw_m3 206 rfl
theorem q823 : (Jvm.Cond.fieldLinkNest "VectorVersions" (210 : Nat) "VectorVersions$Version" "tree" "LVectorVersions$Tree;" "VectorVersions") ∈ lw_tbl := lw_at lw_m3 209 rfl
theorem q828 : (Jvm.Cond.fieldLinkNest "VectorVersions" (201 : Nat) "VectorVersions$Version" "released" "Z" "VectorVersions") ∈ lw_tbl := lw_at lw_m3 214 rfl
theorem q842 : (Jvm.Cond.classLink "VectorVersions" (62 : Nat) "java/util/ArrayDeque") ∈ lw_all := lw_g (lw_at lw_m3 228 rfl) rfl
theorem q844 : (Jvm.Cond.methodLink "VectorVersions" (64 : Nat) ({ cls := "java/util/ArrayDeque", name := "<init>", desc := "(I)V" } : Jvm.MethodName)) ∈ lw_all := lw_g (lw_at lw_m3 230 rfl) rfl
theorem q860 : (Jvm.Cond.classLink "VectorVersions" (69 : Nat) "java/lang/StringBuilder") ∈ lw_all := lw_g (lw_at lw_m4 6 rfl) rfl
theorem q861 : (Jvm.Cond.methodLink "VectorVersions" (71 : Nat) ({ cls := "java/lang/StringBuilder", name := "<init>", desc := "()V" } : Jvm.MethodName)) ∈ lw_all := lw_g (lw_at lw_m4 7 rfl) rfl
theorem q863 : (Jvm.Cond.fieldLink "VectorVersions" (46 : Nat) "VectorVersions" "buffer" "[B") ∈ lw_all := lw_g (lw_at lw_m4 9 rfl) rfl
theorem q865 : (Jvm.Cond.fieldLink "VectorVersions" (98 : Nat) "VectorVersions" "bufferLength" "I") ∈ lw_all := lw_g (lw_at lw_m4 11 rfl) rfl
theorem q866 : (Jvm.Cond.fieldLink "VectorVersions" (109 : Nat) "VectorVersions" "errorCode" "I") ∈ lw_all := lw_g (lw_at lw_m4 12 rfl) rfl
theorem q867 : (Jvm.Cond.fieldLink "VectorVersions" (50 : Nat) "VectorVersions" "errorOffset" "I") ∈ lw_all := lw_g (lw_at lw_m4 13 rfl) rfl
theorem q868 : (Jvm.Cond.fieldLink "VectorVersions" (58 : Nat) "VectorVersions" "store" "LVectorVersions$Store;") ∈ lw_all := lw_g (lw_at lw_m4 14 rfl) rfl
theorem q869 : (Jvm.Cond.fieldLink "VectorVersions" (139 : Nat) "VectorVersions" "savedStore" "LVectorVersions$Store;") ∈ lw_all := lw_g (lw_at lw_m4 15 rfl) rfl
theorem q870 : (Jvm.Cond.fieldLink "VectorVersions" (65 : Nat) "VectorVersions" "history" "Ljava/util/ArrayDeque;") ∈ lw_all := lw_g (lw_at lw_m4 16 rfl) rfl
theorem q871 : (Jvm.Cond.fieldLink "VectorVersions" (72 : Nat) "VectorVersions" "output" "Ljava/lang/StringBuilder;") ∈ lw_all := lw_g (lw_at lw_m4 17 rfl) rfl
theorem q872 : (Jvm.Cond.laysFinal "VectorVersions" "VectorVersions" "buffer" "[B") ∈ lw_all := lw_g (lw_at lw_m4 18 rfl) rfl
theorem q873 : (Jvm.Cond.soleField "VectorVersions" "buffer") ∈ lw_all := lw_g (lw_at lw_m4 19 rfl) rfl
theorem q874 : (Jvm.Cond.lays "VectorVersions" "VectorVersions" "bufferLength" "I") ∈ lw_all := lw_g (lw_at lw_m4 20 rfl) rfl
theorem q875 : (Jvm.Cond.soleField "VectorVersions" "bufferLength") ∈ lw_all := lw_g (lw_at lw_m4 21 rfl) rfl
theorem q876 : (Jvm.Cond.lays "VectorVersions" "VectorVersions" "errorCode" "I") ∈ lw_all := lw_g (lw_at lw_m4 22 rfl) rfl
theorem q877 : (Jvm.Cond.soleField "VectorVersions" "errorCode") ∈ lw_all := lw_g (lw_at lw_m4 23 rfl) rfl
theorem q878 : (Jvm.Cond.lays "VectorVersions" "VectorVersions" "errorOffset" "I") ∈ lw_all := lw_g (lw_at lw_m4 24 rfl) rfl
theorem q879 : (Jvm.Cond.soleField "VectorVersions" "errorOffset") ∈ lw_all := lw_g (lw_at lw_m4 25 rfl) rfl
theorem q880 : (Jvm.Cond.lays "VectorVersions" "VectorVersions" "store" "LVectorVersions$Store;") ∈ lw_all := lw_g (lw_at lw_m4 26 rfl) rfl
theorem q881 : (Jvm.Cond.soleField "VectorVersions" "store") ∈ lw_all := lw_g (lw_at lw_m4 27 rfl) rfl
theorem q882 : (Jvm.Cond.lays "VectorVersions" "VectorVersions" "savedStore" "LVectorVersions$Store;") ∈ lw_all := lw_g (lw_at lw_m4 28 rfl) rfl
theorem q883 : (Jvm.Cond.soleField "VectorVersions" "savedStore") ∈ lw_all := lw_g (lw_at lw_m4 29 rfl) rfl
theorem q884 : (Jvm.Cond.laysFinal "VectorVersions" "VectorVersions" "history" "Ljava/util/ArrayDeque;") ∈ lw_all := lw_g (lw_at lw_m4 30 rfl) rfl
theorem q885 : (Jvm.Cond.soleField "VectorVersions" "history") ∈ lw_all := lw_g (lw_at lw_m4 31 rfl) rfl
theorem q886 : (Jvm.Cond.laysFinal "VectorVersions" "VectorVersions" "output" "Ljava/lang/StringBuilder;") ∈ lw_all := lw_g (lw_at lw_m4 32 rfl) rfl
theorem q887 : (Jvm.Cond.soleField "VectorVersions" "output") ∈ lw_all := lw_g (lw_at lw_m4 33 rfl) rfl
theorem q888 : (Jvm.Cond.superclass "VectorVersions" "java/lang/Object") ∈ lw_all := lw_g (lw_at lw_m4 34 rfl) rfl
theorem q890 : (Jvm.Cond.instanceMethod ({ cls := "VectorVersions", name := "appendInput", desc := "(IIIII)I" } : Jvm.MethodName)) ∈ lw_all := lw_g (lw_at lw_m4 36 rfl) rfl
theorem q891 : (Jvm.Cond.selects "VectorVersions" ({ cls := "VectorVersions", name := "appendInput", desc := "(IIIII)I" } : Jvm.MethodName) ({ cls := "VectorVersions", name := "appendInput", desc := "(IIIII)I" } : Jvm.MethodName)) ∈ lw_all := lw_g (lw_at lw_m4 37 rfl) rfl
theorem q892 : (Jvm.Cond.code ({ cls := "VectorVersions", name := "appendInput", desc := "(IIIII)I" } : Jvm.MethodName) prog_1_method_16_code (6 : Nat) (Option.some Jvm.ClassFile.FieldType.int)) ∈ lw_all := lw_g (lw_at lw_m4 38 rfl) rfl
theorem q893 : (Jvm.Cond.methodLink "VectorVersions" (101 : Nat) ({ cls := "VectorVersions", name := "append", desc := "([I)V" } : Jvm.MethodName)) ∈ lw_all := lw_g (lw_at lw_m4 39 rfl) rfl
theorem q894 : (Jvm.Cond.privateMethod ({ cls := "VectorVersions", name := "append", desc := "([I)V" } : Jvm.MethodName)) ∈ lw_tbl := lw_at lw_m4 40 rfl
theorem q895 : (Jvm.Cond.instanceMethod ({ cls := "VectorVersions", name := "append", desc := "([I)V" } : Jvm.MethodName)) ∈ lw_all := lw_g (lw_at lw_m4 41 rfl) rfl
theorem q896 : (Jvm.Cond.code ({ cls := "VectorVersions", name := "append", desc := "([I)V" } : Jvm.MethodName) prog_1_method_15_code (7 : Nat) (Option.none : Option Jvm.ClassFile.FieldType)) ∈ lw_all := lw_g (lw_at lw_m4 42 rfl) rfl
theorem q898 : (Jvm.Cond.instanceMethod ({ cls := "VectorVersions", name := "truncateInput", desc := "(I)Z" } : Jvm.MethodName)) ∈ lw_all := lw_g (lw_at lw_m4 44 rfl) rfl
theorem q899 : (Jvm.Cond.selects "VectorVersions" ({ cls := "VectorVersions", name := "truncateInput", desc := "(I)Z" } : Jvm.MethodName) ({ cls := "VectorVersions", name := "truncateInput", desc := "(I)Z" } : Jvm.MethodName)) ∈ lw_all := lw_g (lw_at lw_m4 45 rfl) rfl
theorem q900 : (Jvm.Cond.code ({ cls := "VectorVersions", name := "truncateInput", desc := "(I)Z" } : Jvm.MethodName) prog_1_method_17_code (2 : Nat) (Option.some Jvm.ClassFile.FieldType.boolean)) ∈ lw_all := lw_g (lw_at lw_m4 46 rfl) rfl
theorem q901 : (Jvm.Cond.methodLink "VectorVersions" (105 : Nat) ({ cls := "VectorVersions", name := "isBetween", desc := "(III)Z" } : Jvm.MethodName)) ∈ lw_all := lw_g (lw_at lw_m4 47 rfl) rfl
theorem q902 : (Jvm.Cond.static ({ cls := "VectorVersions", name := "isBetween", desc := "(III)Z" } : Jvm.MethodName)) ∈ lw_all := lw_g (lw_at lw_m4 48 rfl) rfl
theorem q903 : (Jvm.Cond.code ({ cls := "VectorVersions", name := "isBetween", desc := "(III)Z" } : Jvm.MethodName) prog_1_method_1_code (3 : Nat) (Option.some Jvm.ClassFile.FieldType.boolean)) ∈ lw_all := lw_g (lw_at lw_m4 49 rfl) rfl
theorem q905 : (Jvm.Cond.instanceMethod ({ cls := "VectorVersions", name := "loadSetup", desc := "()I" } : Jvm.MethodName)) ∈ lw_all := lw_g (lw_at lw_m4 51 rfl) rfl
theorem q906 : (Jvm.Cond.selects "VectorVersions" ({ cls := "VectorVersions", name := "loadSetup", desc := "()I" } : Jvm.MethodName) ({ cls := "VectorVersions", name := "loadSetup", desc := "()I" } : Jvm.MethodName)) ∈ lw_all := lw_g (lw_at lw_m4 52 rfl) rfl
theorem q907 : (Jvm.Cond.codeWith ({ cls := "VectorVersions", name := "loadSetup", desc := "()I" } : Jvm.MethodName) prog_1_method_20_code (2 : Nat) (Option.some Jvm.ClassFile.FieldType.int) [((4 : Nat), (26 : Nat), (29 : Nat), (113 : Nat))]) ∈ lw_all := lw_g (lw_at lw_m4 53 rfl) rfl
theorem q908 : (Jvm.Cond.classLink "VectorVersions" (113 : Nat) "VectorVersions$TextError") ∈ lw_all := lw_g (lw_at lw_m4 54 rfl) rfl
theorem q909 : (Jvm.Cond.methodLink "VectorVersions" (120 : Nat) ({ cls := "VectorVersions", name := "clearError", desc := "()V" } : Jvm.MethodName)) ∈ lw_all := lw_g (lw_at lw_m4 55 rfl) rfl
theorem q910 : (Jvm.Cond.privateMethod ({ cls := "VectorVersions", name := "clearError", desc := "()V" } : Jvm.MethodName)) ∈ lw_tbl := lw_at lw_m4 56 rfl
theorem q911 : (Jvm.Cond.instanceMethod ({ cls := "VectorVersions", name := "clearError", desc := "()V" } : Jvm.MethodName)) ∈ lw_all := lw_g (lw_at lw_m4 57 rfl) rfl
theorem q912 : (Jvm.Cond.code ({ cls := "VectorVersions", name := "clearError", desc := "()V" } : Jvm.MethodName) prog_1_method_18_code (1 : Nat) (Option.none : Option Jvm.ClassFile.FieldType)) ∈ lw_all := lw_g (lw_at lw_m4 58 rfl) rfl
theorem q913 : (Jvm.Cond.classLink "VectorVersions" (123 : Nat) "VectorVersions$Parser") ∈ lw_all := lw_g (lw_at lw_m4 59 rfl) rfl
theorem q915 : (Jvm.Cond.methodLink "VectorVersions" (125 : Nat) ({ cls := "VectorVersions$Parser", name := "<init>", desc := "(LVectorVersions;LVectorVersions$Store;)V" } : Jvm.MethodName)) ∈ lw_all := lw_g (lw_at lw_m4 61 rfl) rfl
theorem q997 : (Jvm.Cond.methodLink "VectorVersions" (128 : Nat) ({ cls := "VectorVersions$Parser", name := "setup", desc := "()LVectorVersions$Store;" } : Jvm.MethodName)) ∈ lw_all := lw_g (lw_at lw_m4 143 rfl) rfl
theorem q1039 : (Jvm.Cond.fieldLinkNest "VectorVersions" (112 : Nat) "VectorVersions$TextError" "code" "I" "VectorVersions") ∈ lw_tbl := lw_at lw_m4 185 rfl
theorem q1041 : (Jvm.Cond.fieldLinkNest "VectorVersions" (117 : Nat) "VectorVersions$TextError" "offset" "I" "VectorVersions") ∈ lw_tbl := lw_at lw_m4 187 rfl
theorem q1071 : (Jvm.Cond.methodLink "VectorVersions" (132 : Nat) ({ cls := "VectorVersions", name := "report", desc := "(LVectorVersions$TextError;)I" } : Jvm.MethodName)) ∈ lw_all := lw_g (lw_at lw_m4 217 rfl) rfl
theorem q1072 : (Jvm.Cond.privateMethod ({ cls := "VectorVersions", name := "report", desc := "(LVectorVersions$TextError;)I" } : Jvm.MethodName)) ∈ lw_tbl := lw_at lw_m4 218 rfl
theorem q1073 : (Jvm.Cond.instanceMethod ({ cls := "VectorVersions", name := "report", desc := "(LVectorVersions$TextError;)I" } : Jvm.MethodName)) ∈ lw_all := lw_g (lw_at lw_m4 219 rfl) rfl
theorem q1074 : (Jvm.Cond.code ({ cls := "VectorVersions", name := "report", desc := "(LVectorVersions$TextError;)I" } : Jvm.MethodName) prog_1_method_19_code (2 : Nat) (Option.some Jvm.ClassFile.FieldType.int)) ∈ lw_all := lw_g (lw_at lw_m4 220 rfl) rfl
theorem q1075 : (Jvm.Cond.methodLink "VectorVersions" (136 : Nat) ({ cls := "java/util/ArrayDeque", name := "clear", desc := "()V" } : Jvm.MethodName)) ∈ lw_all := lw_g (lw_at lw_m4 221 rfl) rfl
theorem q1082 : (Jvm.Cond.methodLink "VectorVersions" (142 : Nat) ({ cls := "VectorVersions$Store", name := "tree", desc := "(I)LVectorVersions$Tree;" } : Jvm.MethodName)) ∈ lw_all := lw_g (lw_at lw_m4 228 rfl) rfl
theorem q1091 : (Jvm.Cond.instanceMethod ({ cls := "VectorVersions", name := "runScript", desc := "()I" } : Jvm.MethodName)) ∈ lw_all := lw_g (lw_at lw_m4 237 rfl) rfl
theorem q1092 : (Jvm.Cond.selects "VectorVersions" ({ cls := "VectorVersions", name := "runScript", desc := "()I" } : Jvm.MethodName) ({ cls := "VectorVersions", name := "runScript", desc := "()I" } : Jvm.MethodName)) ∈ lw_all := lw_g (lw_at lw_m4 238 rfl) rfl
theorem q1093 : (Jvm.Cond.codeWith ({ cls := "VectorVersions", name := "runScript", desc := "()I" } : Jvm.MethodName) prog_1_method_23_code (3 : Nat) (Option.some Jvm.ClassFile.FieldType.int) [((4 : Nat), (20 : Nat), (23 : Nat), (113 : Nat))]) ∈ lw_all := lw_g (lw_at lw_m4 239 rfl) rfl
theorem q1094 : (Jvm.Cond.methodLink "VectorVersions" (173 : Nat) ({ cls := "VectorVersions$Parser", name := "script", desc := "()Ljava/util/List;" } : Jvm.MethodName)) ∈ lw_all := lw_g (lw_at lw_m5 0 rfl) rfl
theorem q1181 : (Jvm.Cond.static ({ cls := "VectorVersions", name := "setting", desc := "(III)LVectorVersions$Action;" } : Jvm.MethodName)) ∈ lw_all := lw_g (lw_at lw_m5 87 rfl) rfl
theorem q1182 : (Jvm.Cond.code ({ cls := "VectorVersions", name := "setting", desc := "(III)LVectorVersions$Action;" } : Jvm.MethodName) prog_1_method_8_code (3 : Nat) (Option.some (Jvm.ClassFile.FieldType.object "VectorVersions$Action"))) ∈ lw_all := lw_g (lw_at lw_m5 88 rfl) rfl
theorem q1183 : (Jvm.Cond.classLink "VectorVersions" (22 : Nat) "VectorVersions$1") ∈ lw_all := lw_g (lw_at lw_m5 89 rfl) rfl
theorem q1185 : (Jvm.Cond.methodLink "VectorVersions" (24 : Nat) ({ cls := "VectorVersions$1", name := "<init>", desc := "(III)V" } : Jvm.MethodName)) ∈ lw_all := lw_g (lw_at lw_m5 91 rfl) rfl
theorem q1207 : (Jvm.Cond.static ({ cls := "VectorVersions", name := "appending", desc := "(II)LVectorVersions$Action;" } : Jvm.MethodName)) ∈ lw_all := lw_g (lw_at lw_m5 113 rfl) rfl
theorem q1208 : (Jvm.Cond.code ({ cls := "VectorVersions", name := "appending", desc := "(II)LVectorVersions$Action;" } : Jvm.MethodName) prog_1_method_9_code (2 : Nat) (Option.some (Jvm.ClassFile.FieldType.object "VectorVersions$Action"))) ∈ lw_all := lw_g (lw_at lw_m5 114 rfl) rfl
theorem q1209 : (Jvm.Cond.classLink "VectorVersions" (27 : Nat) "VectorVersions$2") ∈ lw_all := lw_g (lw_at lw_m5 115 rfl) rfl
theorem q1211 : (Jvm.Cond.methodLink "VectorVersions" (29 : Nat) ({ cls := "VectorVersions$2", name := "<init>", desc := "(II)V" } : Jvm.MethodName)) ∈ lw_all := lw_g (lw_at lw_m5 117 rfl) rfl
theorem q1227 : (Jvm.Cond.static ({ cls := "VectorVersions", name := "truncating", desc := "(II)LVectorVersions$Action;" } : Jvm.MethodName)) ∈ lw_all := lw_g (lw_at lw_m5 133 rfl) rfl
theorem q1228 : (Jvm.Cond.code ({ cls := "VectorVersions", name := "truncating", desc := "(II)LVectorVersions$Action;" } : Jvm.MethodName) prog_1_method_10_code (2 : Nat) (Option.some (Jvm.ClassFile.FieldType.object "VectorVersions$Action"))) ∈ lw_all := lw_g (lw_at lw_m5 134 rfl) rfl
theorem q1229 : (Jvm.Cond.classLink "VectorVersions" (32 : Nat) "VectorVersions$3") ∈ lw_all := lw_g (lw_at lw_m5 135 rfl) rfl
theorem q1231 : (Jvm.Cond.methodLink "VectorVersions" (34 : Nat) ({ cls := "VectorVersions$3", name := "<init>", desc := "(II)V" } : Jvm.MethodName)) ∈ lw_all := lw_g (lw_at lw_m5 137 rfl) rfl
theorem q1243 : (Jvm.Cond.static ({ cls := "VectorVersions", name := "releasing", desc := "(I)LVectorVersions$Action;" } : Jvm.MethodName)) ∈ lw_all := lw_g (lw_at lw_m5 149 rfl) rfl
theorem q1244 : (Jvm.Cond.code ({ cls := "VectorVersions", name := "releasing", desc := "(I)LVectorVersions$Action;" } : Jvm.MethodName) prog_1_method_11_code (1 : Nat) (Option.some (Jvm.ClassFile.FieldType.object "VectorVersions$Action"))) ∈ lw_all := lw_g (lw_at lw_m5 150 rfl) rfl
theorem q1245 : (Jvm.Cond.classLink "VectorVersions" (35 : Nat) "VectorVersions$4") ∈ lw_all := lw_g (lw_at lw_m5 151 rfl) rfl
theorem q1247 : (Jvm.Cond.methodLink "VectorVersions" (37 : Nat) ({ cls := "VectorVersions$4", name := "<init>", desc := "(I)V" } : Jvm.MethodName)) ∈ lw_all := lw_g (lw_at lw_m5 153 rfl) rfl
theorem q1256 : (Jvm.Cond.static ({ cls := "VectorVersions", name := "collecting", desc := "()LVectorVersions$Action;" } : Jvm.MethodName)) ∈ lw_all := lw_g (lw_at lw_m5 162 rfl) rfl
theorem q1257 : (Jvm.Cond.code ({ cls := "VectorVersions", name := "collecting", desc := "()LVectorVersions$Action;" } : Jvm.MethodName) prog_1_method_12_code (0 : Nat) (Option.some (Jvm.ClassFile.FieldType.object "VectorVersions$Action"))) ∈ lw_all := lw_g (lw_at lw_m5 163 rfl) rfl
theorem q1258 : (Jvm.Cond.classLink "VectorVersions" (40 : Nat) "VectorVersions$5") ∈ lw_all := lw_g (lw_at lw_m5 164 rfl) rfl
theorem q1260 : (Jvm.Cond.methodLink "VectorVersions" (42 : Nat) ({ cls := "VectorVersions$5", name := "<init>", desc := "()V" } : Jvm.MethodName)) ∈ lw_all := lw_g (lw_at lw_m5 166 rfl) rfl
theorem q1265 : (Jvm.Cond.methodLink "VectorVersions" (177 : Nat) ({ cls := "VectorVersions$Store", name := "copy", desc := "()LVectorVersions$Store;" } : Jvm.MethodName)) ∈ lw_all := lw_g (lw_at lw_m5 171 rfl) rfl
theorem q1277 : (Jvm.Cond.methodLink "VectorVersions" (180 : Nat) ({ cls := "VectorVersions", name := "remember", desc := "(LVectorVersions$Store;)V" } : Jvm.MethodName)) ∈ lw_all := lw_g (lw_at lw_m5 183 rfl) rfl
theorem q1278 : (Jvm.Cond.privateMethod ({ cls := "VectorVersions", name := "remember", desc := "(LVectorVersions$Store;)V" } : Jvm.MethodName)) ∈ lw_tbl := lw_at lw_m5 184 rfl
theorem q1279 : (Jvm.Cond.instanceMethod ({ cls := "VectorVersions", name := "remember", desc := "(LVectorVersions$Store;)V" } : Jvm.MethodName)) ∈ lw_all := lw_g (lw_at lw_m5 185 rfl) rfl
theorem q1280 : (Jvm.Cond.code ({ cls := "VectorVersions", name := "remember", desc := "(LVectorVersions$Store;)V" } : Jvm.MethodName) prog_1_method_21_code (3 : Nat) (Option.none : Option Jvm.ClassFile.FieldType)) ∈ lw_all := lw_g (lw_at lw_m5 186 rfl) rfl
theorem q1281 : (Jvm.Cond.methodLink "VectorVersions" (151 : Nat) ({ cls := "java/util/ArrayDeque", name := "size", desc := "()I" } : Jvm.MethodName)) ∈ lw_all := lw_g (lw_at lw_m5 187 rfl) rfl
theorem q1288 : (Jvm.Cond.methodLink "VectorVersions" (154 : Nat) ({ cls := "java/util/ArrayDeque", name := "removeFirst", desc := "()Ljava/lang/Object;" } : Jvm.MethodName)) ∈ lw_all := lw_g (lw_at lw_m5 194 rfl) rfl
theorem q1323 : (Jvm.Cond.methodLink "VectorVersions" (158 : Nat) ({ cls := "java/util/ArrayDeque", name := "addLast", desc := "(Ljava/lang/Object;)V" } : Jvm.MethodName)) ∈ lw_all := lw_g (lw_at lw_m5 229 rfl) rfl
theorem q1354 : (Jvm.Cond.methodLink "VectorVersions" (184 : Nat) ({ cls := "VectorVersions", name := "execute", desc := "(Ljava/util/List;)I" } : Jvm.MethodName)) ∈ lw_all := lw_g (lw_at lw_m6 20 rfl) rfl
theorem q1355 : (Jvm.Cond.privateMethod ({ cls := "VectorVersions", name := "execute", desc := "(Ljava/util/List;)I" } : Jvm.MethodName)) ∈ lw_tbl := lw_at lw_m6 21 rfl
theorem q1356 : (Jvm.Cond.instanceMethod ({ cls := "VectorVersions", name := "execute", desc := "(Ljava/util/List;)I" } : Jvm.MethodName)) ∈ lw_all := lw_g (lw_at lw_m6 22 rfl) rfl
theorem q1357 : (Jvm.Cond.codeWith ({ cls := "VectorVersions", name := "execute", desc := "(Ljava/util/List;)I" } : Jvm.MethodName) prog_1_method_22_code (4 : Nat) (Option.some Jvm.ClassFile.FieldType.int) [((2 : Nat), (36 : Nat), (39 : Nat), (10 : Nat))]) ∈ lw_all := lw_g (lw_at lw_m6 23 rfl) rfl
theorem q1358 : (Jvm.Cond.classLink "VectorVersions" (10 : Nat) "java/lang/IllegalStateException") ∈ lw_all := lw_g (lw_at lw_m6 24 rfl) rfl
theorem q1359 : (Jvm.Cond.interfaceEntry "VectorVersions" (162 : Nat)) ∈ lw_tbl := lw_at lw_m6 25 rfl
theorem q1360 : (Jvm.Cond.methodLink "VectorVersions" (162 : Nat) ({ cls := "java/util/List", name := "size", desc := "()I" } : Jvm.MethodName)) ∈ lw_all := lw_g (lw_at lw_m6 26 rfl) rfl
theorem q1361 : (Jvm.Cond.interfaceEntry "VectorVersions" (163 : Nat)) ∈ lw_tbl := lw_at lw_m6 27 rfl
theorem q1362 : (Jvm.Cond.methodLink "VectorVersions" (163 : Nat) ({ cls := "java/util/List", name := "get", desc := "(I)Ljava/lang/Object;" } : Jvm.MethodName)) ∈ lw_all := lw_g (lw_at lw_m6 28 rfl) rfl
theorem q1363 : (Jvm.Cond.classLink "VectorVersions" (167 : Nat) "VectorVersions$Action") ∈ lw_all := lw_g (lw_at lw_m6 29 rfl) rfl
theorem q1364 : (Jvm.Cond.methodLink "VectorVersions" (169 : Nat) ({ cls := "VectorVersions$Action", name := "run", desc := "(LVectorVersions$Store;)I" } : Jvm.MethodName)) ∈ lw_all := lw_g (lw_at lw_m6 30 rfl) rfl
theorem q1379 : (Jvm.Cond.static ({ cls := "VectorVersions", name := "checkState", desc := "(Z)V" } : Jvm.MethodName)) ∈ lw_all := lw_g (lw_at lw_m6 45 rfl) rfl
theorem q1380 : (Jvm.Cond.code ({ cls := "VectorVersions", name := "checkState", desc := "(Z)V" } : Jvm.MethodName) prog_1_method_4_code (1 : Nat) (Option.none : Option Jvm.ClassFile.FieldType)) ∈ lw_all := lw_g (lw_at lw_m6 46 rfl) rfl
theorem q1381 : (Jvm.Cond.methodLink "VectorVersions" (12 : Nat) ({ cls := "java/lang/IllegalStateException", name := "<init>", desc := "()V" } : Jvm.MethodName)) ∈ lw_all := lw_g (lw_at lw_m6 47 rfl) rfl
theorem q1677 : (Jvm.Cond.instanceMethod ({ cls := "VectorVersions", name := "errorCode", desc := "()I" } : Jvm.MethodName)) ∈ lw_all := lw_g (lw_at lw_m7 103 rfl) rfl
theorem q1678 : (Jvm.Cond.selects "VectorVersions" ({ cls := "VectorVersions", name := "errorCode", desc := "()I" } : Jvm.MethodName) ({ cls := "VectorVersions", name := "errorCode", desc := "()I" } : Jvm.MethodName)) ∈ lw_all := lw_g (lw_at lw_m7 104 rfl) rfl
theorem q1679 : (Jvm.Cond.code ({ cls := "VectorVersions", name := "errorCode", desc := "()I" } : Jvm.MethodName) prog_1_method_24_code (1 : Nat) (Option.some Jvm.ClassFile.FieldType.int)) ∈ lw_all := lw_g (lw_at lw_m7 105 rfl) rfl
theorem q1681 : (Jvm.Cond.instanceMethod ({ cls := "VectorVersions", name := "errorOffset", desc := "()I" } : Jvm.MethodName)) ∈ lw_all := lw_g (lw_at lw_m7 107 rfl) rfl
theorem q1682 : (Jvm.Cond.selects "VectorVersions" ({ cls := "VectorVersions", name := "errorOffset", desc := "()I" } : Jvm.MethodName) ({ cls := "VectorVersions", name := "errorOffset", desc := "()I" } : Jvm.MethodName)) ∈ lw_all := lw_g (lw_at lw_m7 108 rfl) rfl
theorem q1683 : (Jvm.Cond.code ({ cls := "VectorVersions", name := "errorOffset", desc := "()I" } : Jvm.MethodName) prog_1_method_25_code (1 : Nat) (Option.some Jvm.ClassFile.FieldType.int)) ∈ lw_all := lw_g (lw_at lw_m7 109 rfl) rfl
theorem q1685 : (Jvm.Cond.instanceMethod ({ cls := "VectorVersions", name := "versionCount", desc := "()I" } : Jvm.MethodName)) ∈ lw_all := lw_g (lw_at lw_m7 111 rfl) rfl
theorem q1686 : (Jvm.Cond.selects "VectorVersions" ({ cls := "VectorVersions", name := "versionCount", desc := "()I" } : Jvm.MethodName) ({ cls := "VectorVersions", name := "versionCount", desc := "()I" } : Jvm.MethodName)) ∈ lw_all := lw_g (lw_at lw_m7 112 rfl) rfl
theorem q1687 : (Jvm.Cond.code ({ cls := "VectorVersions", name := "versionCount", desc := "()I" } : Jvm.MethodName) prog_1_method_31_code (1 : Nat) (Option.some Jvm.ClassFile.FieldType.int)) ∈ lw_all := lw_g (lw_at lw_m7 113 rfl) rfl
theorem q1689 : (Jvm.Cond.instanceMethod ({ cls := "VectorVersions", name := "liveCount", desc := "()I" } : Jvm.MethodName)) ∈ lw_all := lw_g (lw_at lw_m7 115 rfl) rfl
theorem q1690 : (Jvm.Cond.selects "VectorVersions" ({ cls := "VectorVersions", name := "liveCount", desc := "()I" } : Jvm.MethodName) ({ cls := "VectorVersions", name := "liveCount", desc := "()I" } : Jvm.MethodName)) ∈ lw_all := lw_g (lw_at lw_m7 116 rfl) rfl
theorem q1691 : (Jvm.Cond.code ({ cls := "VectorVersions", name := "liveCount", desc := "()I" } : Jvm.MethodName) prog_1_method_32_code (3 : Nat) (Option.some Jvm.ClassFile.FieldType.int)) ∈ lw_all := lw_g (lw_at lw_m7 117 rfl) rfl
theorem q1692 : (Jvm.Cond.methodLink "VectorVersions" (196 : Nat) ({ cls := "VectorVersions$Store", name := "version", desc := "(I)LVectorVersions$Version;" } : Jvm.MethodName)) ∈ lw_all := lw_g (lw_at lw_m7 118 rfl) rfl
theorem q1694 : (Jvm.Cond.instanceMethod ({ cls := "VectorVersions", name := "createdNodes", desc := "()I" } : Jvm.MethodName)) ∈ lw_all := lw_g (lw_at lw_m7 120 rfl) rfl
theorem q1695 : (Jvm.Cond.selects "VectorVersions" ({ cls := "VectorVersions", name := "createdNodes", desc := "()I" } : Jvm.MethodName) ({ cls := "VectorVersions", name := "createdNodes", desc := "()I" } : Jvm.MethodName)) ∈ lw_all := lw_g (lw_at lw_m7 121 rfl) rfl
theorem q1696 : (Jvm.Cond.code ({ cls := "VectorVersions", name := "createdNodes", desc := "()I" } : Jvm.MethodName) prog_1_method_45_code (1 : Nat) (Option.some Jvm.ClassFile.FieldType.int)) ∈ lw_all := lw_g (lw_at lw_m7 122 rfl) rfl
theorem q1698 : (Jvm.Cond.instanceMethod ({ cls := "VectorVersions", name := "storedNodes", desc := "()I" } : Jvm.MethodName)) ∈ lw_all := lw_g (lw_at lw_m7 124 rfl) rfl
theorem q1699 : (Jvm.Cond.selects "VectorVersions" ({ cls := "VectorVersions", name := "storedNodes", desc := "()I" } : Jvm.MethodName) ({ cls := "VectorVersions", name := "storedNodes", desc := "()I" } : Jvm.MethodName)) ∈ lw_all := lw_g (lw_at lw_m7 125 rfl) rfl
theorem q1700 : (Jvm.Cond.code ({ cls := "VectorVersions", name := "storedNodes", desc := "()I" } : Jvm.MethodName) prog_1_method_46_code (1 : Nat) (Option.some Jvm.ClassFile.FieldType.int)) ∈ lw_all := lw_g (lw_at lw_m7 126 rfl) rfl
theorem q1702 : (Jvm.Cond.instanceMethod ({ cls := "VectorVersions", name := "garbageNodes", desc := "()I" } : Jvm.MethodName)) ∈ lw_all := lw_g (lw_at lw_m7 128 rfl) rfl
theorem q1703 : (Jvm.Cond.selects "VectorVersions" ({ cls := "VectorVersions", name := "garbageNodes", desc := "()I" } : Jvm.MethodName) ({ cls := "VectorVersions", name := "garbageNodes", desc := "()I" } : Jvm.MethodName)) ∈ lw_all := lw_g (lw_at lw_m7 129 rfl) rfl
theorem q1704 : (Jvm.Cond.code ({ cls := "VectorVersions", name := "garbageNodes", desc := "()I" } : Jvm.MethodName) prog_1_method_47_code (1 : Nat) (Option.some Jvm.ClassFile.FieldType.int)) ∈ lw_all := lw_g (lw_at lw_m7 130 rfl) rfl
theorem q1705 : (Jvm.Cond.methodLink "VectorVersions" (276 : Nat) ({ cls := "VectorVersions$Store", name := "garbage", desc := "()I" } : Jvm.MethodName)) ∈ lw_all := lw_g (lw_at lw_m7 131 rfl) rfl
theorem q1707 : (Jvm.Cond.instanceMethod ({ cls := "VectorVersions", name := "largestVersion", desc := "()I" } : Jvm.MethodName)) ∈ lw_all := lw_g (lw_at lw_m7 133 rfl) rfl
theorem q1708 : (Jvm.Cond.selects "VectorVersions" ({ cls := "VectorVersions", name := "largestVersion", desc := "()I" } : Jvm.MethodName) ({ cls := "VectorVersions", name := "largestVersion", desc := "()I" } : Jvm.MethodName)) ∈ lw_all := lw_g (lw_at lw_m7 134 rfl) rfl
theorem q1709 : (Jvm.Cond.code ({ cls := "VectorVersions", name := "largestVersion", desc := "()I" } : Jvm.MethodName) prog_1_method_63_code (3 : Nat) (Option.some Jvm.ClassFile.FieldType.int)) ∈ lw_all := lw_g (lw_at lw_m7 135 rfl) rfl
theorem q1711 : (Jvm.Cond.instanceMethod ({ cls := "VectorVersions", name := "sharing", desc := "()D" } : Jvm.MethodName)) ∈ lw_all := lw_g (lw_at lw_m7 137 rfl) rfl
theorem q1712 : (Jvm.Cond.selects "VectorVersions" ({ cls := "VectorVersions", name := "sharing", desc := "()D" } : Jvm.MethodName) ({ cls := "VectorVersions", name := "sharing", desc := "()D" } : Jvm.MethodName)) ∈ lw_all := lw_g (lw_at lw_m7 138 rfl) rfl
theorem q1713 : (Jvm.Cond.code ({ cls := "VectorVersions", name := "sharing", desc := "()D" } : Jvm.MethodName) prog_1_method_64_code (3 : Nat) (Option.some Jvm.ClassFile.FieldType.double)) ∈ lw_all := lw_g (lw_at lw_m7 139 rfl) rfl
theorem q1714 : (Jvm.Cond.methodLink "VectorVersions" (280 : Nat) ({ cls := "VectorVersions$Store", name := "reachableFrom", desc := "(I)[Z" } : Jvm.MethodName)) ∈ lw_all := lw_g (lw_at lw_m7 140 rfl) rfl
theorem q1718 : (Jvm.Cond.methodLink "VectorVersions" (284 : Nat) ({ cls := "VectorVersions$Store", name := "count", desc := "([Z)I" } : Jvm.MethodName)) ∈ lw_all := lw_g (lw_at lw_m7 144 rfl) rfl
theorem q1719 : (Jvm.Cond.methodLink "VectorVersions" (295 : Nat) ({ cls := "VectorVersions$Store", name := "reachable", desc := "(I)[Z" } : Jvm.MethodName)) ∈ lw_all := lw_g (lw_at lw_m7 145 rfl) rfl
theorem q1721 : (Jvm.Cond.instanceMethod ({ cls := "VectorVersions", name := "garbagePart", desc := "()F" } : Jvm.MethodName)) ∈ lw_all := lw_g (lw_at lw_m7 147 rfl) rfl
theorem q1722 : (Jvm.Cond.selects "VectorVersions" ({ cls := "VectorVersions", name := "garbagePart", desc := "()F" } : Jvm.MethodName) ({ cls := "VectorVersions", name := "garbagePart", desc := "()F" } : Jvm.MethodName)) ∈ lw_all := lw_g (lw_at lw_m7 148 rfl) rfl
theorem q1723 : (Jvm.Cond.code ({ cls := "VectorVersions", name := "garbagePart", desc := "()F" } : Jvm.MethodName) prog_1_method_65_code (1 : Nat) (Option.some Jvm.ClassFile.FieldType.float)) ∈ lw_all := lw_g (lw_at lw_m7 149 rfl) rfl
theorem q1724 : (Jvm.Cond.interfaceEntry "VectorVersions" (338 : Nat)) ∈ lw_tbl := lw_at lw_m7 150 rfl
theorem q1725 : (Jvm.Cond.methodLink "VectorVersions" (338 : Nat) ({ cls := "java/util/List", name := "isEmpty", desc := "()Z" } : Jvm.MethodName)) ∈ lw_all := lw_g (lw_at lw_m7 151 rfl) rfl
theorem q1727 : (Jvm.Cond.instanceMethod ({ cls := "VectorVersions", name := "isConsistent", desc := "()Z" } : Jvm.MethodName)) ∈ lw_all := lw_g (lw_at lw_m7 153 rfl) rfl
theorem q1728 : (Jvm.Cond.selects "VectorVersions" ({ cls := "VectorVersions", name := "isConsistent", desc := "()Z" } : Jvm.MethodName) ({ cls := "VectorVersions", name := "isConsistent", desc := "()Z" } : Jvm.MethodName)) ∈ lw_all := lw_g (lw_at lw_m7 154 rfl) rfl
theorem q1729 : (Jvm.Cond.code ({ cls := "VectorVersions", name := "isConsistent", desc := "()Z" } : Jvm.MethodName) prog_1_method_66_code (1 : Nat) (Option.some Jvm.ClassFile.FieldType.boolean)) ∈ lw_all := lw_g (lw_at lw_m7 155 rfl) rfl
theorem q1730 : (Jvm.Cond.methodLink "VectorVersions" (341 : Nat) ({ cls := "VectorVersions$Store", name := "isConsistent", desc := "()Z" } : Jvm.MethodName)) ∈ lw_all := lw_g (lw_at lw_m7 156 rfl) rfl
theorem q1789 : (Jvm.Cond.instanceMethod ({ cls := "VectorVersions", name := "collect", desc := "()I" } : Jvm.MethodName)) ∈ lw_all := lw_g (lw_at lw_m7 215 rfl) rfl
theorem q1790 : (Jvm.Cond.selects "VectorVersions" ({ cls := "VectorVersions", name := "collect", desc := "()I" } : Jvm.MethodName) ({ cls := "VectorVersions", name := "collect", desc := "()I" } : Jvm.MethodName)) ∈ lw_all := lw_g (lw_at lw_m7 216 rfl) rfl
theorem q1791 : (Jvm.Cond.code ({ cls := "VectorVersions", name := "collect", desc := "()I" } : Jvm.MethodName) prog_1_method_72_code (1 : Nat) (Option.some Jvm.ClassFile.FieldType.int)) ∈ lw_all := lw_g (lw_at lw_m7 217 rfl) rfl
theorem q1792 : (Jvm.Cond.methodLink "VectorVersions" (363 : Nat) ({ cls := "VectorVersions", name := "collecting", desc := "()LVectorVersions$Action;" } : Jvm.MethodName)) ∈ lw_all := lw_g (lw_at lw_m7 218 rfl) rfl
theorem q1793 : (Jvm.Cond.methodLink "VectorVersions" (348 : Nat) ({ cls := "VectorVersions", name := "change", desc := "(LVectorVersions$Action;)I" } : Jvm.MethodName)) ∈ lw_all := lw_g (lw_at lw_m7 219 rfl) rfl
theorem q1794 : (Jvm.Cond.privateMethod ({ cls := "VectorVersions", name := "change", desc := "(LVectorVersions$Action;)I" } : Jvm.MethodName)) ∈ lw_tbl := lw_at lw_m7 220 rfl
theorem q1795 : (Jvm.Cond.instanceMethod ({ cls := "VectorVersions", name := "change", desc := "(LVectorVersions$Action;)I" } : Jvm.MethodName)) ∈ lw_all := lw_g (lw_at lw_m7 221 rfl) rfl
theorem q1796 : (Jvm.Cond.code ({ cls := "VectorVersions", name := "change", desc := "(LVectorVersions$Action;)I" } : Jvm.MethodName) prog_1_method_67_code (4 : Nat) (Option.some Jvm.ClassFile.FieldType.int)) ∈ lw_all := lw_g (lw_at lw_m7 222 rfl) rfl
theorem q1798 : (Jvm.Cond.instanceMethod ({ cls := "VectorVersions", name := "outputByte", desc := "(I)I" } : Jvm.MethodName)) ∈ lw_all := lw_g (lw_at lw_m7 224 rfl) rfl
theorem q1799 : (Jvm.Cond.selects "VectorVersions" ({ cls := "VectorVersions", name := "outputByte", desc := "(I)I" } : Jvm.MethodName) ({ cls := "VectorVersions", name := "outputByte", desc := "(I)I" } : Jvm.MethodName)) ∈ lw_all := lw_g (lw_at lw_m7 225 rfl) rfl
theorem q1800 : (Jvm.Cond.code ({ cls := "VectorVersions", name := "outputByte", desc := "(I)I" } : Jvm.MethodName) prog_1_method_75_code (2 : Nat) (Option.some Jvm.ClassFile.FieldType.int)) ∈ lw_all := lw_g (lw_at lw_m7 226 rfl) rfl
theorem q1801 : (Jvm.Cond.methodLink "VectorVersions" (383 : Nat) ({ cls := "java/lang/StringBuilder", name := "length", desc := "()I" } : Jvm.MethodName)) ∈ lw_all := lw_g (lw_at lw_m7 227 rfl) rfl
theorem q1802 : (Jvm.Cond.methodLink "VectorVersions" (386 : Nat) ({ cls := "java/lang/StringBuilder", name := "charAt", desc := "(I)C" } : Jvm.MethodName)) ∈ lw_all := lw_g (lw_at lw_m7 228 rfl) rfl
theorem q1813 : (Jvm.Cond.instanceMethod ({ cls := "VectorVersions", name := "saveState", desc := "()I" } : Jvm.MethodName)) ∈ lw_all := lw_g (lw_at lw_m7 239 rfl) rfl
theorem q1814 : (Jvm.Cond.selects "VectorVersions" ({ cls := "VectorVersions", name := "saveState", desc := "()I" } : Jvm.MethodName) ({ cls := "VectorVersions", name := "saveState", desc := "()I" } : Jvm.MethodName)) ∈ lw_all := lw_g (lw_at lw_m8 0 rfl) rfl
theorem q1815 : (Jvm.Cond.code ({ cls := "VectorVersions", name := "saveState", desc := "()I" } : Jvm.MethodName) prog_1_method_76_code (1 : Nat) (Option.some Jvm.ClassFile.FieldType.int)) ∈ lw_all := lw_g (lw_at lw_m8 1 rfl) rfl
theorem q1836 : (Jvm.Cond.instanceMethod ({ cls := "VectorVersions", name := "isReleased", desc := "(I)Z" } : Jvm.MethodName)) ∈ lw_all := lw_g (lw_at lw_m8 22 rfl) rfl
theorem q1837 : (Jvm.Cond.selects "VectorVersions" ({ cls := "VectorVersions", name := "isReleased", desc := "(I)Z" } : Jvm.MethodName) ({ cls := "VectorVersions", name := "isReleased", desc := "(I)Z" } : Jvm.MethodName)) ∈ lw_all := lw_g (lw_at lw_m8 23 rfl) rfl
theorem q1838 : (Jvm.Cond.code ({ cls := "VectorVersions", name := "isReleased", desc := "(I)Z" } : Jvm.MethodName) prog_1_method_33_code (2 : Nat) (Option.some Jvm.ClassFile.FieldType.boolean)) ∈ lw_all := lw_g (lw_at lw_m8 24 rfl) rfl
theorem q1839 : (Jvm.Cond.methodLink "VectorVersions" (200 : Nat) ({ cls := "VectorVersions", name := "version", desc := "(I)LVectorVersions$Version;" } : Jvm.MethodName)) ∈ lw_all := lw_g (lw_at lw_m8 25 rfl) rfl
theorem q1840 : (Jvm.Cond.privateMethod ({ cls := "VectorVersions", name := "version", desc := "(I)LVectorVersions$Version;" } : Jvm.MethodName)) ∈ lw_tbl := lw_at lw_m8 26 rfl
theorem q1841 : (Jvm.Cond.instanceMethod ({ cls := "VectorVersions", name := "version", desc := "(I)LVectorVersions$Version;" } : Jvm.MethodName)) ∈ lw_all := lw_g (lw_at lw_m8 27 rfl) rfl
theorem q1842 : (Jvm.Cond.code ({ cls := "VectorVersions", name := "version", desc := "(I)LVectorVersions$Version;" } : Jvm.MethodName) prog_1_method_26_code (2 : Nat) (Option.some (Jvm.ClassFile.FieldType.object "VectorVersions$Version"))) ∈ lw_all := lw_g (lw_at lw_m8 28 rfl) rfl
theorem q1843 : (Jvm.Cond.methodLink "VectorVersions" (192 : Nat) ({ cls := "VectorVersions", name := "checkIndex", desc := "(Z)V" } : Jvm.MethodName)) ∈ lw_all := lw_g (lw_at lw_m8 29 rfl) rfl
theorem q1844 : (Jvm.Cond.static ({ cls := "VectorVersions", name := "checkIndex", desc := "(Z)V" } : Jvm.MethodName)) ∈ lw_all := lw_g (lw_at lw_m8 30 rfl) rfl
theorem q1845 : (Jvm.Cond.code ({ cls := "VectorVersions", name := "checkIndex", desc := "(Z)V" } : Jvm.MethodName) prog_1_method_3_code (1 : Nat) (Option.none : Option Jvm.ClassFile.FieldType)) ∈ lw_all := lw_g (lw_at lw_m8 31 rfl) rfl
theorem q1846 : (Jvm.Cond.classLink "VectorVersions" (7 : Nat) "java/lang/IndexOutOfBoundsException") ∈ lw_all := lw_g (lw_at lw_m8 32 rfl) rfl
theorem q1847 : (Jvm.Cond.methodLink "VectorVersions" (9 : Nat) ({ cls := "java/lang/IndexOutOfBoundsException", name := "<init>", desc := "()V" } : Jvm.MethodName)) ∈ lw_all := lw_g (lw_at lw_m8 33 rfl) rfl
theorem q1855 : (Jvm.Cond.instanceMethod ({ cls := "VectorVersions", name := "parentOf", desc := "(I)I" } : Jvm.MethodName)) ∈ lw_all := lw_g (lw_at lw_m8 41 rfl) rfl
theorem q1856 : (Jvm.Cond.selects "VectorVersions" ({ cls := "VectorVersions", name := "parentOf", desc := "(I)I" } : Jvm.MethodName) ({ cls := "VectorVersions", name := "parentOf", desc := "(I)I" } : Jvm.MethodName)) ∈ lw_all := lw_g (lw_at lw_m8 42 rfl) rfl
theorem q1857 : (Jvm.Cond.code ({ cls := "VectorVersions", name := "parentOf", desc := "(I)I" } : Jvm.MethodName) prog_1_method_34_code (2 : Nat) (Option.some Jvm.ClassFile.FieldType.int)) ∈ lw_all := lw_g (lw_at lw_m8 43 rfl) rfl
theorem q1862 : (Jvm.Cond.instanceMethod ({ cls := "VectorVersions", name := "depthOf", desc := "(I)I" } : Jvm.MethodName)) ∈ lw_all := lw_g (lw_at lw_m8 48 rfl) rfl
theorem q1863 : (Jvm.Cond.selects "VectorVersions" ({ cls := "VectorVersions", name := "depthOf", desc := "(I)I" } : Jvm.MethodName) ({ cls := "VectorVersions", name := "depthOf", desc := "(I)I" } : Jvm.MethodName)) ∈ lw_all := lw_g (lw_at lw_m8 49 rfl) rfl
theorem q1864 : (Jvm.Cond.code ({ cls := "VectorVersions", name := "depthOf", desc := "(I)I" } : Jvm.MethodName) prog_1_method_35_code (2 : Nat) (Option.some Jvm.ClassFile.FieldType.int)) ∈ lw_all := lw_g (lw_at lw_m8 50 rfl) rfl
theorem q1865 : (Jvm.Cond.methodLink "VectorVersions" (223 : Nat) ({ cls := "VectorVersions$Store", name := "depth", desc := "(I)I" } : Jvm.MethodName)) ∈ lw_all := lw_g (lw_at lw_m8 51 rfl) rfl
theorem q1873 : (Jvm.Cond.instanceMethod ({ cls := "VectorVersions", name := "childCount", desc := "(I)I" } : Jvm.MethodName)) ∈ lw_all := lw_g (lw_at lw_m8 59 rfl) rfl
theorem q1874 : (Jvm.Cond.selects "VectorVersions" ({ cls := "VectorVersions", name := "childCount", desc := "(I)I" } : Jvm.MethodName) ({ cls := "VectorVersions", name := "childCount", desc := "(I)I" } : Jvm.MethodName)) ∈ lw_all := lw_g (lw_at lw_m8 60 rfl) rfl
theorem q1875 : (Jvm.Cond.code ({ cls := "VectorVersions", name := "childCount", desc := "(I)I" } : Jvm.MethodName) prog_1_method_36_code (5 : Nat) (Option.some Jvm.ClassFile.FieldType.int)) ∈ lw_all := lw_g (lw_at lw_m8 61 rfl) rfl
theorem q1880 : (Jvm.Cond.instanceMethod ({ cls := "VectorVersions", name := "commonAncestor", desc := "(II)I" } : Jvm.MethodName)) ∈ lw_all := lw_g (lw_at lw_m8 66 rfl) rfl
theorem q1881 : (Jvm.Cond.selects "VectorVersions" ({ cls := "VectorVersions", name := "commonAncestor", desc := "(II)I" } : Jvm.MethodName) ({ cls := "VectorVersions", name := "commonAncestor", desc := "(II)I" } : Jvm.MethodName)) ∈ lw_all := lw_g (lw_at lw_m8 67 rfl) rfl
theorem q1882 : (Jvm.Cond.code ({ cls := "VectorVersions", name := "commonAncestor", desc := "(II)I" } : Jvm.MethodName) prog_1_method_37_code (3 : Nat) (Option.some Jvm.ClassFile.FieldType.int)) ∈ lw_all := lw_g (lw_at lw_m8 68 rfl) rfl
theorem q1883 : (Jvm.Cond.methodLink "VectorVersions" (226 : Nat) ({ cls := "VectorVersions$Store", name := "commonAncestor", desc := "(II)I" } : Jvm.MethodName)) ∈ lw_all := lw_g (lw_at lw_m8 69 rfl) rfl
theorem q1892 : (Jvm.Cond.instanceMethod ({ cls := "VectorVersions", name := "size", desc := "(I)I" } : Jvm.MethodName)) ∈ lw_all := lw_g (lw_at lw_m8 78 rfl) rfl
theorem q1893 : (Jvm.Cond.selects "VectorVersions" ({ cls := "VectorVersions", name := "size", desc := "(I)I" } : Jvm.MethodName) ({ cls := "VectorVersions", name := "size", desc := "(I)I" } : Jvm.MethodName)) ∈ lw_all := lw_g (lw_at lw_m8 79 rfl) rfl
theorem q1894 : (Jvm.Cond.code ({ cls := "VectorVersions", name := "size", desc := "(I)I" } : Jvm.MethodName) prog_1_method_38_code (2 : Nat) (Option.some Jvm.ClassFile.FieldType.int)) ∈ lw_all := lw_g (lw_at lw_m8 80 rfl) rfl
theorem q1895 : (Jvm.Cond.methodLink "VectorVersions" (230 : Nat) ({ cls := "VectorVersions", name := "tree", desc := "(I)LVectorVersions$Tree;" } : Jvm.MethodName)) ∈ lw_all := lw_g (lw_at lw_m8 81 rfl) rfl
theorem q1896 : (Jvm.Cond.privateMethod ({ cls := "VectorVersions", name := "tree", desc := "(I)LVectorVersions$Tree;" } : Jvm.MethodName)) ∈ lw_tbl := lw_at lw_m8 82 rfl
theorem q1897 : (Jvm.Cond.instanceMethod ({ cls := "VectorVersions", name := "tree", desc := "(I)LVectorVersions$Tree;" } : Jvm.MethodName)) ∈ lw_all := lw_g (lw_at lw_m8 83 rfl) rfl
theorem q1898 : (Jvm.Cond.code ({ cls := "VectorVersions", name := "tree", desc := "(I)LVectorVersions$Tree;" } : Jvm.MethodName) prog_1_method_27_code (3 : Nat) (Option.some (Jvm.ClassFile.FieldType.object "VectorVersions$Tree"))) ∈ lw_all := lw_g (lw_at lw_m8 84 rfl) rfl
theorem q1899 : (Jvm.Cond.methodLink "VectorVersions" (207 : Nat) ({ cls := "VectorVersions", name := "checkState", desc := "(Z)V" } : Jvm.MethodName)) ∈ lw_all := lw_g (lw_at lw_m8 85 rfl) rfl
theorem q1904 : (Jvm.Cond.instanceMethod ({ cls := "VectorVersions", name := "height", desc := "(I)I" } : Jvm.MethodName)) ∈ lw_all := lw_g (lw_at lw_m8 90 rfl) rfl
theorem q1905 : (Jvm.Cond.selects "VectorVersions" ({ cls := "VectorVersions", name := "height", desc := "(I)I" } : Jvm.MethodName) ({ cls := "VectorVersions", name := "height", desc := "(I)I" } : Jvm.MethodName)) ∈ lw_all := lw_g (lw_at lw_m8 91 rfl) rfl
theorem q1906 : (Jvm.Cond.code ({ cls := "VectorVersions", name := "height", desc := "(I)I" } : Jvm.MethodName) prog_1_method_39_code (2 : Nat) (Option.some Jvm.ClassFile.FieldType.int)) ∈ lw_all := lw_g (lw_at lw_m8 92 rfl) rfl
theorem q1911 : (Jvm.Cond.instanceMethod ({ cls := "VectorVersions", name := "rootOf", desc := "(I)I" } : Jvm.MethodName)) ∈ lw_all := lw_g (lw_at lw_m8 97 rfl) rfl
theorem q1912 : (Jvm.Cond.selects "VectorVersions" ({ cls := "VectorVersions", name := "rootOf", desc := "(I)I" } : Jvm.MethodName) ({ cls := "VectorVersions", name := "rootOf", desc := "(I)I" } : Jvm.MethodName)) ∈ lw_all := lw_g (lw_at lw_m8 98 rfl) rfl
theorem q1913 : (Jvm.Cond.code ({ cls := "VectorVersions", name := "rootOf", desc := "(I)I" } : Jvm.MethodName) prog_1_method_40_code (2 : Nat) (Option.some Jvm.ClassFile.FieldType.int)) ∈ lw_all := lw_g (lw_at lw_m8 99 rfl) rfl
theorem q1914 : (Jvm.Cond.methodLink "VectorVersions" (234 : Nat) ({ cls := "VectorVersions$Tree", name := "rootNumber", desc := "()I" } : Jvm.MethodName)) ∈ lw_all := lw_g (lw_at lw_m8 100 rfl) rfl
theorem q1922 : (Jvm.Cond.instanceMethod ({ cls := "VectorVersions", name := "get", desc := "(II)I" } : Jvm.MethodName)) ∈ lw_all := lw_g (lw_at lw_m8 108 rfl) rfl
theorem q1923 : (Jvm.Cond.selects "VectorVersions" ({ cls := "VectorVersions", name := "get", desc := "(II)I" } : Jvm.MethodName) ({ cls := "VectorVersions", name := "get", desc := "(II)I" } : Jvm.MethodName)) ∈ lw_all := lw_g (lw_at lw_m8 109 rfl) rfl
theorem q1924 : (Jvm.Cond.code ({ cls := "VectorVersions", name := "get", desc := "(II)I" } : Jvm.MethodName) prog_1_method_41_code (4 : Nat) (Option.some Jvm.ClassFile.FieldType.int)) ∈ lw_all := lw_g (lw_at lw_m8 110 rfl) rfl
theorem q1925 : (Jvm.Cond.methodLink "VectorVersions" (237 : Nat) ({ cls := "VectorVersions", name := "versionWith", desc := "(II)LVectorVersions$Version;" } : Jvm.MethodName)) ∈ lw_all := lw_g (lw_at lw_m8 111 rfl) rfl
theorem q1926 : (Jvm.Cond.privateMethod ({ cls := "VectorVersions", name := "versionWith", desc := "(II)LVectorVersions$Version;" } : Jvm.MethodName)) ∈ lw_tbl := lw_at lw_m8 112 rfl
theorem q1927 : (Jvm.Cond.instanceMethod ({ cls := "VectorVersions", name := "versionWith", desc := "(II)LVectorVersions$Version;" } : Jvm.MethodName)) ∈ lw_all := lw_g (lw_at lw_m8 113 rfl) rfl
theorem q1928 : (Jvm.Cond.code ({ cls := "VectorVersions", name := "versionWith", desc := "(II)LVectorVersions$Version;" } : Jvm.MethodName) prog_1_method_29_code (4 : Nat) (Option.some (Jvm.ClassFile.FieldType.object "VectorVersions$Version"))) ∈ lw_all := lw_g (lw_at lw_m8 114 rfl) rfl
theorem q1929 : (Jvm.Cond.methodLink "VectorVersions" (241 : Nat) ({ cls := "VectorVersions$Tree", name := "get", desc := "(I)Ljava/lang/Comparable;" } : Jvm.MethodName)) ∈ lw_all := lw_g (lw_at lw_m8 115 rfl) rfl
theorem q1930 : (Jvm.Cond.classLink "VectorVersions" (80 : Nat) "java/lang/Integer") ∈ lw_all := lw_g (lw_at lw_m8 116 rfl) rfl
theorem q1931 : (Jvm.Cond.methodLink "VectorVersions" (244 : Nat) ({ cls := "java/lang/Integer", name := "intValue", desc := "()I" } : Jvm.MethodName)) ∈ lw_all := lw_g (lw_at lw_m8 117 rfl) rfl
theorem q1936 : (Jvm.Cond.instanceMethod ({ cls := "VectorVersions", name := "leafOf", desc := "(II)I" } : Jvm.MethodName)) ∈ lw_all := lw_g (lw_at lw_m8 122 rfl) rfl
theorem q1937 : (Jvm.Cond.selects "VectorVersions" ({ cls := "VectorVersions", name := "leafOf", desc := "(II)I" } : Jvm.MethodName) ({ cls := "VectorVersions", name := "leafOf", desc := "(II)I" } : Jvm.MethodName)) ∈ lw_all := lw_g (lw_at lw_m8 123 rfl) rfl
theorem q1938 : (Jvm.Cond.code ({ cls := "VectorVersions", name := "leafOf", desc := "(II)I" } : Jvm.MethodName) prog_1_method_42_code (4 : Nat) (Option.some Jvm.ClassFile.FieldType.int)) ∈ lw_all := lw_g (lw_at lw_m8 124 rfl) rfl
theorem q1939 : (Jvm.Cond.methodLink "VectorVersions" (247 : Nat) ({ cls := "VectorVersions$Tree", name := "leaf", desc := "(I)LVectorVersions$Node;" } : Jvm.MethodName)) ∈ lw_all := lw_g (lw_at lw_m8 125 rfl) rfl
theorem q1947 : (Jvm.Cond.instanceMethod ({ cls := "VectorVersions", name := "sum", desc := "(I)I" } : Jvm.MethodName)) ∈ lw_all := lw_g (lw_at lw_m8 133 rfl) rfl
theorem q1948 : (Jvm.Cond.selects "VectorVersions" ({ cls := "VectorVersions", name := "sum", desc := "(I)I" } : Jvm.MethodName) ({ cls := "VectorVersions", name := "sum", desc := "(I)I" } : Jvm.MethodName)) ∈ lw_all := lw_g (lw_at lw_m8 134 rfl) rfl
theorem q1949 : (Jvm.Cond.code ({ cls := "VectorVersions", name := "sum", desc := "(I)I" } : Jvm.MethodName) prog_1_method_43_code (4 : Nat) (Option.some Jvm.ClassFile.FieldType.int)) ∈ lw_all := lw_g (lw_at lw_m8 135 rfl) rfl
theorem q1950 : (Jvm.Cond.methodLink "VectorVersions" (253 : Nat) ({ cls := "VectorVersions$Tree", name := "elements", desc := "()Ljava/util/Iterator;" } : Jvm.MethodName)) ∈ lw_all := lw_g (lw_at lw_m8 136 rfl) rfl
theorem q1951 : (Jvm.Cond.interfaceEntry "VectorVersions" (257 : Nat)) ∈ lw_tbl := lw_at lw_m8 137 rfl
theorem q1952 : (Jvm.Cond.methodLink "VectorVersions" (257 : Nat) ({ cls := "java/util/Iterator", name := "hasNext", desc := "()Z" } : Jvm.MethodName)) ∈ lw_all := lw_g (lw_at lw_m8 138 rfl) rfl
theorem q1953 : (Jvm.Cond.interfaceEntry "VectorVersions" (263 : Nat)) ∈ lw_tbl := lw_at lw_m8 139 rfl
theorem q1954 : (Jvm.Cond.methodLink "VectorVersions" (263 : Nat) ({ cls := "java/util/Iterator", name := "next", desc := "()Ljava/lang/Object;" } : Jvm.MethodName)) ∈ lw_all := lw_g (lw_at lw_m8 140 rfl) rfl
theorem q1959 : (Jvm.Cond.instanceMethod ({ cls := "VectorVersions", name := "indexOf", desc := "(II)I" } : Jvm.MethodName)) ∈ lw_all := lw_g (lw_at lw_m8 145 rfl) rfl
theorem q1960 : (Jvm.Cond.selects "VectorVersions" ({ cls := "VectorVersions", name := "indexOf", desc := "(II)I" } : Jvm.MethodName) ({ cls := "VectorVersions", name := "indexOf", desc := "(II)I" } : Jvm.MethodName)) ∈ lw_all := lw_g (lw_at lw_m8 146 rfl) rfl
theorem q1961 : (Jvm.Cond.code ({ cls := "VectorVersions", name := "indexOf", desc := "(II)I" } : Jvm.MethodName) prog_1_method_44_code (3 : Nat) (Option.some Jvm.ClassFile.FieldType.int)) ∈ lw_all := lw_g (lw_at lw_m8 147 rfl) rfl
theorem q1962 : (Jvm.Cond.methodLink "VectorVersions" (266 : Nat) ({ cls := "VectorVersions$Tree", name := "indexOf", desc := "(Ljava/lang/Comparable;)I" } : Jvm.MethodName)) ∈ lw_all := lw_g (lw_at lw_m8 148 rfl) rfl
theorem q2171 : (Jvm.Cond.instanceMethod ({ cls := "VectorVersions", name := "nodesCreatedFor", desc := "(I)I" } : Jvm.MethodName)) ∈ lw_all := lw_g (lw_at lw_m9 117 rfl) rfl
theorem q2172 : (Jvm.Cond.selects "VectorVersions" ({ cls := "VectorVersions", name := "nodesCreatedFor", desc := "(I)I" } : Jvm.MethodName) ({ cls := "VectorVersions", name := "nodesCreatedFor", desc := "(I)I" } : Jvm.MethodName)) ∈ lw_all := lw_g (lw_at lw_m9 118 rfl) rfl
theorem q2173 : (Jvm.Cond.code ({ cls := "VectorVersions", name := "nodesCreatedFor", desc := "(I)I" } : Jvm.MethodName) prog_1_method_48_code (2 : Nat) (Option.some Jvm.ClassFile.FieldType.int)) ∈ lw_all := lw_g (lw_at lw_m9 119 rfl) rfl
theorem q2178 : (Jvm.Cond.instanceMethod ({ cls := "VectorVersions", name := "nodesOf", desc := "(I)I" } : Jvm.MethodName)) ∈ lw_all := lw_g (lw_at lw_m9 124 rfl) rfl
theorem q2179 : (Jvm.Cond.selects "VectorVersions" ({ cls := "VectorVersions", name := "nodesOf", desc := "(I)I" } : Jvm.MethodName) ({ cls := "VectorVersions", name := "nodesOf", desc := "(I)I" } : Jvm.MethodName)) ∈ lw_all := lw_g (lw_at lw_m9 125 rfl) rfl
theorem q2180 : (Jvm.Cond.code ({ cls := "VectorVersions", name := "nodesOf", desc := "(I)I" } : Jvm.MethodName) prog_1_method_49_code (3 : Nat) (Option.some Jvm.ClassFile.FieldType.int)) ∈ lw_all := lw_g (lw_at lw_m9 126 rfl) rfl
theorem q2185 : (Jvm.Cond.instanceMethod ({ cls := "VectorVersions", name := "sharedNodes", desc := "(II)I" } : Jvm.MethodName)) ∈ lw_all := lw_g (lw_at lw_m9 131 rfl) rfl
theorem q2186 : (Jvm.Cond.selects "VectorVersions" ({ cls := "VectorVersions", name := "sharedNodes", desc := "(II)I" } : Jvm.MethodName) ({ cls := "VectorVersions", name := "sharedNodes", desc := "(II)I" } : Jvm.MethodName)) ∈ lw_all := lw_g (lw_at lw_m9 132 rfl) rfl
theorem q2187 : (Jvm.Cond.code ({ cls := "VectorVersions", name := "sharedNodes", desc := "(II)I" } : Jvm.MethodName) prog_1_method_50_code (3 : Nat) (Option.some Jvm.ClassFile.FieldType.int)) ∈ lw_all := lw_g (lw_at lw_m9 133 rfl) rfl
theorem q2188 : (Jvm.Cond.methodLink "VectorVersions" (288 : Nat) ({ cls := "VectorVersions", name := "checkBoth", desc := "(II)V" } : Jvm.MethodName)) ∈ lw_all := lw_g (lw_at lw_m9 134 rfl) rfl
theorem q2189 : (Jvm.Cond.privateMethod ({ cls := "VectorVersions", name := "checkBoth", desc := "(II)V" } : Jvm.MethodName)) ∈ lw_tbl := lw_at lw_m9 135 rfl
theorem q2190 : (Jvm.Cond.instanceMethod ({ cls := "VectorVersions", name := "checkBoth", desc := "(II)V" } : Jvm.MethodName)) ∈ lw_all := lw_g (lw_at lw_m9 136 rfl) rfl
theorem q2191 : (Jvm.Cond.code ({ cls := "VectorVersions", name := "checkBoth", desc := "(II)V" } : Jvm.MethodName) prog_1_method_28_code (5 : Nat) (Option.none : Option Jvm.ClassFile.FieldType)) ∈ lw_all := lw_g (lw_at lw_m9 137 rfl) rfl
theorem q2192 : (Jvm.Cond.methodLink "VectorVersions" (291 : Nat) ({ cls := "VectorVersions$Store", name := "countBoth", desc := "([Z[ZZ)I" } : Jvm.MethodName)) ∈ lw_all := lw_g (lw_at lw_m9 138 rfl) rfl
theorem q2199 : (Jvm.Cond.instanceMethod ({ cls := "VectorVersions", name := "exclusiveNodes", desc := "(I)I" } : Jvm.MethodName)) ∈ lw_all := lw_g (lw_at lw_m9 145 rfl) rfl
theorem q2200 : (Jvm.Cond.selects "VectorVersions" ({ cls := "VectorVersions", name := "exclusiveNodes", desc := "(I)I" } : Jvm.MethodName) ({ cls := "VectorVersions", name := "exclusiveNodes", desc := "(I)I" } : Jvm.MethodName)) ∈ lw_all := lw_g (lw_at lw_m9 146 rfl) rfl
theorem q2201 : (Jvm.Cond.code ({ cls := "VectorVersions", name := "exclusiveNodes", desc := "(I)I" } : Jvm.MethodName) prog_1_method_51_code (3 : Nat) (Option.some Jvm.ClassFile.FieldType.int)) ∈ lw_all := lw_g (lw_at lw_m9 147 rfl) rfl
theorem q2206 : (Jvm.Cond.instanceMethod ({ cls := "VectorVersions", name := "isLeaf", desc := "(I)Z" } : Jvm.MethodName)) ∈ lw_all := lw_g (lw_at lw_m9 152 rfl) rfl
theorem q2207 : (Jvm.Cond.selects "VectorVersions" ({ cls := "VectorVersions", name := "isLeaf", desc := "(I)Z" } : Jvm.MethodName) ({ cls := "VectorVersions", name := "isLeaf", desc := "(I)Z" } : Jvm.MethodName)) ∈ lw_all := lw_g (lw_at lw_m9 153 rfl) rfl
theorem q2208 : (Jvm.Cond.code ({ cls := "VectorVersions", name := "isLeaf", desc := "(I)Z" } : Jvm.MethodName) prog_1_method_52_code (2 : Nat) (Option.some Jvm.ClassFile.FieldType.boolean)) ∈ lw_all := lw_g (lw_at lw_m9 154 rfl) rfl
theorem q2209 : (Jvm.Cond.methodLink "VectorVersions" (298 : Nat) ({ cls := "VectorVersions", name := "node", desc := "(I)LVectorVersions$Node;" } : Jvm.MethodName)) ∈ lw_all := lw_g (lw_at lw_m9 155 rfl) rfl
theorem q2210 : (Jvm.Cond.privateMethod ({ cls := "VectorVersions", name := "node", desc := "(I)LVectorVersions$Node;" } : Jvm.MethodName)) ∈ lw_tbl := lw_at lw_m9 156 rfl
theorem q2211 : (Jvm.Cond.instanceMethod ({ cls := "VectorVersions", name := "node", desc := "(I)LVectorVersions$Node;" } : Jvm.MethodName)) ∈ lw_all := lw_g (lw_at lw_m9 157 rfl) rfl
theorem q2212 : (Jvm.Cond.code ({ cls := "VectorVersions", name := "node", desc := "(I)LVectorVersions$Node;" } : Jvm.MethodName) prog_1_method_30_code (3 : Nat) (Option.some (Jvm.ClassFile.FieldType.object "VectorVersions$Node"))) ∈ lw_all := lw_g (lw_at lw_m9 158 rfl) rfl
theorem q2213 : (Jvm.Cond.methodLink "VectorVersions" (213 : Nat) ({ cls := "VectorVersions$Store", name := "node", desc := "(I)LVectorVersions$Node;" } : Jvm.MethodName)) ∈ lw_all := lw_g (lw_at lw_m9 159 rfl) rfl
theorem q2217 : (Jvm.Cond.methodLink "VectorVersions" (299 : Nat) ({ cls := "VectorVersions$Node", name := "isLeaf", desc := "()Z" } : Jvm.MethodName)) ∈ lw_all := lw_g (lw_at lw_m9 163 rfl) rfl
theorem q2222 : (Jvm.Cond.instanceMethod ({ cls := "VectorVersions", name := "entryCount", desc := "(I)I" } : Jvm.MethodName)) ∈ lw_all := lw_g (lw_at lw_m9 168 rfl) rfl
theorem q2223 : (Jvm.Cond.selects "VectorVersions" ({ cls := "VectorVersions", name := "entryCount", desc := "(I)I" } : Jvm.MethodName) ({ cls := "VectorVersions", name := "entryCount", desc := "(I)I" } : Jvm.MethodName)) ∈ lw_all := lw_g (lw_at lw_m9 169 rfl) rfl
theorem q2224 : (Jvm.Cond.code ({ cls := "VectorVersions", name := "entryCount", desc := "(I)I" } : Jvm.MethodName) prog_1_method_53_code (2 : Nat) (Option.some Jvm.ClassFile.FieldType.int)) ∈ lw_all := lw_g (lw_at lw_m9 170 rfl) rfl
theorem q2225 : (Jvm.Cond.methodLink "VectorVersions" (302 : Nat) ({ cls := "VectorVersions$Node", name := "count", desc := "()I" } : Jvm.MethodName)) ∈ lw_all := lw_g (lw_at lw_m9 171 rfl) rfl
theorem q2230 : (Jvm.Cond.instanceMethod ({ cls := "VectorVersions", name := "childOf", desc := "(II)I" } : Jvm.MethodName)) ∈ lw_all := lw_g (lw_at lw_m9 176 rfl) rfl
theorem q2231 : (Jvm.Cond.selects "VectorVersions" ({ cls := "VectorVersions", name := "childOf", desc := "(II)I" } : Jvm.MethodName) ({ cls := "VectorVersions", name := "childOf", desc := "(II)I" } : Jvm.MethodName)) ∈ lw_all := lw_g (lw_at lw_m9 177 rfl) rfl
theorem q2232 : (Jvm.Cond.code ({ cls := "VectorVersions", name := "childOf", desc := "(II)I" } : Jvm.MethodName) prog_1_method_54_code (4 : Nat) (Option.some Jvm.ClassFile.FieldType.int)) ∈ lw_all := lw_g (lw_at lw_m9 178 rfl) rfl
theorem q2233 : (Jvm.Cond.methodLink "VectorVersions" (304 : Nat) ({ cls := "VectorVersions$Node", name := "child", desc := "(I)LVectorVersions$Node;" } : Jvm.MethodName)) ∈ lw_all := lw_g (lw_at lw_m9 179 rfl) rfl
theorem q2238 : (Jvm.Cond.instanceMethod ({ cls := "VectorVersions", name := "referencesTo", desc := "(I)I" } : Jvm.MethodName)) ∈ lw_all := lw_g (lw_at lw_m9 184 rfl) rfl
theorem q2239 : (Jvm.Cond.selects "VectorVersions" ({ cls := "VectorVersions", name := "referencesTo", desc := "(I)I" } : Jvm.MethodName) ({ cls := "VectorVersions", name := "referencesTo", desc := "(I)I" } : Jvm.MethodName)) ∈ lw_all := lw_g (lw_at lw_m9 185 rfl) rfl
theorem q2240 : (Jvm.Cond.code ({ cls := "VectorVersions", name := "referencesTo", desc := "(I)I" } : Jvm.MethodName) prog_1_method_55_code (2 : Nat) (Option.some Jvm.ClassFile.FieldType.int)) ∈ lw_all := lw_g (lw_at lw_m9 186 rfl) rfl
theorem q2241 : (Jvm.Cond.methodLink "VectorVersions" (307 : Nat) ({ cls := "VectorVersions$Store", name := "references", desc := "(LVectorVersions$Node;)I" } : Jvm.MethodName)) ∈ lw_all := lw_g (lw_at lw_m9 187 rfl) rfl
theorem q2249 : (Jvm.Cond.instanceMethod ({ cls := "VectorVersions", name := "differences", desc := "(II)I" } : Jvm.MethodName)) ∈ lw_all := lw_g (lw_at lw_m9 195 rfl) rfl
theorem q2250 : (Jvm.Cond.selects "VectorVersions" ({ cls := "VectorVersions", name := "differences", desc := "(II)I" } : Jvm.MethodName) ({ cls := "VectorVersions", name := "differences", desc := "(II)I" } : Jvm.MethodName)) ∈ lw_all := lw_g (lw_at lw_m9 196 rfl) rfl
theorem q2251 : (Jvm.Cond.code ({ cls := "VectorVersions", name := "differences", desc := "(II)I" } : Jvm.MethodName) prog_1_method_56_code (3 : Nat) (Option.some Jvm.ClassFile.FieldType.int)) ∈ lw_all := lw_g (lw_at lw_m9 197 rfl) rfl
theorem q2252 : (Jvm.Cond.methodLink "VectorVersions" (311 : Nat) ({ cls := "VectorVersions$Store", name := "differences", desc := "(LVectorVersions$Tree;LVectorVersions$Tree;)I" } : Jvm.MethodName)) ∈ lw_all := lw_g (lw_at lw_m9 198 rfl) rfl
theorem q2268 : (Jvm.Cond.instanceMethod ({ cls := "VectorVersions", name := "firstDifference", desc := "(II)I" } : Jvm.MethodName)) ∈ lw_all := lw_g (lw_at lw_m9 214 rfl) rfl
theorem q2269 : (Jvm.Cond.selects "VectorVersions" ({ cls := "VectorVersions", name := "firstDifference", desc := "(II)I" } : Jvm.MethodName) ({ cls := "VectorVersions", name := "firstDifference", desc := "(II)I" } : Jvm.MethodName)) ∈ lw_all := lw_g (lw_at lw_m9 215 rfl) rfl
theorem q2270 : (Jvm.Cond.code ({ cls := "VectorVersions", name := "firstDifference", desc := "(II)I" } : Jvm.MethodName) prog_1_method_57_code (3 : Nat) (Option.some Jvm.ClassFile.FieldType.int)) ∈ lw_all := lw_g (lw_at lw_m9 216 rfl) rfl
theorem q2271 : (Jvm.Cond.methodLink "VectorVersions" (315 : Nat) ({ cls := "VectorVersions$Store", name := "firstDifference", desc := "(LVectorVersions$Tree;LVectorVersions$Tree;)I" } : Jvm.MethodName)) ∈ lw_all := lw_g (lw_at lw_m9 217 rfl) rfl
theorem q2279 : (Jvm.Cond.instanceMethod ({ cls := "VectorVersions", name := "comparisonCost", desc := "(II)I" } : Jvm.MethodName)) ∈ lw_all := lw_g (lw_at lw_m9 225 rfl) rfl
theorem q2280 : (Jvm.Cond.selects "VectorVersions" ({ cls := "VectorVersions", name := "comparisonCost", desc := "(II)I" } : Jvm.MethodName) ({ cls := "VectorVersions", name := "comparisonCost", desc := "(II)I" } : Jvm.MethodName)) ∈ lw_all := lw_g (lw_at lw_m9 226 rfl) rfl
theorem q2281 : (Jvm.Cond.code ({ cls := "VectorVersions", name := "comparisonCost", desc := "(II)I" } : Jvm.MethodName) prog_1_method_58_code (5 : Nat) (Option.some Jvm.ClassFile.FieldType.int)) ∈ lw_all := lw_g (lw_at lw_m9 227 rfl) rfl
theorem q2282 : (Jvm.Cond.methodLink "VectorVersions" (322 : Nat) ({ cls := "VectorVersions$Store", name := "visitedPairs", desc := "(LVectorVersions$Node;LVectorVersions$Node;)I" } : Jvm.MethodName)) ∈ lw_all := lw_g (lw_at lw_m9 228 rfl) rfl
theorem q2292 : (Jvm.Cond.instanceMethod ({ cls := "VectorVersions", name := "nodesForSet", desc := "(III)I" } : Jvm.MethodName)) ∈ lw_all := lw_g (lw_at lw_m9 238 rfl) rfl
theorem q2293 : (Jvm.Cond.selects "VectorVersions" ({ cls := "VectorVersions", name := "nodesForSet", desc := "(III)I" } : Jvm.MethodName) ({ cls := "VectorVersions", name := "nodesForSet", desc := "(III)I" } : Jvm.MethodName)) ∈ lw_all := lw_g (lw_at lw_m9 239 rfl) rfl
theorem q2294 : (Jvm.Cond.code ({ cls := "VectorVersions", name := "nodesForSet", desc := "(III)I" } : Jvm.MethodName) prog_1_method_60_code (6 : Nat) (Option.some Jvm.ClassFile.FieldType.int)) ∈ lw_all := lw_g (lw_at lw_m10 0 rfl) rfl
theorem q2295 : (Jvm.Cond.methodLink "VectorVersions" (329 : Nat) ({ cls := "VectorVersions", name := "checkValue", desc := "(I)V" } : Jvm.MethodName)) ∈ lw_all := lw_g (lw_at lw_m10 1 rfl) rfl
theorem q2296 : (Jvm.Cond.static ({ cls := "VectorVersions", name := "checkValue", desc := "(I)V" } : Jvm.MethodName)) ∈ lw_all := lw_g (lw_at lw_m10 2 rfl) rfl
theorem q2297 : (Jvm.Cond.code ({ cls := "VectorVersions", name := "checkValue", desc := "(I)V" } : Jvm.MethodName) prog_1_method_59_code (1 : Nat) (Option.none : Option Jvm.ClassFile.FieldType)) ∈ lw_all := lw_g (lw_at lw_m10 3 rfl) rfl
theorem q2298 : (Jvm.Cond.methodLink "VectorVersions" (326 : Nat) ({ cls := "VectorVersions", name := "checkArgument", desc := "(Z)V" } : Jvm.MethodName)) ∈ lw_all := lw_g (lw_at lw_m10 4 rfl) rfl
theorem q2299 : (Jvm.Cond.static ({ cls := "VectorVersions", name := "checkArgument", desc := "(Z)V" } : Jvm.MethodName)) ∈ lw_all := lw_g (lw_at lw_m10 5 rfl) rfl
theorem q2300 : (Jvm.Cond.code ({ cls := "VectorVersions", name := "checkArgument", desc := "(Z)V" } : Jvm.MethodName) prog_1_method_2_code (1 : Nat) (Option.none : Option Jvm.ClassFile.FieldType)) ∈ lw_all := lw_g (lw_at lw_m10 6 rfl) rfl
theorem q2301 : (Jvm.Cond.classLink "VectorVersions" (1 : Nat) "java/lang/IllegalArgumentException") ∈ lw_all := lw_g (lw_at lw_m10 7 rfl) rfl
theorem q2302 : (Jvm.Cond.methodLink "VectorVersions" (3 : Nat) ({ cls := "java/lang/IllegalArgumentException", name := "<init>", desc := "()V" } : Jvm.MethodName)) ∈ lw_all := lw_g (lw_at lw_m10 8 rfl) rfl
theorem q2310 : (Jvm.Cond.instanceMethod ({ cls := "VectorVersions", name := "nodesForAppend", desc := "(I)I" } : Jvm.MethodName)) ∈ lw_all := lw_g (lw_at lw_m10 16 rfl) rfl
theorem q2311 : (Jvm.Cond.selects "VectorVersions" ({ cls := "VectorVersions", name := "nodesForAppend", desc := "(I)I" } : Jvm.MethodName) ({ cls := "VectorVersions", name := "nodesForAppend", desc := "(I)I" } : Jvm.MethodName)) ∈ lw_all := lw_g (lw_at lw_m10 17 rfl) rfl
theorem q2312 : (Jvm.Cond.code ({ cls := "VectorVersions", name := "nodesForAppend", desc := "(I)I" } : Jvm.MethodName) prog_1_method_61_code (3 : Nat) (Option.some Jvm.ClassFile.FieldType.int)) ∈ lw_all := lw_g (lw_at lw_m10 18 rfl) rfl
theorem q2313 : (Jvm.Cond.methodLink "VectorVersions" (332 : Nat) ({ cls := "VectorVersions", name := "heightFor", desc := "(I)I" } : Jvm.MethodName)) ∈ lw_all := lw_g (lw_at lw_m10 19 rfl) rfl
theorem q2318 : (Jvm.Cond.instanceMethod ({ cls := "VectorVersions", name := "garbageIfReleased", desc := "(I)I" } : Jvm.MethodName)) ∈ lw_all := lw_g (lw_at lw_m10 24 rfl) rfl
theorem q2319 : (Jvm.Cond.selects "VectorVersions" ({ cls := "VectorVersions", name := "garbageIfReleased", desc := "(I)I" } : Jvm.MethodName) ({ cls := "VectorVersions", name := "garbageIfReleased", desc := "(I)I" } : Jvm.MethodName)) ∈ lw_all := lw_g (lw_at lw_m10 25 rfl) rfl
theorem q2320 : (Jvm.Cond.code ({ cls := "VectorVersions", name := "garbageIfReleased", desc := "(I)I" } : Jvm.MethodName) prog_1_method_62_code (3 : Nat) (Option.some Jvm.ClassFile.FieldType.int)) ∈ lw_all := lw_g (lw_at lw_m10 26 rfl) rfl
theorem q2321 : (Jvm.Cond.methodLink "VectorVersions" (335 : Nat) ({ cls := "VectorVersions$Store", name := "garbageIfReleased", desc := "(I)I" } : Jvm.MethodName)) ∈ lw_all := lw_g (lw_at lw_m10 27 rfl) rfl
theorem q2329 : (Jvm.Cond.instanceMethod ({ cls := "VectorVersions", name := "set", desc := "(III)I" } : Jvm.MethodName)) ∈ lw_all := lw_g (lw_at lw_m10 35 rfl) rfl
theorem q2330 : (Jvm.Cond.selects "VectorVersions" ({ cls := "VectorVersions", name := "set", desc := "(III)I" } : Jvm.MethodName) ({ cls := "VectorVersions", name := "set", desc := "(III)I" } : Jvm.MethodName)) ∈ lw_all := lw_g (lw_at lw_m10 36 rfl) rfl
theorem q2331 : (Jvm.Cond.code ({ cls := "VectorVersions", name := "set", desc := "(III)I" } : Jvm.MethodName) prog_1_method_68_code (5 : Nat) (Option.some Jvm.ClassFile.FieldType.int)) ∈ lw_all := lw_g (lw_at lw_m10 37 rfl) rfl
theorem q2332 : (Jvm.Cond.methodLink "VectorVersions" (344 : Nat) ({ cls := "VectorVersions", name := "setting", desc := "(III)LVectorVersions$Action;" } : Jvm.MethodName)) ∈ lw_all := lw_g (lw_at lw_m10 38 rfl) rfl
theorem q2337 : (Jvm.Cond.instanceMethod ({ cls := "VectorVersions", name := "append", desc := "(II)I" } : Jvm.MethodName)) ∈ lw_all := lw_g (lw_at lw_m10 43 rfl) rfl
theorem q2338 : (Jvm.Cond.selects "VectorVersions" ({ cls := "VectorVersions", name := "append", desc := "(II)I" } : Jvm.MethodName) ({ cls := "VectorVersions", name := "append", desc := "(II)I" } : Jvm.MethodName)) ∈ lw_all := lw_g (lw_at lw_m10 44 rfl) rfl
theorem q2339 : (Jvm.Cond.code ({ cls := "VectorVersions", name := "append", desc := "(II)I" } : Jvm.MethodName) prog_1_method_69_code (4 : Nat) (Option.some Jvm.ClassFile.FieldType.int)) ∈ lw_all := lw_g (lw_at lw_m10 45 rfl) rfl
theorem q2340 : (Jvm.Cond.methodLink "VectorVersions" (352 : Nat) ({ cls := "VectorVersions", name := "appending", desc := "(II)LVectorVersions$Action;" } : Jvm.MethodName)) ∈ lw_all := lw_g (lw_at lw_m10 46 rfl) rfl
theorem q2345 : (Jvm.Cond.instanceMethod ({ cls := "VectorVersions", name := "truncate", desc := "(II)I" } : Jvm.MethodName)) ∈ lw_all := lw_g (lw_at lw_m10 51 rfl) rfl
theorem q2346 : (Jvm.Cond.selects "VectorVersions" ({ cls := "VectorVersions", name := "truncate", desc := "(II)I" } : Jvm.MethodName) ({ cls := "VectorVersions", name := "truncate", desc := "(II)I" } : Jvm.MethodName)) ∈ lw_all := lw_g (lw_at lw_m10 52 rfl) rfl
theorem q2347 : (Jvm.Cond.code ({ cls := "VectorVersions", name := "truncate", desc := "(II)I" } : Jvm.MethodName) prog_1_method_70_code (4 : Nat) (Option.some Jvm.ClassFile.FieldType.int)) ∈ lw_all := lw_g (lw_at lw_m10 53 rfl) rfl
theorem q2348 : (Jvm.Cond.methodLink "VectorVersions" (356 : Nat) ({ cls := "VectorVersions", name := "truncating", desc := "(II)LVectorVersions$Action;" } : Jvm.MethodName)) ∈ lw_all := lw_g (lw_at lw_m10 54 rfl) rfl
theorem q2353 : (Jvm.Cond.instanceMethod ({ cls := "VectorVersions", name := "release", desc := "(I)I" } : Jvm.MethodName)) ∈ lw_all := lw_g (lw_at lw_m10 59 rfl) rfl
theorem q2354 : (Jvm.Cond.selects "VectorVersions" ({ cls := "VectorVersions", name := "release", desc := "(I)I" } : Jvm.MethodName) ({ cls := "VectorVersions", name := "release", desc := "(I)I" } : Jvm.MethodName)) ∈ lw_all := lw_g (lw_at lw_m10 60 rfl) rfl
theorem q2355 : (Jvm.Cond.code ({ cls := "VectorVersions", name := "release", desc := "(I)I" } : Jvm.MethodName) prog_1_method_71_code (3 : Nat) (Option.some Jvm.ClassFile.FieldType.int)) ∈ lw_all := lw_g (lw_at lw_m10 61 rfl) rfl
theorem q2356 : (Jvm.Cond.methodLink "VectorVersions" (359 : Nat) ({ cls := "VectorVersions", name := "releasing", desc := "(I)LVectorVersions$Action;" } : Jvm.MethodName)) ∈ lw_all := lw_g (lw_at lw_m10 62 rfl) rfl
theorem q2362 : (Jvm.Cond.instanceMethod ({ cls := "VectorVersions", name := "undo", desc := "()I" } : Jvm.MethodName)) ∈ lw_all := lw_g (lw_at lw_m10 68 rfl) rfl
theorem q2363 : (Jvm.Cond.selects "VectorVersions" ({ cls := "VectorVersions", name := "undo", desc := "()I" } : Jvm.MethodName) ({ cls := "VectorVersions", name := "undo", desc := "()I" } : Jvm.MethodName)) ∈ lw_all := lw_g (lw_at lw_m10 69 rfl) rfl
theorem q2364 : (Jvm.Cond.code ({ cls := "VectorVersions", name := "undo", desc := "()I" } : Jvm.MethodName) prog_1_method_73_code (1 : Nat) (Option.some Jvm.ClassFile.FieldType.int)) ∈ lw_all := lw_g (lw_at lw_m10 70 rfl) rfl
theorem q2365 : (Jvm.Cond.methodLink "VectorVersions" (367 : Nat) ({ cls := "java/util/ArrayDeque", name := "isEmpty", desc := "()Z" } : Jvm.MethodName)) ∈ lw_all := lw_g (lw_at lw_m10 71 rfl) rfl
theorem q2366 : (Jvm.Cond.methodLink "VectorVersions" (368 : Nat) ({ cls := "VectorVersions", name := "checkElement", desc := "(Z)V" } : Jvm.MethodName)) ∈ lw_all := lw_g (lw_at lw_m10 72 rfl) rfl
theorem q2367 : (Jvm.Cond.static ({ cls := "VectorVersions", name := "checkElement", desc := "(Z)V" } : Jvm.MethodName)) ∈ lw_all := lw_g (lw_at lw_m10 73 rfl) rfl
theorem q2368 : (Jvm.Cond.code ({ cls := "VectorVersions", name := "checkElement", desc := "(Z)V" } : Jvm.MethodName) prog_1_method_5_code (1 : Nat) (Option.none : Option Jvm.ClassFile.FieldType)) ∈ lw_all := lw_g (lw_at lw_m10 74 rfl) rfl
theorem q2369 : (Jvm.Cond.classLink "VectorVersions" (13 : Nat) "java/util/NoSuchElementException") ∈ lw_all := lw_g (lw_at lw_m10 75 rfl) rfl
theorem q2370 : (Jvm.Cond.methodLink "VectorVersions" (15 : Nat) ({ cls := "java/util/NoSuchElementException", name := "<init>", desc := "()V" } : Jvm.MethodName)) ∈ lw_all := lw_g (lw_at lw_m10 76 rfl) rfl
theorem q2371 : (Jvm.Cond.methodLink "VectorVersions" (371 : Nat) ({ cls := "java/util/ArrayDeque", name := "removeLast", desc := "()Ljava/lang/Object;" } : Jvm.MethodName)) ∈ lw_all := lw_g (lw_at lw_m10 77 rfl) rfl
theorem q2376 : (Jvm.Cond.instanceMethod ({ cls := "VectorVersions", name := "writeVersion", desc := "(I)I" } : Jvm.MethodName)) ∈ lw_all := lw_g (lw_at lw_m10 82 rfl) rfl
theorem q2377 : (Jvm.Cond.selects "VectorVersions" ({ cls := "VectorVersions", name := "writeVersion", desc := "(I)I" } : Jvm.MethodName) ({ cls := "VectorVersions", name := "writeVersion", desc := "(I)I" } : Jvm.MethodName)) ∈ lw_all := lw_g (lw_at lw_m10 83 rfl) rfl
theorem q2378 : (Jvm.Cond.code ({ cls := "VectorVersions", name := "writeVersion", desc := "(I)I" } : Jvm.MethodName) prog_1_method_74_code (5 : Nat) (Option.some Jvm.ClassFile.FieldType.int)) ∈ lw_all := lw_g (lw_at lw_m10 84 rfl) rfl
theorem q2379 : (Jvm.Cond.methodLink "VectorVersions" (374 : Nat) ({ cls := "java/lang/StringBuilder", name := "setLength", desc := "(I)V" } : Jvm.MethodName)) ∈ lw_all := lw_g (lw_at lw_m10 85 rfl) rfl
theorem q2431 : (Jvm.Cond.methodLink "VectorVersions" (377 : Nat) ({ cls := "java/lang/StringBuilder", name := "append", desc := "(C)Ljava/lang/StringBuilder;" } : Jvm.MethodName)) ∈ lw_all := lw_g (lw_at lw_m10 137 rfl) rfl
theorem q2432 : (Jvm.Cond.methodLink "VectorVersions" (380 : Nat) ({ cls := "java/lang/StringBuilder", name := "append", desc := "(I)Ljava/lang/StringBuilder;" } : Jvm.MethodName)) ∈ lw_all := lw_g (lw_at lw_m10 138 rfl) rfl
theorem q2437 : (Jvm.Cond.instanceMethod ({ cls := "VectorVersions", name := "restoreState", desc := "()I" } : Jvm.MethodName)) ∈ lw_all := lw_g (lw_at lw_m10 143 rfl) rfl
theorem q2438 : (Jvm.Cond.selects "VectorVersions" ({ cls := "VectorVersions", name := "restoreState", desc := "()I" } : Jvm.MethodName) ({ cls := "VectorVersions", name := "restoreState", desc := "()I" } : Jvm.MethodName)) ∈ lw_all := lw_g (lw_at lw_m10 144 rfl) rfl
theorem q2439 : (Jvm.Cond.code ({ cls := "VectorVersions", name := "restoreState", desc := "()I" } : Jvm.MethodName) prog_1_method_77_code (1 : Nat) (Option.some Jvm.ClassFile.FieldType.int)) ∈ lw_all := lw_g (lw_at lw_m10 145 rfl) rfl
theorem q3134 : (Jvm.Cond.castable "VectorVersions" "java/lang/Object") ∈ lw_tbl := lw_at lw_m13 120 rfl
theorem in_X1 : ∀ w ∈ wsX10, w ∈ lw_all := lw_in wsX10 [872, 874, 876, 878, 880, 882, 884, 886] (by decide +kernel) (by decide +kernel)
