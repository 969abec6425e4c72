/-! VectorVersionsLaw -/
set_option maxRecDepth 100000
def RX0 : String := "VectorVersionsLaw"
abbrev cX0_isReleased : ByteArray := method_3_code
def yX0_isReleased : MethodName := ⟨RX0, "isReleased", "(LVectorVersions;I[J)I"⟩
def dkwX0_isReleased_0 : List UInt8 := [44, 3, 42, 27, 182, 0, 7, 153, 0, 7, 10, 167, 0, 4, 9, 80, 167, 0, 6, 78, 4, 172, 3, 172]
abbrev dktX0_isReleased_0 : List UInt8 := dkwX0_isReleased_0 ++ []
theorem dksX0_isReleased_0 : cX0_isReleased.data.toList.drop 0 = dktX0_isReleased_0 := by decide +kernel
theorem dX0_isReleased_0 : decode cX0_isReleased 0 = .ok (.aload_n 2, 1) := dk_44 (dk_at dksX0_isReleased_0 0 rfl rfl)
theorem dX0_isReleased_1 : decode cX0_isReleased 1 = .ok (.iconst 0, 1) := dk_3 (dk_at dksX0_isReleased_0 1 rfl rfl)
theorem dX0_isReleased_2 : decode cX0_isReleased 2 = .ok (.aload_n 0, 1) := dk_42 (dk_at dksX0_isReleased_0 2 rfl rfl)
theorem dX0_isReleased_3 : decode cX0_isReleased 3 = .ok (.iload_n 1, 1) := dk_27 (dk_at dksX0_isReleased_0 3 rfl rfl)
theorem dX0_isReleased_4 : decode cX0_isReleased 4 = .ok (.invokevirtual 7, 3) := dk_182 0 7 (dk_at dksX0_isReleased_0 4 rfl rfl)
theorem dX0_isReleased_7 : decode cX0_isReleased 7 = .ok (.ifCond .eq 7, 3) := dk_153 0 7 (dk_at dksX0_isReleased_0 7 rfl rfl)
theorem dX0_isReleased_10 : decode cX0_isReleased 10 = .ok (.lconst 1, 1) := dk_10 (dk_at dksX0_isReleased_0 10 rfl rfl)
theorem dX0_isReleased_11 : decode cX0_isReleased 11 = .ok (.goto 4, 3) := dk_167 0 4 (dk_at dksX0_isReleased_0 11 rfl rfl)
theorem dX0_isReleased_14 : decode cX0_isReleased 14 = .ok (.lconst 0, 1) := dk_9 (dk_at dksX0_isReleased_0 14 rfl rfl)
theorem dX0_isReleased_15 : decode cX0_isReleased 15 = .ok (.lastore, 1) := dk_80 (dk_at dksX0_isReleased_0 15 rfl rfl)
theorem dX0_isReleased_16 : decode cX0_isReleased 16 = .ok (.goto 6, 3) := dk_167 0 6 (dk_at dksX0_isReleased_0 16 rfl rfl)
theorem dX0_isReleased_19 : decode cX0_isReleased 19 = .ok (.astore_n 3, 1) := dk_78 (dk_at dksX0_isReleased_0 19 rfl rfl)
theorem dX0_isReleased_20 : decode cX0_isReleased 20 = .ok (.iconst 1, 1) := dk_4 (dk_at dksX0_isReleased_0 20 rfl rfl)
theorem dX0_isReleased_21 : decode cX0_isReleased 21 = .ok (.ireturn, 1) := dk_172 (dk_at dksX0_isReleased_0 21 rfl rfl)
theorem dX0_isReleased_22 : decode cX0_isReleased 22 = .ok (.iconst 0, 1) := dk_3 (dk_at dksX0_isReleased_0 22 rfl rfl)
theorem dX0_isReleased_23 : decode cX0_isReleased 23 = .ok (.ireturn, 1) := dk_172 (dk_at dksX0_isReleased_0 23 rfl rfl)
abbrev cX0_parentOf : ByteArray := method_4_code
def yX0_parentOf : MethodName := ⟨RX0, "parentOf", "(LVectorVersions;I[J)I"⟩
def dkwX0_parentOf_0 : List UInt8 := [44, 3, 42, 27, 182, 0, 15, 133, 80, 167, 0, 6, 78, 4, 172, 3, 172]
abbrev dktX0_parentOf_0 : List UInt8 := dkwX0_parentOf_0 ++ []
theorem dksX0_parentOf_0 : cX0_parentOf.data.toList.drop 0 = dktX0_parentOf_0 := by decide +kernel
theorem dX0_parentOf_0 : decode cX0_parentOf 0 = .ok (.aload_n 2, 1) := dk_44 (dk_at dksX0_parentOf_0 0 rfl rfl)
theorem dX0_parentOf_1 : decode cX0_parentOf 1 = .ok (.iconst 0, 1) := dk_3 (dk_at dksX0_parentOf_0 1 rfl rfl)
theorem dX0_parentOf_2 : decode cX0_parentOf 2 = .ok (.aload_n 0, 1) := dk_42 (dk_at dksX0_parentOf_0 2 rfl rfl)
theorem dX0_parentOf_3 : decode cX0_parentOf 3 = .ok (.iload_n 1, 1) := dk_27 (dk_at dksX0_parentOf_0 3 rfl rfl)
theorem dX0_parentOf_4 : decode cX0_parentOf 4 = .ok (.invokevirtual 15, 3) := dk_182 0 15 (dk_at dksX0_parentOf_0 4 rfl rfl)
theorem dX0_parentOf_7 : decode cX0_parentOf 7 = .ok (.i2l, 1) := dk_133 (dk_at dksX0_parentOf_0 7 rfl rfl)
theorem dX0_parentOf_8 : decode cX0_parentOf 8 = .ok (.lastore, 1) := dk_80 (dk_at dksX0_parentOf_0 8 rfl rfl)
theorem dX0_parentOf_9 : decode cX0_parentOf 9 = .ok (.goto 6, 3) := dk_167 0 6 (dk_at dksX0_parentOf_0 9 rfl rfl)
theorem dX0_parentOf_12 : decode cX0_parentOf 12 = .ok (.astore_n 3, 1) := dk_78 (dk_at dksX0_parentOf_0 12 rfl rfl)
theorem dX0_parentOf_13 : decode cX0_parentOf 13 = .ok (.iconst 1, 1) := dk_4 (dk_at dksX0_parentOf_0 13 rfl rfl)
theorem dX0_parentOf_14 : decode cX0_parentOf 14 = .ok (.ireturn, 1) := dk_172 (dk_at dksX0_parentOf_0 14 rfl rfl)
theorem dX0_parentOf_15 : decode cX0_parentOf 15 = .ok (.iconst 0, 1) := dk_3 (dk_at dksX0_parentOf_0 15 rfl rfl)
theorem dX0_parentOf_16 : decode cX0_parentOf 16 = .ok (.ireturn, 1) := dk_172 (dk_at dksX0_parentOf_0 16 rfl rfl)
abbrev cX0_depthOf : ByteArray := method_5_code
def yX0_depthOf : MethodName := ⟨RX0, "depthOf", "(LVectorVersions;I[J)I"⟩
def dkwX0_depthOf_0 : List UInt8 := [44, 3, 42, 27, 182, 0, 19, 133, 80, 167, 0, 6, 78, 4, 172, 3, 172]
abbrev dktX0_depthOf_0 : List UInt8 := dkwX0_depthOf_0 ++ []
theorem dksX0_depthOf_0 : cX0_depthOf.data.toList.drop 0 = dktX0_depthOf_0 := by decide +kernel
theorem dX0_depthOf_0 : decode cX0_depthOf 0 = .ok (.aload_n 2, 1) := dk_44 (dk_at dksX0_depthOf_0 0 rfl rfl)
theorem dX0_depthOf_1 : decode cX0_depthOf 1 = .ok (.iconst 0, 1) := dk_3 (dk_at dksX0_depthOf_0 1 rfl rfl)
theorem dX0_depthOf_2 : decode cX0_depthOf 2 = .ok (.aload_n 0, 1) := dk_42 (dk_at dksX0_depthOf_0 2 rfl rfl)
theorem dX0_depthOf_3 : decode cX0_depthOf 3 = .ok (.iload_n 1, 1) := dk_27 (dk_at dksX0_depthOf_0 3 rfl rfl)
theorem dX0_depthOf_4 : decode cX0_depthOf 4 = .ok (.invokevirtual 19, 3) := dk_182 0 19 (dk_at dksX0_depthOf_0 4 rfl rfl)
theorem dX0_depthOf_7 : decode cX0_depthOf 7 = .ok (.i2l, 1) := dk_133 (dk_at dksX0_depthOf_0 7 rfl rfl)
theorem dX0_depthOf_8 : decode cX0_depthOf 8 = .ok (.lastore, 1) := dk_80 (dk_at dksX0_depthOf_0 8 rfl rfl)
theorem dX0_depthOf_9 : decode cX0_depthOf 9 = .ok (.goto 6, 3) := dk_167 0 6 (dk_at dksX0_depthOf_0 9 rfl rfl)
theorem dX0_depthOf_12 : decode cX0_depthOf 12 = .ok (.astore_n 3, 1) := dk_78 (dk_at dksX0_depthOf_0 12 rfl rfl)
theorem dX0_depthOf_13 : decode cX0_depthOf 13 = .ok (.iconst 1, 1) := dk_4 (dk_at dksX0_depthOf_0 13 rfl rfl)
theorem dX0_depthOf_14 : decode cX0_depthOf 14 = .ok (.ireturn, 1) := dk_172 (dk_at dksX0_depthOf_0 14 rfl rfl)
theorem dX0_depthOf_15 : decode cX0_depthOf 15 = .ok (.iconst 0, 1) := dk_3 (dk_at dksX0_depthOf_0 15 rfl rfl)
theorem dX0_depthOf_16 : decode cX0_depthOf 16 = .ok (.ireturn, 1) := dk_172 (dk_at dksX0_depthOf_0 16 rfl rfl)
abbrev cX0_childCount : ByteArray := method_6_code
def yX0_childCount : MethodName := ⟨RX0, "childCount", "(LVectorVersions;I[J)I"⟩
def dkwX0_childCount_0 : List UInt8 := [44, 3, 42, 27, 182, 0, 22, 133, 80, 167, 0, 6, 78, 4, 172, 3, 172]
abbrev dktX0_childCount_0 : List UInt8 := dkwX0_childCount_0 ++ []
theorem dksX0_childCount_0 : cX0_childCount.data.toList.drop 0 = dktX0_childCount_0 := by decide +kernel
theorem dX0_childCount_0 : decode cX0_childCount 0 = .ok (.aload_n 2, 1) := dk_44 (dk_at dksX0_childCount_0 0 rfl rfl)
theorem dX0_childCount_1 : decode cX0_childCount 1 = .ok (.iconst 0, 1) := dk_3 (dk_at dksX0_childCount_0 1 rfl rfl)
theorem dX0_childCount_2 : decode cX0_childCount 2 = .ok (.aload_n 0, 1) := dk_42 (dk_at dksX0_childCount_0 2 rfl rfl)
theorem dX0_childCount_3 : decode cX0_childCount 3 = .ok (.iload_n 1, 1) := dk_27 (dk_at dksX0_childCount_0 3 rfl rfl)
theorem dX0_childCount_4 : decode cX0_childCount 4 = .ok (.invokevirtual 22, 3) := dk_182 0 22 (dk_at dksX0_childCount_0 4 rfl rfl)
theorem dX0_childCount_7 : decode cX0_childCount 7 = .ok (.i2l, 1) := dk_133 (dk_at dksX0_childCount_0 7 rfl rfl)
theorem dX0_childCount_8 : decode cX0_childCount 8 = .ok (.lastore, 1) := dk_80 (dk_at dksX0_childCount_0 8 rfl rfl)
theorem dX0_childCount_9 : decode cX0_childCount 9 = .ok (.goto 6, 3) := dk_167 0 6 (dk_at dksX0_childCount_0 9 rfl rfl)
theorem dX0_childCount_12 : decode cX0_childCount 12 = .ok (.astore_n 3, 1) := dk_78 (dk_at dksX0_childCount_0 12 rfl rfl)
theorem dX0_childCount_13 : decode cX0_childCount 13 = .ok (.iconst 1, 1) := dk_4 (dk_at dksX0_childCount_0 13 rfl rfl)
theorem dX0_childCount_14 : decode cX0_childCount 14 = .ok (.ireturn, 1) := dk_172 (dk_at dksX0_childCount_0 14 rfl rfl)
theorem dX0_childCount_15 : decode cX0_childCount 15 = .ok (.iconst 0, 1) := dk_3 (dk_at dksX0_childCount_0 15 rfl rfl)
theorem dX0_childCount_16 : decode cX0_childCount 16 = .ok (.ireturn, 1) := dk_172 (dk_at dksX0_childCount_0 16 rfl rfl)
abbrev cX0_commonAncestor : ByteArray := method_7_code
def yX0_commonAncestor : MethodName := ⟨RX0, "commonAncestor", "(LVectorVersions;II[J)I"⟩
def dkwX0_commonAncestor_0 : List UInt8 := [45, 3, 42, 27, 28, 182, 0, 25, 133, 80, 167, 0, 7, 58, 4, 4, 172, 3, 172]
abbrev dktX0_commonAncestor_0 : List UInt8 := dkwX0_commonAncestor_0 ++ []
theorem dksX0_commonAncestor_0 : cX0_commonAncestor.data.toList.drop 0 = dktX0_commonAncestor_0 := by decide +kernel
theorem dX0_commonAncestor_0 : decode cX0_commonAncestor 0 = .ok (.aload_n 3, 1) := dk_45 (dk_at dksX0_commonAncestor_0 0 rfl rfl)
theorem dX0_commonAncestor_1 : decode cX0_commonAncestor 1 = .ok (.iconst 0, 1) := dk_3 (dk_at dksX0_commonAncestor_0 1 rfl rfl)
theorem dX0_commonAncestor_2 : decode cX0_commonAncestor 2 = .ok (.aload_n 0, 1) := dk_42 (dk_at dksX0_commonAncestor_0 2 rfl rfl)
theorem dX0_commonAncestor_3 : decode cX0_commonAncestor 3 = .ok (.iload_n 1, 1) := dk_27 (dk_at dksX0_commonAncestor_0 3 rfl rfl)
theorem dX0_commonAncestor_4 : decode cX0_commonAncestor 4 = .ok (.iload_n 2, 1) := dk_28 (dk_at dksX0_commonAncestor_0 4 rfl rfl)
theorem dX0_commonAncestor_5 : decode cX0_commonAncestor 5 = .ok (.invokevirtual 25, 3) := dk_182 0 25 (dk_at dksX0_commonAncestor_0 5 rfl rfl)
theorem dX0_commonAncestor_8 : decode cX0_commonAncestor 8 = .ok (.i2l, 1) := dk_133 (dk_at dksX0_commonAncestor_0 8 rfl rfl)
theorem dX0_commonAncestor_9 : decode cX0_commonAncestor 9 = .ok (.lastore, 1) := dk_80 (dk_at dksX0_commonAncestor_0 9 rfl rfl)
theorem dX0_commonAncestor_10 : decode cX0_commonAncestor 10 = .ok (.goto 7, 3) := dk_167 0 7 (dk_at dksX0_commonAncestor_0 10 rfl rfl)
theorem dX0_commonAncestor_13 : decode cX0_commonAncestor 13 = .ok (.astore 4, 2) := dk_58 4 (dk_at dksX0_commonAncestor_0 13 rfl rfl)
theorem dX0_commonAncestor_15 : decode cX0_commonAncestor 15 = .ok (.iconst 1, 1) := dk_4 (dk_at dksX0_commonAncestor_0 15 rfl rfl)
theorem dX0_commonAncestor_16 : decode cX0_commonAncestor 16 = .ok (.ireturn, 1) := dk_172 (dk_at dksX0_commonAncestor_0 16 rfl rfl)
theorem dX0_commonAncestor_17 : decode cX0_commonAncestor 17 = .ok (.iconst 0, 1) := dk_3 (dk_at dksX0_commonAncestor_0 17 rfl rfl)
theorem dX0_commonAncestor_18 : decode cX0_commonAncestor 18 = .ok (.ireturn, 1) := dk_172 (dk_at dksX0_commonAncestor_0 18 rfl rfl)
abbrev cX0_size : ByteArray := method_8_code
def yX0_size : MethodName := ⟨RX0, "size", "(LVectorVersions;I[J)I"⟩
def dkwX0_size_0 : List UInt8 := [44, 3, 42, 27, 182, 0, 29, 133, 80, 167, 0, 9, 78, 4, 172, 78, 5, 172, 3, 172]
abbrev dktX0_size_0 : List UInt8 := dkwX0_size_0 ++ []
theorem dksX0_size_0 : cX0_size.data.toList.drop 0 = dktX0_size_0 := by decide +kernel
theorem dX0_size_0 : decode cX0_size 0 = .ok (.aload_n 2, 1) := dk_44 (dk_at dksX0_size_0 0 rfl rfl)
theorem dX0_size_1 : decode cX0_size 1 = .ok (.iconst 0, 1) := dk_3 (dk_at dksX0_size_0 1 rfl rfl)
theorem dX0_size_2 : decode cX0_size 2 = .ok (.aload_n 0, 1) := dk_42 (dk_at dksX0_size_0 2 rfl rfl)
theorem dX0_size_3 : decode cX0_size 3 = .ok (.iload_n 1, 1) := dk_27 (dk_at dksX0_size_0 3 rfl rfl)
theorem dX0_size_4 : decode cX0_size 4 = .ok (.invokevirtual 29, 3) := dk_182 0 29 (dk_at dksX0_size_0 4 rfl rfl)
theorem dX0_size_7 : decode cX0_size 7 = .ok (.i2l, 1) := dk_133 (dk_at dksX0_size_0 7 rfl rfl)
theorem dX0_size_8 : decode cX0_size 8 = .ok (.lastore, 1) := dk_80 (dk_at dksX0_size_0 8 rfl rfl)
theorem dX0_size_9 : decode cX0_size 9 = .ok (.goto 9, 3) := dk_167 0 9 (dk_at dksX0_size_0 9 rfl rfl)
theorem dX0_size_12 : decode cX0_size 12 = .ok (.astore_n 3, 1) := dk_78 (dk_at dksX0_size_0 12 rfl rfl)
theorem dX0_size_13 : decode cX0_size 13 = .ok (.iconst 1, 1) := dk_4 (dk_at dksX0_size_0 13 rfl rfl)
theorem dX0_size_14 : decode cX0_size 14 = .ok (.ireturn, 1) := dk_172 (dk_at dksX0_size_0 14 rfl rfl)
theorem dX0_size_15 : decode cX0_size 15 = .ok (.astore_n 3, 1) := dk_78 (dk_at dksX0_size_0 15 rfl rfl)
theorem dX0_size_16 : decode cX0_size 16 = .ok (.iconst 2, 1) := dk_5 (dk_at dksX0_size_0 16 rfl rfl)
theorem dX0_size_17 : decode cX0_size 17 = .ok (.ireturn, 1) := dk_172 (dk_at dksX0_size_0 17 rfl rfl)
theorem dX0_size_18 : decode cX0_size 18 = .ok (.iconst 0, 1) := dk_3 (dk_at dksX0_size_0 18 rfl rfl)
theorem dX0_size_19 : decode cX0_size 19 = .ok (.ireturn, 1) := dk_172 (dk_at dksX0_size_0 19 rfl rfl)
abbrev cX0_height : ByteArray := method_9_code
def yX0_height : MethodName := ⟨RX0, "height", "(LVectorVersions;I[J)I"⟩
def dkwX0_height_0 : List UInt8 := [44, 3, 42, 27, 182, 0, 34, 133, 80, 167, 0, 9, 78, 4, 172, 78, 5, 172, 3, 172]
abbrev dktX0_height_0 : List UInt8 := dkwX0_height_0 ++ []
theorem dksX0_height_0 : cX0_height.data.toList.drop 0 = dktX0_height_0 := by decide +kernel
theorem dX0_height_0 : decode cX0_height 0 = .ok (.aload_n 2, 1) := dk_44 (dk_at dksX0_height_0 0 rfl rfl)
theorem dX0_height_1 : decode cX0_height 1 = .ok (.iconst 0, 1) := dk_3 (dk_at dksX0_height_0 1 rfl rfl)
theorem dX0_height_2 : decode cX0_height 2 = .ok (.aload_n 0, 1) := dk_42 (dk_at dksX0_height_0 2 rfl rfl)
theorem dX0_height_3 : decode cX0_height 3 = .ok (.iload_n 1, 1) := dk_27 (dk_at dksX0_height_0 3 rfl rfl)
theorem dX0_height_4 : decode cX0_height 4 = .ok (.invokevirtual 34, 3) := dk_182 0 34 (dk_at dksX0_height_0 4 rfl rfl)
theorem dX0_height_7 : decode cX0_height 7 = .ok (.i2l, 1) := dk_133 (dk_at dksX0_height_0 7 rfl rfl)
theorem dX0_height_8 : decode cX0_height 8 = .ok (.lastore, 1) := dk_80 (dk_at dksX0_height_0 8 rfl rfl)
theorem dX0_height_9 : decode cX0_height 9 = .ok (.goto 9, 3) := dk_167 0 9 (dk_at dksX0_height_0 9 rfl rfl)
theorem dX0_height_12 : decode cX0_height 12 = .ok (.astore_n 3, 1) := dk_78 (dk_at dksX0_height_0 12 rfl rfl)
theorem dX0_height_13 : decode cX0_height 13 = .ok (.iconst 1, 1) := dk_4 (dk_at dksX0_height_0 13 rfl rfl)
theorem dX0_height_14 : decode cX0_height 14 = .ok (.ireturn, 1) := dk_172 (dk_at dksX0_height_0 14 rfl rfl)
theorem dX0_height_15 : decode cX0_height 15 = .ok (.astore_n 3, 1) := dk_78 (dk_at dksX0_height_0 15 rfl rfl)
theorem dX0_height_16 : decode cX0_height 16 = .ok (.iconst 2, 1) := dk_5 (dk_at dksX0_height_0 16 rfl rfl)
theorem dX0_height_17 : decode cX0_height 17 = .ok (.ireturn, 1) := dk_172 (dk_at dksX0_height_0 17 rfl rfl)
theorem dX0_height_18 : decode cX0_height 18 = .ok (.iconst 0, 1) := dk_3 (dk_at dksX0_height_0 18 rfl rfl)
theorem dX0_height_19 : decode cX0_height 19 = .ok (.ireturn, 1) := dk_172 (dk_at dksX0_height_0 19 rfl rfl)
abbrev cX0_rootOf : ByteArray := method_10_code
def yX0_rootOf : MethodName := ⟨RX0, "rootOf", "(LVectorVersions;I[J)I"⟩
def dkwX0_rootOf_0 : List UInt8 := [44, 3, 42, 27, 182, 0, 37, 133, 80, 167, 0, 9, 78, 4, 172, 78, 5, 172, 3, 172]
abbrev dktX0_rootOf_0 : List UInt8 := dkwX0_rootOf_0 ++ []
theorem dksX0_rootOf_0 : cX0_rootOf.data.toList.drop 0 = dktX0_rootOf_0 := by decide +kernel
theorem dX0_rootOf_0 : decode cX0_rootOf 0 = .ok (.aload_n 2, 1) := dk_44 (dk_at dksX0_rootOf_0 0 rfl rfl)
theorem dX0_rootOf_1 : decode cX0_rootOf 1 = .ok (.iconst 0, 1) := dk_3 (dk_at dksX0_rootOf_0 1 rfl rfl)
theorem dX0_rootOf_2 : decode cX0_rootOf 2 = .ok (.aload_n 0, 1) := dk_42 (dk_at dksX0_rootOf_0 2 rfl rfl)
theorem dX0_rootOf_3 : decode cX0_rootOf 3 = .ok (.iload_n 1, 1) := dk_27 (dk_at dksX0_rootOf_0 3 rfl rfl)
theorem dX0_rootOf_4 : decode cX0_rootOf 4 = .ok (.invokevirtual 37, 3) := dk_182 0 37 (dk_at dksX0_rootOf_0 4 rfl rfl)
theorem dX0_rootOf_7 : decode cX0_rootOf 7 = .ok (.i2l, 1) := dk_133 (dk_at dksX0_rootOf_0 7 rfl rfl)
theorem dX0_rootOf_8 : decode cX0_rootOf 8 = .ok (.lastore, 1) := dk_80 (dk_at dksX0_rootOf_0 8 rfl rfl)
theorem dX0_rootOf_9 : decode cX0_rootOf 9 = .ok (.goto 9, 3) := dk_167 0 9 (dk_at dksX0_rootOf_0 9 rfl rfl)
theorem dX0_rootOf_12 : decode cX0_rootOf 12 = .ok (.astore_n 3, 1) := dk_78 (dk_at dksX0_rootOf_0 12 rfl rfl)
theorem dX0_rootOf_13 : decode cX0_rootOf 13 = .ok (.iconst 1, 1) := dk_4 (dk_at dksX0_rootOf_0 13 rfl rfl)
theorem dX0_rootOf_14 : decode cX0_rootOf 14 = .ok (.ireturn, 1) := dk_172 (dk_at dksX0_rootOf_0 14 rfl rfl)
theorem dX0_rootOf_15 : decode cX0_rootOf 15 = .ok (.astore_n 3, 1) := dk_78 (dk_at dksX0_rootOf_0 15 rfl rfl)
theorem dX0_rootOf_16 : decode cX0_rootOf 16 = .ok (.iconst 2, 1) := dk_5 (dk_at dksX0_rootOf_0 16 rfl rfl)
theorem dX0_rootOf_17 : decode cX0_rootOf 17 = .ok (.ireturn, 1) := dk_172 (dk_at dksX0_rootOf_0 17 rfl rfl)
theorem dX0_rootOf_18 : decode cX0_rootOf 18 = .ok (.iconst 0, 1) := dk_3 (dk_at dksX0_rootOf_0 18 rfl rfl)
theorem dX0_rootOf_19 : decode cX0_rootOf 19 = .ok (.ireturn, 1) := dk_172 (dk_at dksX0_rootOf_0 19 rfl rfl)
abbrev cX0_get : ByteArray := method_11_code
def yX0_get : MethodName := ⟨RX0, "get", "(LVectorVersions;II[J)I"⟩
def dkwX0_get_0 : List UInt8 := [45, 3, 42, 27, 28, 182, 0, 40, 133, 80, 167, 0, 11, 58, 4, 4, 172, 58, 4, 5, 172, 3, 172]
abbrev dktX0_get_0 : List UInt8 := dkwX0_get_0 ++ []
theorem dksX0_get_0 : cX0_get.data.toList.drop 0 = dktX0_get_0 := by decide +kernel
theorem dX0_get_0 : decode cX0_get 0 = .ok (.aload_n 3, 1) := dk_45 (dk_at dksX0_get_0 0 rfl rfl)
theorem dX0_get_1 : decode cX0_get 1 = .ok (.iconst 0, 1) := dk_3 (dk_at dksX0_get_0 1 rfl rfl)
theorem dX0_get_2 : decode cX0_get 2 = .ok (.aload_n 0, 1) := dk_42 (dk_at dksX0_get_0 2 rfl rfl)
theorem dX0_get_3 : decode cX0_get 3 = .ok (.iload_n 1, 1) := dk_27 (dk_at dksX0_get_0 3 rfl rfl)
theorem dX0_get_4 : decode cX0_get 4 = .ok (.iload_n 2, 1) := dk_28 (dk_at dksX0_get_0 4 rfl rfl)
theorem dX0_get_5 : decode cX0_get 5 = .ok (.invokevirtual 40, 3) := dk_182 0 40 (dk_at dksX0_get_0 5 rfl rfl)
theorem dX0_get_8 : decode cX0_get 8 = .ok (.i2l, 1) := dk_133 (dk_at dksX0_get_0 8 rfl rfl)
theorem dX0_get_9 : decode cX0_get 9 = .ok (.lastore, 1) := dk_80 (dk_at dksX0_get_0 9 rfl rfl)
theorem dX0_get_10 : decode cX0_get 10 = .ok (.goto 11, 3) := dk_167 0 11 (dk_at dksX0_get_0 10 rfl rfl)
theorem dX0_get_13 : decode cX0_get 13 = .ok (.astore 4, 2) := dk_58 4 (dk_at dksX0_get_0 13 rfl rfl)
theorem dX0_get_15 : decode cX0_get 15 = .ok (.iconst 1, 1) := dk_4 (dk_at dksX0_get_0 15 rfl rfl)
theorem dX0_get_16 : decode cX0_get 16 = .ok (.ireturn, 1) := dk_172 (dk_at dksX0_get_0 16 rfl rfl)
theorem dX0_get_17 : decode cX0_get 17 = .ok (.astore 4, 2) := dk_58 4 (dk_at dksX0_get_0 17 rfl rfl)
theorem dX0_get_19 : decode cX0_get 19 = .ok (.iconst 2, 1) := dk_5 (dk_at dksX0_get_0 19 rfl rfl)
theorem dX0_get_20 : decode cX0_get 20 = .ok (.ireturn, 1) := dk_172 (dk_at dksX0_get_0 20 rfl rfl)
theorem dX0_get_21 : decode cX0_get 21 = .ok (.iconst 0, 1) := dk_3 (dk_at dksX0_get_0 21 rfl rfl)
theorem dX0_get_22 : decode cX0_get 22 = .ok (.ireturn, 1) := dk_172 (dk_at dksX0_get_0 22 rfl rfl)
abbrev cX0_leafOf : ByteArray := method_12_code
def yX0_leafOf : MethodName := ⟨RX0, "leafOf", "(LVectorVersions;II[J)I"⟩
def dkwX0_leafOf_0 : List UInt8 := [45, 3, 42, 27, 28, 182, 0, 43, 133, 80, 167, 0, 11, 58, 4, 4, 172, 58, 4, 5, 172, 3, 172]
abbrev dktX0_leafOf_0 : List UInt8 := dkwX0_leafOf_0 ++ []
theorem dksX0_leafOf_0 : cX0_leafOf.data.toList.drop 0 = dktX0_leafOf_0 := by decide +kernel
theorem dX0_leafOf_0 : decode cX0_leafOf 0 = .ok (.aload_n 3, 1) := dk_45 (dk_at dksX0_leafOf_0 0 rfl rfl)
theorem dX0_leafOf_1 : decode cX0_leafOf 1 = .ok (.iconst 0, 1) := dk_3 (dk_at dksX0_leafOf_0 1 rfl rfl)
theorem dX0_leafOf_2 : decode cX0_leafOf 2 = .ok (.aload_n 0, 1) := dk_42 (dk_at dksX0_leafOf_0 2 rfl rfl)
theorem dX0_leafOf_3 : decode cX0_leafOf 3 = .ok (.iload_n 1, 1) := dk_27 (dk_at dksX0_leafOf_0 3 rfl rfl)
theorem dX0_leafOf_4 : decode cX0_leafOf 4 = .ok (.iload_n 2, 1) := dk_28 (dk_at dksX0_leafOf_0 4 rfl rfl)
theorem dX0_leafOf_5 : decode cX0_leafOf 5 = .ok (.invokevirtual 43, 3) := dk_182 0 43 (dk_at dksX0_leafOf_0 5 rfl rfl)
theorem dX0_leafOf_8 : decode cX0_leafOf 8 = .ok (.i2l, 1) := dk_133 (dk_at dksX0_leafOf_0 8 rfl rfl)
theorem dX0_leafOf_9 : decode cX0_leafOf 9 = .ok (.lastore, 1) := dk_80 (dk_at dksX0_leafOf_0 9 rfl rfl)
theorem dX0_leafOf_10 : decode cX0_leafOf 10 = .ok (.goto 11, 3) := dk_167 0 11 (dk_at dksX0_leafOf_0 10 rfl rfl)
theorem dX0_leafOf_13 : decode cX0_leafOf 13 = .ok (.astore 4, 2) := dk_58 4 (dk_at dksX0_leafOf_0 13 rfl rfl)
theorem dX0_leafOf_15 : decode cX0_leafOf 15 = .ok (.iconst 1, 1) := dk_4 (dk_at dksX0_leafOf_0 15 rfl rfl)
theorem dX0_leafOf_16 : decode cX0_leafOf 16 = .ok (.ireturn, 1) := dk_172 (dk_at dksX0_leafOf_0 16 rfl rfl)
theorem dX0_leafOf_17 : decode cX0_leafOf 17 = .ok (.astore 4, 2) := dk_58 4 (dk_at dksX0_leafOf_0 17 rfl rfl)
theorem dX0_leafOf_19 : decode cX0_leafOf 19 = .ok (.iconst 2, 1) := dk_5 (dk_at dksX0_leafOf_0 19 rfl rfl)
theorem dX0_leafOf_20 : decode cX0_leafOf 20 = .ok (.ireturn, 1) := dk_172 (dk_at dksX0_leafOf_0 20 rfl rfl)
theorem dX0_leafOf_21 : decode cX0_leafOf 21 = .ok (.iconst 0, 1) := dk_3 (dk_at dksX0_leafOf_0 21 rfl rfl)
theorem dX0_leafOf_22 : decode cX0_leafOf 22 = .ok (.ireturn, 1) := dk_172 (dk_at dksX0_leafOf_0 22 rfl rfl)
abbrev cX0_sum : ByteArray := method_13_code
def yX0_sum : MethodName := ⟨RX0, "sum", "(LVectorVersions;I[J)I"⟩
def dkwX0_sum_0 : List UInt8 := [44, 3, 42, 27, 182, 0, 46, 133, 80, 167, 0, 9, 78, 4, 172, 78, 5, 172, 3, 172]
abbrev dktX0_sum_0 : List UInt8 := dkwX0_sum_0 ++ []
theorem dksX0_sum_0 : cX0_sum.data.toList.drop 0 = dktX0_sum_0 := by decide +kernel
theorem dX0_sum_0 : decode cX0_sum 0 = .ok (.aload_n 2, 1) := dk_44 (dk_at dksX0_sum_0 0 rfl rfl)
theorem dX0_sum_1 : decode cX0_sum 1 = .ok (.iconst 0, 1) := dk_3 (dk_at dksX0_sum_0 1 rfl rfl)
theorem dX0_sum_2 : decode cX0_sum 2 = .ok (.aload_n 0, 1) := dk_42 (dk_at dksX0_sum_0 2 rfl rfl)
theorem dX0_sum_3 : decode cX0_sum 3 = .ok (.iload_n 1, 1) := dk_27 (dk_at dksX0_sum_0 3 rfl rfl)
theorem dX0_sum_4 : decode cX0_sum 4 = .ok (.invokevirtual 46, 3) := dk_182 0 46 (dk_at dksX0_sum_0 4 rfl rfl)
theorem dX0_sum_7 : decode cX0_sum 7 = .ok (.i2l, 1) := dk_133 (dk_at dksX0_sum_0 7 rfl rfl)
theorem dX0_sum_8 : decode cX0_sum 8 = .ok (.lastore, 1) := dk_80 (dk_at dksX0_sum_0 8 rfl rfl)
theorem dX0_sum_9 : decode cX0_sum 9 = .ok (.goto 9, 3) := dk_167 0 9 (dk_at dksX0_sum_0 9 rfl rfl)
theorem dX0_sum_12 : decode cX0_sum 12 = .ok (.astore_n 3, 1) := dk_78 (dk_at dksX0_sum_0 12 rfl rfl)
theorem dX0_sum_13 : decode cX0_sum 13 = .ok (.iconst 1, 1) := dk_4 (dk_at dksX0_sum_0 13 rfl rfl)
theorem dX0_sum_14 : decode cX0_sum 14 = .ok (.ireturn, 1) := dk_172 (dk_at dksX0_sum_0 14 rfl rfl)
theorem dX0_sum_15 : decode cX0_sum 15 = .ok (.astore_n 3, 1) := dk_78 (dk_at dksX0_sum_0 15 rfl rfl)
theorem dX0_sum_16 : decode cX0_sum 16 = .ok (.iconst 2, 1) := dk_5 (dk_at dksX0_sum_0 16 rfl rfl)
theorem dX0_sum_17 : decode cX0_sum 17 = .ok (.ireturn, 1) := dk_172 (dk_at dksX0_sum_0 17 rfl rfl)
theorem dX0_sum_18 : decode cX0_sum 18 = .ok (.iconst 0, 1) := dk_3 (dk_at dksX0_sum_0 18 rfl rfl)
theorem dX0_sum_19 : decode cX0_sum 19 = .ok (.ireturn, 1) := dk_172 (dk_at dksX0_sum_0 19 rfl rfl)
abbrev cX0_indexOf : ByteArray := method_14_code
def yX0_indexOf : MethodName := ⟨RX0, "indexOf", "(LVectorVersions;II[J)I"⟩
def dkwX0_indexOf_0 : List UInt8 := [45, 3, 42, 27, 28, 182, 0, 49, 133, 80, 167, 0, 11, 58, 4, 4, 172, 58, 4, 5, 172, 3, 172]
abbrev dktX0_indexOf_0 : List UInt8 := dkwX0_indexOf_0 ++ []
theorem dksX0_indexOf_0 : cX0_indexOf.data.toList.drop 0 = dktX0_indexOf_0 := by decide +kernel
theorem dX0_indexOf_0 : decode cX0_indexOf 0 = .ok (.aload_n 3, 1) := dk_45 (dk_at dksX0_indexOf_0 0 rfl rfl)
theorem dX0_indexOf_1 : decode cX0_indexOf 1 = .ok (.iconst 0, 1) := dk_3 (dk_at dksX0_indexOf_0 1 rfl rfl)
theorem dX0_indexOf_2 : decode cX0_indexOf 2 = .ok (.aload_n 0, 1) := dk_42 (dk_at dksX0_indexOf_0 2 rfl rfl)
theorem dX0_indexOf_3 : decode cX0_indexOf 3 = .ok (.iload_n 1, 1) := dk_27 (dk_at dksX0_indexOf_0 3 rfl rfl)
theorem dX0_indexOf_4 : decode cX0_indexOf 4 = .ok (.iload_n 2, 1) := dk_28 (dk_at dksX0_indexOf_0 4 rfl rfl)
theorem dX0_indexOf_5 : decode cX0_indexOf 5 = .ok (.invokevirtual 49, 3) := dk_182 0 49 (dk_at dksX0_indexOf_0 5 rfl rfl)
theorem dX0_indexOf_8 : decode cX0_indexOf 8 = .ok (.i2l, 1) := dk_133 (dk_at dksX0_indexOf_0 8 rfl rfl)
theorem dX0_indexOf_9 : decode cX0_indexOf 9 = .ok (.lastore, 1) := dk_80 (dk_at dksX0_indexOf_0 9 rfl rfl)
theorem dX0_indexOf_10 : decode cX0_indexOf 10 = .ok (.goto 11, 3) := dk_167 0 11 (dk_at dksX0_indexOf_0 10 rfl rfl)
theorem dX0_indexOf_13 : decode cX0_indexOf 13 = .ok (.astore 4, 2) := dk_58 4 (dk_at dksX0_indexOf_0 13 rfl rfl)
theorem dX0_indexOf_15 : decode cX0_indexOf 15 = .ok (.iconst 1, 1) := dk_4 (dk_at dksX0_indexOf_0 15 rfl rfl)
theorem dX0_indexOf_16 : decode cX0_indexOf 16 = .ok (.ireturn, 1) := dk_172 (dk_at dksX0_indexOf_0 16 rfl rfl)
theorem dX0_indexOf_17 : decode cX0_indexOf 17 = .ok (.astore 4, 2) := dk_58 4 (dk_at dksX0_indexOf_0 17 rfl rfl)
theorem dX0_indexOf_19 : decode cX0_indexOf 19 = .ok (.iconst 2, 1) := dk_5 (dk_at dksX0_indexOf_0 19 rfl rfl)
theorem dX0_indexOf_20 : decode cX0_indexOf 20 = .ok (.ireturn, 1) := dk_172 (dk_at dksX0_indexOf_0 20 rfl rfl)
theorem dX0_indexOf_21 : decode cX0_indexOf 21 = .ok (.iconst 0, 1) := dk_3 (dk_at dksX0_indexOf_0 21 rfl rfl)
theorem dX0_indexOf_22 : decode cX0_indexOf 22 = .ok (.ireturn, 1) := dk_172 (dk_at dksX0_indexOf_0 22 rfl rfl)
abbrev cX0_nodesCreatedFor : ByteArray := method_15_code
def yX0_nodesCreatedFor : MethodName := ⟨RX0, "nodesCreatedFor", "(LVectorVersions;I[J)I"⟩
def dkwX0_nodesCreatedFor_0 : List UInt8 := [44, 3, 42, 27, 182, 0, 52, 133, 80, 167, 0, 6, 78, 4, 172, 3, 172]
abbrev dktX0_nodesCreatedFor_0 : List UInt8 := dkwX0_nodesCreatedFor_0 ++ []
theorem dksX0_nodesCreatedFor_0 : cX0_nodesCreatedFor.data.toList.drop 0 = dktX0_nodesCreatedFor_0 := by decide +kernel
theorem dX0_nodesCreatedFor_0 : decode cX0_nodesCreatedFor 0 = .ok (.aload_n 2, 1) := dk_44 (dk_at dksX0_nodesCreatedFor_0 0 rfl rfl)
theorem dX0_nodesCreatedFor_1 : decode cX0_nodesCreatedFor 1 = .ok (.iconst 0, 1) := dk_3 (dk_at dksX0_nodesCreatedFor_0 1 rfl rfl)
theorem dX0_nodesCreatedFor_2 : decode cX0_nodesCreatedFor 2 = .ok (.aload_n 0, 1) := dk_42 (dk_at dksX0_nodesCreatedFor_0 2 rfl rfl)
theorem dX0_nodesCreatedFor_3 : decode cX0_nodesCreatedFor 3 = .ok (.iload_n 1, 1) := dk_27 (dk_at dksX0_nodesCreatedFor_0 3 rfl rfl)
theorem dX0_nodesCreatedFor_4 : decode cX0_nodesCreatedFor 4 = .ok (.invokevirtual 52, 3) := dk_182 0 52 (dk_at dksX0_nodesCreatedFor_0 4 rfl rfl)
theorem dX0_nodesCreatedFor_7 : decode cX0_nodesCreatedFor 7 = .ok (.i2l, 1) := dk_133 (dk_at dksX0_nodesCreatedFor_0 7 rfl rfl)
theorem dX0_nodesCreatedFor_8 : decode cX0_nodesCreatedFor 8 = .ok (.lastore, 1) := dk_80 (dk_at dksX0_nodesCreatedFor_0 8 rfl rfl)
theorem dX0_nodesCreatedFor_9 : decode cX0_nodesCreatedFor 9 = .ok (.goto 6, 3) := dk_167 0 6 (dk_at dksX0_nodesCreatedFor_0 9 rfl rfl)
theorem dX0_nodesCreatedFor_12 : decode cX0_nodesCreatedFor 12 = .ok (.astore_n 3, 1) := dk_78 (dk_at dksX0_nodesCreatedFor_0 12 rfl rfl)
theorem dX0_nodesCreatedFor_13 : decode cX0_nodesCreatedFor 13 = .ok (.iconst 1, 1) := dk_4 (dk_at dksX0_nodesCreatedFor_0 13 rfl rfl)
theorem dX0_nodesCreatedFor_14 : decode cX0_nodesCreatedFor 14 = .ok (.ireturn, 1) := dk_172 (dk_at dksX0_nodesCreatedFor_0 14 rfl rfl)
theorem dX0_nodesCreatedFor_15 : decode cX0_nodesCreatedFor 15 = .ok (.iconst 0, 1) := dk_3 (dk_at dksX0_nodesCreatedFor_0 15 rfl rfl)
theorem dX0_nodesCreatedFor_16 : decode cX0_nodesCreatedFor 16 = .ok (.ireturn, 1) := dk_172 (dk_at dksX0_nodesCreatedFor_0 16 rfl rfl)
abbrev cX0_nodesOf : ByteArray := method_16_code
def yX0_nodesOf : MethodName := ⟨RX0, "nodesOf", "(LVectorVersions;I[J)I"⟩
def dkwX0_nodesOf_0 : List UInt8 := [44, 3, 42, 27, 182, 0, 55, 133, 80, 167, 0, 9, 78, 4, 172, 78, 5, 172, 3, 172]
abbrev dktX0_nodesOf_0 : List UInt8 := dkwX0_nodesOf_0 ++ []
theorem dksX0_nodesOf_0 : cX0_nodesOf.data.toList.drop 0 = dktX0_nodesOf_0 := by decide +kernel
theorem dX0_nodesOf_0 : decode cX0_nodesOf 0 = .ok (.aload_n 2, 1) := dk_44 (dk_at dksX0_nodesOf_0 0 rfl rfl)
theorem dX0_nodesOf_1 : decode cX0_nodesOf 1 = .ok (.iconst 0, 1) := dk_3 (dk_at dksX0_nodesOf_0 1 rfl rfl)
theorem dX0_nodesOf_2 : decode cX0_nodesOf 2 = .ok (.aload_n 0, 1) := dk_42 (dk_at dksX0_nodesOf_0 2 rfl rfl)
theorem dX0_nodesOf_3 : decode cX0_nodesOf 3 = .ok (.iload_n 1, 1) := dk_27 (dk_at dksX0_nodesOf_0 3 rfl rfl)
theorem dX0_nodesOf_4 : decode cX0_nodesOf 4 = .ok (.invokevirtual 55, 3) := dk_182 0 55 (dk_at dksX0_nodesOf_0 4 rfl rfl)
theorem dX0_nodesOf_7 : decode cX0_nodesOf 7 = .ok (.i2l, 1) := dk_133 (dk_at dksX0_nodesOf_0 7 rfl rfl)
theorem dX0_nodesOf_8 : decode cX0_nodesOf 8 = .ok (.lastore, 1) := dk_80 (dk_at dksX0_nodesOf_0 8 rfl rfl)
theorem dX0_nodesOf_9 : decode cX0_nodesOf 9 = .ok (.goto 9, 3) := dk_167 0 9 (dk_at dksX0_nodesOf_0 9 rfl rfl)
theorem dX0_nodesOf_12 : decode cX0_nodesOf 12 = .ok (.astore_n 3, 1) := dk_78 (dk_at dksX0_nodesOf_0 12 rfl rfl)
theorem dX0_nodesOf_13 : decode cX0_nodesOf 13 = .ok (.iconst 1, 1) := dk_4 (dk_at dksX0_nodesOf_0 13 rfl rfl)
theorem dX0_nodesOf_14 : decode cX0_nodesOf 14 = .ok (.ireturn, 1) := dk_172 (dk_at dksX0_nodesOf_0 14 rfl rfl)
theorem dX0_nodesOf_15 : decode cX0_nodesOf 15 = .ok (.astore_n 3, 1) := dk_78 (dk_at dksX0_nodesOf_0 15 rfl rfl)
theorem dX0_nodesOf_16 : decode cX0_nodesOf 16 = .ok (.iconst 2, 1) := dk_5 (dk_at dksX0_nodesOf_0 16 rfl rfl)
theorem dX0_nodesOf_17 : decode cX0_nodesOf 17 = .ok (.ireturn, 1) := dk_172 (dk_at dksX0_nodesOf_0 17 rfl rfl)
theorem dX0_nodesOf_18 : decode cX0_nodesOf 18 = .ok (.iconst 0, 1) := dk_3 (dk_at dksX0_nodesOf_0 18 rfl rfl)
theorem dX0_nodesOf_19 : decode cX0_nodesOf 19 = .ok (.ireturn, 1) := dk_172 (dk_at dksX0_nodesOf_0 19 rfl rfl)
abbrev cX0_sharedNodes : ByteArray := method_17_code
def yX0_sharedNodes : MethodName := ⟨RX0, "sharedNodes", "(LVectorVersions;II[J)I"⟩
def dkwX0_sharedNodes_0 : List UInt8 := [45, 3, 42, 27, 28, 182, 0, 58, 133, 80, 167, 0, 11, 58, 4, 4, 172, 58, 4, 5, 172, 3, 172]
abbrev dktX0_sharedNodes_0 : List UInt8 := dkwX0_sharedNodes_0 ++ []
theorem dksX0_sharedNodes_0 : cX0_sharedNodes.data.toList.drop 0 = dktX0_sharedNodes_0 := by decide +kernel
theorem dX0_sharedNodes_0 : decode cX0_sharedNodes 0 = .ok (.aload_n 3, 1) := dk_45 (dk_at dksX0_sharedNodes_0 0 rfl rfl)
theorem dX0_sharedNodes_1 : decode cX0_sharedNodes 1 = .ok (.iconst 0, 1) := dk_3 (dk_at dksX0_sharedNodes_0 1 rfl rfl)
theorem dX0_sharedNodes_2 : decode cX0_sharedNodes 2 = .ok (.aload_n 0, 1) := dk_42 (dk_at dksX0_sharedNodes_0 2 rfl rfl)
theorem dX0_sharedNodes_3 : decode cX0_sharedNodes 3 = .ok (.iload_n 1, 1) := dk_27 (dk_at dksX0_sharedNodes_0 3 rfl rfl)
theorem dX0_sharedNodes_4 : decode cX0_sharedNodes 4 = .ok (.iload_n 2, 1) := dk_28 (dk_at dksX0_sharedNodes_0 4 rfl rfl)
theorem dX0_sharedNodes_5 : decode cX0_sharedNodes 5 = .ok (.invokevirtual 58, 3) := dk_182 0 58 (dk_at dksX0_sharedNodes_0 5 rfl rfl)
theorem dX0_sharedNodes_8 : decode cX0_sharedNodes 8 = .ok (.i2l, 1) := dk_133 (dk_at dksX0_sharedNodes_0 8 rfl rfl)
theorem dX0_sharedNodes_9 : decode cX0_sharedNodes 9 = .ok (.lastore, 1) := dk_80 (dk_at dksX0_sharedNodes_0 9 rfl rfl)
theorem dX0_sharedNodes_10 : decode cX0_sharedNodes 10 = .ok (.goto 11, 3) := dk_167 0 11 (dk_at dksX0_sharedNodes_0 10 rfl rfl)
theorem dX0_sharedNodes_13 : decode cX0_sharedNodes 13 = .ok (.astore 4, 2) := dk_58 4 (dk_at dksX0_sharedNodes_0 13 rfl rfl)
theorem dX0_sharedNodes_15 : decode cX0_sharedNodes 15 = .ok (.iconst 1, 1) := dk_4 (dk_at dksX0_sharedNodes_0 15 rfl rfl)
theorem dX0_sharedNodes_16 : decode cX0_sharedNodes 16 = .ok (.ireturn, 1) := dk_172 (dk_at dksX0_sharedNodes_0 16 rfl rfl)
theorem dX0_sharedNodes_17 : decode cX0_sharedNodes 17 = .ok (.astore 4, 2) := dk_58 4 (dk_at dksX0_sharedNodes_0 17 rfl rfl)
theorem dX0_sharedNodes_19 : decode cX0_sharedNodes 19 = .ok (.iconst 2, 1) := dk_5 (dk_at dksX0_sharedNodes_0 19 rfl rfl)
theorem dX0_sharedNodes_20 : decode cX0_sharedNodes 20 = .ok (.ireturn, 1) := dk_172 (dk_at dksX0_sharedNodes_0 20 rfl rfl)
theorem dX0_sharedNodes_21 : decode cX0_sharedNodes 21 = .ok (.iconst 0, 1) := dk_3 (dk_at dksX0_sharedNodes_0 21 rfl rfl)
theorem dX0_sharedNodes_22 : decode cX0_sharedNodes 22 = .ok (.ireturn, 1) := dk_172 (dk_at dksX0_sharedNodes_0 22 rfl rfl)
abbrev cX0_exclusiveNodes : ByteArray := method_18_code
def yX0_exclusiveNodes : MethodName := ⟨RX0, "exclusiveNodes", "(LVectorVersions;I[J)I"⟩
def dkwX0_exclusiveNodes_0 : List UInt8 := [44, 3, 42, 27, 182, 0, 61, 133, 80, 167, 0, 9, 78, 4, 172, 78, 5, 172, 3, 172]
abbrev dktX0_exclusiveNodes_0 : List UInt8 := dkwX0_exclusiveNodes_0 ++ []
theorem dksX0_exclusiveNodes_0 : cX0_exclusiveNodes.data.toList.drop 0 = dktX0_exclusiveNodes_0 := by decide +kernel
theorem dX0_exclusiveNodes_0 : decode cX0_exclusiveNodes 0 = .ok (.aload_n 2, 1) := dk_44 (dk_at dksX0_exclusiveNodes_0 0 rfl rfl)
theorem dX0_exclusiveNodes_1 : decode cX0_exclusiveNodes 1 = .ok (.iconst 0, 1) := dk_3 (dk_at dksX0_exclusiveNodes_0 1 rfl rfl)
theorem dX0_exclusiveNodes_2 : decode cX0_exclusiveNodes 2 = .ok (.aload_n 0, 1) := dk_42 (dk_at dksX0_exclusiveNodes_0 2 rfl rfl)
theorem dX0_exclusiveNodes_3 : decode cX0_exclusiveNodes 3 = .ok (.iload_n 1, 1) := dk_27 (dk_at dksX0_exclusiveNodes_0 3 rfl rfl)
theorem dX0_exclusiveNodes_4 : decode cX0_exclusiveNodes 4 = .ok (.invokevirtual 61, 3) := dk_182 0 61 (dk_at dksX0_exclusiveNodes_0 4 rfl rfl)
theorem dX0_exclusiveNodes_7 : decode cX0_exclusiveNodes 7 = .ok (.i2l, 1) := dk_133 (dk_at dksX0_exclusiveNodes_0 7 rfl rfl)
theorem dX0_exclusiveNodes_8 : decode cX0_exclusiveNodes 8 = .ok (.lastore, 1) := dk_80 (dk_at dksX0_exclusiveNodes_0 8 rfl rfl)
theorem dX0_exclusiveNodes_9 : decode cX0_exclusiveNodes 9 = .ok (.goto 9, 3) := dk_167 0 9 (dk_at dksX0_exclusiveNodes_0 9 rfl rfl)
theorem dX0_exclusiveNodes_12 : decode cX0_exclusiveNodes 12 = .ok (.astore_n 3, 1) := dk_78 (dk_at dksX0_exclusiveNodes_0 12 rfl rfl)
theorem dX0_exclusiveNodes_13 : decode cX0_exclusiveNodes 13 = .ok (.iconst 1, 1) := dk_4 (dk_at dksX0_exclusiveNodes_0 13 rfl rfl)
theorem dX0_exclusiveNodes_14 : decode cX0_exclusiveNodes 14 = .ok (.ireturn, 1) := dk_172 (dk_at dksX0_exclusiveNodes_0 14 rfl rfl)
theorem dX0_exclusiveNodes_15 : decode cX0_exclusiveNodes 15 = .ok (.astore_n 3, 1) := dk_78 (dk_at dksX0_exclusiveNodes_0 15 rfl rfl)
theorem dX0_exclusiveNodes_16 : decode cX0_exclusiveNodes 16 = .ok (.iconst 2, 1) := dk_5 (dk_at dksX0_exclusiveNodes_0 16 rfl rfl)
theorem dX0_exclusiveNodes_17 : decode cX0_exclusiveNodes 17 = .ok (.ireturn, 1) := dk_172 (dk_at dksX0_exclusiveNodes_0 17 rfl rfl)
theorem dX0_exclusiveNodes_18 : decode cX0_exclusiveNodes 18 = .ok (.iconst 0, 1) := dk_3 (dk_at dksX0_exclusiveNodes_0 18 rfl rfl)
theorem dX0_exclusiveNodes_19 : decode cX0_exclusiveNodes 19 = .ok (.ireturn, 1) := dk_172 (dk_at dksX0_exclusiveNodes_0 19 rfl rfl)
abbrev cX0_isLeaf : ByteArray := method_19_code
def yX0_isLeaf : MethodName := ⟨RX0, "isLeaf", "(LVectorVersions;I[J)I"⟩
def dkwX0_isLeaf_0 : List UInt8 := [44, 3, 42, 27, 182, 0, 64, 153, 0, 7, 10, 167, 0, 4, 9, 80, 167, 0, 6, 78, 4, 172, 3, 172]
abbrev dktX0_isLeaf_0 : List UInt8 := dkwX0_isLeaf_0 ++ []
theorem dksX0_isLeaf_0 : cX0_isLeaf.data.toList.drop 0 = dktX0_isLeaf_0 := by decide +kernel
theorem dX0_isLeaf_0 : decode cX0_isLeaf 0 = .ok (.aload_n 2, 1) := dk_44 (dk_at dksX0_isLeaf_0 0 rfl rfl)
theorem dX0_isLeaf_1 : decode cX0_isLeaf 1 = .ok (.iconst 0, 1) := dk_3 (dk_at dksX0_isLeaf_0 1 rfl rfl)
theorem dX0_isLeaf_2 : decode cX0_isLeaf 2 = .ok (.aload_n 0, 1) := dk_42 (dk_at dksX0_isLeaf_0 2 rfl rfl)
theorem dX0_isLeaf_3 : decode cX0_isLeaf 3 = .ok (.iload_n 1, 1) := dk_27 (dk_at dksX0_isLeaf_0 3 rfl rfl)
theorem dX0_isLeaf_4 : decode cX0_isLeaf 4 = .ok (.invokevirtual 64, 3) := dk_182 0 64 (dk_at dksX0_isLeaf_0 4 rfl rfl)
theorem dX0_isLeaf_7 : decode cX0_isLeaf 7 = .ok (.ifCond .eq 7, 3) := dk_153 0 7 (dk_at dksX0_isLeaf_0 7 rfl rfl)
theorem dX0_isLeaf_10 : decode cX0_isLeaf 10 = .ok (.lconst 1, 1) := dk_10 (dk_at dksX0_isLeaf_0 10 rfl rfl)
theorem dX0_isLeaf_11 : decode cX0_isLeaf 11 = .ok (.goto 4, 3) := dk_167 0 4 (dk_at dksX0_isLeaf_0 11 rfl rfl)
theorem dX0_isLeaf_14 : decode cX0_isLeaf 14 = .ok (.lconst 0, 1) := dk_9 (dk_at dksX0_isLeaf_0 14 rfl rfl)
theorem dX0_isLeaf_15 : decode cX0_isLeaf 15 = .ok (.lastore, 1) := dk_80 (dk_at dksX0_isLeaf_0 15 rfl rfl)
theorem dX0_isLeaf_16 : decode cX0_isLeaf 16 = .ok (.goto 6, 3) := dk_167 0 6 (dk_at dksX0_isLeaf_0 16 rfl rfl)
theorem dX0_isLeaf_19 : decode cX0_isLeaf 19 = .ok (.astore_n 3, 1) := dk_78 (dk_at dksX0_isLeaf_0 19 rfl rfl)
theorem dX0_isLeaf_20 : decode cX0_isLeaf 20 = .ok (.iconst 1, 1) := dk_4 (dk_at dksX0_isLeaf_0 20 rfl rfl)
theorem dX0_isLeaf_21 : decode cX0_isLeaf 21 = .ok (.ireturn, 1) := dk_172 (dk_at dksX0_isLeaf_0 21 rfl rfl)
theorem dX0_isLeaf_22 : decode cX0_isLeaf 22 = .ok (.iconst 0, 1) := dk_3 (dk_at dksX0_isLeaf_0 22 rfl rfl)
theorem dX0_isLeaf_23 : decode cX0_isLeaf 23 = .ok (.ireturn, 1) := dk_172 (dk_at dksX0_isLeaf_0 23 rfl rfl)
abbrev cX0_entryCount : ByteArray := method_20_code
def yX0_entryCount : MethodName := ⟨RX0, "entryCount", "(LVectorVersions;I[J)I"⟩
def dkwX0_entryCount_0 : List UInt8 := [44, 3, 42, 27, 182, 0, 67, 133, 80, 167, 0, 6, 78, 4, 172, 3, 172]
abbrev dktX0_entryCount_0 : List UInt8 := dkwX0_entryCount_0 ++ []
theorem dksX0_entryCount_0 : cX0_entryCount.data.toList.drop 0 = dktX0_entryCount_0 := by decide +kernel
theorem dX0_entryCount_0 : decode cX0_entryCount 0 = .ok (.aload_n 2, 1) := dk_44 (dk_at dksX0_entryCount_0 0 rfl rfl)
theorem dX0_entryCount_1 : decode cX0_entryCount 1 = .ok (.iconst 0, 1) := dk_3 (dk_at dksX0_entryCount_0 1 rfl rfl)
theorem dX0_entryCount_2 : decode cX0_entryCount 2 = .ok (.aload_n 0, 1) := dk_42 (dk_at dksX0_entryCount_0 2 rfl rfl)
theorem dX0_entryCount_3 : decode cX0_entryCount 3 = .ok (.iload_n 1, 1) := dk_27 (dk_at dksX0_entryCount_0 3 rfl rfl)
theorem dX0_entryCount_4 : decode cX0_entryCount 4 = .ok (.invokevirtual 67, 3) := dk_182 0 67 (dk_at dksX0_entryCount_0 4 rfl rfl)
theorem dX0_entryCount_7 : decode cX0_entryCount 7 = .ok (.i2l, 1) := dk_133 (dk_at dksX0_entryCount_0 7 rfl rfl)
theorem dX0_entryCount_8 : decode cX0_entryCount 8 = .ok (.lastore, 1) := dk_80 (dk_at dksX0_entryCount_0 8 rfl rfl)
theorem dX0_entryCount_9 : decode cX0_entryCount 9 = .ok (.goto 6, 3) := dk_167 0 6 (dk_at dksX0_entryCount_0 9 rfl rfl)
theorem dX0_entryCount_12 : decode cX0_entryCount 12 = .ok (.astore_n 3, 1) := dk_78 (dk_at dksX0_entryCount_0 12 rfl rfl)
theorem dX0_entryCount_13 : decode cX0_entryCount 13 = .ok (.iconst 1, 1) := dk_4 (dk_at dksX0_entryCount_0 13 rfl rfl)
theorem dX0_entryCount_14 : decode cX0_entryCount 14 = .ok (.ireturn, 1) := dk_172 (dk_at dksX0_entryCount_0 14 rfl rfl)
theorem dX0_entryCount_15 : decode cX0_entryCount 15 = .ok (.iconst 0, 1) := dk_3 (dk_at dksX0_entryCount_0 15 rfl rfl)
theorem dX0_entryCount_16 : decode cX0_entryCount 16 = .ok (.ireturn, 1) := dk_172 (dk_at dksX0_entryCount_0 16 rfl rfl)
abbrev cX0_childOf : ByteArray := method_21_code
def yX0_childOf : MethodName := ⟨RX0, "childOf", "(LVectorVersions;II[J)I"⟩
def dkwX0_childOf_0 : List UInt8 := [45, 3, 42, 27, 28, 182, 0, 70, 133, 80, 167, 0, 7, 58, 4, 4, 172, 3, 172]
abbrev dktX0_childOf_0 : List UInt8 := dkwX0_childOf_0 ++ []
theorem dksX0_childOf_0 : cX0_childOf.data.toList.drop 0 = dktX0_childOf_0 := by decide +kernel
theorem dX0_childOf_0 : decode cX0_childOf 0 = .ok (.aload_n 3, 1) := dk_45 (dk_at dksX0_childOf_0 0 rfl rfl)
theorem dX0_childOf_1 : decode cX0_childOf 1 = .ok (.iconst 0, 1) := dk_3 (dk_at dksX0_childOf_0 1 rfl rfl)
theorem dX0_childOf_2 : decode cX0_childOf 2 = .ok (.aload_n 0, 1) := dk_42 (dk_at dksX0_childOf_0 2 rfl rfl)
theorem dX0_childOf_3 : decode cX0_childOf 3 = .ok (.iload_n 1, 1) := dk_27 (dk_at dksX0_childOf_0 3 rfl rfl)
theorem dX0_childOf_4 : decode cX0_childOf 4 = .ok (.iload_n 2, 1) := dk_28 (dk_at dksX0_childOf_0 4 rfl rfl)
theorem dX0_childOf_5 : decode cX0_childOf 5 = .ok (.invokevirtual 70, 3) := dk_182 0 70 (dk_at dksX0_childOf_0 5 rfl rfl)
theorem dX0_childOf_8 : decode cX0_childOf 8 = .ok (.i2l, 1) := dk_133 (dk_at dksX0_childOf_0 8 rfl rfl)
theorem dX0_childOf_9 : decode cX0_childOf 9 = .ok (.lastore, 1) := dk_80 (dk_at dksX0_childOf_0 9 rfl rfl)
theorem dX0_childOf_10 : decode cX0_childOf 10 = .ok (.goto 7, 3) := dk_167 0 7 (dk_at dksX0_childOf_0 10 rfl rfl)
theorem dX0_childOf_13 : decode cX0_childOf 13 = .ok (.astore 4, 2) := dk_58 4 (dk_at dksX0_childOf_0 13 rfl rfl)
theorem dX0_childOf_15 : decode cX0_childOf 15 = .ok (.iconst 1, 1) := dk_4 (dk_at dksX0_childOf_0 15 rfl rfl)
theorem dX0_childOf_16 : decode cX0_childOf 16 = .ok (.ireturn, 1) := dk_172 (dk_at dksX0_childOf_0 16 rfl rfl)
theorem dX0_childOf_17 : decode cX0_childOf 17 = .ok (.iconst 0, 1) := dk_3 (dk_at dksX0_childOf_0 17 rfl rfl)
theorem dX0_childOf_18 : decode cX0_childOf 18 = .ok (.ireturn, 1) := dk_172 (dk_at dksX0_childOf_0 18 rfl rfl)
abbrev cX0_referencesTo : ByteArray := method_22_code
def yX0_referencesTo : MethodName := ⟨RX0, "referencesTo", "(LVectorVersions;I[J)I"⟩
def dkwX0_referencesTo_0 : List UInt8 := [44, 3, 42, 27, 182, 0, 73, 133, 80, 167, 0, 6, 78, 4, 172, 3, 172]
abbrev dktX0_referencesTo_0 : List UInt8 := dkwX0_referencesTo_0 ++ []
theorem dksX0_referencesTo_0 : cX0_referencesTo.data.toList.drop 0 = dktX0_referencesTo_0 := by decide +kernel
theorem dX0_referencesTo_0 : decode cX0_referencesTo 0 = .ok (.aload_n 2, 1) := dk_44 (dk_at dksX0_referencesTo_0 0 rfl rfl)
theorem dX0_referencesTo_1 : decode cX0_referencesTo 1 = .ok (.iconst 0, 1) := dk_3 (dk_at dksX0_referencesTo_0 1 rfl rfl)
theorem dX0_referencesTo_2 : decode cX0_referencesTo 2 = .ok (.aload_n 0, 1) := dk_42 (dk_at dksX0_referencesTo_0 2 rfl rfl)
theorem dX0_referencesTo_3 : decode cX0_referencesTo 3 = .ok (.iload_n 1, 1) := dk_27 (dk_at dksX0_referencesTo_0 3 rfl rfl)
theorem dX0_referencesTo_4 : decode cX0_referencesTo 4 = .ok (.invokevirtual 73, 3) := dk_182 0 73 (dk_at dksX0_referencesTo_0 4 rfl rfl)
theorem dX0_referencesTo_7 : decode cX0_referencesTo 7 = .ok (.i2l, 1) := dk_133 (dk_at dksX0_referencesTo_0 7 rfl rfl)
theorem dX0_referencesTo_8 : decode cX0_referencesTo 8 = .ok (.lastore, 1) := dk_80 (dk_at dksX0_referencesTo_0 8 rfl rfl)
theorem dX0_referencesTo_9 : decode cX0_referencesTo 9 = .ok (.goto 6, 3) := dk_167 0 6 (dk_at dksX0_referencesTo_0 9 rfl rfl)
theorem dX0_referencesTo_12 : decode cX0_referencesTo 12 = .ok (.astore_n 3, 1) := dk_78 (dk_at dksX0_referencesTo_0 12 rfl rfl)
theorem dX0_referencesTo_13 : decode cX0_referencesTo 13 = .ok (.iconst 1, 1) := dk_4 (dk_at dksX0_referencesTo_0 13 rfl rfl)
theorem dX0_referencesTo_14 : decode cX0_referencesTo 14 = .ok (.ireturn, 1) := dk_172 (dk_at dksX0_referencesTo_0 14 rfl rfl)
theorem dX0_referencesTo_15 : decode cX0_referencesTo 15 = .ok (.iconst 0, 1) := dk_3 (dk_at dksX0_referencesTo_0 15 rfl rfl)
theorem dX0_referencesTo_16 : decode cX0_referencesTo 16 = .ok (.ireturn, 1) := dk_172 (dk_at dksX0_referencesTo_0 16 rfl rfl)
abbrev cX0_differences : ByteArray := method_23_code
def yX0_differences : MethodName := ⟨RX0, "differences", "(LVectorVersions;II[J)I"⟩
def dkwX0_differences_0 : List UInt8 := [45, 3, 42, 27, 28, 182, 0, 76, 133, 80, 167, 0, 11, 58, 4, 4, 172, 58, 4, 5, 172, 3, 172]
abbrev dktX0_differences_0 : List UInt8 := dkwX0_differences_0 ++ []
theorem dksX0_differences_0 : cX0_differences.data.toList.drop 0 = dktX0_differences_0 := by decide +kernel
theorem dX0_differences_0 : decode cX0_differences 0 = .ok (.aload_n 3, 1) := dk_45 (dk_at dksX0_differences_0 0 rfl rfl)
theorem dX0_differences_1 : decode cX0_differences 1 = .ok (.iconst 0, 1) := dk_3 (dk_at dksX0_differences_0 1 rfl rfl)
theorem dX0_differences_2 : decode cX0_differences 2 = .ok (.aload_n 0, 1) := dk_42 (dk_at dksX0_differences_0 2 rfl rfl)
theorem dX0_differences_3 : decode cX0_differences 3 = .ok (.iload_n 1, 1) := dk_27 (dk_at dksX0_differences_0 3 rfl rfl)
theorem dX0_differences_4 : decode cX0_differences 4 = .ok (.iload_n 2, 1) := dk_28 (dk_at dksX0_differences_0 4 rfl rfl)
theorem dX0_differences_5 : decode cX0_differences 5 = .ok (.invokevirtual 76, 3) := dk_182 0 76 (dk_at dksX0_differences_0 5 rfl rfl)
theorem dX0_differences_8 : decode cX0_differences 8 = .ok (.i2l, 1) := dk_133 (dk_at dksX0_differences_0 8 rfl rfl)
theorem dX0_differences_9 : decode cX0_differences 9 = .ok (.lastore, 1) := dk_80 (dk_at dksX0_differences_0 9 rfl rfl)
theorem dX0_differences_10 : decode cX0_differences 10 = .ok (.goto 11, 3) := dk_167 0 11 (dk_at dksX0_differences_0 10 rfl rfl)
theorem dX0_differences_13 : decode cX0_differences 13 = .ok (.astore 4, 2) := dk_58 4 (dk_at dksX0_differences_0 13 rfl rfl)
theorem dX0_differences_15 : decode cX0_differences 15 = .ok (.iconst 1, 1) := dk_4 (dk_at dksX0_differences_0 15 rfl rfl)
theorem dX0_differences_16 : decode cX0_differences 16 = .ok (.ireturn, 1) := dk_172 (dk_at dksX0_differences_0 16 rfl rfl)
theorem dX0_differences_17 : decode cX0_differences 17 = .ok (.astore 4, 2) := dk_58 4 (dk_at dksX0_differences_0 17 rfl rfl)
theorem dX0_differences_19 : decode cX0_differences 19 = .ok (.iconst 2, 1) := dk_5 (dk_at dksX0_differences_0 19 rfl rfl)
theorem dX0_differences_20 : decode cX0_differences 20 = .ok (.ireturn, 1) := dk_172 (dk_at dksX0_differences_0 20 rfl rfl)
theorem dX0_differences_21 : decode cX0_differences 21 = .ok (.iconst 0, 1) := dk_3 (dk_at dksX0_differences_0 21 rfl rfl)
theorem dX0_differences_22 : decode cX0_differences 22 = .ok (.ireturn, 1) := dk_172 (dk_at dksX0_differences_0 22 rfl rfl)
abbrev cX0_firstDifference : ByteArray := method_24_code
def yX0_firstDifference : MethodName := ⟨RX0, "firstDifference", "(LVectorVersions;II[J)I"⟩
def dkwX0_firstDifference_0 : List UInt8 := [45, 3, 42, 27, 28, 182, 0, 79, 133, 80, 167, 0, 11, 58, 4, 4, 172, 58, 4, 5, 172, 3, 172]
abbrev dktX0_firstDifference_0 : List UInt8 := dkwX0_firstDifference_0 ++ []
theorem dksX0_firstDifference_0 : cX0_firstDifference.data.toList.drop 0 = dktX0_firstDifference_0 := by decide +kernel
theorem dX0_firstDifference_0 : decode cX0_firstDifference 0 = .ok (.aload_n 3, 1) := dk_45 (dk_at dksX0_firstDifference_0 0 rfl rfl)
theorem dX0_firstDifference_1 : decode cX0_firstDifference 1 = .ok (.iconst 0, 1) := dk_3 (dk_at dksX0_firstDifference_0 1 rfl rfl)
theorem dX0_firstDifference_2 : decode cX0_firstDifference 2 = .ok (.aload_n 0, 1) := dk_42 (dk_at dksX0_firstDifference_0 2 rfl rfl)
theorem dX0_firstDifference_3 : decode cX0_firstDifference 3 = .ok (.iload_n 1, 1) := dk_27 (dk_at dksX0_firstDifference_0 3 rfl rfl)
theorem dX0_firstDifference_4 : decode cX0_firstDifference 4 = .ok (.iload_n 2, 1) := dk_28 (dk_at dksX0_firstDifference_0 4 rfl rfl)
theorem dX0_firstDifference_5 : decode cX0_firstDifference 5 = .ok (.invokevirtual 79, 3) := dk_182 0 79 (dk_at dksX0_firstDifference_0 5 rfl rfl)
theorem dX0_firstDifference_8 : decode cX0_firstDifference 8 = .ok (.i2l, 1) := dk_133 (dk_at dksX0_firstDifference_0 8 rfl rfl)
theorem dX0_firstDifference_9 : decode cX0_firstDifference 9 = .ok (.lastore, 1) := dk_80 (dk_at dksX0_firstDifference_0 9 rfl rfl)
theorem dX0_firstDifference_10 : decode cX0_firstDifference 10 = .ok (.goto 11, 3) := dk_167 0 11 (dk_at dksX0_firstDifference_0 10 rfl rfl)
theorem dX0_firstDifference_13 : decode cX0_firstDifference 13 = .ok (.astore 4, 2) := dk_58 4 (dk_at dksX0_firstDifference_0 13 rfl rfl)
theorem dX0_firstDifference_15 : decode cX0_firstDifference 15 = .ok (.iconst 1, 1) := dk_4 (dk_at dksX0_firstDifference_0 15 rfl rfl)
theorem dX0_firstDifference_16 : decode cX0_firstDifference 16 = .ok (.ireturn, 1) := dk_172 (dk_at dksX0_firstDifference_0 16 rfl rfl)
theorem dX0_firstDifference_17 : decode cX0_firstDifference 17 = .ok (.astore 4, 2) := dk_58 4 (dk_at dksX0_firstDifference_0 17 rfl rfl)
theorem dX0_firstDifference_19 : decode cX0_firstDifference 19 = .ok (.iconst 2, 1) := dk_5 (dk_at dksX0_firstDifference_0 19 rfl rfl)
theorem dX0_firstDifference_20 : decode cX0_firstDifference 20 = .ok (.ireturn, 1) := dk_172 (dk_at dksX0_firstDifference_0 20 rfl rfl)
theorem dX0_firstDifference_21 : decode cX0_firstDifference 21 = .ok (.iconst 0, 1) := dk_3 (dk_at dksX0_firstDifference_0 21 rfl rfl)
theorem dX0_firstDifference_22 : decode cX0_firstDifference 22 = .ok (.ireturn, 1) := dk_172 (dk_at dksX0_firstDifference_0 22 rfl rfl)
abbrev cX0_comparisonCost : ByteArray := method_25_code
def yX0_comparisonCost : MethodName := ⟨RX0, "comparisonCost", "(LVectorVersions;II[J)I"⟩
def dkwX0_comparisonCost_0 : List UInt8 := [45, 3, 42, 27, 28, 182, 0, 82, 133, 80, 167, 0, 11, 58, 4, 4, 172, 58, 4, 5, 172, 3, 172]
abbrev dktX0_comparisonCost_0 : List UInt8 := dkwX0_comparisonCost_0 ++ []
theorem dksX0_comparisonCost_0 : cX0_comparisonCost.data.toList.drop 0 = dktX0_comparisonCost_0 := by decide +kernel
theorem dX0_comparisonCost_0 : decode cX0_comparisonCost 0 = .ok (.aload_n 3, 1) := dk_45 (dk_at dksX0_comparisonCost_0 0 rfl rfl)
theorem dX0_comparisonCost_1 : decode cX0_comparisonCost 1 = .ok (.iconst 0, 1) := dk_3 (dk_at dksX0_comparisonCost_0 1 rfl rfl)
theorem dX0_comparisonCost_2 : decode cX0_comparisonCost 2 = .ok (.aload_n 0, 1) := dk_42 (dk_at dksX0_comparisonCost_0 2 rfl rfl)
theorem dX0_comparisonCost_3 : decode cX0_comparisonCost 3 = .ok (.iload_n 1, 1) := dk_27 (dk_at dksX0_comparisonCost_0 3 rfl rfl)
theorem dX0_comparisonCost_4 : decode cX0_comparisonCost 4 = .ok (.iload_n 2, 1) := dk_28 (dk_at dksX0_comparisonCost_0 4 rfl rfl)
theorem dX0_comparisonCost_5 : decode cX0_comparisonCost 5 = .ok (.invokevirtual 82, 3) := dk_182 0 82 (dk_at dksX0_comparisonCost_0 5 rfl rfl)
theorem dX0_comparisonCost_8 : decode cX0_comparisonCost 8 = .ok (.i2l, 1) := dk_133 (dk_at dksX0_comparisonCost_0 8 rfl rfl)
theorem dX0_comparisonCost_9 : decode cX0_comparisonCost 9 = .ok (.lastore, 1) := dk_80 (dk_at dksX0_comparisonCost_0 9 rfl rfl)
theorem dX0_comparisonCost_10 : decode cX0_comparisonCost 10 = .ok (.goto 11, 3) := dk_167 0 11 (dk_at dksX0_comparisonCost_0 10 rfl rfl)
theorem dX0_comparisonCost_13 : decode cX0_comparisonCost 13 = .ok (.astore 4, 2) := dk_58 4 (dk_at dksX0_comparisonCost_0 13 rfl rfl)
theorem dX0_comparisonCost_15 : decode cX0_comparisonCost 15 = .ok (.iconst 1, 1) := dk_4 (dk_at dksX0_comparisonCost_0 15 rfl rfl)
theorem dX0_comparisonCost_16 : decode cX0_comparisonCost 16 = .ok (.ireturn, 1) := dk_172 (dk_at dksX0_comparisonCost_0 16 rfl rfl)
theorem dX0_comparisonCost_17 : decode cX0_comparisonCost 17 = .ok (.astore 4, 2) := dk_58 4 (dk_at dksX0_comparisonCost_0 17 rfl rfl)
theorem dX0_comparisonCost_19 : decode cX0_comparisonCost 19 = .ok (.iconst 2, 1) := dk_5 (dk_at dksX0_comparisonCost_0 19 rfl rfl)
theorem dX0_comparisonCost_20 : decode cX0_comparisonCost 20 = .ok (.ireturn, 1) := dk_172 (dk_at dksX0_comparisonCost_0 20 rfl rfl)
theorem dX0_comparisonCost_21 : decode cX0_comparisonCost 21 = .ok (.iconst 0, 1) := dk_3 (dk_at dksX0_comparisonCost_0 21 rfl rfl)
theorem dX0_comparisonCost_22 : decode cX0_comparisonCost 22 = .ok (.ireturn, 1) := dk_172 (dk_at dksX0_comparisonCost_0 22 rfl rfl)
abbrev cX0_nodesForSet : ByteArray := method_26_code
def yX0_nodesForSet : MethodName := ⟨RX0, "nodesForSet", "(LVectorVersions;III[J)I"⟩
def dkwX0_nodesForSet_1 : List UInt8 := [58, 5, 6, 172, 3, 172]
abbrev dktX0_nodesForSet_1 : List UInt8 := dkwX0_nodesForSet_1 ++ []
def dkwX0_nodesForSet_0 : List UInt8 := [25, 4, 3, 42, 27, 28, 29, 182, 0, 85, 133, 80, 167, 0, 15, 58, 5, 4, 172, 58, 5, 5, 172]
abbrev dktX0_nodesForSet_0 : List UInt8 := dkwX0_nodesForSet_0 ++ dktX0_nodesForSet_1
theorem dksX0_nodesForSet_0 : cX0_nodesForSet.data.toList.drop 0 = dktX0_nodesForSet_0 := by decide +kernel
theorem dksX0_nodesForSet_1 : cX0_nodesForSet.data.toList.drop 23 = dktX0_nodesForSet_1 := dk_seg dksX0_nodesForSet_0 23 rfl rfl
theorem dX0_nodesForSet_0 : decode cX0_nodesForSet 0 = .ok (.aload 4, 2) := dk_25 4 (dk_at dksX0_nodesForSet_0 0 rfl rfl)
theorem dX0_nodesForSet_2 : decode cX0_nodesForSet 2 = .ok (.iconst 0, 1) := dk_3 (dk_at dksX0_nodesForSet_0 2 rfl rfl)
theorem dX0_nodesForSet_3 : decode cX0_nodesForSet 3 = .ok (.aload_n 0, 1) := dk_42 (dk_at dksX0_nodesForSet_0 3 rfl rfl)
theorem dX0_nodesForSet_4 : decode cX0_nodesForSet 4 = .ok (.iload_n 1, 1) := dk_27 (dk_at dksX0_nodesForSet_0 4 rfl rfl)
theorem dX0_nodesForSet_5 : decode cX0_nodesForSet 5 = .ok (.iload_n 2, 1) := dk_28 (dk_at dksX0_nodesForSet_0 5 rfl rfl)
theorem dX0_nodesForSet_6 : decode cX0_nodesForSet 6 = .ok (.iload_n 3, 1) := dk_29 (dk_at dksX0_nodesForSet_0 6 rfl rfl)
theorem dX0_nodesForSet_7 : decode cX0_nodesForSet 7 = .ok (.invokevirtual 85, 3) := dk_182 0 85 (dk_at dksX0_nodesForSet_0 7 rfl rfl)
theorem dX0_nodesForSet_10 : decode cX0_nodesForSet 10 = .ok (.i2l, 1) := dk_133 (dk_at dksX0_nodesForSet_0 10 rfl rfl)
theorem dX0_nodesForSet_11 : decode cX0_nodesForSet 11 = .ok (.lastore, 1) := dk_80 (dk_at dksX0_nodesForSet_0 11 rfl rfl)
theorem dX0_nodesForSet_12 : decode cX0_nodesForSet 12 = .ok (.goto 15, 3) := dk_167 0 15 (dk_at dksX0_nodesForSet_0 12 rfl rfl)
theorem dX0_nodesForSet_15 : decode cX0_nodesForSet 15 = .ok (.astore 5, 2) := dk_58 5 (dk_at dksX0_nodesForSet_0 15 rfl rfl)
theorem dX0_nodesForSet_17 : decode cX0_nodesForSet 17 = .ok (.iconst 1, 1) := dk_4 (dk_at dksX0_nodesForSet_0 17 rfl rfl)
theorem dX0_nodesForSet_18 : decode cX0_nodesForSet 18 = .ok (.ireturn, 1) := dk_172 (dk_at dksX0_nodesForSet_0 18 rfl rfl)
theorem dX0_nodesForSet_19 : decode cX0_nodesForSet 19 = .ok (.astore 5, 2) := dk_58 5 (dk_at dksX0_nodesForSet_0 19 rfl rfl)
theorem dX0_nodesForSet_21 : decode cX0_nodesForSet 21 = .ok (.iconst 2, 1) := dk_5 (dk_at dksX0_nodesForSet_0 21 rfl rfl)
theorem dX0_nodesForSet_22 : decode cX0_nodesForSet 22 = .ok (.ireturn, 1) := dk_172 (dk_at dksX0_nodesForSet_0 22 rfl rfl)
theorem dX0_nodesForSet_23 : decode cX0_nodesForSet 23 = .ok (.astore 5, 2) := dk_58 5 (dk_at dksX0_nodesForSet_1 0 rfl rfl)
theorem dX0_nodesForSet_25 : decode cX0_nodesForSet 25 = .ok (.iconst 3, 1) := dk_6 (dk_at dksX0_nodesForSet_1 2 rfl rfl)
theorem dX0_nodesForSet_26 : decode cX0_nodesForSet 26 = .ok (.ireturn, 1) := dk_172 (dk_at dksX0_nodesForSet_1 3 rfl rfl)
theorem dX0_nodesForSet_27 : decode cX0_nodesForSet 27 = .ok (.iconst 0, 1) := dk_3 (dk_at dksX0_nodesForSet_1 4 rfl rfl)
theorem dX0_nodesForSet_28 : decode cX0_nodesForSet 28 = .ok (.ireturn, 1) := dk_172 (dk_at dksX0_nodesForSet_1 5 rfl rfl)
abbrev cX0_nodesForAppend : ByteArray := method_27_code
def yX0_nodesForAppend : MethodName := ⟨RX0, "nodesForAppend", "(LVectorVersions;I[J)I"⟩
def dkwX0_nodesForAppend_0 : List UInt8 := [44, 3, 42, 27, 182, 0, 91, 133, 80, 167, 0, 9, 78, 4, 172, 78, 5, 172, 3, 172]
abbrev dktX0_nodesForAppend_0 : List UInt8 := dkwX0_nodesForAppend_0 ++ []
theorem dksX0_nodesForAppend_0 : cX0_nodesForAppend.data.toList.drop 0 = dktX0_nodesForAppend_0 := by decide +kernel
theorem dX0_nodesForAppend_0 : decode cX0_nodesForAppend 0 = .ok (.aload_n 2, 1) := dk_44 (dk_at dksX0_nodesForAppend_0 0 rfl rfl)
theorem dX0_nodesForAppend_1 : decode cX0_nodesForAppend 1 = .ok (.iconst 0, 1) := dk_3 (dk_at dksX0_nodesForAppend_0 1 rfl rfl)
theorem dX0_nodesForAppend_2 : decode cX0_nodesForAppend 2 = .ok (.aload_n 0, 1) := dk_42 (dk_at dksX0_nodesForAppend_0 2 rfl rfl)
theorem dX0_nodesForAppend_3 : decode cX0_nodesForAppend 3 = .ok (.iload_n 1, 1) := dk_27 (dk_at dksX0_nodesForAppend_0 3 rfl rfl)
theorem dX0_nodesForAppend_4 : decode cX0_nodesForAppend 4 = .ok (.invokevirtual 91, 3) := dk_182 0 91 (dk_at dksX0_nodesForAppend_0 4 rfl rfl)
theorem dX0_nodesForAppend_7 : decode cX0_nodesForAppend 7 = .ok (.i2l, 1) := dk_133 (dk_at dksX0_nodesForAppend_0 7 rfl rfl)
theorem dX0_nodesForAppend_8 : decode cX0_nodesForAppend 8 = .ok (.lastore, 1) := dk_80 (dk_at dksX0_nodesForAppend_0 8 rfl rfl)
theorem dX0_nodesForAppend_9 : decode cX0_nodesForAppend 9 = .ok (.goto 9, 3) := dk_167 0 9 (dk_at dksX0_nodesForAppend_0 9 rfl rfl)
theorem dX0_nodesForAppend_12 : decode cX0_nodesForAppend 12 = .ok (.astore_n 3, 1) := dk_78 (dk_at dksX0_nodesForAppend_0 12 rfl rfl)
theorem dX0_nodesForAppend_13 : decode cX0_nodesForAppend 13 = .ok (.iconst 1, 1) := dk_4 (dk_at dksX0_nodesForAppend_0 13 rfl rfl)
theorem dX0_nodesForAppend_14 : decode cX0_nodesForAppend 14 = .ok (.ireturn, 1) := dk_172 (dk_at dksX0_nodesForAppend_0 14 rfl rfl)
theorem dX0_nodesForAppend_15 : decode cX0_nodesForAppend 15 = .ok (.astore_n 3, 1) := dk_78 (dk_at dksX0_nodesForAppend_0 15 rfl rfl)
theorem dX0_nodesForAppend_16 : decode cX0_nodesForAppend 16 = .ok (.iconst 2, 1) := dk_5 (dk_at dksX0_nodesForAppend_0 16 rfl rfl)
theorem dX0_nodesForAppend_17 : decode cX0_nodesForAppend 17 = .ok (.ireturn, 1) := dk_172 (dk_at dksX0_nodesForAppend_0 17 rfl rfl)
theorem dX0_nodesForAppend_18 : decode cX0_nodesForAppend 18 = .ok (.iconst 0, 1) := dk_3 (dk_at dksX0_nodesForAppend_0 18 rfl rfl)
theorem dX0_nodesForAppend_19 : decode cX0_nodesForAppend 19 = .ok (.ireturn, 1) := dk_172 (dk_at dksX0_nodesForAppend_0 19 rfl rfl)
abbrev cX0_garbageIfReleased : ByteArray := method_28_code
def yX0_garbageIfReleased : MethodName := ⟨RX0, "garbageIfReleased", "(LVectorVersions;I[J)I"⟩
def dkwX0_garbageIfReleased_0 : List UInt8 := [44, 3, 42, 27, 182, 0, 94, 133, 80, 167, 0, 9, 78, 4, 172, 78, 5, 172, 3, 172]
abbrev dktX0_garbageIfReleased_0 : List UInt8 := dkwX0_garbageIfReleased_0 ++ []
theorem dksX0_garbageIfReleased_0 : cX0_garbageIfReleased.data.toList.drop 0 = dktX0_garbageIfReleased_0 := by decide +kernel
theorem dX0_garbageIfReleased_0 : decode cX0_garbageIfReleased 0 = .ok (.aload_n 2, 1) := dk_44 (dk_at dksX0_garbageIfReleased_0 0 rfl rfl)
theorem dX0_garbageIfReleased_1 : decode cX0_garbageIfReleased 1 = .ok (.iconst 0, 1) := dk_3 (dk_at dksX0_garbageIfReleased_0 1 rfl rfl)
theorem dX0_garbageIfReleased_2 : decode cX0_garbageIfReleased 2 = .ok (.aload_n 0, 1) := dk_42 (dk_at dksX0_garbageIfReleased_0 2 rfl rfl)
theorem dX0_garbageIfReleased_3 : decode cX0_garbageIfReleased 3 = .ok (.iload_n 1, 1) := dk_27 (dk_at dksX0_garbageIfReleased_0 3 rfl rfl)
theorem dX0_garbageIfReleased_4 : decode cX0_garbageIfReleased 4 = .ok (.invokevirtual 94, 3) := dk_182 0 94 (dk_at dksX0_garbageIfReleased_0 4 rfl rfl)
theorem dX0_garbageIfReleased_7 : decode cX0_garbageIfReleased 7 = .ok (.i2l, 1) := dk_133 (dk_at dksX0_garbageIfReleased_0 7 rfl rfl)
theorem dX0_garbageIfReleased_8 : decode cX0_garbageIfReleased 8 = .ok (.lastore, 1) := dk_80 (dk_at dksX0_garbageIfReleased_0 8 rfl rfl)
theorem dX0_garbageIfReleased_9 : decode cX0_garbageIfReleased 9 = .ok (.goto 9, 3) := dk_167 0 9 (dk_at dksX0_garbageIfReleased_0 9 rfl rfl)
theorem dX0_garbageIfReleased_12 : decode cX0_garbageIfReleased 12 = .ok (.astore_n 3, 1) := dk_78 (dk_at dksX0_garbageIfReleased_0 12 rfl rfl)
theorem dX0_garbageIfReleased_13 : decode cX0_garbageIfReleased 13 = .ok (.iconst 1, 1) := dk_4 (dk_at dksX0_garbageIfReleased_0 13 rfl rfl)
theorem dX0_garbageIfReleased_14 : decode cX0_garbageIfReleased 14 = .ok (.ireturn, 1) := dk_172 (dk_at dksX0_garbageIfReleased_0 14 rfl rfl)
theorem dX0_garbageIfReleased_15 : decode cX0_garbageIfReleased 15 = .ok (.astore_n 3, 1) := dk_78 (dk_at dksX0_garbageIfReleased_0 15 rfl rfl)
theorem dX0_garbageIfReleased_16 : decode cX0_garbageIfReleased 16 = .ok (.iconst 2, 1) := dk_5 (dk_at dksX0_garbageIfReleased_0 16 rfl rfl)
theorem dX0_garbageIfReleased_17 : decode cX0_garbageIfReleased 17 = .ok (.ireturn, 1) := dk_172 (dk_at dksX0_garbageIfReleased_0 17 rfl rfl)
theorem dX0_garbageIfReleased_18 : decode cX0_garbageIfReleased 18 = .ok (.iconst 0, 1) := dk_3 (dk_at dksX0_garbageIfReleased_0 18 rfl rfl)
theorem dX0_garbageIfReleased_19 : decode cX0_garbageIfReleased 19 = .ok (.ireturn, 1) := dk_172 (dk_at dksX0_garbageIfReleased_0 19 rfl rfl)
abbrev cX0_set : ByteArray := method_29_code
def yX0_set : MethodName := ⟨RX0, "set", "(LVectorVersions;III[J)I"⟩
def dkwX0_set_1 : List UInt8 := [58, 5, 6, 172, 3, 172]
abbrev dktX0_set_1 : List UInt8 := dkwX0_set_1 ++ []
def dkwX0_set_0 : List UInt8 := [25, 4, 3, 42, 27, 28, 29, 182, 0, 97, 133, 80, 167, 0, 15, 58, 5, 4, 172, 58, 5, 5, 172]
abbrev dktX0_set_0 : List UInt8 := dkwX0_set_0 ++ dktX0_set_1
theorem dksX0_set_0 : cX0_set.data.toList.drop 0 = dktX0_set_0 := by decide +kernel
theorem dksX0_set_1 : cX0_set.data.toList.drop 23 = dktX0_set_1 := dk_seg dksX0_set_0 23 rfl rfl
theorem dX0_set_0 : decode cX0_set 0 = .ok (.aload 4, 2) := dk_25 4 (dk_at dksX0_set_0 0 rfl rfl)
theorem dX0_set_2 : decode cX0_set 2 = .ok (.iconst 0, 1) := dk_3 (dk_at dksX0_set_0 2 rfl rfl)
theorem dX0_set_3 : decode cX0_set 3 = .ok (.aload_n 0, 1) := dk_42 (dk_at dksX0_set_0 3 rfl rfl)
theorem dX0_set_4 : decode cX0_set 4 = .ok (.iload_n 1, 1) := dk_27 (dk_at dksX0_set_0 4 rfl rfl)
theorem dX0_set_5 : decode cX0_set 5 = .ok (.iload_n 2, 1) := dk_28 (dk_at dksX0_set_0 5 rfl rfl)
theorem dX0_set_6 : decode cX0_set 6 = .ok (.iload_n 3, 1) := dk_29 (dk_at dksX0_set_0 6 rfl rfl)
theorem dX0_set_7 : decode cX0_set 7 = .ok (.invokevirtual 97, 3) := dk_182 0 97 (dk_at dksX0_set_0 7 rfl rfl)
theorem dX0_set_10 : decode cX0_set 10 = .ok (.i2l, 1) := dk_133 (dk_at dksX0_set_0 10 rfl rfl)
theorem dX0_set_11 : decode cX0_set 11 = .ok (.lastore, 1) := dk_80 (dk_at dksX0_set_0 11 rfl rfl)
theorem dX0_set_12 : decode cX0_set 12 = .ok (.goto 15, 3) := dk_167 0 15 (dk_at dksX0_set_0 12 rfl rfl)
theorem dX0_set_15 : decode cX0_set 15 = .ok (.astore 5, 2) := dk_58 5 (dk_at dksX0_set_0 15 rfl rfl)
theorem dX0_set_17 : decode cX0_set 17 = .ok (.iconst 1, 1) := dk_4 (dk_at dksX0_set_0 17 rfl rfl)
theorem dX0_set_18 : decode cX0_set 18 = .ok (.ireturn, 1) := dk_172 (dk_at dksX0_set_0 18 rfl rfl)
theorem dX0_set_19 : decode cX0_set 19 = .ok (.astore 5, 2) := dk_58 5 (dk_at dksX0_set_0 19 rfl rfl)
theorem dX0_set_21 : decode cX0_set 21 = .ok (.iconst 2, 1) := dk_5 (dk_at dksX0_set_0 21 rfl rfl)
theorem dX0_set_22 : decode cX0_set 22 = .ok (.ireturn, 1) := dk_172 (dk_at dksX0_set_0 22 rfl rfl)
theorem dX0_set_23 : decode cX0_set 23 = .ok (.astore 5, 2) := dk_58 5 (dk_at dksX0_set_1 0 rfl rfl)
theorem dX0_set_25 : decode cX0_set 25 = .ok (.iconst 3, 1) := dk_6 (dk_at dksX0_set_1 2 rfl rfl)
theorem dX0_set_26 : decode cX0_set 26 = .ok (.ireturn, 1) := dk_172 (dk_at dksX0_set_1 3 rfl rfl)
theorem dX0_set_27 : decode cX0_set 27 = .ok (.iconst 0, 1) := dk_3 (dk_at dksX0_set_1 4 rfl rfl)
theorem dX0_set_28 : decode cX0_set 28 = .ok (.ireturn, 1) := dk_172 (dk_at dksX0_set_1 5 rfl rfl)
abbrev cX0_append : ByteArray := method_30_code
def yX0_append : MethodName := ⟨RX0, "append", "(LVectorVersions;II[J)I"⟩
def dkwX0_append_1 : List UInt8 := [172, 3, 172]
abbrev dktX0_append_1 : List UInt8 := dkwX0_append_1 ++ []
def dkwX0_append_0 : List UInt8 := [45, 3, 42, 27, 28, 182, 0, 100, 133, 80, 167, 0, 15, 58, 4, 4, 172, 58, 4, 5, 172, 58, 4, 6]
abbrev dktX0_append_0 : List UInt8 := dkwX0_append_0 ++ dktX0_append_1
theorem dksX0_append_0 : cX0_append.data.toList.drop 0 = dktX0_append_0 := by decide +kernel
theorem dksX0_append_1 : cX0_append.data.toList.drop 24 = dktX0_append_1 := dk_seg dksX0_append_0 24 rfl rfl
theorem dX0_append_0 : decode cX0_append 0 = .ok (.aload_n 3, 1) := dk_45 (dk_at dksX0_append_0 0 rfl rfl)
theorem dX0_append_1 : decode cX0_append 1 = .ok (.iconst 0, 1) := dk_3 (dk_at dksX0_append_0 1 rfl rfl)
theorem dX0_append_2 : decode cX0_append 2 = .ok (.aload_n 0, 1) := dk_42 (dk_at dksX0_append_0 2 rfl rfl)
theorem dX0_append_3 : decode cX0_append 3 = .ok (.iload_n 1, 1) := dk_27 (dk_at dksX0_append_0 3 rfl rfl)
theorem dX0_append_4 : decode cX0_append 4 = .ok (.iload_n 2, 1) := dk_28 (dk_at dksX0_append_0 4 rfl rfl)
theorem dX0_append_5 : decode cX0_append 5 = .ok (.invokevirtual 100, 3) := dk_182 0 100 (dk_at dksX0_append_0 5 rfl rfl)
theorem dX0_append_8 : decode cX0_append 8 = .ok (.i2l, 1) := dk_133 (dk_at dksX0_append_0 8 rfl rfl)
theorem dX0_append_9 : decode cX0_append 9 = .ok (.lastore, 1) := dk_80 (dk_at dksX0_append_0 9 rfl rfl)
theorem dX0_append_10 : decode cX0_append 10 = .ok (.goto 15, 3) := dk_167 0 15 (dk_at dksX0_append_0 10 rfl rfl)
theorem dX0_append_13 : decode cX0_append 13 = .ok (.astore 4, 2) := dk_58 4 (dk_at dksX0_append_0 13 rfl rfl)
theorem dX0_append_15 : decode cX0_append 15 = .ok (.iconst 1, 1) := dk_4 (dk_at dksX0_append_0 15 rfl rfl)
theorem dX0_append_16 : decode cX0_append 16 = .ok (.ireturn, 1) := dk_172 (dk_at dksX0_append_0 16 rfl rfl)
theorem dX0_append_17 : decode cX0_append 17 = .ok (.astore 4, 2) := dk_58 4 (dk_at dksX0_append_0 17 rfl rfl)
theorem dX0_append_19 : decode cX0_append 19 = .ok (.iconst 2, 1) := dk_5 (dk_at dksX0_append_0 19 rfl rfl)
theorem dX0_append_20 : decode cX0_append 20 = .ok (.ireturn, 1) := dk_172 (dk_at dksX0_append_0 20 rfl rfl)
theorem dX0_append_21 : decode cX0_append 21 = .ok (.astore 4, 2) := dk_58 4 (dk_at dksX0_append_0 21 rfl rfl)
theorem dX0_append_23 : decode cX0_append 23 = .ok (.iconst 3, 1) := dk_6 (dk_at dksX0_append_0 23 rfl rfl)
theorem dX0_append_24 : decode cX0_append 24 = .ok (.ireturn, 1) := dk_172 (dk_at dksX0_append_1 0 rfl rfl)
theorem dX0_append_25 : decode cX0_append 25 = .ok (.iconst 0, 1) := dk_3 (dk_at dksX0_append_1 1 rfl rfl)
theorem dX0_append_26 : decode cX0_append 26 = .ok (.ireturn, 1) := dk_172 (dk_at dksX0_append_1 2 rfl rfl)
abbrev cX0_truncate : ByteArray := method_31_code
def yX0_truncate : MethodName := ⟨RX0, "truncate", "(LVectorVersions;II[J)I"⟩
def dkwX0_truncate_1 : List UInt8 := [172, 3, 172]
abbrev dktX0_truncate_1 : List UInt8 := dkwX0_truncate_1 ++ []
def dkwX0_truncate_0 : List UInt8 := [45, 3, 42, 27, 28, 182, 0, 103, 133, 80, 167, 0, 15, 58, 4, 4, 172, 58, 4, 5, 172, 58, 4, 6]
abbrev dktX0_truncate_0 : List UInt8 := dkwX0_truncate_0 ++ dktX0_truncate_1
theorem dksX0_truncate_0 : cX0_truncate.data.toList.drop 0 = dktX0_truncate_0 := by decide +kernel
theorem dksX0_truncate_1 : cX0_truncate.data.toList.drop 24 = dktX0_truncate_1 := dk_seg dksX0_truncate_0 24 rfl rfl
theorem dX0_truncate_0 : decode cX0_truncate 0 = .ok (.aload_n 3, 1) := dk_45 (dk_at dksX0_truncate_0 0 rfl rfl)
theorem dX0_truncate_1 : decode cX0_truncate 1 = .ok (.iconst 0, 1) := dk_3 (dk_at dksX0_truncate_0 1 rfl rfl)
theorem dX0_truncate_2 : decode cX0_truncate 2 = .ok (.aload_n 0, 1) := dk_42 (dk_at dksX0_truncate_0 2 rfl rfl)
theorem dX0_truncate_3 : decode cX0_truncate 3 = .ok (.iload_n 1, 1) := dk_27 (dk_at dksX0_truncate_0 3 rfl rfl)
theorem dX0_truncate_4 : decode cX0_truncate 4 = .ok (.iload_n 2, 1) := dk_28 (dk_at dksX0_truncate_0 4 rfl rfl)
theorem dX0_truncate_5 : decode cX0_truncate 5 = .ok (.invokevirtual 103, 3) := dk_182 0 103 (dk_at dksX0_truncate_0 5 rfl rfl)
theorem dX0_truncate_8 : decode cX0_truncate 8 = .ok (.i2l, 1) := dk_133 (dk_at dksX0_truncate_0 8 rfl rfl)
theorem dX0_truncate_9 : decode cX0_truncate 9 = .ok (.lastore, 1) := dk_80 (dk_at dksX0_truncate_0 9 rfl rfl)
theorem dX0_truncate_10 : decode cX0_truncate 10 = .ok (.goto 15, 3) := dk_167 0 15 (dk_at dksX0_truncate_0 10 rfl rfl)
theorem dX0_truncate_13 : decode cX0_truncate 13 = .ok (.astore 4, 2) := dk_58 4 (dk_at dksX0_truncate_0 13 rfl rfl)
theorem dX0_truncate_15 : decode cX0_truncate 15 = .ok (.iconst 1, 1) := dk_4 (dk_at dksX0_truncate_0 15 rfl rfl)
theorem dX0_truncate_16 : decode cX0_truncate 16 = .ok (.ireturn, 1) := dk_172 (dk_at dksX0_truncate_0 16 rfl rfl)
theorem dX0_truncate_17 : decode cX0_truncate 17 = .ok (.astore 4, 2) := dk_58 4 (dk_at dksX0_truncate_0 17 rfl rfl)
theorem dX0_truncate_19 : decode cX0_truncate 19 = .ok (.iconst 2, 1) := dk_5 (dk_at dksX0_truncate_0 19 rfl rfl)
theorem dX0_truncate_20 : decode cX0_truncate 20 = .ok (.ireturn, 1) := dk_172 (dk_at dksX0_truncate_0 20 rfl rfl)
theorem dX0_truncate_21 : decode cX0_truncate 21 = .ok (.astore 4, 2) := dk_58 4 (dk_at dksX0_truncate_0 21 rfl rfl)
theorem dX0_truncate_23 : decode cX0_truncate 23 = .ok (.iconst 3, 1) := dk_6 (dk_at dksX0_truncate_0 23 rfl rfl)
theorem dX0_truncate_24 : decode cX0_truncate 24 = .ok (.ireturn, 1) := dk_172 (dk_at dksX0_truncate_1 0 rfl rfl)
theorem dX0_truncate_25 : decode cX0_truncate 25 = .ok (.iconst 0, 1) := dk_3 (dk_at dksX0_truncate_1 1 rfl rfl)
theorem dX0_truncate_26 : decode cX0_truncate 26 = .ok (.ireturn, 1) := dk_172 (dk_at dksX0_truncate_1 2 rfl rfl)
abbrev cX0_release : ByteArray := method_32_code
def yX0_release : MethodName := ⟨RX0, "release", "(LVectorVersions;I[J)I"⟩
def dkwX0_release_0 : List UInt8 := [44, 3, 42, 27, 182, 0, 106, 133, 80, 167, 0, 9, 78, 4, 172, 78, 5, 172, 3, 172]
abbrev dktX0_release_0 : List UInt8 := dkwX0_release_0 ++ []
theorem dksX0_release_0 : cX0_release.data.toList.drop 0 = dktX0_release_0 := by decide +kernel
theorem dX0_release_0 : decode cX0_release 0 = .ok (.aload_n 2, 1) := dk_44 (dk_at dksX0_release_0 0 rfl rfl)
theorem dX0_release_1 : decode cX0_release 1 = .ok (.iconst 0, 1) := dk_3 (dk_at dksX0_release_0 1 rfl rfl)
theorem dX0_release_2 : decode cX0_release 2 = .ok (.aload_n 0, 1) := dk_42 (dk_at dksX0_release_0 2 rfl rfl)
theorem dX0_release_3 : decode cX0_release 3 = .ok (.iload_n 1, 1) := dk_27 (dk_at dksX0_release_0 3 rfl rfl)
theorem dX0_release_4 : decode cX0_release 4 = .ok (.invokevirtual 106, 3) := dk_182 0 106 (dk_at dksX0_release_0 4 rfl rfl)
theorem dX0_release_7 : decode cX0_release 7 = .ok (.i2l, 1) := dk_133 (dk_at dksX0_release_0 7 rfl rfl)
theorem dX0_release_8 : decode cX0_release 8 = .ok (.lastore, 1) := dk_80 (dk_at dksX0_release_0 8 rfl rfl)
theorem dX0_release_9 : decode cX0_release 9 = .ok (.goto 9, 3) := dk_167 0 9 (dk_at dksX0_release_0 9 rfl rfl)
theorem dX0_release_12 : decode cX0_release 12 = .ok (.astore_n 3, 1) := dk_78 (dk_at dksX0_release_0 12 rfl rfl)
theorem dX0_release_13 : decode cX0_release 13 = .ok (.iconst 1, 1) := dk_4 (dk_at dksX0_release_0 13 rfl rfl)
theorem dX0_release_14 : decode cX0_release 14 = .ok (.ireturn, 1) := dk_172 (dk_at dksX0_release_0 14 rfl rfl)
theorem dX0_release_15 : decode cX0_release 15 = .ok (.astore_n 3, 1) := dk_78 (dk_at dksX0_release_0 15 rfl rfl)
theorem dX0_release_16 : decode cX0_release 16 = .ok (.iconst 2, 1) := dk_5 (dk_at dksX0_release_0 16 rfl rfl)
theorem dX0_release_17 : decode cX0_release 17 = .ok (.ireturn, 1) := dk_172 (dk_at dksX0_release_0 17 rfl rfl)
theorem dX0_release_18 : decode cX0_release 18 = .ok (.iconst 0, 1) := dk_3 (dk_at dksX0_release_0 18 rfl rfl)
theorem dX0_release_19 : decode cX0_release 19 = .ok (.ireturn, 1) := dk_172 (dk_at dksX0_release_0 19 rfl rfl)
abbrev cX0_undo : ByteArray := method_33_code
def yX0_undo : MethodName := ⟨RX0, "undo", "(LVectorVersions;[J)I"⟩
def dkwX0_undo_0 : List UInt8 := [43, 3, 42, 182, 0, 109, 133, 80, 167, 0, 6, 77, 4, 172, 3, 172]
abbrev dktX0_undo_0 : List UInt8 := dkwX0_undo_0 ++ []
theorem dksX0_undo_0 : cX0_undo.data.toList.drop 0 = dktX0_undo_0 := by decide +kernel
theorem dX0_undo_0 : decode cX0_undo 0 = .ok (.aload_n 1, 1) := dk_43 (dk_at dksX0_undo_0 0 rfl rfl)
theorem dX0_undo_1 : decode cX0_undo 1 = .ok (.iconst 0, 1) := dk_3 (dk_at dksX0_undo_0 1 rfl rfl)
theorem dX0_undo_2 : decode cX0_undo 2 = .ok (.aload_n 0, 1) := dk_42 (dk_at dksX0_undo_0 2 rfl rfl)
theorem dX0_undo_3 : decode cX0_undo 3 = .ok (.invokevirtual 109, 3) := dk_182 0 109 (dk_at dksX0_undo_0 3 rfl rfl)
theorem dX0_undo_6 : decode cX0_undo 6 = .ok (.i2l, 1) := dk_133 (dk_at dksX0_undo_0 6 rfl rfl)
theorem dX0_undo_7 : decode cX0_undo 7 = .ok (.lastore, 1) := dk_80 (dk_at dksX0_undo_0 7 rfl rfl)
theorem dX0_undo_8 : decode cX0_undo 8 = .ok (.goto 6, 3) := dk_167 0 6 (dk_at dksX0_undo_0 8 rfl rfl)
theorem dX0_undo_11 : decode cX0_undo 11 = .ok (.astore_n 2, 1) := dk_77 (dk_at dksX0_undo_0 11 rfl rfl)
theorem dX0_undo_12 : decode cX0_undo 12 = .ok (.iconst 1, 1) := dk_4 (dk_at dksX0_undo_0 12 rfl rfl)
theorem dX0_undo_13 : decode cX0_undo 13 = .ok (.ireturn, 1) := dk_172 (dk_at dksX0_undo_0 13 rfl rfl)
theorem dX0_undo_14 : decode cX0_undo 14 = .ok (.iconst 0, 1) := dk_3 (dk_at dksX0_undo_0 14 rfl rfl)
theorem dX0_undo_15 : decode cX0_undo 15 = .ok (.ireturn, 1) := dk_172 (dk_at dksX0_undo_0 15 rfl rfl)
abbrev cX0_writeVersion : ByteArray := method_34_code
def yX0_writeVersion : MethodName := ⟨RX0, "writeVersion", "(LVectorVersions;I[J)I"⟩
def dkwX0_writeVersion_0 : List UInt8 := [44, 3, 42, 27, 182, 0, 115, 133, 80, 167, 0, 9, 78, 4, 172, 78, 5, 172, 3, 172]
abbrev dktX0_writeVersion_0 : List UInt8 := dkwX0_writeVersion_0 ++ []
theorem dksX0_writeVersion_0 : cX0_writeVersion.data.toList.drop 0 = dktX0_writeVersion_0 := by decide +kernel
theorem dX0_writeVersion_0 : decode cX0_writeVersion 0 = .ok (.aload_n 2, 1) := dk_44 (dk_at dksX0_writeVersion_0 0 rfl rfl)
theorem dX0_writeVersion_1 : decode cX0_writeVersion 1 = .ok (.iconst 0, 1) := dk_3 (dk_at dksX0_writeVersion_0 1 rfl rfl)
theorem dX0_writeVersion_2 : decode cX0_writeVersion 2 = .ok (.aload_n 0, 1) := dk_42 (dk_at dksX0_writeVersion_0 2 rfl rfl)
theorem dX0_writeVersion_3 : decode cX0_writeVersion 3 = .ok (.iload_n 1, 1) := dk_27 (dk_at dksX0_writeVersion_0 3 rfl rfl)
theorem dX0_writeVersion_4 : decode cX0_writeVersion 4 = .ok (.invokevirtual 115, 3) := dk_182 0 115 (dk_at dksX0_writeVersion_0 4 rfl rfl)
theorem dX0_writeVersion_7 : decode cX0_writeVersion 7 = .ok (.i2l, 1) := dk_133 (dk_at dksX0_writeVersion_0 7 rfl rfl)
theorem dX0_writeVersion_8 : decode cX0_writeVersion 8 = .ok (.lastore, 1) := dk_80 (dk_at dksX0_writeVersion_0 8 rfl rfl)
theorem dX0_writeVersion_9 : decode cX0_writeVersion 9 = .ok (.goto 9, 3) := dk_167 0 9 (dk_at dksX0_writeVersion_0 9 rfl rfl)
theorem dX0_writeVersion_12 : decode cX0_writeVersion 12 = .ok (.astore_n 3, 1) := dk_78 (dk_at dksX0_writeVersion_0 12 rfl rfl)
theorem dX0_writeVersion_13 : decode cX0_writeVersion 13 = .ok (.iconst 1, 1) := dk_4 (dk_at dksX0_writeVersion_0 13 rfl rfl)
theorem dX0_writeVersion_14 : decode cX0_writeVersion 14 = .ok (.ireturn, 1) := dk_172 (dk_at dksX0_writeVersion_0 14 rfl rfl)
theorem dX0_writeVersion_15 : decode cX0_writeVersion 15 = .ok (.astore_n 3, 1) := dk_78 (dk_at dksX0_writeVersion_0 15 rfl rfl)
theorem dX0_writeVersion_16 : decode cX0_writeVersion 16 = .ok (.iconst 2, 1) := dk_5 (dk_at dksX0_writeVersion_0 16 rfl rfl)
theorem dX0_writeVersion_17 : decode cX0_writeVersion 17 = .ok (.ireturn, 1) := dk_172 (dk_at dksX0_writeVersion_0 17 rfl rfl)
theorem dX0_writeVersion_18 : decode cX0_writeVersion 18 = .ok (.iconst 0, 1) := dk_3 (dk_at dksX0_writeVersion_0 18 rfl rfl)
theorem dX0_writeVersion_19 : decode cX0_writeVersion 19 = .ok (.ireturn, 1) := dk_172 (dk_at dksX0_writeVersion_0 19 rfl rfl)
abbrev cX0_restoreState : ByteArray := method_35_code
def yX0_restoreState : MethodName := ⟨RX0, "restoreState", "(LVectorVersions;[J)I"⟩
def dkwX0_restoreState_0 : List UInt8 := [43, 3, 42, 182, 0, 118, 133, 80, 167, 0, 6, 77, 4, 172, 3, 172]
abbrev dktX0_restoreState_0 : List UInt8 := dkwX0_restoreState_0 ++ []
theorem dksX0_restoreState_0 : cX0_restoreState.data.toList.drop 0 = dktX0_restoreState_0 := by decide +kernel
theorem dX0_restoreState_0 : decode cX0_restoreState 0 = .ok (.aload_n 1, 1) := dk_43 (dk_at dksX0_restoreState_0 0 rfl rfl)
theorem dX0_restoreState_1 : decode cX0_restoreState 1 = .ok (.iconst 0, 1) := dk_3 (dk_at dksX0_restoreState_0 1 rfl rfl)
theorem dX0_restoreState_2 : decode cX0_restoreState 2 = .ok (.aload_n 0, 1) := dk_42 (dk_at dksX0_restoreState_0 2 rfl rfl)
theorem dX0_restoreState_3 : decode cX0_restoreState 3 = .ok (.invokevirtual 118, 3) := dk_182 0 118 (dk_at dksX0_restoreState_0 3 rfl rfl)
theorem dX0_restoreState_6 : decode cX0_restoreState 6 = .ok (.i2l, 1) := dk_133 (dk_at dksX0_restoreState_0 6 rfl rfl)
theorem dX0_restoreState_7 : decode cX0_restoreState 7 = .ok (.lastore, 1) := dk_80 (dk_at dksX0_restoreState_0 7 rfl rfl)
theorem dX0_restoreState_8 : decode cX0_restoreState 8 = .ok (.goto 6, 3) := dk_167 0 6 (dk_at dksX0_restoreState_0 8 rfl rfl)
theorem dX0_restoreState_11 : decode cX0_restoreState 11 = .ok (.astore_n 2, 1) := dk_77 (dk_at dksX0_restoreState_0 11 rfl rfl)
theorem dX0_restoreState_12 : decode cX0_restoreState 12 = .ok (.iconst 1, 1) := dk_4 (dk_at dksX0_restoreState_0 12 rfl rfl)
theorem dX0_restoreState_13 : decode cX0_restoreState 13 = .ok (.ireturn, 1) := dk_172 (dk_at dksX0_restoreState_0 13 rfl rfl)
theorem dX0_restoreState_14 : decode cX0_restoreState 14 = .ok (.iconst 0, 1) := dk_3 (dk_at dksX0_restoreState_0 14 rfl rfl)
theorem dX0_restoreState_15 : decode cX0_restoreState 15 = .ok (.ireturn, 1) := dk_172 (dk_at dksX0_restoreState_0 15 rfl rfl)
theorem q134 : (Jvm.Cond.initialized "VectorVersionsLaw") ∈ lw_all := lw_g (lw_at lw_m1 0 rfl) rfl
theorem q184 : (Jvm.Cond.classLink "VectorVersionsLaw" (8 : Nat) "VectorVersions") ∈ lw_all := lw_g (lw_at lw_m1 50 rfl) rfl
theorem q186 : (Jvm.Cond.methodLink "VectorVersionsLaw" (121 : Nat) ({ cls := "VectorVersions", name := "<init>", desc := "()V" } : Jvm.MethodName)) ∈ lw_all := lw_g (lw_at lw_m1 52 rfl) rfl
theorem q889 : (Jvm.Cond.methodLink "VectorVersionsLaw" (125 : Nat) ({ cls := "VectorVersions", name := "appendInput", desc := "(IIIII)I" } : Jvm.MethodName)) ∈ lw_all := lw_g (lw_at lw_m4 35 rfl) rfl
theorem q897 : (Jvm.Cond.methodLink "VectorVersionsLaw" (130 : Nat) ({ cls := "VectorVersions", name := "truncateInput", desc := "(I)Z" } : Jvm.MethodName)) ∈ lw_all := lw_g (lw_at lw_m4 43 rfl) rfl
theorem q904 : (Jvm.Cond.methodLink "VectorVersionsLaw" (134 : Nat) ({ cls := "VectorVersions", name := "loadSetup", desc := "()I" } : Jvm.MethodName)) ∈ lw_all := lw_g (lw_at lw_m4 50 rfl) rfl
theorem q1090 : (Jvm.Cond.methodLink "VectorVersionsLaw" (138 : Nat) ({ cls := "VectorVersions", name := "runScript", desc := "()I" } : Jvm.MethodName)) ∈ lw_all := lw_g (lw_at lw_m4 236 rfl) rfl
theorem q1676 : (Jvm.Cond.methodLink "VectorVersionsLaw" (142 : Nat) ({ cls := "VectorVersions", name := "errorCode", desc := "()I" } : Jvm.MethodName)) ∈ lw_all := lw_g (lw_at lw_m7 102 rfl) rfl
theorem q1680 : (Jvm.Cond.methodLink "VectorVersionsLaw" (146 : Nat) ({ cls := "VectorVersions", name := "errorOffset", desc := "()I" } : Jvm.MethodName)) ∈ lw_all := lw_g (lw_at lw_m7 106 rfl) rfl
theorem q1684 : (Jvm.Cond.methodLink "VectorVersionsLaw" (150 : Nat) ({ cls := "VectorVersions", name := "versionCount", desc := "()I" } : Jvm.MethodName)) ∈ lw_all := lw_g (lw_at lw_m7 110 rfl) rfl
theorem q1688 : (Jvm.Cond.methodLink "VectorVersionsLaw" (154 : Nat) ({ cls := "VectorVersions", name := "liveCount", desc := "()I" } : Jvm.MethodName)) ∈ lw_all := lw_g (lw_at lw_m7 114 rfl) rfl
theorem q1693 : (Jvm.Cond.methodLink "VectorVersionsLaw" (201 : Nat) ({ cls := "VectorVersions", name := "createdNodes", desc := "()I" } : Jvm.MethodName)) ∈ lw_all := lw_g (lw_at lw_m7 119 rfl) rfl
theorem q1697 : (Jvm.Cond.methodLink "VectorVersionsLaw" (205 : Nat) ({ cls := "VectorVersions", name := "storedNodes", desc := "()I" } : Jvm.MethodName)) ∈ lw_all := lw_g (lw_at lw_m7 123 rfl) rfl
theorem q1701 : (Jvm.Cond.methodLink "VectorVersionsLaw" (209 : Nat) ({ cls := "VectorVersions", name := "garbageNodes", desc := "()I" } : Jvm.MethodName)) ∈ lw_all := lw_g (lw_at lw_m7 127 rfl) rfl
theorem q1706 : (Jvm.Cond.methodLink "VectorVersionsLaw" (256 : Nat) ({ cls := "VectorVersions", name := "largestVersion", desc := "()I" } : Jvm.MethodName)) ∈ lw_all := lw_g (lw_at lw_m7 132 rfl) rfl
theorem q1710 : (Jvm.Cond.methodLink "VectorVersionsLaw" (260 : Nat) ({ cls := "VectorVersions", name := "sharing", desc := "()D" } : Jvm.MethodName)) ∈ lw_all := lw_g (lw_at lw_m7 136 rfl) rfl
theorem q1720 : (Jvm.Cond.methodLink "VectorVersionsLaw" (265 : Nat) ({ cls := "VectorVersions", name := "garbagePart", desc := "()F" } : Jvm.MethodName)) ∈ lw_all := lw_g (lw_at lw_m7 146 rfl) rfl
theorem q1726 : (Jvm.Cond.methodLink "VectorVersionsLaw" (270 : Nat) ({ cls := "VectorVersions", name := "isConsistent", desc := "()Z" } : Jvm.MethodName)) ∈ lw_all := lw_g (lw_at lw_m7 152 rfl) rfl
theorem q1788 : (Jvm.Cond.methodLink "VectorVersionsLaw" (287 : Nat) ({ cls := "VectorVersions", name := "collect", desc := "()I" } : Jvm.MethodName)) ∈ lw_all := lw_g (lw_at lw_m7 214 rfl) rfl
theorem q1797 : (Jvm.Cond.methodLink "VectorVersionsLaw" (298 : Nat) ({ cls := "VectorVersions", name := "outputByte", desc := "(I)I" } : Jvm.MethodName)) ∈ lw_all := lw_g (lw_at lw_m7 223 rfl) rfl
theorem q1812 : (Jvm.Cond.methodLink "VectorVersionsLaw" (302 : Nat) ({ cls := "VectorVersions", name := "saveState", desc := "()I" } : Jvm.MethodName)) ∈ lw_all := lw_g (lw_at lw_m7 238 rfl) rfl
theorem q1816 : (Jvm.Cond.methodLink "VectorVersionsLaw" (158 : Nat) ({ cls := "VectorVersionsLaw", name := "isReleased", desc := "(LVectorVersions;I[J)I" } : Jvm.MethodName)) ∈ lw_all := lw_g (lw_at lw_m8 2 rfl) rfl
theorem q1817 : (Jvm.Cond.static ({ cls := "VectorVersionsLaw", name := "isReleased", desc := "(LVectorVersions;I[J)I" } : Jvm.MethodName)) ∈ lw_all := lw_g (lw_at lw_m8 3 rfl) rfl
theorem q1818 : (Jvm.Cond.codeWith ({ cls := "VectorVersionsLaw", name := "isReleased", desc := "(LVectorVersions;I[J)I" } : Jvm.MethodName) method_3_code (4 : Nat) (Option.some Jvm.ClassFile.FieldType.int) [((0 : Nat), (16 : Nat), (19 : Nat), (13 : Nat))]) ∈ lw_all := lw_g (lw_at lw_m8 4 rfl) rfl
theorem q1819 : (Jvm.Cond.classLink "VectorVersionsLaw" (13 : Nat) "java/lang/IndexOutOfBoundsException") ∈ lw_all := lw_g (lw_at lw_m8 5 rfl) rfl
theorem q1835 : (Jvm.Cond.methodLink "VectorVersionsLaw" (7 : Nat) ({ cls := "VectorVersions", name := "isReleased", desc := "(I)Z" } : Jvm.MethodName)) ∈ lw_all := lw_g (lw_at lw_m8 21 rfl) rfl
theorem q1851 : (Jvm.Cond.methodLink "VectorVersionsLaw" (167 : Nat) ({ cls := "VectorVersionsLaw", name := "parentOf", desc := "(LVectorVersions;I[J)I" } : Jvm.MethodName)) ∈ lw_all := lw_g (lw_at lw_m8 37 rfl) rfl
theorem q1852 : (Jvm.Cond.static ({ cls := "VectorVersionsLaw", name := "parentOf", desc := "(LVectorVersions;I[J)I" } : Jvm.MethodName)) ∈ lw_all := lw_g (lw_at lw_m8 38 rfl) rfl
theorem q1853 : (Jvm.Cond.codeWith ({ cls := "VectorVersionsLaw", name := "parentOf", desc := "(LVectorVersions;I[J)I" } : Jvm.MethodName) method_4_code (4 : Nat) (Option.some Jvm.ClassFile.FieldType.int) [((0 : Nat), (9 : Nat), (12 : Nat), (13 : Nat))]) ∈ lw_all := lw_g (lw_at lw_m8 39 rfl) rfl
theorem q1854 : (Jvm.Cond.methodLink "VectorVersionsLaw" (15 : Nat) ({ cls := "VectorVersions", name := "parentOf", desc := "(I)I" } : Jvm.MethodName)) ∈ lw_all := lw_g (lw_at lw_m8 40 rfl) rfl
theorem q1858 : (Jvm.Cond.methodLink "VectorVersionsLaw" (170 : Nat) ({ cls := "VectorVersionsLaw", name := "depthOf", desc := "(LVectorVersions;I[J)I" } : Jvm.MethodName)) ∈ lw_all := lw_g (lw_at lw_m8 44 rfl) rfl
theorem q1859 : (Jvm.Cond.static ({ cls := "VectorVersionsLaw", name := "depthOf", desc := "(LVectorVersions;I[J)I" } : Jvm.MethodName)) ∈ lw_all := lw_g (lw_at lw_m8 45 rfl) rfl
theorem q1860 : (Jvm.Cond.codeWith ({ cls := "VectorVersionsLaw", name := "depthOf", desc := "(LVectorVersions;I[J)I" } : Jvm.MethodName) method_5_code (4 : Nat) (Option.some Jvm.ClassFile.FieldType.int) [((0 : Nat), (9 : Nat), (12 : Nat), (13 : Nat))]) ∈ lw_all := lw_g (lw_at lw_m8 46 rfl) rfl
theorem q1861 : (Jvm.Cond.methodLink "VectorVersionsLaw" (19 : Nat) ({ cls := "VectorVersions", name := "depthOf", desc := "(I)I" } : Jvm.MethodName)) ∈ lw_all := lw_g (lw_at lw_m8 47 rfl) rfl
theorem q1869 : (Jvm.Cond.methodLink "VectorVersionsLaw" (173 : Nat) ({ cls := "VectorVersionsLaw", name := "childCount", desc := "(LVectorVersions;I[J)I" } : Jvm.MethodName)) ∈ lw_all := lw_g (lw_at lw_m8 55 rfl) rfl
theorem q1870 : (Jvm.Cond.static ({ cls := "VectorVersionsLaw", name := "childCount", desc := "(LVectorVersions;I[J)I" } : Jvm.MethodName)) ∈ lw_all := lw_g (lw_at lw_m8 56 rfl) rfl
theorem q1871 : (Jvm.Cond.codeWith ({ cls := "VectorVersionsLaw", name := "childCount", desc := "(LVectorVersions;I[J)I" } : Jvm.MethodName) method_6_code (4 : Nat) (Option.some Jvm.ClassFile.FieldType.int) [((0 : Nat), (9 : Nat), (12 : Nat), (13 : Nat))]) ∈ lw_all := lw_g (lw_at lw_m8 57 rfl) rfl
theorem q1872 : (Jvm.Cond.methodLink "VectorVersionsLaw" (22 : Nat) ({ cls := "VectorVersions", name := "childCount", desc := "(I)I" } : Jvm.MethodName)) ∈ lw_all := lw_g (lw_at lw_m8 58 rfl) rfl
theorem q1876 : (Jvm.Cond.methodLink "VectorVersionsLaw" (176 : Nat) ({ cls := "VectorVersionsLaw", name := "commonAncestor", desc := "(LVectorVersions;II[J)I" } : Jvm.MethodName)) ∈ lw_all := lw_g (lw_at lw_m8 62 rfl) rfl
theorem q1877 : (Jvm.Cond.static ({ cls := "VectorVersionsLaw", name := "commonAncestor", desc := "(LVectorVersions;II[J)I" } : Jvm.MethodName)) ∈ lw_all := lw_g (lw_at lw_m8 63 rfl) rfl
theorem q1878 : (Jvm.Cond.codeWith ({ cls := "VectorVersionsLaw", name := "commonAncestor", desc := "(LVectorVersions;II[J)I" } : Jvm.MethodName) method_7_code (5 : Nat) (Option.some Jvm.ClassFile.FieldType.int) [((0 : Nat), (10 : Nat), (13 : Nat), (13 : Nat))]) ∈ lw_all := lw_g (lw_at lw_m8 64 rfl) rfl
theorem q1879 : (Jvm.Cond.methodLink "VectorVersionsLaw" (25 : Nat) ({ cls := "VectorVersions", name := "commonAncestor", desc := "(II)I" } : Jvm.MethodName)) ∈ lw_all := lw_g (lw_at lw_m8 65 rfl) rfl
theorem q1887 : (Jvm.Cond.methodLink "VectorVersionsLaw" (180 : Nat) ({ cls := "VectorVersionsLaw", name := "size", desc := "(LVectorVersions;I[J)I" } : Jvm.MethodName)) ∈ lw_all := lw_g (lw_at lw_m8 73 rfl) rfl
theorem q1888 : (Jvm.Cond.static ({ cls := "VectorVersionsLaw", name := "size", desc := "(LVectorVersions;I[J)I" } : Jvm.MethodName)) ∈ lw_all := lw_g (lw_at lw_m8 74 rfl) rfl
theorem q1889 : (Jvm.Cond.codeWith ({ cls := "VectorVersionsLaw", name := "size", desc := "(LVectorVersions;I[J)I" } : Jvm.MethodName) method_8_code (4 : Nat) (Option.some Jvm.ClassFile.FieldType.int) [((0 : Nat), (9 : Nat), (12 : Nat), (13 : Nat)), ((0 : Nat), (9 : Nat), (15 : Nat), (32 : Nat))]) ∈ lw_all := lw_g (lw_at lw_m8 75 rfl) rfl
theorem q1890 : (Jvm.Cond.classLink "VectorVersionsLaw" (32 : Nat) "java/lang/IllegalStateException") ∈ lw_all := lw_g (lw_at lw_m8 76 rfl) rfl
theorem q1891 : (Jvm.Cond.methodLink "VectorVersionsLaw" (29 : Nat) ({ cls := "VectorVersions", name := "size", desc := "(I)I" } : Jvm.MethodName)) ∈ lw_all := lw_g (lw_at lw_m8 77 rfl) rfl
theorem q1900 : (Jvm.Cond.methodLink "VectorVersionsLaw" (183 : Nat) ({ cls := "VectorVersionsLaw", name := "height", desc := "(LVectorVersions;I[J)I" } : Jvm.MethodName)) ∈ lw_all := lw_g (lw_at lw_m8 86 rfl) rfl
theorem q1901 : (Jvm.Cond.static ({ cls := "VectorVersionsLaw", name := "height", desc := "(LVectorVersions;I[J)I" } : Jvm.MethodName)) ∈ lw_all := lw_g (lw_at lw_m8 87 rfl) rfl
theorem q1902 : (Jvm.Cond.codeWith ({ cls := "VectorVersionsLaw", name := "height", desc := "(LVectorVersions;I[J)I" } : Jvm.MethodName) method_9_code (4 : Nat) (Option.some Jvm.ClassFile.FieldType.int) [((0 : Nat), (9 : Nat), (12 : Nat), (13 : Nat)), ((0 : Nat), (9 : Nat), (15 : Nat), (32 : Nat))]) ∈ lw_all := lw_g (lw_at lw_m8 88 rfl) rfl
theorem q1903 : (Jvm.Cond.methodLink "VectorVersionsLaw" (34 : Nat) ({ cls := "VectorVersions", name := "height", desc := "(I)I" } : Jvm.MethodName)) ∈ lw_all := lw_g (lw_at lw_m8 89 rfl) rfl
theorem q1907 : (Jvm.Cond.methodLink "VectorVersionsLaw" (186 : Nat) ({ cls := "VectorVersionsLaw", name := "rootOf", desc := "(LVectorVersions;I[J)I" } : Jvm.MethodName)) ∈ lw_all := lw_g (lw_at lw_m8 93 rfl) rfl
theorem q1908 : (Jvm.Cond.static ({ cls := "VectorVersionsLaw", name := "rootOf", desc := "(LVectorVersions;I[J)I" } : Jvm.MethodName)) ∈ lw_all := lw_g (lw_at lw_m8 94 rfl) rfl
theorem q1909 : (Jvm.Cond.codeWith ({ cls := "VectorVersionsLaw", name := "rootOf", desc := "(LVectorVersions;I[J)I" } : Jvm.MethodName) method_10_code (4 : Nat) (Option.some Jvm.ClassFile.FieldType.int) [((0 : Nat), (9 : Nat), (12 : Nat), (13 : Nat)), ((0 : Nat), (9 : Nat), (15 : Nat), (32 : Nat))]) ∈ lw_all := lw_g (lw_at lw_m8 95 rfl) rfl
theorem q1910 : (Jvm.Cond.methodLink "VectorVersionsLaw" (37 : Nat) ({ cls := "VectorVersions", name := "rootOf", desc := "(I)I" } : Jvm.MethodName)) ∈ lw_all := lw_g (lw_at lw_m8 96 rfl) rfl
theorem q1918 : (Jvm.Cond.methodLink "VectorVersionsLaw" (189 : Nat) ({ cls := "VectorVersionsLaw", name := "get", desc := "(LVectorVersions;II[J)I" } : Jvm.MethodName)) ∈ lw_all := lw_g (lw_at lw_m8 104 rfl) rfl
theorem q1919 : (Jvm.Cond.static ({ cls := "VectorVersionsLaw", name := "get", desc := "(LVectorVersions;II[J)I" } : Jvm.MethodName)) ∈ lw_all := lw_g (lw_at lw_m8 105 rfl) rfl
theorem q1920 : (Jvm.Cond.codeWith ({ cls := "VectorVersionsLaw", name := "get", desc := "(LVectorVersions;II[J)I" } : Jvm.MethodName) method_11_code (5 : Nat) (Option.some Jvm.ClassFile.FieldType.int) [((0 : Nat), (10 : Nat), (13 : Nat), (13 : Nat)), ((0 : Nat), (10 : Nat), (17 : Nat), (32 : Nat))]) ∈ lw_all := lw_g (lw_at lw_m8 106 rfl) rfl
theorem q1921 : (Jvm.Cond.methodLink "VectorVersionsLaw" (40 : Nat) ({ cls := "VectorVersions", name := "get", desc := "(II)I" } : Jvm.MethodName)) ∈ lw_all := lw_g (lw_at lw_m8 107 rfl) rfl
theorem q1932 : (Jvm.Cond.methodLink "VectorVersionsLaw" (192 : Nat) ({ cls := "VectorVersionsLaw", name := "leafOf", desc := "(LVectorVersions;II[J)I" } : Jvm.MethodName)) ∈ lw_all := lw_g (lw_at lw_m8 118 rfl) rfl
theorem q1933 : (Jvm.Cond.static ({ cls := "VectorVersionsLaw", name := "leafOf", desc := "(LVectorVersions;II[J)I" } : Jvm.MethodName)) ∈ lw_all := lw_g (lw_at lw_m8 119 rfl) rfl
theorem q1934 : (Jvm.Cond.codeWith ({ cls := "VectorVersionsLaw", name := "leafOf", desc := "(LVectorVersions;II[J)I" } : Jvm.MethodName) method_12_code (5 : Nat) (Option.some Jvm.ClassFile.FieldType.int) [((0 : Nat), (10 : Nat), (13 : Nat), (13 : Nat)), ((0 : Nat), (10 : Nat), (17 : Nat), (32 : Nat))]) ∈ lw_all := lw_g (lw_at lw_m8 120 rfl) rfl
theorem q1935 : (Jvm.Cond.methodLink "VectorVersionsLaw" (43 : Nat) ({ cls := "VectorVersions", name := "leafOf", desc := "(II)I" } : Jvm.MethodName)) ∈ lw_all := lw_g (lw_at lw_m8 121 rfl) rfl
theorem q1943 : (Jvm.Cond.methodLink "VectorVersionsLaw" (195 : Nat) ({ cls := "VectorVersionsLaw", name := "sum", desc := "(LVectorVersions;I[J)I" } : Jvm.MethodName)) ∈ lw_all := lw_g (lw_at lw_m8 129 rfl) rfl
theorem q1944 : (Jvm.Cond.static ({ cls := "VectorVersionsLaw", name := "sum", desc := "(LVectorVersions;I[J)I" } : Jvm.MethodName)) ∈ lw_all := lw_g (lw_at lw_m8 130 rfl) rfl
theorem q1945 : (Jvm.Cond.codeWith ({ cls := "VectorVersionsLaw", name := "sum", desc := "(LVectorVersions;I[J)I" } : Jvm.MethodName) method_13_code (4 : Nat) (Option.some Jvm.ClassFile.FieldType.int) [((0 : Nat), (9 : Nat), (12 : Nat), (13 : Nat)), ((0 : Nat), (9 : Nat), (15 : Nat), (32 : Nat))]) ∈ lw_all := lw_g (lw_at lw_m8 131 rfl) rfl
theorem q1946 : (Jvm.Cond.methodLink "VectorVersionsLaw" (46 : Nat) ({ cls := "VectorVersions", name := "sum", desc := "(I)I" } : Jvm.MethodName)) ∈ lw_all := lw_g (lw_at lw_m8 132 rfl) rfl
theorem q1955 : (Jvm.Cond.methodLink "VectorVersionsLaw" (198 : Nat) ({ cls := "VectorVersionsLaw", name := "indexOf", desc := "(LVectorVersions;II[J)I" } : Jvm.MethodName)) ∈ lw_all := lw_g (lw_at lw_m8 141 rfl) rfl
theorem q1956 : (Jvm.Cond.static ({ cls := "VectorVersionsLaw", name := "indexOf", desc := "(LVectorVersions;II[J)I" } : Jvm.MethodName)) ∈ lw_all := lw_g (lw_at lw_m8 142 rfl) rfl
theorem q1957 : (Jvm.Cond.codeWith ({ cls := "VectorVersionsLaw", name := "indexOf", desc := "(LVectorVersions;II[J)I" } : Jvm.MethodName) method_14_code (5 : Nat) (Option.some Jvm.ClassFile.FieldType.int) [((0 : Nat), (10 : Nat), (13 : Nat), (13 : Nat)), ((0 : Nat), (10 : Nat), (17 : Nat), (32 : Nat))]) ∈ lw_all := lw_g (lw_at lw_m8 143 rfl) rfl
theorem q1958 : (Jvm.Cond.methodLink "VectorVersionsLaw" (49 : Nat) ({ cls := "VectorVersions", name := "indexOf", desc := "(II)I" } : Jvm.MethodName)) ∈ lw_all := lw_g (lw_at lw_m8 144 rfl) rfl
theorem q2167 : (Jvm.Cond.methodLink "VectorVersionsLaw" (213 : Nat) ({ cls := "VectorVersionsLaw", name := "nodesCreatedFor", desc := "(LVectorVersions;I[J)I" } : Jvm.MethodName)) ∈ lw_all := lw_g (lw_at lw_m9 113 rfl) rfl
theorem q2168 : (Jvm.Cond.static ({ cls := "VectorVersionsLaw", name := "nodesCreatedFor", desc := "(LVectorVersions;I[J)I" } : Jvm.MethodName)) ∈ lw_all := lw_g (lw_at lw_m9 114 rfl) rfl
theorem q2169 : (Jvm.Cond.codeWith ({ cls := "VectorVersionsLaw", name := "nodesCreatedFor", desc := "(LVectorVersions;I[J)I" } : Jvm.MethodName) method_15_code (4 : Nat) (Option.some Jvm.ClassFile.FieldType.int) [((0 : Nat), (9 : Nat), (12 : Nat), (13 : Nat))]) ∈ lw_all := lw_g (lw_at lw_m9 115 rfl) rfl
theorem q2170 : (Jvm.Cond.methodLink "VectorVersionsLaw" (52 : Nat) ({ cls := "VectorVersions", name := "nodesCreatedFor", desc := "(I)I" } : Jvm.MethodName)) ∈ lw_all := lw_g (lw_at lw_m9 116 rfl) rfl
theorem q2174 : (Jvm.Cond.methodLink "VectorVersionsLaw" (216 : Nat) ({ cls := "VectorVersionsLaw", name := "nodesOf", desc := "(LVectorVersions;I[J)I" } : Jvm.MethodName)) ∈ lw_all := lw_g (lw_at lw_m9 120 rfl) rfl
theorem q2175 : (Jvm.Cond.static ({ cls := "VectorVersionsLaw", name := "nodesOf", desc := "(LVectorVersions;I[J)I" } : Jvm.MethodName)) ∈ lw_all := lw_g (lw_at lw_m9 121 rfl) rfl
theorem q2176 : (Jvm.Cond.codeWith ({ cls := "VectorVersionsLaw", name := "nodesOf", desc := "(LVectorVersions;I[J)I" } : Jvm.MethodName) method_16_code (4 : Nat) (Option.some Jvm.ClassFile.FieldType.int) [((0 : Nat), (9 : Nat), (12 : Nat), (13 : Nat)), ((0 : Nat), (9 : Nat), (15 : Nat), (32 : Nat))]) ∈ lw_all := lw_g (lw_at lw_m9 122 rfl) rfl
theorem q2177 : (Jvm.Cond.methodLink "VectorVersionsLaw" (55 : Nat) ({ cls := "VectorVersions", name := "nodesOf", desc := "(I)I" } : Jvm.MethodName)) ∈ lw_all := lw_g (lw_at lw_m9 123 rfl) rfl
theorem q2181 : (Jvm.Cond.methodLink "VectorVersionsLaw" (219 : Nat) ({ cls := "VectorVersionsLaw", name := "sharedNodes", desc := "(LVectorVersions;II[J)I" } : Jvm.MethodName)) ∈ lw_all := lw_g (lw_at lw_m9 127 rfl) rfl
theorem q2182 : (Jvm.Cond.static ({ cls := "VectorVersionsLaw", name := "sharedNodes", desc := "(LVectorVersions;II[J)I" } : Jvm.MethodName)) ∈ lw_all := lw_g (lw_at lw_m9 128 rfl) rfl
theorem q2183 : (Jvm.Cond.codeWith ({ cls := "VectorVersionsLaw", name := "sharedNodes", desc := "(LVectorVersions;II[J)I" } : Jvm.MethodName) method_17_code (5 : Nat) (Option.some Jvm.ClassFile.FieldType.int) [((0 : Nat), (10 : Nat), (13 : Nat), (13 : Nat)), ((0 : Nat), (10 : Nat), (17 : Nat), (32 : Nat))]) ∈ lw_all := lw_g (lw_at lw_m9 129 rfl) rfl
theorem q2184 : (Jvm.Cond.methodLink "VectorVersionsLaw" (58 : Nat) ({ cls := "VectorVersions", name := "sharedNodes", desc := "(II)I" } : Jvm.MethodName)) ∈ lw_all := lw_g (lw_at lw_m9 130 rfl) rfl
theorem q2195 : (Jvm.Cond.methodLink "VectorVersionsLaw" (222 : Nat) ({ cls := "VectorVersionsLaw", name := "exclusiveNodes", desc := "(LVectorVersions;I[J)I" } : Jvm.MethodName)) ∈ lw_all := lw_g (lw_at lw_m9 141 rfl) rfl
theorem q2196 : (Jvm.Cond.static ({ cls := "VectorVersionsLaw", name := "exclusiveNodes", desc := "(LVectorVersions;I[J)I" } : Jvm.MethodName)) ∈ lw_all := lw_g (lw_at lw_m9 142 rfl) rfl
theorem q2197 : (Jvm.Cond.codeWith ({ cls := "VectorVersionsLaw", name := "exclusiveNodes", desc := "(LVectorVersions;I[J)I" } : Jvm.MethodName) method_18_code (4 : Nat) (Option.some Jvm.ClassFile.FieldType.int) [((0 : Nat), (9 : Nat), (12 : Nat), (13 : Nat)), ((0 : Nat), (9 : Nat), (15 : Nat), (32 : Nat))]) ∈ lw_all := lw_g (lw_at lw_m9 143 rfl) rfl
theorem q2198 : (Jvm.Cond.methodLink "VectorVersionsLaw" (61 : Nat) ({ cls := "VectorVersions", name := "exclusiveNodes", desc := "(I)I" } : Jvm.MethodName)) ∈ lw_all := lw_g (lw_at lw_m9 144 rfl) rfl
theorem q2202 : (Jvm.Cond.methodLink "VectorVersionsLaw" (225 : Nat) ({ cls := "VectorVersionsLaw", name := "isLeaf", desc := "(LVectorVersions;I[J)I" } : Jvm.MethodName)) ∈ lw_all := lw_g (lw_at lw_m9 148 rfl) rfl
theorem q2203 : (Jvm.Cond.static ({ cls := "VectorVersionsLaw", name := "isLeaf", desc := "(LVectorVersions;I[J)I" } : Jvm.MethodName)) ∈ lw_all := lw_g (lw_at lw_m9 149 rfl) rfl
theorem q2204 : (Jvm.Cond.codeWith ({ cls := "VectorVersionsLaw", name := "isLeaf", desc := "(LVectorVersions;I[J)I" } : Jvm.MethodName) method_19_code (4 : Nat) (Option.some Jvm.ClassFile.FieldType.int) [((0 : Nat), (16 : Nat), (19 : Nat), (13 : Nat))]) ∈ lw_all := lw_g (lw_at lw_m9 150 rfl) rfl
theorem q2205 : (Jvm.Cond.methodLink "VectorVersionsLaw" (64 : Nat) ({ cls := "VectorVersions", name := "isLeaf", desc := "(I)Z" } : Jvm.MethodName)) ∈ lw_all := lw_g (lw_at lw_m9 151 rfl) rfl
theorem q2218 : (Jvm.Cond.methodLink "VectorVersionsLaw" (228 : Nat) ({ cls := "VectorVersionsLaw", name := "entryCount", desc := "(LVectorVersions;I[J)I" } : Jvm.MethodName)) ∈ lw_all := lw_g (lw_at lw_m9 164 rfl) rfl
theorem q2219 : (Jvm.Cond.static ({ cls := "VectorVersionsLaw", name := "entryCount", desc := "(LVectorVersions;I[J)I" } : Jvm.MethodName)) ∈ lw_all := lw_g (lw_at lw_m9 165 rfl) rfl
theorem q2220 : (Jvm.Cond.codeWith ({ cls := "VectorVersionsLaw", name := "entryCount", desc := "(LVectorVersions;I[J)I" } : Jvm.MethodName) method_20_code (4 : Nat) (Option.some Jvm.ClassFile.FieldType.int) [((0 : Nat), (9 : Nat), (12 : Nat), (13 : Nat))]) ∈ lw_all := lw_g (lw_at lw_m9 166 rfl) rfl
theorem q2221 : (Jvm.Cond.methodLink "VectorVersionsLaw" (67 : Nat) ({ cls := "VectorVersions", name := "entryCount", desc := "(I)I" } : Jvm.MethodName)) ∈ lw_all := lw_g (lw_at lw_m9 167 rfl) rfl
theorem q2226 : (Jvm.Cond.methodLink "VectorVersionsLaw" (231 : Nat) ({ cls := "VectorVersionsLaw", name := "childOf", desc := "(LVectorVersions;II[J)I" } : Jvm.MethodName)) ∈ lw_all := lw_g (lw_at lw_m9 172 rfl) rfl
theorem q2227 : (Jvm.Cond.static ({ cls := "VectorVersionsLaw", name := "childOf", desc := "(LVectorVersions;II[J)I" } : Jvm.MethodName)) ∈ lw_all := lw_g (lw_at lw_m9 173 rfl) rfl
theorem q2228 : (Jvm.Cond.codeWith ({ cls := "VectorVersionsLaw", name := "childOf", desc := "(LVectorVersions;II[J)I" } : Jvm.MethodName) method_21_code (5 : Nat) (Option.some Jvm.ClassFile.FieldType.int) [((0 : Nat), (10 : Nat), (13 : Nat), (13 : Nat))]) ∈ lw_all := lw_g (lw_at lw_m9 174 rfl) rfl
theorem q2229 : (Jvm.Cond.methodLink "VectorVersionsLaw" (70 : Nat) ({ cls := "VectorVersions", name := "childOf", desc := "(II)I" } : Jvm.MethodName)) ∈ lw_all := lw_g (lw_at lw_m9 175 rfl) rfl
theorem q2234 : (Jvm.Cond.methodLink "VectorVersionsLaw" (234 : Nat) ({ cls := "VectorVersionsLaw", name := "referencesTo", desc := "(LVectorVersions;I[J)I" } : Jvm.MethodName)) ∈ lw_all := lw_g (lw_at lw_m9 180 rfl) rfl
theorem q2235 : (Jvm.Cond.static ({ cls := "VectorVersionsLaw", name := "referencesTo", desc := "(LVectorVersions;I[J)I" } : Jvm.MethodName)) ∈ lw_all := lw_g (lw_at lw_m9 181 rfl) rfl
theorem q2236 : (Jvm.Cond.codeWith ({ cls := "VectorVersionsLaw", name := "referencesTo", desc := "(LVectorVersions;I[J)I" } : Jvm.MethodName) method_22_code (4 : Nat) (Option.some Jvm.ClassFile.FieldType.int) [((0 : Nat), (9 : Nat), (12 : Nat), (13 : Nat))]) ∈ lw_all := lw_g (lw_at lw_m9 182 rfl) rfl
theorem q2237 : (Jvm.Cond.methodLink "VectorVersionsLaw" (73 : Nat) ({ cls := "VectorVersions", name := "referencesTo", desc := "(I)I" } : Jvm.MethodName)) ∈ lw_all := lw_g (lw_at lw_m9 183 rfl) rfl
theorem q2245 : (Jvm.Cond.methodLink "VectorVersionsLaw" (237 : Nat) ({ cls := "VectorVersionsLaw", name := "differences", desc := "(LVectorVersions;II[J)I" } : Jvm.MethodName)) ∈ lw_all := lw_g (lw_at lw_m9 191 rfl) rfl
theorem q2246 : (Jvm.Cond.static ({ cls := "VectorVersionsLaw", name := "differences", desc := "(LVectorVersions;II[J)I" } : Jvm.MethodName)) ∈ lw_all := lw_g (lw_at lw_m9 192 rfl) rfl
theorem q2247 : (Jvm.Cond.codeWith ({ cls := "VectorVersionsLaw", name := "differences", desc := "(LVectorVersions;II[J)I" } : Jvm.MethodName) method_23_code (5 : Nat) (Option.some Jvm.ClassFile.FieldType.int) [((0 : Nat), (10 : Nat), (13 : Nat), (13 : Nat)), ((0 : Nat), (10 : Nat), (17 : Nat), (32 : Nat))]) ∈ lw_all := lw_g (lw_at lw_m9 193 rfl) rfl
theorem q2248 : (Jvm.Cond.methodLink "VectorVersionsLaw" (76 : Nat) ({ cls := "VectorVersions", name := "differences", desc := "(II)I" } : Jvm.MethodName)) ∈ lw_all := lw_g (lw_at lw_m9 194 rfl) rfl
theorem q2264 : (Jvm.Cond.methodLink "VectorVersionsLaw" (240 : Nat) ({ cls := "VectorVersionsLaw", name := "firstDifference", desc := "(LVectorVersions;II[J)I" } : Jvm.MethodName)) ∈ lw_all := lw_g (lw_at lw_m9 210 rfl) rfl
theorem q2265 : (Jvm.Cond.static ({ cls := "VectorVersionsLaw", name := "firstDifference", desc := "(LVectorVersions;II[J)I" } : Jvm.MethodName)) ∈ lw_all := lw_g (lw_at lw_m9 211 rfl) rfl
theorem q2266 : (Jvm.Cond.codeWith ({ cls := "VectorVersionsLaw", name := "firstDifference", desc := "(LVectorVersions;II[J)I" } : Jvm.MethodName) method_24_code (5 : Nat) (Option.some Jvm.ClassFile.FieldType.int) [((0 : Nat), (10 : Nat), (13 : Nat), (13 : Nat)), ((0 : Nat), (10 : Nat), (17 : Nat), (32 : Nat))]) ∈ lw_all := lw_g (lw_at lw_m9 212 rfl) rfl
theorem q2267 : (Jvm.Cond.methodLink "VectorVersionsLaw" (79 : Nat) ({ cls := "VectorVersions", name := "firstDifference", desc := "(II)I" } : Jvm.MethodName)) ∈ lw_all := lw_g (lw_at lw_m9 213 rfl) rfl
theorem q2275 : (Jvm.Cond.methodLink "VectorVersionsLaw" (243 : Nat) ({ cls := "VectorVersionsLaw", name := "comparisonCost", desc := "(LVectorVersions;II[J)I" } : Jvm.MethodName)) ∈ lw_all := lw_g (lw_at lw_m9 221 rfl) rfl
theorem q2276 : (Jvm.Cond.static ({ cls := "VectorVersionsLaw", name := "comparisonCost", desc := "(LVectorVersions;II[J)I" } : Jvm.MethodName)) ∈ lw_all := lw_g (lw_at lw_m9 222 rfl) rfl
theorem q2277 : (Jvm.Cond.codeWith ({ cls := "VectorVersionsLaw", name := "comparisonCost", desc := "(LVectorVersions;II[J)I" } : Jvm.MethodName) method_25_code (5 : Nat) (Option.some Jvm.ClassFile.FieldType.int) [((0 : Nat), (10 : Nat), (13 : Nat), (13 : Nat)), ((0 : Nat), (10 : Nat), (17 : Nat), (32 : Nat))]) ∈ lw_all := lw_g (lw_at lw_m9 223 rfl) rfl
theorem q2278 : (Jvm.Cond.methodLink "VectorVersionsLaw" (82 : Nat) ({ cls := "VectorVersions", name := "comparisonCost", desc := "(II)I" } : Jvm.MethodName)) ∈ lw_all := lw_g (lw_at lw_m9 224 rfl) rfl
theorem q2287 : (Jvm.Cond.methodLink "VectorVersionsLaw" (246 : Nat) ({ cls := "VectorVersionsLaw", name := "nodesForSet", desc := "(LVectorVersions;III[J)I" } : Jvm.MethodName)) ∈ lw_all := lw_g (lw_at lw_m9 233 rfl) rfl
theorem q2288 : (Jvm.Cond.static ({ cls := "VectorVersionsLaw", name := "nodesForSet", desc := "(LVectorVersions;III[J)I" } : Jvm.MethodName)) ∈ lw_all := lw_g (lw_at lw_m9 234 rfl) rfl
theorem q2289 : (Jvm.Cond.codeWith ({ cls := "VectorVersionsLaw", name := "nodesForSet", desc := "(LVectorVersions;III[J)I" } : Jvm.MethodName) method_26_code (6 : Nat) (Option.some Jvm.ClassFile.FieldType.int) [((0 : Nat), (12 : Nat), (15 : Nat), (13 : Nat)), ((0 : Nat), (12 : Nat), (19 : Nat), (89 : Nat)), ((0 : Nat), (12 : Nat), (23 : Nat), (32 : Nat))]) ∈ lw_all := lw_g (lw_at lw_m9 235 rfl) rfl
theorem q2290 : (Jvm.Cond.classLink "VectorVersionsLaw" (89 : Nat) "java/lang/IllegalArgumentException") ∈ lw_all := lw_g (lw_at lw_m9 236 rfl) rfl
theorem q2291 : (Jvm.Cond.methodLink "VectorVersionsLaw" (85 : Nat) ({ cls := "VectorVersions", name := "nodesForSet", desc := "(III)I" } : Jvm.MethodName)) ∈ lw_all := lw_g (lw_at lw_m9 237 rfl) rfl
theorem q2306 : (Jvm.Cond.methodLink "VectorVersionsLaw" (250 : Nat) ({ cls := "VectorVersionsLaw", name := "nodesForAppend", desc := "(LVectorVersions;I[J)I" } : Jvm.MethodName)) ∈ lw_all := lw_g (lw_at lw_m10 12 rfl) rfl
theorem q2307 : (Jvm.Cond.static ({ cls := "VectorVersionsLaw", name := "nodesForAppend", desc := "(LVectorVersions;I[J)I" } : Jvm.MethodName)) ∈ lw_all := lw_g (lw_at lw_m10 13 rfl) rfl
theorem q2308 : (Jvm.Cond.codeWith ({ cls := "VectorVersionsLaw", name := "nodesForAppend", desc := "(LVectorVersions;I[J)I" } : Jvm.MethodName) method_27_code (4 : Nat) (Option.some Jvm.ClassFile.FieldType.int) [((0 : Nat), (9 : Nat), (12 : Nat), (13 : Nat)), ((0 : Nat), (9 : Nat), (15 : Nat), (32 : Nat))]) ∈ lw_all := lw_g (lw_at lw_m10 14 rfl) rfl
theorem q2309 : (Jvm.Cond.methodLink "VectorVersionsLaw" (91 : Nat) ({ cls := "VectorVersions", name := "nodesForAppend", desc := "(I)I" } : Jvm.MethodName)) ∈ lw_all := lw_g (lw_at lw_m10 15 rfl) rfl
theorem q2314 : (Jvm.Cond.methodLink "VectorVersionsLaw" (253 : Nat) ({ cls := "VectorVersionsLaw", name := "garbageIfReleased", desc := "(LVectorVersions;I[J)I" } : Jvm.MethodName)) ∈ lw_all := lw_g (lw_at lw_m10 20 rfl) rfl
theorem q2315 : (Jvm.Cond.static ({ cls := "VectorVersionsLaw", name := "garbageIfReleased", desc := "(LVectorVersions;I[J)I" } : Jvm.MethodName)) ∈ lw_all := lw_g (lw_at lw_m10 21 rfl) rfl
theorem q2316 : (Jvm.Cond.codeWith ({ cls := "VectorVersionsLaw", name := "garbageIfReleased", desc := "(LVectorVersions;I[J)I" } : Jvm.MethodName) method_28_code (4 : Nat) (Option.some Jvm.ClassFile.FieldType.int) [((0 : Nat), (9 : Nat), (12 : Nat), (13 : Nat)), ((0 : Nat), (9 : Nat), (15 : Nat), (32 : Nat))]) ∈ lw_all := lw_g (lw_at lw_m10 22 rfl) rfl
theorem q2317 : (Jvm.Cond.methodLink "VectorVersionsLaw" (94 : Nat) ({ cls := "VectorVersions", name := "garbageIfReleased", desc := "(I)I" } : Jvm.MethodName)) ∈ lw_all := lw_g (lw_at lw_m10 23 rfl) rfl
theorem q2325 : (Jvm.Cond.methodLink "VectorVersionsLaw" (275 : Nat) ({ cls := "VectorVersionsLaw", name := "set", desc := "(LVectorVersions;III[J)I" } : Jvm.MethodName)) ∈ lw_all := lw_g (lw_at lw_m10 31 rfl) rfl
theorem q2326 : (Jvm.Cond.static ({ cls := "VectorVersionsLaw", name := "set", desc := "(LVectorVersions;III[J)I" } : Jvm.MethodName)) ∈ lw_all := lw_g (lw_at lw_m10 32 rfl) rfl
theorem q2327 : (Jvm.Cond.codeWith ({ cls := "VectorVersionsLaw", name := "set", desc := "(LVectorVersions;III[J)I" } : Jvm.MethodName) method_29_code (6 : Nat) (Option.some Jvm.ClassFile.FieldType.int) [((0 : Nat), (12 : Nat), (15 : Nat), (13 : Nat)), ((0 : Nat), (12 : Nat), (19 : Nat), (89 : Nat)), ((0 : Nat), (12 : Nat), (23 : Nat), (32 : Nat))]) ∈ lw_all := lw_g (lw_at lw_m10 33 rfl) rfl
theorem q2328 : (Jvm.Cond.methodLink "VectorVersionsLaw" (97 : Nat) ({ cls := "VectorVersions", name := "set", desc := "(III)I" } : Jvm.MethodName)) ∈ lw_all := lw_g (lw_at lw_m10 34 rfl) rfl
theorem q2333 : (Jvm.Cond.methodLink "VectorVersionsLaw" (278 : Nat) ({ cls := "VectorVersionsLaw", name := "append", desc := "(LVectorVersions;II[J)I" } : Jvm.MethodName)) ∈ lw_all := lw_g (lw_at lw_m10 39 rfl) rfl
theorem q2334 : (Jvm.Cond.static ({ cls := "VectorVersionsLaw", name := "append", desc := "(LVectorVersions;II[J)I" } : Jvm.MethodName)) ∈ lw_all := lw_g (lw_at lw_m10 40 rfl) rfl
theorem q2335 : (Jvm.Cond.codeWith ({ cls := "VectorVersionsLaw", name := "append", desc := "(LVectorVersions;II[J)I" } : Jvm.MethodName) method_30_code (5 : Nat) (Option.some Jvm.ClassFile.FieldType.int) [((0 : Nat), (10 : Nat), (13 : Nat), (13 : Nat)), ((0 : Nat), (10 : Nat), (17 : Nat), (89 : Nat)), ((0 : Nat), (10 : Nat), (21 : Nat), (32 : Nat))]) ∈ lw_all := lw_g (lw_at lw_m10 41 rfl) rfl
theorem q2336 : (Jvm.Cond.methodLink "VectorVersionsLaw" (100 : Nat) ({ cls := "VectorVersions", name := "append", desc := "(II)I" } : Jvm.MethodName)) ∈ lw_all := lw_g (lw_at lw_m10 42 rfl) rfl
theorem q2341 : (Jvm.Cond.methodLink "VectorVersionsLaw" (281 : Nat) ({ cls := "VectorVersionsLaw", name := "truncate", desc := "(LVectorVersions;II[J)I" } : Jvm.MethodName)) ∈ lw_all := lw_g (lw_at lw_m10 47 rfl) rfl
theorem q2342 : (Jvm.Cond.static ({ cls := "VectorVersionsLaw", name := "truncate", desc := "(LVectorVersions;II[J)I" } : Jvm.MethodName)) ∈ lw_all := lw_g (lw_at lw_m10 48 rfl) rfl
theorem q2343 : (Jvm.Cond.codeWith ({ cls := "VectorVersionsLaw", name := "truncate", desc := "(LVectorVersions;II[J)I" } : Jvm.MethodName) method_31_code (5 : Nat) (Option.some Jvm.ClassFile.FieldType.int) [((0 : Nat), (10 : Nat), (13 : Nat), (13 : Nat)), ((0 : Nat), (10 : Nat), (17 : Nat), (89 : Nat)), ((0 : Nat), (10 : Nat), (21 : Nat), (32 : Nat))]) ∈ lw_all := lw_g (lw_at lw_m10 49 rfl) rfl
theorem q2344 : (Jvm.Cond.methodLink "VectorVersionsLaw" (103 : Nat) ({ cls := "VectorVersions", name := "truncate", desc := "(II)I" } : Jvm.MethodName)) ∈ lw_all := lw_g (lw_at lw_m10 50 rfl) rfl
theorem q2349 : (Jvm.Cond.methodLink "VectorVersionsLaw" (284 : Nat) ({ cls := "VectorVersionsLaw", name := "release", desc := "(LVectorVersions;I[J)I" } : Jvm.MethodName)) ∈ lw_all := lw_g (lw_at lw_m10 55 rfl) rfl
theorem q2350 : (Jvm.Cond.static ({ cls := "VectorVersionsLaw", name := "release", desc := "(LVectorVersions;I[J)I" } : Jvm.MethodName)) ∈ lw_all := lw_g (lw_at lw_m10 56 rfl) rfl
theorem q2351 : (Jvm.Cond.codeWith ({ cls := "VectorVersionsLaw", name := "release", desc := "(LVectorVersions;I[J)I" } : Jvm.MethodName) method_32_code (4 : Nat) (Option.some Jvm.ClassFile.FieldType.int) [((0 : Nat), (9 : Nat), (12 : Nat), (13 : Nat)), ((0 : Nat), (9 : Nat), (15 : Nat), (32 : Nat))]) ∈ lw_all := lw_g (lw_at lw_m10 57 rfl) rfl
theorem q2352 : (Jvm.Cond.methodLink "VectorVersionsLaw" (106 : Nat) ({ cls := "VectorVersions", name := "release", desc := "(I)I" } : Jvm.MethodName)) ∈ lw_all := lw_g (lw_at lw_m10 58 rfl) rfl
theorem q2357 : (Jvm.Cond.methodLink "VectorVersionsLaw" (291 : Nat) ({ cls := "VectorVersionsLaw", name := "undo", desc := "(LVectorVersions;[J)I" } : Jvm.MethodName)) ∈ lw_all := lw_g (lw_at lw_m10 63 rfl) rfl
theorem q2358 : (Jvm.Cond.static ({ cls := "VectorVersionsLaw", name := "undo", desc := "(LVectorVersions;[J)I" } : Jvm.MethodName)) ∈ lw_all := lw_g (lw_at lw_m10 64 rfl) rfl
theorem q2359 : (Jvm.Cond.codeWith ({ cls := "VectorVersionsLaw", name := "undo", desc := "(LVectorVersions;[J)I" } : Jvm.MethodName) method_33_code (3 : Nat) (Option.some Jvm.ClassFile.FieldType.int) [((0 : Nat), (8 : Nat), (11 : Nat), (113 : Nat))]) ∈ lw_all := lw_g (lw_at lw_m10 65 rfl) rfl
theorem q2360 : (Jvm.Cond.classLink "VectorVersionsLaw" (113 : Nat) "java/util/NoSuchElementException") ∈ lw_all := lw_g (lw_at lw_m10 66 rfl) rfl
theorem q2361 : (Jvm.Cond.methodLink "VectorVersionsLaw" (109 : Nat) ({ cls := "VectorVersions", name := "undo", desc := "()I" } : Jvm.MethodName)) ∈ lw_all := lw_g (lw_at lw_m10 67 rfl) rfl
theorem q2372 : (Jvm.Cond.methodLink "VectorVersionsLaw" (295 : Nat) ({ cls := "VectorVersionsLaw", name := "writeVersion", desc := "(LVectorVersions;I[J)I" } : Jvm.MethodName)) ∈ lw_all := lw_g (lw_at lw_m10 78 rfl) rfl
theorem q2373 : (Jvm.Cond.static ({ cls := "VectorVersionsLaw", name := "writeVersion", desc := "(LVectorVersions;I[J)I" } : Jvm.MethodName)) ∈ lw_all := lw_g (lw_at lw_m10 79 rfl) rfl
theorem q2374 : (Jvm.Cond.codeWith ({ cls := "VectorVersionsLaw", name := "writeVersion", desc := "(LVectorVersions;I[J)I" } : Jvm.MethodName) method_34_code (4 : Nat) (Option.some Jvm.ClassFile.FieldType.int) [((0 : Nat), (9 : Nat), (12 : Nat), (13 : Nat)), ((0 : Nat), (9 : Nat), (15 : Nat), (32 : Nat))]) ∈ lw_all := lw_g (lw_at lw_m10 80 rfl) rfl
theorem q2375 : (Jvm.Cond.methodLink "VectorVersionsLaw" (115 : Nat) ({ cls := "VectorVersions", name := "writeVersion", desc := "(I)I" } : Jvm.MethodName)) ∈ lw_all := lw_g (lw_at lw_m10 81 rfl) rfl
theorem q2433 : (Jvm.Cond.methodLink "VectorVersionsLaw" (306 : Nat) ({ cls := "VectorVersionsLaw", name := "restoreState", desc := "(LVectorVersions;[J)I" } : Jvm.MethodName)) ∈ lw_all := lw_g (lw_at lw_m10 139 rfl) rfl
theorem q2434 : (Jvm.Cond.static ({ cls := "VectorVersionsLaw", name := "restoreState", desc := "(LVectorVersions;[J)I" } : Jvm.MethodName)) ∈ lw_all := lw_g (lw_at lw_m10 140 rfl) rfl
theorem q2435 : (Jvm.Cond.codeWith ({ cls := "VectorVersionsLaw", name := "restoreState", desc := "(LVectorVersions;[J)I" } : Jvm.MethodName) method_35_code (3 : Nat) (Option.some Jvm.ClassFile.FieldType.int) [((0 : Nat), (8 : Nat), (11 : Nat), (113 : Nat))]) ∈ lw_all := lw_g (lw_at lw_m10 141 rfl) rfl
theorem q2436 : (Jvm.Cond.methodLink "VectorVersionsLaw" (118 : Nat) ({ cls := "VectorVersions", name := "restoreState", desc := "()I" } : Jvm.MethodName)) ∈ lw_all := lw_g (lw_at lw_m10 142 rfl) rfl
theorem q2440 : (Jvm.Cond.classLink "VectorVersionsLaw" (122 : Nat) "VectorVersionsModel") ∈ lw_all := lw_g (lw_at lw_m10 146 rfl) rfl
theorem q2442 : (Jvm.Cond.methodLink "VectorVersionsLaw" (124 : Nat) ({ cls := "VectorVersionsModel", name := "<init>", desc := "()V" } : Jvm.MethodName)) ∈ lw_all := lw_g (lw_at lw_m10 148 rfl) rfl
theorem q2583 : (Jvm.Cond.methodLink "VectorVersionsLaw" (164 : Nat) ({ cls := "VectorVersionsModel", name := "thrown", desc := "()I" } : Jvm.MethodName)) ∈ lw_all := lw_g (lw_at lw_m11 49 rfl) rfl
theorem q2587 : (Jvm.Cond.methodLink "VectorVersionsLaw" (129 : Nat) ({ cls := "VectorVersionsModel", name := "appendInput", desc := "(IIIII)I" } : Jvm.MethodName)) ∈ lw_all := lw_g (lw_at lw_m11 53 rfl) rfl
theorem q2595 : (Jvm.Cond.methodLink "VectorVersionsLaw" (133 : Nat) ({ cls := "VectorVersionsModel", name := "truncateInput", desc := "(I)Z" } : Jvm.MethodName)) ∈ lw_all := lw_g (lw_at lw_m11 61 rfl) rfl
theorem q2602 : (Jvm.Cond.methodLink "VectorVersionsLaw" (145 : Nat) ({ cls := "VectorVersionsModel", name := "errorCode", desc := "()I" } : Jvm.MethodName)) ∈ lw_all := lw_g (lw_at lw_m11 68 rfl) rfl
theorem q2606 : (Jvm.Cond.methodLink "VectorVersionsLaw" (149 : Nat) ({ cls := "VectorVersionsModel", name := "errorOffset", desc := "()I" } : Jvm.MethodName)) ∈ lw_all := lw_g (lw_at lw_m11 72 rfl) rfl
theorem q2610 : (Jvm.Cond.methodLink "VectorVersionsLaw" (137 : Nat) ({ cls := "VectorVersionsModel", name := "loadSetup", desc := "()I" } : Jvm.MethodName)) ∈ lw_all := lw_g (lw_at lw_m11 76 rfl) rfl
theorem q2676 : (Jvm.Cond.methodLink "VectorVersionsLaw" (141 : Nat) ({ cls := "VectorVersionsModel", name := "runScript", desc := "()I" } : Jvm.MethodName)) ∈ lw_all := lw_g (lw_at lw_m11 142 rfl) rfl
theorem q2825 : (Jvm.Cond.methodLink "VectorVersionsLaw" (153 : Nat) ({ cls := "VectorVersionsModel", name := "versionCount", desc := "()I" } : Jvm.MethodName)) ∈ lw_all := lw_g (lw_at lw_m12 51 rfl) rfl
theorem q2829 : (Jvm.Cond.methodLink "VectorVersionsLaw" (157 : Nat) ({ cls := "VectorVersionsModel", name := "liveCount", desc := "()I" } : Jvm.MethodName)) ∈ lw_all := lw_g (lw_at lw_m12 55 rfl) rfl
theorem q2833 : (Jvm.Cond.methodLink "VectorVersionsLaw" (163 : Nat) ({ cls := "VectorVersionsModel", name := "isReleased", desc := "(I)Z" } : Jvm.MethodName)) ∈ lw_all := lw_g (lw_at lw_m12 59 rfl) rfl
theorem q2845 : (Jvm.Cond.methodLink "VectorVersionsLaw" (169 : Nat) ({ cls := "VectorVersionsModel", name := "parentOf", desc := "(I)I" } : Jvm.MethodName)) ∈ lw_all := lw_g (lw_at lw_m12 71 rfl) rfl
theorem q2849 : (Jvm.Cond.methodLink "VectorVersionsLaw" (172 : Nat) ({ cls := "VectorVersionsModel", name := "depthOf", desc := "(I)I" } : Jvm.MethodName)) ∈ lw_all := lw_g (lw_at lw_m12 75 rfl) rfl
theorem q2857 : (Jvm.Cond.methodLink "VectorVersionsLaw" (175 : Nat) ({ cls := "VectorVersionsModel", name := "childCount", desc := "(I)I" } : Jvm.MethodName)) ∈ lw_all := lw_g (lw_at lw_m12 83 rfl) rfl
theorem q2861 : (Jvm.Cond.methodLink "VectorVersionsLaw" (179 : Nat) ({ cls := "VectorVersionsModel", name := "commonAncestor", desc := "(II)I" } : Jvm.MethodName)) ∈ lw_all := lw_g (lw_at lw_m12 87 rfl) rfl
theorem q2865 : (Jvm.Cond.methodLink "VectorVersionsLaw" (182 : Nat) ({ cls := "VectorVersionsModel", name := "size", desc := "(I)I" } : Jvm.MethodName)) ∈ lw_all := lw_g (lw_at lw_m12 91 rfl) rfl
theorem q2873 : (Jvm.Cond.methodLink "VectorVersionsLaw" (185 : Nat) ({ cls := "VectorVersionsModel", name := "height", desc := "(I)I" } : Jvm.MethodName)) ∈ lw_all := lw_g (lw_at lw_m12 99 rfl) rfl
theorem q2877 : (Jvm.Cond.methodLink "VectorVersionsLaw" (188 : Nat) ({ cls := "VectorVersionsModel", name := "rootOf", desc := "(I)I" } : Jvm.MethodName)) ∈ lw_all := lw_g (lw_at lw_m12 103 rfl) rfl
theorem q2881 : (Jvm.Cond.methodLink "VectorVersionsLaw" (191 : Nat) ({ cls := "VectorVersionsModel", name := "get", desc := "(II)I" } : Jvm.MethodName)) ∈ lw_all := lw_g (lw_at lw_m12 107 rfl) rfl
theorem q2893 : (Jvm.Cond.methodLink "VectorVersionsLaw" (194 : Nat) ({ cls := "VectorVersionsModel", name := "leafOf", desc := "(II)I" } : Jvm.MethodName)) ∈ lw_all := lw_g (lw_at lw_m12 119 rfl) rfl
theorem q2897 : (Jvm.Cond.methodLink "VectorVersionsLaw" (197 : Nat) ({ cls := "VectorVersionsModel", name := "sum", desc := "(I)I" } : Jvm.MethodName)) ∈ lw_all := lw_g (lw_at lw_m12 123 rfl) rfl
theorem q2901 : (Jvm.Cond.methodLink "VectorVersionsLaw" (200 : Nat) ({ cls := "VectorVersionsModel", name := "indexOf", desc := "(II)I" } : Jvm.MethodName)) ∈ lw_all := lw_g (lw_at lw_m12 127 rfl) rfl
theorem q2905 : (Jvm.Cond.methodLink "VectorVersionsLaw" (204 : Nat) ({ cls := "VectorVersionsModel", name := "createdNodes", desc := "()I" } : Jvm.MethodName)) ∈ lw_all := lw_g (lw_at lw_m12 131 rfl) rfl
theorem q2909 : (Jvm.Cond.methodLink "VectorVersionsLaw" (208 : Nat) ({ cls := "VectorVersionsModel", name := "storedNodes", desc := "()I" } : Jvm.MethodName)) ∈ lw_all := lw_g (lw_at lw_m12 135 rfl) rfl
theorem q2917 : (Jvm.Cond.methodLink "VectorVersionsLaw" (212 : Nat) ({ cls := "VectorVersionsModel", name := "garbageNodes", desc := "()I" } : Jvm.MethodName)) ∈ lw_all := lw_g (lw_at lw_m12 143 rfl) rfl
theorem q2921 : (Jvm.Cond.methodLink "VectorVersionsLaw" (215 : Nat) ({ cls := "VectorVersionsModel", name := "nodesCreatedFor", desc := "(I)I" } : Jvm.MethodName)) ∈ lw_all := lw_g (lw_at lw_m12 147 rfl) rfl
theorem q2925 : (Jvm.Cond.methodLink "VectorVersionsLaw" (218 : Nat) ({ cls := "VectorVersionsModel", name := "nodesOf", desc := "(I)I" } : Jvm.MethodName)) ∈ lw_all := lw_g (lw_at lw_m12 151 rfl) rfl
theorem q2937 : (Jvm.Cond.methodLink "VectorVersionsLaw" (221 : Nat) ({ cls := "VectorVersionsModel", name := "sharedNodes", desc := "(II)I" } : Jvm.MethodName)) ∈ lw_all := lw_g (lw_at lw_m12 163 rfl) rfl
theorem q2945 : (Jvm.Cond.methodLink "VectorVersionsLaw" (224 : Nat) ({ cls := "VectorVersionsModel", name := "exclusiveNodes", desc := "(I)I" } : Jvm.MethodName)) ∈ lw_all := lw_g (lw_at lw_m12 171 rfl) rfl
theorem q2957 : (Jvm.Cond.methodLink "VectorVersionsLaw" (227 : Nat) ({ cls := "VectorVersionsModel", name := "isLeaf", desc := "(I)Z" } : Jvm.MethodName)) ∈ lw_all := lw_g (lw_at lw_m12 183 rfl) rfl
theorem q2965 : (Jvm.Cond.methodLink "VectorVersionsLaw" (230 : Nat) ({ cls := "VectorVersionsModel", name := "entryCount", desc := "(I)I" } : Jvm.MethodName)) ∈ lw_all := lw_g (lw_at lw_m12 191 rfl) rfl
theorem q2969 : (Jvm.Cond.methodLink "VectorVersionsLaw" (233 : Nat) ({ cls := "VectorVersionsModel", name := "childOf", desc := "(II)I" } : Jvm.MethodName)) ∈ lw_all := lw_g (lw_at lw_m12 195 rfl) rfl
theorem q2973 : (Jvm.Cond.methodLink "VectorVersionsLaw" (236 : Nat) ({ cls := "VectorVersionsModel", name := "referencesTo", desc := "(I)I" } : Jvm.MethodName)) ∈ lw_all := lw_g (lw_at lw_m12 199 rfl) rfl
theorem q2981 : (Jvm.Cond.methodLink "VectorVersionsLaw" (239 : Nat) ({ cls := "VectorVersionsModel", name := "differences", desc := "(II)I" } : Jvm.MethodName)) ∈ lw_all := lw_g (lw_at lw_m12 207 rfl) rfl
theorem q2989 : (Jvm.Cond.methodLink "VectorVersionsLaw" (242 : Nat) ({ cls := "VectorVersionsModel", name := "firstDifference", desc := "(II)I" } : Jvm.MethodName)) ∈ lw_all := lw_g (lw_at lw_m12 215 rfl) rfl
theorem q2993 : (Jvm.Cond.methodLink "VectorVersionsLaw" (245 : Nat) ({ cls := "VectorVersionsModel", name := "comparisonCost", desc := "(II)I" } : Jvm.MethodName)) ∈ lw_all := lw_g (lw_at lw_m12 219 rfl) rfl
theorem q3001 : (Jvm.Cond.methodLink "VectorVersionsLaw" (249 : Nat) ({ cls := "VectorVersionsModel", name := "nodesForSet", desc := "(III)I" } : Jvm.MethodName)) ∈ lw_all := lw_g (lw_at lw_m12 227 rfl) rfl
theorem q3007 : (Jvm.Cond.methodLink "VectorVersionsLaw" (252 : Nat) ({ cls := "VectorVersionsModel", name := "nodesForAppend", desc := "(I)I" } : Jvm.MethodName)) ∈ lw_all := lw_g (lw_at lw_m12 233 rfl) rfl
theorem q3011 : (Jvm.Cond.methodLink "VectorVersionsLaw" (255 : Nat) ({ cls := "VectorVersionsModel", name := "garbageIfReleased", desc := "(I)I" } : Jvm.MethodName)) ∈ lw_all := lw_g (lw_at lw_m12 237 rfl) rfl
theorem q3015 : (Jvm.Cond.methodLink "VectorVersionsLaw" (259 : Nat) ({ cls := "VectorVersionsModel", name := "largestVersion", desc := "()I" } : Jvm.MethodName)) ∈ lw_all := lw_g (lw_at lw_m13 1 rfl) rfl
theorem q3019 : (Jvm.Cond.methodLink "VectorVersionsLaw" (264 : Nat) ({ cls := "VectorVersionsModel", name := "sharing", desc := "()D" } : Jvm.MethodName)) ∈ lw_all := lw_g (lw_at lw_m13 5 rfl) rfl
theorem q3023 : (Jvm.Cond.methodLink "VectorVersionsLaw" (269 : Nat) ({ cls := "VectorVersionsModel", name := "garbagePart", desc := "()F" } : Jvm.MethodName)) ∈ lw_all := lw_g (lw_at lw_m13 9 rfl) rfl
theorem q3027 : (Jvm.Cond.methodLink "VectorVersionsLaw" (274 : Nat) ({ cls := "VectorVersionsModel", name := "isConsistent", desc := "()Z" } : Jvm.MethodName)) ∈ lw_all := lw_g (lw_at lw_m13 13 rfl) rfl
theorem q3051 : (Jvm.Cond.methodLink "VectorVersionsLaw" (277 : Nat) ({ cls := "VectorVersionsModel", name := "set", desc := "(III)I" } : Jvm.MethodName)) ∈ lw_all := lw_g (lw_at lw_m13 37 rfl) rfl
theorem q3055 : (Jvm.Cond.methodLink "VectorVersionsLaw" (280 : Nat) ({ cls := "VectorVersionsModel", name := "append", desc := "(II)I" } : Jvm.MethodName)) ∈ lw_all := lw_g (lw_at lw_m13 41 rfl) rfl
theorem q3059 : (Jvm.Cond.methodLink "VectorVersionsLaw" (283 : Nat) ({ cls := "VectorVersionsModel", name := "truncate", desc := "(II)I" } : Jvm.MethodName)) ∈ lw_all := lw_g (lw_at lw_m13 45 rfl) rfl
theorem q3063 : (Jvm.Cond.methodLink "VectorVersionsLaw" (286 : Nat) ({ cls := "VectorVersionsModel", name := "release", desc := "(I)I" } : Jvm.MethodName)) ∈ lw_all := lw_g (lw_at lw_m13 49 rfl) rfl
theorem q3067 : (Jvm.Cond.methodLink "VectorVersionsLaw" (290 : Nat) ({ cls := "VectorVersionsModel", name := "collect", desc := "()I" } : Jvm.MethodName)) ∈ lw_all := lw_g (lw_at lw_m13 53 rfl) rfl
theorem q3071 : (Jvm.Cond.methodLink "VectorVersionsLaw" (294 : Nat) ({ cls := "VectorVersionsModel", name := "undo", desc := "()I" } : Jvm.MethodName)) ∈ lw_all := lw_g (lw_at lw_m13 57 rfl) rfl
theorem q3075 : (Jvm.Cond.methodLink "VectorVersionsLaw" (297 : Nat) ({ cls := "VectorVersionsModel", name := "writeVersion", desc := "(I)I" } : Jvm.MethodName)) ∈ lw_all := lw_g (lw_at lw_m13 61 rfl) rfl
theorem q3088 : (Jvm.Cond.methodLink "VectorVersionsLaw" (301 : Nat) ({ cls := "VectorVersionsModel", name := "outputByte", desc := "(I)I" } : Jvm.MethodName)) ∈ lw_all := lw_g (lw_at lw_m13 74 rfl) rfl
theorem q3092 : (Jvm.Cond.methodLink "VectorVersionsLaw" (305 : Nat) ({ cls := "VectorVersionsModel", name := "saveState", desc := "()I" } : Jvm.MethodName)) ∈ lw_all := lw_g (lw_at lw_m13 78 rfl) rfl
theorem q3100 : (Jvm.Cond.methodLink "VectorVersionsLaw" (308 : Nat) ({ cls := "VectorVersionsModel", name := "restoreState", desc := "()I" } : Jvm.MethodName)) ∈ lw_all := lw_g (lw_at lw_m13 86 rfl) rfl
/-! the law's own entry -/
set_option maxRecDepth 100000
abbrev cL_law : ByteArray := code
def dkwL_law_105 : List UInt8 := [153, 0, 5, 3, 172, 167, 0, 3, 132, 4, 6, 167, 245, 182, 4, 172]
abbrev dktL_law_105 : List UInt8 := dkwL_law_105 ++ []
def dkwL_law_104 : List UInt8 := [182, 0, 164, 21, 5, 159, 0, 5, 3, 172, 21, 5, 154, 0, 15, 45, 3, 47, 21, 6, 133, 148]
abbrev dktL_law_104 : List UInt8 := dkwL_law_104 ++ dktL_law_105
def dkwL_law_103 : List UInt8 := [182, 1, 49, 159, 0, 49, 3, 172, 43, 45, 184, 1, 50, 54, 5, 44, 182, 1, 52, 54, 6, 44]
abbrev dktL_law_103 : List UInt8 := dkwL_law_103 ++ dktL_law_104
def dkwL_law_102 : List UInt8 := [46, 182, 1, 42, 44, 42, 21, 4, 4, 96, 46, 182, 1, 45, 159, 0, 62, 3, 172, 43, 182, 1, 46, 44]
abbrev dktL_law_102 : List UInt8 := dkwL_law_102 ++ dktL_law_103
def dkwL_law_101 : List UInt8 := [154, 0, 15, 45, 3, 47, 21, 6, 133, 148, 153, 0, 5, 3, 172, 167, 0, 85, 43, 42, 21, 4, 4, 96]
abbrev dktL_law_101 : List UInt8 := dkwL_law_101 ++ dktL_law_102
def dkwL_law_100 : List UInt8 := [21, 4, 4, 96, 46, 182, 1, 41, 54, 6, 44, 182, 0, 164, 21, 5, 159, 0, 5, 3, 172, 21, 5]
abbrev dktL_law_100 : List UInt8 := dkwL_law_100 ++ dktL_law_101
def dkwL_law_99 : List UInt8 := [153, 0, 5, 3, 172, 167, 0, 141, 43, 42, 21, 4, 4, 96, 46, 45, 184, 1, 39, 54, 5, 44, 42]
abbrev dktL_law_99 : List UInt8 := dkwL_law_99 ++ dktL_law_100
def dkwL_law_98 : List UInt8 := [182, 0, 164, 21, 5, 159, 0, 5, 3, 172, 21, 5, 154, 0, 15, 45, 3, 47, 21, 6, 133, 148]
abbrev dktL_law_98 : List UInt8 := dkwL_law_98 ++ dktL_law_99
def dkwL_law_97 : List UInt8 := [182, 1, 34, 159, 0, 187, 3, 172, 43, 45, 184, 1, 35, 54, 5, 44, 182, 1, 38, 54, 6, 44]
abbrev dktL_law_97 : List UInt8 := dkwL_law_97 ++ dktL_law_98
def dkwL_law_96 : List UInt8 := [154, 0, 15, 45, 3, 47, 21, 6, 133, 148, 153, 0, 5, 3, 172, 167, 0, 198, 43, 182, 1, 31, 44]
abbrev dktL_law_96 : List UInt8 := dkwL_law_96 ++ dktL_law_97
def dkwL_law_95 : List UInt8 := [21, 4, 4, 96, 46, 182, 1, 30, 54, 6, 44, 182, 0, 164, 21, 5, 159, 0, 5, 3, 172, 21, 5]
abbrev dktL_law_95 : List UInt8 := dkwL_law_95 ++ dktL_law_96
def dkwL_law_94 : List UInt8 := [153, 0, 5, 3, 172, 167, 0, 254, 43, 42, 21, 4, 4, 96, 46, 45, 184, 1, 28, 54, 5, 44, 42]
abbrev dktL_law_94 : List UInt8 := dkwL_law_94 ++ dktL_law_95
def dkwL_law_93 : List UInt8 := [182, 0, 164, 21, 5, 159, 0, 5, 3, 172, 21, 5, 154, 0, 15, 45, 3, 47, 21, 6, 133, 148]
abbrev dktL_law_93 : List UInt8 := dkwL_law_93 ++ dktL_law_94
def dkwL_law_92 : List UInt8 := [184, 1, 25, 54, 5, 44, 42, 21, 4, 4, 96, 46, 42, 21, 4, 5, 96, 46, 182, 1, 27, 54, 6, 44]
abbrev dktL_law_92 : List UInt8 := dkwL_law_92 ++ dktL_law_93
def dkwL_law_91 : List UInt8 := [148, 153, 0, 5, 3, 172, 167, 1, 66, 43, 42, 21, 4, 4, 96, 46, 42, 21, 4, 5, 96, 46, 45]
abbrev dktL_law_91 : List UInt8 := dkwL_law_91 ++ dktL_law_92
def dkwL_law_90 : List UInt8 := [54, 6, 44, 182, 0, 164, 21, 5, 159, 0, 5, 3, 172, 21, 5, 154, 0, 15, 45, 3, 47, 21, 6, 133]
abbrev dktL_law_90 : List UInt8 := dkwL_law_90 ++ dktL_law_91
def dkwL_law_89 : List UInt8 := [96, 46, 45, 184, 1, 22, 54, 5, 44, 42, 21, 4, 4, 96, 46, 42, 21, 4, 5, 96, 46, 182, 1, 24]
abbrev dktL_law_89 : List UInt8 := dkwL_law_89 ++ dktL_law_90
def dkwL_law_88 : List UInt8 := [47, 21, 6, 133, 148, 153, 0, 5, 3, 172, 167, 1, 134, 43, 42, 21, 4, 4, 96, 46, 42, 21, 4, 5]
abbrev dktL_law_88 : List UInt8 := dkwL_law_88 ++ dktL_law_89
def dkwL_law_87 : List UInt8 := [46, 182, 1, 21, 54, 6, 44, 182, 0, 164, 21, 5, 159, 0, 5, 3, 172, 21, 5, 154, 0, 15, 45, 3]
abbrev dktL_law_87 : List UInt8 := dkwL_law_87 ++ dktL_law_88
def dkwL_law_86 : List UInt8 := [45, 184, 1, 19, 54, 5, 44, 42, 21, 4, 4, 96, 46, 42, 21, 4, 5, 96, 46, 42, 21, 4, 6, 96]
abbrev dktL_law_86 : List UInt8 := dkwL_law_86 ++ dktL_law_87
def dkwL_law_85 : List UInt8 := [159, 1, 216, 3, 172, 43, 42, 21, 4, 4, 96, 46, 42, 21, 4, 5, 96, 46, 42, 21, 4, 6, 96, 46]
abbrev dktL_law_85 : List UInt8 := dkwL_law_85 ++ dktL_law_86
def dkwL_law_84 : List UInt8 := [153, 0, 11, 24, 7, 24, 7, 151, 154, 0, 5, 3, 172, 167, 1, 227, 43, 182, 1, 14, 44, 182, 1, 18]
abbrev dktL_law_84 : List UInt8 := dkwL_law_84 ++ dktL_law_85
def dkwL_law_83 : List UInt8 := [57, 5, 44, 182, 1, 13, 141, 57, 7, 24, 5, 24, 7, 151, 153, 0, 21, 24, 5, 24, 5, 151]
abbrev dktL_law_83 : List UInt8 := dkwL_law_83 ++ dktL_law_84
def dkwL_law_82 : List UInt8 := [24, 5, 151, 153, 0, 11, 24, 7, 24, 7, 151, 154, 0, 5, 3, 172, 167, 2, 14, 43, 182, 1, 9, 141]
abbrev dktL_law_82 : List UInt8 := dkwL_law_82 ++ dktL_law_83
def dkwL_law_81 : List UInt8 := [172, 43, 182, 1, 4, 57, 5, 44, 182, 1, 8, 57, 7, 24, 5, 24, 7, 151, 153, 0, 21, 24, 5]
abbrev dktL_law_81 : List UInt8 := dkwL_law_81 ++ dktL_law_82
def dkwL_law_80 : List UInt8 := [21, 6, 133, 148, 153, 0, 5, 3, 172, 167, 2, 68, 43, 182, 1, 0, 44, 182, 1, 3, 159, 2, 57, 3]
abbrev dktL_law_80 : List UInt8 := dkwL_law_80 ++ dktL_law_81
def dkwL_law_79 : List UInt8 := [182, 0, 255, 54, 6, 44, 182, 0, 164, 21, 5, 159, 0, 5, 3, 172, 21, 5, 154, 0, 15, 45, 3, 47]
abbrev dktL_law_79 : List UInt8 := dkwL_law_79 ++ dktL_law_80
def dkwL_law_78 : List UInt8 := [167, 2, 124, 43, 42, 21, 4, 4, 96, 46, 45, 184, 0, 253, 54, 5, 44, 42, 21, 4, 4, 96, 46]
abbrev dktL_law_78 : List UInt8 := dkwL_law_78 ++ dktL_law_79
def dkwL_law_77 : List UInt8 := [21, 5, 159, 0, 5, 3, 172, 21, 5, 154, 0, 15, 45, 3, 47, 21, 6, 133, 148, 153, 0, 5, 3, 172]
abbrev dktL_law_77 : List UInt8 := dkwL_law_77 ++ dktL_law_78
def dkwL_law_76 : List UInt8 := [46, 45, 184, 0, 250, 54, 5, 44, 42, 21, 4, 4, 96, 46, 182, 0, 252, 54, 6, 44, 182, 0, 164]
abbrev dktL_law_76 : List UInt8 := dkwL_law_76 ++ dktL_law_77
def dkwL_law_75 : List UInt8 := [154, 0, 15, 45, 3, 47, 21, 6, 133, 148, 153, 0, 5, 3, 172, 167, 2, 180, 43, 42, 21, 4, 4, 96]
abbrev dktL_law_75 : List UInt8 := dkwL_law_75 ++ dktL_law_76
def dkwL_law_74 : List UInt8 := [42, 21, 4, 6, 96, 46, 182, 0, 249, 54, 6, 44, 182, 0, 164, 21, 5, 159, 0, 5, 3, 172, 21, 5]
abbrev dktL_law_74 : List UInt8 := dkwL_law_74 ++ dktL_law_75
def dkwL_law_73 : List UInt8 := [21, 4, 6, 96, 46, 45, 184, 0, 246, 54, 5, 44, 42, 21, 4, 4, 96, 46, 42, 21, 4, 5, 96, 46]
abbrev dktL_law_73 : List UInt8 := dkwL_law_73 ++ dktL_law_74
def dkwL_law_72 : List UInt8 := [148, 153, 0, 5, 3, 172, 167, 3, 4, 43, 42, 21, 4, 4, 96, 46, 42, 21, 4, 5, 96, 46, 42]
abbrev dktL_law_72 : List UInt8 := dkwL_law_72 ++ dktL_law_73
def dkwL_law_71 : List UInt8 := [54, 6, 44, 182, 0, 164, 21, 5, 159, 0, 5, 3, 172, 21, 5, 154, 0, 15, 45, 3, 47, 21, 6, 133]
abbrev dktL_law_71 : List UInt8 := dkwL_law_71 ++ dktL_law_72
def dkwL_law_70 : List UInt8 := [46, 45, 184, 0, 243, 54, 5, 44, 42, 21, 4, 4, 96, 46, 42, 21, 4, 5, 96, 46, 182, 0, 245]
abbrev dktL_law_70 : List UInt8 := dkwL_law_70 ++ dktL_law_71
def dkwL_law_69 : List UInt8 := [21, 6, 133, 148, 153, 0, 5, 3, 172, 167, 3, 72, 43, 42, 21, 4, 4, 96, 46, 42, 21, 4, 5, 96]
abbrev dktL_law_69 : List UInt8 := dkwL_law_69 ++ dktL_law_70
def dkwL_law_68 : List UInt8 := [182, 0, 242, 54, 6, 44, 182, 0, 164, 21, 5, 159, 0, 5, 3, 172, 21, 5, 154, 0, 15, 45, 3, 47]
abbrev dktL_law_68 : List UInt8 := dkwL_law_68 ++ dktL_law_69
def dkwL_law_67 : List UInt8 := [5, 96, 46, 45, 184, 0, 240, 54, 5, 44, 42, 21, 4, 4, 96, 46, 42, 21, 4, 5, 96, 46]
abbrev dktL_law_67 : List UInt8 := dkwL_law_67 ++ dktL_law_68
def dkwL_law_66 : List UInt8 := [3, 47, 21, 6, 133, 148, 153, 0, 5, 3, 172, 167, 3, 140, 43, 42, 21, 4, 4, 96, 46, 42, 21, 4]
abbrev dktL_law_66 : List UInt8 := dkwL_law_66 ++ dktL_law_67
def dkwL_law_65 : List UInt8 := [96, 46, 182, 0, 239, 54, 6, 44, 182, 0, 164, 21, 5, 159, 0, 5, 3, 172, 21, 5, 154, 0, 15, 45]
abbrev dktL_law_65 : List UInt8 := dkwL_law_65 ++ dktL_law_66
def dkwL_law_64 : List UInt8 := [46, 42, 21, 4, 5, 96, 46, 45, 184, 0, 237, 54, 5, 44, 42, 21, 4, 4, 96, 46, 42, 21, 4, 5]
abbrev dktL_law_64 : List UInt8 := dkwL_law_64 ++ dktL_law_65
def dkwL_law_63 : List UInt8 := [154, 0, 15, 45, 3, 47, 21, 6, 133, 148, 153, 0, 5, 3, 172, 167, 3, 208, 43, 42, 21, 4, 4, 96]
abbrev dktL_law_63 : List UInt8 := dkwL_law_63 ++ dktL_law_64
def dkwL_law_62 : List UInt8 := [21, 4, 4, 96, 46, 182, 0, 236, 54, 6, 44, 182, 0, 164, 21, 5, 159, 0, 5, 3, 172, 21, 5]
abbrev dktL_law_62 : List UInt8 := dkwL_law_62 ++ dktL_law_63
def dkwL_law_61 : List UInt8 := [148, 153, 0, 5, 3, 172, 167, 4, 8, 43, 42, 21, 4, 4, 96, 46, 45, 184, 0, 234, 54, 5, 44, 42]
abbrev dktL_law_61 : List UInt8 := dkwL_law_61 ++ dktL_law_62
def dkwL_law_60 : List UInt8 := [54, 6, 44, 182, 0, 164, 21, 5, 159, 0, 5, 3, 172, 21, 5, 154, 0, 15, 45, 3, 47, 21, 6, 133]
abbrev dktL_law_60 : List UInt8 := dkwL_law_60 ++ dktL_law_61
def dkwL_law_59 : List UInt8 := [46, 45, 184, 0, 231, 54, 5, 44, 42, 21, 4, 4, 96, 46, 42, 21, 4, 5, 96, 46, 182, 0, 233]
abbrev dktL_law_59 : List UInt8 := dkwL_law_59 ++ dktL_law_60
def dkwL_law_58 : List UInt8 := [21, 6, 133, 148, 153, 0, 5, 3, 172, 167, 4, 76, 43, 42, 21, 4, 4, 96, 46, 42, 21, 4, 5, 96]
abbrev dktL_law_58 : List UInt8 := dkwL_law_58 ++ dktL_law_59
def dkwL_law_57 : List UInt8 := [182, 0, 230, 54, 6, 44, 182, 0, 164, 21, 5, 159, 0, 5, 3, 172, 21, 5, 154, 0, 15, 45, 3, 47]
abbrev dktL_law_57 : List UInt8 := dkwL_law_57 ++ dktL_law_58
def dkwL_law_56 : List UInt8 := [172, 167, 4, 132, 43, 42, 21, 4, 4, 96, 46, 45, 184, 0, 228, 54, 5, 44, 42, 21, 4, 4, 96, 46]
abbrev dktL_law_56 : List UInt8 := dkwL_law_56 ++ dktL_law_57
def dkwL_law_55 : List UInt8 := [172, 21, 5, 154, 0, 22, 45, 3, 47, 21, 6, 153, 0, 7, 10, 167, 0, 4, 9, 148, 153, 0, 5, 3]
abbrev dktL_law_55 : List UInt8 := dkwL_law_55 ++ dktL_law_56
def dkwL_law_54 : List UInt8 := [54, 5, 44, 42, 21, 4, 4, 96, 46, 182, 0, 227, 54, 6, 44, 182, 0, 164, 21, 5, 159, 0, 5, 3]
abbrev dktL_law_54 : List UInt8 := dkwL_law_54 ++ dktL_law_55
def dkwL_law_53 : List UInt8 := [21, 6, 133, 148, 153, 0, 5, 3, 172, 167, 4, 195, 43, 42, 21, 4, 4, 96, 46, 45, 184, 0, 225]
abbrev dktL_law_53 : List UInt8 := dkwL_law_53 ++ dktL_law_54
def dkwL_law_52 : List UInt8 := [182, 0, 224, 54, 6, 44, 182, 0, 164, 21, 5, 159, 0, 5, 3, 172, 21, 5, 154, 0, 15, 45, 3, 47]
abbrev dktL_law_52 : List UInt8 := dkwL_law_52 ++ dktL_law_53
def dkwL_law_51 : List UInt8 := [167, 4, 251, 43, 42, 21, 4, 4, 96, 46, 45, 184, 0, 222, 54, 5, 44, 42, 21, 4, 4, 96, 46]
abbrev dktL_law_51 : List UInt8 := dkwL_law_51 ++ dktL_law_52
def dkwL_law_50 : List UInt8 := [159, 0, 5, 3, 172, 21, 5, 154, 0, 15, 45, 3, 47, 21, 6, 133, 148, 153, 0, 5, 3, 172]
abbrev dktL_law_50 : List UInt8 := dkwL_law_50 ++ dktL_law_51
def dkwL_law_49 : List UInt8 := [21, 4, 4, 96, 46, 42, 21, 4, 5, 96, 46, 182, 0, 221, 54, 6, 44, 182, 0, 164, 21, 5]
abbrev dktL_law_49 : List UInt8 := dkwL_law_49 ++ dktL_law_50
def dkwL_law_48 : List UInt8 := [167, 5, 63, 43, 42, 21, 4, 4, 96, 46, 42, 21, 4, 5, 96, 46, 45, 184, 0, 219, 54, 5, 44, 42]
abbrev dktL_law_48 : List UInt8 := dkwL_law_48 ++ dktL_law_49
def dkwL_law_47 : List UInt8 := [21, 5, 159, 0, 5, 3, 172, 21, 5, 154, 0, 15, 45, 3, 47, 21, 6, 133, 148, 153, 0, 5, 3, 172]
abbrev dktL_law_47 : List UInt8 := dkwL_law_47 ++ dktL_law_48
def dkwL_law_46 : List UInt8 := [46, 45, 184, 0, 216, 54, 5, 44, 42, 21, 4, 4, 96, 46, 182, 0, 218, 54, 6, 44, 182, 0, 164]
abbrev dktL_law_46 : List UInt8 := dkwL_law_46 ++ dktL_law_47
def dkwL_law_45 : List UInt8 := [154, 0, 15, 45, 3, 47, 21, 6, 133, 148, 153, 0, 5, 3, 172, 167, 5, 119, 43, 42, 21, 4, 4, 96]
abbrev dktL_law_45 : List UInt8 := dkwL_law_45 ++ dktL_law_46
def dkwL_law_44 : List UInt8 := [21, 4, 4, 96, 46, 182, 0, 215, 54, 6, 44, 182, 0, 164, 21, 5, 159, 0, 5, 3, 172, 21, 5]
abbrev dktL_law_44 : List UInt8 := dkwL_law_44 ++ dktL_law_45
def dkwL_law_43 : List UInt8 := [182, 0, 212, 159, 5, 177, 3, 172, 43, 42, 21, 4, 4, 96, 46, 45, 184, 0, 213, 54, 5, 44, 42]
abbrev dktL_law_43 : List UInt8 := dkwL_law_43 ++ dktL_law_44
def dkwL_law_42 : List UInt8 := [159, 5, 203, 3, 172, 43, 182, 0, 205, 44, 182, 0, 208, 159, 5, 190, 3, 172, 43, 182, 0, 209, 44]
abbrev dktL_law_42 : List UInt8 := dkwL_law_42 ++ dktL_law_43
def dkwL_law_41 : List UInt8 := [3, 47, 21, 6, 133, 148, 153, 0, 5, 3, 172, 167, 5, 214, 43, 182, 0, 201, 44, 182, 0, 204]
abbrev dktL_law_41 : List UInt8 := dkwL_law_41 ++ dktL_law_42
def dkwL_law_40 : List UInt8 := [96, 46, 182, 0, 200, 54, 6, 44, 182, 0, 164, 21, 5, 159, 0, 5, 3, 172, 21, 5, 154, 0, 15, 45]
abbrev dktL_law_40 : List UInt8 := dkwL_law_40 ++ dktL_law_41
def dkwL_law_39 : List UInt8 := [46, 42, 21, 4, 5, 96, 46, 45, 184, 0, 198, 54, 5, 44, 42, 21, 4, 4, 96, 46, 42, 21, 4, 5]
abbrev dktL_law_39 : List UInt8 := dkwL_law_39 ++ dktL_law_40
def dkwL_law_38 : List UInt8 := [154, 0, 15, 45, 3, 47, 21, 6, 133, 148, 153, 0, 5, 3, 172, 167, 6, 26, 43, 42, 21, 4, 4, 96]
abbrev dktL_law_38 : List UInt8 := dkwL_law_38 ++ dktL_law_39
def dkwL_law_37 : List UInt8 := [21, 4, 4, 96, 46, 182, 0, 197, 54, 6, 44, 182, 0, 164, 21, 5, 159, 0, 5, 3, 172, 21, 5]
abbrev dktL_law_37 : List UInt8 := dkwL_law_37 ++ dktL_law_38
def dkwL_law_36 : List UInt8 := [153, 0, 5, 3, 172, 167, 6, 82, 43, 42, 21, 4, 4, 96, 46, 45, 184, 0, 195, 54, 5, 44, 42]
abbrev dktL_law_36 : List UInt8 := dkwL_law_36 ++ dktL_law_37
def dkwL_law_35 : List UInt8 := [182, 0, 164, 21, 5, 159, 0, 5, 3, 172, 21, 5, 154, 0, 15, 45, 3, 47, 21, 6, 133, 148]
abbrev dktL_law_35 : List UInt8 := dkwL_law_35 ++ dktL_law_36
def dkwL_law_34 : List UInt8 := [184, 0, 192, 54, 5, 44, 42, 21, 4, 4, 96, 46, 42, 21, 4, 5, 96, 46, 182, 0, 194, 54, 6, 44]
abbrev dktL_law_34 : List UInt8 := dkwL_law_34 ++ dktL_law_35
def dkwL_law_33 : List UInt8 := [148, 153, 0, 5, 3, 172, 167, 6, 150, 43, 42, 21, 4, 4, 96, 46, 42, 21, 4, 5, 96, 46, 45]
abbrev dktL_law_33 : List UInt8 := dkwL_law_33 ++ dktL_law_34
def dkwL_law_32 : List UInt8 := [54, 6, 44, 182, 0, 164, 21, 5, 159, 0, 5, 3, 172, 21, 5, 154, 0, 15, 45, 3, 47, 21, 6, 133]
abbrev dktL_law_32 : List UInt8 := dkwL_law_32 ++ dktL_law_33
def dkwL_law_31 : List UInt8 := [46, 45, 184, 0, 189, 54, 5, 44, 42, 21, 4, 4, 96, 46, 42, 21, 4, 5, 96, 46, 182, 0, 191]
abbrev dktL_law_31 : List UInt8 := dkwL_law_31 ++ dktL_law_32
def dkwL_law_30 : List UInt8 := [21, 6, 133, 148, 153, 0, 5, 3, 172, 167, 6, 218, 43, 42, 21, 4, 4, 96, 46, 42, 21, 4, 5, 96]
abbrev dktL_law_30 : List UInt8 := dkwL_law_30 ++ dktL_law_31
def dkwL_law_29 : List UInt8 := [182, 0, 188, 54, 6, 44, 182, 0, 164, 21, 5, 159, 0, 5, 3, 172, 21, 5, 154, 0, 15, 45, 3, 47]
abbrev dktL_law_29 : List UInt8 := dkwL_law_29 ++ dktL_law_30
def dkwL_law_28 : List UInt8 := [167, 7, 18, 43, 42, 21, 4, 4, 96, 46, 45, 184, 0, 186, 54, 5, 44, 42, 21, 4, 4, 96, 46]
abbrev dktL_law_28 : List UInt8 := dkwL_law_28 ++ dktL_law_29
def dkwL_law_27 : List UInt8 := [21, 5, 159, 0, 5, 3, 172, 21, 5, 154, 0, 15, 45, 3, 47, 21, 6, 133, 148, 153, 0, 5, 3, 172]
abbrev dktL_law_27 : List UInt8 := dkwL_law_27 ++ dktL_law_28
def dkwL_law_26 : List UInt8 := [46, 45, 184, 0, 183, 54, 5, 44, 42, 21, 4, 4, 96, 46, 182, 0, 185, 54, 6, 44, 182, 0, 164]
abbrev dktL_law_26 : List UInt8 := dkwL_law_26 ++ dktL_law_27
def dkwL_law_25 : List UInt8 := [154, 0, 15, 45, 3, 47, 21, 6, 133, 148, 153, 0, 5, 3, 172, 167, 7, 74, 43, 42, 21, 4, 4, 96]
abbrev dktL_law_25 : List UInt8 := dkwL_law_25 ++ dktL_law_26
def dkwL_law_24 : List UInt8 := [21, 4, 4, 96, 46, 182, 0, 182, 54, 6, 44, 182, 0, 164, 21, 5, 159, 0, 5, 3, 172, 21, 5]
abbrev dktL_law_24 : List UInt8 := dkwL_law_24 ++ dktL_law_25
def dkwL_law_23 : List UInt8 := [153, 0, 5, 3, 172, 167, 7, 130, 43, 42, 21, 4, 4, 96, 46, 45, 184, 0, 180, 54, 5, 44, 42]
abbrev dktL_law_23 : List UInt8 := dkwL_law_23 ++ dktL_law_24
def dkwL_law_22 : List UInt8 := [182, 0, 164, 21, 5, 159, 0, 5, 3, 172, 21, 5, 154, 0, 15, 45, 3, 47, 21, 6, 133, 148]
abbrev dktL_law_22 : List UInt8 := dkwL_law_22 ++ dktL_law_23
def dkwL_law_21 : List UInt8 := [184, 0, 176, 54, 5, 44, 42, 21, 4, 4, 96, 46, 42, 21, 4, 5, 96, 46, 182, 0, 179, 54, 6, 44]
abbrev dktL_law_21 : List UInt8 := dkwL_law_21 ++ dktL_law_22
def dkwL_law_20 : List UInt8 := [153, 0, 5, 3, 172, 167, 7, 198, 43, 42, 21, 4, 4, 96, 46, 42, 21, 4, 5, 96, 46, 45]
abbrev dktL_law_20 : List UInt8 := dkwL_law_20 ++ dktL_law_21
def dkwL_law_19 : List UInt8 := [182, 0, 164, 21, 5, 159, 0, 5, 3, 172, 21, 5, 154, 0, 15, 45, 3, 47, 21, 6, 133, 148]
abbrev dktL_law_19 : List UInt8 := dkwL_law_19 ++ dktL_law_20
def dkwL_law_18 : List UInt8 := [21, 4, 4, 96, 46, 45, 184, 0, 173, 54, 5, 44, 42, 21, 4, 4, 96, 46, 182, 0, 175, 54, 6, 44]
abbrev dktL_law_18 : List UInt8 := dkwL_law_18 ++ dktL_law_19
def dkwL_law_17 : List UInt8 := [172, 21, 5, 154, 0, 15, 45, 3, 47, 21, 6, 133, 148, 153, 0, 5, 3, 172, 167, 7, 254, 43, 42]
abbrev dktL_law_17 : List UInt8 := dkwL_law_17 ++ dktL_law_18
def dkwL_law_16 : List UInt8 := [54, 5, 44, 42, 21, 4, 4, 96, 46, 182, 0, 172, 54, 6, 44, 182, 0, 164, 21, 5, 159, 0, 5, 3]
abbrev dktL_law_16 : List UInt8 := dkwL_law_16 ++ dktL_law_17
def dkwL_law_15 : List UInt8 := [21, 6, 133, 148, 153, 0, 5, 3, 172, 167, 8, 54, 43, 42, 21, 4, 4, 96, 46, 45, 184, 0, 170]
abbrev dktL_law_15 : List UInt8 := dkwL_law_15 ++ dktL_law_16
def dkwL_law_14 : List UInt8 := [182, 0, 169, 54, 6, 44, 182, 0, 164, 21, 5, 159, 0, 5, 3, 172, 21, 5, 154, 0, 15, 45, 3, 47]
abbrev dktL_law_14 : List UInt8 := dkwL_law_14 ++ dktL_law_15
def dkwL_law_13 : List UInt8 := [172, 167, 8, 110, 43, 42, 21, 4, 4, 96, 46, 45, 184, 0, 167, 54, 5, 44, 42, 21, 4, 4, 96, 46]
abbrev dktL_law_13 : List UInt8 := dkwL_law_13 ++ dktL_law_14
def dkwL_law_12 : List UInt8 := [172, 21, 5, 154, 0, 22, 45, 3, 47, 21, 6, 153, 0, 7, 10, 167, 0, 4, 9, 148, 153, 0, 5, 3]
abbrev dktL_law_12 : List UInt8 := dkwL_law_12 ++ dktL_law_13
def dkwL_law_11 : List UInt8 := [54, 5, 44, 42, 21, 4, 4, 96, 46, 182, 0, 163, 54, 6, 44, 182, 0, 164, 21, 5, 159, 0, 5, 3]
abbrev dktL_law_11 : List UInt8 := dkwL_law_11 ++ dktL_law_12
def dkwL_law_10 : List UInt8 := [182, 0, 154, 44, 182, 0, 157, 159, 8, 175, 3, 172, 43, 42, 21, 4, 4, 96, 46, 45, 184, 0, 158]
abbrev dktL_law_10 : List UInt8 := dkwL_law_10 ++ dktL_law_11
def dkwL_law_9 : List UInt8 := [182, 0, 149, 159, 8, 201, 3, 172, 43, 182, 0, 150, 44, 182, 0, 153, 159, 8, 188, 3, 172, 43]
abbrev dktL_law_9 : List UInt8 := dkwL_law_9 ++ dktL_law_10
def dkwL_law_8 : List UInt8 := [159, 8, 227, 3, 172, 43, 182, 0, 142, 44, 182, 0, 145, 159, 8, 214, 3, 172, 43, 182, 0, 146, 44]
abbrev dktL_law_8 : List UInt8 := dkwL_law_8 ++ dktL_law_9
def dkwL_law_7 : List UInt8 := [3, 172, 43, 182, 0, 134, 44, 182, 0, 137, 159, 8, 240, 3, 172, 43, 182, 0, 138, 44, 182, 0, 141]
abbrev dktL_law_7 : List UInt8 := dkwL_law_7 ++ dktL_law_8
def dkwL_law_6 : List UInt8 := [172, 43, 42, 21, 4, 4, 96, 46, 182, 0, 130, 44, 42, 21, 4, 4, 96, 46, 182, 0, 133, 159, 8, 253]
abbrev dktL_law_6 : List UInt8 := dkwL_law_6 ++ dktL_law_7
def dkwL_law_5 : List UInt8 := [21, 4, 6, 96, 46, 42, 21, 4, 7, 96, 46, 42, 21, 4, 8, 96, 46, 182, 0, 129, 159, 9, 22, 3]
abbrev dktL_law_5 : List UInt8 := dkwL_law_5 ++ dktL_law_6
def dkwL_law_4 : List UInt8 := [46, 42, 21, 4, 8, 96, 46, 182, 0, 125, 44, 42, 21, 4, 4, 96, 46, 42, 21, 4, 5, 96, 46, 42]
abbrev dktL_law_4 : List UInt8 := dkwL_law_4 ++ dktL_law_5
def dkwL_law_3 : List UInt8 := [43, 42, 21, 4, 4, 96, 46, 42, 21, 4, 5, 96, 46, 42, 21, 4, 6, 96, 46, 42, 21, 4, 7, 96]
abbrev dktL_law_3 : List UInt8 := dkwL_law_3 ++ dktL_law_4
def dkwL_law_2 : List UInt8 := [170, 0, 0, 0, 0, 0, 10, 54, 0, 0, 0, 0, 0, 0, 0, 50, 0, 0, 0, 220, 0, 0, 1, 37, 0, 0, 1, 62, 0, 0, 1, 75, 0, 0, 1, 88, 0, 0, 1, 101, 0, 0, 1, 114, 0, 0, 1, 127, 0, 0, 1, 140, 0, 0, 1, 203, 0, 0, 2, 3, 0, 0, 2, 59, 0, 0, 2, 115, 0, 0, 2, 183, 0, 0, 2, 239, 0, 0, 3, 39, 0, 0, 3, 95, 0, 0, 3, 163, 0, 0, 3, 231, 0, 0, 4, 31, 0, 0, 4, 99, 0, 0, 4, 112, 0, 0, 4, 125, 0, 0, 4, 138, 0, 0, 4, 194, 0, 0, 4, 250, 0, 0, 5, 62, 0, 0, 5, 118, 0, 0, 5, 181, 0, 0, 5, 237, 0, 0, 6, 49, 0, 0, 6, 105, 0, 0, 6, 173, 0, 0, 6, 241, 0, 0, 7, 53, 0, 0, 7, 133, 0, 0, 7, 189, 0, 0, 7, 245, 0, 0, 8, 2, 0, 0, 8, 43, 0, 0, 8, 86, 0, 0, 8, 99, 0, 0, 8, 179, 0, 0, 8, 247, 0, 0, 9, 59, 0, 0, 9, 115, 0, 0, 9, 128, 0, 0, 9, 172, 0, 0, 9, 228, 0, 0, 9, 253, 0, 0, 10, 10]
abbrev dktL_law_2 : List UInt8 := dkwL_law_2 ++ dktL_law_3
def dkwL_law_1 : List UInt8 := [21, 4, 42, 190, 16, 6, 100, 163, 10, 70, 42, 21, 4, 46, 16, 63, 126]
abbrev dktL_law_1 : List UInt8 := dkwL_law_1 ++ dktL_law_2
def dkwL_law_0 : List UInt8 := [187, 0, 8, 89, 183, 0, 121, 76, 187, 0, 122, 89, 183, 0, 124, 77, 4, 188, 11, 78, 3, 54, 4]
abbrev dktL_law_0 : List UInt8 := dkwL_law_0 ++ dktL_law_1
theorem dksL_law_0 : cL_law.data.toList.drop 0 = dktL_law_0 := by decide +kernel
theorem dksL_law_1 : cL_law.data.toList.drop 23 = dktL_law_1 := dk_seg dksL_law_0 23 rfl rfl
theorem dksL_law_2 : cL_law.data.toList.drop 40 = dktL_law_2 := dk_seg dksL_law_1 17 rfl rfl
theorem dksL_law_3 : cL_law.data.toList.drop 260 = dktL_law_3 := dk_seg dksL_law_2 220 rfl rfl
theorem dksL_law_4 : cL_law.data.toList.drop 284 = dktL_law_4 := dk_seg dksL_law_3 24 rfl rfl
theorem dksL_law_5 : cL_law.data.toList.drop 308 = dktL_law_5 := dk_seg dksL_law_4 24 rfl rfl
theorem dksL_law_6 : cL_law.data.toList.drop 332 = dktL_law_6 := dk_seg dksL_law_5 24 rfl rfl
theorem dksL_law_7 : cL_law.data.toList.drop 356 = dktL_law_7 := dk_seg dksL_law_6 24 rfl rfl
theorem dksL_law_8 : cL_law.data.toList.drop 379 = dktL_law_8 := dk_seg dksL_law_7 23 rfl rfl
theorem dksL_law_9 : cL_law.data.toList.drop 402 = dktL_law_9 := dk_seg dksL_law_8 23 rfl rfl
theorem dksL_law_10 : cL_law.data.toList.drop 424 = dktL_law_10 := dk_seg dksL_law_9 22 rfl rfl
theorem dksL_law_11 : cL_law.data.toList.drop 447 = dktL_law_11 := dk_seg dksL_law_10 23 rfl rfl
theorem dksL_law_12 : cL_law.data.toList.drop 471 = dktL_law_12 := dk_seg dksL_law_11 24 rfl rfl
theorem dksL_law_13 : cL_law.data.toList.drop 495 = dktL_law_13 := dk_seg dksL_law_12 24 rfl rfl
theorem dksL_law_14 : cL_law.data.toList.drop 519 = dktL_law_14 := dk_seg dksL_law_13 24 rfl rfl
theorem dksL_law_15 : cL_law.data.toList.drop 543 = dktL_law_15 := dk_seg dksL_law_14 24 rfl rfl
theorem dksL_law_16 : cL_law.data.toList.drop 566 = dktL_law_16 := dk_seg dksL_law_15 23 rfl rfl
theorem dksL_law_17 : cL_law.data.toList.drop 590 = dktL_law_17 := dk_seg dksL_law_16 24 rfl rfl
theorem dksL_law_18 : cL_law.data.toList.drop 613 = dktL_law_18 := dk_seg dksL_law_17 23 rfl rfl
theorem dksL_law_19 : cL_law.data.toList.drop 637 = dktL_law_19 := dk_seg dksL_law_18 24 rfl rfl
theorem dksL_law_20 : cL_law.data.toList.drop 659 = dktL_law_20 := dk_seg dksL_law_19 22 rfl rfl
theorem dksL_law_21 : cL_law.data.toList.drop 681 = dktL_law_21 := dk_seg dksL_law_20 22 rfl rfl
theorem dksL_law_22 : cL_law.data.toList.drop 705 = dktL_law_22 := dk_seg dksL_law_21 24 rfl rfl
theorem dksL_law_23 : cL_law.data.toList.drop 727 = dktL_law_23 := dk_seg dksL_law_22 22 rfl rfl
theorem dksL_law_24 : cL_law.data.toList.drop 750 = dktL_law_24 := dk_seg dksL_law_23 23 rfl rfl
theorem dksL_law_25 : cL_law.data.toList.drop 773 = dktL_law_25 := dk_seg dksL_law_24 23 rfl rfl
theorem dksL_law_26 : cL_law.data.toList.drop 797 = dktL_law_26 := dk_seg dksL_law_25 24 rfl rfl
theorem dksL_law_27 : cL_law.data.toList.drop 820 = dktL_law_27 := dk_seg dksL_law_26 23 rfl rfl
theorem dksL_law_28 : cL_law.data.toList.drop 844 = dktL_law_28 := dk_seg dksL_law_27 24 rfl rfl
theorem dksL_law_29 : cL_law.data.toList.drop 867 = dktL_law_29 := dk_seg dksL_law_28 23 rfl rfl
theorem dksL_law_30 : cL_law.data.toList.drop 891 = dktL_law_30 := dk_seg dksL_law_29 24 rfl rfl
theorem dksL_law_31 : cL_law.data.toList.drop 915 = dktL_law_31 := dk_seg dksL_law_30 24 rfl rfl
theorem dksL_law_32 : cL_law.data.toList.drop 938 = dktL_law_32 := dk_seg dksL_law_31 23 rfl rfl
theorem dksL_law_33 : cL_law.data.toList.drop 962 = dktL_law_33 := dk_seg dksL_law_32 24 rfl rfl
theorem dksL_law_34 : cL_law.data.toList.drop 985 = dktL_law_34 := dk_seg dksL_law_33 23 rfl rfl
theorem dksL_law_35 : cL_law.data.toList.drop 1009 = dktL_law_35 := dk_seg dksL_law_34 24 rfl rfl
theorem dksL_law_36 : cL_law.data.toList.drop 1031 = dktL_law_36 := dk_seg dksL_law_35 22 rfl rfl
theorem dksL_law_37 : cL_law.data.toList.drop 1054 = dktL_law_37 := dk_seg dksL_law_36 23 rfl rfl
theorem dksL_law_38 : cL_law.data.toList.drop 1077 = dktL_law_38 := dk_seg dksL_law_37 23 rfl rfl
theorem dksL_law_39 : cL_law.data.toList.drop 1101 = dktL_law_39 := dk_seg dksL_law_38 24 rfl rfl
theorem dksL_law_40 : cL_law.data.toList.drop 1125 = dktL_law_40 := dk_seg dksL_law_39 24 rfl rfl
theorem dksL_law_41 : cL_law.data.toList.drop 1149 = dktL_law_41 := dk_seg dksL_law_40 24 rfl rfl
theorem dksL_law_42 : cL_law.data.toList.drop 1171 = dktL_law_42 := dk_seg dksL_law_41 22 rfl rfl
theorem dksL_law_43 : cL_law.data.toList.drop 1194 = dktL_law_43 := dk_seg dksL_law_42 23 rfl rfl
theorem dksL_law_44 : cL_law.data.toList.drop 1217 = dktL_law_44 := dk_seg dksL_law_43 23 rfl rfl
theorem dksL_law_45 : cL_law.data.toList.drop 1240 = dktL_law_45 := dk_seg dksL_law_44 23 rfl rfl
theorem dksL_law_46 : cL_law.data.toList.drop 1264 = dktL_law_46 := dk_seg dksL_law_45 24 rfl rfl
theorem dksL_law_47 : cL_law.data.toList.drop 1287 = dktL_law_47 := dk_seg dksL_law_46 23 rfl rfl
theorem dksL_law_48 : cL_law.data.toList.drop 1311 = dktL_law_48 := dk_seg dksL_law_47 24 rfl rfl
theorem dksL_law_49 : cL_law.data.toList.drop 1335 = dktL_law_49 := dk_seg dksL_law_48 24 rfl rfl
theorem dksL_law_50 : cL_law.data.toList.drop 1357 = dktL_law_50 := dk_seg dksL_law_49 22 rfl rfl
theorem dksL_law_51 : cL_law.data.toList.drop 1379 = dktL_law_51 := dk_seg dksL_law_50 22 rfl rfl
theorem dksL_law_52 : cL_law.data.toList.drop 1402 = dktL_law_52 := dk_seg dksL_law_51 23 rfl rfl
theorem dksL_law_53 : cL_law.data.toList.drop 1426 = dktL_law_53 := dk_seg dksL_law_52 24 rfl rfl
theorem dksL_law_54 : cL_law.data.toList.drop 1449 = dktL_law_54 := dk_seg dksL_law_53 23 rfl rfl
theorem dksL_law_55 : cL_law.data.toList.drop 1473 = dktL_law_55 := dk_seg dksL_law_54 24 rfl rfl
theorem dksL_law_56 : cL_law.data.toList.drop 1497 = dktL_law_56 := dk_seg dksL_law_55 24 rfl rfl
theorem dksL_law_57 : cL_law.data.toList.drop 1521 = dktL_law_57 := dk_seg dksL_law_56 24 rfl rfl
theorem dksL_law_58 : cL_law.data.toList.drop 1545 = dktL_law_58 := dk_seg dksL_law_57 24 rfl rfl
theorem dksL_law_59 : cL_law.data.toList.drop 1569 = dktL_law_59 := dk_seg dksL_law_58 24 rfl rfl
theorem dksL_law_60 : cL_law.data.toList.drop 1592 = dktL_law_60 := dk_seg dksL_law_59 23 rfl rfl
theorem dksL_law_61 : cL_law.data.toList.drop 1616 = dktL_law_61 := dk_seg dksL_law_60 24 rfl rfl
theorem dksL_law_62 : cL_law.data.toList.drop 1640 = dktL_law_62 := dk_seg dksL_law_61 24 rfl rfl
theorem dksL_law_63 : cL_law.data.toList.drop 1663 = dktL_law_63 := dk_seg dksL_law_62 23 rfl rfl
theorem dksL_law_64 : cL_law.data.toList.drop 1687 = dktL_law_64 := dk_seg dksL_law_63 24 rfl rfl
theorem dksL_law_65 : cL_law.data.toList.drop 1711 = dktL_law_65 := dk_seg dksL_law_64 24 rfl rfl
theorem dksL_law_66 : cL_law.data.toList.drop 1735 = dktL_law_66 := dk_seg dksL_law_65 24 rfl rfl
theorem dksL_law_67 : cL_law.data.toList.drop 1759 = dktL_law_67 := dk_seg dksL_law_66 24 rfl rfl
theorem dksL_law_68 : cL_law.data.toList.drop 1781 = dktL_law_68 := dk_seg dksL_law_67 22 rfl rfl
theorem dksL_law_69 : cL_law.data.toList.drop 1805 = dktL_law_69 := dk_seg dksL_law_68 24 rfl rfl
theorem dksL_law_70 : cL_law.data.toList.drop 1829 = dktL_law_70 := dk_seg dksL_law_69 24 rfl rfl
theorem dksL_law_71 : cL_law.data.toList.drop 1852 = dktL_law_71 := dk_seg dksL_law_70 23 rfl rfl
theorem dksL_law_72 : cL_law.data.toList.drop 1876 = dktL_law_72 := dk_seg dksL_law_71 24 rfl rfl
theorem dksL_law_73 : cL_law.data.toList.drop 1899 = dktL_law_73 := dk_seg dksL_law_72 23 rfl rfl
theorem dksL_law_74 : cL_law.data.toList.drop 1923 = dktL_law_74 := dk_seg dksL_law_73 24 rfl rfl
theorem dksL_law_75 : cL_law.data.toList.drop 1947 = dktL_law_75 := dk_seg dksL_law_74 24 rfl rfl
theorem dksL_law_76 : cL_law.data.toList.drop 1971 = dktL_law_76 := dk_seg dksL_law_75 24 rfl rfl
theorem dksL_law_77 : cL_law.data.toList.drop 1994 = dktL_law_77 := dk_seg dksL_law_76 23 rfl rfl
theorem dksL_law_78 : cL_law.data.toList.drop 2018 = dktL_law_78 := dk_seg dksL_law_77 24 rfl rfl
theorem dksL_law_79 : cL_law.data.toList.drop 2041 = dktL_law_79 := dk_seg dksL_law_78 23 rfl rfl
theorem dksL_law_80 : cL_law.data.toList.drop 2065 = dktL_law_80 := dk_seg dksL_law_79 24 rfl rfl
theorem dksL_law_81 : cL_law.data.toList.drop 2089 = dktL_law_81 := dk_seg dksL_law_80 24 rfl rfl
theorem dksL_law_82 : cL_law.data.toList.drop 2112 = dktL_law_82 := dk_seg dksL_law_81 23 rfl rfl
theorem dksL_law_83 : cL_law.data.toList.drop 2136 = dktL_law_83 := dk_seg dksL_law_82 24 rfl rfl
theorem dksL_law_84 : cL_law.data.toList.drop 2158 = dktL_law_84 := dk_seg dksL_law_83 22 rfl rfl
theorem dksL_law_85 : cL_law.data.toList.drop 2182 = dktL_law_85 := dk_seg dksL_law_84 24 rfl rfl
theorem dksL_law_86 : cL_law.data.toList.drop 2206 = dktL_law_86 := dk_seg dksL_law_85 24 rfl rfl
theorem dksL_law_87 : cL_law.data.toList.drop 2230 = dktL_law_87 := dk_seg dksL_law_86 24 rfl rfl
theorem dksL_law_88 : cL_law.data.toList.drop 2254 = dktL_law_88 := dk_seg dksL_law_87 24 rfl rfl
theorem dksL_law_89 : cL_law.data.toList.drop 2278 = dktL_law_89 := dk_seg dksL_law_88 24 rfl rfl
theorem dksL_law_90 : cL_law.data.toList.drop 2302 = dktL_law_90 := dk_seg dksL_law_89 24 rfl rfl
theorem dksL_law_91 : cL_law.data.toList.drop 2326 = dktL_law_91 := dk_seg dksL_law_90 24 rfl rfl
theorem dksL_law_92 : cL_law.data.toList.drop 2349 = dktL_law_92 := dk_seg dksL_law_91 23 rfl rfl
theorem dksL_law_93 : cL_law.data.toList.drop 2373 = dktL_law_93 := dk_seg dksL_law_92 24 rfl rfl
theorem dksL_law_94 : cL_law.data.toList.drop 2395 = dktL_law_94 := dk_seg dksL_law_93 22 rfl rfl
theorem dksL_law_95 : cL_law.data.toList.drop 2418 = dktL_law_95 := dk_seg dksL_law_94 23 rfl rfl
theorem dksL_law_96 : cL_law.data.toList.drop 2441 = dktL_law_96 := dk_seg dksL_law_95 23 rfl rfl
theorem dksL_law_97 : cL_law.data.toList.drop 2464 = dktL_law_97 := dk_seg dksL_law_96 23 rfl rfl
theorem dksL_law_98 : cL_law.data.toList.drop 2486 = dktL_law_98 := dk_seg dksL_law_97 22 rfl rfl
theorem dksL_law_99 : cL_law.data.toList.drop 2508 = dktL_law_99 := dk_seg dksL_law_98 22 rfl rfl
theorem dksL_law_100 : cL_law.data.toList.drop 2531 = dktL_law_100 := dk_seg dksL_law_99 23 rfl rfl
theorem dksL_law_101 : cL_law.data.toList.drop 2554 = dktL_law_101 := dk_seg dksL_law_100 23 rfl rfl
theorem dksL_law_102 : cL_law.data.toList.drop 2578 = dktL_law_102 := dk_seg dksL_law_101 24 rfl rfl
theorem dksL_law_103 : cL_law.data.toList.drop 2602 = dktL_law_103 := dk_seg dksL_law_102 24 rfl rfl
theorem dksL_law_104 : cL_law.data.toList.drop 2624 = dktL_law_104 := dk_seg dksL_law_103 22 rfl rfl
theorem dksL_law_105 : cL_law.data.toList.drop 2646 = dktL_law_105 := dk_seg dksL_law_104 22 rfl rfl
theorem dL_law_0 : decode cL_law 0 = .ok (.new 8, 3) := dk_187 0 8 (dk_at dksL_law_0 0 rfl rfl)
theorem dL_law_3 : decode cL_law 3 = .ok (.dup, 1) := dk_89 (dk_at dksL_law_0 3 rfl rfl)
theorem dL_law_4 : decode cL_law 4 = .ok (.invokespecial 121, 3) := dk_183 0 121 (dk_at dksL_law_0 4 rfl rfl)
theorem dL_law_7 : decode cL_law 7 = .ok (.astore_n 1, 1) := dk_76 (dk_at dksL_law_0 7 rfl rfl)
theorem dL_law_8 : decode cL_law 8 = .ok (.new 122, 3) := dk_187 0 122 (dk_at dksL_law_0 8 rfl rfl)
theorem dL_law_11 : decode cL_law 11 = .ok (.dup, 1) := dk_89 (dk_at dksL_law_0 11 rfl rfl)
theorem dL_law_12 : decode cL_law 12 = .ok (.invokespecial 124, 3) := dk_183 0 124 (dk_at dksL_law_0 12 rfl rfl)
theorem dL_law_15 : decode cL_law 15 = .ok (.astore_n 2, 1) := dk_77 (dk_at dksL_law_0 15 rfl rfl)
theorem dL_law_16 : decode cL_law 16 = .ok (.iconst 1, 1) := dk_4 (dk_at dksL_law_0 16 rfl rfl)
theorem dL_law_17 : decode cL_law 17 = .ok (.newarray .long, 2) := dk_188_11 (dk_at dksL_law_0 17 rfl rfl)
theorem dL_law_19 : decode cL_law 19 = .ok (.astore_n 3, 1) := dk_78 (dk_at dksL_law_0 19 rfl rfl)
theorem dL_law_20 : decode cL_law 20 = .ok (.iconst 0, 1) := dk_3 (dk_at dksL_law_0 20 rfl rfl)
theorem dL_law_21 : decode cL_law 21 = .ok (.istore 4, 2) := dk_54 4 (dk_at dksL_law_0 21 rfl rfl)
theorem dL_law_23 : decode cL_law 23 = .ok (.iload 4, 2) := dk_21 4 (dk_at dksL_law_1 0 rfl rfl)
theorem dL_law_25 : decode cL_law 25 = .ok (.aload_n 0, 1) := dk_42 (dk_at dksL_law_1 2 rfl rfl)
theorem dL_law_26 : decode cL_law 26 = .ok (.arraylength, 1) := dk_190 (dk_at dksL_law_1 3 rfl rfl)
theorem dL_law_27 : decode cL_law 27 = .ok (.bipush 6, 2) := dk_16 6 (dk_at dksL_law_1 4 rfl rfl)
theorem dL_law_29 : decode cL_law 29 = .ok (.isub, 1) := dk_100 (dk_at dksL_law_1 6 rfl rfl)
theorem dL_law_30 : decode cL_law 30 = .ok (.if_icmp .gt 2630, 3) := dk_163 10 70 (dk_at dksL_law_1 7 rfl rfl)
theorem dL_law_33 : decode cL_law 33 = .ok (.aload_n 0, 1) := dk_42 (dk_at dksL_law_1 10 rfl rfl)
theorem dL_law_34 : decode cL_law 34 = .ok (.iload 4, 2) := dk_21 4 (dk_at dksL_law_1 11 rfl rfl)
theorem dL_law_36 : decode cL_law 36 = .ok (.iaload, 1) := dk_46 (dk_at dksL_law_1 13 rfl rfl)
theorem dL_law_37 : decode cL_law 37 = .ok (.bipush 63, 2) := dk_16 63 (dk_at dksL_law_1 14 rfl rfl)
theorem dL_law_39 : decode cL_law 39 = .ok (.iand, 1) := dk_126 (dk_at dksL_law_1 16 rfl rfl)
theorem dL_law_40 : decode cL_law 40 = .ok (.tableswitch 2614 0 50 #[220, 293, 318, 331, 344, 357, 370, 383, 396, 459, 515, 571, 627, 695, 751, 807, 863, 931, 999, 1055, 1123, 1136, 1149, 1162, 1218, 1274, 1342, 1398, 1461, 1517, 1585, 1641, 1709, 1777, 1845, 1925, 1981, 2037, 2050, 2091, 2134, 2147, 2227, 2295, 2363, 2419, 2432, 2476, 2532, 2557, 2570], 220) := by decide +kernel
theorem dL_law_260 : decode cL_law 260 = .ok (.aload_n 1, 1) := dk_43 (dk_at dksL_law_3 0 rfl rfl)
theorem dL_law_261 : decode cL_law 261 = .ok (.aload_n 0, 1) := dk_42 (dk_at dksL_law_3 1 rfl rfl)
theorem dL_law_262 : decode cL_law 262 = .ok (.iload 4, 2) := dk_21 4 (dk_at dksL_law_3 2 rfl rfl)
theorem dL_law_264 : decode cL_law 264 = .ok (.iconst 1, 1) := dk_4 (dk_at dksL_law_3 4 rfl rfl)
theorem dL_law_265 : decode cL_law 265 = .ok (.iadd, 1) := dk_96 (dk_at dksL_law_3 5 rfl rfl)
theorem dL_law_266 : decode cL_law 266 = .ok (.iaload, 1) := dk_46 (dk_at dksL_law_3 6 rfl rfl)
theorem dL_law_267 : decode cL_law 267 = .ok (.aload_n 0, 1) := dk_42 (dk_at dksL_law_3 7 rfl rfl)
theorem dL_law_268 : decode cL_law 268 = .ok (.iload 4, 2) := dk_21 4 (dk_at dksL_law_3 8 rfl rfl)
theorem dL_law_270 : decode cL_law 270 = .ok (.iconst 2, 1) := dk_5 (dk_at dksL_law_3 10 rfl rfl)
theorem dL_law_271 : decode cL_law 271 = .ok (.iadd, 1) := dk_96 (dk_at dksL_law_3 11 rfl rfl)
theorem dL_law_272 : decode cL_law 272 = .ok (.iaload, 1) := dk_46 (dk_at dksL_law_3 12 rfl rfl)
theorem dL_law_273 : decode cL_law 273 = .ok (.aload_n 0, 1) := dk_42 (dk_at dksL_law_3 13 rfl rfl)
theorem dL_law_274 : decode cL_law 274 = .ok (.iload 4, 2) := dk_21 4 (dk_at dksL_law_3 14 rfl rfl)
theorem dL_law_276 : decode cL_law 276 = .ok (.iconst 3, 1) := dk_6 (dk_at dksL_law_3 16 rfl rfl)
theorem dL_law_277 : decode cL_law 277 = .ok (.iadd, 1) := dk_96 (dk_at dksL_law_3 17 rfl rfl)
theorem dL_law_278 : decode cL_law 278 = .ok (.iaload, 1) := dk_46 (dk_at dksL_law_3 18 rfl rfl)
theorem dL_law_279 : decode cL_law 279 = .ok (.aload_n 0, 1) := dk_42 (dk_at dksL_law_3 19 rfl rfl)
theorem dL_law_280 : decode cL_law 280 = .ok (.iload 4, 2) := dk_21 4 (dk_at dksL_law_3 20 rfl rfl)
theorem dL_law_282 : decode cL_law 282 = .ok (.iconst 4, 1) := dk_7 (dk_at dksL_law_3 22 rfl rfl)
theorem dL_law_283 : decode cL_law 283 = .ok (.iadd, 1) := dk_96 (dk_at dksL_law_3 23 rfl rfl)
theorem dL_law_284 : decode cL_law 284 = .ok (.iaload, 1) := dk_46 (dk_at dksL_law_4 0 rfl rfl)
theorem dL_law_285 : decode cL_law 285 = .ok (.aload_n 0, 1) := dk_42 (dk_at dksL_law_4 1 rfl rfl)
theorem dL_law_286 : decode cL_law 286 = .ok (.iload 4, 2) := dk_21 4 (dk_at dksL_law_4 2 rfl rfl)
theorem dL_law_288 : decode cL_law 288 = .ok (.iconst 5, 1) := dk_8 (dk_at dksL_law_4 4 rfl rfl)
theorem dL_law_289 : decode cL_law 289 = .ok (.iadd, 1) := dk_96 (dk_at dksL_law_4 5 rfl rfl)
theorem dL_law_290 : decode cL_law 290 = .ok (.iaload, 1) := dk_46 (dk_at dksL_law_4 6 rfl rfl)
theorem dL_law_291 : decode cL_law 291 = .ok (.invokevirtual 125, 3) := dk_182 0 125 (dk_at dksL_law_4 7 rfl rfl)
theorem dL_law_294 : decode cL_law 294 = .ok (.aload_n 2, 1) := dk_44 (dk_at dksL_law_4 10 rfl rfl)
theorem dL_law_295 : decode cL_law 295 = .ok (.aload_n 0, 1) := dk_42 (dk_at dksL_law_4 11 rfl rfl)
theorem dL_law_296 : decode cL_law 296 = .ok (.iload 4, 2) := dk_21 4 (dk_at dksL_law_4 12 rfl rfl)
theorem dL_law_298 : decode cL_law 298 = .ok (.iconst 1, 1) := dk_4 (dk_at dksL_law_4 14 rfl rfl)
theorem dL_law_299 : decode cL_law 299 = .ok (.iadd, 1) := dk_96 (dk_at dksL_law_4 15 rfl rfl)
theorem dL_law_300 : decode cL_law 300 = .ok (.iaload, 1) := dk_46 (dk_at dksL_law_4 16 rfl rfl)
theorem dL_law_301 : decode cL_law 301 = .ok (.aload_n 0, 1) := dk_42 (dk_at dksL_law_4 17 rfl rfl)
theorem dL_law_302 : decode cL_law 302 = .ok (.iload 4, 2) := dk_21 4 (dk_at dksL_law_4 18 rfl rfl)
theorem dL_law_304 : decode cL_law 304 = .ok (.iconst 2, 1) := dk_5 (dk_at dksL_law_4 20 rfl rfl)
theorem dL_law_305 : decode cL_law 305 = .ok (.iadd, 1) := dk_96 (dk_at dksL_law_4 21 rfl rfl)
theorem dL_law_306 : decode cL_law 306 = .ok (.iaload, 1) := dk_46 (dk_at dksL_law_4 22 rfl rfl)
theorem dL_law_307 : decode cL_law 307 = .ok (.aload_n 0, 1) := dk_42 (dk_at dksL_law_4 23 rfl rfl)
theorem dL_law_308 : decode cL_law 308 = .ok (.iload 4, 2) := dk_21 4 (dk_at dksL_law_5 0 rfl rfl)
theorem dL_law_310 : decode cL_law 310 = .ok (.iconst 3, 1) := dk_6 (dk_at dksL_law_5 2 rfl rfl)
theorem dL_law_311 : decode cL_law 311 = .ok (.iadd, 1) := dk_96 (dk_at dksL_law_5 3 rfl rfl)
theorem dL_law_312 : decode cL_law 312 = .ok (.iaload, 1) := dk_46 (dk_at dksL_law_5 4 rfl rfl)
theorem dL_law_313 : decode cL_law 313 = .ok (.aload_n 0, 1) := dk_42 (dk_at dksL_law_5 5 rfl rfl)
theorem dL_law_314 : decode cL_law 314 = .ok (.iload 4, 2) := dk_21 4 (dk_at dksL_law_5 6 rfl rfl)
theorem dL_law_316 : decode cL_law 316 = .ok (.iconst 4, 1) := dk_7 (dk_at dksL_law_5 8 rfl rfl)
theorem dL_law_317 : decode cL_law 317 = .ok (.iadd, 1) := dk_96 (dk_at dksL_law_5 9 rfl rfl)
theorem dL_law_318 : decode cL_law 318 = .ok (.iaload, 1) := dk_46 (dk_at dksL_law_5 10 rfl rfl)
theorem dL_law_319 : decode cL_law 319 = .ok (.aload_n 0, 1) := dk_42 (dk_at dksL_law_5 11 rfl rfl)
theorem dL_law_320 : decode cL_law 320 = .ok (.iload 4, 2) := dk_21 4 (dk_at dksL_law_5 12 rfl rfl)
theorem dL_law_322 : decode cL_law 322 = .ok (.iconst 5, 1) := dk_8 (dk_at dksL_law_5 14 rfl rfl)
theorem dL_law_323 : decode cL_law 323 = .ok (.iadd, 1) := dk_96 (dk_at dksL_law_5 15 rfl rfl)
theorem dL_law_324 : decode cL_law 324 = .ok (.iaload, 1) := dk_46 (dk_at dksL_law_5 16 rfl rfl)
theorem dL_law_325 : decode cL_law 325 = .ok (.invokevirtual 129, 3) := dk_182 0 129 (dk_at dksL_law_5 17 rfl rfl)
theorem dL_law_328 : decode cL_law 328 = .ok (.if_icmp .eq 2326, 3) := dk_159 9 22 (dk_at dksL_law_5 20 rfl rfl)
theorem dL_law_331 : decode cL_law 331 = .ok (.iconst 0, 1) := dk_3 (dk_at dksL_law_5 23 rfl rfl)
theorem dL_law_332 : decode cL_law 332 = .ok (.ireturn, 1) := dk_172 (dk_at dksL_law_6 0 rfl rfl)
theorem dL_law_333 : decode cL_law 333 = .ok (.aload_n 1, 1) := dk_43 (dk_at dksL_law_6 1 rfl rfl)
theorem dL_law_334 : decode cL_law 334 = .ok (.aload_n 0, 1) := dk_42 (dk_at dksL_law_6 2 rfl rfl)
theorem dL_law_335 : decode cL_law 335 = .ok (.iload 4, 2) := dk_21 4 (dk_at dksL_law_6 3 rfl rfl)
theorem dL_law_337 : decode cL_law 337 = .ok (.iconst 1, 1) := dk_4 (dk_at dksL_law_6 5 rfl rfl)
theorem dL_law_338 : decode cL_law 338 = .ok (.iadd, 1) := dk_96 (dk_at dksL_law_6 6 rfl rfl)
theorem dL_law_339 : decode cL_law 339 = .ok (.iaload, 1) := dk_46 (dk_at dksL_law_6 7 rfl rfl)
theorem dL_law_340 : decode cL_law 340 = .ok (.invokevirtual 130, 3) := dk_182 0 130 (dk_at dksL_law_6 8 rfl rfl)
theorem dL_law_343 : decode cL_law 343 = .ok (.aload_n 2, 1) := dk_44 (dk_at dksL_law_6 11 rfl rfl)
theorem dL_law_344 : decode cL_law 344 = .ok (.aload_n 0, 1) := dk_42 (dk_at dksL_law_6 12 rfl rfl)
theorem dL_law_345 : decode cL_law 345 = .ok (.iload 4, 2) := dk_21 4 (dk_at dksL_law_6 13 rfl rfl)
theorem dL_law_347 : decode cL_law 347 = .ok (.iconst 1, 1) := dk_4 (dk_at dksL_law_6 15 rfl rfl)
theorem dL_law_348 : decode cL_law 348 = .ok (.iadd, 1) := dk_96 (dk_at dksL_law_6 16 rfl rfl)
theorem dL_law_349 : decode cL_law 349 = .ok (.iaload, 1) := dk_46 (dk_at dksL_law_6 17 rfl rfl)
theorem dL_law_350 : decode cL_law 350 = .ok (.invokevirtual 133, 3) := dk_182 0 133 (dk_at dksL_law_6 18 rfl rfl)
theorem dL_law_353 : decode cL_law 353 = .ok (.if_icmp .eq 2301, 3) := dk_159 8 253 (dk_at dksL_law_6 21 rfl rfl)
theorem dL_law_356 : decode cL_law 356 = .ok (.iconst 0, 1) := dk_3 (dk_at dksL_law_7 0 rfl rfl)
theorem dL_law_357 : decode cL_law 357 = .ok (.ireturn, 1) := dk_172 (dk_at dksL_law_7 1 rfl rfl)
theorem dL_law_358 : decode cL_law 358 = .ok (.aload_n 1, 1) := dk_43 (dk_at dksL_law_7 2 rfl rfl)
theorem dL_law_359 : decode cL_law 359 = .ok (.invokevirtual 134, 3) := dk_182 0 134 (dk_at dksL_law_7 3 rfl rfl)
theorem dL_law_362 : decode cL_law 362 = .ok (.aload_n 2, 1) := dk_44 (dk_at dksL_law_7 6 rfl rfl)
theorem dL_law_363 : decode cL_law 363 = .ok (.invokevirtual 137, 3) := dk_182 0 137 (dk_at dksL_law_7 7 rfl rfl)
theorem dL_law_366 : decode cL_law 366 = .ok (.if_icmp .eq 2288, 3) := dk_159 8 240 (dk_at dksL_law_7 10 rfl rfl)
theorem dL_law_369 : decode cL_law 369 = .ok (.iconst 0, 1) := dk_3 (dk_at dksL_law_7 13 rfl rfl)
theorem dL_law_370 : decode cL_law 370 = .ok (.ireturn, 1) := dk_172 (dk_at dksL_law_7 14 rfl rfl)
theorem dL_law_371 : decode cL_law 371 = .ok (.aload_n 1, 1) := dk_43 (dk_at dksL_law_7 15 rfl rfl)
theorem dL_law_372 : decode cL_law 372 = .ok (.invokevirtual 138, 3) := dk_182 0 138 (dk_at dksL_law_7 16 rfl rfl)
theorem dL_law_375 : decode cL_law 375 = .ok (.aload_n 2, 1) := dk_44 (dk_at dksL_law_7 19 rfl rfl)
theorem dL_law_376 : decode cL_law 376 = .ok (.invokevirtual 141, 3) := dk_182 0 141 (dk_at dksL_law_7 20 rfl rfl)
theorem dL_law_379 : decode cL_law 379 = .ok (.if_icmp .eq 2275, 3) := dk_159 8 227 (dk_at dksL_law_8 0 rfl rfl)
theorem dL_law_382 : decode cL_law 382 = .ok (.iconst 0, 1) := dk_3 (dk_at dksL_law_8 3 rfl rfl)
theorem dL_law_383 : decode cL_law 383 = .ok (.ireturn, 1) := dk_172 (dk_at dksL_law_8 4 rfl rfl)
theorem dL_law_384 : decode cL_law 384 = .ok (.aload_n 1, 1) := dk_43 (dk_at dksL_law_8 5 rfl rfl)
theorem dL_law_385 : decode cL_law 385 = .ok (.invokevirtual 142, 3) := dk_182 0 142 (dk_at dksL_law_8 6 rfl rfl)
theorem dL_law_388 : decode cL_law 388 = .ok (.aload_n 2, 1) := dk_44 (dk_at dksL_law_8 9 rfl rfl)
theorem dL_law_389 : decode cL_law 389 = .ok (.invokevirtual 145, 3) := dk_182 0 145 (dk_at dksL_law_8 10 rfl rfl)
theorem dL_law_392 : decode cL_law 392 = .ok (.if_icmp .eq 2262, 3) := dk_159 8 214 (dk_at dksL_law_8 13 rfl rfl)
theorem dL_law_395 : decode cL_law 395 = .ok (.iconst 0, 1) := dk_3 (dk_at dksL_law_8 16 rfl rfl)
theorem dL_law_396 : decode cL_law 396 = .ok (.ireturn, 1) := dk_172 (dk_at dksL_law_8 17 rfl rfl)
theorem dL_law_397 : decode cL_law 397 = .ok (.aload_n 1, 1) := dk_43 (dk_at dksL_law_8 18 rfl rfl)
theorem dL_law_398 : decode cL_law 398 = .ok (.invokevirtual 146, 3) := dk_182 0 146 (dk_at dksL_law_8 19 rfl rfl)
theorem dL_law_401 : decode cL_law 401 = .ok (.aload_n 2, 1) := dk_44 (dk_at dksL_law_8 22 rfl rfl)
theorem dL_law_402 : decode cL_law 402 = .ok (.invokevirtual 149, 3) := dk_182 0 149 (dk_at dksL_law_9 0 rfl rfl)
theorem dL_law_405 : decode cL_law 405 = .ok (.if_icmp .eq 2249, 3) := dk_159 8 201 (dk_at dksL_law_9 3 rfl rfl)
theorem dL_law_408 : decode cL_law 408 = .ok (.iconst 0, 1) := dk_3 (dk_at dksL_law_9 6 rfl rfl)
theorem dL_law_409 : decode cL_law 409 = .ok (.ireturn, 1) := dk_172 (dk_at dksL_law_9 7 rfl rfl)
theorem dL_law_410 : decode cL_law 410 = .ok (.aload_n 1, 1) := dk_43 (dk_at dksL_law_9 8 rfl rfl)
theorem dL_law_411 : decode cL_law 411 = .ok (.invokevirtual 150, 3) := dk_182 0 150 (dk_at dksL_law_9 9 rfl rfl)
theorem dL_law_414 : decode cL_law 414 = .ok (.aload_n 2, 1) := dk_44 (dk_at dksL_law_9 12 rfl rfl)
theorem dL_law_415 : decode cL_law 415 = .ok (.invokevirtual 153, 3) := dk_182 0 153 (dk_at dksL_law_9 13 rfl rfl)
theorem dL_law_418 : decode cL_law 418 = .ok (.if_icmp .eq 2236, 3) := dk_159 8 188 (dk_at dksL_law_9 16 rfl rfl)
theorem dL_law_421 : decode cL_law 421 = .ok (.iconst 0, 1) := dk_3 (dk_at dksL_law_9 19 rfl rfl)
theorem dL_law_422 : decode cL_law 422 = .ok (.ireturn, 1) := dk_172 (dk_at dksL_law_9 20 rfl rfl)
theorem dL_law_423 : decode cL_law 423 = .ok (.aload_n 1, 1) := dk_43 (dk_at dksL_law_9 21 rfl rfl)
theorem dL_law_424 : decode cL_law 424 = .ok (.invokevirtual 154, 3) := dk_182 0 154 (dk_at dksL_law_10 0 rfl rfl)
theorem dL_law_427 : decode cL_law 427 = .ok (.aload_n 2, 1) := dk_44 (dk_at dksL_law_10 3 rfl rfl)
theorem dL_law_428 : decode cL_law 428 = .ok (.invokevirtual 157, 3) := dk_182 0 157 (dk_at dksL_law_10 4 rfl rfl)
theorem dL_law_431 : decode cL_law 431 = .ok (.if_icmp .eq 2223, 3) := dk_159 8 175 (dk_at dksL_law_10 7 rfl rfl)
theorem dL_law_434 : decode cL_law 434 = .ok (.iconst 0, 1) := dk_3 (dk_at dksL_law_10 10 rfl rfl)
theorem dL_law_435 : decode cL_law 435 = .ok (.ireturn, 1) := dk_172 (dk_at dksL_law_10 11 rfl rfl)
theorem dL_law_436 : decode cL_law 436 = .ok (.aload_n 1, 1) := dk_43 (dk_at dksL_law_10 12 rfl rfl)
theorem dL_law_437 : decode cL_law 437 = .ok (.aload_n 0, 1) := dk_42 (dk_at dksL_law_10 13 rfl rfl)
theorem dL_law_438 : decode cL_law 438 = .ok (.iload 4, 2) := dk_21 4 (dk_at dksL_law_10 14 rfl rfl)
theorem dL_law_440 : decode cL_law 440 = .ok (.iconst 1, 1) := dk_4 (dk_at dksL_law_10 16 rfl rfl)
theorem dL_law_441 : decode cL_law 441 = .ok (.iadd, 1) := dk_96 (dk_at dksL_law_10 17 rfl rfl)
theorem dL_law_442 : decode cL_law 442 = .ok (.iaload, 1) := dk_46 (dk_at dksL_law_10 18 rfl rfl)
theorem dL_law_443 : decode cL_law 443 = .ok (.aload_n 3, 1) := dk_45 (dk_at dksL_law_10 19 rfl rfl)
theorem dL_law_444 : decode cL_law 444 = .ok (.invokestatic 158, 3) := dk_184 0 158 (dk_at dksL_law_10 20 rfl rfl)
theorem dL_law_447 : decode cL_law 447 = .ok (.istore 5, 2) := dk_54 5 (dk_at dksL_law_11 0 rfl rfl)
theorem dL_law_449 : decode cL_law 449 = .ok (.aload_n 2, 1) := dk_44 (dk_at dksL_law_11 2 rfl rfl)
theorem dL_law_450 : decode cL_law 450 = .ok (.aload_n 0, 1) := dk_42 (dk_at dksL_law_11 3 rfl rfl)
theorem dL_law_451 : decode cL_law 451 = .ok (.iload 4, 2) := dk_21 4 (dk_at dksL_law_11 4 rfl rfl)
theorem dL_law_453 : decode cL_law 453 = .ok (.iconst 1, 1) := dk_4 (dk_at dksL_law_11 6 rfl rfl)
theorem dL_law_454 : decode cL_law 454 = .ok (.iadd, 1) := dk_96 (dk_at dksL_law_11 7 rfl rfl)
theorem dL_law_455 : decode cL_law 455 = .ok (.iaload, 1) := dk_46 (dk_at dksL_law_11 8 rfl rfl)
theorem dL_law_456 : decode cL_law 456 = .ok (.invokevirtual 163, 3) := dk_182 0 163 (dk_at dksL_law_11 9 rfl rfl)
theorem dL_law_459 : decode cL_law 459 = .ok (.istore 6, 2) := dk_54 6 (dk_at dksL_law_11 12 rfl rfl)
theorem dL_law_461 : decode cL_law 461 = .ok (.aload_n 2, 1) := dk_44 (dk_at dksL_law_11 14 rfl rfl)
theorem dL_law_462 : decode cL_law 462 = .ok (.invokevirtual 164, 3) := dk_182 0 164 (dk_at dksL_law_11 15 rfl rfl)
theorem dL_law_465 : decode cL_law 465 = .ok (.iload 5, 2) := dk_21 5 (dk_at dksL_law_11 18 rfl rfl)
theorem dL_law_467 : decode cL_law 467 = .ok (.if_icmp .eq 5, 3) := dk_159 0 5 (dk_at dksL_law_11 20 rfl rfl)
theorem dL_law_470 : decode cL_law 470 = .ok (.iconst 0, 1) := dk_3 (dk_at dksL_law_11 23 rfl rfl)
theorem dL_law_471 : decode cL_law 471 = .ok (.ireturn, 1) := dk_172 (dk_at dksL_law_12 0 rfl rfl)
theorem dL_law_472 : decode cL_law 472 = .ok (.iload 5, 2) := dk_21 5 (dk_at dksL_law_12 1 rfl rfl)
theorem dL_law_474 : decode cL_law 474 = .ok (.ifCond .ne 22, 3) := dk_154 0 22 (dk_at dksL_law_12 3 rfl rfl)
theorem dL_law_477 : decode cL_law 477 = .ok (.aload_n 3, 1) := dk_45 (dk_at dksL_law_12 6 rfl rfl)
theorem dL_law_478 : decode cL_law 478 = .ok (.iconst 0, 1) := dk_3 (dk_at dksL_law_12 7 rfl rfl)
theorem dL_law_479 : decode cL_law 479 = .ok (.laload, 1) := dk_47 (dk_at dksL_law_12 8 rfl rfl)
theorem dL_law_480 : decode cL_law 480 = .ok (.iload 6, 2) := dk_21 6 (dk_at dksL_law_12 9 rfl rfl)
theorem dL_law_482 : decode cL_law 482 = .ok (.ifCond .eq 7, 3) := dk_153 0 7 (dk_at dksL_law_12 11 rfl rfl)
theorem dL_law_485 : decode cL_law 485 = .ok (.lconst 1, 1) := dk_10 (dk_at dksL_law_12 14 rfl rfl)
theorem dL_law_486 : decode cL_law 486 = .ok (.goto 4, 3) := dk_167 0 4 (dk_at dksL_law_12 15 rfl rfl)
theorem dL_law_489 : decode cL_law 489 = .ok (.lconst 0, 1) := dk_9 (dk_at dksL_law_12 18 rfl rfl)
theorem dL_law_490 : decode cL_law 490 = .ok (.lcmp, 1) := dk_148 (dk_at dksL_law_12 19 rfl rfl)
theorem dL_law_491 : decode cL_law 491 = .ok (.ifCond .eq 5, 3) := dk_153 0 5 (dk_at dksL_law_12 20 rfl rfl)
theorem dL_law_494 : decode cL_law 494 = .ok (.iconst 0, 1) := dk_3 (dk_at dksL_law_12 23 rfl rfl)
theorem dL_law_495 : decode cL_law 495 = .ok (.ireturn, 1) := dk_172 (dk_at dksL_law_13 0 rfl rfl)
theorem dL_law_496 : decode cL_law 496 = .ok (.goto 2158, 3) := dk_167 8 110 (dk_at dksL_law_13 1 rfl rfl)
theorem dL_law_499 : decode cL_law 499 = .ok (.aload_n 1, 1) := dk_43 (dk_at dksL_law_13 4 rfl rfl)
theorem dL_law_500 : decode cL_law 500 = .ok (.aload_n 0, 1) := dk_42 (dk_at dksL_law_13 5 rfl rfl)
theorem dL_law_501 : decode cL_law 501 = .ok (.iload 4, 2) := dk_21 4 (dk_at dksL_law_13 6 rfl rfl)
theorem dL_law_503 : decode cL_law 503 = .ok (.iconst 1, 1) := dk_4 (dk_at dksL_law_13 8 rfl rfl)
theorem dL_law_504 : decode cL_law 504 = .ok (.iadd, 1) := dk_96 (dk_at dksL_law_13 9 rfl rfl)
theorem dL_law_505 : decode cL_law 505 = .ok (.iaload, 1) := dk_46 (dk_at dksL_law_13 10 rfl rfl)
theorem dL_law_506 : decode cL_law 506 = .ok (.aload_n 3, 1) := dk_45 (dk_at dksL_law_13 11 rfl rfl)
theorem dL_law_507 : decode cL_law 507 = .ok (.invokestatic 167, 3) := dk_184 0 167 (dk_at dksL_law_13 12 rfl rfl)
theorem dL_law_510 : decode cL_law 510 = .ok (.istore 5, 2) := dk_54 5 (dk_at dksL_law_13 15 rfl rfl)
theorem dL_law_512 : decode cL_law 512 = .ok (.aload_n 2, 1) := dk_44 (dk_at dksL_law_13 17 rfl rfl)
theorem dL_law_513 : decode cL_law 513 = .ok (.aload_n 0, 1) := dk_42 (dk_at dksL_law_13 18 rfl rfl)
theorem dL_law_514 : decode cL_law 514 = .ok (.iload 4, 2) := dk_21 4 (dk_at dksL_law_13 19 rfl rfl)
theorem dL_law_516 : decode cL_law 516 = .ok (.iconst 1, 1) := dk_4 (dk_at dksL_law_13 21 rfl rfl)
theorem dL_law_517 : decode cL_law 517 = .ok (.iadd, 1) := dk_96 (dk_at dksL_law_13 22 rfl rfl)
theorem dL_law_518 : decode cL_law 518 = .ok (.iaload, 1) := dk_46 (dk_at dksL_law_13 23 rfl rfl)
theorem dL_law_519 : decode cL_law 519 = .ok (.invokevirtual 169, 3) := dk_182 0 169 (dk_at dksL_law_14 0 rfl rfl)
theorem dL_law_522 : decode cL_law 522 = .ok (.istore 6, 2) := dk_54 6 (dk_at dksL_law_14 3 rfl rfl)
theorem dL_law_524 : decode cL_law 524 = .ok (.aload_n 2, 1) := dk_44 (dk_at dksL_law_14 5 rfl rfl)
theorem dL_law_525 : decode cL_law 525 = .ok (.invokevirtual 164, 3) := dk_182 0 164 (dk_at dksL_law_14 6 rfl rfl)
theorem dL_law_528 : decode cL_law 528 = .ok (.iload 5, 2) := dk_21 5 (dk_at dksL_law_14 9 rfl rfl)
theorem dL_law_530 : decode cL_law 530 = .ok (.if_icmp .eq 5, 3) := dk_159 0 5 (dk_at dksL_law_14 11 rfl rfl)
theorem dL_law_533 : decode cL_law 533 = .ok (.iconst 0, 1) := dk_3 (dk_at dksL_law_14 14 rfl rfl)
theorem dL_law_534 : decode cL_law 534 = .ok (.ireturn, 1) := dk_172 (dk_at dksL_law_14 15 rfl rfl)
theorem dL_law_535 : decode cL_law 535 = .ok (.iload 5, 2) := dk_21 5 (dk_at dksL_law_14 16 rfl rfl)
theorem dL_law_537 : decode cL_law 537 = .ok (.ifCond .ne 15, 3) := dk_154 0 15 (dk_at dksL_law_14 18 rfl rfl)
theorem dL_law_540 : decode cL_law 540 = .ok (.aload_n 3, 1) := dk_45 (dk_at dksL_law_14 21 rfl rfl)
theorem dL_law_541 : decode cL_law 541 = .ok (.iconst 0, 1) := dk_3 (dk_at dksL_law_14 22 rfl rfl)
theorem dL_law_542 : decode cL_law 542 = .ok (.laload, 1) := dk_47 (dk_at dksL_law_14 23 rfl rfl)
theorem dL_law_543 : decode cL_law 543 = .ok (.iload 6, 2) := dk_21 6 (dk_at dksL_law_15 0 rfl rfl)
theorem dL_law_545 : decode cL_law 545 = .ok (.i2l, 1) := dk_133 (dk_at dksL_law_15 2 rfl rfl)
theorem dL_law_546 : decode cL_law 546 = .ok (.lcmp, 1) := dk_148 (dk_at dksL_law_15 3 rfl rfl)
theorem dL_law_547 : decode cL_law 547 = .ok (.ifCond .eq 5, 3) := dk_153 0 5 (dk_at dksL_law_15 4 rfl rfl)
theorem dL_law_550 : decode cL_law 550 = .ok (.iconst 0, 1) := dk_3 (dk_at dksL_law_15 7 rfl rfl)
theorem dL_law_551 : decode cL_law 551 = .ok (.ireturn, 1) := dk_172 (dk_at dksL_law_15 8 rfl rfl)
theorem dL_law_552 : decode cL_law 552 = .ok (.goto 2102, 3) := dk_167 8 54 (dk_at dksL_law_15 9 rfl rfl)
theorem dL_law_555 : decode cL_law 555 = .ok (.aload_n 1, 1) := dk_43 (dk_at dksL_law_15 12 rfl rfl)
theorem dL_law_556 : decode cL_law 556 = .ok (.aload_n 0, 1) := dk_42 (dk_at dksL_law_15 13 rfl rfl)
theorem dL_law_557 : decode cL_law 557 = .ok (.iload 4, 2) := dk_21 4 (dk_at dksL_law_15 14 rfl rfl)
theorem dL_law_559 : decode cL_law 559 = .ok (.iconst 1, 1) := dk_4 (dk_at dksL_law_15 16 rfl rfl)
theorem dL_law_560 : decode cL_law 560 = .ok (.iadd, 1) := dk_96 (dk_at dksL_law_15 17 rfl rfl)
theorem dL_law_561 : decode cL_law 561 = .ok (.iaload, 1) := dk_46 (dk_at dksL_law_15 18 rfl rfl)
theorem dL_law_562 : decode cL_law 562 = .ok (.aload_n 3, 1) := dk_45 (dk_at dksL_law_15 19 rfl rfl)
theorem dL_law_563 : decode cL_law 563 = .ok (.invokestatic 170, 3) := dk_184 0 170 (dk_at dksL_law_15 20 rfl rfl)
theorem dL_law_566 : decode cL_law 566 = .ok (.istore 5, 2) := dk_54 5 (dk_at dksL_law_16 0 rfl rfl)
theorem dL_law_568 : decode cL_law 568 = .ok (.aload_n 2, 1) := dk_44 (dk_at dksL_law_16 2 rfl rfl)
theorem dL_law_569 : decode cL_law 569 = .ok (.aload_n 0, 1) := dk_42 (dk_at dksL_law_16 3 rfl rfl)
theorem dL_law_570 : decode cL_law 570 = .ok (.iload 4, 2) := dk_21 4 (dk_at dksL_law_16 4 rfl rfl)
theorem dL_law_572 : decode cL_law 572 = .ok (.iconst 1, 1) := dk_4 (dk_at dksL_law_16 6 rfl rfl)
theorem dL_law_573 : decode cL_law 573 = .ok (.iadd, 1) := dk_96 (dk_at dksL_law_16 7 rfl rfl)
theorem dL_law_574 : decode cL_law 574 = .ok (.iaload, 1) := dk_46 (dk_at dksL_law_16 8 rfl rfl)
theorem dL_law_575 : decode cL_law 575 = .ok (.invokevirtual 172, 3) := dk_182 0 172 (dk_at dksL_law_16 9 rfl rfl)
theorem dL_law_578 : decode cL_law 578 = .ok (.istore 6, 2) := dk_54 6 (dk_at dksL_law_16 12 rfl rfl)
theorem dL_law_580 : decode cL_law 580 = .ok (.aload_n 2, 1) := dk_44 (dk_at dksL_law_16 14 rfl rfl)
theorem dL_law_581 : decode cL_law 581 = .ok (.invokevirtual 164, 3) := dk_182 0 164 (dk_at dksL_law_16 15 rfl rfl)
theorem dL_law_584 : decode cL_law 584 = .ok (.iload 5, 2) := dk_21 5 (dk_at dksL_law_16 18 rfl rfl)
theorem dL_law_586 : decode cL_law 586 = .ok (.if_icmp .eq 5, 3) := dk_159 0 5 (dk_at dksL_law_16 20 rfl rfl)
theorem dL_law_589 : decode cL_law 589 = .ok (.iconst 0, 1) := dk_3 (dk_at dksL_law_16 23 rfl rfl)
theorem dL_law_590 : decode cL_law 590 = .ok (.ireturn, 1) := dk_172 (dk_at dksL_law_17 0 rfl rfl)
theorem dL_law_591 : decode cL_law 591 = .ok (.iload 5, 2) := dk_21 5 (dk_at dksL_law_17 1 rfl rfl)
theorem dL_law_593 : decode cL_law 593 = .ok (.ifCond .ne 15, 3) := dk_154 0 15 (dk_at dksL_law_17 3 rfl rfl)
theorem dL_law_596 : decode cL_law 596 = .ok (.aload_n 3, 1) := dk_45 (dk_at dksL_law_17 6 rfl rfl)
theorem dL_law_597 : decode cL_law 597 = .ok (.iconst 0, 1) := dk_3 (dk_at dksL_law_17 7 rfl rfl)
theorem dL_law_598 : decode cL_law 598 = .ok (.laload, 1) := dk_47 (dk_at dksL_law_17 8 rfl rfl)
theorem dL_law_599 : decode cL_law 599 = .ok (.iload 6, 2) := dk_21 6 (dk_at dksL_law_17 9 rfl rfl)
theorem dL_law_601 : decode cL_law 601 = .ok (.i2l, 1) := dk_133 (dk_at dksL_law_17 11 rfl rfl)
theorem dL_law_602 : decode cL_law 602 = .ok (.lcmp, 1) := dk_148 (dk_at dksL_law_17 12 rfl rfl)
theorem dL_law_603 : decode cL_law 603 = .ok (.ifCond .eq 5, 3) := dk_153 0 5 (dk_at dksL_law_17 13 rfl rfl)
theorem dL_law_606 : decode cL_law 606 = .ok (.iconst 0, 1) := dk_3 (dk_at dksL_law_17 16 rfl rfl)
theorem dL_law_607 : decode cL_law 607 = .ok (.ireturn, 1) := dk_172 (dk_at dksL_law_17 17 rfl rfl)
theorem dL_law_608 : decode cL_law 608 = .ok (.goto 2046, 3) := dk_167 7 254 (dk_at dksL_law_17 18 rfl rfl)
theorem dL_law_611 : decode cL_law 611 = .ok (.aload_n 1, 1) := dk_43 (dk_at dksL_law_17 21 rfl rfl)
theorem dL_law_612 : decode cL_law 612 = .ok (.aload_n 0, 1) := dk_42 (dk_at dksL_law_17 22 rfl rfl)
theorem dL_law_613 : decode cL_law 613 = .ok (.iload 4, 2) := dk_21 4 (dk_at dksL_law_18 0 rfl rfl)
theorem dL_law_615 : decode cL_law 615 = .ok (.iconst 1, 1) := dk_4 (dk_at dksL_law_18 2 rfl rfl)
theorem dL_law_616 : decode cL_law 616 = .ok (.iadd, 1) := dk_96 (dk_at dksL_law_18 3 rfl rfl)
theorem dL_law_617 : decode cL_law 617 = .ok (.iaload, 1) := dk_46 (dk_at dksL_law_18 4 rfl rfl)
theorem dL_law_618 : decode cL_law 618 = .ok (.aload_n 3, 1) := dk_45 (dk_at dksL_law_18 5 rfl rfl)
theorem dL_law_619 : decode cL_law 619 = .ok (.invokestatic 173, 3) := dk_184 0 173 (dk_at dksL_law_18 6 rfl rfl)
theorem dL_law_622 : decode cL_law 622 = .ok (.istore 5, 2) := dk_54 5 (dk_at dksL_law_18 9 rfl rfl)
theorem dL_law_624 : decode cL_law 624 = .ok (.aload_n 2, 1) := dk_44 (dk_at dksL_law_18 11 rfl rfl)
theorem dL_law_625 : decode cL_law 625 = .ok (.aload_n 0, 1) := dk_42 (dk_at dksL_law_18 12 rfl rfl)
theorem dL_law_626 : decode cL_law 626 = .ok (.iload 4, 2) := dk_21 4 (dk_at dksL_law_18 13 rfl rfl)
theorem dL_law_628 : decode cL_law 628 = .ok (.iconst 1, 1) := dk_4 (dk_at dksL_law_18 15 rfl rfl)
theorem dL_law_629 : decode cL_law 629 = .ok (.iadd, 1) := dk_96 (dk_at dksL_law_18 16 rfl rfl)
theorem dL_law_630 : decode cL_law 630 = .ok (.iaload, 1) := dk_46 (dk_at dksL_law_18 17 rfl rfl)
theorem dL_law_631 : decode cL_law 631 = .ok (.invokevirtual 175, 3) := dk_182 0 175 (dk_at dksL_law_18 18 rfl rfl)
theorem dL_law_634 : decode cL_law 634 = .ok (.istore 6, 2) := dk_54 6 (dk_at dksL_law_18 21 rfl rfl)
theorem dL_law_636 : decode cL_law 636 = .ok (.aload_n 2, 1) := dk_44 (dk_at dksL_law_18 23 rfl rfl)
theorem dL_law_637 : decode cL_law 637 = .ok (.invokevirtual 164, 3) := dk_182 0 164 (dk_at dksL_law_19 0 rfl rfl)
theorem dL_law_640 : decode cL_law 640 = .ok (.iload 5, 2) := dk_21 5 (dk_at dksL_law_19 3 rfl rfl)
theorem dL_law_642 : decode cL_law 642 = .ok (.if_icmp .eq 5, 3) := dk_159 0 5 (dk_at dksL_law_19 5 rfl rfl)
theorem dL_law_645 : decode cL_law 645 = .ok (.iconst 0, 1) := dk_3 (dk_at dksL_law_19 8 rfl rfl)
theorem dL_law_646 : decode cL_law 646 = .ok (.ireturn, 1) := dk_172 (dk_at dksL_law_19 9 rfl rfl)
theorem dL_law_647 : decode cL_law 647 = .ok (.iload 5, 2) := dk_21 5 (dk_at dksL_law_19 10 rfl rfl)
theorem dL_law_649 : decode cL_law 649 = .ok (.ifCond .ne 15, 3) := dk_154 0 15 (dk_at dksL_law_19 12 rfl rfl)
theorem dL_law_652 : decode cL_law 652 = .ok (.aload_n 3, 1) := dk_45 (dk_at dksL_law_19 15 rfl rfl)
theorem dL_law_653 : decode cL_law 653 = .ok (.iconst 0, 1) := dk_3 (dk_at dksL_law_19 16 rfl rfl)
theorem dL_law_654 : decode cL_law 654 = .ok (.laload, 1) := dk_47 (dk_at dksL_law_19 17 rfl rfl)
theorem dL_law_655 : decode cL_law 655 = .ok (.iload 6, 2) := dk_21 6 (dk_at dksL_law_19 18 rfl rfl)
theorem dL_law_657 : decode cL_law 657 = .ok (.i2l, 1) := dk_133 (dk_at dksL_law_19 20 rfl rfl)
theorem dL_law_658 : decode cL_law 658 = .ok (.lcmp, 1) := dk_148 (dk_at dksL_law_19 21 rfl rfl)
theorem dL_law_659 : decode cL_law 659 = .ok (.ifCond .eq 5, 3) := dk_153 0 5 (dk_at dksL_law_20 0 rfl rfl)
theorem dL_law_662 : decode cL_law 662 = .ok (.iconst 0, 1) := dk_3 (dk_at dksL_law_20 3 rfl rfl)
theorem dL_law_663 : decode cL_law 663 = .ok (.ireturn, 1) := dk_172 (dk_at dksL_law_20 4 rfl rfl)
theorem dL_law_664 : decode cL_law 664 = .ok (.goto 1990, 3) := dk_167 7 198 (dk_at dksL_law_20 5 rfl rfl)
theorem dL_law_667 : decode cL_law 667 = .ok (.aload_n 1, 1) := dk_43 (dk_at dksL_law_20 8 rfl rfl)
theorem dL_law_668 : decode cL_law 668 = .ok (.aload_n 0, 1) := dk_42 (dk_at dksL_law_20 9 rfl rfl)
theorem dL_law_669 : decode cL_law 669 = .ok (.iload 4, 2) := dk_21 4 (dk_at dksL_law_20 10 rfl rfl)
theorem dL_law_671 : decode cL_law 671 = .ok (.iconst 1, 1) := dk_4 (dk_at dksL_law_20 12 rfl rfl)
theorem dL_law_672 : decode cL_law 672 = .ok (.iadd, 1) := dk_96 (dk_at dksL_law_20 13 rfl rfl)
theorem dL_law_673 : decode cL_law 673 = .ok (.iaload, 1) := dk_46 (dk_at dksL_law_20 14 rfl rfl)
theorem dL_law_674 : decode cL_law 674 = .ok (.aload_n 0, 1) := dk_42 (dk_at dksL_law_20 15 rfl rfl)
theorem dL_law_675 : decode cL_law 675 = .ok (.iload 4, 2) := dk_21 4 (dk_at dksL_law_20 16 rfl rfl)
theorem dL_law_677 : decode cL_law 677 = .ok (.iconst 2, 1) := dk_5 (dk_at dksL_law_20 18 rfl rfl)
theorem dL_law_678 : decode cL_law 678 = .ok (.iadd, 1) := dk_96 (dk_at dksL_law_20 19 rfl rfl)
theorem dL_law_679 : decode cL_law 679 = .ok (.iaload, 1) := dk_46 (dk_at dksL_law_20 20 rfl rfl)
theorem dL_law_680 : decode cL_law 680 = .ok (.aload_n 3, 1) := dk_45 (dk_at dksL_law_20 21 rfl rfl)
theorem dL_law_681 : decode cL_law 681 = .ok (.invokestatic 176, 3) := dk_184 0 176 (dk_at dksL_law_21 0 rfl rfl)
theorem dL_law_684 : decode cL_law 684 = .ok (.istore 5, 2) := dk_54 5 (dk_at dksL_law_21 3 rfl rfl)
theorem dL_law_686 : decode cL_law 686 = .ok (.aload_n 2, 1) := dk_44 (dk_at dksL_law_21 5 rfl rfl)
theorem dL_law_687 : decode cL_law 687 = .ok (.aload_n 0, 1) := dk_42 (dk_at dksL_law_21 6 rfl rfl)
theorem dL_law_688 : decode cL_law 688 = .ok (.iload 4, 2) := dk_21 4 (dk_at dksL_law_21 7 rfl rfl)
theorem dL_law_690 : decode cL_law 690 = .ok (.iconst 1, 1) := dk_4 (dk_at dksL_law_21 9 rfl rfl)
theorem dL_law_691 : decode cL_law 691 = .ok (.iadd, 1) := dk_96 (dk_at dksL_law_21 10 rfl rfl)
theorem dL_law_692 : decode cL_law 692 = .ok (.iaload, 1) := dk_46 (dk_at dksL_law_21 11 rfl rfl)
theorem dL_law_693 : decode cL_law 693 = .ok (.aload_n 0, 1) := dk_42 (dk_at dksL_law_21 12 rfl rfl)
theorem dL_law_694 : decode cL_law 694 = .ok (.iload 4, 2) := dk_21 4 (dk_at dksL_law_21 13 rfl rfl)
theorem dL_law_696 : decode cL_law 696 = .ok (.iconst 2, 1) := dk_5 (dk_at dksL_law_21 15 rfl rfl)
theorem dL_law_697 : decode cL_law 697 = .ok (.iadd, 1) := dk_96 (dk_at dksL_law_21 16 rfl rfl)
theorem dL_law_698 : decode cL_law 698 = .ok (.iaload, 1) := dk_46 (dk_at dksL_law_21 17 rfl rfl)
theorem dL_law_699 : decode cL_law 699 = .ok (.invokevirtual 179, 3) := dk_182 0 179 (dk_at dksL_law_21 18 rfl rfl)
theorem dL_law_702 : decode cL_law 702 = .ok (.istore 6, 2) := dk_54 6 (dk_at dksL_law_21 21 rfl rfl)
theorem dL_law_704 : decode cL_law 704 = .ok (.aload_n 2, 1) := dk_44 (dk_at dksL_law_21 23 rfl rfl)
theorem dL_law_705 : decode cL_law 705 = .ok (.invokevirtual 164, 3) := dk_182 0 164 (dk_at dksL_law_22 0 rfl rfl)
theorem dL_law_708 : decode cL_law 708 = .ok (.iload 5, 2) := dk_21 5 (dk_at dksL_law_22 3 rfl rfl)
theorem dL_law_710 : decode cL_law 710 = .ok (.if_icmp .eq 5, 3) := dk_159 0 5 (dk_at dksL_law_22 5 rfl rfl)
theorem dL_law_713 : decode cL_law 713 = .ok (.iconst 0, 1) := dk_3 (dk_at dksL_law_22 8 rfl rfl)
theorem dL_law_714 : decode cL_law 714 = .ok (.ireturn, 1) := dk_172 (dk_at dksL_law_22 9 rfl rfl)
theorem dL_law_715 : decode cL_law 715 = .ok (.iload 5, 2) := dk_21 5 (dk_at dksL_law_22 10 rfl rfl)
theorem dL_law_717 : decode cL_law 717 = .ok (.ifCond .ne 15, 3) := dk_154 0 15 (dk_at dksL_law_22 12 rfl rfl)
theorem dL_law_720 : decode cL_law 720 = .ok (.aload_n 3, 1) := dk_45 (dk_at dksL_law_22 15 rfl rfl)
theorem dL_law_721 : decode cL_law 721 = .ok (.iconst 0, 1) := dk_3 (dk_at dksL_law_22 16 rfl rfl)
theorem dL_law_722 : decode cL_law 722 = .ok (.laload, 1) := dk_47 (dk_at dksL_law_22 17 rfl rfl)
theorem dL_law_723 : decode cL_law 723 = .ok (.iload 6, 2) := dk_21 6 (dk_at dksL_law_22 18 rfl rfl)
theorem dL_law_725 : decode cL_law 725 = .ok (.i2l, 1) := dk_133 (dk_at dksL_law_22 20 rfl rfl)
theorem dL_law_726 : decode cL_law 726 = .ok (.lcmp, 1) := dk_148 (dk_at dksL_law_22 21 rfl rfl)
theorem dL_law_727 : decode cL_law 727 = .ok (.ifCond .eq 5, 3) := dk_153 0 5 (dk_at dksL_law_23 0 rfl rfl)
theorem dL_law_730 : decode cL_law 730 = .ok (.iconst 0, 1) := dk_3 (dk_at dksL_law_23 3 rfl rfl)
theorem dL_law_731 : decode cL_law 731 = .ok (.ireturn, 1) := dk_172 (dk_at dksL_law_23 4 rfl rfl)
theorem dL_law_732 : decode cL_law 732 = .ok (.goto 1922, 3) := dk_167 7 130 (dk_at dksL_law_23 5 rfl rfl)
theorem dL_law_735 : decode cL_law 735 = .ok (.aload_n 1, 1) := dk_43 (dk_at dksL_law_23 8 rfl rfl)
theorem dL_law_736 : decode cL_law 736 = .ok (.aload_n 0, 1) := dk_42 (dk_at dksL_law_23 9 rfl rfl)
theorem dL_law_737 : decode cL_law 737 = .ok (.iload 4, 2) := dk_21 4 (dk_at dksL_law_23 10 rfl rfl)
theorem dL_law_739 : decode cL_law 739 = .ok (.iconst 1, 1) := dk_4 (dk_at dksL_law_23 12 rfl rfl)
theorem dL_law_740 : decode cL_law 740 = .ok (.iadd, 1) := dk_96 (dk_at dksL_law_23 13 rfl rfl)
theorem dL_law_741 : decode cL_law 741 = .ok (.iaload, 1) := dk_46 (dk_at dksL_law_23 14 rfl rfl)
theorem dL_law_742 : decode cL_law 742 = .ok (.aload_n 3, 1) := dk_45 (dk_at dksL_law_23 15 rfl rfl)
theorem dL_law_743 : decode cL_law 743 = .ok (.invokestatic 180, 3) := dk_184 0 180 (dk_at dksL_law_23 16 rfl rfl)
theorem dL_law_746 : decode cL_law 746 = .ok (.istore 5, 2) := dk_54 5 (dk_at dksL_law_23 19 rfl rfl)
theorem dL_law_748 : decode cL_law 748 = .ok (.aload_n 2, 1) := dk_44 (dk_at dksL_law_23 21 rfl rfl)
theorem dL_law_749 : decode cL_law 749 = .ok (.aload_n 0, 1) := dk_42 (dk_at dksL_law_23 22 rfl rfl)
theorem dL_law_750 : decode cL_law 750 = .ok (.iload 4, 2) := dk_21 4 (dk_at dksL_law_24 0 rfl rfl)
theorem dL_law_752 : decode cL_law 752 = .ok (.iconst 1, 1) := dk_4 (dk_at dksL_law_24 2 rfl rfl)
theorem dL_law_753 : decode cL_law 753 = .ok (.iadd, 1) := dk_96 (dk_at dksL_law_24 3 rfl rfl)
theorem dL_law_754 : decode cL_law 754 = .ok (.iaload, 1) := dk_46 (dk_at dksL_law_24 4 rfl rfl)
theorem dL_law_755 : decode cL_law 755 = .ok (.invokevirtual 182, 3) := dk_182 0 182 (dk_at dksL_law_24 5 rfl rfl)
theorem dL_law_758 : decode cL_law 758 = .ok (.istore 6, 2) := dk_54 6 (dk_at dksL_law_24 8 rfl rfl)
theorem dL_law_760 : decode cL_law 760 = .ok (.aload_n 2, 1) := dk_44 (dk_at dksL_law_24 10 rfl rfl)
theorem dL_law_761 : decode cL_law 761 = .ok (.invokevirtual 164, 3) := dk_182 0 164 (dk_at dksL_law_24 11 rfl rfl)
theorem dL_law_764 : decode cL_law 764 = .ok (.iload 5, 2) := dk_21 5 (dk_at dksL_law_24 14 rfl rfl)
theorem dL_law_766 : decode cL_law 766 = .ok (.if_icmp .eq 5, 3) := dk_159 0 5 (dk_at dksL_law_24 16 rfl rfl)
theorem dL_law_769 : decode cL_law 769 = .ok (.iconst 0, 1) := dk_3 (dk_at dksL_law_24 19 rfl rfl)
theorem dL_law_770 : decode cL_law 770 = .ok (.ireturn, 1) := dk_172 (dk_at dksL_law_24 20 rfl rfl)
theorem dL_law_771 : decode cL_law 771 = .ok (.iload 5, 2) := dk_21 5 (dk_at dksL_law_24 21 rfl rfl)
theorem dL_law_773 : decode cL_law 773 = .ok (.ifCond .ne 15, 3) := dk_154 0 15 (dk_at dksL_law_25 0 rfl rfl)
theorem dL_law_776 : decode cL_law 776 = .ok (.aload_n 3, 1) := dk_45 (dk_at dksL_law_25 3 rfl rfl)
theorem dL_law_777 : decode cL_law 777 = .ok (.iconst 0, 1) := dk_3 (dk_at dksL_law_25 4 rfl rfl)
theorem dL_law_778 : decode cL_law 778 = .ok (.laload, 1) := dk_47 (dk_at dksL_law_25 5 rfl rfl)
theorem dL_law_779 : decode cL_law 779 = .ok (.iload 6, 2) := dk_21 6 (dk_at dksL_law_25 6 rfl rfl)
theorem dL_law_781 : decode cL_law 781 = .ok (.i2l, 1) := dk_133 (dk_at dksL_law_25 8 rfl rfl)
theorem dL_law_782 : decode cL_law 782 = .ok (.lcmp, 1) := dk_148 (dk_at dksL_law_25 9 rfl rfl)
theorem dL_law_783 : decode cL_law 783 = .ok (.ifCond .eq 5, 3) := dk_153 0 5 (dk_at dksL_law_25 10 rfl rfl)
theorem dL_law_786 : decode cL_law 786 = .ok (.iconst 0, 1) := dk_3 (dk_at dksL_law_25 13 rfl rfl)
theorem dL_law_787 : decode cL_law 787 = .ok (.ireturn, 1) := dk_172 (dk_at dksL_law_25 14 rfl rfl)
theorem dL_law_788 : decode cL_law 788 = .ok (.goto 1866, 3) := dk_167 7 74 (dk_at dksL_law_25 15 rfl rfl)
theorem dL_law_791 : decode cL_law 791 = .ok (.aload_n 1, 1) := dk_43 (dk_at dksL_law_25 18 rfl rfl)
theorem dL_law_792 : decode cL_law 792 = .ok (.aload_n 0, 1) := dk_42 (dk_at dksL_law_25 19 rfl rfl)
theorem dL_law_793 : decode cL_law 793 = .ok (.iload 4, 2) := dk_21 4 (dk_at dksL_law_25 20 rfl rfl)
theorem dL_law_795 : decode cL_law 795 = .ok (.iconst 1, 1) := dk_4 (dk_at dksL_law_25 22 rfl rfl)
theorem dL_law_796 : decode cL_law 796 = .ok (.iadd, 1) := dk_96 (dk_at dksL_law_25 23 rfl rfl)
theorem dL_law_797 : decode cL_law 797 = .ok (.iaload, 1) := dk_46 (dk_at dksL_law_26 0 rfl rfl)
theorem dL_law_798 : decode cL_law 798 = .ok (.aload_n 3, 1) := dk_45 (dk_at dksL_law_26 1 rfl rfl)
theorem dL_law_799 : decode cL_law 799 = .ok (.invokestatic 183, 3) := dk_184 0 183 (dk_at dksL_law_26 2 rfl rfl)
theorem dL_law_802 : decode cL_law 802 = .ok (.istore 5, 2) := dk_54 5 (dk_at dksL_law_26 5 rfl rfl)
theorem dL_law_804 : decode cL_law 804 = .ok (.aload_n 2, 1) := dk_44 (dk_at dksL_law_26 7 rfl rfl)
theorem dL_law_805 : decode cL_law 805 = .ok (.aload_n 0, 1) := dk_42 (dk_at dksL_law_26 8 rfl rfl)
theorem dL_law_806 : decode cL_law 806 = .ok (.iload 4, 2) := dk_21 4 (dk_at dksL_law_26 9 rfl rfl)
theorem dL_law_808 : decode cL_law 808 = .ok (.iconst 1, 1) := dk_4 (dk_at dksL_law_26 11 rfl rfl)
theorem dL_law_809 : decode cL_law 809 = .ok (.iadd, 1) := dk_96 (dk_at dksL_law_26 12 rfl rfl)
theorem dL_law_810 : decode cL_law 810 = .ok (.iaload, 1) := dk_46 (dk_at dksL_law_26 13 rfl rfl)
theorem dL_law_811 : decode cL_law 811 = .ok (.invokevirtual 185, 3) := dk_182 0 185 (dk_at dksL_law_26 14 rfl rfl)
theorem dL_law_814 : decode cL_law 814 = .ok (.istore 6, 2) := dk_54 6 (dk_at dksL_law_26 17 rfl rfl)
theorem dL_law_816 : decode cL_law 816 = .ok (.aload_n 2, 1) := dk_44 (dk_at dksL_law_26 19 rfl rfl)
theorem dL_law_817 : decode cL_law 817 = .ok (.invokevirtual 164, 3) := dk_182 0 164 (dk_at dksL_law_26 20 rfl rfl)
theorem dL_law_820 : decode cL_law 820 = .ok (.iload 5, 2) := dk_21 5 (dk_at dksL_law_27 0 rfl rfl)
theorem dL_law_822 : decode cL_law 822 = .ok (.if_icmp .eq 5, 3) := dk_159 0 5 (dk_at dksL_law_27 2 rfl rfl)
theorem dL_law_825 : decode cL_law 825 = .ok (.iconst 0, 1) := dk_3 (dk_at dksL_law_27 5 rfl rfl)
theorem dL_law_826 : decode cL_law 826 = .ok (.ireturn, 1) := dk_172 (dk_at dksL_law_27 6 rfl rfl)
theorem dL_law_827 : decode cL_law 827 = .ok (.iload 5, 2) := dk_21 5 (dk_at dksL_law_27 7 rfl rfl)
theorem dL_law_829 : decode cL_law 829 = .ok (.ifCond .ne 15, 3) := dk_154 0 15 (dk_at dksL_law_27 9 rfl rfl)
theorem dL_law_832 : decode cL_law 832 = .ok (.aload_n 3, 1) := dk_45 (dk_at dksL_law_27 12 rfl rfl)
theorem dL_law_833 : decode cL_law 833 = .ok (.iconst 0, 1) := dk_3 (dk_at dksL_law_27 13 rfl rfl)
theorem dL_law_834 : decode cL_law 834 = .ok (.laload, 1) := dk_47 (dk_at dksL_law_27 14 rfl rfl)
theorem dL_law_835 : decode cL_law 835 = .ok (.iload 6, 2) := dk_21 6 (dk_at dksL_law_27 15 rfl rfl)
theorem dL_law_837 : decode cL_law 837 = .ok (.i2l, 1) := dk_133 (dk_at dksL_law_27 17 rfl rfl)
theorem dL_law_838 : decode cL_law 838 = .ok (.lcmp, 1) := dk_148 (dk_at dksL_law_27 18 rfl rfl)
theorem dL_law_839 : decode cL_law 839 = .ok (.ifCond .eq 5, 3) := dk_153 0 5 (dk_at dksL_law_27 19 rfl rfl)
theorem dL_law_842 : decode cL_law 842 = .ok (.iconst 0, 1) := dk_3 (dk_at dksL_law_27 22 rfl rfl)
theorem dL_law_843 : decode cL_law 843 = .ok (.ireturn, 1) := dk_172 (dk_at dksL_law_27 23 rfl rfl)
theorem dL_law_844 : decode cL_law 844 = .ok (.goto 1810, 3) := dk_167 7 18 (dk_at dksL_law_28 0 rfl rfl)
theorem dL_law_847 : decode cL_law 847 = .ok (.aload_n 1, 1) := dk_43 (dk_at dksL_law_28 3 rfl rfl)
theorem dL_law_848 : decode cL_law 848 = .ok (.aload_n 0, 1) := dk_42 (dk_at dksL_law_28 4 rfl rfl)
theorem dL_law_849 : decode cL_law 849 = .ok (.iload 4, 2) := dk_21 4 (dk_at dksL_law_28 5 rfl rfl)
theorem dL_law_851 : decode cL_law 851 = .ok (.iconst 1, 1) := dk_4 (dk_at dksL_law_28 7 rfl rfl)
theorem dL_law_852 : decode cL_law 852 = .ok (.iadd, 1) := dk_96 (dk_at dksL_law_28 8 rfl rfl)
theorem dL_law_853 : decode cL_law 853 = .ok (.iaload, 1) := dk_46 (dk_at dksL_law_28 9 rfl rfl)
theorem dL_law_854 : decode cL_law 854 = .ok (.aload_n 3, 1) := dk_45 (dk_at dksL_law_28 10 rfl rfl)
theorem dL_law_855 : decode cL_law 855 = .ok (.invokestatic 186, 3) := dk_184 0 186 (dk_at dksL_law_28 11 rfl rfl)
theorem dL_law_858 : decode cL_law 858 = .ok (.istore 5, 2) := dk_54 5 (dk_at dksL_law_28 14 rfl rfl)
theorem dL_law_860 : decode cL_law 860 = .ok (.aload_n 2, 1) := dk_44 (dk_at dksL_law_28 16 rfl rfl)
theorem dL_law_861 : decode cL_law 861 = .ok (.aload_n 0, 1) := dk_42 (dk_at dksL_law_28 17 rfl rfl)
theorem dL_law_862 : decode cL_law 862 = .ok (.iload 4, 2) := dk_21 4 (dk_at dksL_law_28 18 rfl rfl)
theorem dL_law_864 : decode cL_law 864 = .ok (.iconst 1, 1) := dk_4 (dk_at dksL_law_28 20 rfl rfl)
theorem dL_law_865 : decode cL_law 865 = .ok (.iadd, 1) := dk_96 (dk_at dksL_law_28 21 rfl rfl)
theorem dL_law_866 : decode cL_law 866 = .ok (.iaload, 1) := dk_46 (dk_at dksL_law_28 22 rfl rfl)
theorem dL_law_867 : decode cL_law 867 = .ok (.invokevirtual 188, 3) := dk_182 0 188 (dk_at dksL_law_29 0 rfl rfl)
theorem dL_law_870 : decode cL_law 870 = .ok (.istore 6, 2) := dk_54 6 (dk_at dksL_law_29 3 rfl rfl)
theorem dL_law_872 : decode cL_law 872 = .ok (.aload_n 2, 1) := dk_44 (dk_at dksL_law_29 5 rfl rfl)
theorem dL_law_873 : decode cL_law 873 = .ok (.invokevirtual 164, 3) := dk_182 0 164 (dk_at dksL_law_29 6 rfl rfl)
theorem dL_law_876 : decode cL_law 876 = .ok (.iload 5, 2) := dk_21 5 (dk_at dksL_law_29 9 rfl rfl)
theorem dL_law_878 : decode cL_law 878 = .ok (.if_icmp .eq 5, 3) := dk_159 0 5 (dk_at dksL_law_29 11 rfl rfl)
theorem dL_law_881 : decode cL_law 881 = .ok (.iconst 0, 1) := dk_3 (dk_at dksL_law_29 14 rfl rfl)
theorem dL_law_882 : decode cL_law 882 = .ok (.ireturn, 1) := dk_172 (dk_at dksL_law_29 15 rfl rfl)
theorem dL_law_883 : decode cL_law 883 = .ok (.iload 5, 2) := dk_21 5 (dk_at dksL_law_29 16 rfl rfl)
theorem dL_law_885 : decode cL_law 885 = .ok (.ifCond .ne 15, 3) := dk_154 0 15 (dk_at dksL_law_29 18 rfl rfl)
theorem dL_law_888 : decode cL_law 888 = .ok (.aload_n 3, 1) := dk_45 (dk_at dksL_law_29 21 rfl rfl)
theorem dL_law_889 : decode cL_law 889 = .ok (.iconst 0, 1) := dk_3 (dk_at dksL_law_29 22 rfl rfl)
theorem dL_law_890 : decode cL_law 890 = .ok (.laload, 1) := dk_47 (dk_at dksL_law_29 23 rfl rfl)
theorem dL_law_891 : decode cL_law 891 = .ok (.iload 6, 2) := dk_21 6 (dk_at dksL_law_30 0 rfl rfl)
theorem dL_law_893 : decode cL_law 893 = .ok (.i2l, 1) := dk_133 (dk_at dksL_law_30 2 rfl rfl)
theorem dL_law_894 : decode cL_law 894 = .ok (.lcmp, 1) := dk_148 (dk_at dksL_law_30 3 rfl rfl)
theorem dL_law_895 : decode cL_law 895 = .ok (.ifCond .eq 5, 3) := dk_153 0 5 (dk_at dksL_law_30 4 rfl rfl)
theorem dL_law_898 : decode cL_law 898 = .ok (.iconst 0, 1) := dk_3 (dk_at dksL_law_30 7 rfl rfl)
theorem dL_law_899 : decode cL_law 899 = .ok (.ireturn, 1) := dk_172 (dk_at dksL_law_30 8 rfl rfl)
theorem dL_law_900 : decode cL_law 900 = .ok (.goto 1754, 3) := dk_167 6 218 (dk_at dksL_law_30 9 rfl rfl)
theorem dL_law_903 : decode cL_law 903 = .ok (.aload_n 1, 1) := dk_43 (dk_at dksL_law_30 12 rfl rfl)
theorem dL_law_904 : decode cL_law 904 = .ok (.aload_n 0, 1) := dk_42 (dk_at dksL_law_30 13 rfl rfl)
theorem dL_law_905 : decode cL_law 905 = .ok (.iload 4, 2) := dk_21 4 (dk_at dksL_law_30 14 rfl rfl)
theorem dL_law_907 : decode cL_law 907 = .ok (.iconst 1, 1) := dk_4 (dk_at dksL_law_30 16 rfl rfl)
theorem dL_law_908 : decode cL_law 908 = .ok (.iadd, 1) := dk_96 (dk_at dksL_law_30 17 rfl rfl)
theorem dL_law_909 : decode cL_law 909 = .ok (.iaload, 1) := dk_46 (dk_at dksL_law_30 18 rfl rfl)
theorem dL_law_910 : decode cL_law 910 = .ok (.aload_n 0, 1) := dk_42 (dk_at dksL_law_30 19 rfl rfl)
theorem dL_law_911 : decode cL_law 911 = .ok (.iload 4, 2) := dk_21 4 (dk_at dksL_law_30 20 rfl rfl)
theorem dL_law_913 : decode cL_law 913 = .ok (.iconst 2, 1) := dk_5 (dk_at dksL_law_30 22 rfl rfl)
theorem dL_law_914 : decode cL_law 914 = .ok (.iadd, 1) := dk_96 (dk_at dksL_law_30 23 rfl rfl)
theorem dL_law_915 : decode cL_law 915 = .ok (.iaload, 1) := dk_46 (dk_at dksL_law_31 0 rfl rfl)
theorem dL_law_916 : decode cL_law 916 = .ok (.aload_n 3, 1) := dk_45 (dk_at dksL_law_31 1 rfl rfl)
theorem dL_law_917 : decode cL_law 917 = .ok (.invokestatic 189, 3) := dk_184 0 189 (dk_at dksL_law_31 2 rfl rfl)
theorem dL_law_920 : decode cL_law 920 = .ok (.istore 5, 2) := dk_54 5 (dk_at dksL_law_31 5 rfl rfl)
theorem dL_law_922 : decode cL_law 922 = .ok (.aload_n 2, 1) := dk_44 (dk_at dksL_law_31 7 rfl rfl)
theorem dL_law_923 : decode cL_law 923 = .ok (.aload_n 0, 1) := dk_42 (dk_at dksL_law_31 8 rfl rfl)
theorem dL_law_924 : decode cL_law 924 = .ok (.iload 4, 2) := dk_21 4 (dk_at dksL_law_31 9 rfl rfl)
theorem dL_law_926 : decode cL_law 926 = .ok (.iconst 1, 1) := dk_4 (dk_at dksL_law_31 11 rfl rfl)
theorem dL_law_927 : decode cL_law 927 = .ok (.iadd, 1) := dk_96 (dk_at dksL_law_31 12 rfl rfl)
theorem dL_law_928 : decode cL_law 928 = .ok (.iaload, 1) := dk_46 (dk_at dksL_law_31 13 rfl rfl)
theorem dL_law_929 : decode cL_law 929 = .ok (.aload_n 0, 1) := dk_42 (dk_at dksL_law_31 14 rfl rfl)
theorem dL_law_930 : decode cL_law 930 = .ok (.iload 4, 2) := dk_21 4 (dk_at dksL_law_31 15 rfl rfl)
theorem dL_law_932 : decode cL_law 932 = .ok (.iconst 2, 1) := dk_5 (dk_at dksL_law_31 17 rfl rfl)
theorem dL_law_933 : decode cL_law 933 = .ok (.iadd, 1) := dk_96 (dk_at dksL_law_31 18 rfl rfl)
theorem dL_law_934 : decode cL_law 934 = .ok (.iaload, 1) := dk_46 (dk_at dksL_law_31 19 rfl rfl)
theorem dL_law_935 : decode cL_law 935 = .ok (.invokevirtual 191, 3) := dk_182 0 191 (dk_at dksL_law_31 20 rfl rfl)
theorem dL_law_938 : decode cL_law 938 = .ok (.istore 6, 2) := dk_54 6 (dk_at dksL_law_32 0 rfl rfl)
theorem dL_law_940 : decode cL_law 940 = .ok (.aload_n 2, 1) := dk_44 (dk_at dksL_law_32 2 rfl rfl)
theorem dL_law_941 : decode cL_law 941 = .ok (.invokevirtual 164, 3) := dk_182 0 164 (dk_at dksL_law_32 3 rfl rfl)
theorem dL_law_944 : decode cL_law 944 = .ok (.iload 5, 2) := dk_21 5 (dk_at dksL_law_32 6 rfl rfl)
theorem dL_law_946 : decode cL_law 946 = .ok (.if_icmp .eq 5, 3) := dk_159 0 5 (dk_at dksL_law_32 8 rfl rfl)
theorem dL_law_949 : decode cL_law 949 = .ok (.iconst 0, 1) := dk_3 (dk_at dksL_law_32 11 rfl rfl)
theorem dL_law_950 : decode cL_law 950 = .ok (.ireturn, 1) := dk_172 (dk_at dksL_law_32 12 rfl rfl)
theorem dL_law_951 : decode cL_law 951 = .ok (.iload 5, 2) := dk_21 5 (dk_at dksL_law_32 13 rfl rfl)
theorem dL_law_953 : decode cL_law 953 = .ok (.ifCond .ne 15, 3) := dk_154 0 15 (dk_at dksL_law_32 15 rfl rfl)
theorem dL_law_956 : decode cL_law 956 = .ok (.aload_n 3, 1) := dk_45 (dk_at dksL_law_32 18 rfl rfl)
theorem dL_law_957 : decode cL_law 957 = .ok (.iconst 0, 1) := dk_3 (dk_at dksL_law_32 19 rfl rfl)
theorem dL_law_958 : decode cL_law 958 = .ok (.laload, 1) := dk_47 (dk_at dksL_law_32 20 rfl rfl)
theorem dL_law_959 : decode cL_law 959 = .ok (.iload 6, 2) := dk_21 6 (dk_at dksL_law_32 21 rfl rfl)
theorem dL_law_961 : decode cL_law 961 = .ok (.i2l, 1) := dk_133 (dk_at dksL_law_32 23 rfl rfl)
theorem dL_law_962 : decode cL_law 962 = .ok (.lcmp, 1) := dk_148 (dk_at dksL_law_33 0 rfl rfl)
theorem dL_law_963 : decode cL_law 963 = .ok (.ifCond .eq 5, 3) := dk_153 0 5 (dk_at dksL_law_33 1 rfl rfl)
theorem dL_law_966 : decode cL_law 966 = .ok (.iconst 0, 1) := dk_3 (dk_at dksL_law_33 4 rfl rfl)
theorem dL_law_967 : decode cL_law 967 = .ok (.ireturn, 1) := dk_172 (dk_at dksL_law_33 5 rfl rfl)
theorem dL_law_968 : decode cL_law 968 = .ok (.goto 1686, 3) := dk_167 6 150 (dk_at dksL_law_33 6 rfl rfl)
theorem dL_law_971 : decode cL_law 971 = .ok (.aload_n 1, 1) := dk_43 (dk_at dksL_law_33 9 rfl rfl)
theorem dL_law_972 : decode cL_law 972 = .ok (.aload_n 0, 1) := dk_42 (dk_at dksL_law_33 10 rfl rfl)
theorem dL_law_973 : decode cL_law 973 = .ok (.iload 4, 2) := dk_21 4 (dk_at dksL_law_33 11 rfl rfl)
theorem dL_law_975 : decode cL_law 975 = .ok (.iconst 1, 1) := dk_4 (dk_at dksL_law_33 13 rfl rfl)
theorem dL_law_976 : decode cL_law 976 = .ok (.iadd, 1) := dk_96 (dk_at dksL_law_33 14 rfl rfl)
theorem dL_law_977 : decode cL_law 977 = .ok (.iaload, 1) := dk_46 (dk_at dksL_law_33 15 rfl rfl)
theorem dL_law_978 : decode cL_law 978 = .ok (.aload_n 0, 1) := dk_42 (dk_at dksL_law_33 16 rfl rfl)
theorem dL_law_979 : decode cL_law 979 = .ok (.iload 4, 2) := dk_21 4 (dk_at dksL_law_33 17 rfl rfl)
theorem dL_law_981 : decode cL_law 981 = .ok (.iconst 2, 1) := dk_5 (dk_at dksL_law_33 19 rfl rfl)
theorem dL_law_982 : decode cL_law 982 = .ok (.iadd, 1) := dk_96 (dk_at dksL_law_33 20 rfl rfl)
theorem dL_law_983 : decode cL_law 983 = .ok (.iaload, 1) := dk_46 (dk_at dksL_law_33 21 rfl rfl)
theorem dL_law_984 : decode cL_law 984 = .ok (.aload_n 3, 1) := dk_45 (dk_at dksL_law_33 22 rfl rfl)
theorem dL_law_985 : decode cL_law 985 = .ok (.invokestatic 192, 3) := dk_184 0 192 (dk_at dksL_law_34 0 rfl rfl)
theorem dL_law_988 : decode cL_law 988 = .ok (.istore 5, 2) := dk_54 5 (dk_at dksL_law_34 3 rfl rfl)
theorem dL_law_990 : decode cL_law 990 = .ok (.aload_n 2, 1) := dk_44 (dk_at dksL_law_34 5 rfl rfl)
theorem dL_law_991 : decode cL_law 991 = .ok (.aload_n 0, 1) := dk_42 (dk_at dksL_law_34 6 rfl rfl)
theorem dL_law_992 : decode cL_law 992 = .ok (.iload 4, 2) := dk_21 4 (dk_at dksL_law_34 7 rfl rfl)
theorem dL_law_994 : decode cL_law 994 = .ok (.iconst 1, 1) := dk_4 (dk_at dksL_law_34 9 rfl rfl)
theorem dL_law_995 : decode cL_law 995 = .ok (.iadd, 1) := dk_96 (dk_at dksL_law_34 10 rfl rfl)
theorem dL_law_996 : decode cL_law 996 = .ok (.iaload, 1) := dk_46 (dk_at dksL_law_34 11 rfl rfl)
theorem dL_law_997 : decode cL_law 997 = .ok (.aload_n 0, 1) := dk_42 (dk_at dksL_law_34 12 rfl rfl)
theorem dL_law_998 : decode cL_law 998 = .ok (.iload 4, 2) := dk_21 4 (dk_at dksL_law_34 13 rfl rfl)
theorem dL_law_1000 : decode cL_law 1000 = .ok (.iconst 2, 1) := dk_5 (dk_at dksL_law_34 15 rfl rfl)
theorem dL_law_1001 : decode cL_law 1001 = .ok (.iadd, 1) := dk_96 (dk_at dksL_law_34 16 rfl rfl)
theorem dL_law_1002 : decode cL_law 1002 = .ok (.iaload, 1) := dk_46 (dk_at dksL_law_34 17 rfl rfl)
theorem dL_law_1003 : decode cL_law 1003 = .ok (.invokevirtual 194, 3) := dk_182 0 194 (dk_at dksL_law_34 18 rfl rfl)
theorem dL_law_1006 : decode cL_law 1006 = .ok (.istore 6, 2) := dk_54 6 (dk_at dksL_law_34 21 rfl rfl)
theorem dL_law_1008 : decode cL_law 1008 = .ok (.aload_n 2, 1) := dk_44 (dk_at dksL_law_34 23 rfl rfl)
theorem dL_law_1009 : decode cL_law 1009 = .ok (.invokevirtual 164, 3) := dk_182 0 164 (dk_at dksL_law_35 0 rfl rfl)
theorem dL_law_1012 : decode cL_law 1012 = .ok (.iload 5, 2) := dk_21 5 (dk_at dksL_law_35 3 rfl rfl)
theorem dL_law_1014 : decode cL_law 1014 = .ok (.if_icmp .eq 5, 3) := dk_159 0 5 (dk_at dksL_law_35 5 rfl rfl)
theorem dL_law_1017 : decode cL_law 1017 = .ok (.iconst 0, 1) := dk_3 (dk_at dksL_law_35 8 rfl rfl)
theorem dL_law_1018 : decode cL_law 1018 = .ok (.ireturn, 1) := dk_172 (dk_at dksL_law_35 9 rfl rfl)
theorem dL_law_1019 : decode cL_law 1019 = .ok (.iload 5, 2) := dk_21 5 (dk_at dksL_law_35 10 rfl rfl)
theorem dL_law_1021 : decode cL_law 1021 = .ok (.ifCond .ne 15, 3) := dk_154 0 15 (dk_at dksL_law_35 12 rfl rfl)
theorem dL_law_1024 : decode cL_law 1024 = .ok (.aload_n 3, 1) := dk_45 (dk_at dksL_law_35 15 rfl rfl)
theorem dL_law_1025 : decode cL_law 1025 = .ok (.iconst 0, 1) := dk_3 (dk_at dksL_law_35 16 rfl rfl)
theorem dL_law_1026 : decode cL_law 1026 = .ok (.laload, 1) := dk_47 (dk_at dksL_law_35 17 rfl rfl)
theorem dL_law_1027 : decode cL_law 1027 = .ok (.iload 6, 2) := dk_21 6 (dk_at dksL_law_35 18 rfl rfl)
theorem dL_law_1029 : decode cL_law 1029 = .ok (.i2l, 1) := dk_133 (dk_at dksL_law_35 20 rfl rfl)
theorem dL_law_1030 : decode cL_law 1030 = .ok (.lcmp, 1) := dk_148 (dk_at dksL_law_35 21 rfl rfl)
theorem dL_law_1031 : decode cL_law 1031 = .ok (.ifCond .eq 5, 3) := dk_153 0 5 (dk_at dksL_law_36 0 rfl rfl)
theorem dL_law_1034 : decode cL_law 1034 = .ok (.iconst 0, 1) := dk_3 (dk_at dksL_law_36 3 rfl rfl)
theorem dL_law_1035 : decode cL_law 1035 = .ok (.ireturn, 1) := dk_172 (dk_at dksL_law_36 4 rfl rfl)
theorem dL_law_1036 : decode cL_law 1036 = .ok (.goto 1618, 3) := dk_167 6 82 (dk_at dksL_law_36 5 rfl rfl)
theorem dL_law_1039 : decode cL_law 1039 = .ok (.aload_n 1, 1) := dk_43 (dk_at dksL_law_36 8 rfl rfl)
theorem dL_law_1040 : decode cL_law 1040 = .ok (.aload_n 0, 1) := dk_42 (dk_at dksL_law_36 9 rfl rfl)
theorem dL_law_1041 : decode cL_law 1041 = .ok (.iload 4, 2) := dk_21 4 (dk_at dksL_law_36 10 rfl rfl)
theorem dL_law_1043 : decode cL_law 1043 = .ok (.iconst 1, 1) := dk_4 (dk_at dksL_law_36 12 rfl rfl)
theorem dL_law_1044 : decode cL_law 1044 = .ok (.iadd, 1) := dk_96 (dk_at dksL_law_36 13 rfl rfl)
theorem dL_law_1045 : decode cL_law 1045 = .ok (.iaload, 1) := dk_46 (dk_at dksL_law_36 14 rfl rfl)
theorem dL_law_1046 : decode cL_law 1046 = .ok (.aload_n 3, 1) := dk_45 (dk_at dksL_law_36 15 rfl rfl)
theorem dL_law_1047 : decode cL_law 1047 = .ok (.invokestatic 195, 3) := dk_184 0 195 (dk_at dksL_law_36 16 rfl rfl)
theorem dL_law_1050 : decode cL_law 1050 = .ok (.istore 5, 2) := dk_54 5 (dk_at dksL_law_36 19 rfl rfl)
theorem dL_law_1052 : decode cL_law 1052 = .ok (.aload_n 2, 1) := dk_44 (dk_at dksL_law_36 21 rfl rfl)
theorem dL_law_1053 : decode cL_law 1053 = .ok (.aload_n 0, 1) := dk_42 (dk_at dksL_law_36 22 rfl rfl)
theorem dL_law_1054 : decode cL_law 1054 = .ok (.iload 4, 2) := dk_21 4 (dk_at dksL_law_37 0 rfl rfl)
theorem dL_law_1056 : decode cL_law 1056 = .ok (.iconst 1, 1) := dk_4 (dk_at dksL_law_37 2 rfl rfl)
theorem dL_law_1057 : decode cL_law 1057 = .ok (.iadd, 1) := dk_96 (dk_at dksL_law_37 3 rfl rfl)
theorem dL_law_1058 : decode cL_law 1058 = .ok (.iaload, 1) := dk_46 (dk_at dksL_law_37 4 rfl rfl)
theorem dL_law_1059 : decode cL_law 1059 = .ok (.invokevirtual 197, 3) := dk_182 0 197 (dk_at dksL_law_37 5 rfl rfl)
theorem dL_law_1062 : decode cL_law 1062 = .ok (.istore 6, 2) := dk_54 6 (dk_at dksL_law_37 8 rfl rfl)
theorem dL_law_1064 : decode cL_law 1064 = .ok (.aload_n 2, 1) := dk_44 (dk_at dksL_law_37 10 rfl rfl)
theorem dL_law_1065 : decode cL_law 1065 = .ok (.invokevirtual 164, 3) := dk_182 0 164 (dk_at dksL_law_37 11 rfl rfl)
theorem dL_law_1068 : decode cL_law 1068 = .ok (.iload 5, 2) := dk_21 5 (dk_at dksL_law_37 14 rfl rfl)
theorem dL_law_1070 : decode cL_law 1070 = .ok (.if_icmp .eq 5, 3) := dk_159 0 5 (dk_at dksL_law_37 16 rfl rfl)
theorem dL_law_1073 : decode cL_law 1073 = .ok (.iconst 0, 1) := dk_3 (dk_at dksL_law_37 19 rfl rfl)
theorem dL_law_1074 : decode cL_law 1074 = .ok (.ireturn, 1) := dk_172 (dk_at dksL_law_37 20 rfl rfl)
theorem dL_law_1075 : decode cL_law 1075 = .ok (.iload 5, 2) := dk_21 5 (dk_at dksL_law_37 21 rfl rfl)
theorem dL_law_1077 : decode cL_law 1077 = .ok (.ifCond .ne 15, 3) := dk_154 0 15 (dk_at dksL_law_38 0 rfl rfl)
theorem dL_law_1080 : decode cL_law 1080 = .ok (.aload_n 3, 1) := dk_45 (dk_at dksL_law_38 3 rfl rfl)
theorem dL_law_1081 : decode cL_law 1081 = .ok (.iconst 0, 1) := dk_3 (dk_at dksL_law_38 4 rfl rfl)
theorem dL_law_1082 : decode cL_law 1082 = .ok (.laload, 1) := dk_47 (dk_at dksL_law_38 5 rfl rfl)
theorem dL_law_1083 : decode cL_law 1083 = .ok (.iload 6, 2) := dk_21 6 (dk_at dksL_law_38 6 rfl rfl)
theorem dL_law_1085 : decode cL_law 1085 = .ok (.i2l, 1) := dk_133 (dk_at dksL_law_38 8 rfl rfl)
theorem dL_law_1086 : decode cL_law 1086 = .ok (.lcmp, 1) := dk_148 (dk_at dksL_law_38 9 rfl rfl)
theorem dL_law_1087 : decode cL_law 1087 = .ok (.ifCond .eq 5, 3) := dk_153 0 5 (dk_at dksL_law_38 10 rfl rfl)
theorem dL_law_1090 : decode cL_law 1090 = .ok (.iconst 0, 1) := dk_3 (dk_at dksL_law_38 13 rfl rfl)
theorem dL_law_1091 : decode cL_law 1091 = .ok (.ireturn, 1) := dk_172 (dk_at dksL_law_38 14 rfl rfl)
theorem dL_law_1092 : decode cL_law 1092 = .ok (.goto 1562, 3) := dk_167 6 26 (dk_at dksL_law_38 15 rfl rfl)
theorem dL_law_1095 : decode cL_law 1095 = .ok (.aload_n 1, 1) := dk_43 (dk_at dksL_law_38 18 rfl rfl)
theorem dL_law_1096 : decode cL_law 1096 = .ok (.aload_n 0, 1) := dk_42 (dk_at dksL_law_38 19 rfl rfl)
theorem dL_law_1097 : decode cL_law 1097 = .ok (.iload 4, 2) := dk_21 4 (dk_at dksL_law_38 20 rfl rfl)
theorem dL_law_1099 : decode cL_law 1099 = .ok (.iconst 1, 1) := dk_4 (dk_at dksL_law_38 22 rfl rfl)
theorem dL_law_1100 : decode cL_law 1100 = .ok (.iadd, 1) := dk_96 (dk_at dksL_law_38 23 rfl rfl)
theorem dL_law_1101 : decode cL_law 1101 = .ok (.iaload, 1) := dk_46 (dk_at dksL_law_39 0 rfl rfl)
theorem dL_law_1102 : decode cL_law 1102 = .ok (.aload_n 0, 1) := dk_42 (dk_at dksL_law_39 1 rfl rfl)
theorem dL_law_1103 : decode cL_law 1103 = .ok (.iload 4, 2) := dk_21 4 (dk_at dksL_law_39 2 rfl rfl)
theorem dL_law_1105 : decode cL_law 1105 = .ok (.iconst 2, 1) := dk_5 (dk_at dksL_law_39 4 rfl rfl)
theorem dL_law_1106 : decode cL_law 1106 = .ok (.iadd, 1) := dk_96 (dk_at dksL_law_39 5 rfl rfl)
theorem dL_law_1107 : decode cL_law 1107 = .ok (.iaload, 1) := dk_46 (dk_at dksL_law_39 6 rfl rfl)
theorem dL_law_1108 : decode cL_law 1108 = .ok (.aload_n 3, 1) := dk_45 (dk_at dksL_law_39 7 rfl rfl)
theorem dL_law_1109 : decode cL_law 1109 = .ok (.invokestatic 198, 3) := dk_184 0 198 (dk_at dksL_law_39 8 rfl rfl)
theorem dL_law_1112 : decode cL_law 1112 = .ok (.istore 5, 2) := dk_54 5 (dk_at dksL_law_39 11 rfl rfl)
theorem dL_law_1114 : decode cL_law 1114 = .ok (.aload_n 2, 1) := dk_44 (dk_at dksL_law_39 13 rfl rfl)
theorem dL_law_1115 : decode cL_law 1115 = .ok (.aload_n 0, 1) := dk_42 (dk_at dksL_law_39 14 rfl rfl)
theorem dL_law_1116 : decode cL_law 1116 = .ok (.iload 4, 2) := dk_21 4 (dk_at dksL_law_39 15 rfl rfl)
theorem dL_law_1118 : decode cL_law 1118 = .ok (.iconst 1, 1) := dk_4 (dk_at dksL_law_39 17 rfl rfl)
theorem dL_law_1119 : decode cL_law 1119 = .ok (.iadd, 1) := dk_96 (dk_at dksL_law_39 18 rfl rfl)
theorem dL_law_1120 : decode cL_law 1120 = .ok (.iaload, 1) := dk_46 (dk_at dksL_law_39 19 rfl rfl)
theorem dL_law_1121 : decode cL_law 1121 = .ok (.aload_n 0, 1) := dk_42 (dk_at dksL_law_39 20 rfl rfl)
theorem dL_law_1122 : decode cL_law 1122 = .ok (.iload 4, 2) := dk_21 4 (dk_at dksL_law_39 21 rfl rfl)
theorem dL_law_1124 : decode cL_law 1124 = .ok (.iconst 2, 1) := dk_5 (dk_at dksL_law_39 23 rfl rfl)
theorem dL_law_1125 : decode cL_law 1125 = .ok (.iadd, 1) := dk_96 (dk_at dksL_law_40 0 rfl rfl)
theorem dL_law_1126 : decode cL_law 1126 = .ok (.iaload, 1) := dk_46 (dk_at dksL_law_40 1 rfl rfl)
theorem dL_law_1127 : decode cL_law 1127 = .ok (.invokevirtual 200, 3) := dk_182 0 200 (dk_at dksL_law_40 2 rfl rfl)
theorem dL_law_1130 : decode cL_law 1130 = .ok (.istore 6, 2) := dk_54 6 (dk_at dksL_law_40 5 rfl rfl)
theorem dL_law_1132 : decode cL_law 1132 = .ok (.aload_n 2, 1) := dk_44 (dk_at dksL_law_40 7 rfl rfl)
theorem dL_law_1133 : decode cL_law 1133 = .ok (.invokevirtual 164, 3) := dk_182 0 164 (dk_at dksL_law_40 8 rfl rfl)
theorem dL_law_1136 : decode cL_law 1136 = .ok (.iload 5, 2) := dk_21 5 (dk_at dksL_law_40 11 rfl rfl)
theorem dL_law_1138 : decode cL_law 1138 = .ok (.if_icmp .eq 5, 3) := dk_159 0 5 (dk_at dksL_law_40 13 rfl rfl)
theorem dL_law_1141 : decode cL_law 1141 = .ok (.iconst 0, 1) := dk_3 (dk_at dksL_law_40 16 rfl rfl)
theorem dL_law_1142 : decode cL_law 1142 = .ok (.ireturn, 1) := dk_172 (dk_at dksL_law_40 17 rfl rfl)
theorem dL_law_1143 : decode cL_law 1143 = .ok (.iload 5, 2) := dk_21 5 (dk_at dksL_law_40 18 rfl rfl)
theorem dL_law_1145 : decode cL_law 1145 = .ok (.ifCond .ne 15, 3) := dk_154 0 15 (dk_at dksL_law_40 20 rfl rfl)
theorem dL_law_1148 : decode cL_law 1148 = .ok (.aload_n 3, 1) := dk_45 (dk_at dksL_law_40 23 rfl rfl)
theorem dL_law_1149 : decode cL_law 1149 = .ok (.iconst 0, 1) := dk_3 (dk_at dksL_law_41 0 rfl rfl)
theorem dL_law_1150 : decode cL_law 1150 = .ok (.laload, 1) := dk_47 (dk_at dksL_law_41 1 rfl rfl)
theorem dL_law_1151 : decode cL_law 1151 = .ok (.iload 6, 2) := dk_21 6 (dk_at dksL_law_41 2 rfl rfl)
theorem dL_law_1153 : decode cL_law 1153 = .ok (.i2l, 1) := dk_133 (dk_at dksL_law_41 4 rfl rfl)
theorem dL_law_1154 : decode cL_law 1154 = .ok (.lcmp, 1) := dk_148 (dk_at dksL_law_41 5 rfl rfl)
theorem dL_law_1155 : decode cL_law 1155 = .ok (.ifCond .eq 5, 3) := dk_153 0 5 (dk_at dksL_law_41 6 rfl rfl)
theorem dL_law_1158 : decode cL_law 1158 = .ok (.iconst 0, 1) := dk_3 (dk_at dksL_law_41 9 rfl rfl)
theorem dL_law_1159 : decode cL_law 1159 = .ok (.ireturn, 1) := dk_172 (dk_at dksL_law_41 10 rfl rfl)
theorem dL_law_1160 : decode cL_law 1160 = .ok (.goto 1494, 3) := dk_167 5 214 (dk_at dksL_law_41 11 rfl rfl)
theorem dL_law_1163 : decode cL_law 1163 = .ok (.aload_n 1, 1) := dk_43 (dk_at dksL_law_41 14 rfl rfl)
theorem dL_law_1164 : decode cL_law 1164 = .ok (.invokevirtual 201, 3) := dk_182 0 201 (dk_at dksL_law_41 15 rfl rfl)
theorem dL_law_1167 : decode cL_law 1167 = .ok (.aload_n 2, 1) := dk_44 (dk_at dksL_law_41 18 rfl rfl)
theorem dL_law_1168 : decode cL_law 1168 = .ok (.invokevirtual 204, 3) := dk_182 0 204 (dk_at dksL_law_41 19 rfl rfl)
theorem dL_law_1171 : decode cL_law 1171 = .ok (.if_icmp .eq 1483, 3) := dk_159 5 203 (dk_at dksL_law_42 0 rfl rfl)
theorem dL_law_1174 : decode cL_law 1174 = .ok (.iconst 0, 1) := dk_3 (dk_at dksL_law_42 3 rfl rfl)
theorem dL_law_1175 : decode cL_law 1175 = .ok (.ireturn, 1) := dk_172 (dk_at dksL_law_42 4 rfl rfl)
theorem dL_law_1176 : decode cL_law 1176 = .ok (.aload_n 1, 1) := dk_43 (dk_at dksL_law_42 5 rfl rfl)
theorem dL_law_1177 : decode cL_law 1177 = .ok (.invokevirtual 205, 3) := dk_182 0 205 (dk_at dksL_law_42 6 rfl rfl)
theorem dL_law_1180 : decode cL_law 1180 = .ok (.aload_n 2, 1) := dk_44 (dk_at dksL_law_42 9 rfl rfl)
theorem dL_law_1181 : decode cL_law 1181 = .ok (.invokevirtual 208, 3) := dk_182 0 208 (dk_at dksL_law_42 10 rfl rfl)
theorem dL_law_1184 : decode cL_law 1184 = .ok (.if_icmp .eq 1470, 3) := dk_159 5 190 (dk_at dksL_law_42 13 rfl rfl)
theorem dL_law_1187 : decode cL_law 1187 = .ok (.iconst 0, 1) := dk_3 (dk_at dksL_law_42 16 rfl rfl)
theorem dL_law_1188 : decode cL_law 1188 = .ok (.ireturn, 1) := dk_172 (dk_at dksL_law_42 17 rfl rfl)
theorem dL_law_1189 : decode cL_law 1189 = .ok (.aload_n 1, 1) := dk_43 (dk_at dksL_law_42 18 rfl rfl)
theorem dL_law_1190 : decode cL_law 1190 = .ok (.invokevirtual 209, 3) := dk_182 0 209 (dk_at dksL_law_42 19 rfl rfl)
theorem dL_law_1193 : decode cL_law 1193 = .ok (.aload_n 2, 1) := dk_44 (dk_at dksL_law_42 22 rfl rfl)
theorem dL_law_1194 : decode cL_law 1194 = .ok (.invokevirtual 212, 3) := dk_182 0 212 (dk_at dksL_law_43 0 rfl rfl)
theorem dL_law_1197 : decode cL_law 1197 = .ok (.if_icmp .eq 1457, 3) := dk_159 5 177 (dk_at dksL_law_43 3 rfl rfl)
theorem dL_law_1200 : decode cL_law 1200 = .ok (.iconst 0, 1) := dk_3 (dk_at dksL_law_43 6 rfl rfl)
theorem dL_law_1201 : decode cL_law 1201 = .ok (.ireturn, 1) := dk_172 (dk_at dksL_law_43 7 rfl rfl)
theorem dL_law_1202 : decode cL_law 1202 = .ok (.aload_n 1, 1) := dk_43 (dk_at dksL_law_43 8 rfl rfl)
theorem dL_law_1203 : decode cL_law 1203 = .ok (.aload_n 0, 1) := dk_42 (dk_at dksL_law_43 9 rfl rfl)
theorem dL_law_1204 : decode cL_law 1204 = .ok (.iload 4, 2) := dk_21 4 (dk_at dksL_law_43 10 rfl rfl)
theorem dL_law_1206 : decode cL_law 1206 = .ok (.iconst 1, 1) := dk_4 (dk_at dksL_law_43 12 rfl rfl)
theorem dL_law_1207 : decode cL_law 1207 = .ok (.iadd, 1) := dk_96 (dk_at dksL_law_43 13 rfl rfl)
theorem dL_law_1208 : decode cL_law 1208 = .ok (.iaload, 1) := dk_46 (dk_at dksL_law_43 14 rfl rfl)
theorem dL_law_1209 : decode cL_law 1209 = .ok (.aload_n 3, 1) := dk_45 (dk_at dksL_law_43 15 rfl rfl)
theorem dL_law_1210 : decode cL_law 1210 = .ok (.invokestatic 213, 3) := dk_184 0 213 (dk_at dksL_law_43 16 rfl rfl)
theorem dL_law_1213 : decode cL_law 1213 = .ok (.istore 5, 2) := dk_54 5 (dk_at dksL_law_43 19 rfl rfl)
theorem dL_law_1215 : decode cL_law 1215 = .ok (.aload_n 2, 1) := dk_44 (dk_at dksL_law_43 21 rfl rfl)
theorem dL_law_1216 : decode cL_law 1216 = .ok (.aload_n 0, 1) := dk_42 (dk_at dksL_law_43 22 rfl rfl)
theorem dL_law_1217 : decode cL_law 1217 = .ok (.iload 4, 2) := dk_21 4 (dk_at dksL_law_44 0 rfl rfl)
theorem dL_law_1219 : decode cL_law 1219 = .ok (.iconst 1, 1) := dk_4 (dk_at dksL_law_44 2 rfl rfl)
theorem dL_law_1220 : decode cL_law 1220 = .ok (.iadd, 1) := dk_96 (dk_at dksL_law_44 3 rfl rfl)
theorem dL_law_1221 : decode cL_law 1221 = .ok (.iaload, 1) := dk_46 (dk_at dksL_law_44 4 rfl rfl)
theorem dL_law_1222 : decode cL_law 1222 = .ok (.invokevirtual 215, 3) := dk_182 0 215 (dk_at dksL_law_44 5 rfl rfl)
theorem dL_law_1225 : decode cL_law 1225 = .ok (.istore 6, 2) := dk_54 6 (dk_at dksL_law_44 8 rfl rfl)
theorem dL_law_1227 : decode cL_law 1227 = .ok (.aload_n 2, 1) := dk_44 (dk_at dksL_law_44 10 rfl rfl)
theorem dL_law_1228 : decode cL_law 1228 = .ok (.invokevirtual 164, 3) := dk_182 0 164 (dk_at dksL_law_44 11 rfl rfl)
theorem dL_law_1231 : decode cL_law 1231 = .ok (.iload 5, 2) := dk_21 5 (dk_at dksL_law_44 14 rfl rfl)
theorem dL_law_1233 : decode cL_law 1233 = .ok (.if_icmp .eq 5, 3) := dk_159 0 5 (dk_at dksL_law_44 16 rfl rfl)
theorem dL_law_1236 : decode cL_law 1236 = .ok (.iconst 0, 1) := dk_3 (dk_at dksL_law_44 19 rfl rfl)
theorem dL_law_1237 : decode cL_law 1237 = .ok (.ireturn, 1) := dk_172 (dk_at dksL_law_44 20 rfl rfl)
theorem dL_law_1238 : decode cL_law 1238 = .ok (.iload 5, 2) := dk_21 5 (dk_at dksL_law_44 21 rfl rfl)
theorem dL_law_1240 : decode cL_law 1240 = .ok (.ifCond .ne 15, 3) := dk_154 0 15 (dk_at dksL_law_45 0 rfl rfl)
theorem dL_law_1243 : decode cL_law 1243 = .ok (.aload_n 3, 1) := dk_45 (dk_at dksL_law_45 3 rfl rfl)
theorem dL_law_1244 : decode cL_law 1244 = .ok (.iconst 0, 1) := dk_3 (dk_at dksL_law_45 4 rfl rfl)
theorem dL_law_1245 : decode cL_law 1245 = .ok (.laload, 1) := dk_47 (dk_at dksL_law_45 5 rfl rfl)
theorem dL_law_1246 : decode cL_law 1246 = .ok (.iload 6, 2) := dk_21 6 (dk_at dksL_law_45 6 rfl rfl)
theorem dL_law_1248 : decode cL_law 1248 = .ok (.i2l, 1) := dk_133 (dk_at dksL_law_45 8 rfl rfl)
theorem dL_law_1249 : decode cL_law 1249 = .ok (.lcmp, 1) := dk_148 (dk_at dksL_law_45 9 rfl rfl)
theorem dL_law_1250 : decode cL_law 1250 = .ok (.ifCond .eq 5, 3) := dk_153 0 5 (dk_at dksL_law_45 10 rfl rfl)
theorem dL_law_1253 : decode cL_law 1253 = .ok (.iconst 0, 1) := dk_3 (dk_at dksL_law_45 13 rfl rfl)
theorem dL_law_1254 : decode cL_law 1254 = .ok (.ireturn, 1) := dk_172 (dk_at dksL_law_45 14 rfl rfl)
theorem dL_law_1255 : decode cL_law 1255 = .ok (.goto 1399, 3) := dk_167 5 119 (dk_at dksL_law_45 15 rfl rfl)
theorem dL_law_1258 : decode cL_law 1258 = .ok (.aload_n 1, 1) := dk_43 (dk_at dksL_law_45 18 rfl rfl)
theorem dL_law_1259 : decode cL_law 1259 = .ok (.aload_n 0, 1) := dk_42 (dk_at dksL_law_45 19 rfl rfl)
theorem dL_law_1260 : decode cL_law 1260 = .ok (.iload 4, 2) := dk_21 4 (dk_at dksL_law_45 20 rfl rfl)
theorem dL_law_1262 : decode cL_law 1262 = .ok (.iconst 1, 1) := dk_4 (dk_at dksL_law_45 22 rfl rfl)
theorem dL_law_1263 : decode cL_law 1263 = .ok (.iadd, 1) := dk_96 (dk_at dksL_law_45 23 rfl rfl)
theorem dL_law_1264 : decode cL_law 1264 = .ok (.iaload, 1) := dk_46 (dk_at dksL_law_46 0 rfl rfl)
theorem dL_law_1265 : decode cL_law 1265 = .ok (.aload_n 3, 1) := dk_45 (dk_at dksL_law_46 1 rfl rfl)
theorem dL_law_1266 : decode cL_law 1266 = .ok (.invokestatic 216, 3) := dk_184 0 216 (dk_at dksL_law_46 2 rfl rfl)
theorem dL_law_1269 : decode cL_law 1269 = .ok (.istore 5, 2) := dk_54 5 (dk_at dksL_law_46 5 rfl rfl)
theorem dL_law_1271 : decode cL_law 1271 = .ok (.aload_n 2, 1) := dk_44 (dk_at dksL_law_46 7 rfl rfl)
theorem dL_law_1272 : decode cL_law 1272 = .ok (.aload_n 0, 1) := dk_42 (dk_at dksL_law_46 8 rfl rfl)
theorem dL_law_1273 : decode cL_law 1273 = .ok (.iload 4, 2) := dk_21 4 (dk_at dksL_law_46 9 rfl rfl)
theorem dL_law_1275 : decode cL_law 1275 = .ok (.iconst 1, 1) := dk_4 (dk_at dksL_law_46 11 rfl rfl)
theorem dL_law_1276 : decode cL_law 1276 = .ok (.iadd, 1) := dk_96 (dk_at dksL_law_46 12 rfl rfl)
theorem dL_law_1277 : decode cL_law 1277 = .ok (.iaload, 1) := dk_46 (dk_at dksL_law_46 13 rfl rfl)
theorem dL_law_1278 : decode cL_law 1278 = .ok (.invokevirtual 218, 3) := dk_182 0 218 (dk_at dksL_law_46 14 rfl rfl)
theorem dL_law_1281 : decode cL_law 1281 = .ok (.istore 6, 2) := dk_54 6 (dk_at dksL_law_46 17 rfl rfl)
theorem dL_law_1283 : decode cL_law 1283 = .ok (.aload_n 2, 1) := dk_44 (dk_at dksL_law_46 19 rfl rfl)
theorem dL_law_1284 : decode cL_law 1284 = .ok (.invokevirtual 164, 3) := dk_182 0 164 (dk_at dksL_law_46 20 rfl rfl)
theorem dL_law_1287 : decode cL_law 1287 = .ok (.iload 5, 2) := dk_21 5 (dk_at dksL_law_47 0 rfl rfl)
theorem dL_law_1289 : decode cL_law 1289 = .ok (.if_icmp .eq 5, 3) := dk_159 0 5 (dk_at dksL_law_47 2 rfl rfl)
theorem dL_law_1292 : decode cL_law 1292 = .ok (.iconst 0, 1) := dk_3 (dk_at dksL_law_47 5 rfl rfl)
theorem dL_law_1293 : decode cL_law 1293 = .ok (.ireturn, 1) := dk_172 (dk_at dksL_law_47 6 rfl rfl)
theorem dL_law_1294 : decode cL_law 1294 = .ok (.iload 5, 2) := dk_21 5 (dk_at dksL_law_47 7 rfl rfl)
theorem dL_law_1296 : decode cL_law 1296 = .ok (.ifCond .ne 15, 3) := dk_154 0 15 (dk_at dksL_law_47 9 rfl rfl)
theorem dL_law_1299 : decode cL_law 1299 = .ok (.aload_n 3, 1) := dk_45 (dk_at dksL_law_47 12 rfl rfl)
theorem dL_law_1300 : decode cL_law 1300 = .ok (.iconst 0, 1) := dk_3 (dk_at dksL_law_47 13 rfl rfl)
theorem dL_law_1301 : decode cL_law 1301 = .ok (.laload, 1) := dk_47 (dk_at dksL_law_47 14 rfl rfl)
theorem dL_law_1302 : decode cL_law 1302 = .ok (.iload 6, 2) := dk_21 6 (dk_at dksL_law_47 15 rfl rfl)
theorem dL_law_1304 : decode cL_law 1304 = .ok (.i2l, 1) := dk_133 (dk_at dksL_law_47 17 rfl rfl)
theorem dL_law_1305 : decode cL_law 1305 = .ok (.lcmp, 1) := dk_148 (dk_at dksL_law_47 18 rfl rfl)
theorem dL_law_1306 : decode cL_law 1306 = .ok (.ifCond .eq 5, 3) := dk_153 0 5 (dk_at dksL_law_47 19 rfl rfl)
theorem dL_law_1309 : decode cL_law 1309 = .ok (.iconst 0, 1) := dk_3 (dk_at dksL_law_47 22 rfl rfl)
theorem dL_law_1310 : decode cL_law 1310 = .ok (.ireturn, 1) := dk_172 (dk_at dksL_law_47 23 rfl rfl)
theorem dL_law_1311 : decode cL_law 1311 = .ok (.goto 1343, 3) := dk_167 5 63 (dk_at dksL_law_48 0 rfl rfl)
theorem dL_law_1314 : decode cL_law 1314 = .ok (.aload_n 1, 1) := dk_43 (dk_at dksL_law_48 3 rfl rfl)
theorem dL_law_1315 : decode cL_law 1315 = .ok (.aload_n 0, 1) := dk_42 (dk_at dksL_law_48 4 rfl rfl)
theorem dL_law_1316 : decode cL_law 1316 = .ok (.iload 4, 2) := dk_21 4 (dk_at dksL_law_48 5 rfl rfl)
theorem dL_law_1318 : decode cL_law 1318 = .ok (.iconst 1, 1) := dk_4 (dk_at dksL_law_48 7 rfl rfl)
theorem dL_law_1319 : decode cL_law 1319 = .ok (.iadd, 1) := dk_96 (dk_at dksL_law_48 8 rfl rfl)
theorem dL_law_1320 : decode cL_law 1320 = .ok (.iaload, 1) := dk_46 (dk_at dksL_law_48 9 rfl rfl)
theorem dL_law_1321 : decode cL_law 1321 = .ok (.aload_n 0, 1) := dk_42 (dk_at dksL_law_48 10 rfl rfl)
theorem dL_law_1322 : decode cL_law 1322 = .ok (.iload 4, 2) := dk_21 4 (dk_at dksL_law_48 11 rfl rfl)
theorem dL_law_1324 : decode cL_law 1324 = .ok (.iconst 2, 1) := dk_5 (dk_at dksL_law_48 13 rfl rfl)
theorem dL_law_1325 : decode cL_law 1325 = .ok (.iadd, 1) := dk_96 (dk_at dksL_law_48 14 rfl rfl)
theorem dL_law_1326 : decode cL_law 1326 = .ok (.iaload, 1) := dk_46 (dk_at dksL_law_48 15 rfl rfl)
theorem dL_law_1327 : decode cL_law 1327 = .ok (.aload_n 3, 1) := dk_45 (dk_at dksL_law_48 16 rfl rfl)
theorem dL_law_1328 : decode cL_law 1328 = .ok (.invokestatic 219, 3) := dk_184 0 219 (dk_at dksL_law_48 17 rfl rfl)
theorem dL_law_1331 : decode cL_law 1331 = .ok (.istore 5, 2) := dk_54 5 (dk_at dksL_law_48 20 rfl rfl)
theorem dL_law_1333 : decode cL_law 1333 = .ok (.aload_n 2, 1) := dk_44 (dk_at dksL_law_48 22 rfl rfl)
theorem dL_law_1334 : decode cL_law 1334 = .ok (.aload_n 0, 1) := dk_42 (dk_at dksL_law_48 23 rfl rfl)
theorem dL_law_1335 : decode cL_law 1335 = .ok (.iload 4, 2) := dk_21 4 (dk_at dksL_law_49 0 rfl rfl)
theorem dL_law_1337 : decode cL_law 1337 = .ok (.iconst 1, 1) := dk_4 (dk_at dksL_law_49 2 rfl rfl)
theorem dL_law_1338 : decode cL_law 1338 = .ok (.iadd, 1) := dk_96 (dk_at dksL_law_49 3 rfl rfl)
theorem dL_law_1339 : decode cL_law 1339 = .ok (.iaload, 1) := dk_46 (dk_at dksL_law_49 4 rfl rfl)
theorem dL_law_1340 : decode cL_law 1340 = .ok (.aload_n 0, 1) := dk_42 (dk_at dksL_law_49 5 rfl rfl)
theorem dL_law_1341 : decode cL_law 1341 = .ok (.iload 4, 2) := dk_21 4 (dk_at dksL_law_49 6 rfl rfl)
theorem dL_law_1343 : decode cL_law 1343 = .ok (.iconst 2, 1) := dk_5 (dk_at dksL_law_49 8 rfl rfl)
theorem dL_law_1344 : decode cL_law 1344 = .ok (.iadd, 1) := dk_96 (dk_at dksL_law_49 9 rfl rfl)
theorem dL_law_1345 : decode cL_law 1345 = .ok (.iaload, 1) := dk_46 (dk_at dksL_law_49 10 rfl rfl)
theorem dL_law_1346 : decode cL_law 1346 = .ok (.invokevirtual 221, 3) := dk_182 0 221 (dk_at dksL_law_49 11 rfl rfl)
theorem dL_law_1349 : decode cL_law 1349 = .ok (.istore 6, 2) := dk_54 6 (dk_at dksL_law_49 14 rfl rfl)
theorem dL_law_1351 : decode cL_law 1351 = .ok (.aload_n 2, 1) := dk_44 (dk_at dksL_law_49 16 rfl rfl)
theorem dL_law_1352 : decode cL_law 1352 = .ok (.invokevirtual 164, 3) := dk_182 0 164 (dk_at dksL_law_49 17 rfl rfl)
theorem dL_law_1355 : decode cL_law 1355 = .ok (.iload 5, 2) := dk_21 5 (dk_at dksL_law_49 20 rfl rfl)
theorem dL_law_1357 : decode cL_law 1357 = .ok (.if_icmp .eq 5, 3) := dk_159 0 5 (dk_at dksL_law_50 0 rfl rfl)
theorem dL_law_1360 : decode cL_law 1360 = .ok (.iconst 0, 1) := dk_3 (dk_at dksL_law_50 3 rfl rfl)
theorem dL_law_1361 : decode cL_law 1361 = .ok (.ireturn, 1) := dk_172 (dk_at dksL_law_50 4 rfl rfl)
theorem dL_law_1362 : decode cL_law 1362 = .ok (.iload 5, 2) := dk_21 5 (dk_at dksL_law_50 5 rfl rfl)
theorem dL_law_1364 : decode cL_law 1364 = .ok (.ifCond .ne 15, 3) := dk_154 0 15 (dk_at dksL_law_50 7 rfl rfl)
theorem dL_law_1367 : decode cL_law 1367 = .ok (.aload_n 3, 1) := dk_45 (dk_at dksL_law_50 10 rfl rfl)
theorem dL_law_1368 : decode cL_law 1368 = .ok (.iconst 0, 1) := dk_3 (dk_at dksL_law_50 11 rfl rfl)
theorem dL_law_1369 : decode cL_law 1369 = .ok (.laload, 1) := dk_47 (dk_at dksL_law_50 12 rfl rfl)
theorem dL_law_1370 : decode cL_law 1370 = .ok (.iload 6, 2) := dk_21 6 (dk_at dksL_law_50 13 rfl rfl)
theorem dL_law_1372 : decode cL_law 1372 = .ok (.i2l, 1) := dk_133 (dk_at dksL_law_50 15 rfl rfl)
theorem dL_law_1373 : decode cL_law 1373 = .ok (.lcmp, 1) := dk_148 (dk_at dksL_law_50 16 rfl rfl)
theorem dL_law_1374 : decode cL_law 1374 = .ok (.ifCond .eq 5, 3) := dk_153 0 5 (dk_at dksL_law_50 17 rfl rfl)
theorem dL_law_1377 : decode cL_law 1377 = .ok (.iconst 0, 1) := dk_3 (dk_at dksL_law_50 20 rfl rfl)
theorem dL_law_1378 : decode cL_law 1378 = .ok (.ireturn, 1) := dk_172 (dk_at dksL_law_50 21 rfl rfl)
theorem dL_law_1379 : decode cL_law 1379 = .ok (.goto 1275, 3) := dk_167 4 251 (dk_at dksL_law_51 0 rfl rfl)
theorem dL_law_1382 : decode cL_law 1382 = .ok (.aload_n 1, 1) := dk_43 (dk_at dksL_law_51 3 rfl rfl)
theorem dL_law_1383 : decode cL_law 1383 = .ok (.aload_n 0, 1) := dk_42 (dk_at dksL_law_51 4 rfl rfl)
theorem dL_law_1384 : decode cL_law 1384 = .ok (.iload 4, 2) := dk_21 4 (dk_at dksL_law_51 5 rfl rfl)
theorem dL_law_1386 : decode cL_law 1386 = .ok (.iconst 1, 1) := dk_4 (dk_at dksL_law_51 7 rfl rfl)
theorem dL_law_1387 : decode cL_law 1387 = .ok (.iadd, 1) := dk_96 (dk_at dksL_law_51 8 rfl rfl)
theorem dL_law_1388 : decode cL_law 1388 = .ok (.iaload, 1) := dk_46 (dk_at dksL_law_51 9 rfl rfl)
theorem dL_law_1389 : decode cL_law 1389 = .ok (.aload_n 3, 1) := dk_45 (dk_at dksL_law_51 10 rfl rfl)
theorem dL_law_1390 : decode cL_law 1390 = .ok (.invokestatic 222, 3) := dk_184 0 222 (dk_at dksL_law_51 11 rfl rfl)
theorem dL_law_1393 : decode cL_law 1393 = .ok (.istore 5, 2) := dk_54 5 (dk_at dksL_law_51 14 rfl rfl)
theorem dL_law_1395 : decode cL_law 1395 = .ok (.aload_n 2, 1) := dk_44 (dk_at dksL_law_51 16 rfl rfl)
theorem dL_law_1396 : decode cL_law 1396 = .ok (.aload_n 0, 1) := dk_42 (dk_at dksL_law_51 17 rfl rfl)
theorem dL_law_1397 : decode cL_law 1397 = .ok (.iload 4, 2) := dk_21 4 (dk_at dksL_law_51 18 rfl rfl)
theorem dL_law_1399 : decode cL_law 1399 = .ok (.iconst 1, 1) := dk_4 (dk_at dksL_law_51 20 rfl rfl)
theorem dL_law_1400 : decode cL_law 1400 = .ok (.iadd, 1) := dk_96 (dk_at dksL_law_51 21 rfl rfl)
theorem dL_law_1401 : decode cL_law 1401 = .ok (.iaload, 1) := dk_46 (dk_at dksL_law_51 22 rfl rfl)
theorem dL_law_1402 : decode cL_law 1402 = .ok (.invokevirtual 224, 3) := dk_182 0 224 (dk_at dksL_law_52 0 rfl rfl)
theorem dL_law_1405 : decode cL_law 1405 = .ok (.istore 6, 2) := dk_54 6 (dk_at dksL_law_52 3 rfl rfl)
theorem dL_law_1407 : decode cL_law 1407 = .ok (.aload_n 2, 1) := dk_44 (dk_at dksL_law_52 5 rfl rfl)
theorem dL_law_1408 : decode cL_law 1408 = .ok (.invokevirtual 164, 3) := dk_182 0 164 (dk_at dksL_law_52 6 rfl rfl)
theorem dL_law_1411 : decode cL_law 1411 = .ok (.iload 5, 2) := dk_21 5 (dk_at dksL_law_52 9 rfl rfl)
theorem dL_law_1413 : decode cL_law 1413 = .ok (.if_icmp .eq 5, 3) := dk_159 0 5 (dk_at dksL_law_52 11 rfl rfl)
theorem dL_law_1416 : decode cL_law 1416 = .ok (.iconst 0, 1) := dk_3 (dk_at dksL_law_52 14 rfl rfl)
theorem dL_law_1417 : decode cL_law 1417 = .ok (.ireturn, 1) := dk_172 (dk_at dksL_law_52 15 rfl rfl)
theorem dL_law_1418 : decode cL_law 1418 = .ok (.iload 5, 2) := dk_21 5 (dk_at dksL_law_52 16 rfl rfl)
theorem dL_law_1420 : decode cL_law 1420 = .ok (.ifCond .ne 15, 3) := dk_154 0 15 (dk_at dksL_law_52 18 rfl rfl)
theorem dL_law_1423 : decode cL_law 1423 = .ok (.aload_n 3, 1) := dk_45 (dk_at dksL_law_52 21 rfl rfl)
theorem dL_law_1424 : decode cL_law 1424 = .ok (.iconst 0, 1) := dk_3 (dk_at dksL_law_52 22 rfl rfl)
theorem dL_law_1425 : decode cL_law 1425 = .ok (.laload, 1) := dk_47 (dk_at dksL_law_52 23 rfl rfl)
theorem dL_law_1426 : decode cL_law 1426 = .ok (.iload 6, 2) := dk_21 6 (dk_at dksL_law_53 0 rfl rfl)
theorem dL_law_1428 : decode cL_law 1428 = .ok (.i2l, 1) := dk_133 (dk_at dksL_law_53 2 rfl rfl)
theorem dL_law_1429 : decode cL_law 1429 = .ok (.lcmp, 1) := dk_148 (dk_at dksL_law_53 3 rfl rfl)
theorem dL_law_1430 : decode cL_law 1430 = .ok (.ifCond .eq 5, 3) := dk_153 0 5 (dk_at dksL_law_53 4 rfl rfl)
theorem dL_law_1433 : decode cL_law 1433 = .ok (.iconst 0, 1) := dk_3 (dk_at dksL_law_53 7 rfl rfl)
theorem dL_law_1434 : decode cL_law 1434 = .ok (.ireturn, 1) := dk_172 (dk_at dksL_law_53 8 rfl rfl)
theorem dL_law_1435 : decode cL_law 1435 = .ok (.goto 1219, 3) := dk_167 4 195 (dk_at dksL_law_53 9 rfl rfl)
theorem dL_law_1438 : decode cL_law 1438 = .ok (.aload_n 1, 1) := dk_43 (dk_at dksL_law_53 12 rfl rfl)
theorem dL_law_1439 : decode cL_law 1439 = .ok (.aload_n 0, 1) := dk_42 (dk_at dksL_law_53 13 rfl rfl)
theorem dL_law_1440 : decode cL_law 1440 = .ok (.iload 4, 2) := dk_21 4 (dk_at dksL_law_53 14 rfl rfl)
theorem dL_law_1442 : decode cL_law 1442 = .ok (.iconst 1, 1) := dk_4 (dk_at dksL_law_53 16 rfl rfl)
theorem dL_law_1443 : decode cL_law 1443 = .ok (.iadd, 1) := dk_96 (dk_at dksL_law_53 17 rfl rfl)
theorem dL_law_1444 : decode cL_law 1444 = .ok (.iaload, 1) := dk_46 (dk_at dksL_law_53 18 rfl rfl)
theorem dL_law_1445 : decode cL_law 1445 = .ok (.aload_n 3, 1) := dk_45 (dk_at dksL_law_53 19 rfl rfl)
theorem dL_law_1446 : decode cL_law 1446 = .ok (.invokestatic 225, 3) := dk_184 0 225 (dk_at dksL_law_53 20 rfl rfl)
theorem dL_law_1449 : decode cL_law 1449 = .ok (.istore 5, 2) := dk_54 5 (dk_at dksL_law_54 0 rfl rfl)
theorem dL_law_1451 : decode cL_law 1451 = .ok (.aload_n 2, 1) := dk_44 (dk_at dksL_law_54 2 rfl rfl)
theorem dL_law_1452 : decode cL_law 1452 = .ok (.aload_n 0, 1) := dk_42 (dk_at dksL_law_54 3 rfl rfl)
theorem dL_law_1453 : decode cL_law 1453 = .ok (.iload 4, 2) := dk_21 4 (dk_at dksL_law_54 4 rfl rfl)
theorem dL_law_1455 : decode cL_law 1455 = .ok (.iconst 1, 1) := dk_4 (dk_at dksL_law_54 6 rfl rfl)
theorem dL_law_1456 : decode cL_law 1456 = .ok (.iadd, 1) := dk_96 (dk_at dksL_law_54 7 rfl rfl)
theorem dL_law_1457 : decode cL_law 1457 = .ok (.iaload, 1) := dk_46 (dk_at dksL_law_54 8 rfl rfl)
theorem dL_law_1458 : decode cL_law 1458 = .ok (.invokevirtual 227, 3) := dk_182 0 227 (dk_at dksL_law_54 9 rfl rfl)
theorem dL_law_1461 : decode cL_law 1461 = .ok (.istore 6, 2) := dk_54 6 (dk_at dksL_law_54 12 rfl rfl)
theorem dL_law_1463 : decode cL_law 1463 = .ok (.aload_n 2, 1) := dk_44 (dk_at dksL_law_54 14 rfl rfl)
theorem dL_law_1464 : decode cL_law 1464 = .ok (.invokevirtual 164, 3) := dk_182 0 164 (dk_at dksL_law_54 15 rfl rfl)
theorem dL_law_1467 : decode cL_law 1467 = .ok (.iload 5, 2) := dk_21 5 (dk_at dksL_law_54 18 rfl rfl)
theorem dL_law_1469 : decode cL_law 1469 = .ok (.if_icmp .eq 5, 3) := dk_159 0 5 (dk_at dksL_law_54 20 rfl rfl)
theorem dL_law_1472 : decode cL_law 1472 = .ok (.iconst 0, 1) := dk_3 (dk_at dksL_law_54 23 rfl rfl)
theorem dL_law_1473 : decode cL_law 1473 = .ok (.ireturn, 1) := dk_172 (dk_at dksL_law_55 0 rfl rfl)
theorem dL_law_1474 : decode cL_law 1474 = .ok (.iload 5, 2) := dk_21 5 (dk_at dksL_law_55 1 rfl rfl)
theorem dL_law_1476 : decode cL_law 1476 = .ok (.ifCond .ne 22, 3) := dk_154 0 22 (dk_at dksL_law_55 3 rfl rfl)
theorem dL_law_1479 : decode cL_law 1479 = .ok (.aload_n 3, 1) := dk_45 (dk_at dksL_law_55 6 rfl rfl)
theorem dL_law_1480 : decode cL_law 1480 = .ok (.iconst 0, 1) := dk_3 (dk_at dksL_law_55 7 rfl rfl)
theorem dL_law_1481 : decode cL_law 1481 = .ok (.laload, 1) := dk_47 (dk_at dksL_law_55 8 rfl rfl)
theorem dL_law_1482 : decode cL_law 1482 = .ok (.iload 6, 2) := dk_21 6 (dk_at dksL_law_55 9 rfl rfl)
theorem dL_law_1484 : decode cL_law 1484 = .ok (.ifCond .eq 7, 3) := dk_153 0 7 (dk_at dksL_law_55 11 rfl rfl)
theorem dL_law_1487 : decode cL_law 1487 = .ok (.lconst 1, 1) := dk_10 (dk_at dksL_law_55 14 rfl rfl)
theorem dL_law_1488 : decode cL_law 1488 = .ok (.goto 4, 3) := dk_167 0 4 (dk_at dksL_law_55 15 rfl rfl)
theorem dL_law_1491 : decode cL_law 1491 = .ok (.lconst 0, 1) := dk_9 (dk_at dksL_law_55 18 rfl rfl)
theorem dL_law_1492 : decode cL_law 1492 = .ok (.lcmp, 1) := dk_148 (dk_at dksL_law_55 19 rfl rfl)
theorem dL_law_1493 : decode cL_law 1493 = .ok (.ifCond .eq 5, 3) := dk_153 0 5 (dk_at dksL_law_55 20 rfl rfl)
theorem dL_law_1496 : decode cL_law 1496 = .ok (.iconst 0, 1) := dk_3 (dk_at dksL_law_55 23 rfl rfl)
theorem dL_law_1497 : decode cL_law 1497 = .ok (.ireturn, 1) := dk_172 (dk_at dksL_law_56 0 rfl rfl)
theorem dL_law_1498 : decode cL_law 1498 = .ok (.goto 1156, 3) := dk_167 4 132 (dk_at dksL_law_56 1 rfl rfl)
theorem dL_law_1501 : decode cL_law 1501 = .ok (.aload_n 1, 1) := dk_43 (dk_at dksL_law_56 4 rfl rfl)
theorem dL_law_1502 : decode cL_law 1502 = .ok (.aload_n 0, 1) := dk_42 (dk_at dksL_law_56 5 rfl rfl)
theorem dL_law_1503 : decode cL_law 1503 = .ok (.iload 4, 2) := dk_21 4 (dk_at dksL_law_56 6 rfl rfl)
theorem dL_law_1505 : decode cL_law 1505 = .ok (.iconst 1, 1) := dk_4 (dk_at dksL_law_56 8 rfl rfl)
theorem dL_law_1506 : decode cL_law 1506 = .ok (.iadd, 1) := dk_96 (dk_at dksL_law_56 9 rfl rfl)
theorem dL_law_1507 : decode cL_law 1507 = .ok (.iaload, 1) := dk_46 (dk_at dksL_law_56 10 rfl rfl)
theorem dL_law_1508 : decode cL_law 1508 = .ok (.aload_n 3, 1) := dk_45 (dk_at dksL_law_56 11 rfl rfl)
theorem dL_law_1509 : decode cL_law 1509 = .ok (.invokestatic 228, 3) := dk_184 0 228 (dk_at dksL_law_56 12 rfl rfl)
theorem dL_law_1512 : decode cL_law 1512 = .ok (.istore 5, 2) := dk_54 5 (dk_at dksL_law_56 15 rfl rfl)
theorem dL_law_1514 : decode cL_law 1514 = .ok (.aload_n 2, 1) := dk_44 (dk_at dksL_law_56 17 rfl rfl)
theorem dL_law_1515 : decode cL_law 1515 = .ok (.aload_n 0, 1) := dk_42 (dk_at dksL_law_56 18 rfl rfl)
theorem dL_law_1516 : decode cL_law 1516 = .ok (.iload 4, 2) := dk_21 4 (dk_at dksL_law_56 19 rfl rfl)
theorem dL_law_1518 : decode cL_law 1518 = .ok (.iconst 1, 1) := dk_4 (dk_at dksL_law_56 21 rfl rfl)
theorem dL_law_1519 : decode cL_law 1519 = .ok (.iadd, 1) := dk_96 (dk_at dksL_law_56 22 rfl rfl)
theorem dL_law_1520 : decode cL_law 1520 = .ok (.iaload, 1) := dk_46 (dk_at dksL_law_56 23 rfl rfl)
theorem dL_law_1521 : decode cL_law 1521 = .ok (.invokevirtual 230, 3) := dk_182 0 230 (dk_at dksL_law_57 0 rfl rfl)
theorem dL_law_1524 : decode cL_law 1524 = .ok (.istore 6, 2) := dk_54 6 (dk_at dksL_law_57 3 rfl rfl)
theorem dL_law_1526 : decode cL_law 1526 = .ok (.aload_n 2, 1) := dk_44 (dk_at dksL_law_57 5 rfl rfl)
theorem dL_law_1527 : decode cL_law 1527 = .ok (.invokevirtual 164, 3) := dk_182 0 164 (dk_at dksL_law_57 6 rfl rfl)
theorem dL_law_1530 : decode cL_law 1530 = .ok (.iload 5, 2) := dk_21 5 (dk_at dksL_law_57 9 rfl rfl)
theorem dL_law_1532 : decode cL_law 1532 = .ok (.if_icmp .eq 5, 3) := dk_159 0 5 (dk_at dksL_law_57 11 rfl rfl)
theorem dL_law_1535 : decode cL_law 1535 = .ok (.iconst 0, 1) := dk_3 (dk_at dksL_law_57 14 rfl rfl)
theorem dL_law_1536 : decode cL_law 1536 = .ok (.ireturn, 1) := dk_172 (dk_at dksL_law_57 15 rfl rfl)
theorem dL_law_1537 : decode cL_law 1537 = .ok (.iload 5, 2) := dk_21 5 (dk_at dksL_law_57 16 rfl rfl)
theorem dL_law_1539 : decode cL_law 1539 = .ok (.ifCond .ne 15, 3) := dk_154 0 15 (dk_at dksL_law_57 18 rfl rfl)
theorem dL_law_1542 : decode cL_law 1542 = .ok (.aload_n 3, 1) := dk_45 (dk_at dksL_law_57 21 rfl rfl)
theorem dL_law_1543 : decode cL_law 1543 = .ok (.iconst 0, 1) := dk_3 (dk_at dksL_law_57 22 rfl rfl)
theorem dL_law_1544 : decode cL_law 1544 = .ok (.laload, 1) := dk_47 (dk_at dksL_law_57 23 rfl rfl)
theorem dL_law_1545 : decode cL_law 1545 = .ok (.iload 6, 2) := dk_21 6 (dk_at dksL_law_58 0 rfl rfl)
theorem dL_law_1547 : decode cL_law 1547 = .ok (.i2l, 1) := dk_133 (dk_at dksL_law_58 2 rfl rfl)
theorem dL_law_1548 : decode cL_law 1548 = .ok (.lcmp, 1) := dk_148 (dk_at dksL_law_58 3 rfl rfl)
theorem dL_law_1549 : decode cL_law 1549 = .ok (.ifCond .eq 5, 3) := dk_153 0 5 (dk_at dksL_law_58 4 rfl rfl)
theorem dL_law_1552 : decode cL_law 1552 = .ok (.iconst 0, 1) := dk_3 (dk_at dksL_law_58 7 rfl rfl)
theorem dL_law_1553 : decode cL_law 1553 = .ok (.ireturn, 1) := dk_172 (dk_at dksL_law_58 8 rfl rfl)
theorem dL_law_1554 : decode cL_law 1554 = .ok (.goto 1100, 3) := dk_167 4 76 (dk_at dksL_law_58 9 rfl rfl)
theorem dL_law_1557 : decode cL_law 1557 = .ok (.aload_n 1, 1) := dk_43 (dk_at dksL_law_58 12 rfl rfl)
theorem dL_law_1558 : decode cL_law 1558 = .ok (.aload_n 0, 1) := dk_42 (dk_at dksL_law_58 13 rfl rfl)
theorem dL_law_1559 : decode cL_law 1559 = .ok (.iload 4, 2) := dk_21 4 (dk_at dksL_law_58 14 rfl rfl)
theorem dL_law_1561 : decode cL_law 1561 = .ok (.iconst 1, 1) := dk_4 (dk_at dksL_law_58 16 rfl rfl)
theorem dL_law_1562 : decode cL_law 1562 = .ok (.iadd, 1) := dk_96 (dk_at dksL_law_58 17 rfl rfl)
theorem dL_law_1563 : decode cL_law 1563 = .ok (.iaload, 1) := dk_46 (dk_at dksL_law_58 18 rfl rfl)
theorem dL_law_1564 : decode cL_law 1564 = .ok (.aload_n 0, 1) := dk_42 (dk_at dksL_law_58 19 rfl rfl)
theorem dL_law_1565 : decode cL_law 1565 = .ok (.iload 4, 2) := dk_21 4 (dk_at dksL_law_58 20 rfl rfl)
theorem dL_law_1567 : decode cL_law 1567 = .ok (.iconst 2, 1) := dk_5 (dk_at dksL_law_58 22 rfl rfl)
theorem dL_law_1568 : decode cL_law 1568 = .ok (.iadd, 1) := dk_96 (dk_at dksL_law_58 23 rfl rfl)
theorem dL_law_1569 : decode cL_law 1569 = .ok (.iaload, 1) := dk_46 (dk_at dksL_law_59 0 rfl rfl)
theorem dL_law_1570 : decode cL_law 1570 = .ok (.aload_n 3, 1) := dk_45 (dk_at dksL_law_59 1 rfl rfl)
theorem dL_law_1571 : decode cL_law 1571 = .ok (.invokestatic 231, 3) := dk_184 0 231 (dk_at dksL_law_59 2 rfl rfl)
theorem dL_law_1574 : decode cL_law 1574 = .ok (.istore 5, 2) := dk_54 5 (dk_at dksL_law_59 5 rfl rfl)
theorem dL_law_1576 : decode cL_law 1576 = .ok (.aload_n 2, 1) := dk_44 (dk_at dksL_law_59 7 rfl rfl)
theorem dL_law_1577 : decode cL_law 1577 = .ok (.aload_n 0, 1) := dk_42 (dk_at dksL_law_59 8 rfl rfl)
theorem dL_law_1578 : decode cL_law 1578 = .ok (.iload 4, 2) := dk_21 4 (dk_at dksL_law_59 9 rfl rfl)
theorem dL_law_1580 : decode cL_law 1580 = .ok (.iconst 1, 1) := dk_4 (dk_at dksL_law_59 11 rfl rfl)
theorem dL_law_1581 : decode cL_law 1581 = .ok (.iadd, 1) := dk_96 (dk_at dksL_law_59 12 rfl rfl)
theorem dL_law_1582 : decode cL_law 1582 = .ok (.iaload, 1) := dk_46 (dk_at dksL_law_59 13 rfl rfl)
theorem dL_law_1583 : decode cL_law 1583 = .ok (.aload_n 0, 1) := dk_42 (dk_at dksL_law_59 14 rfl rfl)
theorem dL_law_1584 : decode cL_law 1584 = .ok (.iload 4, 2) := dk_21 4 (dk_at dksL_law_59 15 rfl rfl)
theorem dL_law_1586 : decode cL_law 1586 = .ok (.iconst 2, 1) := dk_5 (dk_at dksL_law_59 17 rfl rfl)
theorem dL_law_1587 : decode cL_law 1587 = .ok (.iadd, 1) := dk_96 (dk_at dksL_law_59 18 rfl rfl)
theorem dL_law_1588 : decode cL_law 1588 = .ok (.iaload, 1) := dk_46 (dk_at dksL_law_59 19 rfl rfl)
theorem dL_law_1589 : decode cL_law 1589 = .ok (.invokevirtual 233, 3) := dk_182 0 233 (dk_at dksL_law_59 20 rfl rfl)
theorem dL_law_1592 : decode cL_law 1592 = .ok (.istore 6, 2) := dk_54 6 (dk_at dksL_law_60 0 rfl rfl)
theorem dL_law_1594 : decode cL_law 1594 = .ok (.aload_n 2, 1) := dk_44 (dk_at dksL_law_60 2 rfl rfl)
theorem dL_law_1595 : decode cL_law 1595 = .ok (.invokevirtual 164, 3) := dk_182 0 164 (dk_at dksL_law_60 3 rfl rfl)
theorem dL_law_1598 : decode cL_law 1598 = .ok (.iload 5, 2) := dk_21 5 (dk_at dksL_law_60 6 rfl rfl)
theorem dL_law_1600 : decode cL_law 1600 = .ok (.if_icmp .eq 5, 3) := dk_159 0 5 (dk_at dksL_law_60 8 rfl rfl)
theorem dL_law_1603 : decode cL_law 1603 = .ok (.iconst 0, 1) := dk_3 (dk_at dksL_law_60 11 rfl rfl)
theorem dL_law_1604 : decode cL_law 1604 = .ok (.ireturn, 1) := dk_172 (dk_at dksL_law_60 12 rfl rfl)
theorem dL_law_1605 : decode cL_law 1605 = .ok (.iload 5, 2) := dk_21 5 (dk_at dksL_law_60 13 rfl rfl)
theorem dL_law_1607 : decode cL_law 1607 = .ok (.ifCond .ne 15, 3) := dk_154 0 15 (dk_at dksL_law_60 15 rfl rfl)
theorem dL_law_1610 : decode cL_law 1610 = .ok (.aload_n 3, 1) := dk_45 (dk_at dksL_law_60 18 rfl rfl)
theorem dL_law_1611 : decode cL_law 1611 = .ok (.iconst 0, 1) := dk_3 (dk_at dksL_law_60 19 rfl rfl)
theorem dL_law_1612 : decode cL_law 1612 = .ok (.laload, 1) := dk_47 (dk_at dksL_law_60 20 rfl rfl)
theorem dL_law_1613 : decode cL_law 1613 = .ok (.iload 6, 2) := dk_21 6 (dk_at dksL_law_60 21 rfl rfl)
theorem dL_law_1615 : decode cL_law 1615 = .ok (.i2l, 1) := dk_133 (dk_at dksL_law_60 23 rfl rfl)
theorem dL_law_1616 : decode cL_law 1616 = .ok (.lcmp, 1) := dk_148 (dk_at dksL_law_61 0 rfl rfl)
theorem dL_law_1617 : decode cL_law 1617 = .ok (.ifCond .eq 5, 3) := dk_153 0 5 (dk_at dksL_law_61 1 rfl rfl)
theorem dL_law_1620 : decode cL_law 1620 = .ok (.iconst 0, 1) := dk_3 (dk_at dksL_law_61 4 rfl rfl)
theorem dL_law_1621 : decode cL_law 1621 = .ok (.ireturn, 1) := dk_172 (dk_at dksL_law_61 5 rfl rfl)
theorem dL_law_1622 : decode cL_law 1622 = .ok (.goto 1032, 3) := dk_167 4 8 (dk_at dksL_law_61 6 rfl rfl)
theorem dL_law_1625 : decode cL_law 1625 = .ok (.aload_n 1, 1) := dk_43 (dk_at dksL_law_61 9 rfl rfl)
theorem dL_law_1626 : decode cL_law 1626 = .ok (.aload_n 0, 1) := dk_42 (dk_at dksL_law_61 10 rfl rfl)
theorem dL_law_1627 : decode cL_law 1627 = .ok (.iload 4, 2) := dk_21 4 (dk_at dksL_law_61 11 rfl rfl)
theorem dL_law_1629 : decode cL_law 1629 = .ok (.iconst 1, 1) := dk_4 (dk_at dksL_law_61 13 rfl rfl)
theorem dL_law_1630 : decode cL_law 1630 = .ok (.iadd, 1) := dk_96 (dk_at dksL_law_61 14 rfl rfl)
theorem dL_law_1631 : decode cL_law 1631 = .ok (.iaload, 1) := dk_46 (dk_at dksL_law_61 15 rfl rfl)
theorem dL_law_1632 : decode cL_law 1632 = .ok (.aload_n 3, 1) := dk_45 (dk_at dksL_law_61 16 rfl rfl)
theorem dL_law_1633 : decode cL_law 1633 = .ok (.invokestatic 234, 3) := dk_184 0 234 (dk_at dksL_law_61 17 rfl rfl)
theorem dL_law_1636 : decode cL_law 1636 = .ok (.istore 5, 2) := dk_54 5 (dk_at dksL_law_61 20 rfl rfl)
theorem dL_law_1638 : decode cL_law 1638 = .ok (.aload_n 2, 1) := dk_44 (dk_at dksL_law_61 22 rfl rfl)
theorem dL_law_1639 : decode cL_law 1639 = .ok (.aload_n 0, 1) := dk_42 (dk_at dksL_law_61 23 rfl rfl)
theorem dL_law_1640 : decode cL_law 1640 = .ok (.iload 4, 2) := dk_21 4 (dk_at dksL_law_62 0 rfl rfl)
theorem dL_law_1642 : decode cL_law 1642 = .ok (.iconst 1, 1) := dk_4 (dk_at dksL_law_62 2 rfl rfl)
theorem dL_law_1643 : decode cL_law 1643 = .ok (.iadd, 1) := dk_96 (dk_at dksL_law_62 3 rfl rfl)
theorem dL_law_1644 : decode cL_law 1644 = .ok (.iaload, 1) := dk_46 (dk_at dksL_law_62 4 rfl rfl)
theorem dL_law_1645 : decode cL_law 1645 = .ok (.invokevirtual 236, 3) := dk_182 0 236 (dk_at dksL_law_62 5 rfl rfl)
theorem dL_law_1648 : decode cL_law 1648 = .ok (.istore 6, 2) := dk_54 6 (dk_at dksL_law_62 8 rfl rfl)
theorem dL_law_1650 : decode cL_law 1650 = .ok (.aload_n 2, 1) := dk_44 (dk_at dksL_law_62 10 rfl rfl)
theorem dL_law_1651 : decode cL_law 1651 = .ok (.invokevirtual 164, 3) := dk_182 0 164 (dk_at dksL_law_62 11 rfl rfl)
theorem dL_law_1654 : decode cL_law 1654 = .ok (.iload 5, 2) := dk_21 5 (dk_at dksL_law_62 14 rfl rfl)
theorem dL_law_1656 : decode cL_law 1656 = .ok (.if_icmp .eq 5, 3) := dk_159 0 5 (dk_at dksL_law_62 16 rfl rfl)
theorem dL_law_1659 : decode cL_law 1659 = .ok (.iconst 0, 1) := dk_3 (dk_at dksL_law_62 19 rfl rfl)
theorem dL_law_1660 : decode cL_law 1660 = .ok (.ireturn, 1) := dk_172 (dk_at dksL_law_62 20 rfl rfl)
theorem dL_law_1661 : decode cL_law 1661 = .ok (.iload 5, 2) := dk_21 5 (dk_at dksL_law_62 21 rfl rfl)
theorem dL_law_1663 : decode cL_law 1663 = .ok (.ifCond .ne 15, 3) := dk_154 0 15 (dk_at dksL_law_63 0 rfl rfl)
theorem dL_law_1666 : decode cL_law 1666 = .ok (.aload_n 3, 1) := dk_45 (dk_at dksL_law_63 3 rfl rfl)
theorem dL_law_1667 : decode cL_law 1667 = .ok (.iconst 0, 1) := dk_3 (dk_at dksL_law_63 4 rfl rfl)
theorem dL_law_1668 : decode cL_law 1668 = .ok (.laload, 1) := dk_47 (dk_at dksL_law_63 5 rfl rfl)
theorem dL_law_1669 : decode cL_law 1669 = .ok (.iload 6, 2) := dk_21 6 (dk_at dksL_law_63 6 rfl rfl)
theorem dL_law_1671 : decode cL_law 1671 = .ok (.i2l, 1) := dk_133 (dk_at dksL_law_63 8 rfl rfl)
theorem dL_law_1672 : decode cL_law 1672 = .ok (.lcmp, 1) := dk_148 (dk_at dksL_law_63 9 rfl rfl)
theorem dL_law_1673 : decode cL_law 1673 = .ok (.ifCond .eq 5, 3) := dk_153 0 5 (dk_at dksL_law_63 10 rfl rfl)
theorem dL_law_1676 : decode cL_law 1676 = .ok (.iconst 0, 1) := dk_3 (dk_at dksL_law_63 13 rfl rfl)
theorem dL_law_1677 : decode cL_law 1677 = .ok (.ireturn, 1) := dk_172 (dk_at dksL_law_63 14 rfl rfl)
theorem dL_law_1678 : decode cL_law 1678 = .ok (.goto 976, 3) := dk_167 3 208 (dk_at dksL_law_63 15 rfl rfl)
theorem dL_law_1681 : decode cL_law 1681 = .ok (.aload_n 1, 1) := dk_43 (dk_at dksL_law_63 18 rfl rfl)
theorem dL_law_1682 : decode cL_law 1682 = .ok (.aload_n 0, 1) := dk_42 (dk_at dksL_law_63 19 rfl rfl)
theorem dL_law_1683 : decode cL_law 1683 = .ok (.iload 4, 2) := dk_21 4 (dk_at dksL_law_63 20 rfl rfl)
theorem dL_law_1685 : decode cL_law 1685 = .ok (.iconst 1, 1) := dk_4 (dk_at dksL_law_63 22 rfl rfl)
theorem dL_law_1686 : decode cL_law 1686 = .ok (.iadd, 1) := dk_96 (dk_at dksL_law_63 23 rfl rfl)
theorem dL_law_1687 : decode cL_law 1687 = .ok (.iaload, 1) := dk_46 (dk_at dksL_law_64 0 rfl rfl)
theorem dL_law_1688 : decode cL_law 1688 = .ok (.aload_n 0, 1) := dk_42 (dk_at dksL_law_64 1 rfl rfl)
theorem dL_law_1689 : decode cL_law 1689 = .ok (.iload 4, 2) := dk_21 4 (dk_at dksL_law_64 2 rfl rfl)
theorem dL_law_1691 : decode cL_law 1691 = .ok (.iconst 2, 1) := dk_5 (dk_at dksL_law_64 4 rfl rfl)
theorem dL_law_1692 : decode cL_law 1692 = .ok (.iadd, 1) := dk_96 (dk_at dksL_law_64 5 rfl rfl)
theorem dL_law_1693 : decode cL_law 1693 = .ok (.iaload, 1) := dk_46 (dk_at dksL_law_64 6 rfl rfl)
theorem dL_law_1694 : decode cL_law 1694 = .ok (.aload_n 3, 1) := dk_45 (dk_at dksL_law_64 7 rfl rfl)
theorem dL_law_1695 : decode cL_law 1695 = .ok (.invokestatic 237, 3) := dk_184 0 237 (dk_at dksL_law_64 8 rfl rfl)
theorem dL_law_1698 : decode cL_law 1698 = .ok (.istore 5, 2) := dk_54 5 (dk_at dksL_law_64 11 rfl rfl)
theorem dL_law_1700 : decode cL_law 1700 = .ok (.aload_n 2, 1) := dk_44 (dk_at dksL_law_64 13 rfl rfl)
theorem dL_law_1701 : decode cL_law 1701 = .ok (.aload_n 0, 1) := dk_42 (dk_at dksL_law_64 14 rfl rfl)
theorem dL_law_1702 : decode cL_law 1702 = .ok (.iload 4, 2) := dk_21 4 (dk_at dksL_law_64 15 rfl rfl)
theorem dL_law_1704 : decode cL_law 1704 = .ok (.iconst 1, 1) := dk_4 (dk_at dksL_law_64 17 rfl rfl)
theorem dL_law_1705 : decode cL_law 1705 = .ok (.iadd, 1) := dk_96 (dk_at dksL_law_64 18 rfl rfl)
theorem dL_law_1706 : decode cL_law 1706 = .ok (.iaload, 1) := dk_46 (dk_at dksL_law_64 19 rfl rfl)
theorem dL_law_1707 : decode cL_law 1707 = .ok (.aload_n 0, 1) := dk_42 (dk_at dksL_law_64 20 rfl rfl)
theorem dL_law_1708 : decode cL_law 1708 = .ok (.iload 4, 2) := dk_21 4 (dk_at dksL_law_64 21 rfl rfl)
theorem dL_law_1710 : decode cL_law 1710 = .ok (.iconst 2, 1) := dk_5 (dk_at dksL_law_64 23 rfl rfl)
theorem dL_law_1711 : decode cL_law 1711 = .ok (.iadd, 1) := dk_96 (dk_at dksL_law_65 0 rfl rfl)
theorem dL_law_1712 : decode cL_law 1712 = .ok (.iaload, 1) := dk_46 (dk_at dksL_law_65 1 rfl rfl)
theorem dL_law_1713 : decode cL_law 1713 = .ok (.invokevirtual 239, 3) := dk_182 0 239 (dk_at dksL_law_65 2 rfl rfl)
theorem dL_law_1716 : decode cL_law 1716 = .ok (.istore 6, 2) := dk_54 6 (dk_at dksL_law_65 5 rfl rfl)
theorem dL_law_1718 : decode cL_law 1718 = .ok (.aload_n 2, 1) := dk_44 (dk_at dksL_law_65 7 rfl rfl)
theorem dL_law_1719 : decode cL_law 1719 = .ok (.invokevirtual 164, 3) := dk_182 0 164 (dk_at dksL_law_65 8 rfl rfl)
theorem dL_law_1722 : decode cL_law 1722 = .ok (.iload 5, 2) := dk_21 5 (dk_at dksL_law_65 11 rfl rfl)
theorem dL_law_1724 : decode cL_law 1724 = .ok (.if_icmp .eq 5, 3) := dk_159 0 5 (dk_at dksL_law_65 13 rfl rfl)
theorem dL_law_1727 : decode cL_law 1727 = .ok (.iconst 0, 1) := dk_3 (dk_at dksL_law_65 16 rfl rfl)
theorem dL_law_1728 : decode cL_law 1728 = .ok (.ireturn, 1) := dk_172 (dk_at dksL_law_65 17 rfl rfl)
theorem dL_law_1729 : decode cL_law 1729 = .ok (.iload 5, 2) := dk_21 5 (dk_at dksL_law_65 18 rfl rfl)
theorem dL_law_1731 : decode cL_law 1731 = .ok (.ifCond .ne 15, 3) := dk_154 0 15 (dk_at dksL_law_65 20 rfl rfl)
theorem dL_law_1734 : decode cL_law 1734 = .ok (.aload_n 3, 1) := dk_45 (dk_at dksL_law_65 23 rfl rfl)
theorem dL_law_1735 : decode cL_law 1735 = .ok (.iconst 0, 1) := dk_3 (dk_at dksL_law_66 0 rfl rfl)
theorem dL_law_1736 : decode cL_law 1736 = .ok (.laload, 1) := dk_47 (dk_at dksL_law_66 1 rfl rfl)
theorem dL_law_1737 : decode cL_law 1737 = .ok (.iload 6, 2) := dk_21 6 (dk_at dksL_law_66 2 rfl rfl)
theorem dL_law_1739 : decode cL_law 1739 = .ok (.i2l, 1) := dk_133 (dk_at dksL_law_66 4 rfl rfl)
theorem dL_law_1740 : decode cL_law 1740 = .ok (.lcmp, 1) := dk_148 (dk_at dksL_law_66 5 rfl rfl)
theorem dL_law_1741 : decode cL_law 1741 = .ok (.ifCond .eq 5, 3) := dk_153 0 5 (dk_at dksL_law_66 6 rfl rfl)
theorem dL_law_1744 : decode cL_law 1744 = .ok (.iconst 0, 1) := dk_3 (dk_at dksL_law_66 9 rfl rfl)
theorem dL_law_1745 : decode cL_law 1745 = .ok (.ireturn, 1) := dk_172 (dk_at dksL_law_66 10 rfl rfl)
theorem dL_law_1746 : decode cL_law 1746 = .ok (.goto 908, 3) := dk_167 3 140 (dk_at dksL_law_66 11 rfl rfl)
theorem dL_law_1749 : decode cL_law 1749 = .ok (.aload_n 1, 1) := dk_43 (dk_at dksL_law_66 14 rfl rfl)
theorem dL_law_1750 : decode cL_law 1750 = .ok (.aload_n 0, 1) := dk_42 (dk_at dksL_law_66 15 rfl rfl)
theorem dL_law_1751 : decode cL_law 1751 = .ok (.iload 4, 2) := dk_21 4 (dk_at dksL_law_66 16 rfl rfl)
theorem dL_law_1753 : decode cL_law 1753 = .ok (.iconst 1, 1) := dk_4 (dk_at dksL_law_66 18 rfl rfl)
theorem dL_law_1754 : decode cL_law 1754 = .ok (.iadd, 1) := dk_96 (dk_at dksL_law_66 19 rfl rfl)
theorem dL_law_1755 : decode cL_law 1755 = .ok (.iaload, 1) := dk_46 (dk_at dksL_law_66 20 rfl rfl)
theorem dL_law_1756 : decode cL_law 1756 = .ok (.aload_n 0, 1) := dk_42 (dk_at dksL_law_66 21 rfl rfl)
theorem dL_law_1757 : decode cL_law 1757 = .ok (.iload 4, 2) := dk_21 4 (dk_at dksL_law_66 22 rfl rfl)
theorem dL_law_1759 : decode cL_law 1759 = .ok (.iconst 2, 1) := dk_5 (dk_at dksL_law_67 0 rfl rfl)
theorem dL_law_1760 : decode cL_law 1760 = .ok (.iadd, 1) := dk_96 (dk_at dksL_law_67 1 rfl rfl)
theorem dL_law_1761 : decode cL_law 1761 = .ok (.iaload, 1) := dk_46 (dk_at dksL_law_67 2 rfl rfl)
theorem dL_law_1762 : decode cL_law 1762 = .ok (.aload_n 3, 1) := dk_45 (dk_at dksL_law_67 3 rfl rfl)
theorem dL_law_1763 : decode cL_law 1763 = .ok (.invokestatic 240, 3) := dk_184 0 240 (dk_at dksL_law_67 4 rfl rfl)
theorem dL_law_1766 : decode cL_law 1766 = .ok (.istore 5, 2) := dk_54 5 (dk_at dksL_law_67 7 rfl rfl)
theorem dL_law_1768 : decode cL_law 1768 = .ok (.aload_n 2, 1) := dk_44 (dk_at dksL_law_67 9 rfl rfl)
theorem dL_law_1769 : decode cL_law 1769 = .ok (.aload_n 0, 1) := dk_42 (dk_at dksL_law_67 10 rfl rfl)
theorem dL_law_1770 : decode cL_law 1770 = .ok (.iload 4, 2) := dk_21 4 (dk_at dksL_law_67 11 rfl rfl)
theorem dL_law_1772 : decode cL_law 1772 = .ok (.iconst 1, 1) := dk_4 (dk_at dksL_law_67 13 rfl rfl)
theorem dL_law_1773 : decode cL_law 1773 = .ok (.iadd, 1) := dk_96 (dk_at dksL_law_67 14 rfl rfl)
theorem dL_law_1774 : decode cL_law 1774 = .ok (.iaload, 1) := dk_46 (dk_at dksL_law_67 15 rfl rfl)
theorem dL_law_1775 : decode cL_law 1775 = .ok (.aload_n 0, 1) := dk_42 (dk_at dksL_law_67 16 rfl rfl)
theorem dL_law_1776 : decode cL_law 1776 = .ok (.iload 4, 2) := dk_21 4 (dk_at dksL_law_67 17 rfl rfl)
theorem dL_law_1778 : decode cL_law 1778 = .ok (.iconst 2, 1) := dk_5 (dk_at dksL_law_67 19 rfl rfl)
theorem dL_law_1779 : decode cL_law 1779 = .ok (.iadd, 1) := dk_96 (dk_at dksL_law_67 20 rfl rfl)
theorem dL_law_1780 : decode cL_law 1780 = .ok (.iaload, 1) := dk_46 (dk_at dksL_law_67 21 rfl rfl)
theorem dL_law_1781 : decode cL_law 1781 = .ok (.invokevirtual 242, 3) := dk_182 0 242 (dk_at dksL_law_68 0 rfl rfl)
theorem dL_law_1784 : decode cL_law 1784 = .ok (.istore 6, 2) := dk_54 6 (dk_at dksL_law_68 3 rfl rfl)
theorem dL_law_1786 : decode cL_law 1786 = .ok (.aload_n 2, 1) := dk_44 (dk_at dksL_law_68 5 rfl rfl)
theorem dL_law_1787 : decode cL_law 1787 = .ok (.invokevirtual 164, 3) := dk_182 0 164 (dk_at dksL_law_68 6 rfl rfl)
theorem dL_law_1790 : decode cL_law 1790 = .ok (.iload 5, 2) := dk_21 5 (dk_at dksL_law_68 9 rfl rfl)
theorem dL_law_1792 : decode cL_law 1792 = .ok (.if_icmp .eq 5, 3) := dk_159 0 5 (dk_at dksL_law_68 11 rfl rfl)
theorem dL_law_1795 : decode cL_law 1795 = .ok (.iconst 0, 1) := dk_3 (dk_at dksL_law_68 14 rfl rfl)
theorem dL_law_1796 : decode cL_law 1796 = .ok (.ireturn, 1) := dk_172 (dk_at dksL_law_68 15 rfl rfl)
theorem dL_law_1797 : decode cL_law 1797 = .ok (.iload 5, 2) := dk_21 5 (dk_at dksL_law_68 16 rfl rfl)
theorem dL_law_1799 : decode cL_law 1799 = .ok (.ifCond .ne 15, 3) := dk_154 0 15 (dk_at dksL_law_68 18 rfl rfl)
theorem dL_law_1802 : decode cL_law 1802 = .ok (.aload_n 3, 1) := dk_45 (dk_at dksL_law_68 21 rfl rfl)
theorem dL_law_1803 : decode cL_law 1803 = .ok (.iconst 0, 1) := dk_3 (dk_at dksL_law_68 22 rfl rfl)
theorem dL_law_1804 : decode cL_law 1804 = .ok (.laload, 1) := dk_47 (dk_at dksL_law_68 23 rfl rfl)
theorem dL_law_1805 : decode cL_law 1805 = .ok (.iload 6, 2) := dk_21 6 (dk_at dksL_law_69 0 rfl rfl)
theorem dL_law_1807 : decode cL_law 1807 = .ok (.i2l, 1) := dk_133 (dk_at dksL_law_69 2 rfl rfl)
theorem dL_law_1808 : decode cL_law 1808 = .ok (.lcmp, 1) := dk_148 (dk_at dksL_law_69 3 rfl rfl)
theorem dL_law_1809 : decode cL_law 1809 = .ok (.ifCond .eq 5, 3) := dk_153 0 5 (dk_at dksL_law_69 4 rfl rfl)
theorem dL_law_1812 : decode cL_law 1812 = .ok (.iconst 0, 1) := dk_3 (dk_at dksL_law_69 7 rfl rfl)
theorem dL_law_1813 : decode cL_law 1813 = .ok (.ireturn, 1) := dk_172 (dk_at dksL_law_69 8 rfl rfl)
theorem dL_law_1814 : decode cL_law 1814 = .ok (.goto 840, 3) := dk_167 3 72 (dk_at dksL_law_69 9 rfl rfl)
theorem dL_law_1817 : decode cL_law 1817 = .ok (.aload_n 1, 1) := dk_43 (dk_at dksL_law_69 12 rfl rfl)
theorem dL_law_1818 : decode cL_law 1818 = .ok (.aload_n 0, 1) := dk_42 (dk_at dksL_law_69 13 rfl rfl)
theorem dL_law_1819 : decode cL_law 1819 = .ok (.iload 4, 2) := dk_21 4 (dk_at dksL_law_69 14 rfl rfl)
theorem dL_law_1821 : decode cL_law 1821 = .ok (.iconst 1, 1) := dk_4 (dk_at dksL_law_69 16 rfl rfl)
theorem dL_law_1822 : decode cL_law 1822 = .ok (.iadd, 1) := dk_96 (dk_at dksL_law_69 17 rfl rfl)
theorem dL_law_1823 : decode cL_law 1823 = .ok (.iaload, 1) := dk_46 (dk_at dksL_law_69 18 rfl rfl)
theorem dL_law_1824 : decode cL_law 1824 = .ok (.aload_n 0, 1) := dk_42 (dk_at dksL_law_69 19 rfl rfl)
theorem dL_law_1825 : decode cL_law 1825 = .ok (.iload 4, 2) := dk_21 4 (dk_at dksL_law_69 20 rfl rfl)
theorem dL_law_1827 : decode cL_law 1827 = .ok (.iconst 2, 1) := dk_5 (dk_at dksL_law_69 22 rfl rfl)
theorem dL_law_1828 : decode cL_law 1828 = .ok (.iadd, 1) := dk_96 (dk_at dksL_law_69 23 rfl rfl)
theorem dL_law_1829 : decode cL_law 1829 = .ok (.iaload, 1) := dk_46 (dk_at dksL_law_70 0 rfl rfl)
theorem dL_law_1830 : decode cL_law 1830 = .ok (.aload_n 3, 1) := dk_45 (dk_at dksL_law_70 1 rfl rfl)
theorem dL_law_1831 : decode cL_law 1831 = .ok (.invokestatic 243, 3) := dk_184 0 243 (dk_at dksL_law_70 2 rfl rfl)
theorem dL_law_1834 : decode cL_law 1834 = .ok (.istore 5, 2) := dk_54 5 (dk_at dksL_law_70 5 rfl rfl)
theorem dL_law_1836 : decode cL_law 1836 = .ok (.aload_n 2, 1) := dk_44 (dk_at dksL_law_70 7 rfl rfl)
theorem dL_law_1837 : decode cL_law 1837 = .ok (.aload_n 0, 1) := dk_42 (dk_at dksL_law_70 8 rfl rfl)
theorem dL_law_1838 : decode cL_law 1838 = .ok (.iload 4, 2) := dk_21 4 (dk_at dksL_law_70 9 rfl rfl)
theorem dL_law_1840 : decode cL_law 1840 = .ok (.iconst 1, 1) := dk_4 (dk_at dksL_law_70 11 rfl rfl)
theorem dL_law_1841 : decode cL_law 1841 = .ok (.iadd, 1) := dk_96 (dk_at dksL_law_70 12 rfl rfl)
theorem dL_law_1842 : decode cL_law 1842 = .ok (.iaload, 1) := dk_46 (dk_at dksL_law_70 13 rfl rfl)
theorem dL_law_1843 : decode cL_law 1843 = .ok (.aload_n 0, 1) := dk_42 (dk_at dksL_law_70 14 rfl rfl)
theorem dL_law_1844 : decode cL_law 1844 = .ok (.iload 4, 2) := dk_21 4 (dk_at dksL_law_70 15 rfl rfl)
theorem dL_law_1846 : decode cL_law 1846 = .ok (.iconst 2, 1) := dk_5 (dk_at dksL_law_70 17 rfl rfl)
theorem dL_law_1847 : decode cL_law 1847 = .ok (.iadd, 1) := dk_96 (dk_at dksL_law_70 18 rfl rfl)
theorem dL_law_1848 : decode cL_law 1848 = .ok (.iaload, 1) := dk_46 (dk_at dksL_law_70 19 rfl rfl)
theorem dL_law_1849 : decode cL_law 1849 = .ok (.invokevirtual 245, 3) := dk_182 0 245 (dk_at dksL_law_70 20 rfl rfl)
theorem dL_law_1852 : decode cL_law 1852 = .ok (.istore 6, 2) := dk_54 6 (dk_at dksL_law_71 0 rfl rfl)
theorem dL_law_1854 : decode cL_law 1854 = .ok (.aload_n 2, 1) := dk_44 (dk_at dksL_law_71 2 rfl rfl)
theorem dL_law_1855 : decode cL_law 1855 = .ok (.invokevirtual 164, 3) := dk_182 0 164 (dk_at dksL_law_71 3 rfl rfl)
theorem dL_law_1858 : decode cL_law 1858 = .ok (.iload 5, 2) := dk_21 5 (dk_at dksL_law_71 6 rfl rfl)
theorem dL_law_1860 : decode cL_law 1860 = .ok (.if_icmp .eq 5, 3) := dk_159 0 5 (dk_at dksL_law_71 8 rfl rfl)
theorem dL_law_1863 : decode cL_law 1863 = .ok (.iconst 0, 1) := dk_3 (dk_at dksL_law_71 11 rfl rfl)
theorem dL_law_1864 : decode cL_law 1864 = .ok (.ireturn, 1) := dk_172 (dk_at dksL_law_71 12 rfl rfl)
theorem dL_law_1865 : decode cL_law 1865 = .ok (.iload 5, 2) := dk_21 5 (dk_at dksL_law_71 13 rfl rfl)
theorem dL_law_1867 : decode cL_law 1867 = .ok (.ifCond .ne 15, 3) := dk_154 0 15 (dk_at dksL_law_71 15 rfl rfl)
theorem dL_law_1870 : decode cL_law 1870 = .ok (.aload_n 3, 1) := dk_45 (dk_at dksL_law_71 18 rfl rfl)
theorem dL_law_1871 : decode cL_law 1871 = .ok (.iconst 0, 1) := dk_3 (dk_at dksL_law_71 19 rfl rfl)
theorem dL_law_1872 : decode cL_law 1872 = .ok (.laload, 1) := dk_47 (dk_at dksL_law_71 20 rfl rfl)
theorem dL_law_1873 : decode cL_law 1873 = .ok (.iload 6, 2) := dk_21 6 (dk_at dksL_law_71 21 rfl rfl)
theorem dL_law_1875 : decode cL_law 1875 = .ok (.i2l, 1) := dk_133 (dk_at dksL_law_71 23 rfl rfl)
theorem dL_law_1876 : decode cL_law 1876 = .ok (.lcmp, 1) := dk_148 (dk_at dksL_law_72 0 rfl rfl)
theorem dL_law_1877 : decode cL_law 1877 = .ok (.ifCond .eq 5, 3) := dk_153 0 5 (dk_at dksL_law_72 1 rfl rfl)
theorem dL_law_1880 : decode cL_law 1880 = .ok (.iconst 0, 1) := dk_3 (dk_at dksL_law_72 4 rfl rfl)
theorem dL_law_1881 : decode cL_law 1881 = .ok (.ireturn, 1) := dk_172 (dk_at dksL_law_72 5 rfl rfl)
theorem dL_law_1882 : decode cL_law 1882 = .ok (.goto 772, 3) := dk_167 3 4 (dk_at dksL_law_72 6 rfl rfl)
theorem dL_law_1885 : decode cL_law 1885 = .ok (.aload_n 1, 1) := dk_43 (dk_at dksL_law_72 9 rfl rfl)
theorem dL_law_1886 : decode cL_law 1886 = .ok (.aload_n 0, 1) := dk_42 (dk_at dksL_law_72 10 rfl rfl)
theorem dL_law_1887 : decode cL_law 1887 = .ok (.iload 4, 2) := dk_21 4 (dk_at dksL_law_72 11 rfl rfl)
theorem dL_law_1889 : decode cL_law 1889 = .ok (.iconst 1, 1) := dk_4 (dk_at dksL_law_72 13 rfl rfl)
theorem dL_law_1890 : decode cL_law 1890 = .ok (.iadd, 1) := dk_96 (dk_at dksL_law_72 14 rfl rfl)
theorem dL_law_1891 : decode cL_law 1891 = .ok (.iaload, 1) := dk_46 (dk_at dksL_law_72 15 rfl rfl)
theorem dL_law_1892 : decode cL_law 1892 = .ok (.aload_n 0, 1) := dk_42 (dk_at dksL_law_72 16 rfl rfl)
theorem dL_law_1893 : decode cL_law 1893 = .ok (.iload 4, 2) := dk_21 4 (dk_at dksL_law_72 17 rfl rfl)
theorem dL_law_1895 : decode cL_law 1895 = .ok (.iconst 2, 1) := dk_5 (dk_at dksL_law_72 19 rfl rfl)
theorem dL_law_1896 : decode cL_law 1896 = .ok (.iadd, 1) := dk_96 (dk_at dksL_law_72 20 rfl rfl)
theorem dL_law_1897 : decode cL_law 1897 = .ok (.iaload, 1) := dk_46 (dk_at dksL_law_72 21 rfl rfl)
theorem dL_law_1898 : decode cL_law 1898 = .ok (.aload_n 0, 1) := dk_42 (dk_at dksL_law_72 22 rfl rfl)
theorem dL_law_1899 : decode cL_law 1899 = .ok (.iload 4, 2) := dk_21 4 (dk_at dksL_law_73 0 rfl rfl)
theorem dL_law_1901 : decode cL_law 1901 = .ok (.iconst 3, 1) := dk_6 (dk_at dksL_law_73 2 rfl rfl)
theorem dL_law_1902 : decode cL_law 1902 = .ok (.iadd, 1) := dk_96 (dk_at dksL_law_73 3 rfl rfl)
theorem dL_law_1903 : decode cL_law 1903 = .ok (.iaload, 1) := dk_46 (dk_at dksL_law_73 4 rfl rfl)
theorem dL_law_1904 : decode cL_law 1904 = .ok (.aload_n 3, 1) := dk_45 (dk_at dksL_law_73 5 rfl rfl)
theorem dL_law_1905 : decode cL_law 1905 = .ok (.invokestatic 246, 3) := dk_184 0 246 (dk_at dksL_law_73 6 rfl rfl)
theorem dL_law_1908 : decode cL_law 1908 = .ok (.istore 5, 2) := dk_54 5 (dk_at dksL_law_73 9 rfl rfl)
theorem dL_law_1910 : decode cL_law 1910 = .ok (.aload_n 2, 1) := dk_44 (dk_at dksL_law_73 11 rfl rfl)
theorem dL_law_1911 : decode cL_law 1911 = .ok (.aload_n 0, 1) := dk_42 (dk_at dksL_law_73 12 rfl rfl)
theorem dL_law_1912 : decode cL_law 1912 = .ok (.iload 4, 2) := dk_21 4 (dk_at dksL_law_73 13 rfl rfl)
theorem dL_law_1914 : decode cL_law 1914 = .ok (.iconst 1, 1) := dk_4 (dk_at dksL_law_73 15 rfl rfl)
theorem dL_law_1915 : decode cL_law 1915 = .ok (.iadd, 1) := dk_96 (dk_at dksL_law_73 16 rfl rfl)
theorem dL_law_1916 : decode cL_law 1916 = .ok (.iaload, 1) := dk_46 (dk_at dksL_law_73 17 rfl rfl)
theorem dL_law_1917 : decode cL_law 1917 = .ok (.aload_n 0, 1) := dk_42 (dk_at dksL_law_73 18 rfl rfl)
theorem dL_law_1918 : decode cL_law 1918 = .ok (.iload 4, 2) := dk_21 4 (dk_at dksL_law_73 19 rfl rfl)
theorem dL_law_1920 : decode cL_law 1920 = .ok (.iconst 2, 1) := dk_5 (dk_at dksL_law_73 21 rfl rfl)
theorem dL_law_1921 : decode cL_law 1921 = .ok (.iadd, 1) := dk_96 (dk_at dksL_law_73 22 rfl rfl)
theorem dL_law_1922 : decode cL_law 1922 = .ok (.iaload, 1) := dk_46 (dk_at dksL_law_73 23 rfl rfl)
theorem dL_law_1923 : decode cL_law 1923 = .ok (.aload_n 0, 1) := dk_42 (dk_at dksL_law_74 0 rfl rfl)
theorem dL_law_1924 : decode cL_law 1924 = .ok (.iload 4, 2) := dk_21 4 (dk_at dksL_law_74 1 rfl rfl)
theorem dL_law_1926 : decode cL_law 1926 = .ok (.iconst 3, 1) := dk_6 (dk_at dksL_law_74 3 rfl rfl)
theorem dL_law_1927 : decode cL_law 1927 = .ok (.iadd, 1) := dk_96 (dk_at dksL_law_74 4 rfl rfl)
theorem dL_law_1928 : decode cL_law 1928 = .ok (.iaload, 1) := dk_46 (dk_at dksL_law_74 5 rfl rfl)
theorem dL_law_1929 : decode cL_law 1929 = .ok (.invokevirtual 249, 3) := dk_182 0 249 (dk_at dksL_law_74 6 rfl rfl)
theorem dL_law_1932 : decode cL_law 1932 = .ok (.istore 6, 2) := dk_54 6 (dk_at dksL_law_74 9 rfl rfl)
theorem dL_law_1934 : decode cL_law 1934 = .ok (.aload_n 2, 1) := dk_44 (dk_at dksL_law_74 11 rfl rfl)
theorem dL_law_1935 : decode cL_law 1935 = .ok (.invokevirtual 164, 3) := dk_182 0 164 (dk_at dksL_law_74 12 rfl rfl)
theorem dL_law_1938 : decode cL_law 1938 = .ok (.iload 5, 2) := dk_21 5 (dk_at dksL_law_74 15 rfl rfl)
theorem dL_law_1940 : decode cL_law 1940 = .ok (.if_icmp .eq 5, 3) := dk_159 0 5 (dk_at dksL_law_74 17 rfl rfl)
theorem dL_law_1943 : decode cL_law 1943 = .ok (.iconst 0, 1) := dk_3 (dk_at dksL_law_74 20 rfl rfl)
theorem dL_law_1944 : decode cL_law 1944 = .ok (.ireturn, 1) := dk_172 (dk_at dksL_law_74 21 rfl rfl)
theorem dL_law_1945 : decode cL_law 1945 = .ok (.iload 5, 2) := dk_21 5 (dk_at dksL_law_74 22 rfl rfl)
theorem dL_law_1947 : decode cL_law 1947 = .ok (.ifCond .ne 15, 3) := dk_154 0 15 (dk_at dksL_law_75 0 rfl rfl)
theorem dL_law_1950 : decode cL_law 1950 = .ok (.aload_n 3, 1) := dk_45 (dk_at dksL_law_75 3 rfl rfl)
theorem dL_law_1951 : decode cL_law 1951 = .ok (.iconst 0, 1) := dk_3 (dk_at dksL_law_75 4 rfl rfl)
theorem dL_law_1952 : decode cL_law 1952 = .ok (.laload, 1) := dk_47 (dk_at dksL_law_75 5 rfl rfl)
theorem dL_law_1953 : decode cL_law 1953 = .ok (.iload 6, 2) := dk_21 6 (dk_at dksL_law_75 6 rfl rfl)
theorem dL_law_1955 : decode cL_law 1955 = .ok (.i2l, 1) := dk_133 (dk_at dksL_law_75 8 rfl rfl)
theorem dL_law_1956 : decode cL_law 1956 = .ok (.lcmp, 1) := dk_148 (dk_at dksL_law_75 9 rfl rfl)
theorem dL_law_1957 : decode cL_law 1957 = .ok (.ifCond .eq 5, 3) := dk_153 0 5 (dk_at dksL_law_75 10 rfl rfl)
theorem dL_law_1960 : decode cL_law 1960 = .ok (.iconst 0, 1) := dk_3 (dk_at dksL_law_75 13 rfl rfl)
theorem dL_law_1961 : decode cL_law 1961 = .ok (.ireturn, 1) := dk_172 (dk_at dksL_law_75 14 rfl rfl)
theorem dL_law_1962 : decode cL_law 1962 = .ok (.goto 692, 3) := dk_167 2 180 (dk_at dksL_law_75 15 rfl rfl)
theorem dL_law_1965 : decode cL_law 1965 = .ok (.aload_n 1, 1) := dk_43 (dk_at dksL_law_75 18 rfl rfl)
theorem dL_law_1966 : decode cL_law 1966 = .ok (.aload_n 0, 1) := dk_42 (dk_at dksL_law_75 19 rfl rfl)
theorem dL_law_1967 : decode cL_law 1967 = .ok (.iload 4, 2) := dk_21 4 (dk_at dksL_law_75 20 rfl rfl)
theorem dL_law_1969 : decode cL_law 1969 = .ok (.iconst 1, 1) := dk_4 (dk_at dksL_law_75 22 rfl rfl)
theorem dL_law_1970 : decode cL_law 1970 = .ok (.iadd, 1) := dk_96 (dk_at dksL_law_75 23 rfl rfl)
theorem dL_law_1971 : decode cL_law 1971 = .ok (.iaload, 1) := dk_46 (dk_at dksL_law_76 0 rfl rfl)
theorem dL_law_1972 : decode cL_law 1972 = .ok (.aload_n 3, 1) := dk_45 (dk_at dksL_law_76 1 rfl rfl)
theorem dL_law_1973 : decode cL_law 1973 = .ok (.invokestatic 250, 3) := dk_184 0 250 (dk_at dksL_law_76 2 rfl rfl)
theorem dL_law_1976 : decode cL_law 1976 = .ok (.istore 5, 2) := dk_54 5 (dk_at dksL_law_76 5 rfl rfl)
theorem dL_law_1978 : decode cL_law 1978 = .ok (.aload_n 2, 1) := dk_44 (dk_at dksL_law_76 7 rfl rfl)
theorem dL_law_1979 : decode cL_law 1979 = .ok (.aload_n 0, 1) := dk_42 (dk_at dksL_law_76 8 rfl rfl)
theorem dL_law_1980 : decode cL_law 1980 = .ok (.iload 4, 2) := dk_21 4 (dk_at dksL_law_76 9 rfl rfl)
theorem dL_law_1982 : decode cL_law 1982 = .ok (.iconst 1, 1) := dk_4 (dk_at dksL_law_76 11 rfl rfl)
theorem dL_law_1983 : decode cL_law 1983 = .ok (.iadd, 1) := dk_96 (dk_at dksL_law_76 12 rfl rfl)
theorem dL_law_1984 : decode cL_law 1984 = .ok (.iaload, 1) := dk_46 (dk_at dksL_law_76 13 rfl rfl)
theorem dL_law_1985 : decode cL_law 1985 = .ok (.invokevirtual 252, 3) := dk_182 0 252 (dk_at dksL_law_76 14 rfl rfl)
theorem dL_law_1988 : decode cL_law 1988 = .ok (.istore 6, 2) := dk_54 6 (dk_at dksL_law_76 17 rfl rfl)
theorem dL_law_1990 : decode cL_law 1990 = .ok (.aload_n 2, 1) := dk_44 (dk_at dksL_law_76 19 rfl rfl)
theorem dL_law_1991 : decode cL_law 1991 = .ok (.invokevirtual 164, 3) := dk_182 0 164 (dk_at dksL_law_76 20 rfl rfl)
theorem dL_law_1994 : decode cL_law 1994 = .ok (.iload 5, 2) := dk_21 5 (dk_at dksL_law_77 0 rfl rfl)
theorem dL_law_1996 : decode cL_law 1996 = .ok (.if_icmp .eq 5, 3) := dk_159 0 5 (dk_at dksL_law_77 2 rfl rfl)
theorem dL_law_1999 : decode cL_law 1999 = .ok (.iconst 0, 1) := dk_3 (dk_at dksL_law_77 5 rfl rfl)
theorem dL_law_2000 : decode cL_law 2000 = .ok (.ireturn, 1) := dk_172 (dk_at dksL_law_77 6 rfl rfl)
theorem dL_law_2001 : decode cL_law 2001 = .ok (.iload 5, 2) := dk_21 5 (dk_at dksL_law_77 7 rfl rfl)
theorem dL_law_2003 : decode cL_law 2003 = .ok (.ifCond .ne 15, 3) := dk_154 0 15 (dk_at dksL_law_77 9 rfl rfl)
theorem dL_law_2006 : decode cL_law 2006 = .ok (.aload_n 3, 1) := dk_45 (dk_at dksL_law_77 12 rfl rfl)
theorem dL_law_2007 : decode cL_law 2007 = .ok (.iconst 0, 1) := dk_3 (dk_at dksL_law_77 13 rfl rfl)
theorem dL_law_2008 : decode cL_law 2008 = .ok (.laload, 1) := dk_47 (dk_at dksL_law_77 14 rfl rfl)
theorem dL_law_2009 : decode cL_law 2009 = .ok (.iload 6, 2) := dk_21 6 (dk_at dksL_law_77 15 rfl rfl)
theorem dL_law_2011 : decode cL_law 2011 = .ok (.i2l, 1) := dk_133 (dk_at dksL_law_77 17 rfl rfl)
theorem dL_law_2012 : decode cL_law 2012 = .ok (.lcmp, 1) := dk_148 (dk_at dksL_law_77 18 rfl rfl)
theorem dL_law_2013 : decode cL_law 2013 = .ok (.ifCond .eq 5, 3) := dk_153 0 5 (dk_at dksL_law_77 19 rfl rfl)
theorem dL_law_2016 : decode cL_law 2016 = .ok (.iconst 0, 1) := dk_3 (dk_at dksL_law_77 22 rfl rfl)
theorem dL_law_2017 : decode cL_law 2017 = .ok (.ireturn, 1) := dk_172 (dk_at dksL_law_77 23 rfl rfl)
theorem dL_law_2018 : decode cL_law 2018 = .ok (.goto 636, 3) := dk_167 2 124 (dk_at dksL_law_78 0 rfl rfl)
theorem dL_law_2021 : decode cL_law 2021 = .ok (.aload_n 1, 1) := dk_43 (dk_at dksL_law_78 3 rfl rfl)
theorem dL_law_2022 : decode cL_law 2022 = .ok (.aload_n 0, 1) := dk_42 (dk_at dksL_law_78 4 rfl rfl)
theorem dL_law_2023 : decode cL_law 2023 = .ok (.iload 4, 2) := dk_21 4 (dk_at dksL_law_78 5 rfl rfl)
theorem dL_law_2025 : decode cL_law 2025 = .ok (.iconst 1, 1) := dk_4 (dk_at dksL_law_78 7 rfl rfl)
theorem dL_law_2026 : decode cL_law 2026 = .ok (.iadd, 1) := dk_96 (dk_at dksL_law_78 8 rfl rfl)
theorem dL_law_2027 : decode cL_law 2027 = .ok (.iaload, 1) := dk_46 (dk_at dksL_law_78 9 rfl rfl)
theorem dL_law_2028 : decode cL_law 2028 = .ok (.aload_n 3, 1) := dk_45 (dk_at dksL_law_78 10 rfl rfl)
theorem dL_law_2029 : decode cL_law 2029 = .ok (.invokestatic 253, 3) := dk_184 0 253 (dk_at dksL_law_78 11 rfl rfl)
theorem dL_law_2032 : decode cL_law 2032 = .ok (.istore 5, 2) := dk_54 5 (dk_at dksL_law_78 14 rfl rfl)
theorem dL_law_2034 : decode cL_law 2034 = .ok (.aload_n 2, 1) := dk_44 (dk_at dksL_law_78 16 rfl rfl)
theorem dL_law_2035 : decode cL_law 2035 = .ok (.aload_n 0, 1) := dk_42 (dk_at dksL_law_78 17 rfl rfl)
theorem dL_law_2036 : decode cL_law 2036 = .ok (.iload 4, 2) := dk_21 4 (dk_at dksL_law_78 18 rfl rfl)
theorem dL_law_2038 : decode cL_law 2038 = .ok (.iconst 1, 1) := dk_4 (dk_at dksL_law_78 20 rfl rfl)
theorem dL_law_2039 : decode cL_law 2039 = .ok (.iadd, 1) := dk_96 (dk_at dksL_law_78 21 rfl rfl)
theorem dL_law_2040 : decode cL_law 2040 = .ok (.iaload, 1) := dk_46 (dk_at dksL_law_78 22 rfl rfl)
theorem dL_law_2041 : decode cL_law 2041 = .ok (.invokevirtual 255, 3) := dk_182 0 255 (dk_at dksL_law_79 0 rfl rfl)
theorem dL_law_2044 : decode cL_law 2044 = .ok (.istore 6, 2) := dk_54 6 (dk_at dksL_law_79 3 rfl rfl)
theorem dL_law_2046 : decode cL_law 2046 = .ok (.aload_n 2, 1) := dk_44 (dk_at dksL_law_79 5 rfl rfl)
theorem dL_law_2047 : decode cL_law 2047 = .ok (.invokevirtual 164, 3) := dk_182 0 164 (dk_at dksL_law_79 6 rfl rfl)
theorem dL_law_2050 : decode cL_law 2050 = .ok (.iload 5, 2) := dk_21 5 (dk_at dksL_law_79 9 rfl rfl)
theorem dL_law_2052 : decode cL_law 2052 = .ok (.if_icmp .eq 5, 3) := dk_159 0 5 (dk_at dksL_law_79 11 rfl rfl)
theorem dL_law_2055 : decode cL_law 2055 = .ok (.iconst 0, 1) := dk_3 (dk_at dksL_law_79 14 rfl rfl)
theorem dL_law_2056 : decode cL_law 2056 = .ok (.ireturn, 1) := dk_172 (dk_at dksL_law_79 15 rfl rfl)
theorem dL_law_2057 : decode cL_law 2057 = .ok (.iload 5, 2) := dk_21 5 (dk_at dksL_law_79 16 rfl rfl)
theorem dL_law_2059 : decode cL_law 2059 = .ok (.ifCond .ne 15, 3) := dk_154 0 15 (dk_at dksL_law_79 18 rfl rfl)
theorem dL_law_2062 : decode cL_law 2062 = .ok (.aload_n 3, 1) := dk_45 (dk_at dksL_law_79 21 rfl rfl)
theorem dL_law_2063 : decode cL_law 2063 = .ok (.iconst 0, 1) := dk_3 (dk_at dksL_law_79 22 rfl rfl)
theorem dL_law_2064 : decode cL_law 2064 = .ok (.laload, 1) := dk_47 (dk_at dksL_law_79 23 rfl rfl)
theorem dL_law_2065 : decode cL_law 2065 = .ok (.iload 6, 2) := dk_21 6 (dk_at dksL_law_80 0 rfl rfl)
theorem dL_law_2067 : decode cL_law 2067 = .ok (.i2l, 1) := dk_133 (dk_at dksL_law_80 2 rfl rfl)
theorem dL_law_2068 : decode cL_law 2068 = .ok (.lcmp, 1) := dk_148 (dk_at dksL_law_80 3 rfl rfl)
theorem dL_law_2069 : decode cL_law 2069 = .ok (.ifCond .eq 5, 3) := dk_153 0 5 (dk_at dksL_law_80 4 rfl rfl)
theorem dL_law_2072 : decode cL_law 2072 = .ok (.iconst 0, 1) := dk_3 (dk_at dksL_law_80 7 rfl rfl)
theorem dL_law_2073 : decode cL_law 2073 = .ok (.ireturn, 1) := dk_172 (dk_at dksL_law_80 8 rfl rfl)
theorem dL_law_2074 : decode cL_law 2074 = .ok (.goto 580, 3) := dk_167 2 68 (dk_at dksL_law_80 9 rfl rfl)
theorem dL_law_2077 : decode cL_law 2077 = .ok (.aload_n 1, 1) := dk_43 (dk_at dksL_law_80 12 rfl rfl)
theorem dL_law_2078 : decode cL_law 2078 = .ok (.invokevirtual 256, 3) := dk_182 1 0 (dk_at dksL_law_80 13 rfl rfl)
theorem dL_law_2081 : decode cL_law 2081 = .ok (.aload_n 2, 1) := dk_44 (dk_at dksL_law_80 16 rfl rfl)
theorem dL_law_2082 : decode cL_law 2082 = .ok (.invokevirtual 259, 3) := dk_182 1 3 (dk_at dksL_law_80 17 rfl rfl)
theorem dL_law_2085 : decode cL_law 2085 = .ok (.if_icmp .eq 569, 3) := dk_159 2 57 (dk_at dksL_law_80 20 rfl rfl)
theorem dL_law_2088 : decode cL_law 2088 = .ok (.iconst 0, 1) := dk_3 (dk_at dksL_law_80 23 rfl rfl)
theorem dL_law_2089 : decode cL_law 2089 = .ok (.ireturn, 1) := dk_172 (dk_at dksL_law_81 0 rfl rfl)
theorem dL_law_2090 : decode cL_law 2090 = .ok (.aload_n 1, 1) := dk_43 (dk_at dksL_law_81 1 rfl rfl)
theorem dL_law_2091 : decode cL_law 2091 = .ok (.invokevirtual 260, 3) := dk_182 1 4 (dk_at dksL_law_81 2 rfl rfl)
theorem dL_law_2094 : decode cL_law 2094 = .ok (.dstore 5, 2) := dk_57 5 (dk_at dksL_law_81 5 rfl rfl)
theorem dL_law_2096 : decode cL_law 2096 = .ok (.aload_n 2, 1) := dk_44 (dk_at dksL_law_81 7 rfl rfl)
theorem dL_law_2097 : decode cL_law 2097 = .ok (.invokevirtual 264, 3) := dk_182 1 8 (dk_at dksL_law_81 8 rfl rfl)
theorem dL_law_2100 : decode cL_law 2100 = .ok (.dstore 7, 2) := dk_57 7 (dk_at dksL_law_81 11 rfl rfl)
theorem dL_law_2102 : decode cL_law 2102 = .ok (.dload 5, 2) := dk_24 5 (dk_at dksL_law_81 13 rfl rfl)
theorem dL_law_2104 : decode cL_law 2104 = .ok (.dload 7, 2) := dk_24 7 (dk_at dksL_law_81 15 rfl rfl)
theorem dL_law_2106 : decode cL_law 2106 = .ok (.dcmp .l, 1) := dk_151 (dk_at dksL_law_81 17 rfl rfl)
theorem dL_law_2107 : decode cL_law 2107 = .ok (.ifCond .eq 21, 3) := dk_153 0 21 (dk_at dksL_law_81 18 rfl rfl)
theorem dL_law_2110 : decode cL_law 2110 = .ok (.dload 5, 2) := dk_24 5 (dk_at dksL_law_81 21 rfl rfl)
theorem dL_law_2112 : decode cL_law 2112 = .ok (.dload 5, 2) := dk_24 5 (dk_at dksL_law_82 0 rfl rfl)
theorem dL_law_2114 : decode cL_law 2114 = .ok (.dcmp .l, 1) := dk_151 (dk_at dksL_law_82 2 rfl rfl)
theorem dL_law_2115 : decode cL_law 2115 = .ok (.ifCond .eq 11, 3) := dk_153 0 11 (dk_at dksL_law_82 3 rfl rfl)
theorem dL_law_2118 : decode cL_law 2118 = .ok (.dload 7, 2) := dk_24 7 (dk_at dksL_law_82 6 rfl rfl)
theorem dL_law_2120 : decode cL_law 2120 = .ok (.dload 7, 2) := dk_24 7 (dk_at dksL_law_82 8 rfl rfl)
theorem dL_law_2122 : decode cL_law 2122 = .ok (.dcmp .l, 1) := dk_151 (dk_at dksL_law_82 10 rfl rfl)
theorem dL_law_2123 : decode cL_law 2123 = .ok (.ifCond .ne 5, 3) := dk_154 0 5 (dk_at dksL_law_82 11 rfl rfl)
theorem dL_law_2126 : decode cL_law 2126 = .ok (.iconst 0, 1) := dk_3 (dk_at dksL_law_82 14 rfl rfl)
theorem dL_law_2127 : decode cL_law 2127 = .ok (.ireturn, 1) := dk_172 (dk_at dksL_law_82 15 rfl rfl)
theorem dL_law_2128 : decode cL_law 2128 = .ok (.goto 526, 3) := dk_167 2 14 (dk_at dksL_law_82 16 rfl rfl)
theorem dL_law_2131 : decode cL_law 2131 = .ok (.aload_n 1, 1) := dk_43 (dk_at dksL_law_82 19 rfl rfl)
theorem dL_law_2132 : decode cL_law 2132 = .ok (.invokevirtual 265, 3) := dk_182 1 9 (dk_at dksL_law_82 20 rfl rfl)
theorem dL_law_2135 : decode cL_law 2135 = .ok (.f2d, 1) := dk_141 (dk_at dksL_law_82 23 rfl rfl)
theorem dL_law_2136 : decode cL_law 2136 = .ok (.dstore 5, 2) := dk_57 5 (dk_at dksL_law_83 0 rfl rfl)
theorem dL_law_2138 : decode cL_law 2138 = .ok (.aload_n 2, 1) := dk_44 (dk_at dksL_law_83 2 rfl rfl)
theorem dL_law_2139 : decode cL_law 2139 = .ok (.invokevirtual 269, 3) := dk_182 1 13 (dk_at dksL_law_83 3 rfl rfl)
theorem dL_law_2142 : decode cL_law 2142 = .ok (.f2d, 1) := dk_141 (dk_at dksL_law_83 6 rfl rfl)
theorem dL_law_2143 : decode cL_law 2143 = .ok (.dstore 7, 2) := dk_57 7 (dk_at dksL_law_83 7 rfl rfl)
theorem dL_law_2145 : decode cL_law 2145 = .ok (.dload 5, 2) := dk_24 5 (dk_at dksL_law_83 9 rfl rfl)
theorem dL_law_2147 : decode cL_law 2147 = .ok (.dload 7, 2) := dk_24 7 (dk_at dksL_law_83 11 rfl rfl)
theorem dL_law_2149 : decode cL_law 2149 = .ok (.dcmp .l, 1) := dk_151 (dk_at dksL_law_83 13 rfl rfl)
theorem dL_law_2150 : decode cL_law 2150 = .ok (.ifCond .eq 21, 3) := dk_153 0 21 (dk_at dksL_law_83 14 rfl rfl)
theorem dL_law_2153 : decode cL_law 2153 = .ok (.dload 5, 2) := dk_24 5 (dk_at dksL_law_83 17 rfl rfl)
theorem dL_law_2155 : decode cL_law 2155 = .ok (.dload 5, 2) := dk_24 5 (dk_at dksL_law_83 19 rfl rfl)
theorem dL_law_2157 : decode cL_law 2157 = .ok (.dcmp .l, 1) := dk_151 (dk_at dksL_law_83 21 rfl rfl)
theorem dL_law_2158 : decode cL_law 2158 = .ok (.ifCond .eq 11, 3) := dk_153 0 11 (dk_at dksL_law_84 0 rfl rfl)
theorem dL_law_2161 : decode cL_law 2161 = .ok (.dload 7, 2) := dk_24 7 (dk_at dksL_law_84 3 rfl rfl)
theorem dL_law_2163 : decode cL_law 2163 = .ok (.dload 7, 2) := dk_24 7 (dk_at dksL_law_84 5 rfl rfl)
theorem dL_law_2165 : decode cL_law 2165 = .ok (.dcmp .l, 1) := dk_151 (dk_at dksL_law_84 7 rfl rfl)
theorem dL_law_2166 : decode cL_law 2166 = .ok (.ifCond .ne 5, 3) := dk_154 0 5 (dk_at dksL_law_84 8 rfl rfl)
theorem dL_law_2169 : decode cL_law 2169 = .ok (.iconst 0, 1) := dk_3 (dk_at dksL_law_84 11 rfl rfl)
theorem dL_law_2170 : decode cL_law 2170 = .ok (.ireturn, 1) := dk_172 (dk_at dksL_law_84 12 rfl rfl)
theorem dL_law_2171 : decode cL_law 2171 = .ok (.goto 483, 3) := dk_167 1 227 (dk_at dksL_law_84 13 rfl rfl)
theorem dL_law_2174 : decode cL_law 2174 = .ok (.aload_n 1, 1) := dk_43 (dk_at dksL_law_84 16 rfl rfl)
theorem dL_law_2175 : decode cL_law 2175 = .ok (.invokevirtual 270, 3) := dk_182 1 14 (dk_at dksL_law_84 17 rfl rfl)
theorem dL_law_2178 : decode cL_law 2178 = .ok (.aload_n 2, 1) := dk_44 (dk_at dksL_law_84 20 rfl rfl)
theorem dL_law_2179 : decode cL_law 2179 = .ok (.invokevirtual 274, 3) := dk_182 1 18 (dk_at dksL_law_84 21 rfl rfl)
theorem dL_law_2182 : decode cL_law 2182 = .ok (.if_icmp .eq 472, 3) := dk_159 1 216 (dk_at dksL_law_85 0 rfl rfl)
theorem dL_law_2185 : decode cL_law 2185 = .ok (.iconst 0, 1) := dk_3 (dk_at dksL_law_85 3 rfl rfl)
theorem dL_law_2186 : decode cL_law 2186 = .ok (.ireturn, 1) := dk_172 (dk_at dksL_law_85 4 rfl rfl)
theorem dL_law_2187 : decode cL_law 2187 = .ok (.aload_n 1, 1) := dk_43 (dk_at dksL_law_85 5 rfl rfl)
theorem dL_law_2188 : decode cL_law 2188 = .ok (.aload_n 0, 1) := dk_42 (dk_at dksL_law_85 6 rfl rfl)
theorem dL_law_2189 : decode cL_law 2189 = .ok (.iload 4, 2) := dk_21 4 (dk_at dksL_law_85 7 rfl rfl)
theorem dL_law_2191 : decode cL_law 2191 = .ok (.iconst 1, 1) := dk_4 (dk_at dksL_law_85 9 rfl rfl)
theorem dL_law_2192 : decode cL_law 2192 = .ok (.iadd, 1) := dk_96 (dk_at dksL_law_85 10 rfl rfl)
theorem dL_law_2193 : decode cL_law 2193 = .ok (.iaload, 1) := dk_46 (dk_at dksL_law_85 11 rfl rfl)
theorem dL_law_2194 : decode cL_law 2194 = .ok (.aload_n 0, 1) := dk_42 (dk_at dksL_law_85 12 rfl rfl)
theorem dL_law_2195 : decode cL_law 2195 = .ok (.iload 4, 2) := dk_21 4 (dk_at dksL_law_85 13 rfl rfl)
theorem dL_law_2197 : decode cL_law 2197 = .ok (.iconst 2, 1) := dk_5 (dk_at dksL_law_85 15 rfl rfl)
theorem dL_law_2198 : decode cL_law 2198 = .ok (.iadd, 1) := dk_96 (dk_at dksL_law_85 16 rfl rfl)
theorem dL_law_2199 : decode cL_law 2199 = .ok (.iaload, 1) := dk_46 (dk_at dksL_law_85 17 rfl rfl)
theorem dL_law_2200 : decode cL_law 2200 = .ok (.aload_n 0, 1) := dk_42 (dk_at dksL_law_85 18 rfl rfl)
theorem dL_law_2201 : decode cL_law 2201 = .ok (.iload 4, 2) := dk_21 4 (dk_at dksL_law_85 19 rfl rfl)
theorem dL_law_2203 : decode cL_law 2203 = .ok (.iconst 3, 1) := dk_6 (dk_at dksL_law_85 21 rfl rfl)
theorem dL_law_2204 : decode cL_law 2204 = .ok (.iadd, 1) := dk_96 (dk_at dksL_law_85 22 rfl rfl)
theorem dL_law_2205 : decode cL_law 2205 = .ok (.iaload, 1) := dk_46 (dk_at dksL_law_85 23 rfl rfl)
theorem dL_law_2206 : decode cL_law 2206 = .ok (.aload_n 3, 1) := dk_45 (dk_at dksL_law_86 0 rfl rfl)
theorem dL_law_2207 : decode cL_law 2207 = .ok (.invokestatic 275, 3) := dk_184 1 19 (dk_at dksL_law_86 1 rfl rfl)
theorem dL_law_2210 : decode cL_law 2210 = .ok (.istore 5, 2) := dk_54 5 (dk_at dksL_law_86 4 rfl rfl)
theorem dL_law_2212 : decode cL_law 2212 = .ok (.aload_n 2, 1) := dk_44 (dk_at dksL_law_86 6 rfl rfl)
theorem dL_law_2213 : decode cL_law 2213 = .ok (.aload_n 0, 1) := dk_42 (dk_at dksL_law_86 7 rfl rfl)
theorem dL_law_2214 : decode cL_law 2214 = .ok (.iload 4, 2) := dk_21 4 (dk_at dksL_law_86 8 rfl rfl)
theorem dL_law_2216 : decode cL_law 2216 = .ok (.iconst 1, 1) := dk_4 (dk_at dksL_law_86 10 rfl rfl)
theorem dL_law_2217 : decode cL_law 2217 = .ok (.iadd, 1) := dk_96 (dk_at dksL_law_86 11 rfl rfl)
theorem dL_law_2218 : decode cL_law 2218 = .ok (.iaload, 1) := dk_46 (dk_at dksL_law_86 12 rfl rfl)
theorem dL_law_2219 : decode cL_law 2219 = .ok (.aload_n 0, 1) := dk_42 (dk_at dksL_law_86 13 rfl rfl)
theorem dL_law_2220 : decode cL_law 2220 = .ok (.iload 4, 2) := dk_21 4 (dk_at dksL_law_86 14 rfl rfl)
theorem dL_law_2222 : decode cL_law 2222 = .ok (.iconst 2, 1) := dk_5 (dk_at dksL_law_86 16 rfl rfl)
theorem dL_law_2223 : decode cL_law 2223 = .ok (.iadd, 1) := dk_96 (dk_at dksL_law_86 17 rfl rfl)
theorem dL_law_2224 : decode cL_law 2224 = .ok (.iaload, 1) := dk_46 (dk_at dksL_law_86 18 rfl rfl)
theorem dL_law_2225 : decode cL_law 2225 = .ok (.aload_n 0, 1) := dk_42 (dk_at dksL_law_86 19 rfl rfl)
theorem dL_law_2226 : decode cL_law 2226 = .ok (.iload 4, 2) := dk_21 4 (dk_at dksL_law_86 20 rfl rfl)
theorem dL_law_2228 : decode cL_law 2228 = .ok (.iconst 3, 1) := dk_6 (dk_at dksL_law_86 22 rfl rfl)
theorem dL_law_2229 : decode cL_law 2229 = .ok (.iadd, 1) := dk_96 (dk_at dksL_law_86 23 rfl rfl)
theorem dL_law_2230 : decode cL_law 2230 = .ok (.iaload, 1) := dk_46 (dk_at dksL_law_87 0 rfl rfl)
theorem dL_law_2231 : decode cL_law 2231 = .ok (.invokevirtual 277, 3) := dk_182 1 21 (dk_at dksL_law_87 1 rfl rfl)
theorem dL_law_2234 : decode cL_law 2234 = .ok (.istore 6, 2) := dk_54 6 (dk_at dksL_law_87 4 rfl rfl)
theorem dL_law_2236 : decode cL_law 2236 = .ok (.aload_n 2, 1) := dk_44 (dk_at dksL_law_87 6 rfl rfl)
theorem dL_law_2237 : decode cL_law 2237 = .ok (.invokevirtual 164, 3) := dk_182 0 164 (dk_at dksL_law_87 7 rfl rfl)
theorem dL_law_2240 : decode cL_law 2240 = .ok (.iload 5, 2) := dk_21 5 (dk_at dksL_law_87 10 rfl rfl)
theorem dL_law_2242 : decode cL_law 2242 = .ok (.if_icmp .eq 5, 3) := dk_159 0 5 (dk_at dksL_law_87 12 rfl rfl)
theorem dL_law_2245 : decode cL_law 2245 = .ok (.iconst 0, 1) := dk_3 (dk_at dksL_law_87 15 rfl rfl)
theorem dL_law_2246 : decode cL_law 2246 = .ok (.ireturn, 1) := dk_172 (dk_at dksL_law_87 16 rfl rfl)
theorem dL_law_2247 : decode cL_law 2247 = .ok (.iload 5, 2) := dk_21 5 (dk_at dksL_law_87 17 rfl rfl)
theorem dL_law_2249 : decode cL_law 2249 = .ok (.ifCond .ne 15, 3) := dk_154 0 15 (dk_at dksL_law_87 19 rfl rfl)
theorem dL_law_2252 : decode cL_law 2252 = .ok (.aload_n 3, 1) := dk_45 (dk_at dksL_law_87 22 rfl rfl)
theorem dL_law_2253 : decode cL_law 2253 = .ok (.iconst 0, 1) := dk_3 (dk_at dksL_law_87 23 rfl rfl)
theorem dL_law_2254 : decode cL_law 2254 = .ok (.laload, 1) := dk_47 (dk_at dksL_law_88 0 rfl rfl)
theorem dL_law_2255 : decode cL_law 2255 = .ok (.iload 6, 2) := dk_21 6 (dk_at dksL_law_88 1 rfl rfl)
theorem dL_law_2257 : decode cL_law 2257 = .ok (.i2l, 1) := dk_133 (dk_at dksL_law_88 3 rfl rfl)
theorem dL_law_2258 : decode cL_law 2258 = .ok (.lcmp, 1) := dk_148 (dk_at dksL_law_88 4 rfl rfl)
theorem dL_law_2259 : decode cL_law 2259 = .ok (.ifCond .eq 5, 3) := dk_153 0 5 (dk_at dksL_law_88 5 rfl rfl)
theorem dL_law_2262 : decode cL_law 2262 = .ok (.iconst 0, 1) := dk_3 (dk_at dksL_law_88 8 rfl rfl)
theorem dL_law_2263 : decode cL_law 2263 = .ok (.ireturn, 1) := dk_172 (dk_at dksL_law_88 9 rfl rfl)
theorem dL_law_2264 : decode cL_law 2264 = .ok (.goto 390, 3) := dk_167 1 134 (dk_at dksL_law_88 10 rfl rfl)
theorem dL_law_2267 : decode cL_law 2267 = .ok (.aload_n 1, 1) := dk_43 (dk_at dksL_law_88 13 rfl rfl)
theorem dL_law_2268 : decode cL_law 2268 = .ok (.aload_n 0, 1) := dk_42 (dk_at dksL_law_88 14 rfl rfl)
theorem dL_law_2269 : decode cL_law 2269 = .ok (.iload 4, 2) := dk_21 4 (dk_at dksL_law_88 15 rfl rfl)
theorem dL_law_2271 : decode cL_law 2271 = .ok (.iconst 1, 1) := dk_4 (dk_at dksL_law_88 17 rfl rfl)
theorem dL_law_2272 : decode cL_law 2272 = .ok (.iadd, 1) := dk_96 (dk_at dksL_law_88 18 rfl rfl)
theorem dL_law_2273 : decode cL_law 2273 = .ok (.iaload, 1) := dk_46 (dk_at dksL_law_88 19 rfl rfl)
theorem dL_law_2274 : decode cL_law 2274 = .ok (.aload_n 0, 1) := dk_42 (dk_at dksL_law_88 20 rfl rfl)
theorem dL_law_2275 : decode cL_law 2275 = .ok (.iload 4, 2) := dk_21 4 (dk_at dksL_law_88 21 rfl rfl)
theorem dL_law_2277 : decode cL_law 2277 = .ok (.iconst 2, 1) := dk_5 (dk_at dksL_law_88 23 rfl rfl)
theorem dL_law_2278 : decode cL_law 2278 = .ok (.iadd, 1) := dk_96 (dk_at dksL_law_89 0 rfl rfl)
theorem dL_law_2279 : decode cL_law 2279 = .ok (.iaload, 1) := dk_46 (dk_at dksL_law_89 1 rfl rfl)
theorem dL_law_2280 : decode cL_law 2280 = .ok (.aload_n 3, 1) := dk_45 (dk_at dksL_law_89 2 rfl rfl)
theorem dL_law_2281 : decode cL_law 2281 = .ok (.invokestatic 278, 3) := dk_184 1 22 (dk_at dksL_law_89 3 rfl rfl)
theorem dL_law_2284 : decode cL_law 2284 = .ok (.istore 5, 2) := dk_54 5 (dk_at dksL_law_89 6 rfl rfl)
theorem dL_law_2286 : decode cL_law 2286 = .ok (.aload_n 2, 1) := dk_44 (dk_at dksL_law_89 8 rfl rfl)
theorem dL_law_2287 : decode cL_law 2287 = .ok (.aload_n 0, 1) := dk_42 (dk_at dksL_law_89 9 rfl rfl)
theorem dL_law_2288 : decode cL_law 2288 = .ok (.iload 4, 2) := dk_21 4 (dk_at dksL_law_89 10 rfl rfl)
theorem dL_law_2290 : decode cL_law 2290 = .ok (.iconst 1, 1) := dk_4 (dk_at dksL_law_89 12 rfl rfl)
theorem dL_law_2291 : decode cL_law 2291 = .ok (.iadd, 1) := dk_96 (dk_at dksL_law_89 13 rfl rfl)
theorem dL_law_2292 : decode cL_law 2292 = .ok (.iaload, 1) := dk_46 (dk_at dksL_law_89 14 rfl rfl)
theorem dL_law_2293 : decode cL_law 2293 = .ok (.aload_n 0, 1) := dk_42 (dk_at dksL_law_89 15 rfl rfl)
theorem dL_law_2294 : decode cL_law 2294 = .ok (.iload 4, 2) := dk_21 4 (dk_at dksL_law_89 16 rfl rfl)
theorem dL_law_2296 : decode cL_law 2296 = .ok (.iconst 2, 1) := dk_5 (dk_at dksL_law_89 18 rfl rfl)
theorem dL_law_2297 : decode cL_law 2297 = .ok (.iadd, 1) := dk_96 (dk_at dksL_law_89 19 rfl rfl)
theorem dL_law_2298 : decode cL_law 2298 = .ok (.iaload, 1) := dk_46 (dk_at dksL_law_89 20 rfl rfl)
theorem dL_law_2299 : decode cL_law 2299 = .ok (.invokevirtual 280, 3) := dk_182 1 24 (dk_at dksL_law_89 21 rfl rfl)
theorem dL_law_2302 : decode cL_law 2302 = .ok (.istore 6, 2) := dk_54 6 (dk_at dksL_law_90 0 rfl rfl)
theorem dL_law_2304 : decode cL_law 2304 = .ok (.aload_n 2, 1) := dk_44 (dk_at dksL_law_90 2 rfl rfl)
theorem dL_law_2305 : decode cL_law 2305 = .ok (.invokevirtual 164, 3) := dk_182 0 164 (dk_at dksL_law_90 3 rfl rfl)
theorem dL_law_2308 : decode cL_law 2308 = .ok (.iload 5, 2) := dk_21 5 (dk_at dksL_law_90 6 rfl rfl)
theorem dL_law_2310 : decode cL_law 2310 = .ok (.if_icmp .eq 5, 3) := dk_159 0 5 (dk_at dksL_law_90 8 rfl rfl)
theorem dL_law_2313 : decode cL_law 2313 = .ok (.iconst 0, 1) := dk_3 (dk_at dksL_law_90 11 rfl rfl)
theorem dL_law_2314 : decode cL_law 2314 = .ok (.ireturn, 1) := dk_172 (dk_at dksL_law_90 12 rfl rfl)
theorem dL_law_2315 : decode cL_law 2315 = .ok (.iload 5, 2) := dk_21 5 (dk_at dksL_law_90 13 rfl rfl)
theorem dL_law_2317 : decode cL_law 2317 = .ok (.ifCond .ne 15, 3) := dk_154 0 15 (dk_at dksL_law_90 15 rfl rfl)
theorem dL_law_2320 : decode cL_law 2320 = .ok (.aload_n 3, 1) := dk_45 (dk_at dksL_law_90 18 rfl rfl)
theorem dL_law_2321 : decode cL_law 2321 = .ok (.iconst 0, 1) := dk_3 (dk_at dksL_law_90 19 rfl rfl)
theorem dL_law_2322 : decode cL_law 2322 = .ok (.laload, 1) := dk_47 (dk_at dksL_law_90 20 rfl rfl)
theorem dL_law_2323 : decode cL_law 2323 = .ok (.iload 6, 2) := dk_21 6 (dk_at dksL_law_90 21 rfl rfl)
theorem dL_law_2325 : decode cL_law 2325 = .ok (.i2l, 1) := dk_133 (dk_at dksL_law_90 23 rfl rfl)
theorem dL_law_2326 : decode cL_law 2326 = .ok (.lcmp, 1) := dk_148 (dk_at dksL_law_91 0 rfl rfl)
theorem dL_law_2327 : decode cL_law 2327 = .ok (.ifCond .eq 5, 3) := dk_153 0 5 (dk_at dksL_law_91 1 rfl rfl)
theorem dL_law_2330 : decode cL_law 2330 = .ok (.iconst 0, 1) := dk_3 (dk_at dksL_law_91 4 rfl rfl)
theorem dL_law_2331 : decode cL_law 2331 = .ok (.ireturn, 1) := dk_172 (dk_at dksL_law_91 5 rfl rfl)
theorem dL_law_2332 : decode cL_law 2332 = .ok (.goto 322, 3) := dk_167 1 66 (dk_at dksL_law_91 6 rfl rfl)
theorem dL_law_2335 : decode cL_law 2335 = .ok (.aload_n 1, 1) := dk_43 (dk_at dksL_law_91 9 rfl rfl)
theorem dL_law_2336 : decode cL_law 2336 = .ok (.aload_n 0, 1) := dk_42 (dk_at dksL_law_91 10 rfl rfl)
theorem dL_law_2337 : decode cL_law 2337 = .ok (.iload 4, 2) := dk_21 4 (dk_at dksL_law_91 11 rfl rfl)
theorem dL_law_2339 : decode cL_law 2339 = .ok (.iconst 1, 1) := dk_4 (dk_at dksL_law_91 13 rfl rfl)
theorem dL_law_2340 : decode cL_law 2340 = .ok (.iadd, 1) := dk_96 (dk_at dksL_law_91 14 rfl rfl)
theorem dL_law_2341 : decode cL_law 2341 = .ok (.iaload, 1) := dk_46 (dk_at dksL_law_91 15 rfl rfl)
theorem dL_law_2342 : decode cL_law 2342 = .ok (.aload_n 0, 1) := dk_42 (dk_at dksL_law_91 16 rfl rfl)
theorem dL_law_2343 : decode cL_law 2343 = .ok (.iload 4, 2) := dk_21 4 (dk_at dksL_law_91 17 rfl rfl)
theorem dL_law_2345 : decode cL_law 2345 = .ok (.iconst 2, 1) := dk_5 (dk_at dksL_law_91 19 rfl rfl)
theorem dL_law_2346 : decode cL_law 2346 = .ok (.iadd, 1) := dk_96 (dk_at dksL_law_91 20 rfl rfl)
theorem dL_law_2347 : decode cL_law 2347 = .ok (.iaload, 1) := dk_46 (dk_at dksL_law_91 21 rfl rfl)
theorem dL_law_2348 : decode cL_law 2348 = .ok (.aload_n 3, 1) := dk_45 (dk_at dksL_law_91 22 rfl rfl)
theorem dL_law_2349 : decode cL_law 2349 = .ok (.invokestatic 281, 3) := dk_184 1 25 (dk_at dksL_law_92 0 rfl rfl)
theorem dL_law_2352 : decode cL_law 2352 = .ok (.istore 5, 2) := dk_54 5 (dk_at dksL_law_92 3 rfl rfl)
theorem dL_law_2354 : decode cL_law 2354 = .ok (.aload_n 2, 1) := dk_44 (dk_at dksL_law_92 5 rfl rfl)
theorem dL_law_2355 : decode cL_law 2355 = .ok (.aload_n 0, 1) := dk_42 (dk_at dksL_law_92 6 rfl rfl)
theorem dL_law_2356 : decode cL_law 2356 = .ok (.iload 4, 2) := dk_21 4 (dk_at dksL_law_92 7 rfl rfl)
theorem dL_law_2358 : decode cL_law 2358 = .ok (.iconst 1, 1) := dk_4 (dk_at dksL_law_92 9 rfl rfl)
theorem dL_law_2359 : decode cL_law 2359 = .ok (.iadd, 1) := dk_96 (dk_at dksL_law_92 10 rfl rfl)
theorem dL_law_2360 : decode cL_law 2360 = .ok (.iaload, 1) := dk_46 (dk_at dksL_law_92 11 rfl rfl)
theorem dL_law_2361 : decode cL_law 2361 = .ok (.aload_n 0, 1) := dk_42 (dk_at dksL_law_92 12 rfl rfl)
theorem dL_law_2362 : decode cL_law 2362 = .ok (.iload 4, 2) := dk_21 4 (dk_at dksL_law_92 13 rfl rfl)
theorem dL_law_2364 : decode cL_law 2364 = .ok (.iconst 2, 1) := dk_5 (dk_at dksL_law_92 15 rfl rfl)
theorem dL_law_2365 : decode cL_law 2365 = .ok (.iadd, 1) := dk_96 (dk_at dksL_law_92 16 rfl rfl)
theorem dL_law_2366 : decode cL_law 2366 = .ok (.iaload, 1) := dk_46 (dk_at dksL_law_92 17 rfl rfl)
theorem dL_law_2367 : decode cL_law 2367 = .ok (.invokevirtual 283, 3) := dk_182 1 27 (dk_at dksL_law_92 18 rfl rfl)
theorem dL_law_2370 : decode cL_law 2370 = .ok (.istore 6, 2) := dk_54 6 (dk_at dksL_law_92 21 rfl rfl)
theorem dL_law_2372 : decode cL_law 2372 = .ok (.aload_n 2, 1) := dk_44 (dk_at dksL_law_92 23 rfl rfl)
theorem dL_law_2373 : decode cL_law 2373 = .ok (.invokevirtual 164, 3) := dk_182 0 164 (dk_at dksL_law_93 0 rfl rfl)
theorem dL_law_2376 : decode cL_law 2376 = .ok (.iload 5, 2) := dk_21 5 (dk_at dksL_law_93 3 rfl rfl)
theorem dL_law_2378 : decode cL_law 2378 = .ok (.if_icmp .eq 5, 3) := dk_159 0 5 (dk_at dksL_law_93 5 rfl rfl)
theorem dL_law_2381 : decode cL_law 2381 = .ok (.iconst 0, 1) := dk_3 (dk_at dksL_law_93 8 rfl rfl)
theorem dL_law_2382 : decode cL_law 2382 = .ok (.ireturn, 1) := dk_172 (dk_at dksL_law_93 9 rfl rfl)
theorem dL_law_2383 : decode cL_law 2383 = .ok (.iload 5, 2) := dk_21 5 (dk_at dksL_law_93 10 rfl rfl)
theorem dL_law_2385 : decode cL_law 2385 = .ok (.ifCond .ne 15, 3) := dk_154 0 15 (dk_at dksL_law_93 12 rfl rfl)
theorem dL_law_2388 : decode cL_law 2388 = .ok (.aload_n 3, 1) := dk_45 (dk_at dksL_law_93 15 rfl rfl)
theorem dL_law_2389 : decode cL_law 2389 = .ok (.iconst 0, 1) := dk_3 (dk_at dksL_law_93 16 rfl rfl)
theorem dL_law_2390 : decode cL_law 2390 = .ok (.laload, 1) := dk_47 (dk_at dksL_law_93 17 rfl rfl)
theorem dL_law_2391 : decode cL_law 2391 = .ok (.iload 6, 2) := dk_21 6 (dk_at dksL_law_93 18 rfl rfl)
theorem dL_law_2393 : decode cL_law 2393 = .ok (.i2l, 1) := dk_133 (dk_at dksL_law_93 20 rfl rfl)
theorem dL_law_2394 : decode cL_law 2394 = .ok (.lcmp, 1) := dk_148 (dk_at dksL_law_93 21 rfl rfl)
theorem dL_law_2395 : decode cL_law 2395 = .ok (.ifCond .eq 5, 3) := dk_153 0 5 (dk_at dksL_law_94 0 rfl rfl)
theorem dL_law_2398 : decode cL_law 2398 = .ok (.iconst 0, 1) := dk_3 (dk_at dksL_law_94 3 rfl rfl)
theorem dL_law_2399 : decode cL_law 2399 = .ok (.ireturn, 1) := dk_172 (dk_at dksL_law_94 4 rfl rfl)
theorem dL_law_2400 : decode cL_law 2400 = .ok (.goto 254, 3) := dk_167 0 254 (dk_at dksL_law_94 5 rfl rfl)
theorem dL_law_2403 : decode cL_law 2403 = .ok (.aload_n 1, 1) := dk_43 (dk_at dksL_law_94 8 rfl rfl)
theorem dL_law_2404 : decode cL_law 2404 = .ok (.aload_n 0, 1) := dk_42 (dk_at dksL_law_94 9 rfl rfl)
theorem dL_law_2405 : decode cL_law 2405 = .ok (.iload 4, 2) := dk_21 4 (dk_at dksL_law_94 10 rfl rfl)
theorem dL_law_2407 : decode cL_law 2407 = .ok (.iconst 1, 1) := dk_4 (dk_at dksL_law_94 12 rfl rfl)
theorem dL_law_2408 : decode cL_law 2408 = .ok (.iadd, 1) := dk_96 (dk_at dksL_law_94 13 rfl rfl)
theorem dL_law_2409 : decode cL_law 2409 = .ok (.iaload, 1) := dk_46 (dk_at dksL_law_94 14 rfl rfl)
theorem dL_law_2410 : decode cL_law 2410 = .ok (.aload_n 3, 1) := dk_45 (dk_at dksL_law_94 15 rfl rfl)
theorem dL_law_2411 : decode cL_law 2411 = .ok (.invokestatic 284, 3) := dk_184 1 28 (dk_at dksL_law_94 16 rfl rfl)
theorem dL_law_2414 : decode cL_law 2414 = .ok (.istore 5, 2) := dk_54 5 (dk_at dksL_law_94 19 rfl rfl)
theorem dL_law_2416 : decode cL_law 2416 = .ok (.aload_n 2, 1) := dk_44 (dk_at dksL_law_94 21 rfl rfl)
theorem dL_law_2417 : decode cL_law 2417 = .ok (.aload_n 0, 1) := dk_42 (dk_at dksL_law_94 22 rfl rfl)
theorem dL_law_2418 : decode cL_law 2418 = .ok (.iload 4, 2) := dk_21 4 (dk_at dksL_law_95 0 rfl rfl)
theorem dL_law_2420 : decode cL_law 2420 = .ok (.iconst 1, 1) := dk_4 (dk_at dksL_law_95 2 rfl rfl)
theorem dL_law_2421 : decode cL_law 2421 = .ok (.iadd, 1) := dk_96 (dk_at dksL_law_95 3 rfl rfl)
theorem dL_law_2422 : decode cL_law 2422 = .ok (.iaload, 1) := dk_46 (dk_at dksL_law_95 4 rfl rfl)
theorem dL_law_2423 : decode cL_law 2423 = .ok (.invokevirtual 286, 3) := dk_182 1 30 (dk_at dksL_law_95 5 rfl rfl)
theorem dL_law_2426 : decode cL_law 2426 = .ok (.istore 6, 2) := dk_54 6 (dk_at dksL_law_95 8 rfl rfl)
theorem dL_law_2428 : decode cL_law 2428 = .ok (.aload_n 2, 1) := dk_44 (dk_at dksL_law_95 10 rfl rfl)
theorem dL_law_2429 : decode cL_law 2429 = .ok (.invokevirtual 164, 3) := dk_182 0 164 (dk_at dksL_law_95 11 rfl rfl)
theorem dL_law_2432 : decode cL_law 2432 = .ok (.iload 5, 2) := dk_21 5 (dk_at dksL_law_95 14 rfl rfl)
theorem dL_law_2434 : decode cL_law 2434 = .ok (.if_icmp .eq 5, 3) := dk_159 0 5 (dk_at dksL_law_95 16 rfl rfl)
theorem dL_law_2437 : decode cL_law 2437 = .ok (.iconst 0, 1) := dk_3 (dk_at dksL_law_95 19 rfl rfl)
theorem dL_law_2438 : decode cL_law 2438 = .ok (.ireturn, 1) := dk_172 (dk_at dksL_law_95 20 rfl rfl)
theorem dL_law_2439 : decode cL_law 2439 = .ok (.iload 5, 2) := dk_21 5 (dk_at dksL_law_95 21 rfl rfl)
theorem dL_law_2441 : decode cL_law 2441 = .ok (.ifCond .ne 15, 3) := dk_154 0 15 (dk_at dksL_law_96 0 rfl rfl)
theorem dL_law_2444 : decode cL_law 2444 = .ok (.aload_n 3, 1) := dk_45 (dk_at dksL_law_96 3 rfl rfl)
theorem dL_law_2445 : decode cL_law 2445 = .ok (.iconst 0, 1) := dk_3 (dk_at dksL_law_96 4 rfl rfl)
theorem dL_law_2446 : decode cL_law 2446 = .ok (.laload, 1) := dk_47 (dk_at dksL_law_96 5 rfl rfl)
theorem dL_law_2447 : decode cL_law 2447 = .ok (.iload 6, 2) := dk_21 6 (dk_at dksL_law_96 6 rfl rfl)
theorem dL_law_2449 : decode cL_law 2449 = .ok (.i2l, 1) := dk_133 (dk_at dksL_law_96 8 rfl rfl)
theorem dL_law_2450 : decode cL_law 2450 = .ok (.lcmp, 1) := dk_148 (dk_at dksL_law_96 9 rfl rfl)
theorem dL_law_2451 : decode cL_law 2451 = .ok (.ifCond .eq 5, 3) := dk_153 0 5 (dk_at dksL_law_96 10 rfl rfl)
theorem dL_law_2454 : decode cL_law 2454 = .ok (.iconst 0, 1) := dk_3 (dk_at dksL_law_96 13 rfl rfl)
theorem dL_law_2455 : decode cL_law 2455 = .ok (.ireturn, 1) := dk_172 (dk_at dksL_law_96 14 rfl rfl)
theorem dL_law_2456 : decode cL_law 2456 = .ok (.goto 198, 3) := dk_167 0 198 (dk_at dksL_law_96 15 rfl rfl)
theorem dL_law_2459 : decode cL_law 2459 = .ok (.aload_n 1, 1) := dk_43 (dk_at dksL_law_96 18 rfl rfl)
theorem dL_law_2460 : decode cL_law 2460 = .ok (.invokevirtual 287, 3) := dk_182 1 31 (dk_at dksL_law_96 19 rfl rfl)
theorem dL_law_2463 : decode cL_law 2463 = .ok (.aload_n 2, 1) := dk_44 (dk_at dksL_law_96 22 rfl rfl)
theorem dL_law_2464 : decode cL_law 2464 = .ok (.invokevirtual 290, 3) := dk_182 1 34 (dk_at dksL_law_97 0 rfl rfl)
theorem dL_law_2467 : decode cL_law 2467 = .ok (.if_icmp .eq 187, 3) := dk_159 0 187 (dk_at dksL_law_97 3 rfl rfl)
theorem dL_law_2470 : decode cL_law 2470 = .ok (.iconst 0, 1) := dk_3 (dk_at dksL_law_97 6 rfl rfl)
theorem dL_law_2471 : decode cL_law 2471 = .ok (.ireturn, 1) := dk_172 (dk_at dksL_law_97 7 rfl rfl)
theorem dL_law_2472 : decode cL_law 2472 = .ok (.aload_n 1, 1) := dk_43 (dk_at dksL_law_97 8 rfl rfl)
theorem dL_law_2473 : decode cL_law 2473 = .ok (.aload_n 3, 1) := dk_45 (dk_at dksL_law_97 9 rfl rfl)
theorem dL_law_2474 : decode cL_law 2474 = .ok (.invokestatic 291, 3) := dk_184 1 35 (dk_at dksL_law_97 10 rfl rfl)
theorem dL_law_2477 : decode cL_law 2477 = .ok (.istore 5, 2) := dk_54 5 (dk_at dksL_law_97 13 rfl rfl)
theorem dL_law_2479 : decode cL_law 2479 = .ok (.aload_n 2, 1) := dk_44 (dk_at dksL_law_97 15 rfl rfl)
theorem dL_law_2480 : decode cL_law 2480 = .ok (.invokevirtual 294, 3) := dk_182 1 38 (dk_at dksL_law_97 16 rfl rfl)
theorem dL_law_2483 : decode cL_law 2483 = .ok (.istore 6, 2) := dk_54 6 (dk_at dksL_law_97 19 rfl rfl)
theorem dL_law_2485 : decode cL_law 2485 = .ok (.aload_n 2, 1) := dk_44 (dk_at dksL_law_97 21 rfl rfl)
theorem dL_law_2486 : decode cL_law 2486 = .ok (.invokevirtual 164, 3) := dk_182 0 164 (dk_at dksL_law_98 0 rfl rfl)
theorem dL_law_2489 : decode cL_law 2489 = .ok (.iload 5, 2) := dk_21 5 (dk_at dksL_law_98 3 rfl rfl)
theorem dL_law_2491 : decode cL_law 2491 = .ok (.if_icmp .eq 5, 3) := dk_159 0 5 (dk_at dksL_law_98 5 rfl rfl)
theorem dL_law_2494 : decode cL_law 2494 = .ok (.iconst 0, 1) := dk_3 (dk_at dksL_law_98 8 rfl rfl)
theorem dL_law_2495 : decode cL_law 2495 = .ok (.ireturn, 1) := dk_172 (dk_at dksL_law_98 9 rfl rfl)
theorem dL_law_2496 : decode cL_law 2496 = .ok (.iload 5, 2) := dk_21 5 (dk_at dksL_law_98 10 rfl rfl)
theorem dL_law_2498 : decode cL_law 2498 = .ok (.ifCond .ne 15, 3) := dk_154 0 15 (dk_at dksL_law_98 12 rfl rfl)
theorem dL_law_2501 : decode cL_law 2501 = .ok (.aload_n 3, 1) := dk_45 (dk_at dksL_law_98 15 rfl rfl)
theorem dL_law_2502 : decode cL_law 2502 = .ok (.iconst 0, 1) := dk_3 (dk_at dksL_law_98 16 rfl rfl)
theorem dL_law_2503 : decode cL_law 2503 = .ok (.laload, 1) := dk_47 (dk_at dksL_law_98 17 rfl rfl)
theorem dL_law_2504 : decode cL_law 2504 = .ok (.iload 6, 2) := dk_21 6 (dk_at dksL_law_98 18 rfl rfl)
theorem dL_law_2506 : decode cL_law 2506 = .ok (.i2l, 1) := dk_133 (dk_at dksL_law_98 20 rfl rfl)
theorem dL_law_2507 : decode cL_law 2507 = .ok (.lcmp, 1) := dk_148 (dk_at dksL_law_98 21 rfl rfl)
theorem dL_law_2508 : decode cL_law 2508 = .ok (.ifCond .eq 5, 3) := dk_153 0 5 (dk_at dksL_law_99 0 rfl rfl)
theorem dL_law_2511 : decode cL_law 2511 = .ok (.iconst 0, 1) := dk_3 (dk_at dksL_law_99 3 rfl rfl)
theorem dL_law_2512 : decode cL_law 2512 = .ok (.ireturn, 1) := dk_172 (dk_at dksL_law_99 4 rfl rfl)
theorem dL_law_2513 : decode cL_law 2513 = .ok (.goto 141, 3) := dk_167 0 141 (dk_at dksL_law_99 5 rfl rfl)
theorem dL_law_2516 : decode cL_law 2516 = .ok (.aload_n 1, 1) := dk_43 (dk_at dksL_law_99 8 rfl rfl)
theorem dL_law_2517 : decode cL_law 2517 = .ok (.aload_n 0, 1) := dk_42 (dk_at dksL_law_99 9 rfl rfl)
theorem dL_law_2518 : decode cL_law 2518 = .ok (.iload 4, 2) := dk_21 4 (dk_at dksL_law_99 10 rfl rfl)
theorem dL_law_2520 : decode cL_law 2520 = .ok (.iconst 1, 1) := dk_4 (dk_at dksL_law_99 12 rfl rfl)
theorem dL_law_2521 : decode cL_law 2521 = .ok (.iadd, 1) := dk_96 (dk_at dksL_law_99 13 rfl rfl)
theorem dL_law_2522 : decode cL_law 2522 = .ok (.iaload, 1) := dk_46 (dk_at dksL_law_99 14 rfl rfl)
theorem dL_law_2523 : decode cL_law 2523 = .ok (.aload_n 3, 1) := dk_45 (dk_at dksL_law_99 15 rfl rfl)
theorem dL_law_2524 : decode cL_law 2524 = .ok (.invokestatic 295, 3) := dk_184 1 39 (dk_at dksL_law_99 16 rfl rfl)
theorem dL_law_2527 : decode cL_law 2527 = .ok (.istore 5, 2) := dk_54 5 (dk_at dksL_law_99 19 rfl rfl)
theorem dL_law_2529 : decode cL_law 2529 = .ok (.aload_n 2, 1) := dk_44 (dk_at dksL_law_99 21 rfl rfl)
theorem dL_law_2530 : decode cL_law 2530 = .ok (.aload_n 0, 1) := dk_42 (dk_at dksL_law_99 22 rfl rfl)
theorem dL_law_2531 : decode cL_law 2531 = .ok (.iload 4, 2) := dk_21 4 (dk_at dksL_law_100 0 rfl rfl)
theorem dL_law_2533 : decode cL_law 2533 = .ok (.iconst 1, 1) := dk_4 (dk_at dksL_law_100 2 rfl rfl)
theorem dL_law_2534 : decode cL_law 2534 = .ok (.iadd, 1) := dk_96 (dk_at dksL_law_100 3 rfl rfl)
theorem dL_law_2535 : decode cL_law 2535 = .ok (.iaload, 1) := dk_46 (dk_at dksL_law_100 4 rfl rfl)
theorem dL_law_2536 : decode cL_law 2536 = .ok (.invokevirtual 297, 3) := dk_182 1 41 (dk_at dksL_law_100 5 rfl rfl)
theorem dL_law_2539 : decode cL_law 2539 = .ok (.istore 6, 2) := dk_54 6 (dk_at dksL_law_100 8 rfl rfl)
theorem dL_law_2541 : decode cL_law 2541 = .ok (.aload_n 2, 1) := dk_44 (dk_at dksL_law_100 10 rfl rfl)
theorem dL_law_2542 : decode cL_law 2542 = .ok (.invokevirtual 164, 3) := dk_182 0 164 (dk_at dksL_law_100 11 rfl rfl)
theorem dL_law_2545 : decode cL_law 2545 = .ok (.iload 5, 2) := dk_21 5 (dk_at dksL_law_100 14 rfl rfl)
theorem dL_law_2547 : decode cL_law 2547 = .ok (.if_icmp .eq 5, 3) := dk_159 0 5 (dk_at dksL_law_100 16 rfl rfl)
theorem dL_law_2550 : decode cL_law 2550 = .ok (.iconst 0, 1) := dk_3 (dk_at dksL_law_100 19 rfl rfl)
theorem dL_law_2551 : decode cL_law 2551 = .ok (.ireturn, 1) := dk_172 (dk_at dksL_law_100 20 rfl rfl)
theorem dL_law_2552 : decode cL_law 2552 = .ok (.iload 5, 2) := dk_21 5 (dk_at dksL_law_100 21 rfl rfl)
theorem dL_law_2554 : decode cL_law 2554 = .ok (.ifCond .ne 15, 3) := dk_154 0 15 (dk_at dksL_law_101 0 rfl rfl)
theorem dL_law_2557 : decode cL_law 2557 = .ok (.aload_n 3, 1) := dk_45 (dk_at dksL_law_101 3 rfl rfl)
theorem dL_law_2558 : decode cL_law 2558 = .ok (.iconst 0, 1) := dk_3 (dk_at dksL_law_101 4 rfl rfl)
theorem dL_law_2559 : decode cL_law 2559 = .ok (.laload, 1) := dk_47 (dk_at dksL_law_101 5 rfl rfl)
theorem dL_law_2560 : decode cL_law 2560 = .ok (.iload 6, 2) := dk_21 6 (dk_at dksL_law_101 6 rfl rfl)
theorem dL_law_2562 : decode cL_law 2562 = .ok (.i2l, 1) := dk_133 (dk_at dksL_law_101 8 rfl rfl)
theorem dL_law_2563 : decode cL_law 2563 = .ok (.lcmp, 1) := dk_148 (dk_at dksL_law_101 9 rfl rfl)
theorem dL_law_2564 : decode cL_law 2564 = .ok (.ifCond .eq 5, 3) := dk_153 0 5 (dk_at dksL_law_101 10 rfl rfl)
theorem dL_law_2567 : decode cL_law 2567 = .ok (.iconst 0, 1) := dk_3 (dk_at dksL_law_101 13 rfl rfl)
theorem dL_law_2568 : decode cL_law 2568 = .ok (.ireturn, 1) := dk_172 (dk_at dksL_law_101 14 rfl rfl)
theorem dL_law_2569 : decode cL_law 2569 = .ok (.goto 85, 3) := dk_167 0 85 (dk_at dksL_law_101 15 rfl rfl)
theorem dL_law_2572 : decode cL_law 2572 = .ok (.aload_n 1, 1) := dk_43 (dk_at dksL_law_101 18 rfl rfl)
theorem dL_law_2573 : decode cL_law 2573 = .ok (.aload_n 0, 1) := dk_42 (dk_at dksL_law_101 19 rfl rfl)
theorem dL_law_2574 : decode cL_law 2574 = .ok (.iload 4, 2) := dk_21 4 (dk_at dksL_law_101 20 rfl rfl)
theorem dL_law_2576 : decode cL_law 2576 = .ok (.iconst 1, 1) := dk_4 (dk_at dksL_law_101 22 rfl rfl)
theorem dL_law_2577 : decode cL_law 2577 = .ok (.iadd, 1) := dk_96 (dk_at dksL_law_101 23 rfl rfl)
theorem dL_law_2578 : decode cL_law 2578 = .ok (.iaload, 1) := dk_46 (dk_at dksL_law_102 0 rfl rfl)
theorem dL_law_2579 : decode cL_law 2579 = .ok (.invokevirtual 298, 3) := dk_182 1 42 (dk_at dksL_law_102 1 rfl rfl)
theorem dL_law_2582 : decode cL_law 2582 = .ok (.aload_n 2, 1) := dk_44 (dk_at dksL_law_102 4 rfl rfl)
theorem dL_law_2583 : decode cL_law 2583 = .ok (.aload_n 0, 1) := dk_42 (dk_at dksL_law_102 5 rfl rfl)
theorem dL_law_2584 : decode cL_law 2584 = .ok (.iload 4, 2) := dk_21 4 (dk_at dksL_law_102 6 rfl rfl)
theorem dL_law_2586 : decode cL_law 2586 = .ok (.iconst 1, 1) := dk_4 (dk_at dksL_law_102 8 rfl rfl)
theorem dL_law_2587 : decode cL_law 2587 = .ok (.iadd, 1) := dk_96 (dk_at dksL_law_102 9 rfl rfl)
theorem dL_law_2588 : decode cL_law 2588 = .ok (.iaload, 1) := dk_46 (dk_at dksL_law_102 10 rfl rfl)
theorem dL_law_2589 : decode cL_law 2589 = .ok (.invokevirtual 301, 3) := dk_182 1 45 (dk_at dksL_law_102 11 rfl rfl)
theorem dL_law_2592 : decode cL_law 2592 = .ok (.if_icmp .eq 62, 3) := dk_159 0 62 (dk_at dksL_law_102 14 rfl rfl)
theorem dL_law_2595 : decode cL_law 2595 = .ok (.iconst 0, 1) := dk_3 (dk_at dksL_law_102 17 rfl rfl)
theorem dL_law_2596 : decode cL_law 2596 = .ok (.ireturn, 1) := dk_172 (dk_at dksL_law_102 18 rfl rfl)
theorem dL_law_2597 : decode cL_law 2597 = .ok (.aload_n 1, 1) := dk_43 (dk_at dksL_law_102 19 rfl rfl)
theorem dL_law_2598 : decode cL_law 2598 = .ok (.invokevirtual 302, 3) := dk_182 1 46 (dk_at dksL_law_102 20 rfl rfl)
theorem dL_law_2601 : decode cL_law 2601 = .ok (.aload_n 2, 1) := dk_44 (dk_at dksL_law_102 23 rfl rfl)
theorem dL_law_2602 : decode cL_law 2602 = .ok (.invokevirtual 305, 3) := dk_182 1 49 (dk_at dksL_law_103 0 rfl rfl)
theorem dL_law_2605 : decode cL_law 2605 = .ok (.if_icmp .eq 49, 3) := dk_159 0 49 (dk_at dksL_law_103 3 rfl rfl)
theorem dL_law_2608 : decode cL_law 2608 = .ok (.iconst 0, 1) := dk_3 (dk_at dksL_law_103 6 rfl rfl)
theorem dL_law_2609 : decode cL_law 2609 = .ok (.ireturn, 1) := dk_172 (dk_at dksL_law_103 7 rfl rfl)
theorem dL_law_2610 : decode cL_law 2610 = .ok (.aload_n 1, 1) := dk_43 (dk_at dksL_law_103 8 rfl rfl)
theorem dL_law_2611 : decode cL_law 2611 = .ok (.aload_n 3, 1) := dk_45 (dk_at dksL_law_103 9 rfl rfl)
theorem dL_law_2612 : decode cL_law 2612 = .ok (.invokestatic 306, 3) := dk_184 1 50 (dk_at dksL_law_103 10 rfl rfl)
theorem dL_law_2615 : decode cL_law 2615 = .ok (.istore 5, 2) := dk_54 5 (dk_at dksL_law_103 13 rfl rfl)
theorem dL_law_2617 : decode cL_law 2617 = .ok (.aload_n 2, 1) := dk_44 (dk_at dksL_law_103 15 rfl rfl)
theorem dL_law_2618 : decode cL_law 2618 = .ok (.invokevirtual 308, 3) := dk_182 1 52 (dk_at dksL_law_103 16 rfl rfl)
theorem dL_law_2621 : decode cL_law 2621 = .ok (.istore 6, 2) := dk_54 6 (dk_at dksL_law_103 19 rfl rfl)
theorem dL_law_2623 : decode cL_law 2623 = .ok (.aload_n 2, 1) := dk_44 (dk_at dksL_law_103 21 rfl rfl)
theorem dL_law_2624 : decode cL_law 2624 = .ok (.invokevirtual 164, 3) := dk_182 0 164 (dk_at dksL_law_104 0 rfl rfl)
theorem dL_law_2627 : decode cL_law 2627 = .ok (.iload 5, 2) := dk_21 5 (dk_at dksL_law_104 3 rfl rfl)
theorem dL_law_2629 : decode cL_law 2629 = .ok (.if_icmp .eq 5, 3) := dk_159 0 5 (dk_at dksL_law_104 5 rfl rfl)
theorem dL_law_2632 : decode cL_law 2632 = .ok (.iconst 0, 1) := dk_3 (dk_at dksL_law_104 8 rfl rfl)
theorem dL_law_2633 : decode cL_law 2633 = .ok (.ireturn, 1) := dk_172 (dk_at dksL_law_104 9 rfl rfl)
theorem dL_law_2634 : decode cL_law 2634 = .ok (.iload 5, 2) := dk_21 5 (dk_at dksL_law_104 10 rfl rfl)
theorem dL_law_2636 : decode cL_law 2636 = .ok (.ifCond .ne 15, 3) := dk_154 0 15 (dk_at dksL_law_104 12 rfl rfl)
theorem dL_law_2639 : decode cL_law 2639 = .ok (.aload_n 3, 1) := dk_45 (dk_at dksL_law_104 15 rfl rfl)
theorem dL_law_2640 : decode cL_law 2640 = .ok (.iconst 0, 1) := dk_3 (dk_at dksL_law_104 16 rfl rfl)
theorem dL_law_2641 : decode cL_law 2641 = .ok (.laload, 1) := dk_47 (dk_at dksL_law_104 17 rfl rfl)
theorem dL_law_2642 : decode cL_law 2642 = .ok (.iload 6, 2) := dk_21 6 (dk_at dksL_law_104 18 rfl rfl)
theorem dL_law_2644 : decode cL_law 2644 = .ok (.i2l, 1) := dk_133 (dk_at dksL_law_104 20 rfl rfl)
theorem dL_law_2645 : decode cL_law 2645 = .ok (.lcmp, 1) := dk_148 (dk_at dksL_law_104 21 rfl rfl)
theorem dL_law_2646 : decode cL_law 2646 = .ok (.ifCond .eq 5, 3) := dk_153 0 5 (dk_at dksL_law_105 0 rfl rfl)
theorem dL_law_2649 : decode cL_law 2649 = .ok (.iconst 0, 1) := dk_3 (dk_at dksL_law_105 3 rfl rfl)
theorem dL_law_2650 : decode cL_law 2650 = .ok (.ireturn, 1) := dk_172 (dk_at dksL_law_105 4 rfl rfl)
theorem dL_law_2651 : decode cL_law 2651 = .ok (.goto 3, 3) := dk_167 0 3 (dk_at dksL_law_105 5 rfl rfl)
theorem dL_law_2654 : decode cL_law 2654 = .ok (.iinc 4 6, 3) := dk_132 4 6 (dk_at dksL_law_105 8 rfl rfl)
theorem dL_law_2657 : decode cL_law 2657 = .ok (.goto (-2634), 3) := dk_167 245 182 (dk_at dksL_law_105 11 rfl rfl)
theorem dL_law_2660 : decode cL_law 2660 = .ok (.iconst 1, 1) := dk_4 (dk_at dksL_law_105 14 rfl rfl)
theorem dL_law_2661 : decode cL_law 2661 = .ok (.ireturn, 1) := dk_172 (dk_at dksL_law_105 15 rfl rfl)
